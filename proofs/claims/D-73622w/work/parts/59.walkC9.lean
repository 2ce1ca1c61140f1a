section ZWalk
variable {p : Program} {l : Launch} {e : Env} {R : Room} {s : State} {m : MethodId} {args : Array Value} {below : List Frame} {meth : Method} {c : Code} {Q : State → Prop} {nL : Nat} {D : ZD} {A : Nat → Prop} {al : Bool} {n0 : Nat × Nat × Nat} {cc : ByteArray} {nm : String} {ret : Option FieldType} {sz mc ms fr lo : Nat}
variable {P : ZM → Prop} {pc : Nat} {L : List (Nat × Value)} {st : List Value}
theorem pfX22_3 (F : ZF p R s m args meth c cc nL "SafeBuckets$Lease" "<init>" ret D A al sz mc ms fr lo) {z : Nat} {u : Nat} (hdg : decode cc pc = .ok (.putfield 3, 3)) (k : ZW p l e R s m args below meth c Q nL D A al n0 P (pc + 3) L st) : ZW p l e R s m args below meth c Q nL D A al n0 (zpR 17 z 1 u P) pc L (zv u :: zv z :: st) :=
  Z.putRF F (ref := "SafeBuckets$Lease") in_X22 (ci := 16) rfl (by decide) (kf := 1) (by decide) q1240 (fun _ h => h) tyX22 tyX22_ok nmX22 rfl rfl rfl (ty := .object _) (fun u => zv_nar u) (fun u => zv_fit u) rfl rfl hdg k
theorem pfX22_15 (F : ZF p R s m args meth c cc nL "SafeBuckets$Lease" "<init>" ret D A al sz mc ms fr lo) {z : Nat} {u : Int32} (hdg : decode cc pc = .ok (.putfield 15, 3)) (k : ZW p l e R s m args below meth c Q nL D A al n0 P (pc + 3) L st) : ZW p l e R s m args below meth c Q nL D A al n0 (zpI 17 z 0 u P) pc L (.int u :: zv z :: st) :=
  Z.putIF F (ref := "SafeBuckets$Lease") in_X22 (ci := 16) rfl (by decide) (kf := 0) (by decide) q1239 (fun _ h => h) tyX22 tyX22_ok nmX22 rfl rfl rfl rfl rfl hdg k
theorem clX22_19 (F : ZF p R s m args meth c cc nL "SafeBuckets$Lease" nm ret D A al sz mc ms fr lo) {h0 : Nat} {x1 : Int32} {K : ZM → Prop} (hR : 0 + 1 ≤ fr ∧ 8 + (2 + 11) + 0 ≤ lo) (hst4 : zlw st) (hdg : decode cc pc = .ok (.invokevirtual 19, 3)) (k : ZW p l e R s m args below meth c Q nL D A al n0 K (pc + 3) L st) : ZW p l e R s m args below meth c Q nL D A al n0 (zat 1 h0 (f_X1_traces h0 x1 K)) pc L (.int x1 :: zv h0 :: st) :=
  Z.rv0 _ (fun μ H locs cells slots ls hI h hP => Z.VN0 F hI (n := 1) (ci := 0) rfl (by decide) hP.1 hP.2 (k_X1_traces l h0 x1 D A (zX μ, zC μ, zS μ) H.size K μ) (List.mem_of_getElem? (i := 6) rfl) q1237 qs34 q116 q1238 (by decide +kernel) rfl h.1 hst4 hR rfl hdg) k
set_option maxHeartbeats 4000000 in
theorem k_X22_init (l : Launch) (h0 : Nat) (h1 : Nat) (x2 : Int32) : ZCv l yX22_init (ws_ yX22_init cX22_init 3 none) 1 21 0 0 false [zv h0, zv h1, .int x2] (f_X22_init h0 h1 x2) := by
  refine Z.metV (by decide +kernel) (fun h => ⟨rfl, rfl⟩) (L0 := [(0, zv h0), (1, zv h1), (2, .int x2)]) (by first | (rw [zla_v, zla_v, zla_i, zla_0]; done) | (rw [zla_v, zla_v, zla_i, zla_0]; rfl)) (by rw [zsl_v, zsl_v, zsl_i, zsl_0]; exact Nat.le_of_ble_eq_true rfl) ?_
  intro p e R s m args below meth c D A n0 sz k F
  have F : ZF p R s m args meth c cX22_init 3 "SafeBuckets$Lease" "<init>" none D A false sz 0 0 1 21 := F
  unfold f_X22_init
  refine Z.aload_n F 0 rfl dX22_init_0 ?_
  refine Z.aload_n F 1 rfl dX22_init_1 ?_
  refine pfX22_3 F dX22_init_2 ?_
  refine Z.aload_n F 0 rfl dX22_init_5 ?_
  refine Z.objI F q1234 (Nat.le_of_ble_eq_true rfl) (Nat.le_of_ble_eq_true rfl) (zlw4 (Nat.le_of_ble_eq_true rfl)) dX22_init_6 ?_
  refine Z.aload_n F 0 rfl dX22_init_9 ?_
  refine Z.iload_n F 2 rfl dX22_init_10 ?_
  refine pfX22_15 F dX22_init_11 ?_
  refine Z.aload_n F 1 rfl dX22_init_14 ?_
  refine Z.iload_n F 2 rfl dX22_init_15 ?_
  refine clX22_19 F ⟨Nat.le_of_ble_eq_true rfl, Nat.le_of_ble_eq_true rfl⟩ (zlw4 (Nat.le_of_ble_eq_true rfl)) dX22_init_16 ?_
  exact Z.vret F dX22_init_19
theorem gfX22_3 (F : ZF p R s m args meth c cc nL "SafeBuckets$Lease" nm ret D A al sz mc ms fr lo) {z : Nat} {K : Nat → ZM → Prop} (hdg : decode cc pc = .ok (.getfield 3, 3)) (k : ∀ u, ZW p l e R s m args below meth c Q nL D A al n0 (K u) (pc + 3) L (zv u :: st)) : ZW p l e R s m args below meth c Q nL D A al n0 (zgR 17 z 1 K) pc L (zv z :: st) :=
  Z.getR F (ref := "SafeBuckets$Lease") in_X22 (ci := 16) rfl (by decide) (kf := 1) (by decide) q1240 (fun _ h => h) rfl hdg k
theorem gfX22_23 (F : ZF p R s m args meth c cc nL "SafeBuckets$Lease" nm ret D A al sz mc ms fr lo) {z : Nat} {K : Nat → ZM → Prop} (hdg : decode cc pc = .ok (.getfield 23, 3)) (k : ∀ u, ZW p l e R s m args below meth c Q nL D A al n0 (K u) (pc + 3) L (zv u :: st)) : ZW p l e R s m args below meth c Q nL D A al n0 (zgR 1 z 15 K) pc L (zv z :: st) :=
  Z.getRN F (ref := "SafeBuckets") in_X1 (ci := 0) rfl (by decide) (kf := 15) (by decide) (host := "SafeBuckets") (List.mem_of_getElem? (i := 18) rfl) (fun _ h => h) rfl hdg k
theorem gfX22_27 (F : ZF p R s m args meth c cc nL "SafeBuckets$Lease" nm ret D A al sz mc ms fr lo) {z : Nat} {K : Nat → ZM → Prop} (hdg : decode cc pc = .ok (.getfield 27, 3)) (k : ∀ u, ZW p l e R s m args below meth c Q nL D A al n0 (K u) (pc + 3) L (zv u :: st)) : ZW p l e R s m args below meth c Q nL D A al n0 (zgR 2 z 0 K) pc L (zv z :: st) :=
  Z.getRN F (ref := "SafeBuckets$State") in_X2 (ci := 1) rfl (by decide) (kf := 0) (by decide) (host := "SafeBuckets") (List.mem_of_getElem? (i := 19) rfl) (fun _ h => h) rfl hdg k
theorem gfX22_15 (F : ZF p R s m args meth c cc nL "SafeBuckets$Lease" nm ret D A al sz mc ms fr lo) {z : Nat} {K : Int32 → ZM → Prop} (hdg : decode cc pc = .ok (.getfield 15, 3)) (k : ∀ u, ZW p l e R s m args below meth c Q nL D A al n0 (K u) (pc + 3) L (.int u :: st)) : ZW p l e R s m args below meth c Q nL D A al n0 (zgI 17 z 0 K) pc L (zv z :: st) :=
  Z.getI F (ref := "SafeBuckets$Lease") in_X22 (ci := 16) rfl (by decide) (kf := 0) (by decide) q1239 (fun _ h => h) rfl hdg k
set_option maxHeartbeats 4000000 in
theorem k_X22_sheet (l : Launch) (h0 : Nat) : ZCr' l yX22_sheet (ws_ yX22_sheet cX22_sheet 1 (some (.object "SafeBuckets$Sheet"))) 0 0 0 0 false [zv h0] (f_X22_sheet h0) := by
  refine Z.metQ (by decide +kernel) (fun h => ⟨rfl, rfl⟩) (L0 := [(0, zv h0)]) (by first | (rw [zla_v, zla_0]; done) | (rw [zla_v, zla_0]; rfl)) (by rw [zsl_v, zsl_0]; exact Nat.le_of_ble_eq_true rfl) ?_
  intro p e R s m args below meth c D A n0 sz k F
  have F : ZF p R s m args meth c cX22_sheet 1 "SafeBuckets$Lease" "sheet" (some (.object "SafeBuckets$Sheet")) D A false sz 0 0 0 0 := F
  unfold f_X22_sheet
  refine Z.aload_n F 0 rfl dX22_sheet_0 ?_
  refine gfX22_3 F dX22_sheet_1 (fun g1 => ?_)
  refine gfX22_23 F dX22_sheet_4 (fun g4 => ?_)
  refine gfX22_27 F dX22_sheet_7 (fun g7 => ?_)
  refine Z.aload_n F 0 rfl dX22_sheet_10 ?_
  refine gfX22_15 F dX22_sheet_11 (fun g11 => ?_)
  refine Z.aald F (t := 6) (by decide) rfl rfl dX22_sheet_14 (fun g14 => ?_)
  exact Z.aret F (Or.inl ⟨_, rfl⟩) dX22_sheet_15
theorem gfX1_352 (F : ZF p R s m args meth c cc nL "SafeBuckets" nm ret D A al sz mc ms fr lo) {z : Nat} {K : Int32 → ZM → Prop} (hdg : decode cc pc = .ok (.getfield 352, 3)) (k : ∀ u, ZW p l e R s m args below meth c Q nL D A al n0 (K u) (pc + 3) L (.int u :: st)) : ZW p l e R s m args below meth c Q nL D A al n0 (zgI 1 z 25 K) pc L (zv z :: st) :=
  Z.getI F (ref := "SafeBuckets") in_X1 (ci := 0) rfl (by decide) (kf := 25) (by decide) q414 (fun _ h => h) rfl hdg k
theorem gfX1_80 (F : ZF p R s m args meth c cc nL "SafeBuckets" nm ret D A al sz mc ms fr lo) {z : Nat} {K : Nat → ZM → Prop} (hdg : decode cc pc = .ok (.getfield 80, 3)) (k : ∀ u, ZW p l e R s m args below meth c Q nL D A al n0 (K u) (pc + 3) L (zv u :: st)) : ZW p l e R s m args below meth c Q nL D A al n0 (zgR 1 z 22 K) pc L (zv z :: st) :=
  Z.getR F (ref := "SafeBuckets") in_X1 (ci := 0) rfl (by decide) (kf := 22) (by decide) q411 (fun _ h => h) rfl hdg k
set_option maxHeartbeats 4000000 in
theorem k_X1_goes (l : Launch) (h0 : Nat) : ZCvx l yX1_goes (ws_ yX1_goes cX1_goes 1 none) 0 0 0 0 false "SafeBuckets$TooLong" [zv h0] (fun k kx => f_X1_goes h0 kx k) := by
  refine Z.metVx (by decide +kernel) (fun h => ⟨rfl, rfl⟩) (L0 := [(0, zv h0)]) (by first | (rw [zla_v, zla_0]; done) | (rw [zla_v, zla_0]; rfl)) (by rw [zsl_v, zsl_0]; exact Nat.le_of_ble_eq_true rfl) ?_
  intro p e R s m args below meth c D A n0 sz k kx F htb
  have F : ZF p R s m args meth c cX1_goes 1 "SafeBuckets" "goes" none D A false sz 0 0 0 0 := F
  show ZW p l e R s m args below meth c _ _ D A _ _ (f_X1_goes h0 kx k) _ _ _
  unfold f_X1_goes
  refine Z.aload_n F 0 rfl dX1_goes_0 ?_
  refine gfX1_352 F dX1_goes_1 (fun g1 => ?_)
  refine Z.aload_n F 0 rfl dX1_goes_4 ?_
  refine gfX1_59 F dX1_goes_5 (fun g5 => ?_)
  refine gfX1_204 F dX1_goes_8 (fun g8 => ?_)
  refine Z.icmp_ne F (tgt := 19) dX1_goes_11 (by decide) ?_ ?_
  · refine Z.aload_n F 0 rfl dX1_goes_19 ?_
    refine Z.dup F dX1_goes_20 ?_
    refine gfX1_352 F dX1_goes_21 (fun g21 => ?_)
    refine Z.iconst F (v := (1 : Int32)) (by decide) dX1_goes_24 ?_
    refine Z.iadd F dX1_goes_25 ?_
    refine pfX1_352 F dX1_goes_26 ?_
    exact Z.retx (Z.vret F dX1_goes_29)
  refine Z.aload_n F 0 rfl dX1_goes_14 ?_
  refine gfX1_80 F dX1_goes_15 (fun g15 => ?_)
  exact Z.athrow F (ci := 5) rfl (by decide) dX1_goes_18 (Z.out F (by rw [htb]; exact fun _ h => by cases h))
set_option maxHeartbeats 4000000 in
theorem k_X21_holds (l : Launch) (h0 : Nat) (x1 : Int32) (x2 : Int32) : ZCi l yX21_holds (ws_ yX21_holds cX21_holds 3 (some .boolean)) 1 22 0 0 false [zv h0, .int x1, .int x2] (f_X21_holds h0 x1 x2) := by
  refine Z.metZ (by decide +kernel) (fun h => ⟨rfl, rfl⟩) (L0 := [(0, zv h0), (1, .int x1), (2, .int x2)]) (by first | (rw [zla_v, zla_i, zla_i, zla_0]; done) | (rw [zla_v, zla_i, zla_i, zla_0]; rfl)) (by rw [zsl_v, zsl_i, zsl_i, zsl_0]; exact Nat.le_of_ble_eq_true rfl) ?_
  intro p e R s m args below meth c D A n0 sz k F
  have F : ZF p R s m args meth c cX21_holds 3 "SafeBuckets$Unit" "holds" (some .boolean) D A false sz 0 0 1 22 := F
  unfold f_X21_holds
  refine Z.aload_n F 0 rfl dX21_holds_0 ?_
  refine gfX21_15 F dX21_holds_1 (fun g1 => ?_)
  refine Z.aload_n F 0 rfl dX21_holds_4 ?_
  refine gfX21_9 F dX21_holds_5 (fun g5 => ?_)
  refine Z.jn1 (J := _) (fun p16s1 => [(0, zv h0)]) (fun p16s1 => [.int p16s1, zv g1]) 16 (fun p16s1 => ?_) (fun j16 hj16 => ?_)
  · refine Z.aload_n F 0 rfl dX21_holds_16 ?_
    refine gfX21_19 F dX21_holds_17 (fun g17 => ?_)
    refine Z.jn1 (J := _) (fun r20 => [(0, zv h0)]) (fun r20 => [.int r20]) 23 (fun r20 => ?_) (fun j20r hj20r => ?_)
    · exact Z.zret F dX21_holds_23
    exact Z.or (sgX21_25_0 F ⟨Nat.le_of_ble_eq_true rfl, Nat.le_of_ble_eq_true rfl⟩ (zlw4 (Nat.le_of_ble_eq_true rfl)) dX21_holds_20 hj20r) (Z.or (sgX21_25_1 F ⟨Nat.le_of_ble_eq_true rfl, Nat.le_of_ble_eq_true rfl⟩ (zlw4 (Nat.le_of_ble_eq_true rfl)) dX21_holds_20 hj20r) (Z.or (sgX21_25_2 F ⟨Nat.le_of_ble_eq_true rfl, Nat.le_of_ble_eq_true rfl⟩ (zlw4 (Nat.le_of_ble_eq_true rfl)) dX21_holds_20 hj20r) (sgX21_25_3 F ⟨Nat.le_of_ble_eq_true rfl, Nat.le_of_ble_eq_true rfl⟩ (zlw4 (Nat.le_of_ble_eq_true rfl)) dX21_holds_20 hj20r)))
  refine Z.if_ne F (tgt := 15) dX21_holds_8 (by decide) ?_ ?_
  · refine Z.iload_n F 2 rfl dX21_holds_15 ?_
    exact Z.sub [0] rfl (hj16 x2)
  refine Z.iload_n F 1 rfl dX21_holds_11 ?_
  refine Z.goto F (tgt := 16) dX21_holds_12 (by decide) ?_
  exact Z.sub [0] rfl (hj16 x1)
theorem clX19_21 (F : ZF p R s m args meth c cc nL "SafeBuckets$Term" nm ret D A al sz mc ms fr lo) {h0 : Nat} {x1 : Int32} {x2 : Int32} {K : Int32 → ZM → Prop} (hR : 1 + 1 ≤ fr ∧ 8 + (3 + 11) + 22 ≤ lo) (hst4 : zlw st) (hdg : decode cc pc = .ok (.invokevirtual 21, 3)) (k : ∀ r, ZW p l e R s m args below meth c Q nL D A al n0 (K r) (pc + 3) L (.int r :: st)) : ZW p l e R s m args below meth c Q nL D A al n0 (zat 16 h0 (f_X21_holds h0 x1 x2 K)) pc L (.int x2 :: .int x1 :: zv h0 :: st) :=
  Z.ri0 _ (fun μ H locs cells slots ls hI h hP => Z.V0 F hI (n := 2) (ci := 15) rfl (by decide) hP.1 hP.2 (k_X21_holds l h0 x1 x2 D A (zX μ, zC μ, zS μ) H.size K μ) q1262 q1263 q1264 q145 q1265 (by decide +kernel) rfl h.1 hst4 hR rfl hdg) k
set_option maxHeartbeats 4000000 in
theorem k_X19_holds (l : Launch) (h0 : Nat) (x1 : Int32) (x2 : Int32) : ZCi l yX19_holds (ws_ yX19_holds cX19_holds 4 (some .boolean)) 2 44 0 0 false [zv h0, .int x1, .int x2] (f_X19_holds h0 x1 x2) := by
  refine Z.metZ (by decide +kernel) (fun h => ⟨rfl, rfl⟩) (L0 := [(0, zv h0), (1, .int x1), (2, .int x2)]) (by first | (rw [zla_v, zla_i, zla_i, zla_0]; done) | (rw [zla_v, zla_i, zla_i, zla_0]; rfl)) (by rw [zsl_v, zsl_i, zsl_i, zsl_0]; exact Nat.le_of_ble_eq_true rfl) ?_
  intro p e R s m args below meth c D A n0 sz k F
  have F : ZF p R s m args meth c cX19_holds 4 "SafeBuckets$Term" "holds" (some .boolean) D A false sz 0 0 2 44 := F
  unfold f_X19_holds
  refine Z.iconst F (v := (0 : Int32)) (by decide) dX19_holds_0 ?_
  refine Z.istore_n F (L0 := [(0, zv h0), (1, .int x1), (2, .int x2)]) [0, 1, 2] rfl (zkR rfl (zkI rfl (zkI rfl zkN))) (by decide) dX19_holds_1 ?_
  refine Z.sub [1, 2, 3, 0] rfl ?_
  refine Z.w1 (Lf := fun p2l3 => [(0, zv h0), (1, .int x1), (2, .int x2), (3, .int p2l3)]) (sf := fun p2l3 => []) (fun r2 hr2 p2l3 => ?_) (0 : Int32)
  refine Z.iload_n F 3 rfl dX19_holds_2 ?_
  refine Z.aload_n F 0 rfl dX19_holds_3 ?_
  refine gfX19_17 F dX19_holds_4 (fun g4 => ?_)
  refine Z.icmp_ge F (tgt := 32) dX19_holds_7 (by decide) ?_ ?_
  · refine Z.iconst F (v := (1 : Int32)) (by decide) dX19_holds_32 ?_
    exact Z.zret F dX19_holds_33
  refine Z.aload_n F 0 rfl dX19_holds_10 ?_
  refine gfX19_11 F dX19_holds_11 (fun g11 => ?_)
  refine Z.iload_n F 3 rfl dX19_holds_14 ?_
  refine Z.aald F (t := 13) (by decide) rfl rfl dX19_holds_15 (fun g15 => ?_)
  refine Z.iload_n F 1 rfl dX19_holds_16 ?_
  refine Z.iload_n F 2 rfl dX19_holds_17 ?_
  refine clX19_21 F ⟨Nat.le_of_ble_eq_true rfl, Nat.le_of_ble_eq_true rfl⟩ (zlw4 (Nat.le_of_ble_eq_true rfl)) dX19_holds_18 (fun r18 => ?_)
  refine Z.if_ne F (tgt := 26) dX19_holds_21 (by decide) ?_ ?_
  · refine Z.iinc F (L0 := [(0, zv h0), (1, .int x1), (2, .int x2)]) (k0 := 3) (v := (1 : Int32)) rfl (by decide) [0, 1, 2] rfl (zkR rfl (zkI rfl (zkI rfl zkN))) (by decide) dX19_holds_26 ?_
    refine Z.goto F (tgt := 2) dX19_holds_29 (by decide) ?_
    exact Z.sub [1, 2, 3, 0] rfl (hr2 (p2l3 + (1 : Int32)))
  refine Z.iconst F (v := (0 : Int32)) (by decide) dX19_holds_24 ?_
  exact Z.zret F dX19_holds_25
theorem clX18_21 (F : ZF p R s m args meth c cc nL "SafeBuckets$Where" nm ret D A al sz mc ms fr lo) {h0 : Nat} {x1 : Int32} {x2 : Int32} {K : Int32 → ZM → Prop} (hR : 2 + 1 ≤ fr ∧ 8 + (4 + 11) + 44 ≤ lo) (hst4 : zlw st) (hdg : decode cc pc = .ok (.invokevirtual 21, 3)) (k : ∀ r, ZW p l e R s m args below meth c Q nL D A al n0 (K r) (pc + 3) L (.int r :: st)) : ZW p l e R s m args below meth c Q nL D A al n0 (zat 15 h0 (f_X19_holds h0 x1 x2 K)) pc L (.int x2 :: .int x1 :: zv h0 :: st) :=
  Z.ri0 _ (fun μ H locs cells slots ls hI h hP => Z.V0 F hI (n := 2) (ci := 14) rfl (by decide) hP.1 hP.2 (k_X19_holds l h0 x1 x2 D A (zX μ, zC μ, zS μ) H.size K μ) q1258 q1259 q1260 q142 q1261 (by decide +kernel) rfl h.1 hst4 hR rfl hdg) k
set_option maxHeartbeats 4000000 in
theorem k_X18_holds (l : Launch) (h0 : Nat) (x1 : Int32) (x2 : Int32) : ZCi l yX18_holds (ws_ yX18_holds cX18_holds 4 (some .boolean)) 3 67 0 0 false [zv h0, .int x1, .int x2] (f_X18_holds h0 x1 x2) := by
  refine Z.metZ (by decide +kernel) (fun h => ⟨rfl, rfl⟩) (L0 := [(0, zv h0), (1, .int x1), (2, .int x2)]) (by first | (rw [zla_v, zla_i, zla_i, zla_0]; done) | (rw [zla_v, zla_i, zla_i, zla_0]; rfl)) (by rw [zsl_v, zsl_i, zsl_i, zsl_0]; exact Nat.le_of_ble_eq_true rfl) ?_
  intro p e R s m args below meth c D A n0 sz k F
  have F : ZF p R s m args meth c cX18_holds 4 "SafeBuckets$Where" "holds" (some .boolean) D A false sz 0 0 3 67 := F
  unfold f_X18_holds
  refine Z.iconst F (v := (0 : Int32)) (by decide) dX18_holds_0 ?_
  refine Z.istore_n F (L0 := [(0, zv h0), (1, .int x1), (2, .int x2)]) [0, 1, 2] rfl (zkR rfl (zkI rfl (zkI rfl zkN))) (by decide) dX18_holds_1 ?_
  refine Z.sub [1, 2, 3, 0] rfl ?_
  refine Z.w1 (Lf := fun p2l3 => [(0, zv h0), (1, .int x1), (2, .int x2), (3, .int p2l3)]) (sf := fun p2l3 => []) (fun r2 hr2 p2l3 => ?_) (0 : Int32)
  refine Z.iload_n F 3 rfl dX18_holds_2 ?_
  refine Z.aload_n F 0 rfl dX18_holds_3 ?_
  refine gfX18_17 F dX18_holds_4 (fun g4 => ?_)
  refine Z.icmp_ge F (tgt := 32) dX18_holds_7 (by decide) ?_ ?_
  · refine Z.iconst F (v := (0 : Int32)) (by decide) dX18_holds_32 ?_
    exact Z.zret F dX18_holds_33
  refine Z.aload_n F 0 rfl dX18_holds_10 ?_
  refine gfX18_11 F dX18_holds_11 (fun g11 => ?_)
  refine Z.iload_n F 3 rfl dX18_holds_14 ?_
  refine Z.aald F (t := 12) (by decide) rfl rfl dX18_holds_15 (fun g15 => ?_)
  refine Z.iload_n F 1 rfl dX18_holds_16 ?_
  refine Z.iload_n F 2 rfl dX18_holds_17 ?_
  refine clX18_21 F ⟨Nat.le_of_ble_eq_true rfl, Nat.le_of_ble_eq_true rfl⟩ (zlw4 (Nat.le_of_ble_eq_true rfl)) dX18_holds_18 (fun r18 => ?_)
  refine Z.if_eq F (tgt := 26) dX18_holds_21 (by decide) ?_ ?_
  · refine Z.iinc F (L0 := [(0, zv h0), (1, .int x1), (2, .int x2)]) (k0 := 3) (v := (1 : Int32)) rfl (by decide) [0, 1, 2] rfl (zkR rfl (zkI rfl (zkI rfl zkN))) (by decide) dX18_holds_26 ?_
    refine Z.goto F (tgt := 2) dX18_holds_29 (by decide) ?_
    exact Z.sub [1, 2, 3, 0] rfl (hr2 (p2l3 + (1 : Int32)))
  refine Z.iconst F (v := (1 : Int32)) (by decide) dX18_holds_24 ?_
  exact Z.zret F dX18_holds_25
set_option maxHeartbeats 4000000 in
theorem k_X22_close (l : Launch) (h0 : Nat) : ZCv l yX22_close (ws_ yX22_close cX22_close 1 none) 1 21 0 0 false [zv h0] (f_X22_close h0) := by
  refine Z.metV (by decide +kernel) (fun h => ⟨rfl, rfl⟩) (L0 := [(0, zv h0)]) (by first | (rw [zla_v, zla_0]; done) | (rw [zla_v, zla_0]; rfl)) (by rw [zsl_v, zsl_0]; exact Nat.le_of_ble_eq_true rfl) ?_
  intro p e R s m args below meth c D A n0 sz k F
  have F : ZF p R s m args meth c cX22_close 1 "SafeBuckets$Lease" "close" none D A false sz 0 0 1 21 := F
  unfold f_X22_close
  refine Z.aload_n F 0 rfl dX22_close_0 ?_
  refine gfX22_3 F dX22_close_1 (fun g1 => ?_)
  refine Z.bipush F (v := (10 : Int32)) (by decide) dX22_close_4 ?_
  refine Z.aload_n F 0 rfl dX22_close_6 ?_
  refine gfX22_15 F dX22_close_7 (fun g7 => ?_)
  refine Z.iadd F dX22_close_10 ?_
  refine clX22_19 F ⟨Nat.le_of_ble_eq_true rfl, Nat.le_of_ble_eq_true rfl⟩ (zlw4 (Nat.le_of_ble_eq_true rfl)) dX22_close_11 ?_
  exact Z.vret F dX22_close_14
theorem clX1_357 (F : ZF p R s m args meth c cc nL "SafeBuckets" nm ret D A al sz mc ms fr lo) {h0 : Nat} {h1 : Nat} {x2 : Int32} {K : ZM → Prop} (hR : 1 + 1 ≤ fr ∧ 8 + (3 + 11) + 21 ≤ lo) (hst4 : zlw st) (hdg : decode cc pc = .ok (.invokespecial 357, 3)) (k : ZW p l e R s m args below meth c Q nL D A al n0 K (pc + 3) L st) : ZW p l e R s m args below meth c Q nL D A al n0 (zat 17 h0 (f_X22_init h0 h1 x2 K)) pc L (.int x2 :: zv h1 :: zv h0 :: st) :=
  Z.rv0 _ (fun μ H locs cells slots ls hI h hP => Z.I0 F hI (n := 2) (ci := 16) rfl (by decide) hP.1 hP.2 (k_X22_init l h0 h1 x2 D A (zX μ, zC μ, zS μ) H.size K μ) rfl q1231 q1232 q149 q1233 (by decide +kernel) rfl h.1 hst4 hR rfl hdg) k
theorem clX1_360 (F : ZF p R s m args meth c cc nL "SafeBuckets" nm ret D A al sz mc ms fr lo) {h0 : Nat} {K : Nat → ZM → Prop} (hR : 0 + 1 ≤ fr ∧ 8 + (1 + 11) + 0 ≤ lo) (hst4 : zlw st) (hdg : decode cc pc = .ok (.invokevirtual 360, 3)) (k : ∀ r, ZW p l e R s m args below meth c Q nL D A al n0 (K r) (pc + 3) L (zv r :: st)) : ZW p l e R s m args below meth c Q nL D A al n0 (zat 17 h0 (f_X22_sheet h0 K)) pc L (zv h0 :: st) :=
  Z.rq0 _ (fun μ H locs cells slots ls hI h hP => Z.V0 F hI (n := 0) (ci := 16) rfl (by decide) hP.1 hP.2 (k_X22_sheet l h0 D A (zX μ, zC μ, zS μ) H.size K μ) q1246 q1247 q1248 q149 q1249 (by decide +kernel) rfl h.1 hst4 hR rfl hdg) k
theorem clX1_369 (F : ZF p R s m args meth c cc nL "SafeBuckets" nm ret D A al sz mc ms fr lo) {h0 : Nat} {K : ZM → Prop} (hR : 1 + 1 ≤ fr ∧ 8 + (1 + 11) + 21 ≤ lo) (hst4 : zlw st) (hdg : decode cc pc = .ok (.invokevirtual 369, 3)) (k : ZW p l e R s m args below meth c Q nL D A al n0 K (pc + 3) L st) : ZW p l e R s m args below meth c Q nL D A al n0 (zat 17 h0 (f_X22_close h0 K)) pc L (zv h0 :: st) :=
  Z.rv0 _ (fun μ H locs cells slots ls hI h hP => Z.V0 F hI (n := 0) (ci := 16) rfl (by decide) hP.1 hP.2 (k_X22_close l h0 D A (zX μ, zC μ, zS μ) H.size K μ) q1266 q1267 q1268 q149 q1269 (by decide +kernel) rfl h.1 hst4 hR rfl hdg) k
theorem clX1_363 (F : ZF p R s m args meth c cc nL "SafeBuckets" nm ret D A al sz mc ms fr lo) {h0 : Nat} {K : ZM → Prop} {Kx : Nat → ZM → Prop} (hR : 0 + 1 ≤ fr ∧ 8 + (1 + 11) + 0 ≤ lo) (hst4 : zlw st) (hdg : decode cc pc = .ok (.invokevirtual 363, 3)) (kx : ZX p l e R s m args below meth c Q nL D A al n0 "SafeBuckets$TooLong" Kx pc L) (k : ZW p l e R s m args below meth c Q nL D A al n0 K (pc + 3) L st) : ZW p l e R s m args below meth c Q nL D A al n0 (zat 1 h0 (f_X1_goes h0 Kx K)) pc L (zv h0 :: st) :=
  Z.xv0 (fun μ H locs cells slots ls hI h hP => Z.Vx0 F hI (n := 0) (ci := 0) rfl (by decide) hP.1 hP.2 (k_X1_goes l h0 D A (zX μ, zC μ, zS μ) H.size K Kx μ) q1250 q1252 qs35 q116 q1253 (by decide +kernel) rfl h.1 hst4 hR rfl hdg) kx k
theorem clX1_366 (F : ZF p R s m args meth c cc nL "SafeBuckets" nm ret D A al sz mc ms fr lo) {h0 : Nat} {x1 : Int32} {x2 : Int32} {K : Int32 → ZM → Prop} (hR : 3 + 1 ≤ fr ∧ 8 + (4 + 11) + 67 ≤ lo) (hst4 : zlw st) (hdg : decode cc pc = .ok (.invokevirtual 366, 3)) (k : ∀ r, ZW p l e R s m args below meth c Q nL D A al n0 (K r) (pc + 3) L (.int r :: st)) : ZW p l e R s m args below meth c Q nL D A al n0 (zat 14 h0 (f_X18_holds h0 x1 x2 K)) pc L (.int x2 :: .int x1 :: zv h0 :: st) :=
  Z.ri0 _ (fun μ H locs cells slots ls hI h hP => Z.V0 F hI (n := 2) (ci := 13) rfl (by decide) hP.1 hP.2 (k_X18_holds l h0 x1 x2 D A (zX μ, zC μ, zS μ) H.size K μ) q1254 q1255 q1256 q141 q1257 (by decide +kernel) rfl h.1 hst4 hR rfl hdg) k
set_option maxHeartbeats 4000000 in
theorem k_X1_truthOf (l : Launch) (h0 : Nat) (x1 : Int32) (h2 : Nat) : ZCix l yX1_truthOf (wsW_ yX1_truthOf cX1_truthOf 9 (some .int) [(10, 134, 141, 372), (143, 147, 150, 372)]) 4 90 1 2 true "SafeBuckets$TooLong" [zv h0, .int x1, zv h2] (fun k kx => f_X1_truthOf h0 x1 h2 kx k) := by
  refine Z.metIWx (by decide +kernel) (fun h => by cases h) (L0 := [(0, zv h0), (1, .int x1), (2, zv h2)]) (by first | (rw [zla_v, zla_i, zla_v, zla_0]; done) | (rw [zla_v, zla_i, zla_v, zla_0]; rfl)) (by rw [zsl_v, zsl_i, zsl_v, zsl_0]; exact Nat.le_of_ble_eq_true rfl) ?_
  intro p e R s m args below meth c D A n0 sz k kx F htb
  have F : ZF p R s m args meth c cX1_truthOf 9 "SafeBuckets" "truthOf" (some .int) D A true sz 1 2 4 90 := F
  show ZW p l e R s m args below meth c _ _ D A _ _ (f_X1_truthOf h0 x1 h2 kx k) _ _ _
  unfold f_X1_truthOf
  refine Z.newO F in_X22 tyX22 tyX22_ok (ci := 16) rfl (by decide) q1229 q1230 q149 df_X22 dX1_truthOf_0 (fun n0 => ?_)
  refine Z.dup F dX1_truthOf_3 ?_
  refine Z.aload_n F 0 rfl dX1_truthOf_4 ?_
  refine Z.iload_n F 1 rfl dX1_truthOf_5 ?_
  refine clX1_357 F ⟨Nat.le_of_ble_eq_true rfl, Nat.le_of_ble_eq_true rfl⟩ (zlw4 (Nat.le_of_ble_eq_true rfl)) dX1_truthOf_6 ?_
  refine Z.astore_n F (L0 := [(0, zv h0), (1, .int x1), (2, zv h2)]) [0, 1, 2] rfl (zkR rfl (zkI rfl (zkR rfl zkN))) (by decide) dX1_truthOf_9 ?_
  refine Z.aload_n F 0 rfl dX1_truthOf_10 ?_
  refine clX1_360 F ⟨Nat.le_of_ble_eq_true rfl, Nat.le_of_ble_eq_true rfl⟩ (zlw4 (Nat.le_of_ble_eq_true rfl)) dX1_truthOf_11 (fun r11 => ?_)
  refine Z.astore F (L0 := [(3, zv n0), (0, zv h0), (1, .int x1), (2, zv h2)]) [0, 1, 2, 3] rfl (zkR rfl (zkR rfl (zkI rfl (zkR rfl zkN)))) (by decide) dX1_truthOf_14 ?_
  refine Z.iconst F (v := (0 : Int32)) (by decide) dX1_truthOf_16 ?_
  refine Z.istore F (L0 := [(4, zv r11), (3, zv n0), (0, zv h0), (1, .int x1), (2, zv h2)]) [0, 1, 2, 3, 4] rfl (zkR rfl (zkR rfl (zkR rfl (zkI rfl (zkR rfl zkN))))) (by decide) dX1_truthOf_17 ?_
  refine Z.iconst F (v := (0 : Int32)) (by decide) dX1_truthOf_19 ?_
  refine Z.istore F (L0 := [(5, .int (0 : Int32)), (4, zv r11), (3, zv n0), (0, zv h0), (1, .int x1), (2, zv h2)]) [0, 1, 2, 3, 4, 5] rfl (zkI rfl (zkR rfl (zkR rfl (zkR rfl (zkI rfl (zkR rfl zkN)))))) (by decide) dX1_truthOf_20 ?_
  refine Z.jn1 (J := _) (fun p141s0 => [(3, zv n0)]) (fun p141s0 => [zv p141s0]) 141 (fun p141s0 => ?_) (fun j141 hj141 => ?_)
  · refine Z.astore F (L0 := [(3, zv n0)]) [0] rfl (zkR rfl zkN) (by decide) dX1_truthOf_141 ?_
    refine Z.aload_n F 1 rfl dX1_truthOf_143 ?_
    refine clX1_369 F ⟨Nat.le_of_ble_eq_true rfl, Nat.le_of_ble_eq_true rfl⟩ (zlw4 (Nat.le_of_ble_eq_true rfl)) dX1_truthOf_144 ?_
    refine Z.goto F (tgt := 159) dX1_truthOf_147 (by decide) ?_
    refine Z.aload F 0 rfl dX1_truthOf_159 ?_
    exact Z.athrow F (ci := 5) rfl (by decide) dX1_truthOf_161 (Z.out F (by rw [htb]; decide))
  refine Z.jn1 (J := _) (fun p130l5 => [(3, zv n0), (5, .int p130l5)]) (fun p130l5 => []) 130 (fun p130l5 => ?_) (fun j130 hj130 => ?_)
  · refine Z.iload F 1 rfl dX1_truthOf_130 ?_
    refine Z.istore F (L0 := [(3, zv n0), (5, .int p130l5)]) [0, 1] rfl (zkR rfl (zkI rfl zkN)) (by decide) dX1_truthOf_132 ?_
    refine Z.aload_n F 1 rfl dX1_truthOf_134 ?_
    refine clX1_369 F ⟨Nat.le_of_ble_eq_true rfl, Nat.le_of_ble_eq_true rfl⟩ (zlw4 (Nat.le_of_ble_eq_true rfl)) dX1_truthOf_135 ?_
    refine Z.iload F 0 rfl dX1_truthOf_138 ?_
    exact Z.retx (Z.iret F dX1_truthOf_140)
  refine Z.sub [4, 6, 3, 2, 1, 0] rfl ?_
  refine Z.w2 (Lf := fun p22l5 p22l6 => [(0, zv h0), (2, zv h2), (3, zv n0), (4, zv r11), (5, .int p22l5), (6, .int p22l6)]) (sf := fun p22l5 p22l6 => []) (fun r22 hr22 p22l5 p22l6 => ?_) (0 : Int32) (0 : Int32)
  refine Z.iload F 5 rfl dX1_truthOf_22 ?_
  refine Z.aload F 3 rfl dX1_truthOf_24 ?_
  refine gfX1_164 F dX1_truthOf_26 (fun g26 => ?_)
  refine Z.icmp_gt F (tgt := 130) dX1_truthOf_29 (by decide) ?_ ?_
  · exact Z.sub [2, 4] rfl (hj130 p22l5)
  refine Z.iconst F (v := (0 : Int32)) (by decide) dX1_truthOf_32 ?_
  refine Z.istore F (L0 := [(0, zv h0), (2, zv h2), (3, zv n0), (4, zv r11), (5, .int p22l5), (6, .int p22l6)]) [0, 1, 2, 3, 4, 5] rfl (zkR rfl (zkR rfl (zkR rfl (zkR rfl (zkI rfl (zkI rfl zkN)))))) (by decide) dX1_truthOf_33 ?_
  refine Z.jn2 (J := _) (fun p124l5 p124l6 => [(0, zv h0), (2, zv h2), (3, zv n0), (4, zv r11), (5, .int p124l5), (6, .int p124l6)]) (fun p124l5 p124l6 => []) 124 (fun p124l5 p124l6 => ?_) (fun j124 hj124 => ?_)
  · refine Z.iinc F (L0 := [(0, zv h0), (2, zv h2), (3, zv n0), (4, zv r11), (5, .int p124l5)]) (k0 := 5) (v := (1 : Int32)) rfl (by decide) [0, 1, 2, 3, 4] rfl (zkR rfl (zkR rfl (zkR rfl (zkR rfl (zkI rfl zkN))))) (by decide) dX1_truthOf_124 ?_
    refine Z.goto F (tgt := 22) dX1_truthOf_127 (by decide) ?_
    exact Z.sub [1, 2, 3, 4, 5, 0] rfl (hr22 p124l5 (p124l6 + (1 : Int32)))
  refine Z.sub [1, 2, 3, 4, 5, 6, 0] rfl ?_
  refine Z.w3 (Lf := fun p35l5 p35l6 p35l7 => [(0, zv h0), (2, zv h2), (3, zv n0), (4, zv r11), (5, .int p35l5), (6, .int p35l6), (7, .int p35l7)]) (sf := fun p35l5 p35l6 p35l7 => []) (fun r35 hr35 p35l5 p35l6 p35l7 => ?_) p22l5 p22l6 (0 : Int32)
  refine Z.iload F 6 rfl dX1_truthOf_35 ?_
  refine Z.aload F 3 rfl dX1_truthOf_37 ?_
  refine gfX1_164 F dX1_truthOf_39 (fun g39 => ?_)
  refine Z.icmp_gt F (tgt := 124) dX1_truthOf_42 (by decide) ?_ ?_
  · exact Z.sub [0, 1, 2, 3, 4, 5] rfl (hj124 p35l5 p35l6)
  refine Z.aload F 3 rfl dX1_truthOf_45 ?_
  refine Z.iload F 5 rfl dX1_truthOf_47 ?_
  refine Z.aload F 3 rfl dX1_truthOf_49 ?_
  refine gfX1_164 F dX1_truthOf_51 (fun g51 => ?_)
  refine clX1_331 F ⟨Nat.le_of_ble_eq_true rfl, Nat.le_of_ble_eq_true rfl⟩ (zlw4 (Nat.le_of_ble_eq_true rfl)) dX1_truthOf_54 (fun r54 => ?_)
  refine Z.iload F 6 rfl dX1_truthOf_57 ?_
  refine Z.aload F 3 rfl dX1_truthOf_59 ?_
  refine gfX1_164 F dX1_truthOf_61 (fun g61 => ?_)
  refine clX1_331 F ⟨Nat.le_of_ble_eq_true rfl, Nat.le_of_ble_eq_true rfl⟩ (zlw4 (Nat.le_of_ble_eq_true rfl)) dX1_truthOf_64 (fun r64 => ?_)
  refine clX1_235 F ⟨Nat.le_of_ble_eq_true rfl, Nat.le_of_ble_eq_true rfl⟩ (zlw4 (Nat.le_of_ble_eq_true rfl)) dX1_truthOf_67 (fun r67 => ?_)
  refine Z.istore F (L0 := [(0, zv h0), (2, zv h2), (3, zv n0), (4, zv r11), (5, .int p35l5), (6, .int p35l6), (7, .int p35l7)]) [0, 1, 2, 3, 4, 5, 6] rfl (zkR rfl (zkR rfl (zkR rfl (zkR rfl (zkI rfl (zkI rfl (zkI rfl zkN))))))) (by decide) dX1_truthOf_70 ?_
  refine Z.iload F 0 rfl dX1_truthOf_72 ?_
  refine Z.jn1 (J := _) (fun p118l5 => [(0, zv h0), (2, zv h2), (3, zv n0), (4, zv r11), (5, .int p118l5), (6, .int p35l6), (7, .int p35l7)]) (fun p118l5 => []) 118 (fun p118l5 => ?_) (fun j118 hj118 => ?_)
  · refine Z.iinc F (L0 := [(0, zv h0), (2, zv h2), (3, zv n0), (4, zv r11), (5, .int p118l5), (6, .int p35l6)]) (k0 := 6) (v := (1 : Int32)) rfl (by decide) [0, 1, 2, 3, 4, 5] rfl (zkR rfl (zkR rfl (zkR rfl (zkR rfl (zkI rfl (zkI rfl zkN)))))) (by decide) dX1_truthOf_118 ?_
    refine Z.goto F (tgt := 35) dX1_truthOf_121 (by decide) ?_
    exact Z.sub [1, 2, 3, 4, 5, 6, 0] rfl (hr35 p118l5 p35l6 (p35l7 + (1 : Int32)))
  refine Z.if_ne F (tgt := 80) dX1_truthOf_74 (by decide) ?_ ?_
  · refine Z.aload_n F 1 rfl dX1_truthOf_80 ?_
    refine clX1_363 F ⟨Nat.le_of_ble_eq_true rfl, Nat.le_of_ble_eq_true rfl⟩ (zlw4 (Nat.le_of_ble_eq_true rfl)) dX1_truthOf_81 (Z.catch F (name := "java/lang/Throwable") ((tableOf [(10, 134, 141, 372), (143, 147, 150, 372)]).take 0) _ _ (htb.trans rfl) (by decide) (by decide) (by decide) q1228 (List.mem_of_getElem? (i := 2) rfl) (fun e81 => ?_)) ?_
    · exact Z.sub [3] rfl (hj141 e81)
    refine Z.aload_n F 2 rfl dX1_truthOf_84 ?_
    refine Z.iload F 6 rfl dX1_truthOf_85 ?_
    refine Z.aload F 4 rfl dX1_truthOf_87 ?_
    refine gfX1_164 F dX1_truthOf_89 (fun g89 => ?_)
    refine clX1_331 F ⟨Nat.le_of_ble_eq_true rfl, Nat.le_of_ble_eq_true rfl⟩ (zlw4 (Nat.le_of_ble_eq_true rfl)) dX1_truthOf_92 (fun r92 => ?_)
    refine Z.iload F 7 rfl dX1_truthOf_95 ?_
    refine Z.aload F 4 rfl dX1_truthOf_97 ?_
    refine gfX1_164 F dX1_truthOf_99 (fun g99 => ?_)
    refine clX1_331 F ⟨Nat.le_of_ble_eq_true rfl, Nat.le_of_ble_eq_true rfl⟩ (zlw4 (Nat.le_of_ble_eq_true rfl)) dX1_truthOf_102 (fun r102 => ?_)
    refine clX1_366 F ⟨Nat.le_of_ble_eq_true rfl, Nat.le_of_ble_eq_true rfl⟩ (zlw4 (Nat.le_of_ble_eq_true rfl)) dX1_truthOf_105 (fun r105 => ?_)
    refine Z.if_eq F (tgt := 118) dX1_truthOf_108 (by decide) ?_ ?_
    · exact Z.sub [1, 2, 3, 4, 5, 6, 7] rfl (hj118 p35l5)
    refine Z.iload F 5 rfl dX1_truthOf_111 ?_
    refine Z.iload F 0 rfl dX1_truthOf_113 ?_
    refine Z.iadd F dX1_truthOf_115 ?_
    refine Z.istore F (L0 := [(8, .int r67), (0, zv h0), (2, zv h2), (3, zv n0), (4, zv r11), (6, .int p35l6), (7, .int p35l7)]) [0, 1, 2, 3, 4, 6, 7] rfl (zkI rfl (zkR rfl (zkR rfl (zkR rfl (zkR rfl (zkI rfl (zkI rfl zkN))))))) (by decide) dX1_truthOf_116 ?_
    exact Z.sub [2, 3, 4, 5, 0, 6, 7] rfl (hj118 (p35l5 + r67))
  refine Z.goto F (tgt := 118) dX1_truthOf_77 (by decide) ?_
  exact Z.sub [1, 2, 3, 4, 5, 6, 7] rfl (hj118 p35l5)
theorem clX1_381 (F : ZF p R s m args meth c cc nL "SafeBuckets" nm ret D A al sz mc ms fr lo) {h0 : Nat} {x1 : Int32} {K : Int32 → ZM → Prop} (hR : 1 + 1 ≤ fr ∧ 8 + (2 + 11) + 25 ≤ lo) (hst4 : zlw st) (hdg : decode cc pc = .ok (.invokevirtual 381, 3)) (k : ∀ r, ZW p l e R s m args below meth c Q nL D A al n0 (K r) (pc + 3) L (.int r :: st)) : ZW p l e R s m args below meth c Q nL D A al n0 (zat 1 h0 (f_X1_isWhere h0 x1 K)) pc L (.int x1 :: zv h0 :: st) :=
  Z.ri0 _ (fun μ H locs cells slots ls hI h hP => Z.V0 F hI (n := 1) (ci := 0) rfl (by decide) hP.1 hP.2 (k_X1_isWhere l h0 x1 D A (zX μ, zC μ, zS μ) H.size K μ) q1131 q1133 qs30 q116 q1134 (by decide +kernel) rfl h.1 hst4 hR rfl hdg) k
theorem clX1_394 (F : ZF p R s m args meth c cc nL "SafeBuckets" nm ret D A al sz mc ms fr lo) {h0 : Nat} {K : ZM → Prop} (hR : 0 + 1 ≤ fr ∧ 8 + (1 + 11) + 0 ≤ lo) (hst4 : zlw st) (hdg : decode cc pc = .ok (.invokevirtual 394, 3)) (k : ZW p l e R s m args below meth c Q nL D A al n0 K (pc + 3) L st) : ZW p l e R s m args below meth c Q nL D A al n0 (zat 1 h0 (f_X1_begins h0 K)) pc L (zv h0 :: st) :=
  Z.rv0 _ (fun μ H locs cells slots ls hI h hP => Z.V0 F hI (n := 0) (ci := 0) rfl (by decide) hP.1 hP.2 (k_X1_begins l h0 D A (zX μ, zC μ, zS μ) H.size K μ) q1220 q1222 qs32 q116 q1223 (by decide +kernel) rfl h.1 hst4 hR rfl hdg) k
theorem clX1_397 (F : ZF p R s m args meth c cc nL "SafeBuckets" nm ret D A true sz mc ms fr lo) {h0 : Nat} {x1 : Int32} {h2 : Nat} {K : Int32 → ZM → Prop} {Kx : Nat → ZM → Prop} (hR : 4 + 1 ≤ fr ∧ 8 + (9 + 11) + 90 ≤ lo) (hst4 : zlw st) (hdg : decode cc pc = .ok (.invokevirtual 397, 3)) (kx : ZX p l e R s m args below meth c Q nL D A true n0 "SafeBuckets$TooLong" Kx pc L) (k : ∀ r, ZW p l e R s m args below meth c Q nL D A true n0 (K r) (pc + 3) L (.int r :: st)) : ZW p l e R s m args below meth c Q nL D A true n0 (zat 1 h0 (zclx' 1 2 (fun k kx => f_X1_truthOf h0 x1 h2 kx k) Kx K)) pc L (zv h2 :: .int x1 :: zv h0 :: st) :=
  Z.xi1 (fun μ H locs cells slots ls hI h hP => ⟨hP.2.1, hP.2.2.1, Z.VXx1 F hI (n := 2) (ci := 0) rfl (by decide) hP.1 hP.2.1 hP.2.2.1 hP.2.2.2 (k_X1_truthOf l h0 x1 h2 D A (0, 0, 0) 0 (fun r μ' => K r (zcs μ' (zC μ - 1) (zS μ - 2))) (fun r μ' => Kx r (zcs μ' (zC μ - 1) (zS μ - 2))) (zcs μ 1 2)) q1224 q1226 qs33 q116 q1227 (by decide +kernel) rfl h.1 hst4 hR rfl hdg⟩) kx k
theorem clX1_391 (F : ZF p R s m args meth c cc nL "SafeBuckets" nm ret D A al sz mc ms fr lo) {h0 : Nat} {h1 : Nat} {K : Int32 → ZM → Prop} (hR : 6 + 1 ≤ fr ∧ 8 + (4 + 11) + 136 ≤ lo) (hst4 : zlw st) (hdg : decode cc pc = .ok (.invokevirtual 391, 3)) (k : ∀ r, ZW p l e R s m args below meth c Q nL D A al n0 (K r) (pc + 3) L (.int r :: st)) : ZW p l e R s m args below meth c Q nL D A al n0 (zat 14 h0 (f_X18_estimate h0 h1 K)) pc L (zv h1 :: zv h0 :: st) :=
  Z.ri0 _ (fun μ H locs cells slots ls hI h hP => Z.V0 F hI (n := 1) (ci := 13) rfl (by decide) hP.1 hP.2 (k_X18_estimate l h0 h1 D A (zX μ, zC μ, zS μ) H.size K μ) q1207 q1208 q1209 q141 q1210 (by decide +kernel) rfl h.1 hst4 hR rfl hdg) k
theorem clX1_388 (F : ZF p R s m args meth c cc nL "SafeBuckets" nm ret D A al sz mc ms fr lo) {h0 : Nat} {h1 : Nat} {K : Int32 → ZM → Prop} (hR : 6 + 1 ≤ fr ∧ 8 + (4 + 11) + 136 ≤ lo) (hst4 : zlw st) (hdg : decode cc pc = .ok (.invokevirtual 388, 3)) (k : ∀ r, ZW p l e R s m args below meth c Q nL D A al n0 (K r) (pc + 3) L (.int r :: st)) : ZW p l e R s m args below meth c Q nL D A al n0 (zat 14 h0 (f_X18_upper h0 h1 K)) pc L (zv h1 :: zv h0 :: st) :=
  Z.ri0 _ (fun μ H locs cells slots ls hI h hP => Z.V0 F hI (n := 1) (ci := 13) rfl (by decide) hP.1 hP.2 (k_X18_upper l h0 h1 D A (zX μ, zC μ, zS μ) H.size K μ) q1188 q1189 q1190 q141 q1191 (by decide +kernel) rfl h.1 hst4 hR rfl hdg) k
theorem clX1_384 (F : ZF p R s m args meth c cc nL "SafeBuckets" nm ret D A al sz mc ms fr lo) {h0 : Nat} {h1 : Nat} {K : Int32 → ZM → Prop} (hR : 6 + 1 ≤ fr ∧ 8 + (4 + 11) + 136 ≤ lo) (hst4 : zlw st) (hdg : decode cc pc = .ok (.invokevirtual 384, 3)) (k : ∀ r, ZW p l e R s m args below meth c Q nL D A al n0 (K r) (pc + 3) L (.int r :: st)) : ZW p l e R s m args below meth c Q nL D A al n0 (zat 14 h0 (f_X18_lower h0 h1 K)) pc L (zv h1 :: zv h0 :: st) :=
  Z.ri0 _ (fun μ H locs cells slots ls hI h hP => Z.V0 F hI (n := 1) (ci := 13) rfl (by decide) hP.1 hP.2 (k_X18_lower l h0 h1 D A (zX μ, zC μ, zS μ) H.size K μ) q1135 q1136 q1137 q141 q1138 (by decide +kernel) rfl h.1 hst4 hR rfl hdg) k
set_option maxHeartbeats 4000000 in
theorem k_X1_where (l : Launch) (h0 : Nat) (x1 : Int32) (x2 : Int32) (x3 : Int32) : ZCi l yX1_where (wsW_ yX1_where cX1_where 6 (some .int) [(93, 100, 101, 77)]) 7 159 1 2 true [zv h0, .int x1, .int x2, .int x3] (f_X1_where h0 x1 x2 x3) := by
  refine Z.metIW (by decide +kernel) (fun h => by cases h) (L0 := [(0, zv h0), (1, .int x1), (2, .int x2), (3, .int x3)]) (by first | (rw [zla_v, zla_i, zla_i, zla_i, zla_0]; done) | (rw [zla_v, zla_i, zla_i, zla_i, zla_0]; rfl)) (by rw [zsl_v, zsl_i, zsl_i, zsl_i, zsl_0]; exact Nat.le_of_ble_eq_true rfl) ?_
  intro p e R s m args below meth c D A n0 sz k F htb
  have F : ZF p R s m args meth c cX1_where 6 "SafeBuckets" "where" (some .int) D A true sz 1 2 7 159 := F
  unfold f_X1_where
  refine Z.aload_n F 0 rfl dX1_where_0 ?_
  refine Z.iload_n F 1 rfl dX1_where_1 ?_
  refine clX1_194 F ⟨Nat.le_of_ble_eq_true rfl, Nat.le_of_ble_eq_true rfl⟩ (zlw4 (Nat.le_of_ble_eq_true rfl)) dX1_where_2 (fun r2 => ?_)
  refine Z.jn0 (J := _) ([]) ([]) 28 (?_) (fun j28 hj28 => ?_)
  · refine Z.iconst F (v := (-1 : Int32)) (by decide) dX1_where_28 ?_
    exact Z.iret F dX1_where_29
  refine Z.if_eq F (tgt := 28) dX1_where_5 (by decide) ?_ ?_
  · exact Z.sub [] rfl (hj28)
  refine Z.aload_n F 0 rfl dX1_where_8 ?_
  refine Z.iload_n F 2 rfl dX1_where_9 ?_
  refine clX1_381 F ⟨Nat.le_of_ble_eq_true rfl, Nat.le_of_ble_eq_true rfl⟩ (zlw4 (Nat.le_of_ble_eq_true rfl)) dX1_where_10 (fun r10 => ?_)
  refine Z.if_eq F (tgt := 28) dX1_where_13 (by decide) ?_ ?_
  · exact Z.sub [] rfl (hj28)
  refine Z.iload_n F 3 rfl dX1_where_16 ?_
  refine Z.i2l F dX1_where_17 ?_
  refine Z.lconst F (w := (0 : Int64)) (by decide) dX1_where_18 ?_
  refine Z.ldc2 F q915 dX1_where_19 ?_
  refine clX1_97 F ⟨Nat.le_of_ble_eq_true rfl, Nat.le_of_ble_eq_true rfl⟩ (zlw4 (Nat.le_of_ble_eq_true rfl)) dX1_where_22 (fun r22 => ?_)
  refine Z.if_ne F (tgt := 30) dX1_where_25 (by decide) ?_ ?_
  · refine Z.aload_n F 0 rfl dX1_where_30 ?_
    refine gfX1_27 F dX1_where_31 (fun g31 => ?_)
    refine Z.iload_n F 2 rfl dX1_where_34 ?_
    refine Z.aald F (t := 3) (by decide) rfl rfl dX1_where_35 (fun g35 => ?_)
    refine Z.astore F (L0 := [(0, zv h0), (1, .int x1), (2, .int x2), (3, .int x3)]) [0, 1, 2, 3] rfl (zkR rfl (zkI rfl (zkI rfl (zkI rfl zkN)))) (by decide) dX1_where_36 ?_
    refine Z.iload_n F 4 rfl dX1_where_38 ?_
    refine Z.if_le F (tgt := 89) dX1_where_39 (by decide) ?_ ?_
    · refine Z.aload_n F 1 rfl dX1_where_89 ?_
      refine clX1_394 F ⟨Nat.le_of_ble_eq_true rfl, Nat.le_of_ble_eq_true rfl⟩ (zlw4 (Nat.le_of_ble_eq_true rfl)) dX1_where_90 ?_
      refine Z.aload_n F 1 rfl dX1_where_93 ?_
      refine Z.iload_n F 2 rfl dX1_where_94 ?_
      refine Z.aload F 0 rfl dX1_where_95 ?_
      refine clX1_397 F ⟨Nat.le_of_ble_eq_true rfl, Nat.le_of_ble_eq_true rfl⟩ (zlw4 (Nat.le_of_ble_eq_true rfl)) dX1_where_97 (Z.catch F (name := "SafeBuckets$TooLong") ((tableOf [(93, 100, 101, 77)]).take 0) _ _ (htb.trans rfl) (by decide) (by decide) (by decide) q321 (List.mem_of_getElem? (i := 0) rfl) (fun e97 => ?_)) (fun r97 => ?_)
      · refine Z.astore F (L0 := [(4, zv g35), (0, zv h0), (1, .int x1), (2, .int x2), (3, .int x3)]) [0, 1, 2, 3, 4] rfl (zkR rfl (zkR rfl (zkI rfl (zkI rfl (zkI rfl zkN))))) (by decide) dX1_where_101 ?_
        refine Z.aload_n F 2 rfl dX1_where_103 ?_
        refine Z.iconst F (v := (4 : Int32)) (by decide) dX1_where_104 ?_
        refine clX1_305 F ⟨Nat.le_of_ble_eq_true rfl, Nat.le_of_ble_eq_true rfl⟩ (zlw4 (Nat.le_of_ble_eq_true rfl)) dX1_where_105 (fun r105 => ?_)
        exact Z.iret F dX1_where_108
      exact Z.iret F dX1_where_100
    refine Z.iload_n F 4 rfl dX1_where_42 ?_
    refine Z.iconst F (v := (1 : Int32)) (by decide) dX1_where_43 ?_
    refine Z.jn1 (J := _) (fun p88s0 => []) (fun p88s0 => [.int p88s0]) 88 (fun p88s0 => ?_) (fun j88 hj88 => ?_)
    · exact Z.iret F dX1_where_88
    refine Z.icmp_ne F (tgt := 60) dX1_where_44 (by decide) ?_ ?_
    · refine Z.iload_n F 4 rfl dX1_where_60 ?_
      refine Z.iconst F (v := (2 : Int32)) (by decide) dX1_where_61 ?_
      refine Z.icmp_ne F (tgt := 78) dX1_where_62 (by decide) ?_ ?_
      · refine Z.aload F 0 rfl dX1_where_78 ?_
        refine Z.aload_n F 1 rfl dX1_where_80 ?_
        refine Z.iload_n F 2 rfl dX1_where_81 ?_
        refine clX1_218 F ⟨Nat.le_of_ble_eq_true rfl, Nat.le_of_ble_eq_true rfl⟩ (zlw4 (Nat.le_of_ble_eq_true rfl)) dX1_where_82 (fun r82 => ?_)
        refine clX1_391 F ⟨Nat.le_of_ble_eq_true rfl, Nat.le_of_ble_eq_true rfl⟩ (zlw4 (Nat.le_of_ble_eq_true rfl)) dX1_where_85 (fun r85 => ?_)
        exact Z.sub [] rfl (hj88 r85)
      refine Z.aload F 0 rfl dX1_where_65 ?_
      refine Z.aload_n F 1 rfl dX1_where_67 ?_
      refine Z.iload_n F 2 rfl dX1_where_68 ?_
      refine clX1_218 F ⟨Nat.le_of_ble_eq_true rfl, Nat.le_of_ble_eq_true rfl⟩ (zlw4 (Nat.le_of_ble_eq_true rfl)) dX1_where_69 (fun r69 => ?_)
      refine clX1_388 F ⟨Nat.le_of_ble_eq_true rfl, Nat.le_of_ble_eq_true rfl⟩ (zlw4 (Nat.le_of_ble_eq_true rfl)) dX1_where_72 (fun r72 => ?_)
      refine Z.goto F (tgt := 88) dX1_where_75 (by decide) ?_
      exact Z.sub [] rfl (hj88 r72)
    refine Z.aload F 0 rfl dX1_where_47 ?_
    refine Z.aload_n F 1 rfl dX1_where_49 ?_
    refine Z.iload_n F 2 rfl dX1_where_50 ?_
    refine clX1_218 F ⟨Nat.le_of_ble_eq_true rfl, Nat.le_of_ble_eq_true rfl⟩ (zlw4 (Nat.le_of_ble_eq_true rfl)) dX1_where_51 (fun r51 => ?_)
    refine clX1_384 F ⟨Nat.le_of_ble_eq_true rfl, Nat.le_of_ble_eq_true rfl⟩ (zlw4 (Nat.le_of_ble_eq_true rfl)) dX1_where_54 (fun r54 => ?_)
    refine Z.goto F (tgt := 88) dX1_where_57 (by decide) ?_
    exact Z.sub [] rfl (hj88 r54)
  exact Z.sub [] rfl (hj28)
set_option maxHeartbeats 4000000 in
theorem k_X1_sorts (l : Launch) (h0 : Nat) (x1 : Int32) (h2 : Nat) : ZCi l yX1_sorts (ws_ yX1_sorts cX1_sorts 6 (some .int)) 3 68 0 0 false [zv h0, .int x1, zv h2] (f_X1_sorts h0 x1 h2) := by
  refine Z.metI (by decide +kernel) (fun h => ⟨rfl, rfl⟩) (L0 := [(0, zv h0), (1, .int x1), (2, zv h2)]) (by first | (rw [zla_v, zla_i, zla_v, zla_0]; done) | (rw [zla_v, zla_i, zla_v, zla_0]; rfl)) (by rw [zsl_v, zsl_i, zsl_v, zsl_0]; exact Nat.le_of_ble_eq_true rfl) ?_
  intro p e R s m args below meth c D A n0 sz k F
  have F : ZF p R s m args meth c cX1_sorts 6 "SafeBuckets" "sorts" (some .int) D A false sz 0 0 3 68 := F
  unfold f_X1_sorts
  refine Z.iconst F (v := (0 : Int32)) (by decide) dX1_sorts_0 ?_
  refine Z.istore_n F (L0 := [(0, zv h0), (1, .int x1), (2, zv h2)]) [0, 1, 2] rfl (zkR rfl (zkI rfl (zkR rfl zkN))) (by decide) dX1_sorts_1 ?_
  refine Z.sub [1, 2, 3, 0] rfl ?_
  refine Z.w1 (Lf := fun p2l3 => [(0, zv h0), (1, .int x1), (2, zv h2), (3, .int p2l3)]) (sf := fun p2l3 => []) (fun r2 hr2 p2l3 => ?_) (0 : Int32)
  refine Z.iload_n F 3 rfl dX1_sorts_2 ?_
  refine Z.aload_n F 0 rfl dX1_sorts_3 ?_
  refine gfX1_164 F dX1_sorts_4 (fun g4 => ?_)
  refine Z.icmp_ge F (tgt := 65) dX1_sorts_7 (by decide) ?_ ?_
  · refine Z.aload_n F 0 rfl dX1_sorts_65 ?_
    refine gfX1_164 F dX1_sorts_66 (fun g66 => ?_)
    exact Z.iret F dX1_sorts_69
  refine Z.aload_n F 0 rfl dX1_sorts_10 ?_
  refine Z.iload_n F 1 rfl dX1_sorts_11 ?_
  refine Z.iload_n F 3 rfl dX1_sorts_12 ?_
  refine clX1_167 F ⟨Nat.le_of_ble_eq_true rfl, Nat.le_of_ble_eq_true rfl⟩ (zlw4 (Nat.le_of_ble_eq_true rfl)) dX1_sorts_13 (fun r13 => ?_)
  refine Z.istore F (L0 := [(0, zv h0), (1, .int x1), (2, zv h2), (3, .int p2l3)]) [0, 1, 2, 3] rfl (zkR rfl (zkI rfl (zkR rfl (zkI rfl zkN)))) (by decide) dX1_sorts_16 ?_
  refine Z.iload_n F 4 rfl dX1_sorts_18 ?_
  refine Z.istore F (L0 := [(4, .int r13), (0, zv h0), (1, .int x1), (2, zv h2), (3, .int p2l3)]) [0, 1, 2, 3, 4] rfl (zkI rfl (zkR rfl (zkI rfl (zkR rfl (zkI rfl zkN))))) (by decide) dX1_sorts_19 ?_
  refine Z.jn2 (J := _) (fun p53l3 p53l5 => [(0, zv h0), (1, .int x1), (2, zv h2), (3, .int p53l3), (4, .int r13), (5, .int p53l5)]) (fun p53l3 p53l5 => []) 53 (fun p53l3 p53l5 => ?_) (fun j53 hj53 => ?_)
  · refine Z.aload_n F 2 rfl dX1_sorts_53 ?_
    refine Z.iload F 5 rfl dX1_sorts_54 ?_
    refine Z.iload F 4 rfl dX1_sorts_56 ?_
    refine Z.iast F dX1_sorts_58 ?_
    refine Z.iinc F (L0 := [(0, zv h0), (1, .int x1), (2, zv h2), (4, .int r13), (5, .int p53l5)]) (k0 := 3) (v := (1 : Int32)) rfl (by decide) [0, 1, 2, 4, 5] rfl (zkR rfl (zkI rfl (zkR rfl (zkI rfl (zkI rfl zkN))))) (by decide) dX1_sorts_59 ?_
    refine Z.goto F (tgt := 2) dX1_sorts_62 (by decide) ?_
    exact Z.sub [1, 2, 3, 0] rfl (hr2 (p53l3 + (1 : Int32)))
  refine Z.sub [2, 3, 4, 5, 1, 0] rfl ?_
  refine Z.w2 (Lf := fun p21l3 p21l5 => [(0, zv h0), (1, .int x1), (2, zv h2), (3, .int p21l3), (4, .int r13), (5, .int p21l5)]) (sf := fun p21l3 p21l5 => []) (fun r21 hr21 p21l3 p21l5 => ?_) p2l3 p2l3
  refine Z.iload F 5 rfl dX1_sorts_21 ?_
  refine Z.if_le F (tgt := 53) dX1_sorts_23 (by decide) ?_ ?_
  · exact Z.sub [0, 1, 2, 3, 4, 5] rfl (hj53 p21l3 p21l5)
  refine Z.aload_n F 2 rfl dX1_sorts_26 ?_
  refine Z.iload F 5 rfl dX1_sorts_27 ?_
  refine Z.iconst F (v := (1 : Int32)) (by decide) dX1_sorts_29 ?_
  refine Z.isub F dX1_sorts_30 ?_
  refine Z.iald F dX1_sorts_31 (fun g31 => ?_)
  refine Z.iload F 4 rfl dX1_sorts_32 ?_
  refine Z.icmp_ge F (tgt := 53) dX1_sorts_34 (by decide) ?_ ?_
  · exact Z.sub [0, 1, 2, 3, 4, 5] rfl (hj53 p21l3 p21l5)
  refine Z.aload_n F 2 rfl dX1_sorts_37 ?_
  refine Z.iload F 5 rfl dX1_sorts_38 ?_
  refine Z.aload_n F 2 rfl dX1_sorts_40 ?_
  refine Z.iload F 5 rfl dX1_sorts_41 ?_
  refine Z.iconst F (v := (1 : Int32)) (by decide) dX1_sorts_43 ?_
  refine Z.isub F dX1_sorts_44 ?_
  refine Z.iald F dX1_sorts_45 (fun g45 => ?_)
  refine Z.iast F dX1_sorts_46 ?_
  refine Z.iinc F (L0 := [(0, zv h0), (1, .int x1), (2, zv h2), (3, .int p21l3), (4, .int r13)]) (k0 := 5) (v := (-1 : Int32)) rfl (by decide) [0, 1, 2, 3, 4] rfl (zkR rfl (zkI rfl (zkR rfl (zkI rfl (zkI rfl zkN))))) (by decide) dX1_sorts_47 ?_
  refine Z.goto F (tgt := 21) dX1_sorts_50 (by decide) ?_
  exact Z.sub [1, 2, 3, 4, 5, 0] rfl (hr21 p21l3 (p21l5 + (-1 : Int32)))
theorem gfX1_87 (F : ZF p R s m args meth c cc nL "SafeBuckets" nm ret D A al sz mc ms fr lo) {z : Nat} {K : Nat → ZM → Prop} (hdg : decode cc pc = .ok (.getfield 87, 3)) (k : ∀ u, ZW p l e R s m args below meth c Q nL D A al n0 (K u) (pc + 3) L (zv u :: st)) : ZW p l e R s m args below meth c Q nL D A al n0 (zgR 1 z 26 K) pc L (zv z :: st) :=
  Z.getR F (ref := "SafeBuckets") in_X1 (ci := 0) rfl (by decide) (kf := 26) (by decide) q415 (fun _ h => h) rfl hdg k
theorem clX1_419 (F : ZF p R s m args meth c cc nL "SafeBuckets" nm ret D A al sz mc ms fr lo) {h0 : Nat} {x1 : Int32} {h2 : Nat} {K : Int32 → ZM → Prop} (hR : 3 + 1 ≤ fr ∧ 8 + (6 + 11) + 68 ≤ lo) (hst4 : zlw st) (hdg : decode cc pc = .ok (.invokestatic 419, 3)) (k : ∀ r, ZW p l e R s m args below meth c Q nL D A al n0 (K r) (pc + 3) L (.int r :: st)) : ZW p l e R s m args below meth c Q nL D A al n0 (f_X1_sorts h0 x1 h2 K) pc L (zv h2 :: .int x1 :: zv h0 :: st) :=
  Z.ri0 _ (fun μ H locs cells slots ls hI h hP => Z.S0 F hI (n := 3) hP (k_X1_sorts l h0 x1 h2 D A (zX μ, zC μ, zS μ) H.size K μ) q1387 q1388 q116 q1389 (by decide +kernel) rfl h.1 hst4 hR rfl hdg) k
theorem gfX1_90 (F : ZF p R s m args meth c cc nL "SafeBuckets" nm ret D A al sz mc ms fr lo) {z : Nat} {K : Nat → ZM → Prop} (hdg : decode cc pc = .ok (.getfield 90, 3)) (k : ∀ u, ZW p l e R s m args below meth c Q nL D A al n0 (K u) (pc + 3) L (zv u :: st)) : ZW p l e R s m args below meth c Q nL D A al n0 (zgR 1 z 27 K) pc L (zv z :: st) :=
  Z.getR F (ref := "SafeBuckets") in_X1 (ci := 0) rfl (by decide) (kf := 27) (by decide) q416 (fun _ h => h) rfl hdg k
set_option maxHeartbeats 4000000 in
theorem k_X1_byDegrees (l : Launch) (h0 : Nat) (h1 : Nat) (x2 : Int32) (h3 : Nat) (x4 : Int32) : ZCl l yX1_byDegrees (ws_ yX1_byDegrees cX1_byDegrees 9 (some .long)) 4 93 0 0 false [zv h0, zv h1, .int x2, zv h3, .int x4] (f_X1_byDegrees h0 h1 x2 h3 x4) := by
  refine Z.metL (by decide +kernel) (fun h => ⟨rfl, rfl⟩) (L0 := [(0, zv h0), (1, zv h1), (2, .int x2), (3, zv h3), (4, .int x4)]) (by first | (rw [zla_v, zla_v, zla_i, zla_v, zla_i, zla_0]; done) | (rw [zla_v, zla_v, zla_i, zla_v, zla_i, zla_0]; rfl)) (by rw [zsl_v, zsl_v, zsl_i, zsl_v, zsl_i, zsl_0]; exact Nat.le_of_ble_eq_true rfl) ?_
  intro p e R s m args below meth c D A n0 sz k F
  have F : ZF p R s m args meth c cX1_byDegrees 9 "SafeBuckets" "byDegrees" (some .long) D A false sz 0 0 4 93 := F
  unfold f_X1_byDegrees
  refine Z.aload_n F 1 rfl dX1_byDegrees_0 ?_
  refine Z.iload_n F 2 rfl dX1_byDegrees_1 ?_
  refine Z.aload_n F 0 rfl dX1_byDegrees_2 ?_
  refine gfX1_87 F dX1_byDegrees_3 (fun g3 => ?_)
  refine clX1_419 F ⟨Nat.le_of_ble_eq_true rfl, Nat.le_of_ble_eq_true rfl⟩ (zlw4 (Nat.le_of_ble_eq_true rfl)) dX1_byDegrees_6 (fun r6 => ?_)
  refine Z.aload_n F 3 rfl dX1_byDegrees_9 ?_
  refine Z.iload F 4 rfl dX1_byDegrees_10 ?_
  refine Z.aload_n F 0 rfl dX1_byDegrees_12 ?_
  refine gfX1_90 F dX1_byDegrees_13 (fun g13 => ?_)
  refine clX1_419 F ⟨Nat.le_of_ble_eq_true rfl, Nat.le_of_ble_eq_true rfl⟩ (zlw4 (Nat.le_of_ble_eq_true rfl)) dX1_byDegrees_16 (fun r16 => ?_)
  refine Z.mmin F q1039 (Nat.le_of_ble_eq_true rfl) (Nat.le_of_ble_eq_true rfl) (zlw4 (Nat.le_of_ble_eq_true rfl)) dX1_byDegrees_19 ?_
  refine Z.istore F (L0 := [(0, zv h0), (1, zv h1), (2, .int x2), (3, zv h3), (4, .int x4)]) [0, 1, 2, 3, 4] rfl (zkR rfl (zkR rfl (zkI rfl (zkR rfl (zkI rfl zkN))))) (by decide) dX1_byDegrees_22 ?_
  refine Z.lconst F (w := (0 : Int64)) (by decide) dX1_byDegrees_24 ?_
  refine Z.lstore F (L0 := [(5, .int (if r16 < r6 then r16 else r6)), (0, zv h0), (1, zv h1), (2, .int x2), (3, zv h3), (4, .int x4)]) [0, 1, 2, 3, 4, 5] rfl (zmI rfl rfl  (zmR rfl rfl  (zmR rfl rfl  (zmI rfl rfl  (zmR rfl rfl  (zmI rfl rfl  zmN)))))) (by decide) dX1_byDegrees_25 ?_
  refine Z.iconst F (v := (0 : Int32)) (by decide) dX1_byDegrees_27 ?_
  refine Z.istore F (L0 := [(6, .long (0 : Int64)), (5, .int (if r16 < r6 then r16 else r6)), (0, zv h0), (1, zv h1), (2, .int x2), (3, zv h3), (4, .int x4)]) [0, 1, 2, 3, 4, 5, 6] rfl (zkL rfl rfl (zkI rfl (zkR rfl (zkR rfl (zkI rfl (zkR rfl (zkI rfl zkN))))))) (by decide) dX1_byDegrees_28 ?_
  refine Z.sub [3, 2, 1, 0] rfl ?_
  refine Z.w2 (Lf := fun p30l6 p30l8 => [(0, zv h0), (5, .int (if r16 < r6 then r16 else r6)), (6, .long p30l6), (8, .int p30l8)]) (sf := fun p30l6 p30l8 => []) (fun r30 hr30 p30l6 p30l8 => ?_) (0 : Int64) (0 : Int32)
  refine Z.iload F 3 rfl dX1_byDegrees_30 ?_
  refine Z.iload F 1 rfl dX1_byDegrees_32 ?_
  refine Z.icmp_ge F (tgt := 65) dX1_byDegrees_34 (by decide) ?_ ?_
  · refine Z.lload F 2 rfl dX1_byDegrees_65 ?_
    exact Z.lret F dX1_byDegrees_67
  refine Z.lload F 2 rfl dX1_byDegrees_37 ?_
  refine Z.aload_n F 0 rfl dX1_byDegrees_39 ?_
  refine gfX1_87 F dX1_byDegrees_40 (fun g40 => ?_)
  refine Z.iload F 3 rfl dX1_byDegrees_43 ?_
  refine Z.iald F dX1_byDegrees_45 (fun g45 => ?_)
  refine Z.i2l F dX1_byDegrees_46 ?_
  refine Z.aload_n F 0 rfl dX1_byDegrees_47 ?_
  refine gfX1_90 F dX1_byDegrees_48 (fun g48 => ?_)
  refine Z.iload F 3 rfl dX1_byDegrees_51 ?_
  refine Z.iald F dX1_byDegrees_53 (fun g53 => ?_)
  refine Z.i2l F dX1_byDegrees_54 ?_
  refine Z.lmul F dX1_byDegrees_55 ?_
  refine Z.ladd F dX1_byDegrees_56 ?_
  refine Z.lstore F (L0 := [(0, zv h0), (5, .int (if r16 < r6 then r16 else r6)), (8, .int p30l8)]) [0, 1, 3] rfl (zmR rfl rfl  (zmI rfl rfl  (zmI rfl rfl  zmN))) (by decide) dX1_byDegrees_57 ?_
  refine Z.iinc F (L0 := [(6, .long (p30l6 + (g45.toInt64 * g53.toInt64))), (0, zv h0), (5, .int (if r16 < r6 then r16 else r6))]) (k0 := 3) (v := (1 : Int32)) rfl (by decide) [0, 1, 2] rfl (zkL rfl rfl (zkR rfl (zkI rfl zkN))) (by decide) dX1_byDegrees_59 ?_
  refine Z.goto F (tgt := 30) dX1_byDegrees_62 (by decide) ?_
  exact Z.sub [2, 3, 1, 0] rfl (hr30 (p30l6 + (g45.toInt64 * g53.toInt64)) (p30l8 + (1 : Int32)))
set_option maxHeartbeats 4000000 in
theorem k_X5_common (l : Launch) (h0 : Nat) (h1 : Nat) : ZCi l yX5_common (ws_ yX5_common cX5_common 2 (some .int)) 1 21 0 0 false [zv h0, zv h1] (f_X5_common h0 h1) := by
  refine Z.metI (by decide +kernel) (fun h => ⟨rfl, rfl⟩) (L0 := [(0, zv h0), (1, zv h1)]) (by first | (rw [zla_v, zla_v, zla_0]; done) | (rw [zla_v, zla_v, zla_0]; rfl)) (by rw [zsl_v, zsl_v, zsl_0]; exact Nat.le_of_ble_eq_true rfl) ?_
  intro p e R s m args below meth c D A n0 sz k F
  have F : ZF p R s m args meth c cX5_common 2 "SafeBuckets$Span" "common" (some .int) D A false sz 0 0 1 21 := F
  unfold f_X5_common
  refine Z.iconst F (v := (0 : Int32)) (by decide) dX5_common_0 ?_
  refine Z.aload_n F 0 rfl dX5_common_1 ?_
  refine gfX5_7 F dX5_common_2 (fun g2 => ?_)
  refine Z.aload_n F 1 rfl dX5_common_5 ?_
  refine gfX5_7 F dX5_common_6 (fun g6 => ?_)
  refine Z.mmin F q1396 (Nat.le_of_ble_eq_true rfl) (Nat.le_of_ble_eq_true rfl) (zlw4 (Nat.le_of_ble_eq_true rfl)) dX5_common_9 ?_
  refine Z.aload_n F 0 rfl dX5_common_12 ?_
  refine gfX5_13 F dX5_common_13 (fun g13 => ?_)
  refine Z.aload_n F 1 rfl dX5_common_16 ?_
  refine gfX5_13 F dX5_common_17 (fun g17 => ?_)
  refine Z.mmax F q1397 (Nat.le_of_ble_eq_true rfl) (Nat.le_of_ble_eq_true rfl) (zlw4 (Nat.le_of_ble_eq_true rfl)) dX5_common_20 ?_
  refine Z.isub F dX5_common_23 ?_
  refine Z.iconst F (v := (1 : Int32)) (by decide) dX5_common_24 ?_
  refine Z.iadd F dX5_common_25 ?_
  refine Z.nmI (fun v25 => ?_)
  refine Z.mmax F q1397 (Nat.le_of_ble_eq_true rfl) (Nat.le_of_ble_eq_true rfl) (zlw4 (Nat.le_of_ble_eq_true rfl)) dX5_common_26 ?_
  exact Z.iret F dX5_common_29
theorem clX1_401 (F : ZF p R s m args meth c cc nL "SafeBuckets" nm ret D A al sz mc ms fr lo) {h0 : Nat} {h1 : Nat} {K : Int32 → ZM → Prop} (hR : 1 + 1 ≤ fr ∧ 8 + (2 + 11) + 21 ≤ lo) (hst4 : zlw st) (hdg : decode cc pc = .ok (.invokestatic 401, 3)) (k : ∀ r, ZW p l e R s m args below meth c Q nL D A al n0 (K r) (pc + 3) L (.int r :: st)) : ZW p l e R s m args below meth c Q nL D A al n0 (f_X5_common h0 h1 K) pc L (zv h1 :: zv h0 :: st) :=
  Z.ri0 _ (fun μ H locs cells slots ls hI h hP => Z.S0 F hI (n := 2) hP (k_X5_common l h0 h1 D A (zX μ, zC μ, zS μ) H.size K μ) q1393 q1394 q120 q1395 (by decide +kernel) rfl h.1 hst4 hR rfl hdg) k
theorem gfX1_407 (F : ZF p R s m args meth c cc nL "SafeBuckets" nm ret D A al sz mc ms fr lo) {z : Nat} {K : Int32 → ZM → Prop} (hdg : decode cc pc = .ok (.getfield 407, 3)) (k : ∀ u, ZW p l e R s m args below meth c Q nL D A al n0 (K u) (pc + 3) L (.int u :: st)) : ZW p l e R s m args below meth c Q nL D A al n0 (zgI 5 z 2 K) pc L (zv z :: st) :=
  Z.getI F (ref := "SafeBuckets$Bucket") in_X7 (ci := 4) rfl (by decide) (kf := 2) (by decide) q223 (fun x h => u_same (F.hts _ q220) x h) rfl hdg k
theorem gfX1_410 (F : ZF p R s m args meth c cc nL "SafeBuckets" nm ret D A al sz mc ms fr lo) {z : Nat} {K : Int32 → ZM → Prop} (hdg : decode cc pc = .ok (.getfield 410, 3)) (k : ∀ u, ZW p l e R s m args below meth c Q nL D A al n0 (K u) (pc + 3) L (.int u :: st)) : ZW p l e R s m args below meth c Q nL D A al n0 (zgI 5 z 3 K) pc L (zv z :: st) :=
  Z.getI F (ref := "SafeBuckets$Bucket") in_X7 (ci := 4) rfl (by decide) (kf := 3) (by decide) q229 (fun x h => u_same (F.hts _ q226) x h) rfl hdg k
theorem clX1_416 (F : ZF p R s m args meth c cc nL "SafeBuckets" nm ret D A al sz mc ms fr lo) {h0 : Nat} {K : Int32 → ZM → Prop} (hR : 1 + 1 ≤ fr ∧ 8 + (1 + 11) + 21 ≤ lo) (hst4 : zlw st) (hdg : decode cc pc = .ok (.invokevirtual 416, 3)) (k : ∀ r, ZW p l e R s m args below meth c Q nL D A al n0 (K r) (pc + 3) L (.int r :: st)) : ZW p l e R s m args below meth c Q nL D A al n0 (zat 5 h0 (f_X7_width h0 K)) pc L (zv h0 :: st) :=
  Z.ri0 _ (fun μ H locs cells slots ls hI h hP => Z.V0 F hI (n := 0) (ci := 4) rfl (by decide) hP.1 hP.2 (k_X7_width l h0 D A (zX μ, zC μ, zS μ) H.size K μ) q1401 q1176 q1177 q122 q1178 (by decide +kernel) rfl h.1 hst4 hR rfl hdg) k
set_option maxHeartbeats 4000000 in
theorem k_X1_joined (l : Launch) (h0 : Nat) (h1 : Nat) (x2 : Int32) : ZCl l yX1_joined (ws_ yX1_joined cX1_joined 13 (some .long)) 2 42 0 0 false [zv h0, zv h1, .int x2] (f_X1_joined h0 h1 x2) := by
  refine Z.metL (by decide +kernel) (fun h => ⟨rfl, rfl⟩) (L0 := [(0, zv h0), (1, zv h1), (2, .int x2)]) (by first | (rw [zla_v, zla_v, zla_i, zla_0]; done) | (rw [zla_v, zla_v, zla_i, zla_0]; rfl)) (by rw [zsl_v, zsl_v, zsl_i, zsl_0]; exact Nat.le_of_ble_eq_true rfl) ?_
  intro p e R s m args below meth c D A n0 sz k F
  have F : ZF p R s m args meth c cX1_joined 13 "SafeBuckets" "joined" (some .long) D A false sz 0 0 2 42 := F
  unfold f_X1_joined
  refine Z.lconst F (w := (0 : Int64)) (by decide) dX1_joined_0 ?_
  refine Z.lstore_n F (L0 := [(0, zv h0), (1, zv h1), (2, .int x2)]) [0, 1, 2] rfl (zmR rfl rfl  (zmR rfl rfl  (zmI rfl rfl  zmN))) (by decide) dX1_joined_1 ?_
  refine Z.iconst F (v := (0 : Int32)) (by decide) dX1_joined_2 ?_
  refine Z.istore F (L0 := [(3, .long (0 : Int64)), (0, zv h0), (1, zv h1), (2, .int x2)]) [0, 1, 2, 3] rfl (zkL rfl rfl (zkR rfl (zkR rfl (zkI rfl zkN)))) (by decide) dX1_joined_3 ?_
  refine Z.sub [2, 3, 4, 1, 0] rfl ?_
  refine Z.w2 (Lf := fun p5l3 p5l5 => [(0, zv h0), (1, zv h1), (2, .int x2), (3, .long p5l3), (5, .int p5l5)]) (sf := fun p5l3 p5l5 => []) (fun r5 hr5 p5l3 p5l5 => ?_) (0 : Int64) (0 : Int32)
  refine Z.iload F 4 rfl dX1_joined_5 ?_
  refine Z.aload_n F 0 rfl dX1_joined_7 ?_
  refine gfX1_246 F dX1_joined_8 (fun g8 => ?_)
  refine Z.icmp_ge F (tgt := 168) dX1_joined_11 (by decide) ?_ ?_
  · refine Z.lload_n F 3 rfl dX1_joined_168 ?_
    exact Z.lret F dX1_joined_169
  refine Z.iconst F (v := (0 : Int32)) (by decide) dX1_joined_14 ?_
  refine Z.istore F (L0 := [(0, zv h0), (1, zv h1), (2, .int x2), (3, .long p5l3), (5, .int p5l5)]) [0, 1, 2, 3, 4] rfl (zkR rfl (zkR rfl (zkI rfl (zkL rfl rfl (zkI rfl zkN))))) (by decide) dX1_joined_15 ?_
  refine Z.jn2 (J := _) (fun p162l3 p162l5 => [(0, zv h0), (1, zv h1), (2, .int x2), (3, .long p162l3), (5, .int p162l5)]) (fun p162l3 p162l5 => []) 162 (fun p162l3 p162l5 => ?_) (fun j162 hj162 => ?_)
  · refine Z.iinc F (L0 := [(0, zv h0), (1, zv h1), (2, .int x2), (3, .long p162l3)]) (k0 := 4) (v := (1 : Int32)) rfl (by decide) [0, 1, 2, 3] rfl (zkR rfl (zkR rfl (zkI rfl (zkL rfl rfl zkN)))) (by decide) dX1_joined_162 ?_
    refine Z.goto F (tgt := 5) dX1_joined_165 (by decide) ?_
    exact Z.sub [1, 2, 3, 4, 0] rfl (hr5 p162l3 (p162l5 + (1 : Int32)))
  refine Z.sub [1, 2, 3, 4, 5, 0] rfl ?_
  refine Z.w3 (Lf := fun p17l3 p17l5 p17l6 => [(0, zv h0), (1, zv h1), (2, .int x2), (3, .long p17l3), (5, .int p17l5), (6, .int p17l6)]) (sf := fun p17l3 p17l5 p17l6 => []) (fun r17 hr17 p17l3 p17l5 p17l6 => ?_) p5l3 p5l5 (0 : Int32)
  refine Z.iload F 5 rfl dX1_joined_17 ?_
  refine Z.aload_n F 1 rfl dX1_joined_19 ?_
  refine gfX1_246 F dX1_joined_20 (fun g20 => ?_)
  refine Z.icmp_ge F (tgt := 162) dX1_joined_23 (by decide) ?_ ?_
  · exact Z.sub [0, 1, 2, 3, 4] rfl (hj162 p17l3 p17l5)
  refine Z.aload_n F 0 rfl dX1_joined_26 ?_
  refine gfX1_249 F dX1_joined_27 (fun g27 => ?_)
  refine Z.iload F 4 rfl dX1_joined_30 ?_
  refine Z.aald F (t := 8) (by decide) rfl rfl dX1_joined_32 (fun g32 => ?_)
  refine Z.astore F (L0 := [(0, zv h0), (1, zv h1), (2, .int x2), (3, .long p17l3), (5, .int p17l5), (6, .int p17l6)]) [0, 1, 2, 3, 4, 5] rfl (zkR rfl (zkR rfl (zkI rfl (zkL rfl rfl (zkI rfl (zkI rfl zkN)))))) (by decide) dX1_joined_33 ?_
  refine Z.aload_n F 2 rfl dX1_joined_35 ?_
  refine gfX1_249 F dX1_joined_36 (fun g36 => ?_)
  refine Z.iload F 6 rfl dX1_joined_39 ?_
  refine Z.aald F (t := 8) (by decide) rfl rfl dX1_joined_41 (fun g41 => ?_)
  refine Z.astore F (L0 := [(7, zv g32), (0, zv h0), (1, zv h1), (2, .int x2), (3, .long p17l3), (5, .int p17l5), (6, .int p17l6)]) [0, 1, 2, 3, 4, 5, 6] rfl (zkR rfl (zkR rfl (zkR rfl (zkI rfl (zkL rfl rfl (zkI rfl (zkI rfl zkN))))))) (by decide) dX1_joined_42 ?_
  refine Z.aload F 1 rfl dX1_joined_44 ?_
  refine Z.aload F 0 rfl dX1_joined_46 ?_
  refine clX1_401 F ⟨Nat.le_of_ble_eq_true rfl, Nat.le_of_ble_eq_true rfl⟩ (zlw4 (Nat.le_of_ble_eq_true rfl)) dX1_joined_48 (fun r48 => ?_)
  refine Z.i2l F dX1_joined_51 ?_
  refine Z.lstore F (L0 := [(8, zv g41), (7, zv g32), (0, zv h0), (1, zv h1), (2, .int x2), (3, .long p17l3), (5, .int p17l5), (6, .int p17l6)]) [0, 1, 2, 3, 4, 5, 6, 7] rfl (zmR rfl rfl  (zmR rfl rfl  (zmR rfl rfl  (zmR rfl rfl  (zmI rfl rfl  (zmL rfl rfl rfl  (zmI rfl rfl  (zmI rfl rfl  zmN)))))))) (by decide) dX1_joined_52 ?_
  refine Z.lload F 0 rfl dX1_joined_54 ?_
  refine Z.lconst F (w := (0 : Int64)) (by decide) dX1_joined_56 ?_
  refine Z.lcmp F dX1_joined_57 ?_
  refine Z.jn1 (J := _) (fun p156l3 => [(0, zv h0), (1, zv h1), (2, .int x2), (3, .long p156l3), (5, .int p17l5), (6, .int p17l6)]) (fun p156l3 => []) 156 (fun p156l3 => ?_) (fun j156 hj156 => ?_)
  · refine Z.iinc F (L0 := [(0, zv h0), (1, zv h1), (2, .int x2), (3, .long p156l3), (5, .int p17l5)]) (k0 := 5) (v := (1 : Int32)) rfl (by decide) [0, 1, 2, 3, 4] rfl (zkR rfl (zkR rfl (zkI rfl (zkL rfl rfl (zkI rfl zkN))))) (by decide) dX1_joined_156 ?_
    refine Z.goto F (tgt := 17) dX1_joined_159 (by decide) ?_
    exact Z.sub [1, 2, 3, 4, 5, 0] rfl (hr17 p156l3 p17l5 (p17l6 + (1 : Int32)))
  refine Z.if_ne F (tgt := 64) dX1_joined_58 (by decide) ?_ ?_
  · refine Z.aload F 2 rfl dX1_joined_64 ?_
    refine gfX1_407 F dX1_joined_66 (fun g66 => ?_)
    refine Z.i2l F dX1_joined_69 ?_
    refine Z.aload F 1 rfl dX1_joined_70 ?_
    refine gfX1_410 F dX1_joined_72 (fun g72 => ?_)
    refine Z.i2l F dX1_joined_75 ?_
    refine Z.lmul F dX1_joined_76 ?_
    refine Z.aload F 1 rfl dX1_joined_77 ?_
    refine gfX1_407 F dX1_joined_79 (fun g79 => ?_)
    refine Z.i2l F dX1_joined_82 ?_
    refine Z.aload F 2 rfl dX1_joined_83 ?_
    refine gfX1_410 F dX1_joined_85 (fun g85 => ?_)
    refine Z.i2l F dX1_joined_88 ?_
    refine Z.lmul F dX1_joined_89 ?_
    refine Z.lmin F q1398 (Nat.le_of_ble_eq_true rfl) (Nat.le_of_ble_eq_true rfl) (zlw4 (Nat.le_of_ble_eq_true rfl)) dX1_joined_90 ?_
    refine Z.nmJ (fun v90 => ?_)
    refine Z.lstore F (L0 := [(9, .long r48.toInt64), (8, zv g41), (7, zv g32), (0, zv h0), (1, zv h1), (2, .int x2), (3, .long p17l3), (5, .int p17l5), (6, .int p17l6)]) [0, 1, 2, 3, 4, 5, 6, 7, 8] rfl (zmL rfl rfl rfl  (zmR rfl rfl  (zmR rfl rfl  (zmR rfl rfl  (zmR rfl rfl  (zmI rfl rfl  (zmL rfl rfl rfl  (zmI rfl rfl  (zmI rfl rfl  zmN))))))))) (by decide) dX1_joined_93 ?_
    refine Z.lload_n F 7 rfl dX1_joined_95 ?_
    refine Z.iload_n F 6 rfl dX1_joined_96 ?_
    refine Z.jn1 (J := _) (fun p154s1 => [(0, zv h0), (1, zv h1), (2, .int x2), (5, .int p17l5), (6, .int p17l6)]) (fun p154s1 => [.long p154s1, .long p17l3]) 154 (fun p154s1 => ?_) (fun j154 hj154 => ?_)
    · refine Z.ladd F dX1_joined_154 ?_
      refine Z.lstore_n F (L0 := [(0, zv h0), (1, zv h1), (2, .int x2), (5, .int p17l5), (6, .int p17l6)]) [0, 1, 2, 3, 4] rfl (zmR rfl rfl  (zmR rfl rfl  (zmI rfl rfl  (zmI rfl rfl  (zmI rfl rfl  zmN))))) (by decide) dX1_joined_155 ?_
      exact Z.sub [1, 2, 3, 0, 4, 5] rfl (hj156 (p17l3 + p154s1))
    refine Z.if_eq F (tgt := 124) dX1_joined_97 (by decide) ?_ ?_
    · refine Z.lload F 1 rfl dX1_joined_124 ?_
      refine Z.aload F 3 rfl dX1_joined_126 ?_
      refine gfX1_407 F dX1_joined_128 (fun g128 => ?_)
      refine Z.i2l F dX1_joined_131 ?_
      refine Z.lmul F dX1_joined_132 ?_
      refine Z.aload F 2 rfl dX1_joined_133 ?_
      refine gfX1_407 F dX1_joined_135 (fun g135 => ?_)
      refine Z.i2l F dX1_joined_138 ?_
      refine Z.lmul F dX1_joined_139 ?_
      refine Z.aload F 3 rfl dX1_joined_140 ?_
      refine clX1_416 F ⟨Nat.le_of_ble_eq_true rfl, Nat.le_of_ble_eq_true rfl⟩ (zlw4 (Nat.le_of_ble_eq_true rfl)) dX1_joined_142 (fun r142 => ?_)
      refine Z.i2l F dX1_joined_145 ?_
      refine Z.aload F 2 rfl dX1_joined_146 ?_
      refine clX1_416 F ⟨Nat.le_of_ble_eq_true rfl, Nat.le_of_ble_eq_true rfl⟩ (zlw4 (Nat.le_of_ble_eq_true rfl)) dX1_joined_148 (fun r148 => ?_)
      refine Z.i2l F dX1_joined_151 ?_
      refine Z.lmul F dX1_joined_152 ?_
      refine Z.ldiv F dX1_joined_153 ?_
      refine Z.nmJ (fun v153 => ?_)
      exact Z.sub [4, 5, 6, 8, 9] rfl (hj154 v153)
    refine Z.lload F 0 rfl dX1_joined_100 ?_
    refine Z.lload F 1 rfl dX1_joined_102 ?_
    refine Z.aload F 3 rfl dX1_joined_104 ?_
    refine gfX1_410 F dX1_joined_106 (fun g106 => ?_)
    refine Z.i2l F dX1_joined_109 ?_
    refine Z.lmul F dX1_joined_110 ?_
    refine Z.aload F 2 rfl dX1_joined_111 ?_
    refine gfX1_410 F dX1_joined_113 (fun g113 => ?_)
    refine Z.i2l F dX1_joined_116 ?_
    refine Z.lmul F dX1_joined_117 ?_
    refine Z.lmin F q1398 (Nat.le_of_ble_eq_true rfl) (Nat.le_of_ble_eq_true rfl) (zlw4 (Nat.le_of_ble_eq_true rfl)) dX1_joined_118 ?_
    refine Z.nmJ (fun v118 => ?_)
    refine Z.goto F (tgt := 154) dX1_joined_121 (by decide) ?_
    exact Z.sub [4, 5, 6, 8, 9] rfl (hj154 v118)
  refine Z.goto F (tgt := 156) dX1_joined_61 (by decide) ?_
  exact Z.sub [3, 4, 5, 6, 7, 8] rfl (hj156 p17l3)
set_option maxHeartbeats 4000000 in
theorem k_X1_truthOfJoin (l : Launch) (h0 : Nat) (x1 : Int32) (x2 : Int32) (x3 : Int32) (x4 : Int32) : ZClx l yX1_truthOfJoin (wsW_ yX1_truthOfJoin cX1_truthOfJoin 11 (some .long) [(22, 111, 124, 372), (126, 131, 134, 372), (11, 116, 146, 372), (124, 146, 146, 372), (148, 153, 156, 372)]) 3 68 2 4 true "SafeBuckets$TooLong" [zv h0, .int x1, .int x2, .int x3, .int x4] (fun k kx => f_X1_truthOfJoin h0 x1 x2 x3 x4 kx k) := by
  refine Z.metLWx (by decide +kernel) (fun h => by cases h) (L0 := [(0, zv h0), (1, .int x1), (2, .int x2), (3, .int x3), (4, .int x4)]) (by first | (rw [zla_v, zla_i, zla_i, zla_i, zla_i, zla_0]; done) | (rw [zla_v, zla_i, zla_i, zla_i, zla_i, zla_0]; rfl)) (by rw [zsl_v, zsl_i, zsl_i, zsl_i, zsl_i, zsl_0]; exact Nat.le_of_ble_eq_true rfl) ?_
  intro p e R s m args below meth c D A n0 sz k kx F htb
  have F : ZF p R s m args meth c cX1_truthOfJoin 11 "SafeBuckets" "truthOfJoin" (some .long) D A true sz 2 4 3 68 := F
  show ZW p l e R s m args below meth c _ _ D A _ _ (f_X1_truthOfJoin h0 x1 x2 x3 x4 kx k) _ _ _
  unfold f_X1_truthOfJoin
  refine Z.newO F in_X22 tyX22 tyX22_ok (ci := 16) rfl (by decide) q1229 q1230 q149 df_X22 dX1_truthOfJoin_0 (fun n0 => ?_)
  refine Z.dup F dX1_truthOfJoin_3 ?_
  refine Z.aload_n F 0 rfl dX1_truthOfJoin_4 ?_
  refine Z.iload_n F 1 rfl dX1_truthOfJoin_5 ?_
  refine clX1_357 F ⟨Nat.le_of_ble_eq_true rfl, Nat.le_of_ble_eq_true rfl⟩ (zlw4 (Nat.le_of_ble_eq_true rfl)) dX1_truthOfJoin_6 ?_
  refine Z.astore F (L0 := [(0, zv h0), (1, .int x1), (2, .int x2), (3, .int x3), (4, .int x4)]) [0, 1, 2, 3, 4] rfl (zkR rfl (zkI rfl (zkI rfl (zkI rfl (zkI rfl zkN))))) (by decide) dX1_truthOfJoin_9 ?_
  refine Z.newO F in_X22 tyX22 tyX22_ok (ci := 16) rfl (by decide) q1229 q1230 q149 df_X22 dX1_truthOfJoin_11 (fun n11 => ?_)
  refine Z.dup F dX1_truthOfJoin_14 ?_
  refine Z.aload_n F 1 rfl dX1_truthOfJoin_15 ?_
  refine Z.iload_n F 4 rfl dX1_truthOfJoin_16 ?_
  refine clX1_357 F ⟨Nat.le_of_ble_eq_true rfl, Nat.le_of_ble_eq_true rfl⟩ (zlw4 (Nat.le_of_ble_eq_true rfl)) dX1_truthOfJoin_17 ?_
  refine Z.astore F (L0 := [(5, zv n0), (0, zv h0), (1, .int x1), (2, .int x2), (3, .int x3), (4, .int x4)]) [0, 1, 2, 3, 4, 5] rfl (zkR rfl (zkR rfl (zkI rfl (zkI rfl (zkI rfl (zkI rfl zkN)))))) (by decide) dX1_truthOfJoin_20 ?_
  refine Z.lconst F (w := (0 : Int64)) (by decide) dX1_truthOfJoin_22 ?_
  refine Z.lstore F (L0 := [(6, zv n11), (5, zv n0), (0, zv h0), (1, .int x1), (2, .int x2), (3, .int x3), (4, .int x4)]) [0, 1, 2, 3, 4, 5, 6] rfl (zmR rfl rfl  (zmR rfl rfl  (zmR rfl rfl  (zmI rfl rfl  (zmI rfl rfl  (zmI rfl rfl  (zmI rfl rfl  zmN))))))) (by decide) dX1_truthOfJoin_23 ?_
  refine Z.iconst F (v := (0 : Int32)) (by decide) dX1_truthOfJoin_25 ?_
  refine Z.istore F (L0 := [(7, .long (0 : Int64)), (6, zv n11), (5, zv n0), (0, zv h0), (1, .int x1), (2, .int x2), (3, .int x3), (4, .int x4)]) [0, 1, 2, 3, 4, 5, 6, 7] rfl (zkL rfl rfl (zkR rfl (zkR rfl (zkR rfl (zkI rfl (zkI rfl (zkI rfl (zkI rfl zkN)))))))) (by decide) dX1_truthOfJoin_26 ?_
  refine Z.jn1 (J := _) (fun p124s0 => [(5, zv n0), (6, zv n11)]) (fun p124s0 => [zv p124s0]) 124 (fun p124s0 => ?_) (fun j124 hj124 => ?_)
  · refine Z.astore F (L0 := [(5, zv n0), (6, zv n11)]) [0, 1] rfl (zkR rfl (zkR rfl zkN)) (by decide) dX1_truthOfJoin_124 ?_
    refine Z.aload F 2 rfl dX1_truthOfJoin_126 ?_
    refine clX1_369 F ⟨Nat.le_of_ble_eq_true rfl, Nat.le_of_ble_eq_true rfl⟩ (zlw4 (Nat.le_of_ble_eq_true rfl)) dX1_truthOfJoin_128 ?_
    refine Z.goto F (tgt := 143) dX1_truthOfJoin_131 (by decide) ?_
    refine Z.aload F 0 rfl dX1_truthOfJoin_143 ?_
    refine Z.athrowC F (ci := 5) rfl (by decide) dX1_truthOfJoin_145 (Z.catch F (name := "java/lang/Throwable") ((tableOf [(22, 111, 124, 372), (126, 131, 134, 372), (11, 116, 146, 372), (124, 146, 146, 372), (148, 153, 156, 372)]).take 3) _ _ (htb.trans rfl) (by decide) (by decide) (by decide) q1228 (List.mem_of_getElem? (i := 2) rfl) (fun e145 => ?_))
    refine Z.astore F (L0 := [(7, zv p124s0), (5, zv n0)]) [0, 1] rfl (zkR rfl (zkR rfl zkN)) (by decide) dX1_truthOfJoin_146 ?_
    refine Z.aload F 2 rfl dX1_truthOfJoin_148 ?_
    refine clX1_369 F ⟨Nat.le_of_ble_eq_true rfl, Nat.le_of_ble_eq_true rfl⟩ (zlw4 (Nat.le_of_ble_eq_true rfl)) dX1_truthOfJoin_150 ?_
    refine Z.goto F (tgt := 165) dX1_truthOfJoin_153 (by decide) ?_
    refine Z.aload F 0 rfl dX1_truthOfJoin_165 ?_
    exact Z.athrow F (ci := 5) rfl (by decide) dX1_truthOfJoin_167 (Z.out F (by rw [htb]; decide))
  refine Z.jn1 (J := _) (fun p107l7 => [(5, zv n0), (6, zv n11), (7, .long p107l7)]) (fun p107l7 => []) 107 (fun p107l7 => ?_) (fun j107 hj107 => ?_)
  · refine Z.lload F 2 rfl dX1_truthOfJoin_107 ?_
    refine Z.lstore F (L0 := [(5, zv n0), (6, zv n11), (7, .long p107l7)]) [0, 1, 2] rfl (zmR rfl rfl  (zmR rfl rfl  (zmL rfl rfl rfl  zmN))) (by decide) dX1_truthOfJoin_109 ?_
    refine Z.aload F 2 rfl dX1_truthOfJoin_111 ?_
    refine clX1_369 F ⟨Nat.le_of_ble_eq_true rfl, Nat.le_of_ble_eq_true rfl⟩ (zlw4 (Nat.le_of_ble_eq_true rfl)) dX1_truthOfJoin_113 ?_
    refine Z.aload F 1 rfl dX1_truthOfJoin_116 ?_
    refine clX1_369 F ⟨Nat.le_of_ble_eq_true rfl, Nat.le_of_ble_eq_true rfl⟩ (zlw4 (Nat.le_of_ble_eq_true rfl)) dX1_truthOfJoin_118 ?_
    refine Z.lload F 0 rfl dX1_truthOfJoin_121 ?_
    exact Z.retx (Z.lret F dX1_truthOfJoin_123)
  refine Z.sub [4, 6, 8, 3, 2, 1, 0] rfl ?_
  refine Z.w2 (Lf := fun p28l7 p28l9 => [(0, zv h0), (2, .int x2), (4, .int x4), (5, zv n0), (6, zv n11), (7, .long p28l7), (9, .int p28l9)]) (sf := fun p28l7 p28l9 => []) (fun r28 hr28 p28l7 p28l9 => ?_) (0 : Int64) (0 : Int32)
  refine Z.iload F 6 rfl dX1_truthOfJoin_28 ?_
  refine Z.aload F 3 rfl dX1_truthOfJoin_30 ?_
  refine clX1_360 F ⟨Nat.le_of_ble_eq_true rfl, Nat.le_of_ble_eq_true rfl⟩ (zlw4 (Nat.le_of_ble_eq_true rfl)) dX1_truthOfJoin_32 (fun r32 => ?_)
  refine gfX1_164 F dX1_truthOfJoin_35 (fun g35 => ?_)
  refine Z.icmp_ge F (tgt := 107) dX1_truthOfJoin_38 (by decide) ?_ ?_
  · exact Z.sub [3, 4, 5] rfl (hj107 p28l7)
  refine Z.aload F 3 rfl dX1_truthOfJoin_41 ?_
  refine clX1_360 F ⟨Nat.le_of_ble_eq_true rfl, Nat.le_of_ble_eq_true rfl⟩ (zlw4 (Nat.le_of_ble_eq_true rfl)) dX1_truthOfJoin_43 (fun r43 => ?_)
  refine Z.iload_n F 1 rfl dX1_truthOfJoin_46 ?_
  refine Z.iload F 6 rfl dX1_truthOfJoin_47 ?_
  refine clX1_167 F ⟨Nat.le_of_ble_eq_true rfl, Nat.le_of_ble_eq_true rfl⟩ (zlw4 (Nat.le_of_ble_eq_true rfl)) dX1_truthOfJoin_49 (fun r49 => ?_)
  refine Z.istore F (L0 := [(0, zv h0), (2, .int x2), (4, .int x4), (5, zv n0), (6, zv n11), (7, .long p28l7), (9, .int p28l9)]) [0, 1, 2, 3, 4, 5, 6] rfl (zkR rfl (zkI rfl (zkI rfl (zkR rfl (zkR rfl (zkL rfl rfl (zkI rfl zkN))))))) (by decide) dX1_truthOfJoin_52 ?_
  refine Z.iload F 0 rfl dX1_truthOfJoin_54 ?_
  refine Z.jn1 (J := _) (fun p101l7 => [(0, zv h0), (2, .int x2), (4, .int x4), (5, zv n0), (6, zv n11), (7, .long p101l7), (9, .int p28l9)]) (fun p101l7 => []) 101 (fun p101l7 => ?_) (fun j101 hj101 => ?_)
  · refine Z.iinc F (L0 := [(0, zv h0), (2, .int x2), (4, .int x4), (5, zv n0), (6, zv n11), (7, .long p101l7)]) (k0 := 6) (v := (1 : Int32)) rfl (by decide) [0, 1, 2, 3, 4, 5] rfl (zkR rfl (zkI rfl (zkI rfl (zkR rfl (zkR rfl (zkL rfl rfl zkN)))))) (by decide) dX1_truthOfJoin_101 ?_
    refine Z.goto F (tgt := 28) dX1_truthOfJoin_104 (by decide) ?_
    exact Z.sub [1, 2, 3, 4, 5, 6, 0] rfl (hr28 p101l7 (p28l9 + (1 : Int32)))
  refine Z.if_ne F (tgt := 62) dX1_truthOfJoin_56 (by decide) ?_ ?_
  · refine Z.aload_n F 1 rfl dX1_truthOfJoin_62 ?_
    refine clX1_363 F ⟨Nat.le_of_ble_eq_true rfl, Nat.le_of_ble_eq_true rfl⟩ (zlw4 (Nat.le_of_ble_eq_true rfl)) dX1_truthOfJoin_63 (Z.catch F (name := "java/lang/Throwable") ((tableOf [(22, 111, 124, 372), (126, 131, 134, 372), (11, 116, 146, 372), (124, 146, 146, 372), (148, 153, 156, 372)]).take 0) _ _ (htb.trans rfl) (by decide) (by decide) (by decide) q1228 (List.mem_of_getElem? (i := 2) rfl) (fun e63 => ?_)) ?_
    · exact Z.sub [4, 5] rfl (hj124 e63)
    refine Z.iload F 7 rfl dX1_truthOfJoin_66 ?_
    refine Z.aload F 5 rfl dX1_truthOfJoin_68 ?_
    refine clX1_360 F ⟨Nat.le_of_ble_eq_true rfl, Nat.le_of_ble_eq_true rfl⟩ (zlw4 (Nat.le_of_ble_eq_true rfl)) dX1_truthOfJoin_70 (fun r70 => ?_)
    refine gfX1_164 F dX1_truthOfJoin_73 (fun g73 => ?_)
    refine Z.icmp_ge F (tgt := 101) dX1_truthOfJoin_76 (by decide) ?_ ?_
    · exact Z.sub [1, 2, 3, 4, 5, 6, 7] rfl (hj101 p28l7)
    refine Z.lload F 6 rfl dX1_truthOfJoin_79 ?_
    refine Z.iload F 0 rfl dX1_truthOfJoin_81 ?_
    refine Z.i2l F dX1_truthOfJoin_83 ?_
    refine Z.aload F 5 rfl dX1_truthOfJoin_84 ?_
    refine clX1_360 F ⟨Nat.le_of_ble_eq_true rfl, Nat.le_of_ble_eq_true rfl⟩ (zlw4 (Nat.le_of_ble_eq_true rfl)) dX1_truthOfJoin_86 (fun r86 => ?_)
    refine Z.iload F 3 rfl dX1_truthOfJoin_89 ?_
    refine Z.iload F 7 rfl dX1_truthOfJoin_91 ?_
    refine clX1_167 F ⟨Nat.le_of_ble_eq_true rfl, Nat.le_of_ble_eq_true rfl⟩ (zlw4 (Nat.le_of_ble_eq_true rfl)) dX1_truthOfJoin_93 (fun r93 => ?_)
    refine Z.i2l F dX1_truthOfJoin_96 ?_
    refine Z.lmul F dX1_truthOfJoin_97 ?_
    refine Z.ladd F dX1_truthOfJoin_98 ?_
    refine Z.lstore F (L0 := [(10, .int r49), (0, zv h0), (2, .int x2), (4, .int x4), (5, zv n0), (6, zv n11), (9, .int p28l9)]) [0, 1, 2, 3, 4, 5, 7] rfl (zmI rfl rfl  (zmR rfl rfl  (zmI rfl rfl  (zmI rfl rfl  (zmR rfl rfl  (zmR rfl rfl  (zmI rfl rfl  zmN))))))) (by decide) dX1_truthOfJoin_99 ?_
    exact Z.sub [2, 3, 4, 5, 6, 0, 7] rfl (hj101 (p28l7 + (r49.toInt64 * r93.toInt64)))
  refine Z.goto F (tgt := 101) dX1_truthOfJoin_59 (by decide) ?_
  exact Z.sub [1, 2, 3, 4, 5, 6, 7] rfl (hj101 p28l7)
end ZWalk
