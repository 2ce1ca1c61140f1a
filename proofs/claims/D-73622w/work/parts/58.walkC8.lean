section ZWalk
variable {p : Program} {l : Launch} {e : Env} {R : Room} {s : State} {m : MethodId} {args : Array Value} {below : List Frame} {meth : Method} {c : Code} {Q : State → Prop} {nL : Nat} {D : ZD} {A : Nat → Prop} {al : Bool} {n0 : Nat × Nat × Nat} {cc : ByteArray} {nm : String} {ret : Option FieldType} {sz mc ms fr lo : Nat}
variable {P : ZM → Prop} {pc : Nat} {L : List (Nat × Value)} {st : List Value}
theorem gfX1_344 (F : ZF p R s m args meth c cc nL "SafeBuckets" nm ret D A al sz mc ms fr lo) {z : Nat} {K : Int32 → ZM → Prop} (hdg : decode cc pc = .ok (.getfield 344, 3)) (k : ∀ u, ZW p l e R s m args below meth c Q nL D A al n0 (K u) (pc + 3) L (.int u :: st)) : ZW p l e R s m args below meth c Q nL D A al n0 (zgI 2 z 3 K) pc L (zv z :: st) :=
  Z.getIN F (ref := "SafeBuckets$State") in_X2 (ci := 1) rfl (by decide) (kf := 3) (by decide) (host := "SafeBuckets") (List.mem_of_getElem? (i := 15) rfl) (fun _ h => h) rfl hdg k
theorem gfX1_347 (F : ZF p R s m args meth c cc nL "SafeBuckets" nm ret D A al sz mc ms fr lo) {z : Nat} {K : Nat → ZM → Prop} (hdg : decode cc pc = .ok (.getfield 347, 3)) (k : ∀ u, ZW p l e R s m args below meth c Q nL D A al n0 (K u) (pc + 3) L (zv u :: st)) : ZW p l e R s m args below meth c Q nL D A al n0 (zgR 2 z 1 K) pc L (zv z :: st) :=
  Z.getRN F (ref := "SafeBuckets$State") in_X2 (ci := 1) rfl (by decide) (kf := 1) (by decide) (host := "SafeBuckets") (List.mem_of_getElem? (i := 16) rfl) (fun _ h => h) rfl hdg k
set_option maxHeartbeats 4000000 in
theorem k_X1_log (l : Launch) (h0 : Nat) (x1 : Int32) (x2 : Int32) : ZCi l yX1_log (ws_ yX1_log cX1_log 3 (some .int)) 1 25 0 0 false [zv h0, .int x1, .int x2] (f_X1_log h0 x1 x2) := by
  refine Z.metI (by decide +kernel) (fun h => ⟨rfl, rfl⟩) (L0 := [(0, zv h0), (1, .int x1), (2, .int x2)]) (by first | (rw [zla_v, zla_i, zla_i, zla_0]; done) | (rw [zla_v, zla_i, zla_i, zla_0]; rfl)) (by rw [zsl_v, zsl_i, zsl_i, zsl_0]; exact Nat.le_of_ble_eq_true rfl) ?_
  intro p e R s m args below meth c D A n0 sz k F
  have F : ZF p R s m args meth c cX1_log 3 "SafeBuckets" "log" (some .int) D A false sz 0 0 1 25 := F
  unfold f_X1_log
  refine Z.aload_n F 0 rfl dX1_log_0 ?_
  refine gfX1_93 F dX1_log_1 (fun g1 => ?_)
  refine Z.jn0 (J := _) ([]) ([]) 38 (?_) (fun j38 hj38 => ?_)
  · refine Z.ldcI F q916 dX1_log_38 ?_
    exact Z.iret F dX1_log_40
  refine Z.ifnull F (tgt := 38) dX1_log_4 (by decide) ?_ ?_
  · exact Z.sub [] rfl (hj38)
  refine Z.iload_n F 1 rfl dX1_log_7 ?_
  refine Z.i2l F dX1_log_8 ?_
  refine Z.lconst F (w := (0 : Int64)) (by decide) dX1_log_9 ?_
  refine Z.aload_n F 0 rfl dX1_log_10 ?_
  refine gfX1_59 F dX1_log_11 (fun g11 => ?_)
  refine gfX1_344 F dX1_log_14 (fun g14 => ?_)
  refine Z.iconst F (v := (1 : Int32)) (by decide) dX1_log_17 ?_
  refine Z.isub F dX1_log_18 ?_
  refine Z.i2l F dX1_log_19 ?_
  refine clX1_97 F ⟨Nat.le_of_ble_eq_true rfl, Nat.le_of_ble_eq_true rfl⟩ (zlw4 (Nat.le_of_ble_eq_true rfl)) dX1_log_20 (fun r20 => ?_)
  refine Z.if_eq F (tgt := 38) dX1_log_23 (by decide) ?_ ?_
  · exact Z.sub [] rfl (hj38)
  refine Z.iload_n F 2 rfl dX1_log_26 ?_
  refine Z.i2l F dX1_log_27 ?_
  refine Z.lconst F (w := (0 : Int64)) (by decide) dX1_log_28 ?_
  refine Z.ldc2 F q929 dX1_log_29 ?_
  refine clX1_97 F ⟨Nat.le_of_ble_eq_true rfl, Nat.le_of_ble_eq_true rfl⟩ (zlw4 (Nat.le_of_ble_eq_true rfl)) dX1_log_32 (fun r32 => ?_)
  refine Z.if_ne F (tgt := 41) dX1_log_35 (by decide) ?_ ?_
  · refine Z.aload_n F 0 rfl dX1_log_41 ?_
    refine gfX1_59 F dX1_log_42 (fun g42 => ?_)
    refine gfX1_347 F dX1_log_45 (fun g45 => ?_)
    refine Z.iconst F (v := (3 : Int32)) (by decide) dX1_log_48 ?_
    refine Z.aload_n F 0 rfl dX1_log_49 ?_
    refine gfX1_59 F dX1_log_50 (fun g50 => ?_)
    refine gfX1_344 F dX1_log_53 (fun g53 => ?_)
    refine Z.iconst F (v := (1 : Int32)) (by decide) dX1_log_56 ?_
    refine Z.isub F dX1_log_57 ?_
    refine Z.iload_n F 1 rfl dX1_log_58 ?_
    refine Z.isub F dX1_log_59 ?_
    refine Z.imul F dX1_log_60 ?_
    refine Z.iload_n F 2 rfl dX1_log_61 ?_
    refine Z.iadd F dX1_log_62 ?_
    refine Z.iald F dX1_log_63 (fun g63 => ?_)
    exact Z.iret F dX1_log_64
  exact Z.sub [] rfl (hj38)
set_option maxHeartbeats 4000000 in
theorem k_X1_isWhere (l : Launch) (h0 : Nat) (x1 : Int32) : ZCi l yX1_isWhere (ws_ yX1_isWhere cX1_isWhere 2 (some .boolean)) 1 25 0 0 false [zv h0, .int x1] (f_X1_isWhere h0 x1) := by
  refine Z.metZ (by decide +kernel) (fun h => ⟨rfl, rfl⟩) (L0 := [(0, zv h0), (1, .int x1)]) (by first | (rw [zla_v, zla_i, zla_0]; done) | (rw [zla_v, zla_i, zla_0]; rfl)) (by rw [zsl_v, zsl_i, zsl_0]; exact Nat.le_of_ble_eq_true rfl) ?_
  intro p e R s m args below meth c D A n0 sz k F
  have F : ZF p R s m args meth c cX1_isWhere 2 "SafeBuckets" "isWhere" (some .boolean) D A false sz 0 0 1 25 := F
  unfold f_X1_isWhere
  refine Z.iload_n F 1 rfl dX1_isWhere_0 ?_
  refine Z.i2l F dX1_isWhere_1 ?_
  refine Z.lconst F (w := (0 : Int64)) (by decide) dX1_isWhere_2 ?_
  refine Z.aload_n F 0 rfl dX1_isWhere_3 ?_
  refine gfX1_123 F dX1_isWhere_4 (fun g4 => ?_)
  refine Z.iconst F (v := (1 : Int32)) (by decide) dX1_isWhere_7 ?_
  refine Z.isub F dX1_isWhere_8 ?_
  refine Z.i2l F dX1_isWhere_9 ?_
  refine clX1_97 F ⟨Nat.le_of_ble_eq_true rfl, Nat.le_of_ble_eq_true rfl⟩ (zlw4 (Nat.le_of_ble_eq_true rfl)) dX1_isWhere_10 (fun r10 => ?_)
  exact Z.zret F dX1_isWhere_13
theorem clX3_54 (F : ZF p R s m args meth c cc nL "SafeBuckets$Sheet" nm ret D A al sz mc ms fr lo) {h0 : Nat} {x1 : Int32} {x2 : Int32} {K : Int32 → ZM → Prop} (hR : 2 + 1 ≤ fr ∧ 8 + (5 + 11) + 44 ≤ lo) (hst4 : zlw st) (hdg : decode cc pc = .ok (.invokevirtual 54, 3)) (k : ∀ r, ZW p l e R s m args below meth c Q nL D A al n0 (K r) (pc + 3) L (.int r :: st)) : ZW p l e R s m args below meth c Q nL D A al n0 (zat 3 h0 (f_X3_count h0 x1 x2 K)) pc L (.int x2 :: .int x1 :: zv h0 :: st) :=
  Z.ri0 _ (fun μ H locs cells slots ls hI h hP => Z.V0 F hI (n := 2) (ci := 2) rfl (by decide) hP.1 hP.2 (k_X3_count l h0 x1 x2 D A (zX μ, zC μ, zS μ) H.size K μ) q1151 q893 q894 q118 q895 (by decide +kernel) rfl h.1 hst4 hR rfl hdg) k
set_option maxHeartbeats 4000000 in
theorem k_X3_missing (l : Launch) (h0 : Nat) (x1 : Int32) : ZCi l yX3_missing (ws_ yX3_missing cX3_missing 2 (some .int)) 3 68 0 0 false [zv h0, .int x1] (f_X3_missing h0 x1) := by
  refine Z.metI (by decide +kernel) (fun h => ⟨rfl, rfl⟩) (L0 := [(0, zv h0), (1, .int x1)]) (by first | (rw [zla_v, zla_i, zla_0]; done) | (rw [zla_v, zla_i, zla_0]; rfl)) (by rw [zsl_v, zsl_i, zsl_0]; exact Nat.le_of_ble_eq_true rfl) ?_
  intro p e R s m args below meth c D A n0 sz k F
  have F : ZF p R s m args meth c cX3_missing 2 "SafeBuckets$Sheet" "missing" (some .int) D A false sz 0 0 3 68 := F
  unfold f_X3_missing
  refine Z.aload_n F 0 rfl dX3_missing_0 ?_
  refine Z.iload_n F 1 rfl dX3_missing_1 ?_
  refine Z.iconst F (v := (-1 : Int32)) (by decide) dX3_missing_2 ?_
  refine clX3_54 F ⟨Nat.le_of_ble_eq_true rfl, Nat.le_of_ble_eq_true rfl⟩ (zlw4 (Nat.le_of_ble_eq_true rfl)) dX3_missing_3 (fun r3 => ?_)
  exact Z.iret F dX3_missing_6
set_option maxHeartbeats 4000000 in
theorem k_X23_holds (l : Launch) (h0 : Nat) (x1 : Int32) (x2 : Int32) : ZCiU l yX23_holds cX23_holds 3 (some .boolean) [zv h0, .int x1, .int x2] (f_X23_holds h0 x1 x2) := by
  refine Z.metZU (L0 := [(0, zv h0), (1, .int x1), (2, .int x2)]) (by first | (rw [zla_v, zla_i, zla_i, zla_0]; done) | (rw [zla_v, zla_i, zla_i, zla_0]; rfl)) (by rw [zsl_v, zsl_i, zsl_i, zsl_0]; exact Nat.le_of_ble_eq_true rfl) ?_
  intro p e R s m args below meth c D A n0 sz k F
  have F : ZF p R s m args meth c cX23_holds 3 "SafeBuckets$Sign$1" "holds" (some .boolean) D A false sz 0 0 0 0 := F
  unfold f_X23_holds
  refine Z.iload_n F 1 rfl dX23_holds_0 ?_
  refine Z.iload_n F 2 rfl dX23_holds_1 ?_
  refine Z.jn1 (J := _) (fun p10s0 => []) (fun p10s0 => [.int p10s0]) 10 (fun p10s0 => ?_) (fun j10 hj10 => ?_)
  · exact Z.zret F dX23_holds_10
  refine Z.icmp_ne F (tgt := 9) dX23_holds_2 (by decide) ?_ ?_
  · refine Z.iconst F (v := (0 : Int32)) (by decide) dX23_holds_9 ?_
    exact Z.sub [] rfl (hj10 (0 : Int32))
  refine Z.iconst F (v := (1 : Int32)) (by decide) dX23_holds_5 ?_
  refine Z.goto F (tgt := 10) dX23_holds_6 (by decide) ?_
  exact Z.sub [] rfl (hj10 (1 : Int32))
set_option maxHeartbeats 4000000 in
theorem k_X24_holds (l : Launch) (h0 : Nat) (x1 : Int32) (x2 : Int32) : ZCiU l yX24_holds cX24_holds 3 (some .boolean) [zv h0, .int x1, .int x2] (f_X24_holds h0 x1 x2) := by
  refine Z.metZU (L0 := [(0, zv h0), (1, .int x1), (2, .int x2)]) (by first | (rw [zla_v, zla_i, zla_i, zla_0]; done) | (rw [zla_v, zla_i, zla_i, zla_0]; rfl)) (by rw [zsl_v, zsl_i, zsl_i, zsl_0]; exact Nat.le_of_ble_eq_true rfl) ?_
  intro p e R s m args below meth c D A n0 sz k F
  have F : ZF p R s m args meth c cX24_holds 3 "SafeBuckets$Sign$2" "holds" (some .boolean) D A false sz 0 0 0 0 := F
  unfold f_X24_holds
  refine Z.iload_n F 1 rfl dX24_holds_0 ?_
  refine Z.iconst F (v := (-1 : Int32)) (by decide) dX24_holds_1 ?_
  refine Z.jn1 (J := _) (fun p15s0 => []) (fun p15s0 => [.int p15s0]) 15 (fun p15s0 => ?_) (fun j15 hj15 => ?_)
  · exact Z.zret F dX24_holds_15
  refine Z.jn0 (J := _) ([]) ([]) 14 (?_) (fun j14 hj14 => ?_)
  · refine Z.iconst F (v := (0 : Int32)) (by decide) dX24_holds_14 ?_
    exact Z.sub [] rfl (hj15 (0 : Int32))
  refine Z.icmp_eq F (tgt := 14) dX24_holds_2 (by decide) ?_ ?_
  · exact Z.sub [] rfl (hj14)
  refine Z.iload_n F 1 rfl dX24_holds_5 ?_
  refine Z.iload_n F 2 rfl dX24_holds_6 ?_
  refine Z.icmp_ge F (tgt := 14) dX24_holds_7 (by decide) ?_ ?_
  · exact Z.sub [] rfl (hj14)
  refine Z.iconst F (v := (1 : Int32)) (by decide) dX24_holds_10 ?_
  refine Z.goto F (tgt := 15) dX24_holds_11 (by decide) ?_
  exact Z.sub [] rfl (hj15 (1 : Int32))
set_option maxHeartbeats 4000000 in
theorem k_X25_holds (l : Launch) (h0 : Nat) (x1 : Int32) (x2 : Int32) : ZCiU l yX25_holds cX25_holds 3 (some .boolean) [zv h0, .int x1, .int x2] (f_X25_holds h0 x1 x2) := by
  refine Z.metZU (L0 := [(0, zv h0), (1, .int x1), (2, .int x2)]) (by first | (rw [zla_v, zla_i, zla_i, zla_0]; done) | (rw [zla_v, zla_i, zla_i, zla_0]; rfl)) (by rw [zsl_v, zsl_i, zsl_i, zsl_0]; exact Nat.le_of_ble_eq_true rfl) ?_
  intro p e R s m args below meth c D A n0 sz k F
  have F : ZF p R s m args meth c cX25_holds 3 "SafeBuckets$Sign$3" "holds" (some .boolean) D A false sz 0 0 0 0 := F
  unfold f_X25_holds
  refine Z.iload_n F 1 rfl dX25_holds_0 ?_
  refine Z.iload_n F 2 rfl dX25_holds_1 ?_
  refine Z.jn1 (J := _) (fun p10s0 => []) (fun p10s0 => [.int p10s0]) 10 (fun p10s0 => ?_) (fun j10 hj10 => ?_)
  · exact Z.zret F dX25_holds_10
  refine Z.icmp_le F (tgt := 9) dX25_holds_2 (by decide) ?_ ?_
  · refine Z.iconst F (v := (0 : Int32)) (by decide) dX25_holds_9 ?_
    exact Z.sub [] rfl (hj10 (0 : Int32))
  refine Z.iconst F (v := (1 : Int32)) (by decide) dX25_holds_5 ?_
  refine Z.goto F (tgt := 10) dX25_holds_6 (by decide) ?_
  exact Z.sub [] rfl (hj10 (1 : Int32))
set_option maxHeartbeats 4000000 in
theorem k_X26_holds (l : Launch) (h0 : Nat) (x1 : Int32) (x2 : Int32) : ZCiU l yX26_holds cX26_holds 3 (some .boolean) [zv h0, .int x1, .int x2] (f_X26_holds h0 x1 x2) := by
  refine Z.metZU (L0 := [(0, zv h0), (1, .int x1), (2, .int x2)]) (by first | (rw [zla_v, zla_i, zla_i, zla_0]; done) | (rw [zla_v, zla_i, zla_i, zla_0]; rfl)) (by rw [zsl_v, zsl_i, zsl_i, zsl_0]; exact Nat.le_of_ble_eq_true rfl) ?_
  intro p e R s m args below meth c D A n0 sz k F
  have F : ZF p R s m args meth c cX26_holds 3 "SafeBuckets$Sign$4" "holds" (some .boolean) D A false sz 0 0 0 0 := F
  unfold f_X26_holds
  refine Z.iload_n F 1 rfl dX26_holds_0 ?_
  refine Z.iconst F (v := (-1 : Int32)) (by decide) dX26_holds_1 ?_
  refine Z.jn1 (J := _) (fun p10s0 => []) (fun p10s0 => [.int p10s0]) 10 (fun p10s0 => ?_) (fun j10 hj10 => ?_)
  · exact Z.zret F dX26_holds_10
  refine Z.icmp_ne F (tgt := 9) dX26_holds_2 (by decide) ?_ ?_
  · refine Z.iconst F (v := (0 : Int32)) (by decide) dX26_holds_9 ?_
    exact Z.sub [] rfl (hj10 (0 : Int32))
  refine Z.iconst F (v := (1 : Int32)) (by decide) dX26_holds_5 ?_
  refine Z.goto F (tgt := 10) dX26_holds_6 (by decide) ?_
  exact Z.sub [] rfl (hj10 (1 : Int32))
theorem gfX21_29 (F : ZF p R s m args meth c cc nL "SafeBuckets$Unit" nm ret D A al sz mc ms fr lo) {z : Nat} {K : Int32 → ZM → Prop} (hdg : decode cc pc = .ok (.getfield 29, 3)) (k : ∀ u, ZW p l e R s m args below meth c Q nL D A al n0 (K u) (pc + 3) L (.int u :: st)) : ZW p l e R s m args below meth c Q nL D A al n0 (zgI 5 z 0 K) pc L (zv z :: st) :=
  Z.getI F (ref := "SafeBuckets$Bucket") in_X7 (ci := 4) rfl (by decide) (kf := 0) (by decide) q233 (fun x h => u_same (F.hts _ q232) x h) rfl hdg k
theorem gfX21_34 (F : ZF p R s m args meth c cc nL "SafeBuckets$Unit" nm ret D A al sz mc ms fr lo) {z : Nat} {K : Int32 → ZM → Prop} (hdg : decode cc pc = .ok (.getfield 34, 3)) (k : ∀ u, ZW p l e R s m args below meth c Q nL D A al n0 (K u) (pc + 3) L (.int u :: st)) : ZW p l e R s m args below meth c Q nL D A al n0 (zgI 5 z 1 K) pc L (zv z :: st) :=
  Z.getI F (ref := "SafeBuckets$Bucket") in_X7 (ci := 4) rfl (by decide) (kf := 1) (by decide) q240 (fun x h => u_same (F.hts _ q238) x h) rfl hdg k
theorem sgX21_25_0 (F : ZF p R s m args meth c cc nL "SafeBuckets$Unit" nm ret D A al sz mc ms fr lo) {z : Nat} {x1 x2 : Int32} {K : Int32 → ZM → Prop} (hR : 1 ≤ fr ∧ 8 + (3 + 11) ≤ lo) (hst4 : zlw st) (hdg : decode cc pc = .ok (.invokevirtual 25, 3)) (k : ∀ r, ZW p l e R s m args below meth c Q nL D A al n0 (K r) (pc + 3) L (.int r :: st)) : ZW p l e R s m args below meth c Q nL D A al n0 (zis z 0 (f_X23_holds z x1 x2 K)) pc L (.int x2 :: .int x1 :: zv z :: st) :=
  Z.sgnHU F F.hS.2.2.2.1.1 (n := 2) (As := [.int x1, .int x2]) (k_X23_holds l z x1 x2) (owner := "SafeBuckets$Sign") (by decide +kernel) q1156 q1158 q1159 q1160 q1161 (List.mem_of_getElem? (i := 6) rfl) (by decide +kernel) rfl hst4 hR rfl hdg k
theorem sgX21_25_1 (F : ZF p R s m args meth c cc nL "SafeBuckets$Unit" nm ret D A al sz mc ms fr lo) {z : Nat} {x1 x2 : Int32} {K : Int32 → ZM → Prop} (hR : 1 ≤ fr ∧ 8 + (3 + 11) ≤ lo) (hst4 : zlw st) (hdg : decode cc pc = .ok (.invokevirtual 25, 3)) (k : ∀ r, ZW p l e R s m args below meth c Q nL D A al n0 (K r) (pc + 3) L (.int r :: st)) : ZW p l e R s m args below meth c Q nL D A al n0 (zis z 1 (f_X24_holds z x1 x2 K)) pc L (.int x2 :: .int x1 :: zv z :: st) :=
  Z.sgnHU F F.hS.2.2.2.1.2.1 (n := 2) (As := [.int x1, .int x2]) (k_X24_holds l z x1 x2) (owner := "SafeBuckets$Sign") (by decide +kernel) q1156 q1158 q1162 q1163 q1164 (List.mem_of_getElem? (i := 6) rfl) (by decide +kernel) rfl hst4 hR rfl hdg k
theorem sgX21_25_2 (F : ZF p R s m args meth c cc nL "SafeBuckets$Unit" nm ret D A al sz mc ms fr lo) {z : Nat} {x1 x2 : Int32} {K : Int32 → ZM → Prop} (hR : 1 ≤ fr ∧ 8 + (3 + 11) ≤ lo) (hst4 : zlw st) (hdg : decode cc pc = .ok (.invokevirtual 25, 3)) (k : ∀ r, ZW p l e R s m args below meth c Q nL D A al n0 (K r) (pc + 3) L (.int r :: st)) : ZW p l e R s m args below meth c Q nL D A al n0 (zis z 2 (f_X25_holds z x1 x2 K)) pc L (.int x2 :: .int x1 :: zv z :: st) :=
  Z.sgnHU F F.hS.2.2.2.1.2.2.1 (n := 2) (As := [.int x1, .int x2]) (k_X25_holds l z x1 x2) (owner := "SafeBuckets$Sign") (by decide +kernel) q1156 q1158 q1165 q1166 q1167 (List.mem_of_getElem? (i := 6) rfl) (by decide +kernel) rfl hst4 hR rfl hdg k
theorem sgX21_25_3 (F : ZF p R s m args meth c cc nL "SafeBuckets$Unit" nm ret D A al sz mc ms fr lo) {z : Nat} {x1 x2 : Int32} {K : Int32 → ZM → Prop} (hR : 1 ≤ fr ∧ 8 + (3 + 11) ≤ lo) (hst4 : zlw st) (hdg : decode cc pc = .ok (.invokevirtual 25, 3)) (k : ∀ r, ZW p l e R s m args below meth c Q nL D A al n0 (K r) (pc + 3) L (.int r :: st)) : ZW p l e R s m args below meth c Q nL D A al n0 (zis z 3 (f_X26_holds z x1 x2 K)) pc L (.int x2 :: .int x1 :: zv z :: st) :=
  Z.sgnHU F F.hS.2.2.2.1.2.2.2 (n := 2) (As := [.int x1, .int x2]) (k_X26_holds l z x1 x2) (owner := "SafeBuckets$Sign") (by decide +kernel) q1156 q1158 q1168 q1169 q1170 (List.mem_of_getElem? (i := 6) rfl) (by decide +kernel) rfl hst4 hR rfl hdg k
set_option maxHeartbeats 4000000 in
theorem k_X21_many (l : Launch) (h0 : Nat) (h1 : Nat) : ZCi l yX21_many (ws_ yX21_many cX21_many 4 (some .int)) 1 22 0 0 false [zv h0, zv h1] (f_X21_many h0 h1) := by
  refine Z.metI (by decide +kernel) (fun h => ⟨rfl, rfl⟩) (L0 := [(0, zv h0), (1, zv h1)]) (by first | (rw [zla_v, zla_v, zla_0]; done) | (rw [zla_v, zla_v, zla_0]; rfl)) (by rw [zsl_v, zsl_v, zsl_0]; exact Nat.le_of_ble_eq_true rfl) ?_
  intro p e R s m args below meth c D A n0 sz k F
  have F : ZF p R s m args meth c cX21_many 4 "SafeBuckets$Unit" "many" (some .int) D A false sz 0 0 1 22 := F
  unfold f_X21_many
  refine Z.iconst F (v := (0 : Int32)) (by decide) dX21_many_0 ?_
  refine Z.istore_n F (L0 := [(0, zv h0), (1, zv h1)]) [0, 1] rfl (zkR rfl (zkR rfl zkN)) (by decide) dX21_many_1 ?_
  refine Z.aload_n F 2 rfl dX21_many_2 ?_
  refine gfX21_29 F dX21_many_3 (fun g3 => ?_)
  refine Z.istore_n F (L0 := [(2, .int (0 : Int32)), (0, zv h0), (1, zv h1)]) [0, 1, 2] rfl (zkI rfl (zkR rfl (zkR rfl zkN))) (by decide) dX21_many_6 ?_
  refine Z.sub [2, 3, 1, 0] rfl ?_
  refine Z.w2 (Lf := fun p7l2 p7l3 => [(0, zv h0), (1, zv h1), (2, .int p7l2), (3, .int p7l3)]) (sf := fun p7l2 p7l3 => []) (fun r7 hr7 p7l2 p7l3 => ?_) (0 : Int32) g3
  refine Z.iload_n F 3 rfl dX21_many_7 ?_
  refine Z.aload_n F 1 rfl dX21_many_8 ?_
  refine gfX21_34 F dX21_many_9 (fun g9 => ?_)
  refine Z.icmp_gt F (tgt := 44) dX21_many_12 (by decide) ?_ ?_
  · refine Z.iload_n F 2 rfl dX21_many_44 ?_
    exact Z.iret F dX21_many_45
  refine Z.iload_n F 2 rfl dX21_many_15 ?_
  refine Z.aload_n F 0 rfl dX21_many_16 ?_
  refine gfX21_15 F dX21_many_17 (fun g17 => ?_)
  refine Z.iload_n F 3 rfl dX21_many_20 ?_
  refine Z.aload_n F 0 rfl dX21_many_21 ?_
  refine gfX21_19 F dX21_many_22 (fun g22 => ?_)
  refine Z.jn1 (J := _) (fun r25 => [(0, zv h0), (1, zv h1), (2, .int p7l2), (3, .int p7l3)]) (fun r25 => [.int r25, .int p7l2]) 28 (fun r25 => ?_) (fun j25r hj25r => ?_)
  · refine Z.jn1 (J := _) (fun p36s1 => [(0, zv h0), (1, zv h1), (3, .int p7l3)]) (fun p36s1 => [.int p36s1, .int p7l2]) 36 (fun p36s1 => ?_) (fun j36 hj36 => ?_)
    · refine Z.iadd F dX21_many_36 ?_
      refine Z.istore_n F (L0 := [(0, zv h0), (1, zv h1), (3, .int p7l3)]) [0, 1, 2] rfl (zkR rfl (zkR rfl (zkI rfl zkN))) (by decide) dX21_many_37 ?_
      refine Z.iinc F (L0 := [(2, .int (p7l2 + p36s1)), (0, zv h0), (1, zv h1)]) (k0 := 3) (v := (1 : Int32)) rfl (by decide) [0, 1, 2] rfl (zkI rfl (zkR rfl (zkR rfl zkN))) (by decide) dX21_many_38 ?_
      refine Z.goto F (tgt := 7) dX21_many_41 (by decide) ?_
      exact Z.sub [2, 3, 1, 0] rfl (hr7 (p7l2 + p36s1) (p7l3 + (1 : Int32)))
    refine Z.if_eq F (tgt := 35) dX21_many_28 (by decide) ?_ ?_
    · refine Z.iconst F (v := (0 : Int32)) (by decide) dX21_many_35 ?_
      exact Z.sub [0, 1, 3] rfl (hj36 (0 : Int32))
    refine Z.iconst F (v := (1 : Int32)) (by decide) dX21_many_31 ?_
    refine Z.goto F (tgt := 36) dX21_many_32 (by decide) ?_
    exact Z.sub [0, 1, 3] rfl (hj36 (1 : Int32))
  exact Z.or (sgX21_25_0 F ⟨Nat.le_of_ble_eq_true rfl, Nat.le_of_ble_eq_true rfl⟩ (zlw4 (Nat.le_of_ble_eq_true rfl)) dX21_many_25 hj25r) (Z.or (sgX21_25_1 F ⟨Nat.le_of_ble_eq_true rfl, Nat.le_of_ble_eq_true rfl⟩ (zlw4 (Nat.le_of_ble_eq_true rfl)) dX21_many_25 hj25r) (Z.or (sgX21_25_2 F ⟨Nat.le_of_ble_eq_true rfl, Nat.le_of_ble_eq_true rfl⟩ (zlw4 (Nat.le_of_ble_eq_true rfl)) dX21_many_25 hj25r) (sgX21_25_3 F ⟨Nat.le_of_ble_eq_true rfl, Nat.le_of_ble_eq_true rfl⟩ (zlw4 (Nat.le_of_ble_eq_true rfl)) dX21_many_25 hj25r)))
theorem gfX5_7 (F : ZF p R s m args meth c cc nL "SafeBuckets$Span" nm ret D A al sz mc ms fr lo) {z : Nat} {K : Int32 → ZM → Prop} (hdg : decode cc pc = .ok (.getfield 7, 3)) (k : ∀ u, ZW p l e R s m args below meth c Q nL D A al n0 (K u) (pc + 3) L (.int u :: st)) : ZW p l e R s m args below meth c Q nL D A al n0 (zgI 5 z 1 K) pc L (zv z :: st) :=
  Z.getI F (ref := "SafeBuckets$Span") in_X7 (ci := 4) rfl (by decide) (kf := 1) (by decide) q236 (fun _ h => h) rfl hdg k
theorem gfX5_13 (F : ZF p R s m args meth c cc nL "SafeBuckets$Span" nm ret D A al sz mc ms fr lo) {z : Nat} {K : Int32 → ZM → Prop} (hdg : decode cc pc = .ok (.getfield 13, 3)) (k : ∀ u, ZW p l e R s m args below meth c Q nL D A al n0 (K u) (pc + 3) L (.int u :: st)) : ZW p l e R s m args below meth c Q nL D A al n0 (zgI 5 z 0 K) pc L (zv z :: st) :=
  Z.getI F (ref := "SafeBuckets$Span") in_X7 (ci := 4) rfl (by decide) (kf := 0) (by decide) q230 (fun _ h => h) rfl hdg k
set_option maxHeartbeats 4000000 in
theorem k_X5_width (l : Launch) (h0 : Nat) : ZCi l yX5_width (ws_ yX5_width cX5_width 1 (some .int)) 0 0 0 0 false [zv h0] (f_X5_width h0) := by
  refine Z.metI (by decide +kernel) (fun h => ⟨rfl, rfl⟩) (L0 := [(0, zv h0)]) (by first | (rw [zla_v, zla_0]; done) | (rw [zla_v, zla_0]; rfl)) (by rw [zsl_v, zsl_0]; exact Nat.le_of_ble_eq_true rfl) ?_
  intro p e R s m args below meth c D A n0 sz k F
  have F : ZF p R s m args meth c cX5_width 1 "SafeBuckets$Span" "width" (some .int) D A false sz 0 0 0 0 := F
  unfold f_X5_width
  refine Z.aload_n F 0 rfl dX5_width_0 ?_
  refine gfX5_7 F dX5_width_1 (fun g1 => ?_)
  refine Z.aload_n F 0 rfl dX5_width_4 ?_
  refine gfX5_13 F dX5_width_5 (fun g5 => ?_)
  refine Z.isub F dX5_width_8 ?_
  refine Z.iconst F (v := (1 : Int32)) (by decide) dX5_width_9 ?_
  refine Z.iadd F dX5_width_10 ?_
  exact Z.iret F dX5_width_11
theorem clX7_7 (F : ZF p R s m args meth c cc nL "SafeBuckets$Bucket" nm ret D A al sz mc ms fr lo) {h0 : Nat} {K : Int32 → ZM → Prop} (hR : 0 + 1 ≤ fr ∧ 8 + (1 + 11) + 0 ≤ lo) (hst4 : zlw st) (hdg : decode cc pc = .ok (.invokespecial 7, 3)) (k : ∀ r, ZW p l e R s m args below meth c Q nL D A al n0 (K r) (pc + 3) L (.int r :: st)) : ZW p l e R s m args below meth c Q nL D A al n0 (zat 5 h0 (f_X5_width h0 K)) pc L (zv h0 :: st) :=
  Z.ri0 _ (fun μ H locs cells slots ls hI h hP => Z.SU0 F hI (n := 0) (ci := 4) rfl (by decide) hP.1 hP.2 (k_X5_width l h0 D A (zX μ, zC μ, zS μ) H.size K μ) q1179 q1180 q251 q1182 q1183 q120 q1184 (by decide +kernel) rfl h.1 hst4 hR rfl hdg) k
set_option maxHeartbeats 4000000 in
theorem k_X7_width (l : Launch) (h0 : Nat) : ZCi l yX7_width (ws_ yX7_width cX7_width 1 (some .int)) 1 21 0 0 false [zv h0] (f_X7_width h0) := by
  refine Z.metI (by decide +kernel) (fun h => ⟨rfl, rfl⟩) (L0 := [(0, zv h0)]) (by first | (rw [zla_v, zla_0]; done) | (rw [zla_v, zla_0]; rfl)) (by rw [zsl_v, zsl_0]; exact Nat.le_of_ble_eq_true rfl) ?_
  intro p e R s m args below meth c D A n0 sz k F
  have F : ZF p R s m args meth c cX7_width 1 "SafeBuckets$Bucket" "width" (some .int) D A false sz 0 0 1 21 := F
  unfold f_X7_width
  refine Z.iconst F (v := (1 : Int32)) (by decide) dX7_width_0 ?_
  refine Z.aload_n F 0 rfl dX7_width_1 ?_
  refine clX7_7 F ⟨Nat.le_of_ble_eq_true rfl, Nat.le_of_ble_eq_true rfl⟩ (zlw4 (Nat.le_of_ble_eq_true rfl)) dX7_width_2 (fun r2 => ?_)
  refine Z.mmax F q1185 (Nat.le_of_ble_eq_true rfl) (Nat.le_of_ble_eq_true rfl) (zlw4 (Nat.le_of_ble_eq_true rfl)) dX7_width_5 ?_
  exact Z.iret F dX7_width_8
theorem clX7_32 (F : ZF p R s m args meth c cc nL "SafeBuckets$Bucket" nm ret D A al sz mc ms fr lo) {h0 : Nat} {K : Int32 → ZM → Prop} (hR : 1 + 1 ≤ fr ∧ 8 + (1 + 11) + 21 ≤ lo) (hst4 : zlw st) (hdg : decode cc pc = .ok (.invokevirtual 32, 3)) (k : ∀ r, ZW p l e R s m args below meth c Q nL D A al n0 (K r) (pc + 3) L (.int r :: st)) : ZW p l e R s m args below meth c Q nL D A al n0 (zat 5 h0 (f_X7_width h0 K)) pc L (zv h0 :: st) :=
  Z.ri0 _ (fun μ H locs cells slots ls hI h hP => Z.V0 F hI (n := 0) (ci := 4) rfl (by decide) hP.1 hP.2 (k_X7_width l h0 D A (zX μ, zC μ, zS μ) H.size K μ) q1175 q1176 q1177 q122 q1178 (by decide +kernel) rfl h.1 hst4 hR rfl hdg) k
set_option maxHeartbeats 4000000 in
theorem k_X7_least (l : Launch) (h0 : Nat) (x1 : Int32) : ZCi l yX7_least (ws_ yX7_least cX7_least 2 (some .int)) 2 41 0 0 false [zv h0, .int x1] (f_X7_least h0 x1) := by
  refine Z.metI (by decide +kernel) (fun h => ⟨rfl, rfl⟩) (L0 := [(0, zv h0), (1, .int x1)]) (by first | (rw [zla_v, zla_i, zla_0]; done) | (rw [zla_v, zla_i, zla_0]; rfl)) (by rw [zsl_v, zsl_i, zsl_0]; exact Nat.le_of_ble_eq_true rfl) ?_
  intro p e R s m args below meth c D A n0 sz k F
  have F : ZF p R s m args meth c cX7_least 2 "SafeBuckets$Bucket" "least" (some .int) D A false sz 0 0 2 41 := F
  unfold f_X7_least
  refine Z.iload_n F 1 rfl dX7_least_0 ?_
  refine Z.jn1 (J := _) (fun p28s0 => []) (fun p28s0 => [.int p28s0]) 28 (fun p28s0 => ?_) (fun j28 hj28 => ?_)
  · exact Z.iret F dX7_least_28
  refine Z.if_ne F (tgt := 8) dX7_least_1 (by decide) ?_ ?_
  · refine Z.iconst F (v := (0 : Int32)) (by decide) dX7_least_8 ?_
    refine Z.aload_n F 0 rfl dX7_least_9 ?_
    refine gfX7_26 F dX7_least_10 (fun g10 => ?_)
    refine Z.aload_n F 0 rfl dX7_least_13 ?_
    refine gfX7_29 F dX7_least_14 (fun g14 => ?_)
    refine Z.aload_n F 0 rfl dX7_least_17 ?_
    refine clX7_32 F ⟨Nat.le_of_ble_eq_true rfl, Nat.le_of_ble_eq_true rfl⟩ (zlw4 (Nat.le_of_ble_eq_true rfl)) dX7_least_18 (fun r18 => ?_)
    refine Z.iload_n F 1 rfl dX7_least_21 ?_
    refine Z.isub F dX7_least_22 ?_
    refine Z.imul F dX7_least_23 ?_
    refine Z.isub F dX7_least_24 ?_
    refine Z.mmax F q1185 (Nat.le_of_ble_eq_true rfl) (Nat.le_of_ble_eq_true rfl) (zlw4 (Nat.le_of_ble_eq_true rfl)) dX7_least_25 ?_
    refine Z.nmI (fun v25 => ?_)
    exact Z.sub [] rfl (hj28 v25)
  refine Z.iconst F (v := (0 : Int32)) (by decide) dX7_least_4 ?_
  refine Z.goto F (tgt := 28) dX7_least_5 (by decide) ?_
  exact Z.sub [] rfl (hj28 (0 : Int32))
theorem gfX21_47 (F : ZF p R s m args meth c cc nL "SafeBuckets$Unit" nm ret D A al sz mc ms fr lo) {z : Nat} {K : Nat → ZM → Prop} (hdg : decode cc pc = .ok (.getfield 47, 3)) (k : ∀ u, ZW p l e R s m args below meth c Q nL D A al n0 (K u) (pc + 3) L (zv u :: st)) : ZW p l e R s m args below meth c Q nL D A al n0 (zgR 3 z 1 K) pc L (zv z :: st) :=
  Z.getRN F (ref := "SafeBuckets$Sheet") in_X3 (ci := 2) rfl (by decide) (kf := 1) (by decide) (host := "SafeBuckets") (List.mem_of_getElem? (i := 47) rfl) (fun _ h => h) rfl hdg k
theorem gfX21_51 (F : ZF p R s m args meth c cc nL "SafeBuckets$Unit" nm ret D A al sz mc ms fr lo) {z : Nat} {K : Int32 → ZM → Prop} (hdg : decode cc pc = .ok (.getfield 51, 3)) (k : ∀ u, ZW p l e R s m args below meth c Q nL D A al n0 (K u) (pc + 3) L (.int u :: st)) : ZW p l e R s m args below meth c Q nL D A al n0 (zgI 4 z 1 K) pc L (zv z :: st) :=
  Z.getIN F (ref := "SafeBuckets$Column") in_X4 (ci := 3) rfl (by decide) (kf := 1) (by decide) (host := "SafeBuckets") (List.mem_of_getElem? (i := 48) rfl) (fun _ h => h) rfl hdg k
theorem gfX21_56 (F : ZF p R s m args meth c cc nL "SafeBuckets$Unit" nm ret D A al sz mc ms fr lo) {z : Nat} {K : Nat → ZM → Prop} (hdg : decode cc pc = .ok (.getfield 56, 3)) (k : ∀ u, ZW p l e R s m args below meth c Q nL D A al n0 (K u) (pc + 3) L (zv u :: st)) : ZW p l e R s m args below meth c Q nL D A al n0 (zgR 4 z 0 K) pc L (zv z :: st) :=
  Z.getRN F (ref := "SafeBuckets$Column") in_X4 (ci := 3) rfl (by decide) (kf := 0) (by decide) (host := "SafeBuckets") (List.mem_of_getElem? (i := 49) rfl) (fun _ h => h) rfl hdg k
theorem clX21_60 (F : ZF p R s m args meth c cc nL "SafeBuckets$Unit" nm ret D A al sz mc ms fr lo) {h0 : Nat} {h1 : Nat} {K : Int32 → ZM → Prop} (hR : 1 + 1 ≤ fr ∧ 8 + (4 + 11) + 22 ≤ lo) (hst4 : zlw st) (hdg : decode cc pc = .ok (.invokevirtual 60, 3)) (k : ∀ r, ZW p l e R s m args below meth c Q nL D A al n0 (K r) (pc + 3) L (.int r :: st)) : ZW p l e R s m args below meth c Q nL D A al n0 (zat 16 h0 (f_X21_many h0 h1 K)) pc L (zv h1 :: zv h0 :: st) :=
  Z.ri0 _ (fun μ H locs cells slots ls hI h hP => Z.V0 F hI (n := 1) (ci := 15) rfl (by decide) hP.1 hP.2 (k_X21_many l h0 h1 D A (zX μ, zC μ, zS μ) H.size K μ) q1152 q1154 qs31 q145 q1155 (by decide +kernel) rfl h.1 hst4 hR rfl hdg) k
theorem clX21_63 (F : ZF p R s m args meth c cc nL "SafeBuckets$Unit" nm ret D A al sz mc ms fr lo) {h0 : Nat} {x1 : Int32} {K : Int32 → ZM → Prop} (hR : 2 + 1 ≤ fr ∧ 8 + (2 + 11) + 41 ≤ lo) (hst4 : zlw st) (hdg : decode cc pc = .ok (.invokevirtual 63, 3)) (k : ∀ r, ZW p l e R s m args below meth c Q nL D A al n0 (K r) (pc + 3) L (.int r :: st)) : ZW p l e R s m args below meth c Q nL D A al n0 (zat 5 h0 (f_X7_least h0 x1 K)) pc L (.int x1 :: zv h0 :: st) :=
  Z.ri0 _ (fun μ H locs cells slots ls hI h hP => Z.V0 F hI (n := 1) (ci := 4) rfl (by decide) hP.1 hP.2 (k_X7_least l h0 x1 D A (zX μ, zC μ, zS μ) H.size K μ) q1171 q1172 q1173 q122 q1174 (by decide +kernel) rfl h.1 hst4 hR rfl hdg) k
theorem clX21_41 (F : ZF p R s m args meth c cc nL "SafeBuckets$Unit" nm ret D A al sz mc ms fr lo) {h0 : Nat} {x1 : Int32} {K : Int32 → ZM → Prop} (hR : 3 + 1 ≤ fr ∧ 8 + (2 + 11) + 68 ≤ lo) (hst4 : zlw st) (hdg : decode cc pc = .ok (.invokevirtual 41, 3)) (k : ∀ r, ZW p l e R s m args below meth c Q nL D A al n0 (K r) (pc + 3) L (.int r :: st)) : ZW p l e R s m args below meth c Q nL D A al n0 (zat 3 h0 (f_X3_missing h0 x1 K)) pc L (.int x1 :: zv h0 :: st) :=
  Z.ri0 _ (fun μ H locs cells slots ls hI h hP => Z.V0 F hI (n := 1) (ci := 2) rfl (by decide) hP.1 hP.2 (k_X3_missing l h0 x1 D A (zX μ, zC μ, zS μ) H.size K μ) q1147 q1148 q1149 q118 q1150 (by decide +kernel) rfl h.1 hst4 hR rfl hdg) k
set_option maxHeartbeats 4000000 in
theorem k_X21_lower (l : Launch) (h0 : Nat) (h1 : Nat) : ZCi l yX21_lower (ws_ yX21_lower cX21_lower 5 (some .int)) 4 89 0 0 false [zv h0, zv h1] (f_X21_lower h0 h1) := by
  refine Z.metI (by decide +kernel) (fun h => ⟨rfl, rfl⟩) (L0 := [(0, zv h0), (1, zv h1)]) (by first | (rw [zla_v, zla_v, zla_0]; done) | (rw [zla_v, zla_v, zla_0]; rfl)) (by rw [zsl_v, zsl_v, zsl_0]; exact Nat.le_of_ble_eq_true rfl) ?_
  intro p e R s m args below meth c D A n0 sz k F
  have F : ZF p R s m args meth c cX21_lower 5 "SafeBuckets$Unit" "lower" (some .int) D A false sz 0 0 4 89 := F
  unfold f_X21_lower
  refine Z.aload_n F 0 rfl dX21_lower_0 ?_
  refine clX21_37 F ⟨Nat.le_of_ble_eq_true rfl, Nat.le_of_ble_eq_true rfl⟩ (zlw4 (Nat.le_of_ble_eq_true rfl)) dX21_lower_1 (fun r1 => ?_)
  refine Z.if_eq F (tgt := 16) dX21_lower_4 (by decide) ?_ ?_
  · refine Z.iconst F (v := (0 : Int32)) (by decide) dX21_lower_16 ?_
    refine Z.istore_n F (L0 := [(0, zv h0), (1, zv h1)]) [0, 1] rfl (zkR rfl (zkR rfl zkN)) (by decide) dX21_lower_17 ?_
    refine Z.aload_n F 2 rfl dX21_lower_18 ?_
    refine gfX21_47 F dX21_lower_19 (fun g19 => ?_)
    refine Z.aload_n F 1 rfl dX21_lower_22 ?_
    refine gfX21_9 F dX21_lower_23 (fun g23 => ?_)
    refine Z.aald F (t := 7) (by decide) rfl rfl dX21_lower_26 (fun g26 => ?_)
    refine Z.astore_n F (L0 := [(2, .int (0 : Int32)), (0, zv h0), (1, zv h1)]) [0, 1, 2] rfl (zkI rfl (zkR rfl (zkR rfl zkN))) (by decide) dX21_lower_27 ?_
    refine Z.iconst F (v := (0 : Int32)) (by decide) dX21_lower_28 ?_
    refine Z.istore F (L0 := [(3, zv g26), (2, .int (0 : Int32)), (0, zv h0), (1, zv h1)]) [0, 1, 2, 3] rfl (zkR rfl (zkI rfl (zkR rfl (zkR rfl zkN)))) (by decide) dX21_lower_29 ?_
    refine Z.sub [3, 2, 1, 0] rfl ?_
    refine Z.w2 (Lf := fun p31l2 p31l4 => [(0, zv h0), (2, .int p31l2), (3, zv g26), (4, .int p31l4)]) (sf := fun p31l2 p31l4 => []) (fun r31 hr31 p31l2 p31l4 => ?_) (0 : Int32) (0 : Int32)
    refine Z.iload F 3 rfl dX21_lower_31 ?_
    refine Z.aload_n F 2 rfl dX21_lower_33 ?_
    refine gfX21_51 F dX21_lower_34 (fun g34 => ?_)
    refine Z.icmp_ge F (tgt := 70) dX21_lower_37 (by decide) ?_ ?_
    · refine Z.iload_n F 1 rfl dX21_lower_70 ?_
      exact Z.iret F dX21_lower_71
    refine Z.iload_n F 1 rfl dX21_lower_40 ?_
    refine Z.aload_n F 2 rfl dX21_lower_41 ?_
    refine gfX21_56 F dX21_lower_42 (fun g42 => ?_)
    refine Z.iload F 3 rfl dX21_lower_45 ?_
    refine Z.aald F (t := 8) (by decide) rfl rfl dX21_lower_47 (fun g47 => ?_)
    refine Z.aload_n F 0 rfl dX21_lower_48 ?_
    refine Z.aload_n F 2 rfl dX21_lower_49 ?_
    refine gfX21_56 F dX21_lower_50 (fun g50 => ?_)
    refine Z.iload F 3 rfl dX21_lower_53 ?_
    refine Z.aald F (t := 8) (by decide) rfl rfl dX21_lower_55 (fun g55 => ?_)
    refine clX21_60 F ⟨Nat.le_of_ble_eq_true rfl, Nat.le_of_ble_eq_true rfl⟩ (zlw4 (Nat.le_of_ble_eq_true rfl)) dX21_lower_56 (fun r56 => ?_)
    refine clX21_63 F ⟨Nat.le_of_ble_eq_true rfl, Nat.le_of_ble_eq_true rfl⟩ (zlw4 (Nat.le_of_ble_eq_true rfl)) dX21_lower_59 (fun r59 => ?_)
    refine Z.iadd F dX21_lower_62 ?_
    refine Z.istore_n F (L0 := [(0, zv h0), (3, zv g26), (4, .int p31l4)]) [0, 2, 3] rfl (zkR rfl (zkR rfl (zkI rfl zkN))) (by decide) dX21_lower_63 ?_
    refine Z.iinc F (L0 := [(2, .int (p31l2 + r59)), (0, zv h0), (3, zv g26)]) (k0 := 3) (v := (1 : Int32)) rfl (by decide) [0, 1, 2] rfl (zkI rfl (zkR rfl (zkR rfl zkN))) (by decide) dX21_lower_64 ?_
    refine Z.goto F (tgt := 31) dX21_lower_67 (by decide) ?_
    exact Z.sub [2, 1, 3, 0] rfl (hr31 (p31l2 + r59) (p31l4 + (1 : Int32)))
  refine Z.aload_n F 1 rfl dX21_lower_7 ?_
  refine Z.aload_n F 0 rfl dX21_lower_8 ?_
  refine gfX21_9 F dX21_lower_9 (fun g9 => ?_)
  refine clX21_41 F ⟨Nat.le_of_ble_eq_true rfl, Nat.le_of_ble_eq_true rfl⟩ (zlw4 (Nat.le_of_ble_eq_true rfl)) dX21_lower_12 (fun r12 => ?_)
  exact Z.iret F dX21_lower_15
theorem gfX19_25 (F : ZF p R s m args meth c cc nL "SafeBuckets$Term" nm ret D A al sz mc ms fr lo) {z : Nat} {K : Int32 → ZM → Prop} (hdg : decode cc pc = .ok (.getfield 25, 3)) (k : ∀ u, ZW p l e R s m args below meth c Q nL D A al n0 (K u) (pc + 3) L (.int u :: st)) : ZW p l e R s m args below meth c Q nL D A al n0 (zgI 3 z 2 K) pc L (zv z :: st) :=
  Z.getIN F (ref := "SafeBuckets$Sheet") in_X3 (ci := 2) rfl (by decide) (kf := 2) (by decide) (host := "SafeBuckets") (List.mem_of_getElem? (i := 45) rfl) (fun _ h => h) rfl hdg k
theorem gfX19_11 (F : ZF p R s m args meth c cc nL "SafeBuckets$Term" nm ret D A al sz mc ms fr lo) {z : Nat} {K : Nat → ZM → Prop} (hdg : decode cc pc = .ok (.getfield 11, 3)) (k : ∀ u, ZW p l e R s m args below meth c Q nL D A al n0 (K u) (pc + 3) L (zv u :: st)) : ZW p l e R s m args below meth c Q nL D A al n0 (zgR 15 z 0 K) pc L (zv z :: st) :=
  Z.getR F (ref := "SafeBuckets$Term") in_X19 (ci := 14) rfl (by decide) (kf := 0) (by decide) q800 (fun _ h => h) rfl hdg k
theorem clX19_30 (F : ZF p R s m args meth c cc nL "SafeBuckets$Term" nm ret D A al sz mc ms fr lo) {h0 : Nat} {h1 : Nat} {K : Int32 → ZM → Prop} (hR : 4 + 1 ≤ fr ∧ 8 + (5 + 11) + 89 ≤ lo) (hst4 : zlw st) (hdg : decode cc pc = .ok (.invokevirtual 30, 3)) (k : ∀ r, ZW p l e R s m args below meth c Q nL D A al n0 (K r) (pc + 3) L (.int r :: st)) : ZW p l e R s m args below meth c Q nL D A al n0 (zat 16 h0 (f_X21_lower h0 h1 K)) pc L (zv h1 :: zv h0 :: st) :=
  Z.ri0 _ (fun μ H locs cells slots ls hI h hP => Z.V0 F hI (n := 1) (ci := 15) rfl (by decide) hP.1 hP.2 (k_X21_lower l h0 h1 D A (zX μ, zC μ, zS μ) H.size K μ) q1143 q1144 q1145 q145 q1146 (by decide +kernel) rfl h.1 hst4 hR rfl hdg) k
set_option maxHeartbeats 4000000 in
theorem k_X19_lower (l : Launch) (h0 : Nat) (h1 : Nat) : ZCi l yX19_lower (ws_ yX19_lower cX19_lower 4 (some .int)) 5 113 0 0 false [zv h0, zv h1] (f_X19_lower h0 h1) := by
  refine Z.metI (by decide +kernel) (fun h => ⟨rfl, rfl⟩) (L0 := [(0, zv h0), (1, zv h1)]) (by first | (rw [zla_v, zla_v, zla_0]; done) | (rw [zla_v, zla_v, zla_0]; rfl)) (by rw [zsl_v, zsl_v, zsl_0]; exact Nat.le_of_ble_eq_true rfl) ?_
  intro p e R s m args below meth c D A n0 sz k F
  have F : ZF p R s m args meth c cX19_lower 4 "SafeBuckets$Term" "lower" (some .int) D A false sz 0 0 5 113 := F
  unfold f_X19_lower
  refine Z.aload_n F 1 rfl dX19_lower_0 ?_
  refine gfX19_25 F dX19_lower_1 (fun g1 => ?_)
  refine Z.istore_n F (L0 := [(0, zv h0), (1, zv h1)]) [0, 1] rfl (zkR rfl (zkR rfl zkN)) (by decide) dX19_lower_4 ?_
  refine Z.iconst F (v := (0 : Int32)) (by decide) dX19_lower_5 ?_
  refine Z.istore_n F (L0 := [(2, .int g1), (0, zv h0), (1, zv h1)]) [0, 1, 2] rfl (zkI rfl (zkR rfl (zkR rfl zkN))) (by decide) dX19_lower_6 ?_
  refine Z.jn1 (J := _) (fun p39l2 => [(2, .int p39l2)]) (fun p39l2 => []) 39 (fun p39l2 => ?_) (fun j39 hj39 => ?_)
  · refine Z.iconst F (v := (0 : Int32)) (by decide) dX19_lower_39 ?_
    refine Z.iload_n F 0 rfl dX19_lower_40 ?_
    refine Z.mmax F q1186 (Nat.le_of_ble_eq_true rfl) (Nat.le_of_ble_eq_true rfl) (zlw4 (Nat.le_of_ble_eq_true rfl)) dX19_lower_41 ?_
    exact Z.iret F dX19_lower_44
  refine Z.sub [2, 3, 1, 0] rfl ?_
  refine Z.w2 (Lf := fun p7l2 p7l3 => [(0, zv h0), (1, zv h1), (2, .int p7l2), (3, .int p7l3)]) (sf := fun p7l2 p7l3 => []) (fun r7 hr7 p7l2 p7l3 => ?_) g1 (0 : Int32)
  refine Z.iload_n F 3 rfl dX19_lower_7 ?_
  refine Z.aload_n F 0 rfl dX19_lower_8 ?_
  refine gfX19_17 F dX19_lower_9 (fun g9 => ?_)
  refine Z.icmp_ge F (tgt := 39) dX19_lower_12 (by decide) ?_ ?_
  · exact Z.sub [2] rfl (hj39 p7l2)
  refine Z.iload_n F 2 rfl dX19_lower_15 ?_
  refine Z.aload_n F 0 rfl dX19_lower_16 ?_
  refine gfX19_11 F dX19_lower_17 (fun g17 => ?_)
  refine Z.iload_n F 3 rfl dX19_lower_20 ?_
  refine Z.aald F (t := 13) (by decide) rfl rfl dX19_lower_21 (fun g21 => ?_)
  refine Z.aload_n F 1 rfl dX19_lower_22 ?_
  refine clX19_30 F ⟨Nat.le_of_ble_eq_true rfl, Nat.le_of_ble_eq_true rfl⟩ (zlw4 (Nat.le_of_ble_eq_true rfl)) dX19_lower_23 (fun r23 => ?_)
  refine Z.aload_n F 1 rfl dX19_lower_26 ?_
  refine gfX19_25 F dX19_lower_27 (fun g27 => ?_)
  refine Z.isub F dX19_lower_30 ?_
  refine Z.iadd F dX19_lower_31 ?_
  refine Z.istore_n F (L0 := [(0, zv h0), (1, zv h1), (3, .int p7l3)]) [0, 1, 3] rfl (zkR rfl (zkR rfl (zkI rfl zkN))) (by decide) dX19_lower_32 ?_
  refine Z.iinc F (L0 := [(2, .int (p7l2 + (r23 - g27))), (0, zv h0), (1, zv h1)]) (k0 := 3) (v := (1 : Int32)) rfl (by decide) [0, 1, 2] rfl (zkI rfl (zkR rfl (zkR rfl zkN))) (by decide) dX19_lower_33 ?_
  refine Z.goto F (tgt := 7) dX19_lower_36 (by decide) ?_
  exact Z.sub [2, 3, 1, 0] rfl (hr7 (p7l2 + (r23 - g27)) (p7l3 + (1 : Int32)))
theorem clX18_25 (F : ZF p R s m args meth c cc nL "SafeBuckets$Where" nm ret D A al sz mc ms fr lo) {h0 : Nat} {h1 : Nat} {K : Int32 → ZM → Prop} (hR : 5 + 1 ≤ fr ∧ 8 + (4 + 11) + 113 ≤ lo) (hst4 : zlw st) (hdg : decode cc pc = .ok (.invokevirtual 25, 3)) (k : ∀ r, ZW p l e R s m args below meth c Q nL D A al n0 (K r) (pc + 3) L (.int r :: st)) : ZW p l e R s m args below meth c Q nL D A al n0 (zat 15 h0 (f_X19_lower h0 h1 K)) pc L (zv h1 :: zv h0 :: st) :=
  Z.ri0 _ (fun μ H locs cells slots ls hI h hP => Z.V0 F hI (n := 1) (ci := 14) rfl (by decide) hP.1 hP.2 (k_X19_lower l h0 h1 D A (zX μ, zC μ, zS μ) H.size K μ) q1139 q1140 q1141 q142 q1142 (by decide +kernel) rfl h.1 hst4 hR rfl hdg) k
set_option maxHeartbeats 4000000 in
theorem k_X18_lower (l : Launch) (h0 : Nat) (h1 : Nat) : ZCi l yX18_lower (ws_ yX18_lower cX18_lower 4 (some .int)) 6 136 0 0 false [zv h0, zv h1] (f_X18_lower h0 h1) := by
  refine Z.metI (by decide +kernel) (fun h => ⟨rfl, rfl⟩) (L0 := [(0, zv h0), (1, zv h1)]) (by first | (rw [zla_v, zla_v, zla_0]; done) | (rw [zla_v, zla_v, zla_0]; rfl)) (by rw [zsl_v, zsl_v, zsl_0]; exact Nat.le_of_ble_eq_true rfl) ?_
  intro p e R s m args below meth c D A n0 sz k F
  have F : ZF p R s m args meth c cX18_lower 4 "SafeBuckets$Where" "lower" (some .int) D A false sz 0 0 6 136 := F
  unfold f_X18_lower
  refine Z.iconst F (v := (0 : Int32)) (by decide) dX18_lower_0 ?_
  refine Z.istore_n F (L0 := [(0, zv h0), (1, zv h1)]) [0, 1] rfl (zkR rfl (zkR rfl zkN)) (by decide) dX18_lower_1 ?_
  refine Z.iconst F (v := (0 : Int32)) (by decide) dX18_lower_2 ?_
  refine Z.istore_n F (L0 := [(2, .int (0 : Int32)), (0, zv h0), (1, zv h1)]) [0, 1, 2] rfl (zkI rfl (zkR rfl (zkR rfl zkN))) (by decide) dX18_lower_3 ?_
  refine Z.sub [2, 3, 1, 0] rfl ?_
  refine Z.w2 (Lf := fun p4l2 p4l3 => [(0, zv h0), (1, zv h1), (2, .int p4l2), (3, .int p4l3)]) (sf := fun p4l2 p4l3 => []) (fun r4 hr4 p4l2 p4l3 => ?_) (0 : Int32) (0 : Int32)
  refine Z.iload_n F 3 rfl dX18_lower_4 ?_
  refine Z.aload_n F 0 rfl dX18_lower_5 ?_
  refine gfX18_17 F dX18_lower_6 (fun g6 => ?_)
  refine Z.icmp_ge F (tgt := 33) dX18_lower_9 (by decide) ?_ ?_
  · refine Z.iload_n F 2 rfl dX18_lower_33 ?_
    exact Z.iret F dX18_lower_34
  refine Z.iload_n F 2 rfl dX18_lower_12 ?_
  refine Z.aload_n F 0 rfl dX18_lower_13 ?_
  refine gfX18_11 F dX18_lower_14 (fun g14 => ?_)
  refine Z.iload_n F 3 rfl dX18_lower_17 ?_
  refine Z.aald F (t := 12) (by decide) rfl rfl dX18_lower_18 (fun g18 => ?_)
  refine Z.aload_n F 1 rfl dX18_lower_19 ?_
  refine clX18_25 F ⟨Nat.le_of_ble_eq_true rfl, Nat.le_of_ble_eq_true rfl⟩ (zlw4 (Nat.le_of_ble_eq_true rfl)) dX18_lower_20 (fun r20 => ?_)
  refine Z.mmax F q1187 (Nat.le_of_ble_eq_true rfl) (Nat.le_of_ble_eq_true rfl) (zlw4 (Nat.le_of_ble_eq_true rfl)) dX18_lower_23 ?_
  refine Z.istore_n F (L0 := [(0, zv h0), (1, zv h1), (3, .int p4l3)]) [0, 1, 3] rfl (zkR rfl (zkR rfl (zkI rfl zkN))) (by decide) dX18_lower_26 ?_
  refine Z.iinc F (L0 := [(2, .int (if p4l2 < r20 then r20 else p4l2)), (0, zv h0), (1, zv h1)]) (k0 := 3) (v := (1 : Int32)) rfl (by decide) [0, 1, 2] rfl (zkI rfl (zkR rfl (zkR rfl zkN))) (by decide) dX18_lower_27 ?_
  refine Z.goto F (tgt := 4) dX18_lower_30 (by decide) ?_
  exact Z.sub [2, 3, 1, 0] rfl (hr4 (if p4l2 < r20 then r20 else p4l2) (p4l3 + (1 : Int32)))
set_option maxHeartbeats 4000000 in
theorem k_X7_most (l : Launch) (h0 : Nat) (x1 : Int32) : ZCi l yX7_most (ws_ yX7_most cX7_most 2 (some .int)) 1 21 0 0 false [zv h0, .int x1] (f_X7_most h0 x1) := by
  refine Z.metI (by decide +kernel) (fun h => ⟨rfl, rfl⟩) (L0 := [(0, zv h0), (1, .int x1)]) (by first | (rw [zla_v, zla_i, zla_0]; done) | (rw [zla_v, zla_i, zla_0]; rfl)) (by rw [zsl_v, zsl_i, zsl_0]; exact Nat.le_of_ble_eq_true rfl) ?_
  intro p e R s m args below meth c D A n0 sz k F
  have F : ZF p R s m args meth c cX7_most 2 "SafeBuckets$Bucket" "most" (some .int) D A false sz 0 0 1 21 := F
  unfold f_X7_most
  refine Z.aload_n F 0 rfl dX7_most_0 ?_
  refine gfX7_26 F dX7_most_1 (fun g1 => ?_)
  refine Z.aload_n F 0 rfl dX7_most_4 ?_
  refine gfX7_29 F dX7_most_5 (fun g5 => ?_)
  refine Z.iload_n F 1 rfl dX7_most_8 ?_
  refine Z.imul F dX7_most_9 ?_
  refine Z.mmin F q1204 (Nat.le_of_ble_eq_true rfl) (Nat.le_of_ble_eq_true rfl) (zlw4 (Nat.le_of_ble_eq_true rfl)) dX7_most_10 ?_
  exact Z.iret F dX7_most_13
theorem clX21_66 (F : ZF p R s m args meth c cc nL "SafeBuckets$Unit" nm ret D A al sz mc ms fr lo) {h0 : Nat} {x1 : Int32} {K : Int32 → ZM → Prop} (hR : 1 + 1 ≤ fr ∧ 8 + (2 + 11) + 21 ≤ lo) (hst4 : zlw st) (hdg : decode cc pc = .ok (.invokevirtual 66, 3)) (k : ∀ r, ZW p l e R s m args below meth c Q nL D A al n0 (K r) (pc + 3) L (.int r :: st)) : ZW p l e R s m args below meth c Q nL D A al n0 (zat 5 h0 (f_X7_most h0 x1 K)) pc L (.int x1 :: zv h0 :: st) :=
  Z.ri0 _ (fun μ H locs cells slots ls hI h hP => Z.V0 F hI (n := 1) (ci := 4) rfl (by decide) hP.1 hP.2 (k_X7_most l h0 x1 D A (zX μ, zC μ, zS μ) H.size K μ) q1200 q1201 q1202 q122 q1203 (by decide +kernel) rfl h.1 hst4 hR rfl hdg) k
set_option maxHeartbeats 4000000 in
theorem k_X21_upper (l : Launch) (h0 : Nat) (h1 : Nat) : ZCi l yX21_upper (ws_ yX21_upper cX21_upper 5 (some .int)) 4 89 0 0 false [zv h0, zv h1] (f_X21_upper h0 h1) := by
  refine Z.metI (by decide +kernel) (fun h => ⟨rfl, rfl⟩) (L0 := [(0, zv h0), (1, zv h1)]) (by first | (rw [zla_v, zla_v, zla_0]; done) | (rw [zla_v, zla_v, zla_0]; rfl)) (by rw [zsl_v, zsl_v, zsl_0]; exact Nat.le_of_ble_eq_true rfl) ?_
  intro p e R s m args below meth c D A n0 sz k F
  have F : ZF p R s m args meth c cX21_upper 5 "SafeBuckets$Unit" "upper" (some .int) D A false sz 0 0 4 89 := F
  unfold f_X21_upper
  refine Z.aload_n F 0 rfl dX21_upper_0 ?_
  refine clX21_37 F ⟨Nat.le_of_ble_eq_true rfl, Nat.le_of_ble_eq_true rfl⟩ (zlw4 (Nat.le_of_ble_eq_true rfl)) dX21_upper_1 (fun r1 => ?_)
  refine Z.if_eq F (tgt := 16) dX21_upper_4 (by decide) ?_ ?_
  · refine Z.iconst F (v := (0 : Int32)) (by decide) dX21_upper_16 ?_
    refine Z.istore_n F (L0 := [(0, zv h0), (1, zv h1)]) [0, 1] rfl (zkR rfl (zkR rfl zkN)) (by decide) dX21_upper_17 ?_
    refine Z.aload_n F 2 rfl dX21_upper_18 ?_
    refine gfX21_47 F dX21_upper_19 (fun g19 => ?_)
    refine Z.aload_n F 1 rfl dX21_upper_22 ?_
    refine gfX21_9 F dX21_upper_23 (fun g23 => ?_)
    refine Z.aald F (t := 7) (by decide) rfl rfl dX21_upper_26 (fun g26 => ?_)
    refine Z.astore_n F (L0 := [(2, .int (0 : Int32)), (0, zv h0), (1, zv h1)]) [0, 1, 2] rfl (zkI rfl (zkR rfl (zkR rfl zkN))) (by decide) dX21_upper_27 ?_
    refine Z.iconst F (v := (0 : Int32)) (by decide) dX21_upper_28 ?_
    refine Z.istore F (L0 := [(3, zv g26), (2, .int (0 : Int32)), (0, zv h0), (1, zv h1)]) [0, 1, 2, 3] rfl (zkR rfl (zkI rfl (zkR rfl (zkR rfl zkN)))) (by decide) dX21_upper_29 ?_
    refine Z.sub [3, 2, 1, 0] rfl ?_
    refine Z.w2 (Lf := fun p31l2 p31l4 => [(0, zv h0), (2, .int p31l2), (3, zv g26), (4, .int p31l4)]) (sf := fun p31l2 p31l4 => []) (fun r31 hr31 p31l2 p31l4 => ?_) (0 : Int32) (0 : Int32)
    refine Z.iload F 3 rfl dX21_upper_31 ?_
    refine Z.aload_n F 2 rfl dX21_upper_33 ?_
    refine gfX21_51 F dX21_upper_34 (fun g34 => ?_)
    refine Z.icmp_ge F (tgt := 70) dX21_upper_37 (by decide) ?_ ?_
    · refine Z.iload_n F 1 rfl dX21_upper_70 ?_
      exact Z.iret F dX21_upper_71
    refine Z.iload_n F 1 rfl dX21_upper_40 ?_
    refine Z.aload_n F 2 rfl dX21_upper_41 ?_
    refine gfX21_56 F dX21_upper_42 (fun g42 => ?_)
    refine Z.iload F 3 rfl dX21_upper_45 ?_
    refine Z.aald F (t := 8) (by decide) rfl rfl dX21_upper_47 (fun g47 => ?_)
    refine Z.aload_n F 0 rfl dX21_upper_48 ?_
    refine Z.aload_n F 2 rfl dX21_upper_49 ?_
    refine gfX21_56 F dX21_upper_50 (fun g50 => ?_)
    refine Z.iload F 3 rfl dX21_upper_53 ?_
    refine Z.aald F (t := 8) (by decide) rfl rfl dX21_upper_55 (fun g55 => ?_)
    refine clX21_60 F ⟨Nat.le_of_ble_eq_true rfl, Nat.le_of_ble_eq_true rfl⟩ (zlw4 (Nat.le_of_ble_eq_true rfl)) dX21_upper_56 (fun r56 => ?_)
    refine clX21_66 F ⟨Nat.le_of_ble_eq_true rfl, Nat.le_of_ble_eq_true rfl⟩ (zlw4 (Nat.le_of_ble_eq_true rfl)) dX21_upper_59 (fun r59 => ?_)
    refine Z.iadd F dX21_upper_62 ?_
    refine Z.istore_n F (L0 := [(0, zv h0), (3, zv g26), (4, .int p31l4)]) [0, 2, 3] rfl (zkR rfl (zkR rfl (zkI rfl zkN))) (by decide) dX21_upper_63 ?_
    refine Z.iinc F (L0 := [(2, .int (p31l2 + r59)), (0, zv h0), (3, zv g26)]) (k0 := 3) (v := (1 : Int32)) rfl (by decide) [0, 1, 2] rfl (zkI rfl (zkR rfl (zkR rfl zkN))) (by decide) dX21_upper_64 ?_
    refine Z.goto F (tgt := 31) dX21_upper_67 (by decide) ?_
    exact Z.sub [2, 1, 3, 0] rfl (hr31 (p31l2 + r59) (p31l4 + (1 : Int32)))
  refine Z.aload_n F 1 rfl dX21_upper_7 ?_
  refine Z.aload_n F 0 rfl dX21_upper_8 ?_
  refine gfX21_9 F dX21_upper_9 (fun g9 => ?_)
  refine clX21_41 F ⟨Nat.le_of_ble_eq_true rfl, Nat.le_of_ble_eq_true rfl⟩ (zlw4 (Nat.le_of_ble_eq_true rfl)) dX21_upper_12 (fun r12 => ?_)
  exact Z.iret F dX21_upper_15
theorem clX19_40 (F : ZF p R s m args meth c cc nL "SafeBuckets$Term" nm ret D A al sz mc ms fr lo) {h0 : Nat} {h1 : Nat} {K : Int32 → ZM → Prop} (hR : 4 + 1 ≤ fr ∧ 8 + (5 + 11) + 89 ≤ lo) (hst4 : zlw st) (hdg : decode cc pc = .ok (.invokevirtual 40, 3)) (k : ∀ r, ZW p l e R s m args below meth c Q nL D A al n0 (K r) (pc + 3) L (.int r :: st)) : ZW p l e R s m args below meth c Q nL D A al n0 (zat 16 h0 (f_X21_upper h0 h1 K)) pc L (zv h1 :: zv h0 :: st) :=
  Z.ri0 _ (fun μ H locs cells slots ls hI h hP => Z.V0 F hI (n := 1) (ci := 15) rfl (by decide) hP.1 hP.2 (k_X21_upper l h0 h1 D A (zX μ, zC μ, zS μ) H.size K μ) q1196 q1197 q1198 q145 q1199 (by decide +kernel) rfl h.1 hst4 hR rfl hdg) k
set_option maxHeartbeats 4000000 in
theorem k_X19_upper (l : Launch) (h0 : Nat) (h1 : Nat) : ZCi l yX19_upper (ws_ yX19_upper cX19_upper 4 (some .int)) 5 113 0 0 false [zv h0, zv h1] (f_X19_upper h0 h1) := by
  refine Z.metI (by decide +kernel) (fun h => ⟨rfl, rfl⟩) (L0 := [(0, zv h0), (1, zv h1)]) (by first | (rw [zla_v, zla_v, zla_0]; done) | (rw [zla_v, zla_v, zla_0]; rfl)) (by rw [zsl_v, zsl_v, zsl_0]; exact Nat.le_of_ble_eq_true rfl) ?_
  intro p e R s m args below meth c D A n0 sz k F
  have F : ZF p R s m args meth c cX19_upper 4 "SafeBuckets$Term" "upper" (some .int) D A false sz 0 0 5 113 := F
  unfold f_X19_upper
  refine Z.aload_n F 0 rfl dX19_upper_0 ?_
  refine gfX19_11 F dX19_upper_1 (fun g1 => ?_)
  refine Z.iconst F (v := (0 : Int32)) (by decide) dX19_upper_4 ?_
  refine Z.aald F (t := 13) (by decide) rfl rfl dX19_upper_5 (fun g5 => ?_)
  refine Z.aload_n F 1 rfl dX19_upper_6 ?_
  refine clX19_40 F ⟨Nat.le_of_ble_eq_true rfl, Nat.le_of_ble_eq_true rfl⟩ (zlw4 (Nat.le_of_ble_eq_true rfl)) dX19_upper_7 (fun r7 => ?_)
  refine Z.istore_n F (L0 := [(0, zv h0), (1, zv h1)]) [0, 1] rfl (zkR rfl (zkR rfl zkN)) (by decide) dX19_upper_10 ?_
  refine Z.iconst F (v := (1 : Int32)) (by decide) dX19_upper_11 ?_
  refine Z.istore_n F (L0 := [(2, .int r7), (0, zv h0), (1, zv h1)]) [0, 1, 2] rfl (zkI rfl (zkR rfl (zkR rfl zkN))) (by decide) dX19_upper_12 ?_
  refine Z.sub [2, 3, 1, 0] rfl ?_
  refine Z.w2 (Lf := fun p13l2 p13l3 => [(0, zv h0), (1, zv h1), (2, .int p13l2), (3, .int p13l3)]) (sf := fun p13l2 p13l3 => []) (fun r13 hr13 p13l2 p13l3 => ?_) r7 (1 : Int32)
  refine Z.iload_n F 3 rfl dX19_upper_13 ?_
  refine Z.aload_n F 0 rfl dX19_upper_14 ?_
  refine gfX19_17 F dX19_upper_15 (fun g15 => ?_)
  refine Z.icmp_ge F (tgt := 42) dX19_upper_18 (by decide) ?_ ?_
  · refine Z.iload_n F 2 rfl dX19_upper_42 ?_
    exact Z.iret F dX19_upper_43
  refine Z.iload_n F 2 rfl dX19_upper_21 ?_
  refine Z.aload_n F 0 rfl dX19_upper_22 ?_
  refine gfX19_11 F dX19_upper_23 (fun g23 => ?_)
  refine Z.iload_n F 3 rfl dX19_upper_26 ?_
  refine Z.aald F (t := 13) (by decide) rfl rfl dX19_upper_27 (fun g27 => ?_)
  refine Z.aload_n F 1 rfl dX19_upper_28 ?_
  refine clX19_40 F ⟨Nat.le_of_ble_eq_true rfl, Nat.le_of_ble_eq_true rfl⟩ (zlw4 (Nat.le_of_ble_eq_true rfl)) dX19_upper_29 (fun r29 => ?_)
  refine Z.mmin F q1205 (Nat.le_of_ble_eq_true rfl) (Nat.le_of_ble_eq_true rfl) (zlw4 (Nat.le_of_ble_eq_true rfl)) dX19_upper_32 ?_
  refine Z.istore_n F (L0 := [(0, zv h0), (1, zv h1), (3, .int p13l3)]) [0, 1, 3] rfl (zkR rfl (zkR rfl (zkI rfl zkN))) (by decide) dX19_upper_35 ?_
  refine Z.iinc F (L0 := [(2, .int (if r29 < p13l2 then r29 else p13l2)), (0, zv h0), (1, zv h1)]) (k0 := 3) (v := (1 : Int32)) rfl (by decide) [0, 1, 2] rfl (zkI rfl (zkR rfl (zkR rfl zkN))) (by decide) dX19_upper_36 ?_
  refine Z.goto F (tgt := 13) dX19_upper_39 (by decide) ?_
  exact Z.sub [2, 3, 1, 0] rfl (hr13 (if r29 < p13l2 then r29 else p13l2) (p13l3 + (1 : Int32)))
theorem gfX18_38 (F : ZF p R s m args meth c cc nL "SafeBuckets$Where" nm ret D A al sz mc ms fr lo) {z : Nat} {K : Int32 → ZM → Prop} (hdg : decode cc pc = .ok (.getfield 38, 3)) (k : ∀ u, ZW p l e R s m args below meth c Q nL D A al n0 (K u) (pc + 3) L (.int u :: st)) : ZW p l e R s m args below meth c Q nL D A al n0 (zgI 3 z 2 K) pc L (zv z :: st) :=
  Z.getIN F (ref := "SafeBuckets$Sheet") in_X3 (ci := 2) rfl (by decide) (kf := 2) (by decide) (host := "SafeBuckets") (List.mem_of_getElem? (i := 50) rfl) (fun _ h => h) rfl hdg k
theorem clX18_35 (F : ZF p R s m args meth c cc nL "SafeBuckets$Where" nm ret D A al sz mc ms fr lo) {h0 : Nat} {h1 : Nat} {K : Int32 → ZM → Prop} (hR : 5 + 1 ≤ fr ∧ 8 + (4 + 11) + 113 ≤ lo) (hst4 : zlw st) (hdg : decode cc pc = .ok (.invokevirtual 35, 3)) (k : ∀ r, ZW p l e R s m args below meth c Q nL D A al n0 (K r) (pc + 3) L (.int r :: st)) : ZW p l e R s m args below meth c Q nL D A al n0 (zat 15 h0 (f_X19_upper h0 h1 K)) pc L (zv h1 :: zv h0 :: st) :=
  Z.ri0 _ (fun μ H locs cells slots ls hI h hP => Z.V0 F hI (n := 1) (ci := 14) rfl (by decide) hP.1 hP.2 (k_X19_upper l h0 h1 D A (zX μ, zC μ, zS μ) H.size K μ) q1192 q1193 q1194 q142 q1195 (by decide +kernel) rfl h.1 hst4 hR rfl hdg) k
set_option maxHeartbeats 4000000 in
theorem k_X18_upper (l : Launch) (h0 : Nat) (h1 : Nat) : ZCi l yX18_upper (ws_ yX18_upper cX18_upper 4 (some .int)) 6 136 0 0 false [zv h0, zv h1] (f_X18_upper h0 h1) := by
  refine Z.metI (by decide +kernel) (fun h => ⟨rfl, rfl⟩) (L0 := [(0, zv h0), (1, zv h1)]) (by first | (rw [zla_v, zla_v, zla_0]; done) | (rw [zla_v, zla_v, zla_0]; rfl)) (by rw [zsl_v, zsl_v, zsl_0]; exact Nat.le_of_ble_eq_true rfl) ?_
  intro p e R s m args below meth c D A n0 sz k F
  have F : ZF p R s m args meth c cX18_upper 4 "SafeBuckets$Where" "upper" (some .int) D A false sz 0 0 6 136 := F
  unfold f_X18_upper
  refine Z.iconst F (v := (0 : Int32)) (by decide) dX18_upper_0 ?_
  refine Z.istore_n F (L0 := [(0, zv h0), (1, zv h1)]) [0, 1] rfl (zkR rfl (zkR rfl zkN)) (by decide) dX18_upper_1 ?_
  refine Z.iconst F (v := (0 : Int32)) (by decide) dX18_upper_2 ?_
  refine Z.istore_n F (L0 := [(2, .int (0 : Int32)), (0, zv h0), (1, zv h1)]) [0, 1, 2] rfl (zkI rfl (zkR rfl (zkR rfl zkN))) (by decide) dX18_upper_3 ?_
  refine Z.jn1 (J := _) (fun p31l2 => [(1, zv h1), (2, .int p31l2)]) (fun p31l2 => []) 31 (fun p31l2 => ?_) (fun j31 hj31 => ?_)
  · refine Z.aload_n F 0 rfl dX18_upper_31 ?_
    refine gfX18_38 F dX18_upper_32 (fun g32 => ?_)
    refine Z.iload_n F 1 rfl dX18_upper_35 ?_
    refine Z.mmin F q1206 (Nat.le_of_ble_eq_true rfl) (Nat.le_of_ble_eq_true rfl) (zlw4 (Nat.le_of_ble_eq_true rfl)) dX18_upper_36 ?_
    exact Z.iret F dX18_upper_39
  refine Z.sub [2, 3, 1, 0] rfl ?_
  refine Z.w2 (Lf := fun p4l2 p4l3 => [(0, zv h0), (1, zv h1), (2, .int p4l2), (3, .int p4l3)]) (sf := fun p4l2 p4l3 => []) (fun r4 hr4 p4l2 p4l3 => ?_) (0 : Int32) (0 : Int32)
  refine Z.iload_n F 3 rfl dX18_upper_4 ?_
  refine Z.aload_n F 0 rfl dX18_upper_5 ?_
  refine gfX18_17 F dX18_upper_6 (fun g6 => ?_)
  refine Z.icmp_ge F (tgt := 31) dX18_upper_9 (by decide) ?_ ?_
  · exact Z.sub [1, 2] rfl (hj31 p4l2)
  refine Z.iload_n F 2 rfl dX18_upper_12 ?_
  refine Z.aload_n F 0 rfl dX18_upper_13 ?_
  refine gfX18_11 F dX18_upper_14 (fun g14 => ?_)
  refine Z.iload_n F 3 rfl dX18_upper_17 ?_
  refine Z.aald F (t := 12) (by decide) rfl rfl dX18_upper_18 (fun g18 => ?_)
  refine Z.aload_n F 1 rfl dX18_upper_19 ?_
  refine clX18_35 F ⟨Nat.le_of_ble_eq_true rfl, Nat.le_of_ble_eq_true rfl⟩ (zlw4 (Nat.le_of_ble_eq_true rfl)) dX18_upper_20 (fun r20 => ?_)
  refine Z.iadd F dX18_upper_23 ?_
  refine Z.istore_n F (L0 := [(0, zv h0), (1, zv h1), (3, .int p4l3)]) [0, 1, 3] rfl (zkR rfl (zkR rfl (zkI rfl zkN))) (by decide) dX18_upper_24 ?_
  refine Z.iinc F (L0 := [(2, .int (p4l2 + r20)), (0, zv h0), (1, zv h1)]) (k0 := 3) (v := (1 : Int32)) rfl (by decide) [0, 1, 2] rfl (zkI rfl (zkR rfl (zkR rfl zkN))) (by decide) dX18_upper_25 ?_
  refine Z.goto F (tgt := 4) dX18_upper_28 (by decide) ?_
  exact Z.sub [2, 3, 1, 0] rfl (hr4 (p4l2 + r20) (p4l3 + (1 : Int32)))
theorem gfX21_69 (F : ZF p R s m args meth c cc nL "SafeBuckets$Unit" nm ret D A al sz mc ms fr lo) {z : Nat} {K : Int32 → ZM → Prop} (hdg : decode cc pc = .ok (.getfield 69, 3)) (k : ∀ u, ZW p l e R s m args below meth c Q nL D A al n0 (K u) (pc + 3) L (.int u :: st)) : ZW p l e R s m args below meth c Q nL D A al n0 (zgI 5 z 2 K) pc L (zv z :: st) :=
  Z.getI F (ref := "SafeBuckets$Bucket") in_X7 (ci := 4) rfl (by decide) (kf := 2) (by decide) q221 (fun x h => u_same (F.hts _ q220) x h) rfl hdg k
theorem clX21_72 (F : ZF p R s m args meth c cc nL "SafeBuckets$Unit" nm ret D A al sz mc ms fr lo) {h0 : Nat} {K : Int32 → ZM → Prop} (hR : 1 + 1 ≤ fr ∧ 8 + (1 + 11) + 21 ≤ lo) (hst4 : zlw st) (hdg : decode cc pc = .ok (.invokevirtual 72, 3)) (k : ∀ r, ZW p l e R s m args below meth c Q nL D A al n0 (K r) (pc + 3) L (.int r :: st)) : ZW p l e R s m args below meth c Q nL D A al n0 (zat 5 h0 (f_X7_width h0 K)) pc L (zv h0 :: st) :=
  Z.ri0 _ (fun μ H locs cells slots ls hI h hP => Z.V0 F hI (n := 0) (ci := 4) rfl (by decide) hP.1 hP.2 (k_X7_width l h0 D A (zX μ, zC μ, zS μ) H.size K μ) q1219 q1176 q1177 q122 q1178 (by decide +kernel) rfl h.1 hst4 hR rfl hdg) k
set_option maxHeartbeats 4000000 in
theorem k_X21_estimate (l : Launch) (h0 : Nat) (h1 : Nat) : ZCi l yX21_estimate (ws_ yX21_estimate cX21_estimate 5 (some .int)) 4 89 0 0 false [zv h0, zv h1] (f_X21_estimate h0 h1) := by
  refine Z.metI (by decide +kernel) (fun h => ⟨rfl, rfl⟩) (L0 := [(0, zv h0), (1, zv h1)]) (by first | (rw [zla_v, zla_v, zla_0]; done) | (rw [zla_v, zla_v, zla_0]; rfl)) (by rw [zsl_v, zsl_v, zsl_0]; exact Nat.le_of_ble_eq_true rfl) ?_
  intro p e R s m args below meth c D A n0 sz k F
  have F : ZF p R s m args meth c cX21_estimate 5 "SafeBuckets$Unit" "estimate" (some .int) D A false sz 0 0 4 89 := F
  unfold f_X21_estimate
  refine Z.aload_n F 0 rfl dX21_estimate_0 ?_
  refine clX21_37 F ⟨Nat.le_of_ble_eq_true rfl, Nat.le_of_ble_eq_true rfl⟩ (zlw4 (Nat.le_of_ble_eq_true rfl)) dX21_estimate_1 (fun r1 => ?_)
  refine Z.if_eq F (tgt := 16) dX21_estimate_4 (by decide) ?_ ?_
  · refine Z.iconst F (v := (0 : Int32)) (by decide) dX21_estimate_16 ?_
    refine Z.istore_n F (L0 := [(0, zv h0), (1, zv h1)]) [0, 1] rfl (zkR rfl (zkR rfl zkN)) (by decide) dX21_estimate_17 ?_
    refine Z.aload_n F 2 rfl dX21_estimate_18 ?_
    refine gfX21_47 F dX21_estimate_19 (fun g19 => ?_)
    refine Z.aload_n F 1 rfl dX21_estimate_22 ?_
    refine gfX21_9 F dX21_estimate_23 (fun g23 => ?_)
    refine Z.aald F (t := 7) (by decide) rfl rfl dX21_estimate_26 (fun g26 => ?_)
    refine Z.astore_n F (L0 := [(2, .int (0 : Int32)), (0, zv h0), (1, zv h1)]) [0, 1, 2] rfl (zkI rfl (zkR rfl (zkR rfl zkN))) (by decide) dX21_estimate_27 ?_
    refine Z.iconst F (v := (0 : Int32)) (by decide) dX21_estimate_28 ?_
    refine Z.istore F (L0 := [(3, zv g26), (2, .int (0 : Int32)), (0, zv h0), (1, zv h1)]) [0, 1, 2, 3] rfl (zkR rfl (zkI rfl (zkR rfl (zkR rfl zkN)))) (by decide) dX21_estimate_29 ?_
    refine Z.sub [3, 2, 1, 0] rfl ?_
    refine Z.w2 (Lf := fun p31l2 p31l4 => [(0, zv h0), (2, .int p31l2), (3, zv g26), (4, .int p31l4)]) (sf := fun p31l2 p31l4 => []) (fun r31 hr31 p31l2 p31l4 => ?_) (0 : Int32) (0 : Int32)
    refine Z.iload F 3 rfl dX21_estimate_31 ?_
    refine Z.aload_n F 2 rfl dX21_estimate_33 ?_
    refine gfX21_51 F dX21_estimate_34 (fun g34 => ?_)
    refine Z.icmp_ge F (tgt := 82) dX21_estimate_37 (by decide) ?_ ?_
    · refine Z.iload_n F 1 rfl dX21_estimate_82 ?_
      exact Z.iret F dX21_estimate_83
    refine Z.iload_n F 1 rfl dX21_estimate_40 ?_
    refine Z.aload_n F 2 rfl dX21_estimate_41 ?_
    refine gfX21_56 F dX21_estimate_42 (fun g42 => ?_)
    refine Z.iload F 3 rfl dX21_estimate_45 ?_
    refine Z.aald F (t := 8) (by decide) rfl rfl dX21_estimate_47 (fun g47 => ?_)
    refine gfX21_69 F dX21_estimate_48 (fun g48 => ?_)
    refine Z.aload_n F 0 rfl dX21_estimate_51 ?_
    refine Z.aload_n F 2 rfl dX21_estimate_52 ?_
    refine gfX21_56 F dX21_estimate_53 (fun g53 => ?_)
    refine Z.iload F 3 rfl dX21_estimate_56 ?_
    refine Z.aald F (t := 8) (by decide) rfl rfl dX21_estimate_58 (fun g58 => ?_)
    refine clX21_60 F ⟨Nat.le_of_ble_eq_true rfl, Nat.le_of_ble_eq_true rfl⟩ (zlw4 (Nat.le_of_ble_eq_true rfl)) dX21_estimate_59 (fun r59 => ?_)
    refine Z.imul F dX21_estimate_62 ?_
    refine Z.aload_n F 2 rfl dX21_estimate_63 ?_
    refine gfX21_56 F dX21_estimate_64 (fun g64 => ?_)
    refine Z.iload F 3 rfl dX21_estimate_67 ?_
    refine Z.aald F (t := 8) (by decide) rfl rfl dX21_estimate_69 (fun g69 => ?_)
    refine clX21_72 F ⟨Nat.le_of_ble_eq_true rfl, Nat.le_of_ble_eq_true rfl⟩ (zlw4 (Nat.le_of_ble_eq_true rfl)) dX21_estimate_70 (fun r70 => ?_)
    refine Z.idiv F dX21_estimate_73 ?_
    refine Z.iadd F dX21_estimate_74 ?_
    refine Z.istore_n F (L0 := [(0, zv h0), (3, zv g26), (4, .int p31l4)]) [0, 2, 3] rfl (zkR rfl (zkR rfl (zkI rfl zkN))) (by decide) dX21_estimate_75 ?_
    refine Z.iinc F (L0 := [(2, .int (p31l2 + ((g48 * r59) / r70))), (0, zv h0), (3, zv g26)]) (k0 := 3) (v := (1 : Int32)) rfl (by decide) [0, 1, 2] rfl (zkI rfl (zkR rfl (zkR rfl zkN))) (by decide) dX21_estimate_76 ?_
    refine Z.goto F (tgt := 31) dX21_estimate_79 (by decide) ?_
    exact Z.sub [2, 1, 3, 0] rfl (hr31 (p31l2 + ((g48 * r59) / r70)) (p31l4 + (1 : Int32)))
  refine Z.aload_n F 1 rfl dX21_estimate_7 ?_
  refine Z.aload_n F 0 rfl dX21_estimate_8 ?_
  refine gfX21_9 F dX21_estimate_9 (fun g9 => ?_)
  refine clX21_41 F ⟨Nat.le_of_ble_eq_true rfl, Nat.le_of_ble_eq_true rfl⟩ (zlw4 (Nat.le_of_ble_eq_true rfl)) dX21_estimate_12 (fun r12 => ?_)
  exact Z.iret F dX21_estimate_15
theorem clX19_46 (F : ZF p R s m args meth c cc nL "SafeBuckets$Term" nm ret D A al sz mc ms fr lo) {h0 : Nat} {h1 : Nat} {K : Int32 → ZM → Prop} (hR : 4 + 1 ≤ fr ∧ 8 + (5 + 11) + 89 ≤ lo) (hst4 : zlw st) (hdg : decode cc pc = .ok (.invokevirtual 46, 3)) (k : ∀ r, ZW p l e R s m args below meth c Q nL D A al n0 (K r) (pc + 3) L (.int r :: st)) : ZW p l e R s m args below meth c Q nL D A al n0 (zat 16 h0 (f_X21_estimate h0 h1 K)) pc L (zv h1 :: zv h0 :: st) :=
  Z.ri0 _ (fun μ H locs cells slots ls hI h hP => Z.V0 F hI (n := 1) (ci := 15) rfl (by decide) hP.1 hP.2 (k_X21_estimate l h0 h1 D A (zX μ, zC μ, zS μ) H.size K μ) q1215 q1216 q1217 q145 q1218 (by decide +kernel) rfl h.1 hst4 hR rfl hdg) k
set_option maxHeartbeats 4000000 in
theorem k_X19_estimate (l : Launch) (h0 : Nat) (h1 : Nat) : ZCi l yX19_estimate (ws_ yX19_estimate cX19_estimate 4 (some .int)) 5 113 0 0 false [zv h0, zv h1] (f_X19_estimate h0 h1) := by
  refine Z.metI (by decide +kernel) (fun h => ⟨rfl, rfl⟩) (L0 := [(0, zv h0), (1, zv h1)]) (by first | (rw [zla_v, zla_v, zla_0]; done) | (rw [zla_v, zla_v, zla_0]; rfl)) (by rw [zsl_v, zsl_v, zsl_0]; exact Nat.le_of_ble_eq_true rfl) ?_
  intro p e R s m args below meth c D A n0 sz k F
  have F : ZF p R s m args meth c cX19_estimate 4 "SafeBuckets$Term" "estimate" (some .int) D A false sz 0 0 5 113 := F
  unfold f_X19_estimate
  refine Z.aload_n F 0 rfl dX19_estimate_0 ?_
  refine gfX19_11 F dX19_estimate_1 (fun g1 => ?_)
  refine Z.iconst F (v := (0 : Int32)) (by decide) dX19_estimate_4 ?_
  refine Z.aald F (t := 13) (by decide) rfl rfl dX19_estimate_5 (fun g5 => ?_)
  refine Z.aload_n F 1 rfl dX19_estimate_6 ?_
  refine clX19_46 F ⟨Nat.le_of_ble_eq_true rfl, Nat.le_of_ble_eq_true rfl⟩ (zlw4 (Nat.le_of_ble_eq_true rfl)) dX19_estimate_7 (fun r7 => ?_)
  refine Z.istore_n F (L0 := [(0, zv h0), (1, zv h1)]) [0, 1] rfl (zkR rfl (zkR rfl zkN)) (by decide) dX19_estimate_10 ?_
  refine Z.iconst F (v := (1 : Int32)) (by decide) dX19_estimate_11 ?_
  refine Z.istore_n F (L0 := [(2, .int r7), (0, zv h0), (1, zv h1)]) [0, 1, 2] rfl (zkI rfl (zkR rfl (zkR rfl zkN))) (by decide) dX19_estimate_12 ?_
  refine Z.sub [2, 3, 1, 0] rfl ?_
  refine Z.w2 (Lf := fun p13l2 p13l3 => [(0, zv h0), (1, zv h1), (2, .int p13l2), (3, .int p13l3)]) (sf := fun p13l2 p13l3 => []) (fun r13 hr13 p13l2 p13l3 => ?_) r7 (1 : Int32)
  refine Z.iload_n F 3 rfl dX19_estimate_13 ?_
  refine Z.aload_n F 0 rfl dX19_estimate_14 ?_
  refine gfX19_17 F dX19_estimate_15 (fun g15 => ?_)
  refine Z.icmp_ge F (tgt := 42) dX19_estimate_18 (by decide) ?_ ?_
  · refine Z.iload_n F 2 rfl dX19_estimate_42 ?_
    exact Z.iret F dX19_estimate_43
  refine Z.iload_n F 2 rfl dX19_estimate_21 ?_
  refine Z.aload_n F 0 rfl dX19_estimate_22 ?_
  refine gfX19_11 F dX19_estimate_23 (fun g23 => ?_)
  refine Z.iload_n F 3 rfl dX19_estimate_26 ?_
  refine Z.aald F (t := 13) (by decide) rfl rfl dX19_estimate_27 (fun g27 => ?_)
  refine Z.aload_n F 1 rfl dX19_estimate_28 ?_
  refine clX19_46 F ⟨Nat.le_of_ble_eq_true rfl, Nat.le_of_ble_eq_true rfl⟩ (zlw4 (Nat.le_of_ble_eq_true rfl)) dX19_estimate_29 (fun r29 => ?_)
  refine Z.mmin F q1205 (Nat.le_of_ble_eq_true rfl) (Nat.le_of_ble_eq_true rfl) (zlw4 (Nat.le_of_ble_eq_true rfl)) dX19_estimate_32 ?_
  refine Z.istore_n F (L0 := [(0, zv h0), (1, zv h1), (3, .int p13l3)]) [0, 1, 3] rfl (zkR rfl (zkR rfl (zkI rfl zkN))) (by decide) dX19_estimate_35 ?_
  refine Z.iinc F (L0 := [(2, .int (if r29 < p13l2 then r29 else p13l2)), (0, zv h0), (1, zv h1)]) (k0 := 3) (v := (1 : Int32)) rfl (by decide) [0, 1, 2] rfl (zkI rfl (zkR rfl (zkR rfl zkN))) (by decide) dX19_estimate_36 ?_
  refine Z.goto F (tgt := 13) dX19_estimate_39 (by decide) ?_
  exact Z.sub [2, 3, 1, 0] rfl (hr13 (if r29 < p13l2 then r29 else p13l2) (p13l3 + (1 : Int32)))
theorem clX18_46 (F : ZF p R s m args meth c cc nL "SafeBuckets$Where" nm ret D A al sz mc ms fr lo) {h0 : Nat} {h1 : Nat} {K : Int32 → ZM → Prop} (hR : 5 + 1 ≤ fr ∧ 8 + (4 + 11) + 113 ≤ lo) (hst4 : zlw st) (hdg : decode cc pc = .ok (.invokevirtual 46, 3)) (k : ∀ r, ZW p l e R s m args below meth c Q nL D A al n0 (K r) (pc + 3) L (.int r :: st)) : ZW p l e R s m args below meth c Q nL D A al n0 (zat 15 h0 (f_X19_estimate h0 h1 K)) pc L (zv h1 :: zv h0 :: st) :=
  Z.ri0 _ (fun μ H locs cells slots ls hI h hP => Z.V0 F hI (n := 1) (ci := 14) rfl (by decide) hP.1 hP.2 (k_X19_estimate l h0 h1 D A (zX μ, zC μ, zS μ) H.size K μ) q1211 q1212 q1213 q142 q1214 (by decide +kernel) rfl h.1 hst4 hR rfl hdg) k
set_option maxHeartbeats 4000000 in
theorem k_X18_estimate (l : Launch) (h0 : Nat) (h1 : Nat) : ZCi l yX18_estimate (ws_ yX18_estimate cX18_estimate 4 (some .int)) 6 136 0 0 false [zv h0, zv h1] (f_X18_estimate h0 h1) := by
  refine Z.metI (by decide +kernel) (fun h => ⟨rfl, rfl⟩) (L0 := [(0, zv h0), (1, zv h1)]) (by first | (rw [zla_v, zla_v, zla_0]; done) | (rw [zla_v, zla_v, zla_0]; rfl)) (by rw [zsl_v, zsl_v, zsl_0]; exact Nat.le_of_ble_eq_true rfl) ?_
  intro p e R s m args below meth c D A n0 sz k F
  have F : ZF p R s m args meth c cX18_estimate 4 "SafeBuckets$Where" "estimate" (some .int) D A false sz 0 0 6 136 := F
  unfold f_X18_estimate
  refine Z.iconst F (v := (0 : Int32)) (by decide) dX18_estimate_0 ?_
  refine Z.istore_n F (L0 := [(0, zv h0), (1, zv h1)]) [0, 1] rfl (zkR rfl (zkR rfl zkN)) (by decide) dX18_estimate_1 ?_
  refine Z.iconst F (v := (0 : Int32)) (by decide) dX18_estimate_2 ?_
  refine Z.istore_n F (L0 := [(2, .int (0 : Int32)), (0, zv h0), (1, zv h1)]) [0, 1, 2] rfl (zkI rfl (zkR rfl (zkR rfl zkN))) (by decide) dX18_estimate_3 ?_
  refine Z.jn1 (J := _) (fun p31l2 => [(1, zv h1), (2, .int p31l2)]) (fun p31l2 => []) 31 (fun p31l2 => ?_) (fun j31 hj31 => ?_)
  · refine Z.aload_n F 0 rfl dX18_estimate_31 ?_
    refine gfX18_38 F dX18_estimate_32 (fun g32 => ?_)
    refine Z.iload_n F 1 rfl dX18_estimate_35 ?_
    refine Z.mmin F q1206 (Nat.le_of_ble_eq_true rfl) (Nat.le_of_ble_eq_true rfl) (zlw4 (Nat.le_of_ble_eq_true rfl)) dX18_estimate_36 ?_
    exact Z.iret F dX18_estimate_39
  refine Z.sub [2, 3, 1, 0] rfl ?_
  refine Z.w2 (Lf := fun p4l2 p4l3 => [(0, zv h0), (1, zv h1), (2, .int p4l2), (3, .int p4l3)]) (sf := fun p4l2 p4l3 => []) (fun r4 hr4 p4l2 p4l3 => ?_) (0 : Int32) (0 : Int32)
  refine Z.iload_n F 3 rfl dX18_estimate_4 ?_
  refine Z.aload_n F 0 rfl dX18_estimate_5 ?_
  refine gfX18_17 F dX18_estimate_6 (fun g6 => ?_)
  refine Z.icmp_ge F (tgt := 31) dX18_estimate_9 (by decide) ?_ ?_
  · exact Z.sub [1, 2] rfl (hj31 p4l2)
  refine Z.iload_n F 2 rfl dX18_estimate_12 ?_
  refine Z.aload_n F 0 rfl dX18_estimate_13 ?_
  refine gfX18_11 F dX18_estimate_14 (fun g14 => ?_)
  refine Z.iload_n F 3 rfl dX18_estimate_17 ?_
  refine Z.aald F (t := 12) (by decide) rfl rfl dX18_estimate_18 (fun g18 => ?_)
  refine Z.aload_n F 1 rfl dX18_estimate_19 ?_
  refine clX18_46 F ⟨Nat.le_of_ble_eq_true rfl, Nat.le_of_ble_eq_true rfl⟩ (zlw4 (Nat.le_of_ble_eq_true rfl)) dX18_estimate_20 (fun r20 => ?_)
  refine Z.iadd F dX18_estimate_23 ?_
  refine Z.istore_n F (L0 := [(0, zv h0), (1, zv h1), (3, .int p4l3)]) [0, 1, 3] rfl (zkR rfl (zkR rfl (zkI rfl zkN))) (by decide) dX18_estimate_24 ?_
  refine Z.iinc F (L0 := [(2, .int (p4l2 + r20)), (0, zv h0), (1, zv h1)]) (k0 := 3) (v := (1 : Int32)) rfl (by decide) [0, 1, 2] rfl (zkI rfl (zkR rfl (zkR rfl zkN))) (by decide) dX18_estimate_25 ?_
  refine Z.goto F (tgt := 4) dX18_estimate_28 (by decide) ?_
  exact Z.sub [2, 3, 1, 0] rfl (hr4 (p4l2 + r20) (p4l3 + (1 : Int32)))
theorem pfX1_349 (F : ZF p R s m args meth c cc nL "SafeBuckets" nm ret D A al sz mc ms fr lo) {z : Nat} {u : Int32} (hdg : decode cc pc = .ok (.putfield 349, 3)) (k : ZW p l e R s m args below meth c Q nL D A al n0 P (pc + 3) L st) : ZW p l e R s m args below meth c Q nL D A al n0 (zpI 1 z 24 u P) pc L (.int u :: zv z :: st) :=
  Z.putI F (ref := "SafeBuckets") in_X1 (ci := 0) rfl (by decide) (kf := 24) (by decide) q413 (fun _ h => h) tyX1 tyX1_ok nmX1 rfl rfl rfl hdg k
theorem pfX1_352 (F : ZF p R s m args meth c cc nL "SafeBuckets" nm ret D A al sz mc ms fr lo) {z : Nat} {u : Int32} (hdg : decode cc pc = .ok (.putfield 352, 3)) (k : ZW p l e R s m args below meth c Q nL D A al n0 P (pc + 3) L st) : ZW p l e R s m args below meth c Q nL D A al n0 (zpI 1 z 25 u P) pc L (.int u :: zv z :: st) :=
  Z.putI F (ref := "SafeBuckets") in_X1 (ci := 0) rfl (by decide) (kf := 25) (by decide) q414 (fun _ h => h) tyX1 tyX1_ok nmX1 rfl rfl rfl hdg k
set_option maxHeartbeats 4000000 in
theorem k_X1_begins (l : Launch) (h0 : Nat) : ZCv l yX1_begins (ws_ yX1_begins cX1_begins 1 none) 0 0 0 0 false [zv h0] (f_X1_begins h0) := by
  refine Z.metV (by decide +kernel) (fun h => ⟨rfl, rfl⟩) (L0 := [(0, zv h0)]) (by first | (rw [zla_v, zla_0]; done) | (rw [zla_v, zla_0]; rfl)) (by rw [zsl_v, zsl_0]; exact Nat.le_of_ble_eq_true rfl) ?_
  intro p e R s m args below meth c D A n0 sz k F
  have F : ZF p R s m args meth c cX1_begins 1 "SafeBuckets" "begins" none D A false sz 0 0 0 0 := F
  unfold f_X1_begins
  refine Z.aload_n F 0 rfl dX1_begins_0 ?_
  refine Z.iconst F (v := (0 : Int32)) (by decide) dX1_begins_1 ?_
  refine pfX1_349 F dX1_begins_2 ?_
  refine Z.aload_n F 0 rfl dX1_begins_5 ?_
  refine Z.iconst F (v := (0 : Int32)) (by decide) dX1_begins_6 ?_
  refine pfX1_352 F dX1_begins_7 ?_
  exact Z.vret F dX1_begins_10
theorem gfX1_84 (F : ZF p R s m args meth c cc nL "SafeBuckets" nm ret D A al sz mc ms fr lo) {z : Nat} {K : Nat → ZM → Prop} (hdg : decode cc pc = .ok (.getfield 84, 3)) (k : ∀ u, ZW p l e R s m args below meth c Q nL D A al n0 (K u) (pc + 3) L (zv u :: st)) : ZW p l e R s m args below meth c Q nL D A al n0 (zgR 1 z 23 K) pc L (zv z :: st) :=
  Z.getR F (ref := "SafeBuckets") in_X1 (ci := 0) rfl (by decide) (kf := 23) (by decide) q412 (fun _ h => h) rfl hdg k
theorem gfX1_349 (F : ZF p R s m args meth c cc nL "SafeBuckets" nm ret D A al sz mc ms fr lo) {z : Nat} {K : Int32 → ZM → Prop} (hdg : decode cc pc = .ok (.getfield 349, 3)) (k : ∀ u, ZW p l e R s m args below meth c Q nL D A al n0 (K u) (pc + 3) L (.int u :: st)) : ZW p l e R s m args below meth c Q nL D A al n0 (zgI 1 z 24 K) pc L (zv z :: st) :=
  Z.getI F (ref := "SafeBuckets") in_X1 (ci := 0) rfl (by decide) (kf := 24) (by decide) q413 (fun _ h => h) rfl hdg k
set_option maxHeartbeats 4000000 in
theorem k_X1_traces (l : Launch) (h0 : Nat) (x1 : Int32) : ZCv l yX1_traces (ws_ yX1_traces cX1_traces 2 none) 0 0 0 0 false [zv h0, .int x1] (f_X1_traces h0 x1) := by
  refine Z.metV (by decide +kernel) (fun h => ⟨rfl, rfl⟩) (L0 := [(0, zv h0), (1, .int x1)]) (by first | (rw [zla_v, zla_i, zla_0]; done) | (rw [zla_v, zla_i, zla_0]; rfl)) (by rw [zsl_v, zsl_i, zsl_0]; exact Nat.le_of_ble_eq_true rfl) ?_
  intro p e R s m args below meth c D A n0 sz k F
  have F : ZF p R s m args meth c cX1_traces 2 "SafeBuckets" "traces" none D A false sz 0 0 0 0 := F
  unfold f_X1_traces
  refine Z.aload_n F 0 rfl dX1_traces_0 ?_
  refine gfX1_84 F dX1_traces_1 (fun g1 => ?_)
  refine Z.aload_n F 0 rfl dX1_traces_4 ?_
  refine gfX1_349 F dX1_traces_5 (fun g5 => ?_)
  refine Z.iload_n F 1 rfl dX1_traces_8 ?_
  refine Z.iast F dX1_traces_9 ?_
  refine Z.aload_n F 0 rfl dX1_traces_10 ?_
  refine Z.dup F dX1_traces_11 ?_
  refine gfX1_349 F dX1_traces_12 (fun g12 => ?_)
  refine Z.iconst F (v := (1 : Int32)) (by decide) dX1_traces_15 ?_
  refine Z.iadd F dX1_traces_16 ?_
  refine pfX1_349 F dX1_traces_17 ?_
  exact Z.vret F dX1_traces_20
end ZWalk
