section ZWalk
variable {p : Program} {l : Launch} {e : Env} {R : Room} {s : State} {m : MethodId} {args : Array Value} {below : List Frame} {meth : Method} {c : Code} {Q : State → Prop} {nL : Nat} {D : ZD} {A : Nat → Prop} {al : Bool} {n0 : Nat × Nat × Nat} {cc : ByteArray} {nm : String} {ret : Option FieldType} {sz mc ms fr lo : Nat}
variable {P : ZM → Prop} {pc : Nat} {L : List (Nat × Value)} {st : List Value}
set_option maxHeartbeats 4000000 in
theorem k_X1_bytes (l : Launch) (x0 : Int32) : ZCi l yX1_bytes (ws_ yX1_bytes cX1_bytes 3 (some .int)) 0 0 0 0 false [.int x0] (f_X1_bytes x0) := by
  refine Z.metI (by decide +kernel) (fun h => ⟨rfl, rfl⟩) (L0 := [(0, .int x0)]) (by first | (rw [zla_i, zla_0]; done) | (rw [zla_i, zla_0]; rfl)) (by rw [zsl_i, zsl_0]; exact Nat.le_of_ble_eq_true rfl) ?_
  intro p e R s m args below meth c D A n0 sz k F
  have F : ZF p R s m args meth c cX1_bytes 3 "SafeBuckets" "bytes" (some .int) D A false sz 0 0 0 0 := F
  unfold f_X1_bytes
  refine Z.iconst F (v := (0 : Int32)) (by decide) dX1_bytes_0 ?_
  refine Z.istore_n F (L0 := [(0, .int x0)]) [0] rfl (zkI rfl zkN) (by decide) dX1_bytes_1 ?_
  refine Z.bipush F (v := (24 : Int32)) (by decide) dX1_bytes_2 ?_
  refine Z.istore_n F (L0 := [(1, .int (0 : Int32)), (0, .int x0)]) [0, 1] rfl (zkI rfl (zkI rfl zkN)) (by decide) dX1_bytes_4 ?_
  refine Z.sub [2, 1, 0] rfl ?_
  refine Z.w2 (Lf := fun p5l1 p5l2 => [(0, .int x0), (1, .int p5l1), (2, .int p5l2)]) (sf := fun p5l1 p5l2 => []) (fun r5 hr5 p5l1 p5l2 => ?_) (0 : Int32) (24 : Int32)
  refine Z.iload_n F 2 rfl dX1_bytes_5 ?_
  refine Z.if_lt F (tgt := 33) dX1_bytes_6 (by decide) ?_ ?_
  · refine Z.iload_n F 1 rfl dX1_bytes_33 ?_
    exact Z.iret F dX1_bytes_34
  refine Z.iload_n F 1 rfl dX1_bytes_9 ?_
  refine Z.iload_n F 0 rfl dX1_bytes_10 ?_
  refine Z.iload_n F 2 rfl dX1_bytes_11 ?_
  refine Z.ishr F dX1_bytes_12 ?_
  refine Z.sipush F (v := (255 : Int32)) (by decide) dX1_bytes_13 ?_
  refine Z.iand F dX1_bytes_16 ?_
  refine Z.jn1 (J := _) (fun p25s1 => [(0, .int x0), (2, .int p5l2)]) (fun p25s1 => [.int p25s1, .int p5l1]) 25 (fun p25s1 => ?_) (fun j25 hj25 => ?_)
  · refine Z.iadd F dX1_bytes_25 ?_
    refine Z.istore_n F (L0 := [(0, .int x0), (2, .int p5l2)]) [0, 1] rfl (zkI rfl (zkI rfl zkN)) (by decide) dX1_bytes_26 ?_
    refine Z.iinc F (L0 := [(1, .int (p5l1 + p25s1)), (0, .int x0)]) (k0 := 2) (v := (-8 : Int32)) rfl (by decide) [0, 1] rfl (zkI rfl (zkI rfl zkN)) (by decide) dX1_bytes_27 ?_
    refine Z.goto F (tgt := 5) dX1_bytes_30 (by decide) ?_
    exact Z.sub [2, 1, 0] rfl (hr5 (p5l1 + p25s1) (p5l2 + (-8 : Int32)))
  refine Z.if_eq F (tgt := 24) dX1_bytes_17 (by decide) ?_ ?_
  · refine Z.iconst F (v := (0 : Int32)) (by decide) dX1_bytes_24 ?_
    exact Z.sub [0, 2] rfl (hj25 (0 : Int32))
  refine Z.iconst F (v := (1 : Int32)) (by decide) dX1_bytes_20 ?_
  refine Z.goto F (tgt := 25) dX1_bytes_21 (by decide) ?_
  exact Z.sub [0, 2] rfl (hj25 (1 : Int32))
theorem gfX1_15 (F : ZF p R s m args meth c cc nL "SafeBuckets" nm ret D A al sz mc ms fr lo) {z : Nat} {K : Nat → ZM → Prop} (hdg : decode cc pc = .ok (.getfield 15, 3)) (k : ∀ u, ZW p l e R s m args below meth c Q nL D A al n0 (K u) (pc + 3) L (zv u :: st)) : ZW p l e R s m args below meth c Q nL D A al n0 (zgR 1 z 0 K) pc L (zv z :: st) :=
  Z.getR F (ref := "SafeBuckets") in_X1 (ci := 0) rfl (by decide) (kf := 0) (by decide) q383 (fun _ h => h) rfl hdg k
theorem gfX1_7 (F : ZF p R s m args meth c cc nL "SafeBuckets" nm ret D A al sz mc ms fr lo) {z : Nat} {K : Int32 → ZM → Prop} (hdg : decode cc pc = .ok (.getfield 7, 3)) (k : ∀ u, ZW p l e R s m args below meth c Q nL D A al n0 (K u) (pc + 3) L (.int u :: st)) : ZW p l e R s m args below meth c Q nL D A al n0 (zgI 1 z 1 K) pc L (zv z :: st) :=
  Z.getI F (ref := "SafeBuckets") in_X1 (ci := 0) rfl (by decide) (kf := 1) (by decide) q385 (fun _ h => h) rfl hdg k
theorem pfX1_7 (F : ZF p R s m args meth c cc nL "SafeBuckets" nm ret D A al sz mc ms fr lo) {z : Nat} {u : Int32} (hdg : decode cc pc = .ok (.putfield 7, 3)) (k : ZW p l e R s m args below meth c Q nL D A al n0 P (pc + 3) L st) : ZW p l e R s m args below meth c Q nL D A al n0 (zpI 1 z 1 u P) pc L (.int u :: zv z :: st) :=
  Z.putI F (ref := "SafeBuckets") in_X1 (ci := 0) rfl (by decide) (kf := 1) (by decide) q385 (fun _ h => h) tyX1 tyX1_ok nmX1 rfl rfl rfl hdg k
set_option maxHeartbeats 4000000 in
theorem k_X1_bring (l : Launch) (h0 : Nat) (x1 : Int32) : ZCv l yX1_bring (ws_ yX1_bring cX1_bring 3 none) 0 0 0 0 false [zv h0, .int x1] (f_X1_bring h0 x1) := by
  refine Z.metV (by decide +kernel) (fun h => ⟨rfl, rfl⟩) (L0 := [(0, zv h0), (1, .int x1)]) (by first | (rw [zla_v, zla_i, zla_0]; done) | (rw [zla_v, zla_i, zla_0]; rfl)) (by rw [zsl_v, zsl_i, zsl_0]; exact Nat.le_of_ble_eq_true rfl) ?_
  intro p e R s m args below meth c D A n0 sz k F
  have F : ZF p R s m args meth c cX1_bring 3 "SafeBuckets" "bring" none D A false sz 0 0 0 0 := F
  unfold f_X1_bring
  refine Z.bipush F (v := (24 : Int32)) (by decide) dX1_bring_0 ?_
  refine Z.istore_n F (L0 := [(0, zv h0), (1, .int x1)]) [0, 1] rfl (zkR rfl (zkI rfl zkN)) (by decide) dX1_bring_2 ?_
  refine Z.sub [1, 2, 0] rfl ?_
  refine Z.w1 (Lf := fun p3l2 => [(0, zv h0), (1, .int x1), (2, .int p3l2)]) (sf := fun p3l2 => []) (fun r3 hr3 p3l2 => ?_) (24 : Int32)
  refine Z.iload_n F 2 rfl dX1_bring_3 ?_
  refine Z.if_lt F (tgt := 49) dX1_bring_4 (by decide) ?_ ?_
  · exact Z.vret F dX1_bring_49
  refine Z.iload_n F 1 rfl dX1_bring_7 ?_
  refine Z.iload_n F 2 rfl dX1_bring_8 ?_
  refine Z.ishr F dX1_bring_9 ?_
  refine Z.sipush F (v := (255 : Int32)) (by decide) dX1_bring_10 ?_
  refine Z.iand F dX1_bring_13 ?_
  refine Z.jn0 (J := _) ([(0, zv h0), (1, .int x1), (2, .int p3l2)]) ([]) 43 (?_) (fun j43 hj43 => ?_)
  · refine Z.iinc F (L0 := [(0, zv h0), (1, .int x1)]) (k0 := 2) (v := (-8 : Int32)) rfl (by decide) [0, 1] rfl (zkR rfl (zkI rfl zkN)) (by decide) dX1_bring_43 ?_
    refine Z.goto F (tgt := 3) dX1_bring_46 (by decide) ?_
    exact Z.sub [1, 2, 0] rfl (hr3 (p3l2 + (-8 : Int32)))
  refine Z.if_ne F (tgt := 20) dX1_bring_14 (by decide) ?_ ?_
  · refine Z.aload_n F 0 rfl dX1_bring_20 ?_
    refine gfX1_15 F dX1_bring_21 (fun g21 => ?_)
    refine Z.aload_n F 0 rfl dX1_bring_24 ?_
    refine gfX1_7 F dX1_bring_25 (fun g25 => ?_)
    refine Z.iload_n F 1 rfl dX1_bring_28 ?_
    refine Z.iload_n F 2 rfl dX1_bring_29 ?_
    refine Z.ishr F dX1_bring_30 ?_
    refine Z.i2b F dX1_bring_31 ?_
    refine Z.bast F dX1_bring_32 ?_
    refine Z.aload_n F 0 rfl dX1_bring_33 ?_
    refine Z.dup F dX1_bring_34 ?_
    refine gfX1_7 F dX1_bring_35 (fun g35 => ?_)
    refine Z.iconst F (v := (1 : Int32)) (by decide) dX1_bring_38 ?_
    refine Z.iadd F dX1_bring_39 ?_
    refine pfX1_7 F dX1_bring_40 ?_
    exact Z.sub [0, 1, 2] rfl (hj43)
  refine Z.goto F (tgt := 43) dX1_bring_17 (by decide) ?_
  exact Z.sub [0, 1, 2] rfl (hj43)
theorem clX1_3 (F : ZF p R s m args meth c cc nL "SafeBuckets" nm ret D A al sz mc ms fr lo) {x0 : Int32} {K : Int32 → ZM → Prop} (hR : 0 + 1 ≤ fr ∧ 8 + (3 + 11) + 0 ≤ lo) (hst4 : zlw st) (hdg : decode cc pc = .ok (.invokestatic 3, 3)) (k : ∀ r, ZW p l e R s m args below meth c Q nL D A al n0 (K r) (pc + 3) L (.int r :: st)) : ZW p l e R s m args below meth c Q nL D A al n0 (f_X1_bytes x0 K) pc L (.int x0 :: st) :=
  Z.ri0 _ (fun μ H locs cells slots ls hI h hP => Z.S0 F hI (n := 1) hP (k_X1_bytes l x0 D A (zX μ, zC μ, zS μ) H.size K μ) q160 q161 q116 q162 (by decide +kernel) rfl h.1 hst4 hR rfl hdg) k
theorem clX1_11 (F : ZF p R s m args meth c cc nL "SafeBuckets" nm ret D A al sz mc ms fr lo) {h0 : Nat} {x1 : Int32} {K : ZM → Prop} (hR : 0 + 1 ≤ fr ∧ 8 + (3 + 11) + 0 ≤ lo) (hst4 : zlw st) (hdg : decode cc pc = .ok (.invokevirtual 11, 3)) (k : ZW p l e R s m args below meth c Q nL D A al n0 K (pc + 3) L st) : ZW p l e R s m args below meth c Q nL D A al n0 (zat 1 h0 (f_X1_bring h0 x1 K)) pc L (.int x1 :: zv h0 :: st) :=
  Z.rv0 _ (fun μ H locs cells slots ls hI h hP => Z.V0 F hI (n := 1) (ci := 0) rfl (by decide) hP.1 hP.2 (k_X1_bring l h0 x1 D A (zX μ, zC μ, zS μ) H.size K μ) q163 q165 qs0 q116 q167 (by decide +kernel) rfl h.1 hst4 hR rfl hdg) k
set_option maxHeartbeats 4000000 in
theorem k_X1_feed (l : Launch) (h0 : Nat) (x1 : Int32) (x2 : Int32) (x3 : Int32) (x4 : Int32) (x5 : Int32) : ZCi l yX1_feed (ws_ yX1_feed cX1_feed 7 (some .int)) 1 22 0 0 false [zv h0, .int x1, .int x2, .int x3, .int x4, .int x5] (f_X1_feed h0 x1 x2 x3 x4 x5) := by
  refine Z.metI (by decide +kernel) (fun h => ⟨rfl, rfl⟩) (L0 := [(0, zv h0), (1, .int x1), (2, .int x2), (3, .int x3), (4, .int x4), (5, .int x5)]) (by first | (rw [zla_v, zla_i, zla_i, zla_i, zla_i, zla_i, zla_0]; done) | (rw [zla_v, zla_i, zla_i, zla_i, zla_i, zla_i, zla_0]; rfl)) (by rw [zsl_v, zsl_i, zsl_i, zsl_i, zsl_i, zsl_i, zsl_0]; exact Nat.le_of_ble_eq_true rfl) ?_
  intro p e R s m args below meth c D A n0 sz k F
  have F : ZF p R s m args meth c cX1_feed 7 "SafeBuckets" "feed" (some .int) D A false sz 0 0 1 22 := F
  unfold f_X1_feed
  refine Z.iload_n F 1 rfl dX1_feed_0 ?_
  refine clX1_3 F ⟨Nat.le_of_ble_eq_true rfl, Nat.le_of_ble_eq_true rfl⟩ (zlw4 (Nat.le_of_ble_eq_true rfl)) dX1_feed_1 (fun r1 => ?_)
  refine Z.iload_n F 2 rfl dX1_feed_4 ?_
  refine clX1_3 F ⟨Nat.le_of_ble_eq_true rfl, Nat.le_of_ble_eq_true rfl⟩ (zlw4 (Nat.le_of_ble_eq_true rfl)) dX1_feed_5 (fun r5 => ?_)
  refine Z.iadd F dX1_feed_8 ?_
  refine Z.iload_n F 3 rfl dX1_feed_9 ?_
  refine clX1_3 F ⟨Nat.le_of_ble_eq_true rfl, Nat.le_of_ble_eq_true rfl⟩ (zlw4 (Nat.le_of_ble_eq_true rfl)) dX1_feed_10 (fun r10 => ?_)
  refine Z.iadd F dX1_feed_13 ?_
  refine Z.iload F 4 rfl dX1_feed_14 ?_
  refine clX1_3 F ⟨Nat.le_of_ble_eq_true rfl, Nat.le_of_ble_eq_true rfl⟩ (zlw4 (Nat.le_of_ble_eq_true rfl)) dX1_feed_16 (fun r16 => ?_)
  refine Z.iadd F dX1_feed_19 ?_
  refine Z.iload F 5 rfl dX1_feed_20 ?_
  refine clX1_3 F ⟨Nat.le_of_ble_eq_true rfl, Nat.le_of_ble_eq_true rfl⟩ (zlw4 (Nat.le_of_ble_eq_true rfl)) dX1_feed_22 (fun r22 => ?_)
  refine Z.iadd F dX1_feed_25 ?_
  refine Z.istore F (L0 := [(0, zv h0), (1, .int x1), (2, .int x2), (3, .int x3), (4, .int x4), (5, .int x5)]) [0, 1, 2, 3, 4, 5] rfl (zkR rfl (zkI rfl (zkI rfl (zkI rfl (zkI rfl (zkI rfl zkN)))))) (by decide) dX1_feed_26 ?_
  refine Z.aload_n F 1 rfl dX1_feed_28 ?_
  refine gfX1_7 F dX1_feed_29 (fun g29 => ?_)
  refine Z.iload F 0 rfl dX1_feed_32 ?_
  refine Z.iadd F dX1_feed_34 ?_
  refine Z.sipush F (v := (240 : Int32)) (by decide) dX1_feed_35 ?_
  refine Z.icmp_le F (tgt := 43) dX1_feed_38 (by decide) ?_ ?_
  · refine Z.aload_n F 1 rfl dX1_feed_43 ?_
    refine Z.iload_n F 2 rfl dX1_feed_44 ?_
    refine clX1_11 F ⟨Nat.le_of_ble_eq_true rfl, Nat.le_of_ble_eq_true rfl⟩ (zlw4 (Nat.le_of_ble_eq_true rfl)) dX1_feed_45 ?_
    refine Z.aload_n F 1 rfl dX1_feed_48 ?_
    refine Z.iload_n F 3 rfl dX1_feed_49 ?_
    refine clX1_11 F ⟨Nat.le_of_ble_eq_true rfl, Nat.le_of_ble_eq_true rfl⟩ (zlw4 (Nat.le_of_ble_eq_true rfl)) dX1_feed_50 ?_
    refine Z.aload_n F 1 rfl dX1_feed_53 ?_
    refine Z.iload_n F 4 rfl dX1_feed_54 ?_
    refine clX1_11 F ⟨Nat.le_of_ble_eq_true rfl, Nat.le_of_ble_eq_true rfl⟩ (zlw4 (Nat.le_of_ble_eq_true rfl)) dX1_feed_55 ?_
    refine Z.aload_n F 1 rfl dX1_feed_58 ?_
    refine Z.iload F 5 rfl dX1_feed_59 ?_
    refine clX1_11 F ⟨Nat.le_of_ble_eq_true rfl, Nat.le_of_ble_eq_true rfl⟩ (zlw4 (Nat.le_of_ble_eq_true rfl)) dX1_feed_61 ?_
    refine Z.aload_n F 1 rfl dX1_feed_64 ?_
    refine Z.iload F 6 rfl dX1_feed_65 ?_
    refine clX1_11 F ⟨Nat.le_of_ble_eq_true rfl, Nat.le_of_ble_eq_true rfl⟩ (zlw4 (Nat.le_of_ble_eq_true rfl)) dX1_feed_67 ?_
    refine Z.aload_n F 1 rfl dX1_feed_70 ?_
    refine gfX1_7 F dX1_feed_71 (fun g71 => ?_)
    exact Z.iret F dX1_feed_74
  refine Z.iconst F (v := (-1 : Int32)) (by decide) dX1_feed_41 ?_
  exact Z.iret F dX1_feed_42
set_option maxHeartbeats 4000000 in
theorem k_X1_end (l : Launch) (h0 : Nat) (x1 : Int32) : ZCi l yX1_end (ws_ yX1_end cX1_end 2 (some .boolean)) 0 0 0 0 false [zv h0, .int x1] (f_X1_end h0 x1) := by
  refine Z.metZ (by decide +kernel) (fun h => ⟨rfl, rfl⟩) (L0 := [(0, zv h0), (1, .int x1)]) (by first | (rw [zla_v, zla_i, zla_0]; done) | (rw [zla_v, zla_i, zla_0]; rfl)) (by rw [zsl_v, zsl_i, zsl_0]; exact Nat.le_of_ble_eq_true rfl) ?_
  intro p e R s m args below meth c D A n0 sz k F
  have F : ZF p R s m args meth c cX1_end 2 "SafeBuckets" "end" (some .boolean) D A false sz 0 0 0 0 := F
  unfold f_X1_end
  refine Z.iload_n F 1 rfl dX1_end_0 ?_
  refine Z.jn0 (J := _) ([]) ([]) 12 (?_) (fun j12 hj12 => ?_)
  · refine Z.iconst F (v := (0 : Int32)) (by decide) dX1_end_12 ?_
    exact Z.zret F dX1_end_13
  refine Z.if_lt F (tgt := 12) dX1_end_1 (by decide) ?_ ?_
  · exact Z.sub [] rfl (hj12)
  refine Z.iload_n F 1 rfl dX1_end_4 ?_
  refine Z.aload_n F 0 rfl dX1_end_5 ?_
  refine gfX1_7 F dX1_end_6 (fun g6 => ?_)
  refine Z.icmp_le F (tgt := 14) dX1_end_9 (by decide) ?_ ?_
  · refine Z.aload_n F 0 rfl dX1_end_14 ?_
    refine Z.iload_n F 1 rfl dX1_end_15 ?_
    refine pfX1_7 F dX1_end_16 ?_
    refine Z.iconst F (v := (1 : Int32)) (by decide) dX1_end_19 ?_
    exact Z.zret F dX1_end_20
  exact Z.sub [] rfl (hj12)
set_option maxHeartbeats 4000000 in
theorem k_X5_init (l : Launch) (h0 : Nat) : ZCv l yX5_init (ws_ yX5_init cX5_init 1 none) 1 20 0 0 false [zv h0] (f_X5_init h0) := by
  refine Z.metV (by decide +kernel) (fun h => ⟨rfl, rfl⟩) (L0 := [(0, zv h0)]) (by first | (rw [zla_v, zla_0]; done) | (rw [zla_v, zla_0]; rfl)) (by rw [zsl_v, zsl_0]; exact Nat.le_of_ble_eq_true rfl) ?_
  intro p e R s m args below meth c D A n0 sz k F
  have F : ZF p R s m args meth c cX5_init 1 "SafeBuckets$Span" "<init>" none D A false sz 0 0 1 20 := F
  unfold f_X5_init
  refine Z.aload_n F 0 rfl dX5_init_0 ?_
  refine Z.objI F q217 (Nat.le_of_ble_eq_true rfl) (Nat.le_of_ble_eq_true rfl) (zlw4 (Nat.le_of_ble_eq_true rfl)) dX5_init_1 ?_
  exact Z.vret F dX5_init_4
theorem clX6_1_5 (F : ZF p R s m args meth c cc nL "SafeBuckets$Kept" nm ret D A al sz mc ms fr lo) {h0 : Nat} {K : ZM → Prop} (hR : 1 + 1 ≤ fr ∧ 8 + (1 + 11) + 20 ≤ lo) (hst4 : zlw st) (hdg : decode cc pc = .ok (.invokespecial 1, 3)) (k : ZW p l e R s m args below meth c Q nL D A al n0 K (pc + 3) L st) : ZW p l e R s m args below meth c Q nL D A al n0 (zat 5 h0 (f_X5_init h0 K)) pc L (zv h0 :: st) :=
  Z.rv0 _ (fun μ H locs cells slots ls hI h hP => Z.IN0 F hI (n := 0) (ci := 4) rfl (by decide) hP.1 hP.2 (k_X5_init l h0 D A (zX μ, zC μ, zS μ) H.size K μ) rfl (List.mem_of_getElem? (i := 5) rfl) q215 q120 q216 (by decide +kernel) rfl h.1 hst4 hR rfl hdg) k
set_option maxHeartbeats 4000000 in
theorem k_X6_init (l : Launch) (h0 : Nat) : ZCv l yX6_init (ws_ yX6_init cX6_init 1 none) 2 40 0 0 false [zv h0] (f_X6_init h0) := by
  refine Z.metV (by decide +kernel) (fun h => ⟨rfl, rfl⟩) (L0 := [(0, zv h0)]) (by first | (rw [zla_v, zla_0]; done) | (rw [zla_v, zla_0]; rfl)) (by rw [zsl_v, zsl_0]; exact Nat.le_of_ble_eq_true rfl) ?_
  intro p e R s m args below meth c D A n0 sz k F
  have F : ZF p R s m args meth c cX6_init 1 "SafeBuckets$Kept" "<init>" none D A false sz 0 0 2 40 := F
  unfold f_X6_init
  refine Z.aload_n F 0 rfl dX6_init_0 ?_
  refine clX6_1_5 F ⟨Nat.le_of_ble_eq_true rfl, Nat.le_of_ble_eq_true rfl⟩ (zlw4 (Nat.le_of_ble_eq_true rfl)) dX6_init_1 ?_
  exact Z.vret F dX6_init_4
theorem clX7_1_5 (F : ZF p R s m args meth c cc nL "SafeBuckets$Bucket" nm ret D A al sz mc ms fr lo) {h0 : Nat} {K : ZM → Prop} (hR : 2 + 1 ≤ fr ∧ 8 + (1 + 11) + 40 ≤ lo) (hst4 : zlw st) (hdg : decode cc pc = .ok (.invokespecial 1, 3)) (k : ZW p l e R s m args below meth c Q nL D A al n0 K (pc + 3) L st) : ZW p l e R s m args below meth c Q nL D A al n0 (zat 5 h0 (f_X6_init h0 K)) pc L (zv h0 :: st) :=
  Z.rv0 _ (fun μ H locs cells slots ls hI h hP => Z.IN0 F hI (n := 0) (ci := 4) rfl (by decide) hP.1 hP.2 (k_X6_init l h0 D A (zX μ, zC μ, zS μ) H.size K μ) rfl (List.mem_of_getElem? (i := 3) rfl) q212 q121 q213 (by decide +kernel) rfl h.1 hst4 hR rfl hdg) k
set_option maxHeartbeats 4000000 in
theorem k_X7_init (l : Launch) (h0 : Nat) : ZCv l yX7_init (ws_ yX7_init cX7_init 1 none) 3 60 0 0 false [zv h0] (f_X7_init h0) := by
  refine Z.metV (by decide +kernel) (fun h => ⟨rfl, rfl⟩) (L0 := [(0, zv h0)]) (by first | (rw [zla_v, zla_0]; done) | (rw [zla_v, zla_0]; rfl)) (by rw [zsl_v, zsl_0]; exact Nat.le_of_ble_eq_true rfl) ?_
  intro p e R s m args below meth c D A n0 sz k F
  have F : ZF p R s m args meth c cX7_init 1 "SafeBuckets$Bucket" "<init>" none D A false sz 0 0 3 60 := F
  unfold f_X7_init
  refine Z.aload_n F 0 rfl dX7_init_0 ?_
  refine clX7_1_5 F ⟨Nat.le_of_ble_eq_true rfl, Nat.le_of_ble_eq_true rfl⟩ (zlw4 (Nat.le_of_ble_eq_true rfl)) dX7_init_1 ?_
  exact Z.vret F dX7_init_4
theorem pfX4_11 (F : ZF p R s m args meth c cc nL "SafeBuckets$Column" "<init>" ret D A al sz mc ms fr lo) {z : Nat} {u : Nat} (hdg : decode cc pc = .ok (.putfield 11, 3)) (k : ZW p l e R s m args below meth c Q nL D A al n0 P (pc + 3) L st) : ZW p l e R s m args below meth c Q nL D A al n0 (zpR 4 z 0 u P) pc L (zv u :: zv z :: st) :=
  Z.putRF F (ref := "SafeBuckets$Column") in_X4 (ci := 3) rfl (by decide) (kf := 0) (by decide) q255 (fun _ h => h) tyX4 tyX4_ok nmX4 rfl rfl rfl (ty := .array _) (fun u => zv_narA u) (fun u => zv_fitA u) rfl rfl hdg k
theorem gfX4_11 (F : ZF p R s m args meth c cc nL "SafeBuckets$Column" nm ret D A al sz mc ms fr lo) {z : Nat} {K : Nat → ZM → Prop} (hdg : decode cc pc = .ok (.getfield 11, 3)) (k : ∀ u, ZW p l e R s m args below meth c Q nL D A al n0 (K u) (pc + 3) L (zv u :: st)) : ZW p l e R s m args below meth c Q nL D A al n0 (zgR 4 z 0 K) pc L (zv z :: st) :=
  Z.getR F (ref := "SafeBuckets$Column") in_X4 (ci := 3) rfl (by decide) (kf := 0) (by decide) q255 (fun _ h => h) rfl hdg k
theorem clX4_17 (F : ZF p R s m args meth c cc nL "SafeBuckets$Column" nm ret D A al sz mc ms fr lo) {h0 : Nat} {K : ZM → Prop} (hR : 3 + 1 ≤ fr ∧ 8 + (1 + 11) + 60 ≤ lo) (hst4 : zlw st) (hdg : decode cc pc = .ok (.invokespecial 17, 3)) (k : ZW p l e R s m args below meth c Q nL D A al n0 K (pc + 3) L st) : ZW p l e R s m args below meth c Q nL D A al n0 (zat 5 h0 (f_X7_init h0 K)) pc L (zv h0 :: st) :=
  Z.rv0 _ (fun μ H locs cells slots ls hI h hP => Z.IN0 F hI (n := 0) (ci := 4) rfl (by decide) hP.1 hP.2 (k_X7_init l h0 D A (zX μ, zC μ, zS μ) H.size K μ) rfl (List.mem_of_getElem? (i := 4) rfl) q209 q122 q210 (by decide +kernel) rfl h.1 hst4 hR rfl hdg) k
set_option maxHeartbeats 4000000 in
theorem k_X4_init (l : Launch) (h0 : Nat) : ZCv l yX4_init (ws_ yX4_init cX4_init 2 none) 4 80 9 40 true [zv h0] (f_X4_init h0) := by
  refine Z.metV (by decide +kernel) (fun h => by cases h) (L0 := [(0, zv h0)]) (by first | (rw [zla_v, zla_0]; done) | (rw [zla_v, zla_0]; rfl)) (by rw [zsl_v, zsl_0]; exact Nat.le_of_ble_eq_true rfl) ?_
  intro p e R s m args below meth c D A n0 sz k F
  have F : ZF p R s m args meth c cX4_init 2 "SafeBuckets$Column" "<init>" none D A true sz 9 40 4 80 := F
  unfold f_X4_init
  refine Z.aload_n F 0 rfl dX4_init_0 ?_
  refine Z.objI F q204 (Nat.le_of_ble_eq_true rfl) (Nat.le_of_ble_eq_true rfl) (zlw4 (Nat.le_of_ble_eq_true rfl)) dX4_init_1 ?_
  refine Z.aload_n F 0 rfl dX4_init_4 ?_
  refine Z.bipush F (v := (8 : Int32)) (by decide) dX4_init_5 ?_
  refine Z.newQ F (C := "SafeBuckets$Bucket") (t := 8) (by decide) rfl q205 (List.mem_of_getElem? (i := 3) rfl) dX4_init_7 (fun n7 => ?_)
  refine pfX4_11 F dX4_init_10 ?_
  refine Z.iconst F (v := (0 : Int32)) (by decide) dX4_init_13 ?_
  refine Z.istore_n F (L0 := [(0, zv h0)]) [0] rfl (zkR rfl zkN) (by decide) dX4_init_14 ?_
  refine Z.sub [1, 0] rfl ?_
  refine Z.w1 (Lf := fun p15l1 => [(0, zv h0), (1, .int p15l1)]) (sf := fun p15l1 => []) (fun r15 hr15 p15l1 => ?_) (0 : Int32)
  refine Z.iload_n F 1 rfl dX4_init_15 ?_
  refine Z.bipush F (v := (8 : Int32)) (by decide) dX4_init_16 ?_
  refine Z.icmp_ge F (tgt := 40) dX4_init_18 (by decide) ?_ ?_
  · exact Z.vret F dX4_init_40
  refine Z.aload_n F 0 rfl dX4_init_21 ?_
  refine gfX4_11 F dX4_init_22 (fun g22 => ?_)
  refine Z.iload_n F 1 rfl dX4_init_25 ?_
  refine Z.newO F in_X7 tyX7 tyX7_ok (ci := 4) rfl (by decide) q205 q207 q122 df_X7 dX4_init_26 (fun n26 => ?_)
  refine Z.dup F dX4_init_29 ?_
  refine clX4_17 F ⟨Nat.le_of_ble_eq_true rfl, Nat.le_of_ble_eq_true rfl⟩ (zlw4 (Nat.le_of_ble_eq_true rfl)) dX4_init_30 ?_
  refine Z.aast F (t := 8) (ci := 4) (by decide) rfl rfl (by decide) dX4_init_33 ?_
  refine Z.iinc F (L0 := [(0, zv h0)]) (k0 := 1) (v := (1 : Int32)) rfl (by decide) [0] rfl (zkR rfl zkN) (by decide) dX4_init_34 ?_
  refine Z.goto F (tgt := 15) dX4_init_37 (by decide) ?_
  exact Z.sub [1, 0] rfl (hr15 (p15l1 + (1 : Int32)))
theorem pfX3_3 (F : ZF p R s m args meth c cc nL "SafeBuckets$Sheet" "<init>" ret D A al sz mc ms fr lo) {z : Nat} {u : Nat} (hdg : decode cc pc = .ok (.putfield 3, 3)) (k : ZW p l e R s m args below meth c Q nL D A al n0 P (pc + 3) L st) : ZW p l e R s m args below meth c Q nL D A al n0 (zpR 3 z 4 u P) pc L (zv u :: zv z :: st) :=
  Z.putRF F (ref := "SafeBuckets$Sheet") in_X3 (ci := 2) rfl (by decide) (kf := 4) (by decide) q285 (fun _ h => h) tyX3 tyX3_ok nmX3 rfl rfl rfl (ty := .object _) (fun u => zv_nar u) (fun u => zv_fit u) rfl rfl hdg k
theorem pfX3_15 (F : ZF p R s m args meth c cc nL "SafeBuckets$Sheet" "<init>" ret D A al sz mc ms fr lo) {z : Nat} {u : Nat} (hdg : decode cc pc = .ok (.putfield 15, 3)) (k : ZW p l e R s m args below meth c Q nL D A al n0 P (pc + 3) L st) : ZW p l e R s m args below meth c Q nL D A al n0 (zpR 3 z 0 u P) pc L (zv u :: zv z :: st) :=
  Z.putRF F (ref := "SafeBuckets$Sheet") in_X3 (ci := 2) rfl (by decide) (kf := 0) (by decide) q273 (fun _ h => h) tyX3 tyX3_ok nmX3 rfl rfl rfl (ty := .array _) (fun u => zv_narA u) (fun u => zv_fitA u) rfl rfl hdg k
theorem clX3_21 (F : ZF p R s m args meth c cc nL "SafeBuckets$Sheet" nm ret D A true sz mc ms fr lo) {h0 : Nat} {K : ZM → Prop} (hR : 4 + 1 ≤ fr ∧ 8 + (2 + 11) + 80 ≤ lo) (hst4 : zlw st) (hdg : decode cc pc = .ok (.invokespecial 21, 3)) (k : ZW p l e R s m args below meth c Q nL D A true n0 K (pc + 3) L st) : ZW p l e R s m args below meth c Q nL D A true n0 (zat 4 h0 (zclv 9 40 (f_X4_init h0) K)) pc L (zv h0 :: st) :=
  Z.rv1 _ (fun μ H locs cells slots ls hI h hP => ⟨hP.2.1, hP.2.2.1, Z.I1 F hI (n := 0) (ci := 3) rfl (by decide) hP.1 hP.2.1 hP.2.2.1 hP.2.2.2 (k_X4_init l h0 D A (0, 0, 0) 0 (fun μ' => K (zcs μ' (zC μ - 9) (zS μ - 40))) (zcs μ 9 40)) rfl q201 q202 q119 q203 (by decide +kernel) rfl h.1 hst4 hR rfl hdg⟩) k
theorem pfX3_22 (F : ZF p R s m args meth c cc nL "SafeBuckets$Sheet" "<init>" ret D A al sz mc ms fr lo) {z : Nat} {u : Nat} (hdg : decode cc pc = .ok (.putfield 22, 3)) (k : ZW p l e R s m args below meth c Q nL D A al n0 P (pc + 3) L st) : ZW p l e R s m args below meth c Q nL D A al n0 (zpR 3 z 1 u P) pc L (zv u :: zv z :: st) :=
  Z.putRF F (ref := "SafeBuckets$Sheet") in_X3 (ci := 2) rfl (by decide) (kf := 1) (by decide) q275 (fun _ h => h) tyX3 tyX3_ok nmX3 rfl rfl rfl (ty := .array _) (fun u => zv_narA u) (fun u => zv_fitA u) rfl rfl hdg k
set_option maxHeartbeats 4000000 in
theorem k_X3_init (l : Launch) (h0 : Nat) (h1 : Nat) : ZCv l yX3_init (ws_ yX3_init cX3_init 2 none) 5 101 22 377 true [zv h0, zv h1] (f_X3_init h0 h1) := by
  refine Z.metV (by decide +kernel) (fun h => by cases h) (L0 := [(0, zv h0), (1, zv h1)]) (by first | (rw [zla_v, zla_v, zla_0]; done) | (rw [zla_v, zla_v, zla_0]; rfl)) (by rw [zsl_v, zsl_v, zsl_0]; exact Nat.le_of_ble_eq_true rfl) ?_
  intro p e R s m args below meth c D A n0 sz k F
  have F : ZF p R s m args meth c cX3_init 2 "SafeBuckets$Sheet" "<init>" none D A true sz 22 377 5 101 := F
  unfold f_X3_init
  refine Z.aload_n F 0 rfl dX3_init_0 ?_
  refine Z.aload_n F 1 rfl dX3_init_1 ?_
  refine pfX3_3 F dX3_init_2 ?_
  refine Z.aload_n F 0 rfl dX3_init_5 ?_
  refine Z.objI F q197 (Nat.le_of_ble_eq_true rfl) (Nat.le_of_ble_eq_true rfl) (zlw4 (Nat.le_of_ble_eq_true rfl)) dX3_init_6 ?_
  refine Z.aload_n F 0 rfl dX3_init_9 ?_
  refine Z.sipush F (v := (289 : Int32)) (by decide) dX3_init_10 ?_
  refine Z.newA50 F dX3_init_13 (fun n13 => ?_)
  refine pfX3_15 F dX3_init_15 ?_
  refine Z.aload_n F 0 rfl dX3_init_18 ?_
  refine Z.iconst F (v := (2 : Int32)) (by decide) dX3_init_19 ?_
  refine Z.newQ F (C := "SafeBuckets$Column") (t := 7) (by decide) rfl q198 (List.mem_of_getElem? (i := 2) rfl) dX3_init_20 (fun n20 => ?_)
  refine Z.dup F dX3_init_23 ?_
  refine Z.iconst F (v := (0 : Int32)) (by decide) dX3_init_24 ?_
  refine Z.newO F in_X4 tyX4 tyX4_ok (ci := 3) rfl (by decide) q198 q200 q119 df_X4 dX3_init_25 (fun n25 => ?_)
  refine Z.dup F dX3_init_28 ?_
  refine clX3_21 F ⟨Nat.le_of_ble_eq_true rfl, Nat.le_of_ble_eq_true rfl⟩ (by simp [zlw, zvcat, zicat, zlcat]) dX3_init_29 ?_
  refine Z.aast F (t := 7) (ci := 3) (by decide) rfl rfl (by decide) dX3_init_32 ?_
  refine Z.dup F dX3_init_33 ?_
  refine Z.iconst F (v := (1 : Int32)) (by decide) dX3_init_34 ?_
  refine Z.newO F in_X4 tyX4 tyX4_ok (ci := 3) rfl (by decide) q198 q200 q119 df_X4 dX3_init_35 (fun n35 => ?_)
  refine Z.dup F dX3_init_38 ?_
  refine clX3_21 F ⟨Nat.le_of_ble_eq_true rfl, Nat.le_of_ble_eq_true rfl⟩ (by simp [zlw, zvcat, zicat, zlcat]) dX3_init_39 ?_
  refine Z.aast F (t := 7) (ci := 3) (by decide) rfl rfl (by decide) dX3_init_42 ?_
  refine pfX3_22 F dX3_init_43 ?_
  exact Z.vret F dX3_init_46
theorem pfX2_3 (F : ZF p R s m args meth c cc nL "SafeBuckets$State" "<init>" ret D A al sz mc ms fr lo) {z : Nat} {u : Nat} (hdg : decode cc pc = .ok (.putfield 3, 3)) (k : ZW p l e R s m args below meth c Q nL D A al n0 P (pc + 3) L st) : ZW p l e R s m args below meth c Q nL D A al n0 (zpR 2 z 4 u P) pc L (zv u :: zv z :: st) :=
  Z.putRF F (ref := "SafeBuckets$State") in_X2 (ci := 1) rfl (by decide) (kf := 4) (by decide) q306 (fun _ h => h) tyX2 tyX2_ok nmX2 rfl rfl rfl (ty := .object _) (fun u => zv_nar u) (fun u => zv_fit u) rfl rfl hdg k
theorem gfX2_3 (F : ZF p R s m args meth c cc nL "SafeBuckets$State" nm ret D A al sz mc ms fr lo) {z : Nat} {K : Nat → ZM → Prop} (hdg : decode cc pc = .ok (.getfield 3, 3)) (k : ∀ u, ZW p l e R s m args below meth c Q nL D A al n0 (K u) (pc + 3) L (zv u :: st)) : ZW p l e R s m args below meth c Q nL D A al n0 (zgR 2 z 4 K) pc L (zv z :: st) :=
  Z.getR F (ref := "SafeBuckets$State") in_X2 (ci := 1) rfl (by decide) (kf := 4) (by decide) q306 (fun _ h => h) rfl hdg k
theorem clX2_17 (F : ZF p R s m args meth c cc nL "SafeBuckets$State" nm ret D A true sz mc ms fr lo) {h0 : Nat} {h1 : Nat} {K : ZM → Prop} (hR : 5 + 1 ≤ fr ∧ 8 + (2 + 11) + 101 ≤ lo) (hst4 : zlw st) (hdg : decode cc pc = .ok (.invokespecial 17, 3)) (k : ZW p l e R s m args below meth c Q nL D A true n0 K (pc + 3) L st) : ZW p l e R s m args below meth c Q nL D A true n0 (zat 3 h0 (zclv 22 377 (f_X3_init h0 h1) K)) pc L (zv h1 :: zv h0 :: st) :=
  Z.rv1 _ (fun μ H locs cells slots ls hI h hP => ⟨hP.2.1, hP.2.2.1, Z.IN1 F hI (n := 1) (ci := 2) rfl (by decide) hP.1 hP.2.1 hP.2.2.1 hP.2.2.2 (k_X3_init l h0 h1 D A (0, 0, 0) 0 (fun μ' => K (zcs μ' (zC μ - 22) (zS μ - 377))) (zcs μ 22 377)) rfl (List.mem_of_getElem? (i := 15) rfl) q195 q118 q196 (by decide +kernel) rfl h.1 hst4 hR rfl hdg⟩) k
theorem pfX2_20 (F : ZF p R s m args meth c cc nL "SafeBuckets$State" "<init>" ret D A al sz mc ms fr lo) {z : Nat} {u : Nat} (hdg : decode cc pc = .ok (.putfield 20, 3)) (k : ZW p l e R s m args below meth c Q nL D A al n0 P (pc + 3) L st) : ZW p l e R s m args below meth c Q nL D A al n0 (zpR 2 z 0 u P) pc L (zv u :: zv z :: st) :=
  Z.putRF F (ref := "SafeBuckets$State") in_X2 (ci := 1) rfl (by decide) (kf := 0) (by decide) q297 (fun _ h => h) tyX2 tyX2_ok nmX2 rfl rfl rfl (ty := .array _) (fun u => zv_narA u) (fun u => zv_fitA u) rfl rfl hdg k
theorem pfX2_24 (F : ZF p R s m args meth c cc nL "SafeBuckets$State" "<init>" ret D A al sz mc ms fr lo) {z : Nat} {u : Nat} (hdg : decode cc pc = .ok (.putfield 24, 3)) (k : ZW p l e R s m args below meth c Q nL D A al n0 P (pc + 3) L st) : ZW p l e R s m args below meth c Q nL D A al n0 (zpR 2 z 1 u P) pc L (zv u :: zv z :: st) :=
  Z.putRF F (ref := "SafeBuckets$State") in_X2 (ci := 1) rfl (by decide) (kf := 1) (by decide) q300 (fun _ h => h) tyX2 tyX2_ok nmX2 rfl rfl rfl (ty := .array _) (fun u => zv_narA u) (fun u => zv_fitA u) rfl rfl hdg k
set_option maxHeartbeats 4000000 in
theorem k_X2_init (l : Launch) (h0 : Nat) (h1 : Nat) : ZCv l yX2_init (ws_ yX2_init cX2_init 2 none) 6 122 71 1329 true [zv h0, zv h1] (f_X2_init h0 h1) := by
  refine Z.metV (by decide +kernel) (fun h => by cases h) (L0 := [(0, zv h0), (1, zv h1)]) (by first | (rw [zla_v, zla_v, zla_0]; done) | (rw [zla_v, zla_v, zla_0]; rfl)) (by rw [zsl_v, zsl_v, zsl_0]; exact Nat.le_of_ble_eq_true rfl) ?_
  intro p e R s m args below meth c D A n0 sz k F
  have F : ZF p R s m args meth c cX2_init 2 "SafeBuckets$State" "<init>" none D A true sz 71 1329 6 122 := F
  unfold f_X2_init
  refine Z.aload_n F 0 rfl dX2_init_0 ?_
  refine Z.aload_n F 1 rfl dX2_init_1 ?_
  refine pfX2_3 F dX2_init_2 ?_
  refine Z.aload_n F 0 rfl dX2_init_5 ?_
  refine Z.objI F q190 (Nat.le_of_ble_eq_true rfl) (Nat.le_of_ble_eq_true rfl) (zlw4 (Nat.le_of_ble_eq_true rfl)) dX2_init_6 ?_
  refine Z.aload_n F 0 rfl dX2_init_9 ?_
  refine Z.iconst F (v := (3 : Int32)) (by decide) dX2_init_10 ?_
  refine Z.newQ F (C := "SafeBuckets$Sheet") (t := 6) (by decide) rfl q191 (List.mem_of_getElem? (i := 1) rfl) dX2_init_11 (fun n11 => ?_)
  refine Z.dup F dX2_init_14 ?_
  refine Z.iconst F (v := (0 : Int32)) (by decide) dX2_init_15 ?_
  refine Z.newO F in_X3 tyX3 tyX3_ok (ci := 2) rfl (by decide) q191 q193 q118 df_X3 dX2_init_16 (fun n16 => ?_)
  refine Z.dup F dX2_init_19 ?_
  refine Z.aload_n F 0 rfl dX2_init_20 ?_
  refine gfX2_3 F dX2_init_21 (fun g21 => ?_)
  refine clX2_17 F ⟨Nat.le_of_ble_eq_true rfl, Nat.le_of_ble_eq_true rfl⟩ (by simp [zlw, zvcat, zicat, zlcat]) dX2_init_24 ?_
  refine Z.aast F (t := 6) (ci := 2) (by decide) rfl rfl (by decide) dX2_init_27 ?_
  refine Z.dup F dX2_init_28 ?_
  refine Z.iconst F (v := (1 : Int32)) (by decide) dX2_init_29 ?_
  refine Z.newO F in_X3 tyX3 tyX3_ok (ci := 2) rfl (by decide) q191 q193 q118 df_X3 dX2_init_30 (fun n30 => ?_)
  refine Z.dup F dX2_init_33 ?_
  refine Z.aload_n F 0 rfl dX2_init_34 ?_
  refine gfX2_3 F dX2_init_35 (fun g35 => ?_)
  refine clX2_17 F ⟨Nat.le_of_ble_eq_true rfl, Nat.le_of_ble_eq_true rfl⟩ (by simp [zlw, zvcat, zicat, zlcat]) dX2_init_38 ?_
  refine Z.aast F (t := 6) (ci := 2) (by decide) rfl rfl (by decide) dX2_init_41 ?_
  refine Z.dup F dX2_init_42 ?_
  refine Z.iconst F (v := (2 : Int32)) (by decide) dX2_init_43 ?_
  refine Z.newO F in_X3 tyX3 tyX3_ok (ci := 2) rfl (by decide) q191 q193 q118 df_X3 dX2_init_44 (fun n44 => ?_)
  refine Z.dup F dX2_init_47 ?_
  refine Z.aload_n F 0 rfl dX2_init_48 ?_
  refine gfX2_3 F dX2_init_49 (fun g49 => ?_)
  refine clX2_17 F ⟨Nat.le_of_ble_eq_true rfl, Nat.le_of_ble_eq_true rfl⟩ (by simp [zlw, zvcat, zicat, zlcat]) dX2_init_52 ?_
  refine Z.aast F (t := 6) (ci := 2) (by decide) rfl rfl (by decide) dX2_init_55 ?_
  refine pfX2_20 F dX2_init_56 ?_
  refine Z.aload_n F 0 rfl dX2_init_59 ?_
  refine Z.sipush F (v := (180 : Int32)) (by decide) dX2_init_60 ?_
  refine Z.newA50 F dX2_init_63 (fun n63 => ?_)
  refine pfX2_24 F dX2_init_65 ?_
  exact Z.vret F dX2_init_68
theorem pfJ0_7_6 (F : ZF p R s m args meth c cc nL "java/lang/Throwable" nm ret D A al sz mc ms fr lo) {z : Nat} {u : Nat} (hdg : decode cc pc = .ok (.putfield 7, 3)) (k : ZW p l e R s m args below meth c Q nL D A al n0 P (pc + 3) L st) : ZW p l e R s m args below meth c Q nL D A al n0 (zpR 6 z 0 u P) pc L (zv u :: zv z :: st) :=
  Z.putR F (ref := "java/lang/Throwable") in_X8 (ci := 5) rfl (by decide) (kf := 0) (by decide) q371 (fun _ h => h) tyX8 tyX8_ok nmX8 rfl (ty := .object _) (fun u => zv_nar u) (fun u => zv_fit u) rfl rfl hdg k
theorem pfJ0_17_6 (F : ZF p R s m args meth c cc nL "java/lang/Throwable" nm ret D A al sz mc ms fr lo) {z : Nat} {u : Nat} (hdg : decode cc pc = .ok (.putfield 17, 3)) (k : ZW p l e R s m args below meth c Q nL D A al n0 P (pc + 3) L st) : ZW p l e R s m args below meth c Q nL D A al n0 (zpR 6 z 1 u P) pc L (zv u :: zv z :: st) :=
  Z.putR F (ref := "java/lang/Throwable") in_X8 (ci := 5) rfl (by decide) (kf := 1) (by decide) q372 (fun _ h => h) tyX8 tyX8_ok nmX8 rfl (ty := .array _) (fun u => zv_narA u) (fun u => zv_fitA u) rfl rfl hdg k
theorem pfJ0_24_6 (F : ZF p R s m args meth c cc nL "java/lang/Throwable" nm ret D A al sz mc ms fr lo) {z : Nat} {u : Nat} (hdg : decode cc pc = .ok (.putfield 24, 3)) (k : ZW p l e R s m args below meth c Q nL D A al n0 P (pc + 3) L st) : ZW p l e R s m args below meth c Q nL D A al n0 (zpR 6 z 2 u P) pc L (zv u :: zv z :: st) :=
  Z.putR F (ref := "java/lang/Throwable") in_X8 (ci := 5) rfl (by decide) (kf := 2) (by decide) q373 (fun _ h => h) tyX8 tyX8_ok nmX8 rfl (ty := .object _) (fun u => zv_nar u) (fun u => zv_fit u) rfl rfl hdg k
theorem pfJ0_31_6 (F : ZF p R s m args meth c cc nL "java/lang/Throwable" nm ret D A al sz mc ms fr lo) {z : Nat} {u : Nat} (hdg : decode cc pc = .ok (.putfield 31, 3)) (k : ZW p l e R s m args below meth c Q nL D A al n0 P (pc + 3) L st) : ZW p l e R s m args below meth c Q nL D A al n0 (zpR 6 z 3 u P) pc L (zv u :: zv z :: st) :=
  Z.putR F (ref := "java/lang/Throwable") in_X8 (ci := 5) rfl (by decide) (kf := 3) (by decide) q370 (fun _ h => h) tyX8 tyX8_ok nmX8 rfl (ty := .object _) (fun u => zv_nar u) (fun u => zv_fit u) rfl rfl hdg k
set_option maxHeartbeats 4000000 in
theorem k_J0_init_2_6 (l : Launch) (h0 : Nat) (h1 : Nat) (h2 : Nat) (x3 : Int32) (x4 : Int32) : ZCv l yJ0_init_2 (ws_ yJ0_init_2 cJ0_init_2 5 none) 1 20 0 0 false [zv h0, zv h1, zv h2, .int x3, .int x4] (f_J0_init_2_6 h0 h1 h2 x3 x4) := by
  refine Z.metV (by decide +kernel) (fun h => ⟨rfl, rfl⟩) (L0 := [(0, zv h0), (1, zv h1), (2, zv h2), (3, .int x3), (4, .int x4)]) (by first | (rw [zla_v, zla_v, zla_v, zla_i, zla_i, zla_0]; done) | (rw [zla_v, zla_v, zla_v, zla_i, zla_i, zla_0]; rfl)) (by rw [zsl_v, zsl_v, zsl_v, zsl_i, zsl_i, zsl_0]; exact Nat.le_of_ble_eq_true rfl) ?_
  intro p e R s m args below meth c D A n0 sz k F
  have F : ZF p R s m args meth c cJ0_init_2 5 "java/lang/Throwable" "<init>" none D A false sz 0 0 1 20 := F
  unfold f_J0_init_2_6
  refine Z.aload_n F 0 rfl dJ0_init_2_0 ?_
  refine Z.objI F q344 (Nat.le_of_ble_eq_true rfl) (Nat.le_of_ble_eq_true rfl) (zlw4 (Nat.le_of_ble_eq_true rfl)) dJ0_init_2_1 ?_
  refine Z.aload_n F 0 rfl dJ0_init_2_4 ?_
  refine Z.aload_n F 0 rfl dJ0_init_2_5 ?_
  refine pfJ0_7_6 F dJ0_init_2_6 ?_
  refine Z.aload_n F 0 rfl dJ0_init_2_9 ?_
  refine Z.gthrU F q345 dJ0_init_2_10 (fun g10 => ?_)
  refine pfJ0_17_6 F dJ0_init_2_13 ?_
  refine Z.aload_n F 0 rfl dJ0_init_2_16 ?_
  refine Z.gthrS F q347 dJ0_init_2_17 (fun g17 => ?_)
  refine pfJ0_24_6 F dJ0_init_2_20 ?_
  refine Z.iload F 4 rfl dJ0_init_2_23 ?_
  refine Z.jn0 (J := _) ([(0, zv h0), (1, zv h1), (2, zv h2), (3, .int x3)]) ([]) 41 (?_) (fun j41 hj41 => ?_)
  · refine Z.aload_n F 0 rfl dJ0_init_2_41 ?_
    refine Z.aload_n F 1 rfl dJ0_init_2_42 ?_
    refine pfJ0_31_6 F dJ0_init_2_43 ?_
    refine Z.aload_n F 0 rfl dJ0_init_2_46 ?_
    refine Z.aload_n F 2 rfl dJ0_init_2_47 ?_
    refine pfJ0_7_6 F dJ0_init_2_48 ?_
    refine Z.iload_n F 3 rfl dJ0_init_2_51 ?_
    refine Z.jn0 (J := _) ([]) ([]) 60 (?_) (fun j60 hj60 => ?_)
    · exact Z.vret F dJ0_init_2_60
    refine Z.if_ne F (tgt := 60) dJ0_init_2_52 (by decide) ?_ ?_
    · exact Z.sub [] rfl (hj60)
    refine Z.aload_n F 0 rfl dJ0_init_2_55 ?_
    refine Z.null F dJ0_init_2_56 ?_
    refine pfJ0_24_6 F dJ0_init_2_57 ?_
    exact Z.sub [] rfl (hj60)
  refine Z.if_eq F (tgt := 36) dJ0_init_2_25 (by decide) ?_ ?_
  · refine Z.aload_n F 0 rfl dJ0_init_2_36 ?_
    refine Z.null F dJ0_init_2_37 ?_
    refine pfJ0_17_6 F dJ0_init_2_38 ?_
    exact Z.sub [0, 1, 2, 3] rfl (hj41)
  refine Z.aload_n F 0 rfl dJ0_init_2_28 ?_
  exact Z.no
theorem pfJ0_7_10 (F : ZF p R s m args meth c cc nL "java/lang/Throwable" nm ret D A al sz mc ms fr lo) {z : Nat} {u : Nat} (hdg : decode cc pc = .ok (.putfield 7, 3)) (k : ZW p l e R s m args below meth c Q nL D A al n0 P (pc + 3) L st) : ZW p l e R s m args below meth c Q nL D A al n0 (zpR 10 z 0 u P) pc L (zv u :: zv z :: st) :=
  Z.putR F (ref := "java/lang/Throwable") in_X12 (ci := 9) rfl (by decide) (kf := 0) (by decide) q371 (fun _ h => h) tyX12 tyX12_ok nmX12 rfl (ty := .object _) (fun u => zv_nar u) (fun u => zv_fit u) rfl rfl hdg k
theorem pfJ0_17_10 (F : ZF p R s m args meth c cc nL "java/lang/Throwable" nm ret D A al sz mc ms fr lo) {z : Nat} {u : Nat} (hdg : decode cc pc = .ok (.putfield 17, 3)) (k : ZW p l e R s m args below meth c Q nL D A al n0 P (pc + 3) L st) : ZW p l e R s m args below meth c Q nL D A al n0 (zpR 10 z 1 u P) pc L (zv u :: zv z :: st) :=
  Z.putR F (ref := "java/lang/Throwable") in_X12 (ci := 9) rfl (by decide) (kf := 1) (by decide) q372 (fun _ h => h) tyX12 tyX12_ok nmX12 rfl (ty := .array _) (fun u => zv_narA u) (fun u => zv_fitA u) rfl rfl hdg k
theorem pfJ0_24_10 (F : ZF p R s m args meth c cc nL "java/lang/Throwable" nm ret D A al sz mc ms fr lo) {z : Nat} {u : Nat} (hdg : decode cc pc = .ok (.putfield 24, 3)) (k : ZW p l e R s m args below meth c Q nL D A al n0 P (pc + 3) L st) : ZW p l e R s m args below meth c Q nL D A al n0 (zpR 10 z 2 u P) pc L (zv u :: zv z :: st) :=
  Z.putR F (ref := "java/lang/Throwable") in_X12 (ci := 9) rfl (by decide) (kf := 2) (by decide) q373 (fun _ h => h) tyX12 tyX12_ok nmX12 rfl (ty := .object _) (fun u => zv_nar u) (fun u => zv_fit u) rfl rfl hdg k
theorem pfJ0_31_10 (F : ZF p R s m args meth c cc nL "java/lang/Throwable" nm ret D A al sz mc ms fr lo) {z : Nat} {u : Nat} (hdg : decode cc pc = .ok (.putfield 31, 3)) (k : ZW p l e R s m args below meth c Q nL D A al n0 P (pc + 3) L st) : ZW p l e R s m args below meth c Q nL D A al n0 (zpR 10 z 3 u P) pc L (zv u :: zv z :: st) :=
  Z.putR F (ref := "java/lang/Throwable") in_X12 (ci := 9) rfl (by decide) (kf := 3) (by decide) q370 (fun _ h => h) tyX12 tyX12_ok nmX12 rfl (ty := .object _) (fun u => zv_nar u) (fun u => zv_fit u) rfl rfl hdg k
set_option maxHeartbeats 4000000 in
theorem k_J0_init_2_10 (l : Launch) (h0 : Nat) (h1 : Nat) (h2 : Nat) (x3 : Int32) (x4 : Int32) : ZCv l yJ0_init_2 (ws_ yJ0_init_2 cJ0_init_2 5 none) 1 20 0 0 false [zv h0, zv h1, zv h2, .int x3, .int x4] (f_J0_init_2_10 h0 h1 h2 x3 x4) := by
  refine Z.metV (by decide +kernel) (fun h => ⟨rfl, rfl⟩) (L0 := [(0, zv h0), (1, zv h1), (2, zv h2), (3, .int x3), (4, .int x4)]) (by first | (rw [zla_v, zla_v, zla_v, zla_i, zla_i, zla_0]; done) | (rw [zla_v, zla_v, zla_v, zla_i, zla_i, zla_0]; rfl)) (by rw [zsl_v, zsl_v, zsl_v, zsl_i, zsl_i, zsl_0]; exact Nat.le_of_ble_eq_true rfl) ?_
  intro p e R s m args below meth c D A n0 sz k F
  have F : ZF p R s m args meth c cJ0_init_2 5 "java/lang/Throwable" "<init>" none D A false sz 0 0 1 20 := F
  unfold f_J0_init_2_10
  refine Z.aload_n F 0 rfl dJ0_init_2_0 ?_
  refine Z.objI F q344 (Nat.le_of_ble_eq_true rfl) (Nat.le_of_ble_eq_true rfl) (zlw4 (Nat.le_of_ble_eq_true rfl)) dJ0_init_2_1 ?_
  refine Z.aload_n F 0 rfl dJ0_init_2_4 ?_
  refine Z.aload_n F 0 rfl dJ0_init_2_5 ?_
  refine pfJ0_7_10 F dJ0_init_2_6 ?_
  refine Z.aload_n F 0 rfl dJ0_init_2_9 ?_
  refine Z.gthrU F q345 dJ0_init_2_10 (fun g10 => ?_)
  refine pfJ0_17_10 F dJ0_init_2_13 ?_
  refine Z.aload_n F 0 rfl dJ0_init_2_16 ?_
  refine Z.gthrS F q347 dJ0_init_2_17 (fun g17 => ?_)
  refine pfJ0_24_10 F dJ0_init_2_20 ?_
  refine Z.iload F 4 rfl dJ0_init_2_23 ?_
  refine Z.jn0 (J := _) ([(0, zv h0), (1, zv h1), (2, zv h2), (3, .int x3)]) ([]) 41 (?_) (fun j41 hj41 => ?_)
  · refine Z.aload_n F 0 rfl dJ0_init_2_41 ?_
    refine Z.aload_n F 1 rfl dJ0_init_2_42 ?_
    refine pfJ0_31_10 F dJ0_init_2_43 ?_
    refine Z.aload_n F 0 rfl dJ0_init_2_46 ?_
    refine Z.aload_n F 2 rfl dJ0_init_2_47 ?_
    refine pfJ0_7_10 F dJ0_init_2_48 ?_
    refine Z.iload_n F 3 rfl dJ0_init_2_51 ?_
    refine Z.jn0 (J := _) ([]) ([]) 60 (?_) (fun j60 hj60 => ?_)
    · exact Z.vret F dJ0_init_2_60
    refine Z.if_ne F (tgt := 60) dJ0_init_2_52 (by decide) ?_ ?_
    · exact Z.sub [] rfl (hj60)
    refine Z.aload_n F 0 rfl dJ0_init_2_55 ?_
    refine Z.null F dJ0_init_2_56 ?_
    refine pfJ0_24_10 F dJ0_init_2_57 ?_
    exact Z.sub [] rfl (hj60)
  refine Z.if_eq F (tgt := 36) dJ0_init_2_25 (by decide) ?_ ?_
  · refine Z.aload_n F 0 rfl dJ0_init_2_36 ?_
    refine Z.null F dJ0_init_2_37 ?_
    refine pfJ0_17_10 F dJ0_init_2_38 ?_
    exact Z.sub [0, 1, 2, 3] rfl (hj41)
  refine Z.aload_n F 0 rfl dJ0_init_2_28 ?_
  exact Z.no
theorem clJ1_16_J0_init_2_6_6 (F : ZF p R s m args meth c cc nL "java/lang/Exception" nm ret D A al sz mc ms fr lo) {h0 : Nat} {h1 : Nat} {h2 : Nat} {x3 : Int32} {x4 : Int32} {K : ZM → Prop} (hR : 1 + 1 ≤ fr ∧ 8 + (5 + 11) + 20 ≤ lo) (hst4 : zlw st) (hdg : decode cc pc = .ok (.invokespecial 16, 3)) (k : ZW p l e R s m args below meth c Q nL D A al n0 K (pc + 3) L st) : ZW p l e R s m args below meth c Q nL D A al n0 (zat 6 h0 (f_J0_init_2_6 h0 h1 h2 x3 x4 K)) pc L (.int x4 :: .int x3 :: zv h2 :: zv h1 :: zv h0 :: st) :=
  Z.rv0 _ (fun μ H locs cells slots ls hI h hP => Z.I0 F hI (n := 4) (ci := 5) rfl (by decide) hP.1 hP.2 (k_J0_init_2_6 l h0 h1 h2 x3 x4 D A (zX μ, zC μ, zS μ) H.size K μ) rfl q366 q367 q123 q368 (by decide +kernel) rfl h.1 hst4 hR rfl hdg) k
set_option maxHeartbeats 4000000 in
theorem k_J1_init_6 (l : Launch) (h0 : Nat) (h1 : Nat) (h2 : Nat) (x3 : Int32) (x4 : Int32) : ZCv l yJ1_init (ws_ yJ1_init cJ1_init 5 none) 2 44 0 0 false [zv h0, zv h1, zv h2, .int x3, .int x4] (f_J1_init_6 h0 h1 h2 x3 x4) := by
  refine Z.metV (by decide +kernel) (fun h => ⟨rfl, rfl⟩) (L0 := [(0, zv h0), (1, zv h1), (2, zv h2), (3, .int x3), (4, .int x4)]) (by first | (rw [zla_v, zla_v, zla_v, zla_i, zla_i, zla_0]; done) | (rw [zla_v, zla_v, zla_v, zla_i, zla_i, zla_0]; rfl)) (by rw [zsl_v, zsl_v, zsl_v, zsl_i, zsl_i, zsl_0]; exact Nat.le_of_ble_eq_true rfl) ?_
  intro p e R s m args below meth c D A n0 sz k F
  have F : ZF p R s m args meth c cJ1_init 5 "java/lang/Exception" "<init>" none D A false sz 0 0 2 44 := F
  unfold f_J1_init_6
  refine Z.aload_n F 0 rfl dJ1_init_0 ?_
  refine Z.aload_n F 1 rfl dJ1_init_1 ?_
  refine Z.aload_n F 2 rfl dJ1_init_2 ?_
  refine Z.iload_n F 3 rfl dJ1_init_3 ?_
  refine Z.iload F 4 rfl dJ1_init_4 ?_
  refine clJ1_16_J0_init_2_6_6 F ⟨Nat.le_of_ble_eq_true rfl, Nat.le_of_ble_eq_true rfl⟩ (zlw4 (Nat.le_of_ble_eq_true rfl)) dJ1_init_6 ?_
  exact Z.vret F dJ1_init_9
theorem clJ1_16_J0_init_2_10_10 (F : ZF p R s m args meth c cc nL "java/lang/Exception" nm ret D A al sz mc ms fr lo) {h0 : Nat} {h1 : Nat} {h2 : Nat} {x3 : Int32} {x4 : Int32} {K : ZM → Prop} (hR : 1 + 1 ≤ fr ∧ 8 + (5 + 11) + 20 ≤ lo) (hst4 : zlw st) (hdg : decode cc pc = .ok (.invokespecial 16, 3)) (k : ZW p l e R s m args below meth c Q nL D A al n0 K (pc + 3) L st) : ZW p l e R s m args below meth c Q nL D A al n0 (zat 10 h0 (f_J0_init_2_10 h0 h1 h2 x3 x4 K)) pc L (.int x4 :: .int x3 :: zv h2 :: zv h1 :: zv h0 :: st) :=
  Z.rv0 _ (fun μ H locs cells slots ls hI h hP => Z.I0 F hI (n := 4) (ci := 9) rfl (by decide) hP.1 hP.2 (k_J0_init_2_10 l h0 h1 h2 x3 x4 D A (zX μ, zC μ, zS μ) H.size K μ) rfl q366 q367 q123 q368 (by decide +kernel) rfl h.1 hst4 hR rfl hdg) k
set_option maxHeartbeats 4000000 in
theorem k_J1_init_10 (l : Launch) (h0 : Nat) (h1 : Nat) (h2 : Nat) (x3 : Int32) (x4 : Int32) : ZCv l yJ1_init (ws_ yJ1_init cJ1_init 5 none) 2 44 0 0 false [zv h0, zv h1, zv h2, .int x3, .int x4] (f_J1_init_10 h0 h1 h2 x3 x4) := by
  refine Z.metV (by decide +kernel) (fun h => ⟨rfl, rfl⟩) (L0 := [(0, zv h0), (1, zv h1), (2, zv h2), (3, .int x3), (4, .int x4)]) (by first | (rw [zla_v, zla_v, zla_v, zla_i, zla_i, zla_0]; done) | (rw [zla_v, zla_v, zla_v, zla_i, zla_i, zla_0]; rfl)) (by rw [zsl_v, zsl_v, zsl_v, zsl_i, zsl_i, zsl_0]; exact Nat.le_of_ble_eq_true rfl) ?_
  intro p e R s m args below meth c D A n0 sz k F
  have F : ZF p R s m args meth c cJ1_init 5 "java/lang/Exception" "<init>" none D A false sz 0 0 2 44 := F
  unfold f_J1_init_10
  refine Z.aload_n F 0 rfl dJ1_init_0 ?_
  refine Z.aload_n F 1 rfl dJ1_init_1 ?_
  refine Z.aload_n F 2 rfl dJ1_init_2 ?_
  refine Z.iload_n F 3 rfl dJ1_init_3 ?_
  refine Z.iload F 4 rfl dJ1_init_4 ?_
  refine clJ1_16_J0_init_2_10_10 F ⟨Nat.le_of_ble_eq_true rfl, Nat.le_of_ble_eq_true rfl⟩ (zlw4 (Nat.le_of_ble_eq_true rfl)) dJ1_init_6 ?_
  exact Z.vret F dJ1_init_9
theorem clX8_1_J1_init_6_6 (F : ZF p R s m args meth c cc nL "SafeBuckets$TooLong" nm ret D A al sz mc ms fr lo) {h0 : Nat} {h1 : Nat} {h2 : Nat} {x3 : Int32} {x4 : Int32} {K : ZM → Prop} (hR : 2 + 1 ≤ fr ∧ 8 + (5 + 11) + 44 ≤ lo) (hst4 : zlw st) (hdg : decode cc pc = .ok (.invokespecial 1, 3)) (k : ZW p l e R s m args below meth c Q nL D A al n0 K (pc + 3) L st) : ZW p l e R s m args below meth c Q nL D A al n0 (zat 6 h0 (f_J1_init_6 h0 h1 h2 x3 x4 K)) pc L (.int x4 :: .int x3 :: zv h2 :: zv h1 :: zv h0 :: st) :=
  Z.rv0 _ (fun μ H locs cells slots ls hI h hP => Z.I0 F hI (n := 4) (ci := 5) rfl (by decide) hP.1 hP.2 (k_J1_init_6 l h0 h1 h2 x3 x4 D A (zX μ, zC μ, zS μ) H.size K μ) rfl q363 q364 q124 q365 (by decide +kernel) rfl h.1 hst4 hR rfl hdg) k
set_option maxHeartbeats 4000000 in
theorem k_X8_init (l : Launch) (h0 : Nat) : ZCv l yX8_init (ws_ yX8_init cX8_init 1 none) 3 68 0 0 false [zv h0] (f_X8_init h0) := by
  refine Z.metV (by decide +kernel) (fun h => ⟨rfl, rfl⟩) (L0 := [(0, zv h0)]) (by first | (rw [zla_v, zla_0]; done) | (rw [zla_v, zla_0]; rfl)) (by rw [zsl_v, zsl_0]; exact Nat.le_of_ble_eq_true rfl) ?_
  intro p e R s m args below meth c D A n0 sz k F
  have F : ZF p R s m args meth c cX8_init 1 "SafeBuckets$TooLong" "<init>" none D A false sz 0 0 3 68 := F
  unfold f_X8_init
  refine Z.aload_n F 0 rfl dX8_init_0 ?_
  refine Z.null F dX8_init_1 ?_
  refine Z.null F dX8_init_2 ?_
  refine Z.iconst F (v := (0 : Int32)) (by decide) dX8_init_3 ?_
  refine Z.iconst F (v := (0 : Int32)) (by decide) dX8_init_4 ?_
  refine clX8_1_J1_init_6_6 F ⟨Nat.le_of_ble_eq_true rfl, Nat.le_of_ble_eq_true rfl⟩ (zlw4 (Nat.le_of_ble_eq_true rfl)) dX8_init_5 ?_
  exact Z.vret F dX8_init_8
theorem pfX1_15 (F : ZF p R s m args meth c cc nL "SafeBuckets" "<init>" ret D A al sz mc ms fr lo) {z : Nat} {u : Nat} (hdg : decode cc pc = .ok (.putfield 15, 3)) (k : ZW p l e R s m args below meth c Q nL D A al n0 P (pc + 3) L st) : ZW p l e R s m args below meth c Q nL D A al n0 (zpR 1 z 0 u P) pc L (zv u :: zv z :: st) :=
  Z.putRF F (ref := "SafeBuckets") in_X1 (ci := 0) rfl (by decide) (kf := 0) (by decide) q383 (fun _ h => h) tyX1 tyX1_ok nmX1 rfl rfl rfl (ty := .array _) (fun u => zv_narA u) (fun u => zv_fitA u) rfl rfl hdg k
theorem pfX1_27 (F : ZF p R s m args meth c cc nL "SafeBuckets" "<init>" ret D A al sz mc ms fr lo) {z : Nat} {u : Nat} (hdg : decode cc pc = .ok (.putfield 27, 3)) (k : ZW p l e R s m args below meth c Q nL D A al n0 P (pc + 3) L st) : ZW p l e R s m args below meth c Q nL D A al n0 (zpR 1 z 2 u P) pc L (zv u :: zv z :: st) :=
  Z.putRF F (ref := "SafeBuckets") in_X1 (ci := 0) rfl (by decide) (kf := 2) (by decide) q386 (fun _ h => h) tyX1 tyX1_ok nmX1 rfl rfl rfl (ty := .array _) (fun u => zv_narA u) (fun u => zv_fitA u) rfl rfl hdg k
theorem pfX1_31 (F : ZF p R s m args meth c cc nL "SafeBuckets" "<init>" ret D A al sz mc ms fr lo) {z : Nat} {u : Nat} (hdg : decode cc pc = .ok (.putfield 31, 3)) (k : ZW p l e R s m args below meth c Q nL D A al n0 P (pc + 3) L st) : ZW p l e R s m args below meth c Q nL D A al n0 (zpR 1 z 3 u P) pc L (zv u :: zv z :: st) :=
  Z.putRF F (ref := "SafeBuckets") in_X1 (ci := 0) rfl (by decide) (kf := 3) (by decide) q387 (fun _ h => h) tyX1 tyX1_ok nmX1 rfl rfl rfl (ty := .array _) (fun u => zv_narA u) (fun u => zv_fitA u) rfl rfl hdg k
theorem pfX1_35 (F : ZF p R s m args meth c cc nL "SafeBuckets" "<init>" ret D A al sz mc ms fr lo) {z : Nat} {u : Nat} (hdg : decode cc pc = .ok (.putfield 35, 3)) (k : ZW p l e R s m args below meth c Q nL D A al n0 P (pc + 3) L st) : ZW p l e R s m args below meth c Q nL D A al n0 (zpR 1 z 8 u P) pc L (zv u :: zv z :: st) :=
  Z.putRF F (ref := "SafeBuckets") in_X1 (ci := 0) rfl (by decide) (kf := 8) (by decide) q394 (fun _ h => h) tyX1 tyX1_ok nmX1 rfl rfl rfl (ty := .array _) (fun u => zv_narA u) (fun u => zv_fitA u) rfl rfl hdg k
theorem pfX1_38 (F : ZF p R s m args meth c cc nL "SafeBuckets" "<init>" ret D A al sz mc ms fr lo) {z : Nat} {u : Nat} (hdg : decode cc pc = .ok (.putfield 38, 3)) (k : ZW p l e R s m args below meth c Q nL D A al n0 P (pc + 3) L st) : ZW p l e R s m args below meth c Q nL D A al n0 (zpR 1 z 9 u P) pc L (zv u :: zv z :: st) :=
  Z.putRF F (ref := "SafeBuckets") in_X1 (ci := 0) rfl (by decide) (kf := 9) (by decide) q396 (fun _ h => h) tyX1 tyX1_ok nmX1 rfl rfl rfl (ty := .array _) (fun u => zv_narA u) (fun u => zv_fitA u) rfl rfl hdg k
theorem pfX1_41 (F : ZF p R s m args meth c cc nL "SafeBuckets" "<init>" ret D A al sz mc ms fr lo) {z : Nat} {u : Nat} (hdg : decode cc pc = .ok (.putfield 41, 3)) (k : ZW p l e R s m args below meth c Q nL D A al n0 P (pc + 3) L st) : ZW p l e R s m args below meth c Q nL D A al n0 (zpR 1 z 10 u P) pc L (zv u :: zv z :: st) :=
  Z.putRF F (ref := "SafeBuckets") in_X1 (ci := 0) rfl (by decide) (kf := 10) (by decide) q397 (fun _ h => h) tyX1 tyX1_ok nmX1 rfl rfl rfl (ty := .array _) (fun u => zv_narA u) (fun u => zv_fitA u) rfl rfl hdg k
theorem pfX1_46 (F : ZF p R s m args meth c cc nL "SafeBuckets" "<init>" ret D A al sz mc ms fr lo) {z : Nat} {u : Nat} (hdg : decode cc pc = .ok (.putfield 46, 3)) (k : ZW p l e R s m args below meth c Q nL D A al n0 P (pc + 3) L st) : ZW p l e R s m args below meth c Q nL D A al n0 (zpR 1 z 11 u P) pc L (zv u :: zv z :: st) :=
  Z.putRF F (ref := "SafeBuckets") in_X1 (ci := 0) rfl (by decide) (kf := 11) (by decide) q398 (fun _ h => h) tyX1 tyX1_ok nmX1 rfl rfl rfl (ty := .array _) (fun u => zv_narA u) (fun u => zv_fitA u) rfl rfl hdg k
theorem pfX1_51 (F : ZF p R s m args meth c cc nL "SafeBuckets" "<init>" ret D A al sz mc ms fr lo) {z : Nat} {u : Nat} (hdg : decode cc pc = .ok (.putfield 51, 3)) (k : ZW p l e R s m args below meth c Q nL D A al n0 P (pc + 3) L st) : ZW p l e R s m args below meth c Q nL D A al n0 (zpR 1 z 12 u P) pc L (zv u :: zv z :: st) :=
  Z.putRF F (ref := "SafeBuckets") in_X1 (ci := 0) rfl (by decide) (kf := 12) (by decide) q399 (fun _ h => h) tyX1 tyX1_ok nmX1 rfl rfl rfl (ty := .array _) (fun u => zv_narA u) (fun u => zv_fitA u) rfl rfl hdg k
theorem clX1_56 (F : ZF p R s m args meth c cc nL "SafeBuckets" nm ret D A true sz mc ms fr lo) {h0 : Nat} {h1 : Nat} {K : ZM → Prop} (hR : 6 + 1 ≤ fr ∧ 8 + (2 + 11) + 122 ≤ lo) (hst4 : zlw st) (hdg : decode cc pc = .ok (.invokespecial 56, 3)) (k : ZW p l e R s m args below meth c Q nL D A true n0 K (pc + 3) L st) : ZW p l e R s m args below meth c Q nL D A true n0 (zat 2 h0 (zclv 71 1329 (f_X2_init h0 h1) K)) pc L (zv h1 :: zv h0 :: st) :=
  Z.rv1 _ (fun μ H locs cells slots ls hI h hP => ⟨hP.2.1, hP.2.2.1, Z.IN1 F hI (n := 1) (ci := 1) rfl (by decide) hP.1 hP.2.1 hP.2.2.1 hP.2.2.2 (k_X2_init l h0 h1 D A (0, 0, 0) 0 (fun μ' => K (zcs μ' (zC μ - 71) (zS μ - 1329))) (zcs μ 71 1329)) rfl (List.mem_of_getElem? (i := 0) rfl) q188 q117 q189 (by decide +kernel) rfl h.1 hst4 hR rfl hdg⟩) k
theorem pfX1_59 (F : ZF p R s m args meth c cc nL "SafeBuckets" "<init>" ret D A al sz mc ms fr lo) {z : Nat} {u : Nat} (hdg : decode cc pc = .ok (.putfield 59, 3)) (k : ZW p l e R s m args below meth c Q nL D A al n0 P (pc + 3) L st) : ZW p l e R s m args below meth c Q nL D A al n0 (zpR 1 z 15 u P) pc L (zv u :: zv z :: st) :=
  Z.putRF F (ref := "SafeBuckets") in_X1 (ci := 0) rfl (by decide) (kf := 15) (by decide) q404 (fun _ h => h) tyX1 tyX1_ok nmX1 rfl rfl rfl (ty := .object _) (fun u => zv_nar u) (fun u => zv_fit u) rfl rfl hdg k
theorem pfX1_63 (F : ZF p R s m args meth c cc nL "SafeBuckets" "<init>" ret D A al sz mc ms fr lo) {z : Nat} {u : Nat} (hdg : decode cc pc = .ok (.putfield 63, 3)) (k : ZW p l e R s m args below meth c Q nL D A al n0 P (pc + 3) L st) : ZW p l e R s m args below meth c Q nL D A al n0 (zpR 1 z 16 u P) pc L (zv u :: zv z :: st) :=
  Z.putRF F (ref := "SafeBuckets") in_X1 (ci := 0) rfl (by decide) (kf := 16) (by decide) q405 (fun _ h => h) tyX1 tyX1_ok nmX1 rfl rfl rfl (ty := .object _) (fun u => zv_nar u) (fun u => zv_fit u) rfl rfl hdg k
theorem clX1_68 (F : ZF p R s m args meth c cc nL "SafeBuckets" nm ret D A true sz mc ms fr lo) {h0 : Nat} {h1 : Nat} {K : ZM → Prop} (hR : 5 + 1 ≤ fr ∧ 8 + (2 + 11) + 101 ≤ lo) (hst4 : zlw st) (hdg : decode cc pc = .ok (.invokespecial 68, 3)) (k : ZW p l e R s m args below meth c Q nL D A true n0 K (pc + 3) L st) : ZW p l e R s m args below meth c Q nL D A true n0 (zat 3 h0 (zclv 22 377 (f_X3_init h0 h1) K)) pc L (zv h1 :: zv h0 :: st) :=
  Z.rv1 _ (fun μ H locs cells slots ls hI h hP => ⟨hP.2.1, hP.2.2.1, Z.IN1 F hI (n := 1) (ci := 2) rfl (by decide) hP.1 hP.2.1 hP.2.2.1 hP.2.2.2 (k_X3_init l h0 h1 D A (0, 0, 0) 0 (fun μ' => K (zcs μ' (zC μ - 22) (zS μ - 377))) (zcs μ 22 377)) rfl (List.mem_of_getElem? (i := 1) rfl) q195 q118 q196 (by decide +kernel) rfl h.1 hst4 hR rfl hdg⟩) k
theorem pfX1_69 (F : ZF p R s m args meth c cc nL "SafeBuckets" "<init>" ret D A al sz mc ms fr lo) {z : Nat} {u : Nat} (hdg : decode cc pc = .ok (.putfield 69, 3)) (k : ZW p l e R s m args below meth c Q nL D A al n0 P (pc + 3) L st) : ZW p l e R s m args below meth c Q nL D A al n0 (zpR 1 z 17 u P) pc L (zv u :: zv z :: st) :=
  Z.putRF F (ref := "SafeBuckets") in_X1 (ci := 0) rfl (by decide) (kf := 17) (by decide) q406 (fun _ h => h) tyX1 tyX1_ok nmX1 rfl rfl rfl (ty := .object _) (fun u => zv_nar u) (fun u => zv_fit u) rfl rfl hdg k
theorem pfX1_73 (F : ZF p R s m args meth c cc nL "SafeBuckets" "<init>" ret D A al sz mc ms fr lo) {z : Nat} {u : Nat} (hdg : decode cc pc = .ok (.putfield 73, 3)) (k : ZW p l e R s m args below meth c Q nL D A al n0 P (pc + 3) L st) : ZW p l e R s m args below meth c Q nL D A al n0 (zpR 1 z 18 u P) pc L (zv u :: zv z :: st) :=
  Z.putRF F (ref := "SafeBuckets") in_X1 (ci := 0) rfl (by decide) (kf := 18) (by decide) q407 (fun _ h => h) tyX1 tyX1_ok nmX1 rfl rfl rfl (ty := .array _) (fun u => zv_narA u) (fun u => zv_fitA u) rfl rfl hdg k
theorem clX1_79 (F : ZF p R s m args meth c cc nL "SafeBuckets" nm ret D A al sz mc ms fr lo) {h0 : Nat} {K : ZM → Prop} (hR : 3 + 1 ≤ fr ∧ 8 + (1 + 11) + 68 ≤ lo) (hst4 : zlw st) (hdg : decode cc pc = .ok (.invokespecial 79, 3)) (k : ZW p l e R s m args below meth c Q nL D A al n0 K (pc + 3) L st) : ZW p l e R s m args below meth c Q nL D A al n0 (zat 6 h0 (f_X8_init h0 K)) pc L (zv h0 :: st) :=
  Z.rv0 _ (fun μ H locs cells slots ls hI h hP => Z.I0 F hI (n := 0) (ci := 5) rfl (by decide) hP.1 hP.2 (k_X8_init l h0 D A (zX μ, zC μ, zS μ) H.size K μ) rfl q360 q361 q125 q362 (by decide +kernel) rfl h.1 hst4 hR rfl hdg) k
theorem pfX1_80 (F : ZF p R s m args meth c cc nL "SafeBuckets" "<init>" ret D A al sz mc ms fr lo) {z : Nat} {u : Nat} (hdg : decode cc pc = .ok (.putfield 80, 3)) (k : ZW p l e R s m args below meth c Q nL D A al n0 P (pc + 3) L st) : ZW p l e R s m args below meth c Q nL D A al n0 (zpR 1 z 22 u P) pc L (zv u :: zv z :: st) :=
  Z.putRF F (ref := "SafeBuckets") in_X1 (ci := 0) rfl (by decide) (kf := 22) (by decide) q411 (fun _ h => h) tyX1 tyX1_ok nmX1 rfl rfl rfl (ty := .object _) (fun u => zv_nar u) (fun u => zv_fit u) rfl rfl hdg k
theorem pfX1_84 (F : ZF p R s m args meth c cc nL "SafeBuckets" "<init>" ret D A al sz mc ms fr lo) {z : Nat} {u : Nat} (hdg : decode cc pc = .ok (.putfield 84, 3)) (k : ZW p l e R s m args below meth c Q nL D A al n0 P (pc + 3) L st) : ZW p l e R s m args below meth c Q nL D A al n0 (zpR 1 z 23 u P) pc L (zv u :: zv z :: st) :=
  Z.putRF F (ref := "SafeBuckets") in_X1 (ci := 0) rfl (by decide) (kf := 23) (by decide) q412 (fun _ h => h) tyX1 tyX1_ok nmX1 rfl rfl rfl (ty := .array _) (fun u => zv_narA u) (fun u => zv_fitA u) rfl rfl hdg k
theorem pfX1_87 (F : ZF p R s m args meth c cc nL "SafeBuckets" "<init>" ret D A al sz mc ms fr lo) {z : Nat} {u : Nat} (hdg : decode cc pc = .ok (.putfield 87, 3)) (k : ZW p l e R s m args below meth c Q nL D A al n0 P (pc + 3) L st) : ZW p l e R s m args below meth c Q nL D A al n0 (zpR 1 z 26 u P) pc L (zv u :: zv z :: st) :=
  Z.putRF F (ref := "SafeBuckets") in_X1 (ci := 0) rfl (by decide) (kf := 26) (by decide) q415 (fun _ h => h) tyX1 tyX1_ok nmX1 rfl rfl rfl (ty := .array _) (fun u => zv_narA u) (fun u => zv_fitA u) rfl rfl hdg k
theorem pfX1_90 (F : ZF p R s m args meth c cc nL "SafeBuckets" "<init>" ret D A al sz mc ms fr lo) {z : Nat} {u : Nat} (hdg : decode cc pc = .ok (.putfield 90, 3)) (k : ZW p l e R s m args below meth c Q nL D A al n0 P (pc + 3) L st) : ZW p l e R s m args below meth c Q nL D A al n0 (zpR 1 z 27 u P) pc L (zv u :: zv z :: st) :=
  Z.putRF F (ref := "SafeBuckets") in_X1 (ci := 0) rfl (by decide) (kf := 27) (by decide) q416 (fun _ h => h) tyX1 tyX1_ok nmX1 rfl rfl rfl (ty := .array _) (fun u => zv_narA u) (fun u => zv_fitA u) rfl rfl hdg k
theorem pfX1_93 (F : ZF p R s m args meth c cc nL "SafeBuckets" nm ret D A al sz mc ms fr lo) {z : Nat} {u : Nat} (hdg : decode cc pc = .ok (.putfield 93, 3)) (k : ZW p l e R s m args below meth c Q nL D A al n0 P (pc + 3) L st) : ZW p l e R s m args below meth c Q nL D A al n0 (zpR 1 z 5 u P) pc L (zv u :: zv z :: st) :=
  Z.putR F (ref := "SafeBuckets") in_X1 (ci := 0) rfl (by decide) (kf := 5) (by decide) q390 (fun _ h => h) tyX1 tyX1_ok nmX1 rfl (ty := .object _) (fun u => zv_nar u) (fun u => zv_fit u) rfl rfl hdg k
set_option maxHeartbeats 4000000 in
theorem k_X1_init (l : Launch) (h0 : Nat) : ZCv l yX1_init (ws_ yX1_init cX1_init 1 none) 7 143 214 4045 true [zv h0] (f_X1_init h0) := by
  refine Z.metV (by decide +kernel) (fun h => by cases h) (L0 := [(0, zv h0)]) (by first | (rw [zla_v, zla_0]; done) | (rw [zla_v, zla_0]; rfl)) (by rw [zsl_v, zsl_0]; exact Nat.le_of_ble_eq_true rfl) ?_
  intro p e R s m args below meth c D A n0 sz k F
  have F : ZF p R s m args meth c cX1_init 1 "SafeBuckets" "<init>" none D A true sz 214 4045 7 143 := F
  unfold f_X1_init
  refine Z.aload_n F 0 rfl dX1_init_0 ?_
  refine Z.objI F q176 (Nat.le_of_ble_eq_true rfl) (Nat.le_of_ble_eq_true rfl) (zlw4 (Nat.le_of_ble_eq_true rfl)) dX1_init_1 ?_
  refine Z.aload_n F 0 rfl dX1_init_4 ?_
  refine Z.sipush F (v := (240 : Int32)) (by decide) dX1_init_5 ?_
  refine Z.newA52 F dX1_init_8 (fun n8 => ?_)
  refine pfX1_15 F dX1_init_10 ?_
  refine Z.aload_n F 0 rfl dX1_init_13 ?_
  refine Z.iconst F (v := (4 : Int32)) (by decide) dX1_init_14 ?_
  refine Z.newQ F (C := "SafeBuckets$Where") (t := 3) (by decide) rfl q179 (List.mem_of_getElem? (i := 0) rfl) dX1_init_15 (fun n15 => ?_)
  refine pfX1_27 F dX1_init_18 ?_
  refine Z.aload_n F 0 rfl dX1_init_21 ?_
  refine Z.iconst F (v := (5 : Int32)) (by decide) dX1_init_22 ?_
  refine Z.newA50 F dX1_init_23 (fun n23 => ?_)
  refine pfX1_31 F dX1_init_25 ?_
  refine Z.aload_n F 0 rfl dX1_init_28 ?_
  refine Z.bipush F (v := (16 : Int32)) (by decide) dX1_init_29 ?_
  refine Z.newA50 F dX1_init_31 (fun n31 => ?_)
  refine pfX1_35 F dX1_init_33 ?_
  refine Z.aload_n F 0 rfl dX1_init_36 ?_
  refine Z.bipush F (v := (17 : Int32)) (by decide) dX1_init_37 ?_
  refine Z.newA50 F dX1_init_39 (fun n39 => ?_)
  refine pfX1_38 F dX1_init_41 ?_
  refine Z.aload_n F 0 rfl dX1_init_44 ?_
  refine Z.bipush F (v := (17 : Int32)) (by decide) dX1_init_45 ?_
  refine Z.newA50 F dX1_init_47 (fun n47 => ?_)
  refine pfX1_41 F dX1_init_49 ?_
  refine Z.aload_n F 0 rfl dX1_init_52 ?_
  refine Z.bipush F (v := (17 : Int32)) (by decide) dX1_init_53 ?_
  refine Z.bipush F (v := (17 : Int32)) (by decide) dX1_init_55 ?_
  refine Z.multi54 F q181 dX1_init_57 (fun n57 => ?_)
  refine pfX1_46 F dX1_init_61 ?_
  refine Z.aload_n F 0 rfl dX1_init_64 ?_
  refine Z.bipush F (v := (17 : Int32)) (by decide) dX1_init_65 ?_
  refine Z.bipush F (v := (17 : Int32)) (by decide) dX1_init_67 ?_
  refine Z.multi55 F q183 dX1_init_69 (fun n69 => ?_)
  refine pfX1_51 F dX1_init_73 ?_
  refine Z.aload_n F 0 rfl dX1_init_76 ?_
  refine Z.newO F in_X2 tyX2 tyX2_ok (ci := 1) rfl (by decide) q185 q186 q117 df_X2 dX1_init_77 (fun n77 => ?_)
  refine Z.dup F dX1_init_80 ?_
  refine Z.aload_n F 0 rfl dX1_init_81 ?_
  refine clX1_56 F ⟨Nat.le_of_ble_eq_true rfl, Nat.le_of_ble_eq_true rfl⟩ (zlw4 (Nat.le_of_ble_eq_true rfl)) dX1_init_82 ?_
  refine pfX1_59 F dX1_init_85 ?_
  refine Z.aload_n F 0 rfl dX1_init_88 ?_
  refine Z.newO F in_X2 tyX2 tyX2_ok (ci := 1) rfl (by decide) q185 q186 q117 df_X2 dX1_init_89 (fun n89 => ?_)
  refine Z.dup F dX1_init_92 ?_
  refine Z.aload_n F 0 rfl dX1_init_93 ?_
  refine clX1_56 F ⟨Nat.le_of_ble_eq_true rfl, Nat.le_of_ble_eq_true rfl⟩ (zlw4 (Nat.le_of_ble_eq_true rfl)) dX1_init_94 ?_
  refine pfX1_63 F dX1_init_97 ?_
  refine Z.aload_n F 0 rfl dX1_init_100 ?_
  refine Z.newO F in_X3 tyX3 tyX3_ok (ci := 2) rfl (by decide) q318 q193 q118 df_X3 dX1_init_101 (fun n101 => ?_)
  refine Z.dup F dX1_init_104 ?_
  refine Z.aload_n F 0 rfl dX1_init_105 ?_
  refine clX1_68 F ⟨Nat.le_of_ble_eq_true rfl, Nat.le_of_ble_eq_true rfl⟩ (zlw4 (Nat.le_of_ble_eq_true rfl)) dX1_init_106 ?_
  refine pfX1_69 F dX1_init_109 ?_
  refine Z.aload_n F 0 rfl dX1_init_112 ?_
  refine Z.bipush F (v := (40 : Int32)) (by decide) dX1_init_113 ?_
  refine Z.newQ F (C := "SafeBuckets$State") (t := 9) (by decide) rfl q185 (List.mem_of_getElem? (i := 4) rfl) dX1_init_115 (fun n115 => ?_)
  refine pfX1_73 F dX1_init_118 ?_
  refine Z.aload_n F 0 rfl dX1_init_121 ?_
  refine Z.newO F in_X8 tyX8 tyX8_ok (ci := 5) rfl (by decide) q321 q322 q125 df_X8 dX1_init_122 (fun n122 => ?_)
  refine Z.dup F dX1_init_125 ?_
  refine clX1_79 F ⟨Nat.le_of_ble_eq_true rfl, Nat.le_of_ble_eq_true rfl⟩ (zlw4 (Nat.le_of_ble_eq_true rfl)) dX1_init_126 ?_
  refine pfX1_80 F dX1_init_129 ?_
  refine Z.aload_n F 0 rfl dX1_init_132 ?_
  refine Z.bipush F (v := (6 : Int32)) (by decide) dX1_init_133 ?_
  refine Z.newA50 F dX1_init_135 (fun n135 => ?_)
  refine pfX1_84 F dX1_init_137 ?_
  refine Z.aload_n F 0 rfl dX1_init_140 ?_
  refine Z.bipush F (v := (16 : Int32)) (by decide) dX1_init_141 ?_
  refine Z.newA50 F dX1_init_143 (fun n143 => ?_)
  refine pfX1_87 F dX1_init_145 ?_
  refine Z.aload_n F 0 rfl dX1_init_148 ?_
  refine Z.bipush F (v := (16 : Int32)) (by decide) dX1_init_149 ?_
  refine Z.newA50 F dX1_init_151 (fun n151 => ?_)
  refine pfX1_90 F dX1_init_153 ?_
  refine Z.aload_n F 0 rfl dX1_init_156 ?_
  refine Z.null F dX1_init_157 ?_
  refine pfX1_93 F dX1_init_158 ?_
  exact Z.vret F dX1_init_161
set_option maxHeartbeats 4000000 in
theorem k_X1_isIn (l : Launch) (x0 : Int64) (x2 : Int64) (x4 : Int64) : ZCi l yX1_isIn (ws_ yX1_isIn cX1_isIn 6 (some .boolean)) 0 0 0 0 false [.long x0, .long x2, .long x4] (f_X1_isIn x0 x2 x4) := by
  refine Z.metZ (by decide +kernel) (fun h => ⟨rfl, rfl⟩) (L0 := [(0, .long x0), (2, .long x2), (4, .long x4)]) (by first | (rw [zla_l, zla_l, zla_l, zla_0]; done) | (rw [zla_l, zla_l, zla_l, zla_0]; rfl)) (by rw [zsl_l, zsl_l, zsl_l, zsl_0]; exact Nat.le_of_ble_eq_true rfl) ?_
  intro p e R s m args below meth c D A n0 sz k F
  have F : ZF p R s m args meth c cX1_isIn 6 "SafeBuckets" "isIn" (some .boolean) D A false sz 0 0 0 0 := F
  unfold f_X1_isIn
  refine Z.lload_n F 0 rfl dX1_isIn_0 ?_
  refine Z.lload_n F 1 rfl dX1_isIn_1 ?_
  refine Z.lcmp F dX1_isIn_2 ?_
  refine Z.jn1 (J := _) (fun p18s0 => []) (fun p18s0 => [.int p18s0]) 18 (fun p18s0 => ?_) (fun j18 hj18 => ?_)
  · exact Z.zret F dX1_isIn_18
  refine Z.jn0 (J := _) ([]) ([]) 17 (?_) (fun j17 hj17 => ?_)
  · refine Z.iconst F (v := (0 : Int32)) (by decide) dX1_isIn_17 ?_
    exact Z.sub [] rfl (hj18 (0 : Int32))
  refine Z.if_lt F (tgt := 17) dX1_isIn_3 (by decide) ?_ ?_
  · exact Z.sub [] rfl (hj17)
  refine Z.lload_n F 0 rfl dX1_isIn_6 ?_
  refine Z.lload F 2 rfl dX1_isIn_7 ?_
  refine Z.lcmp F dX1_isIn_9 ?_
  refine Z.if_gt F (tgt := 17) dX1_isIn_10 (by decide) ?_ ?_
  · exact Z.sub [] rfl (hj17)
  refine Z.iconst F (v := (1 : Int32)) (by decide) dX1_isIn_13 ?_
  refine Z.goto F (tgt := 18) dX1_isIn_14 (by decide) ?_
  exact Z.sub [] rfl (hj18 (1 : Int32))
theorem pfX10_3 (F : ZF p R s m args meth c cc nL "SafeBuckets$Reader" "<init>" ret D A al sz mc ms fr lo) {z : Nat} {u : Nat} (hdg : decode cc pc = .ok (.putfield 3, 3)) (k : ZW p l e R s m args below meth c Q nL D A al n0 P (pc + 3) L st) : ZW p l e R s m args below meth c Q nL D A al n0 (zpR 8 z 1 u P) pc L (zv u :: zv z :: st) :=
  Z.putRF F (ref := "SafeBuckets$Reader") in_X10 (ci := 7) rfl (by decide) (kf := 1) (by decide) q492 (fun _ h => h) tyX10 tyX10_ok nmX10 rfl rfl rfl (ty := .object _) (fun u => zv_nar u) (fun u => zv_fit u) rfl rfl hdg k
set_option maxHeartbeats 4000000 in
theorem k_X10_init (l : Launch) (h0 : Nat) (h1 : Nat) : ZCv l yX10_init (ws_ yX10_init cX10_init 2 none) 1 20 0 0 false [zv h0, zv h1] (f_X10_init h0 h1) := by
  refine Z.metV (by decide +kernel) (fun h => ⟨rfl, rfl⟩) (L0 := [(0, zv h0), (1, zv h1)]) (by first | (rw [zla_v, zla_v, zla_0]; done) | (rw [zla_v, zla_v, zla_0]; rfl)) (by rw [zsl_v, zsl_v, zsl_0]; exact Nat.le_of_ble_eq_true rfl) ?_
  intro p e R s m args below meth c D A n0 sz k F
  have F : ZF p R s m args meth c cX10_init 2 "SafeBuckets$Reader" "<init>" none D A false sz 0 0 1 20 := F
  unfold f_X10_init
  refine Z.aload_n F 0 rfl dX10_init_0 ?_
  refine Z.aload_n F 1 rfl dX10_init_1 ?_
  refine pfX10_3 F dX10_init_2 ?_
  refine Z.aload_n F 0 rfl dX10_init_5 ?_
  refine Z.objI F q490 (Nat.le_of_ble_eq_true rfl) (Nat.le_of_ble_eq_true rfl) (zlw4 (Nat.le_of_ble_eq_true rfl)) dX10_init_6 ?_
  exact Z.vret F dX10_init_9
theorem pfX11_11 (F : ZF p R s m args meth c cc nL "SafeBuckets$Book" "<init>" ret D A al sz mc ms fr lo) {z : Nat} {u : Nat} (hdg : decode cc pc = .ok (.putfield 11, 3)) (k : ZW p l e R s m args below meth c Q nL D A al n0 P (pc + 3) L st) : ZW p l e R s m args below meth c Q nL D A al n0 (zpR 9 z 0 u P) pc L (zv u :: zv z :: st) :=
  Z.putRF F (ref := "SafeBuckets$Book") in_X11 (ci := 8) rfl (by decide) (kf := 0) (by decide) q512 (fun _ h => h) tyX11 tyX11_ok nmX11 rfl rfl rfl (ty := .array _) (fun u => zv_narA u) (fun u => zv_fitA u) rfl rfl hdg k
theorem pfX11_19 (F : ZF p R s m args meth c cc nL "SafeBuckets$Book" "<init>" ret D A al sz mc ms fr lo) {z : Nat} {u : Nat} (hdg : decode cc pc = .ok (.putfield 19, 3)) (k : ZW p l e R s m args below meth c Q nL D A al n0 P (pc + 3) L st) : ZW p l e R s m args below meth c Q nL D A al n0 (zpR 9 z 1 u P) pc L (zv u :: zv z :: st) :=
  Z.putRF F (ref := "SafeBuckets$Book") in_X11 (ci := 8) rfl (by decide) (kf := 1) (by decide) q514 (fun _ h => h) tyX11 tyX11_ok nmX11 rfl rfl rfl (ty := .array _) (fun u => zv_narA u) (fun u => zv_fitA u) rfl rfl hdg k
set_option maxHeartbeats 4000000 in
theorem k_X11_init (l : Launch) (h0 : Nat) : ZCv l yX11_init (ws_ yX11_init cX11_init 1 none) 1 20 2 23 true [zv h0] (f_X11_init h0) := by
  refine Z.metV (by decide +kernel) (fun h => by cases h) (L0 := [(0, zv h0)]) (by first | (rw [zla_v, zla_0]; done) | (rw [zla_v, zla_0]; rfl)) (by rw [zsl_v, zsl_0]; exact Nat.le_of_ble_eq_true rfl) ?_
  intro p e R s m args below meth c D A n0 sz k F
  have F : ZF p R s m args meth c cX11_init 1 "SafeBuckets$Book" "<init>" none D A true sz 2 23 1 20 := F
  unfold f_X11_init
  refine Z.aload_n F 0 rfl dX11_init_0 ?_
  refine Z.objI F q507 (Nat.le_of_ble_eq_true rfl) (Nat.le_of_ble_eq_true rfl) (zlw4 (Nat.le_of_ble_eq_true rfl)) dX11_init_1 ?_
  refine Z.aload_n F 0 rfl dX11_init_4 ?_
  refine Z.iconst F (v := (3 : Int32)) (by decide) dX11_init_5 ?_
  refine Z.newQ F (C := "SafeBuckets$ToldTable") (t := 10) (by decide) rfl q508 (List.mem_of_getElem? (i := 5) rfl) dX11_init_6 (fun n6 => ?_)
  refine pfX11_11 F dX11_init_9 ?_
  refine Z.aload_n F 0 rfl dX11_init_12 ?_
  refine Z.bipush F (v := (20 : Int32)) (by decide) dX11_init_13 ?_
  refine Z.newQ F (C := "SafeBuckets$Line") (t := 11) (by decide) rfl q510 (List.mem_of_getElem? (i := 6) rfl) dX11_init_15 (fun n15 => ?_)
  refine pfX11_19 F dX11_init_18 ?_
  exact Z.vret F dX11_init_21
theorem gfX10_15 (F : ZF p R s m args meth c cc nL "SafeBuckets$Reader" nm ret D A al sz mc ms fr lo) {z : Nat} {K : Int32 → ZM → Prop} (hdg : decode cc pc = .ok (.getfield 15, 3)) (k : ∀ u, ZW p l e R s m args below meth c Q nL D A al n0 (K u) (pc + 3) L (.int u :: st)) : ZW p l e R s m args below meth c Q nL D A al n0 (zgI 8 z 0 K) pc L (zv z :: st) :=
  Z.getI F (ref := "SafeBuckets$Reader") in_X10 (ci := 7) rfl (by decide) (kf := 0) (by decide) q491 (fun _ h => h) rfl hdg k
theorem gfX10_3 (F : ZF p R s m args meth c cc nL "SafeBuckets$Reader" nm ret D A al sz mc ms fr lo) {z : Nat} {K : Nat → ZM → Prop} (hdg : decode cc pc = .ok (.getfield 3, 3)) (k : ∀ u, ZW p l e R s m args below meth c Q nL D A al n0 (K u) (pc + 3) L (zv u :: st)) : ZW p l e R s m args below meth c Q nL D A al n0 (zgR 8 z 1 K) pc L (zv z :: st) :=
  Z.getR F (ref := "SafeBuckets$Reader") in_X10 (ci := 7) rfl (by decide) (kf := 1) (by decide) q492 (fun _ h => h) rfl hdg k
theorem gfX10_19 (F : ZF p R s m args meth c cc nL "SafeBuckets$Reader" nm ret D A al sz mc ms fr lo) {z : Nat} {K : Int32 → ZM → Prop} (hdg : decode cc pc = .ok (.getfield 19, 3)) (k : ∀ u, ZW p l e R s m args below meth c Q nL D A al n0 (K u) (pc + 3) L (.int u :: st)) : ZW p l e R s m args below meth c Q nL D A al n0 (zgI 1 z 1 K) pc L (zv z :: st) :=
  Z.getIN F (ref := "SafeBuckets") in_X1 (ci := 0) rfl (by decide) (kf := 1) (by decide) (host := "SafeBuckets") (List.mem_of_getElem? (i := 20) rfl) (fun _ h => h) rfl hdg k
theorem gfX10_22 (F : ZF p R s m args meth c cc nL "SafeBuckets$Reader" nm ret D A al sz mc ms fr lo) {z : Nat} {K : Nat → ZM → Prop} (hdg : decode cc pc = .ok (.getfield 22, 3)) (k : ∀ u, ZW p l e R s m args below meth c Q nL D A al n0 (K u) (pc + 3) L (zv u :: st)) : ZW p l e R s m args below meth c Q nL D A al n0 (zgR 1 z 0 K) pc L (zv z :: st) :=
  Z.getRN F (ref := "SafeBuckets") in_X1 (ci := 0) rfl (by decide) (kf := 0) (by decide) (host := "SafeBuckets") (List.mem_of_getElem? (i := 21) rfl) (fun _ h => h) rfl hdg k
theorem pfX10_15 (F : ZF p R s m args meth c cc nL "SafeBuckets$Reader" nm ret D A al sz mc ms fr lo) {z : Nat} {u : Int32} (hdg : decode cc pc = .ok (.putfield 15, 3)) (k : ZW p l e R s m args below meth c Q nL D A al n0 P (pc + 3) L st) : ZW p l e R s m args below meth c Q nL D A al n0 (zpI 8 z 0 u P) pc L (.int u :: zv z :: st) :=
  Z.putI F (ref := "SafeBuckets$Reader") in_X10 (ci := 7) rfl (by decide) (kf := 0) (by decide) q491 (fun _ h => h) tyX10 tyX10_ok nmX10 rfl rfl rfl hdg k
set_option maxHeartbeats 4000000 in
theorem k_X10_peek (l : Launch) (h0 : Nat) : ZCi l yX10_peek (ws_ yX10_peek cX10_peek 1 (some .int)) 0 0 0 0 false [zv h0] (f_X10_peek h0) := by
  refine Z.metI (by decide +kernel) (fun h => ⟨rfl, rfl⟩) (L0 := [(0, zv h0)]) (by first | (rw [zla_v, zla_0]; done) | (rw [zla_v, zla_0]; rfl)) (by rw [zsl_v, zsl_0]; exact Nat.le_of_ble_eq_true rfl) ?_
  intro p e R s m args below meth c D A n0 sz k F
  have F : ZF p R s m args meth c cX10_peek 1 "SafeBuckets$Reader" "peek" (some .int) D A false sz 0 0 0 0 := F
  unfold f_X10_peek
  refine Z.jn0 (J := _) ([(0, zv h0)]) ([]) 44 (?_) (fun j44 hj44 => ?_)
  · refine Z.aload_n F 0 rfl dX10_peek_44 ?_
    refine gfX10_15 F dX10_peek_45 (fun g45 => ?_)
    refine Z.aload_n F 0 rfl dX10_peek_48 ?_
    refine gfX10_3 F dX10_peek_49 (fun g49 => ?_)
    refine gfX10_19 F dX10_peek_52 (fun g52 => ?_)
    refine Z.jn1 (J := _) (fun p78s0 => []) (fun p78s0 => [.int p78s0]) 78 (fun p78s0 => ?_) (fun j78 hj78 => ?_)
    · exact Z.iret F dX10_peek_78
    refine Z.icmp_ge F (tgt := 77) dX10_peek_55 (by decide) ?_ ?_
    · refine Z.iconst F (v := (-1 : Int32)) (by decide) dX10_peek_77 ?_
      exact Z.sub [] rfl (hj78 (-1 : Int32))
    refine Z.aload_n F 0 rfl dX10_peek_58 ?_
    refine gfX10_3 F dX10_peek_59 (fun g59 => ?_)
    refine gfX10_22 F dX10_peek_62 (fun g62 => ?_)
    refine Z.aload_n F 0 rfl dX10_peek_65 ?_
    refine gfX10_15 F dX10_peek_66 (fun g66 => ?_)
    refine Z.bald F dX10_peek_69 (fun g69 => ?_)
    refine Z.sipush F (v := (255 : Int32)) (by decide) dX10_peek_70 ?_
    refine Z.iand F dX10_peek_73 ?_
    refine Z.goto F (tgt := 78) dX10_peek_74 (by decide) ?_
    exact Z.sub [] rfl (hj78 (g69 &&& (255 : Int32)))
  refine Z.sub [0] rfl ?_
  refine Z.w0 (Lf := [(0, zv h0)]) (sf := []) (fun r0 hr0 => ?_) 
  refine Z.aload_n F 0 rfl dX10_peek_0 ?_
  refine gfX10_15 F dX10_peek_1 (fun g1 => ?_)
  refine Z.aload_n F 0 rfl dX10_peek_4 ?_
  refine gfX10_3 F dX10_peek_5 (fun g5 => ?_)
  refine gfX10_19 F dX10_peek_8 (fun g8 => ?_)
  refine Z.icmp_ge F (tgt := 44) dX10_peek_11 (by decide) ?_ ?_
  · exact Z.sub [0] rfl (hj44)
  refine Z.aload_n F 0 rfl dX10_peek_14 ?_
  refine gfX10_3 F dX10_peek_15 (fun g15 => ?_)
  refine gfX10_22 F dX10_peek_18 (fun g18 => ?_)
  refine Z.aload_n F 0 rfl dX10_peek_21 ?_
  refine gfX10_15 F dX10_peek_22 (fun g22 => ?_)
  refine Z.bald F dX10_peek_25 (fun g25 => ?_)
  refine Z.bipush F (v := (32 : Int32)) (by decide) dX10_peek_26 ?_
  refine Z.icmp_ne F (tgt := 44) dX10_peek_28 (by decide) ?_ ?_
  · exact Z.sub [0] rfl (hj44)
  refine Z.aload_n F 0 rfl dX10_peek_31 ?_
  refine Z.dup F dX10_peek_32 ?_
  refine gfX10_15 F dX10_peek_33 (fun g33 => ?_)
  refine Z.iconst F (v := (1 : Int32)) (by decide) dX10_peek_36 ?_
  refine Z.iadd F dX10_peek_37 ?_
  refine pfX10_15 F dX10_peek_38 ?_
  refine Z.goto F (tgt := 0) dX10_peek_41 (by decide) ?_
  exact Z.sub [0] rfl (hr0)
theorem clX12_1_J1_init_10_10 (F : ZF p R s m args meth c cc nL "SafeBuckets$Wrong" nm ret D A al sz mc ms fr lo) {h0 : Nat} {h1 : Nat} {h2 : Nat} {x3 : Int32} {x4 : Int32} {K : ZM → Prop} (hR : 2 + 1 ≤ fr ∧ 8 + (5 + 11) + 44 ≤ lo) (hst4 : zlw st) (hdg : decode cc pc = .ok (.invokespecial 1, 3)) (k : ZW p l e R s m args below meth c Q nL D A al n0 K (pc + 3) L st) : ZW p l e R s m args below meth c Q nL D A al n0 (zat 10 h0 (f_J1_init_10 h0 h1 h2 x3 x4 K)) pc L (.int x4 :: .int x3 :: zv h2 :: zv h1 :: zv h0 :: st) :=
  Z.rv0 _ (fun μ H locs cells slots ls hI h hP => Z.I0 F hI (n := 4) (ci := 9) rfl (by decide) hP.1 hP.2 (k_J1_init_10 l h0 h1 h2 x3 x4 D A (zX μ, zC μ, zS μ) H.size K μ) rfl q564 q364 q124 q365 (by decide +kernel) rfl h.1 hst4 hR rfl hdg) k
theorem pfX12_7 (F : ZF p R s m args meth c cc nL "SafeBuckets$Wrong" "<init>" ret D A al sz mc ms fr lo) {z : Nat} {u : Int32} (hdg : decode cc pc = .ok (.putfield 7, 3)) (k : ZW p l e R s m args below meth c Q nL D A al n0 P (pc + 3) L st) : ZW p l e R s m args below meth c Q nL D A al n0 (zpI 10 z 6 u P) pc L (.int u :: zv z :: st) :=
  Z.putIF F (ref := "SafeBuckets$Wrong") in_X12 (ci := 9) rfl (by decide) (kf := 6) (by decide) q565 (fun _ h => h) tyX12 tyX12_ok nmX12 rfl rfl rfl rfl rfl hdg k
set_option maxHeartbeats 4000000 in
theorem k_X12_init (l : Launch) (h0 : Nat) (x1 : Int32) : ZCv l yX12_init (ws_ yX12_init cX12_init 2 none) 3 68 0 0 false [zv h0, .int x1] (f_X12_init h0 x1) := by
  refine Z.metV (by decide +kernel) (fun h => ⟨rfl, rfl⟩) (L0 := [(0, zv h0), (1, .int x1)]) (by first | (rw [zla_v, zla_i, zla_0]; done) | (rw [zla_v, zla_i, zla_0]; rfl)) (by rw [zsl_v, zsl_i, zsl_0]; exact Nat.le_of_ble_eq_true rfl) ?_
  intro p e R s m args below meth c D A n0 sz k F
  have F : ZF p R s m args meth c cX12_init 2 "SafeBuckets$Wrong" "<init>" none D A false sz 0 0 3 68 := F
  unfold f_X12_init
  refine Z.aload_n F 0 rfl dX12_init_0 ?_
  refine Z.null F dX12_init_1 ?_
  refine Z.null F dX12_init_2 ?_
  refine Z.iconst F (v := (0 : Int32)) (by decide) dX12_init_3 ?_
  refine Z.iconst F (v := (0 : Int32)) (by decide) dX12_init_4 ?_
  refine clX12_1_J1_init_10_10 F ⟨Nat.le_of_ble_eq_true rfl, Nat.le_of_ble_eq_true rfl⟩ (zlw4 (Nat.le_of_ble_eq_true rfl)) dX12_init_5 ?_
  refine Z.aload_n F 0 rfl dX12_init_8 ?_
  refine Z.iload_n F 1 rfl dX12_init_9 ?_
  refine pfX12_7 F dX12_init_10 ?_
  exact Z.vret F dX12_init_13
theorem clX10_28 (F : ZF p R s m args meth c cc nL "SafeBuckets$Reader" nm ret D A al sz mc ms fr lo) {h0 : Nat} {x1 : Int32} {K : ZM → Prop} (hR : 3 + 1 ≤ fr ∧ 8 + (2 + 11) + 68 ≤ lo) (hst4 : zlw st) (hdg : decode cc pc = .ok (.invokespecial 28, 3)) (k : ZW p l e R s m args below meth c Q nL D A al n0 K (pc + 3) L st) : ZW p l e R s m args below meth c Q nL D A al n0 (zat 10 h0 (f_X12_init h0 x1 K)) pc L (.int x1 :: zv h0 :: st) :=
  Z.rv0 _ (fun μ H locs cells slots ls hI h hP => Z.I0 F hI (n := 1) (ci := 9) rfl (by decide) hP.1 hP.2 (k_X12_init l h0 x1 D A (zX μ, zC μ, zS μ) H.size K μ) rfl q561 q562 q129 q563 (by decide +kernel) rfl h.1 hst4 hR rfl hdg) k
set_option maxHeartbeats 4000000 in
theorem k_X10_take (l : Launch) (h0 : Nat) (x1 : Int32) : ZCix l yX10_take (ws_ yX10_take cX10_take 2 (some .int)) 4 89 1 7 true "SafeBuckets$Wrong" [zv h0, .int x1] (fun k kx => f_X10_take h0 x1 kx k) := by
  refine Z.metIx (by decide +kernel) (fun h => by cases h) (L0 := [(0, zv h0), (1, .int x1)]) (by first | (rw [zla_v, zla_i, zla_0]; done) | (rw [zla_v, zla_i, zla_0]; rfl)) (by rw [zsl_v, zsl_i, zsl_0]; exact Nat.le_of_ble_eq_true rfl) ?_
  intro p e R s m args below meth c D A n0 sz k kx F htb
  have F : ZF p R s m args meth c cX10_take 2 "SafeBuckets$Reader" "take" (some .int) D A true sz 1 7 4 89 := F
  show ZW p l e R s m args below meth c _ _ D A _ _ (f_X10_take h0 x1 kx k) _ _ _
  unfold f_X10_take
  refine Z.iload_n F 1 rfl dX10_take_0 ?_
  refine Z.jn0 (J := _) ([(0, zv h0)]) ([]) 18 (?_) (fun j18 hj18 => ?_)
  · refine Z.newO F in_X12 tyX12 tyX12_ok (ci := 9) rfl (by decide) q552 q553 q129 df_X12 dX10_take_18 (fun n18 => ?_)
    refine Z.dup F dX10_take_21 ?_
    refine Z.aload_n F 0 rfl dX10_take_22 ?_
    refine gfX10_15 F dX10_take_23 (fun g23 => ?_)
    refine clX10_28 F ⟨Nat.le_of_ble_eq_true rfl, Nat.le_of_ble_eq_true rfl⟩ (zlw4 (Nat.le_of_ble_eq_true rfl)) dX10_take_26 ?_
    exact Z.athrow F (ci := 9) rfl (by decide) dX10_take_29 (Z.out F (by rw [htb]; exact fun _ h => by cases h))
  refine Z.if_eq F (tgt := 18) dX10_take_1 (by decide) ?_ ?_
  · exact Z.sub [0] rfl (hj18)
  refine Z.aload_n F 0 rfl dX10_take_4 ?_
  refine gfX10_15 F dX10_take_5 (fun g5 => ?_)
  refine Z.aload_n F 0 rfl dX10_take_8 ?_
  refine gfX10_3 F dX10_take_9 (fun g9 => ?_)
  refine gfX10_19 F dX10_take_12 (fun g12 => ?_)
  refine Z.icmp_lt F (tgt := 30) dX10_take_15 (by decide) ?_ ?_
  · refine Z.aload_n F 0 rfl dX10_take_30 ?_
    refine Z.dup F dX10_take_31 ?_
    refine gfX10_15 F dX10_take_32 (fun g32 => ?_)
    refine Z.iconst F (v := (1 : Int32)) (by decide) dX10_take_35 ?_
    refine Z.iadd F dX10_take_36 ?_
    refine pfX10_15 F dX10_take_37 ?_
    refine Z.aload_n F 0 rfl dX10_take_40 ?_
    refine gfX10_3 F dX10_take_41 (fun g41 => ?_)
    refine gfX10_22 F dX10_take_44 (fun g44 => ?_)
    refine Z.aload_n F 0 rfl dX10_take_47 ?_
    refine gfX10_15 F dX10_take_48 (fun g48 => ?_)
    refine Z.iconst F (v := (1 : Int32)) (by decide) dX10_take_51 ?_
    refine Z.isub F dX10_take_52 ?_
    refine Z.bald F dX10_take_53 (fun g53 => ?_)
    exact Z.retx (Z.iret F dX10_take_54)
  exact Z.sub [0] rfl (hj18)
end ZWalk
