section ZWalk
variable {p : Program} {l : Launch} {e : Env} {R : Room} {s : State} {m : MethodId} {args : Array Value} {below : List Frame} {meth : Method} {c : Code} {Q : State → Prop} {nL : Nat} {D : ZD} {A : Nat → Prop} {al : Bool} {n0 : Nat × Nat × Nat} {cc : ByteArray} {nm : String} {ret : Option FieldType} {sz mc ms fr lo : Nat}
variable {P : ZM → Prop} {pc : Nat} {L : List (Nat × Value)} {st : List Value}
set_option maxHeartbeats 4000000 in
theorem k_X1_isSplit (l : Launch) (h0 : Nat) (x1 : Int32) (x2 : Int32) (x3 : Int32) : ZCi l yX1_isSplit (ws_ yX1_isSplit cX1_isSplit 4 (some .boolean)) 2 47 0 0 false [zv h0, .int x1, .int x2, .int x3] (f_X1_isSplit h0 x1 x2 x3) := by
  refine Z.metZ (by decide +kernel) (fun h => ⟨rfl, rfl⟩) (L0 := [(0, zv h0), (1, .int x1), (2, .int x2), (3, .int x3)]) (by first | (rw [zla_v, zla_i, zla_i, zla_i, zla_0]; done) | (rw [zla_v, zla_i, zla_i, zla_i, zla_0]; rfl)) (by rw [zsl_v, zsl_i, zsl_i, zsl_i, zsl_0]; exact Nat.le_of_ble_eq_true rfl) ?_
  intro p e R s m args below meth c D A n0 sz k F
  have F : ZF p R s m args meth c cX1_isSplit 4 "SafeBuckets" "isSplit" (some .boolean) D A false sz 0 0 2 47 := F
  unfold f_X1_isSplit
  refine Z.aload_n F 0 rfl dX1_isSplit_0 ?_
  refine Z.iload_n F 1 rfl dX1_isSplit_1 ?_
  refine Z.iload_n F 2 rfl dX1_isSplit_2 ?_
  refine clX1_238 F ⟨Nat.le_of_ble_eq_true rfl, Nat.le_of_ble_eq_true rfl⟩ (zlw4 (Nat.le_of_ble_eq_true rfl)) dX1_isSplit_3 (fun r3 => ?_)
  refine Z.jn1 (J := _) (fun p32s0 => []) (fun p32s0 => [.int p32s0]) 32 (fun p32s0 => ?_) (fun j32 hj32 => ?_)
  · exact Z.zret F dX1_isSplit_32
  refine Z.jn0 (J := _) ([]) ([]) 31 (?_) (fun j31 hj31 => ?_)
  · refine Z.iconst F (v := (0 : Int32)) (by decide) dX1_isSplit_31 ?_
    exact Z.sub [] rfl (hj32 (0 : Int32))
  refine Z.if_eq F (tgt := 31) dX1_isSplit_6 (by decide) ?_ ?_
  · exact Z.sub [] rfl (hj31)
  refine Z.iload_n F 3 rfl dX1_isSplit_9 ?_
  refine Z.i2l F dX1_isSplit_10 ?_
  refine Z.lconst F (w := (1 : Int64)) (by decide) dX1_isSplit_11 ?_
  refine Z.aload_n F 0 rfl dX1_isSplit_12 ?_
  refine Z.iload_n F 1 rfl dX1_isSplit_13 ?_
  refine clX1_218 F ⟨Nat.le_of_ble_eq_true rfl, Nat.le_of_ble_eq_true rfl⟩ (zlw4 (Nat.le_of_ble_eq_true rfl)) dX1_isSplit_14 (fun r14 => ?_)
  refine gfX1_164 F dX1_isSplit_17 (fun g17 => ?_)
  refine Z.i2l F dX1_isSplit_20 ?_
  refine clX1_97 F ⟨Nat.le_of_ble_eq_true rfl, Nat.le_of_ble_eq_true rfl⟩ (zlw4 (Nat.le_of_ble_eq_true rfl)) dX1_isSplit_21 (fun r21 => ?_)
  refine Z.if_eq F (tgt := 31) dX1_isSplit_24 (by decide) ?_ ?_
  · exact Z.sub [] rfl (hj31)
  refine Z.iconst F (v := (1 : Int32)) (by decide) dX1_isSplit_27 ?_
  refine Z.goto F (tgt := 32) dX1_isSplit_28 (by decide) ?_
  exact Z.sub [] rfl (hj32 (1 : Int32))
theorem clX1_269 (F : ZF p R s m args meth c cc nL "SafeBuckets" nm ret D A al sz mc ms fr lo) {h0 : Nat} {x1 : Int32} {x2 : Int32} {x3 : Int32} {K : Int32 → ZM → Prop} (hR : 2 + 1 ≤ fr ∧ 8 + (4 + 11) + 47 ≤ lo) (hst4 : zlw st) (hdg : decode cc pc = .ok (.invokevirtual 269, 3)) (k : ∀ r, ZW p l e R s m args below meth c Q nL D A al n0 (K r) (pc + 3) L (.int r :: st)) : ZW p l e R s m args below meth c Q nL D A al n0 (zat 1 h0 (f_X1_isSplit h0 x1 x2 x3 K)) pc L (.int x3 :: .int x2 :: .int x1 :: zv h0 :: st) :=
  Z.ri0 _ (fun μ H locs cells slots ls hI h hP => Z.V0 F hI (n := 3) (ci := 0) rfl (by decide) hP.1 hP.2 (k_X1_isSplit l h0 x1 x2 x3 D A (zX μ, zC μ, zS μ) H.size K μ) q980 q982 qs22 q116 q983 (by decide +kernel) rfl h.1 hst4 hR rfl hdg) k
theorem clX1_274 (F : ZF p R s m args meth c cc nL "SafeBuckets" nm ret D A al sz mc ms fr lo) {h0 : Nat} {h1 : Nat} {x2 : Int32} {x3 : Int32} {K : ZM → Prop} (hR : 4 + 1 ≤ fr ∧ 8 + (7 + 11) + 91 ≤ lo) (hst4 : zlw st) (hdg : decode cc pc = .ok (.invokevirtual 274, 3)) (k : ZW p l e R s m args below meth c Q nL D A al n0 K (pc + 3) L st) : ZW p l e R s m args below meth c Q nL D A al n0 (zat 1 h0 (f_X1_lays h0 h1 x2 x3 K)) pc L (.int x3 :: .int x2 :: zv h1 :: zv h0 :: st) :=
  Z.rv0 _ (fun μ H locs cells slots ls hI h hP => Z.V0 F hI (n := 3) (ci := 0) rfl (by decide) hP.1 hP.2 (k_X1_lays l h0 h1 x2 x3 D A (zX μ, zC μ, zS μ) H.size K μ) q985 q886 qs12 q116 q887 (by decide +kernel) rfl h.1 hst4 hR rfl hdg) k
set_option maxHeartbeats 4000000 in
theorem k_X1_error (l : Launch) (h0 : Nat) (x1 : Int32) (x2 : Int32) (x3 : Int32) : ZCl l yX1_error (ws_ yX1_error cX1_error 4 (some .long)) 5 117 0 0 false [zv h0, .int x1, .int x2, .int x3] (f_X1_error h0 x1 x2 x3) := by
  refine Z.metL (by decide +kernel) (fun h => ⟨rfl, rfl⟩) (L0 := [(0, zv h0), (1, .int x1), (2, .int x2), (3, .int x3)]) (by first | (rw [zla_v, zla_i, zla_i, zla_i, zla_0]; done) | (rw [zla_v, zla_i, zla_i, zla_i, zla_0]; rfl)) (by rw [zsl_v, zsl_i, zsl_i, zsl_i, zsl_0]; exact Nat.le_of_ble_eq_true rfl) ?_
  intro p e R s m args below meth c D A n0 sz k F
  have F : ZF p R s m args meth c cX1_error 4 "SafeBuckets" "error" (some .long) D A false sz 0 0 5 117 := F
  unfold f_X1_error
  refine Z.aload_n F 0 rfl dX1_error_0 ?_
  refine Z.iload_n F 1 rfl dX1_error_1 ?_
  refine Z.iload_n F 2 rfl dX1_error_2 ?_
  refine Z.iload_n F 3 rfl dX1_error_3 ?_
  refine clX1_269 F ⟨Nat.le_of_ble_eq_true rfl, Nat.le_of_ble_eq_true rfl⟩ (zlw4 (Nat.le_of_ble_eq_true rfl)) dX1_error_4 (fun r4 => ?_)
  refine Z.if_ne F (tgt := 14) dX1_error_7 (by decide) ?_ ?_
  · refine Z.aload_n F 0 rfl dX1_error_14 ?_
    refine Z.aload_n F 0 rfl dX1_error_15 ?_
    refine Z.iload_n F 1 rfl dX1_error_16 ?_
    refine clX1_218 F ⟨Nat.le_of_ble_eq_true rfl, Nat.le_of_ble_eq_true rfl⟩ (zlw4 (Nat.le_of_ble_eq_true rfl)) dX1_error_17 (fun r17 => ?_)
    refine Z.iload_n F 2 rfl dX1_error_20 ?_
    refine Z.iload_n F 3 rfl dX1_error_21 ?_
    refine clX1_274 F ⟨Nat.le_of_ble_eq_true rfl, Nat.le_of_ble_eq_true rfl⟩ (zlw4 (Nat.le_of_ble_eq_true rfl)) dX1_error_22 ?_
    refine Z.aload_n F 0 rfl dX1_error_25 ?_
    refine gfX1_46 F dX1_error_26 (fun g26 => ?_)
    refine Z.iload_n F 3 rfl dX1_error_29 ?_
    refine Z.aald F (t := 4) (by decide) rfl rfl dX1_error_30 (fun g30 => ?_)
    refine Z.iconst F (v := (0 : Int32)) (by decide) dX1_error_31 ?_
    refine Z.lald F dX1_error_32 (fun g32 => ?_)
    exact Z.lret F dX1_error_33
  refine Z.ldc2 F q984 dX1_error_10 ?_
  exact Z.lret F dX1_error_13
set_option maxHeartbeats 4000000 in
theorem k_X1_border (l : Launch) (h0 : Nat) (x1 : Int32) (x2 : Int32) (x3 : Int32) (x4 : Int32) : ZCi l yX1_border (ws_ yX1_border cX1_border 7 (some .int)) 5 117 0 0 false [zv h0, .int x1, .int x2, .int x3, .int x4] (f_X1_border h0 x1 x2 x3 x4) := by
  refine Z.metI (by decide +kernel) (fun h => ⟨rfl, rfl⟩) (L0 := [(0, zv h0), (1, .int x1), (2, .int x2), (3, .int x3), (4, .int x4)]) (by first | (rw [zla_v, zla_i, zla_i, zla_i, zla_i, zla_0]; done) | (rw [zla_v, zla_i, zla_i, zla_i, zla_i, zla_0]; rfl)) (by rw [zsl_v, zsl_i, zsl_i, zsl_i, zsl_i, zsl_0]; exact Nat.le_of_ble_eq_true rfl) ?_
  intro p e R s m args below meth c D A n0 sz k F
  have F : ZF p R s m args meth c cX1_border 7 "SafeBuckets" "border" (some .int) D A false sz 0 0 5 117 := F
  unfold f_X1_border
  refine Z.aload_n F 0 rfl dX1_border_0 ?_
  refine Z.iload_n F 1 rfl dX1_border_1 ?_
  refine Z.iload_n F 2 rfl dX1_border_2 ?_
  refine Z.iload_n F 3 rfl dX1_border_3 ?_
  refine clX1_269 F ⟨Nat.le_of_ble_eq_true rfl, Nat.le_of_ble_eq_true rfl⟩ (zlw4 (Nat.le_of_ble_eq_true rfl)) dX1_border_4 (fun r4 => ?_)
  refine Z.jn0 (J := _) ([]) ([]) 24 (?_) (fun j24 hj24 => ?_)
  · refine Z.iconst F (v := (-1 : Int32)) (by decide) dX1_border_24 ?_
    exact Z.iret F dX1_border_25
  refine Z.if_eq F (tgt := 24) dX1_border_7 (by decide) ?_ ?_
  · exact Z.sub [] rfl (hj24)
  refine Z.iload F 4 rfl dX1_border_10 ?_
  refine Z.i2l F dX1_border_12 ?_
  refine Z.lconst F (w := (0 : Int64)) (by decide) dX1_border_13 ?_
  refine Z.iload_n F 3 rfl dX1_border_14 ?_
  refine Z.iconst F (v := (1 : Int32)) (by decide) dX1_border_15 ?_
  refine Z.isub F dX1_border_16 ?_
  refine Z.i2l F dX1_border_17 ?_
  refine clX1_97 F ⟨Nat.le_of_ble_eq_true rfl, Nat.le_of_ble_eq_true rfl⟩ (zlw4 (Nat.le_of_ble_eq_true rfl)) dX1_border_18 (fun r18 => ?_)
  refine Z.if_ne F (tgt := 26) dX1_border_21 (by decide) ?_ ?_
  · refine Z.aload_n F 0 rfl dX1_border_26 ?_
    refine Z.aload_n F 0 rfl dX1_border_27 ?_
    refine Z.iload_n F 1 rfl dX1_border_28 ?_
    refine clX1_218 F ⟨Nat.le_of_ble_eq_true rfl, Nat.le_of_ble_eq_true rfl⟩ (zlw4 (Nat.le_of_ble_eq_true rfl)) dX1_border_29 (fun r29 => ?_)
    refine Z.iload_n F 2 rfl dX1_border_32 ?_
    refine Z.iload_n F 3 rfl dX1_border_33 ?_
    refine clX1_274 F ⟨Nat.le_of_ble_eq_true rfl, Nat.le_of_ble_eq_true rfl⟩ (zlw4 (Nat.le_of_ble_eq_true rfl)) dX1_border_34 ?_
    refine Z.iconst F (v := (0 : Int32)) (by decide) dX1_border_37 ?_
    refine Z.istore F (L0 := [(0, zv h0), (1, .int x1), (2, .int x2), (3, .int x3), (4, .int x4)]) [0, 1, 2, 3, 4] rfl (zkR rfl (zkI rfl (zkI rfl (zkI rfl (zkI rfl zkN))))) (by decide) dX1_border_38 ?_
    refine Z.iconst F (v := (0 : Int32)) (by decide) dX1_border_40 ?_
    refine Z.istore F (L0 := [(5, .int (0 : Int32)), (0, zv h0), (1, .int x1), (2, .int x2), (3, .int x3), (4, .int x4)]) [0, 1, 2, 3, 4, 5] rfl (zkI rfl (zkR rfl (zkI rfl (zkI rfl (zkI rfl (zkI rfl zkN)))))) (by decide) dX1_border_41 ?_
    refine Z.sub [2, 5, 6, 1, 0] rfl ?_
    refine Z.w2 (Lf := fun p43l5 p43l6 => [(0, zv h0), (3, .int x3), (4, .int x4), (5, .int p43l5), (6, .int p43l6)]) (sf := fun p43l5 p43l6 => []) (fun r43 hr43 p43l5 p43l6 => ?_) (0 : Int32) (0 : Int32)
    refine Z.iload F 4 rfl dX1_border_43 ?_
    refine Z.iload F 2 rfl dX1_border_45 ?_
    refine Z.icmp_ge F (tgt := 70) dX1_border_47 (by decide) ?_ ?_
    · refine Z.iload F 3 rfl dX1_border_70 ?_
      exact Z.iret F dX1_border_72
    refine Z.aload_n F 0 rfl dX1_border_50 ?_
    refine gfX1_51 F dX1_border_51 (fun g51 => ?_)
    refine Z.iload_n F 1 rfl dX1_border_54 ?_
    refine Z.iload F 4 rfl dX1_border_55 ?_
    refine Z.isub F dX1_border_57 ?_
    refine Z.aald F (t := 5) (by decide) rfl rfl dX1_border_58 (fun g58 => ?_)
    refine Z.iload F 3 rfl dX1_border_59 ?_
    refine Z.iald F dX1_border_61 (fun g61 => ?_)
    refine Z.istore F (L0 := [(0, zv h0), (3, .int x3), (4, .int x4), (6, .int p43l6)]) [0, 1, 2, 4] rfl (zkR rfl (zkI rfl (zkI rfl (zkI rfl zkN)))) (by decide) dX1_border_62 ?_
    refine Z.iinc F (L0 := [(5, .int g61), (0, zv h0), (3, .int x3), (4, .int x4)]) (k0 := 4) (v := (1 : Int32)) rfl (by decide) [0, 1, 2, 3] rfl (zkI rfl (zkR rfl (zkI rfl (zkI rfl zkN)))) (by decide) dX1_border_64 ?_
    refine Z.goto F (tgt := 43) dX1_border_67 (by decide) ?_
    exact Z.sub [2, 3, 4, 1, 0] rfl (hr43 g61 (p43l6 + (1 : Int32)))
  exact Z.sub [] rfl (hj24)
set_option maxHeartbeats 4000000 in
theorem k_X1_tried (l : Launch) (h0 : Nat) (x1 : Int32) (x2 : Int32) (x3 : Int32) (x4 : Int32) : ZCi l yX1_tried (ws_ yX1_tried cX1_tried 5 (some .int)) 5 117 0 0 false [zv h0, .int x1, .int x2, .int x3, .int x4] (f_X1_tried h0 x1 x2 x3 x4) := by
  refine Z.metI (by decide +kernel) (fun h => ⟨rfl, rfl⟩) (L0 := [(0, zv h0), (1, .int x1), (2, .int x2), (3, .int x3), (4, .int x4)]) (by first | (rw [zla_v, zla_i, zla_i, zla_i, zla_i, zla_0]; done) | (rw [zla_v, zla_i, zla_i, zla_i, zla_i, zla_0]; rfl)) (by rw [zsl_v, zsl_i, zsl_i, zsl_i, zsl_i, zsl_0]; exact Nat.le_of_ble_eq_true rfl) ?_
  intro p e R s m args below meth c D A n0 sz k F
  have F : ZF p R s m args meth c cX1_tried 5 "SafeBuckets" "tried" (some .int) D A false sz 0 0 5 117 := F
  unfold f_X1_tried
  refine Z.aload_n F 0 rfl dX1_tried_0 ?_
  refine Z.iload_n F 1 rfl dX1_tried_1 ?_
  refine Z.iload_n F 2 rfl dX1_tried_2 ?_
  refine Z.iload_n F 3 rfl dX1_tried_3 ?_
  refine clX1_269 F ⟨Nat.le_of_ble_eq_true rfl, Nat.le_of_ble_eq_true rfl⟩ (zlw4 (Nat.le_of_ble_eq_true rfl)) dX1_tried_4 (fun r4 => ?_)
  refine Z.jn0 (J := _) ([]) ([]) 21 (?_) (fun j21 hj21 => ?_)
  · refine Z.iconst F (v := (-1 : Int32)) (by decide) dX1_tried_21 ?_
    exact Z.iret F dX1_tried_22
  refine Z.if_eq F (tgt := 21) dX1_tried_7 (by decide) ?_ ?_
  · exact Z.sub [] rfl (hj21)
  refine Z.iload F 4 rfl dX1_tried_10 ?_
  refine Z.i2l F dX1_tried_12 ?_
  refine Z.lconst F (w := (0 : Int64)) (by decide) dX1_tried_13 ?_
  refine Z.lconst F (w := (1 : Int64)) (by decide) dX1_tried_14 ?_
  refine clX1_97 F ⟨Nat.le_of_ble_eq_true rfl, Nat.le_of_ble_eq_true rfl⟩ (zlw4 (Nat.le_of_ble_eq_true rfl)) dX1_tried_15 (fun r15 => ?_)
  refine Z.if_ne F (tgt := 23) dX1_tried_18 (by decide) ?_ ?_
  · refine Z.aload_n F 0 rfl dX1_tried_23 ?_
    refine Z.aload_n F 0 rfl dX1_tried_24 ?_
    refine Z.iload_n F 1 rfl dX1_tried_25 ?_
    refine clX1_218 F ⟨Nat.le_of_ble_eq_true rfl, Nat.le_of_ble_eq_true rfl⟩ (zlw4 (Nat.le_of_ble_eq_true rfl)) dX1_tried_26 (fun r26 => ?_)
    refine Z.iload_n F 2 rfl dX1_tried_29 ?_
    refine Z.iload_n F 3 rfl dX1_tried_30 ?_
    refine clX1_274 F ⟨Nat.le_of_ble_eq_true rfl, Nat.le_of_ble_eq_true rfl⟩ (zlw4 (Nat.le_of_ble_eq_true rfl)) dX1_tried_31 ?_
    refine Z.iload F 4 rfl dX1_tried_34 ?_
    refine Z.jn1 (J := _) (fun p50s0 => []) (fun p50s0 => [.int p50s0]) 50 (fun p50s0 => ?_) (fun j50 hj50 => ?_)
    · exact Z.iret F dX1_tried_50
    refine Z.if_ne F (tgt := 46) dX1_tried_36 (by decide) ?_ ?_
    · refine Z.aload_n F 0 rfl dX1_tried_46 ?_
      refine gfX1_179 F dX1_tried_47 (fun g47 => ?_)
      exact Z.sub [] rfl (hj50 g47)
    refine Z.aload_n F 0 rfl dX1_tried_39 ?_
    refine gfX1_176 F dX1_tried_40 (fun g40 => ?_)
    refine Z.goto F (tgt := 50) dX1_tried_43 (by decide) ?_
    exact Z.sub [] rfl (hj50 g40)
  exact Z.sub [] rfl (hj21)
set_option maxHeartbeats 4000000 in
theorem k_X1_fewest (l : Launch) (h0 : Nat) (x1 : Int32) (x2 : Int32) (x3 : Int64) : ZCi l yX1_fewest (ws_ yX1_fewest cX1_fewest 7 (some .int)) 5 117 0 0 false [zv h0, .int x1, .int x2, .long x3] (f_X1_fewest h0 x1 x2 x3) := by
  refine Z.metI (by decide +kernel) (fun h => ⟨rfl, rfl⟩) (L0 := [(0, zv h0), (1, .int x1), (2, .int x2), (3, .long x3)]) (by first | (rw [zla_v, zla_i, zla_i, zla_l, zla_0]; done) | (rw [zla_v, zla_i, zla_i, zla_l, zla_0]; rfl)) (by rw [zsl_v, zsl_i, zsl_i, zsl_l, zsl_0]; exact Nat.le_of_ble_eq_true rfl) ?_
  intro p e R s m args below meth c D A n0 sz k F
  have F : ZF p R s m args meth c cX1_fewest 7 "SafeBuckets" "fewest" (some .int) D A false sz 0 0 5 117 := F
  unfold f_X1_fewest
  refine Z.aload_n F 0 rfl dX1_fewest_0 ?_
  refine Z.iload_n F 1 rfl dX1_fewest_1 ?_
  refine Z.iload_n F 2 rfl dX1_fewest_2 ?_
  refine clX1_238 F ⟨Nat.le_of_ble_eq_true rfl, Nat.le_of_ble_eq_true rfl⟩ (zlw4 (Nat.le_of_ble_eq_true rfl)) dX1_fewest_3 (fun r3 => ?_)
  refine Z.jn0 (J := _) ([]) ([]) 15 (?_) (fun j15 hj15 => ?_)
  · refine Z.iconst F (v := (-1 : Int32)) (by decide) dX1_fewest_15 ?_
    exact Z.iret F dX1_fewest_16
  refine Z.if_eq F (tgt := 15) dX1_fewest_6 (by decide) ?_ ?_
  · exact Z.sub [] rfl (hj15)
  refine Z.lload_n F 3 rfl dX1_fewest_9 ?_
  refine Z.lconst F (w := (0 : Int64)) (by decide) dX1_fewest_10 ?_
  refine Z.lcmp F dX1_fewest_11 ?_
  refine Z.if_ge F (tgt := 17) dX1_fewest_12 (by decide) ?_ ?_
  · refine Z.aload_n F 0 rfl dX1_fewest_17 ?_
    refine Z.iload_n F 1 rfl dX1_fewest_18 ?_
    refine clX1_218 F ⟨Nat.le_of_ble_eq_true rfl, Nat.le_of_ble_eq_true rfl⟩ (zlw4 (Nat.le_of_ble_eq_true rfl)) dX1_fewest_19 (fun r19 => ?_)
    refine gfX1_164 F dX1_fewest_22 (fun g22 => ?_)
    refine Z.istore F (L0 := [(0, zv h0), (1, .int x1), (2, .int x2), (3, .long x3)]) [0, 1, 2, 3] rfl (zkR rfl (zkI rfl (zkI rfl (zkL rfl rfl zkN)))) (by decide) dX1_fewest_25 ?_
    refine Z.aload_n F 1 rfl dX1_fewest_27 ?_
    refine Z.aload_n F 1 rfl dX1_fewest_28 ?_
    refine Z.iload_n F 2 rfl dX1_fewest_29 ?_
    refine clX1_218 F ⟨Nat.le_of_ble_eq_true rfl, Nat.le_of_ble_eq_true rfl⟩ (zlw4 (Nat.le_of_ble_eq_true rfl)) dX1_fewest_30 (fun r30 => ?_)
    refine Z.iload_n F 3 rfl dX1_fewest_33 ?_
    refine Z.iload F 0 rfl dX1_fewest_34 ?_
    refine clX1_274 F ⟨Nat.le_of_ble_eq_true rfl, Nat.le_of_ble_eq_true rfl⟩ (zlw4 (Nat.le_of_ble_eq_true rfl)) dX1_fewest_36 ?_
    refine Z.iconst F (v := (1 : Int32)) (by decide) dX1_fewest_39 ?_
    refine Z.istore F (L0 := [(5, .int g22), (0, zv h0), (1, .int x1), (2, .int x2), (3, .long x3)]) [0, 1, 2, 3, 4] rfl (zkI rfl (zkR rfl (zkI rfl (zkI rfl (zkL rfl rfl zkN))))) (by decide) dX1_fewest_40 ?_
    refine Z.jn1 (J := _) (fun p69l6 => [(6, .int p69l6)]) (fun p69l6 => []) 69 (fun p69l6 => ?_) (fun j69 hj69 => ?_)
    · refine Z.iload F 0 rfl dX1_fewest_69 ?_
      exact Z.iret F dX1_fewest_71
    refine Z.sub [2, 5, 1, 0] rfl ?_
    refine Z.w1 (Lf := fun p42l6 => [(0, zv h0), (3, .long x3), (5, .int g22), (6, .int p42l6)]) (sf := fun p42l6 => []) (fun r42 hr42 p42l6 => ?_) (1 : Int32)
    refine Z.iload F 3 rfl dX1_fewest_42 ?_
    refine Z.iload F 2 rfl dX1_fewest_44 ?_
    refine Z.icmp_ge F (tgt := 69) dX1_fewest_46 (by decide) ?_ ?_
    · exact Z.sub [3] rfl (hj69 p42l6)
    refine Z.aload_n F 0 rfl dX1_fewest_49 ?_
    refine gfX1_46 F dX1_fewest_50 (fun g50 => ?_)
    refine Z.iload F 3 rfl dX1_fewest_53 ?_
    refine Z.aald F (t := 4) (by decide) rfl rfl dX1_fewest_55 (fun g55 => ?_)
    refine Z.iconst F (v := (0 : Int32)) (by decide) dX1_fewest_56 ?_
    refine Z.lald F dX1_fewest_57 (fun g57 => ?_)
    refine Z.lload_n F 1 rfl dX1_fewest_58 ?_
    refine Z.lcmp F dX1_fewest_59 ?_
    refine Z.if_le F (tgt := 69) dX1_fewest_60 (by decide) ?_ ?_
    · exact Z.sub [3] rfl (hj69 p42l6)
    refine Z.iinc F (L0 := [(0, zv h0), (3, .long x3), (5, .int g22)]) (k0 := 3) (v := (1 : Int32)) rfl (by decide) [0, 1, 2] rfl (zkR rfl (zkL rfl rfl (zkI rfl zkN))) (by decide) dX1_fewest_63 ?_
    refine Z.goto F (tgt := 42) dX1_fewest_66 (by decide) ?_
    exact Z.sub [1, 2, 3, 0] rfl (hr42 (p42l6 + (1 : Int32)))
  exact Z.sub [] rfl (hj15)
theorem gfX1_222 (F : ZF p R s m args meth c cc nL "SafeBuckets" nm ret D A al sz mc ms fr lo) {z : Nat} {K : Int32 → ZM → Prop} (hdg : decode cc pc = .ok (.getfield 222, 3)) (k : ∀ u, ZW p l e R s m args below meth c Q nL D A al n0 (K u) (pc + 3) L (.int u :: st)) : ZW p l e R s m args below meth c Q nL D A al n0 (zgI 3 z 2 K) pc L (zv z :: st) :=
  Z.getIN F (ref := "SafeBuckets$Sheet") in_X3 (ci := 2) rfl (by decide) (kf := 2) (by decide) (host := "SafeBuckets") (List.mem_of_getElem? (i := 10) rfl) (fun _ h => h) rfl hdg k
set_option maxHeartbeats 4000000 in
theorem k_X1_stops (l : Launch) (h0 : Nat) (x1 : Int32) (x2 : Int32) (x3 : Int32) (x4 : Int32) (x5 : Int32) : ZCi l yX1_stops (ws_ yX1_stops cX1_stops 7 (some .int)) 3 69 0 0 false [zv h0, .int x1, .int x2, .int x3, .int x4, .int x5] (f_X1_stops h0 x1 x2 x3 x4 x5) := by
  refine Z.metI (by decide +kernel) (fun h => ⟨rfl, rfl⟩) (L0 := [(0, zv h0), (1, .int x1), (2, .int x2), (3, .int x3), (4, .int x4), (5, .int x5)]) (by first | (rw [zla_v, zla_i, zla_i, zla_i, zla_i, zla_i, zla_0]; done) | (rw [zla_v, zla_i, zla_i, zla_i, zla_i, zla_i, zla_0]; rfl)) (by rw [zsl_v, zsl_i, zsl_i, zsl_i, zsl_i, zsl_i, zsl_0]; exact Nat.le_of_ble_eq_true rfl) ?_
  intro p e R s m args below meth c D A n0 sz k F
  have F : ZF p R s m args meth c cX1_stops 7 "SafeBuckets" "stops" (some .int) D A false sz 0 0 3 69 := F
  unfold f_X1_stops
  refine Z.aload_n F 0 rfl dX1_stops_0 ?_
  refine Z.iload_n F 1 rfl dX1_stops_1 ?_
  refine Z.iload_n F 2 rfl dX1_stops_2 ?_
  refine Z.iload_n F 3 rfl dX1_stops_3 ?_
  refine clX1_231 F ⟨Nat.le_of_ble_eq_true rfl, Nat.le_of_ble_eq_true rfl⟩ (zlw4 (Nat.le_of_ble_eq_true rfl)) dX1_stops_4 (fun r4 => ?_)
  refine Z.if_ne F (tgt := 12) dX1_stops_7 (by decide) ?_ ?_
  · refine Z.iload F 4 rfl dX1_stops_12 ?_
    refine Z.i2l F dX1_stops_14 ?_
    refine Z.lconst F (w := (1 : Int64)) (by decide) dX1_stops_15 ?_
    refine Z.ldc2 F q1006 dX1_stops_16 ?_
    refine clX1_97 F ⟨Nat.le_of_ble_eq_true rfl, Nat.le_of_ble_eq_true rfl⟩ (zlw4 (Nat.le_of_ble_eq_true rfl)) dX1_stops_19 (fun r19 => ?_)
    refine Z.if_ne F (tgt := 27) dX1_stops_22 (by decide) ?_ ?_
    · refine Z.aload_n F 0 rfl dX1_stops_27 ?_
      refine Z.iload_n F 1 rfl dX1_stops_28 ?_
      refine clX1_218 F ⟨Nat.le_of_ble_eq_true rfl, Nat.le_of_ble_eq_true rfl⟩ (zlw4 (Nat.le_of_ble_eq_true rfl)) dX1_stops_29 (fun r29 => ?_)
      refine Z.astore F (L0 := [(0, zv h0), (1, .int x1), (2, .int x2), (3, .int x3), (4, .int x4), (5, .int x5)]) [0, 1, 2, 3, 4, 5] rfl (zkR rfl (zkI rfl (zkI rfl (zkI rfl (zkI rfl (zkI rfl zkN)))))) (by decide) dX1_stops_32 ?_
      refine Z.iload F 6 rfl dX1_stops_34 ?_
      refine Z.jn1 (J := _) (fun p78s0 => []) (fun p78s0 => [.int p78s0]) 78 (fun p78s0 => ?_) (fun j78 hj78 => ?_)
      · exact Z.iret F dX1_stops_78
      refine Z.if_eq F (tgt := 61) dX1_stops_36 (by decide) ?_ ?_
      · refine Z.aload F 0 rfl dX1_stops_61 ?_
        refine Z.iload_n F 3 rfl dX1_stops_63 ?_
        refine Z.iload_n F 4 rfl dX1_stops_64 ?_
        refine clX1_235 F ⟨Nat.le_of_ble_eq_true rfl, Nat.le_of_ble_eq_true rfl⟩ (zlw4 (Nat.le_of_ble_eq_true rfl)) dX1_stops_65 (fun r65 => ?_)
        refine Z.iload F 5 rfl dX1_stops_68 ?_
        refine Z.icmp_ge F (tgt := 77) dX1_stops_70 (by decide) ?_ ?_
        · refine Z.iconst F (v := (-1 : Int32)) (by decide) dX1_stops_77 ?_
          exact Z.sub [] rfl (hj78 (-1 : Int32))
        refine Z.iconst F (v := (3 : Int32)) (by decide) dX1_stops_73 ?_
        refine Z.goto F (tgt := 78) dX1_stops_74 (by decide) ?_
        exact Z.sub [] rfl (hj78 (3 : Int32))
      refine Z.aload F 0 rfl dX1_stops_39 ?_
      refine gfX1_222 F dX1_stops_41 (fun g41 => ?_)
      refine Z.iload F 5 rfl dX1_stops_44 ?_
      refine Z.iadd F dX1_stops_46 ?_
      refine Z.sipush F (v := (999 : Int32)) (by decide) dX1_stops_47 ?_
      refine Z.icmp_le F (tgt := 57) dX1_stops_50 (by decide) ?_ ?_
      · refine Z.iconst F (v := (-1 : Int32)) (by decide) dX1_stops_57 ?_
        refine Z.goto F (tgt := 78) dX1_stops_58 (by decide) ?_
        exact Z.sub [] rfl (hj78 (-1 : Int32))
      refine Z.iconst F (v := (3 : Int32)) (by decide) dX1_stops_53 ?_
      refine Z.goto F (tgt := 78) dX1_stops_54 (by decide) ?_
      exact Z.sub [] rfl (hj78 (3 : Int32))
    refine Z.iconst F (v := (1 : Int32)) (by decide) dX1_stops_25 ?_
    exact Z.iret F dX1_stops_26
  refine Z.iconst F (v := (0 : Int32)) (by decide) dX1_stops_10 ?_
  exact Z.iret F dX1_stops_11
theorem gfX1_31 (F : ZF p R s m args meth c cc nL "SafeBuckets" nm ret D A al sz mc ms fr lo) {z : Nat} {K : Nat → ZM → Prop} (hdg : decode cc pc = .ok (.getfield 31, 3)) (k : ∀ u, ZW p l e R s m args below meth c Q nL D A al n0 (K u) (pc + 3) L (zv u :: st)) : ZW p l e R s m args below meth c Q nL D A al n0 (zgR 1 z 3 K) pc L (zv z :: st) :=
  Z.getR F (ref := "SafeBuckets") in_X1 (ci := 0) rfl (by decide) (kf := 3) (by decide) q387 (fun _ h => h) rfl hdg k
set_option maxHeartbeats 4000000 in
theorem k_X1_refuse (l : Launch) (h0 : Nat) (x1 : Int32) : ZCi l yX1_refuse (ws_ yX1_refuse cX1_refuse 2 (some .int)) 0 0 0 0 false [zv h0, .int x1] (f_X1_refuse h0 x1) := by
  refine Z.metI (by decide +kernel) (fun h => ⟨rfl, rfl⟩) (L0 := [(0, zv h0), (1, .int x1)]) (by first | (rw [zla_v, zla_i, zla_0]; done) | (rw [zla_v, zla_i, zla_0]; rfl)) (by rw [zsl_v, zsl_i, zsl_0]; exact Nat.le_of_ble_eq_true rfl) ?_
  intro p e R s m args below meth c D A n0 sz k F
  have F : ZF p R s m args meth c cX1_refuse 2 "SafeBuckets" "refuse" (some .int) D A false sz 0 0 0 0 := F
  unfold f_X1_refuse
  refine Z.aload_n F 0 rfl dX1_refuse_0 ?_
  refine gfX1_31 F dX1_refuse_1 (fun g1 => ?_)
  refine Z.iload_n F 1 rfl dX1_refuse_4 ?_
  refine Z.dup2 F dX1_refuse_5 ?_
  refine Z.iald F dX1_refuse_6 (fun g6 => ?_)
  refine Z.iconst F (v := (1 : Int32)) (by decide) dX1_refuse_7 ?_
  refine Z.iadd F dX1_refuse_8 ?_
  refine Z.iast F dX1_refuse_9 ?_
  refine Z.iconst F (v := (-1 : Int32)) (by decide) dX1_refuse_10 ?_
  exact Z.iret F dX1_refuse_11
theorem pfX7_17 (F : ZF p R s m args meth c cc nL "SafeBuckets$Bucket" nm ret D A al sz mc ms fr lo) {z : Nat} {u : Int32} (hdg : decode cc pc = .ok (.putfield 17, 3)) (k : ZW p l e R s m args below meth c Q nL D A al n0 P (pc + 3) L st) : ZW p l e R s m args below meth c Q nL D A al n0 (zpI 5 z 0 u P) pc L (.int u :: zv z :: st) :=
  Z.putI F (ref := "SafeBuckets$Bucket") in_X7 (ci := 4) rfl (by decide) (kf := 0) (by decide) q231 (fun x h => u_same (F.hts _ q232) x h) tyX7 tyX7_ok nmX7 rfl rfl rfl hdg k
theorem pfX7_23 (F : ZF p R s m args meth c cc nL "SafeBuckets$Bucket" nm ret D A al sz mc ms fr lo) {z : Nat} {u : Int32} (hdg : decode cc pc = .ok (.putfield 23, 3)) (k : ZW p l e R s m args below meth c Q nL D A al n0 P (pc + 3) L st) : ZW p l e R s m args below meth c Q nL D A al n0 (zpI 5 z 1 u P) pc L (.int u :: zv z :: st) :=
  Z.putI F (ref := "SafeBuckets$Bucket") in_X7 (ci := 4) rfl (by decide) (kf := 1) (by decide) q239 (fun x h => u_same (F.hts _ q238) x h) tyX7 tyX7_ok nmX7 rfl rfl rfl hdg k
theorem pfX7_26 (F : ZF p R s m args meth c cc nL "SafeBuckets$Bucket" nm ret D A al sz mc ms fr lo) {z : Nat} {u : Int32} (hdg : decode cc pc = .ok (.putfield 26, 3)) (k : ZW p l e R s m args below meth c Q nL D A al n0 P (pc + 3) L st) : ZW p l e R s m args below meth c Q nL D A al n0 (zpI 5 z 2 u P) pc L (.int u :: zv z :: st) :=
  Z.putI F (ref := "SafeBuckets$Bucket") in_X7 (ci := 4) rfl (by decide) (kf := 2) (by decide) q219 (fun x h => u_same (F.hts _ q220) x h) tyX7 tyX7_ok nmX7 rfl rfl rfl hdg k
theorem pfX7_29 (F : ZF p R s m args meth c cc nL "SafeBuckets$Bucket" nm ret D A al sz mc ms fr lo) {z : Nat} {u : Int32} (hdg : decode cc pc = .ok (.putfield 29, 3)) (k : ZW p l e R s m args below meth c Q nL D A al n0 P (pc + 3) L st) : ZW p l e R s m args below meth c Q nL D A al n0 (zpI 5 z 3 u P) pc L (.int u :: zv z :: st) :=
  Z.putI F (ref := "SafeBuckets$Bucket") in_X7 (ci := 4) rfl (by decide) (kf := 3) (by decide) q225 (fun x h => u_same (F.hts _ q226) x h) tyX7 tyX7_ok nmX7 rfl rfl rfl hdg k
set_option maxHeartbeats 4000000 in
theorem k_X7_becomes (l : Launch) (h0 : Nat) (h1 : Nat) : ZCv l yX7_becomes (ws_ yX7_becomes cX7_becomes 2 none) 0 0 0 0 false [zv h0, zv h1] (f_X7_becomes h0 h1) := by
  refine Z.metV (by decide +kernel) (fun h => ⟨rfl, rfl⟩) (L0 := [(0, zv h0), (1, zv h1)]) (by first | (rw [zla_v, zla_v, zla_0]; done) | (rw [zla_v, zla_v, zla_0]; rfl)) (by rw [zsl_v, zsl_v, zsl_0]; exact Nat.le_of_ble_eq_true rfl) ?_
  intro p e R s m args below meth c D A n0 sz k F
  have F : ZF p R s m args meth c cX7_becomes 2 "SafeBuckets$Bucket" "becomes" none D A false sz 0 0 0 0 := F
  unfold f_X7_becomes
  refine Z.aload_n F 0 rfl dX7_becomes_0 ?_
  refine Z.aload_n F 1 rfl dX7_becomes_1 ?_
  refine gfX7_17 F dX7_becomes_2 (fun g2 => ?_)
  refine pfX7_17 F dX7_becomes_5 ?_
  refine Z.aload_n F 0 rfl dX7_becomes_8 ?_
  refine Z.aload_n F 1 rfl dX7_becomes_9 ?_
  refine gfX7_23 F dX7_becomes_10 (fun g10 => ?_)
  refine pfX7_23 F dX7_becomes_13 ?_
  refine Z.aload_n F 0 rfl dX7_becomes_16 ?_
  refine Z.aload_n F 1 rfl dX7_becomes_17 ?_
  refine gfX7_26 F dX7_becomes_18 (fun g18 => ?_)
  refine pfX7_26 F dX7_becomes_21 ?_
  refine Z.aload_n F 0 rfl dX7_becomes_24 ?_
  refine Z.aload_n F 1 rfl dX7_becomes_25 ?_
  refine gfX7_29 F dX7_becomes_26 (fun g26 => ?_)
  refine pfX7_29 F dX7_becomes_29 ?_
  exact Z.vret F dX7_becomes_32
theorem gfX4_22 (F : ZF p R s m args meth c cc nL "SafeBuckets$Column" nm ret D A al sz mc ms fr lo) {z : Nat} {K : Int32 → ZM → Prop} (hdg : decode cc pc = .ok (.getfield 22, 3)) (k : ∀ u, ZW p l e R s m args below meth c Q nL D A al n0 (K u) (pc + 3) L (.int u :: st)) : ZW p l e R s m args below meth c Q nL D A al n0 (zgI 4 z 1 K) pc L (zv z :: st) :=
  Z.getI F (ref := "SafeBuckets$Column") in_X4 (ci := 3) rfl (by decide) (kf := 1) (by decide) q259 (fun _ h => h) rfl hdg k
theorem pfX4_22 (F : ZF p R s m args meth c cc nL "SafeBuckets$Column" nm ret D A al sz mc ms fr lo) {z : Nat} {u : Int32} (hdg : decode cc pc = .ok (.putfield 22, 3)) (k : ZW p l e R s m args below meth c Q nL D A al n0 P (pc + 3) L st) : ZW p l e R s m args below meth c Q nL D A al n0 (zpI 4 z 1 u P) pc L (.int u :: zv z :: st) :=
  Z.putI F (ref := "SafeBuckets$Column") in_X4 (ci := 3) rfl (by decide) (kf := 1) (by decide) q259 (fun _ h => h) tyX4 tyX4_ok nmX4 rfl rfl rfl hdg k
theorem gfX4_25 (F : ZF p R s m args meth c cc nL "SafeBuckets$Column" nm ret D A al sz mc ms fr lo) {z : Nat} {K : Int32 → ZM → Prop} (hdg : decode cc pc = .ok (.getfield 25, 3)) (k : ∀ u, ZW p l e R s m args below meth c Q nL D A al n0 (K u) (pc + 3) L (.int u :: st)) : ZW p l e R s m args below meth c Q nL D A al n0 (zgI 4 z 2 K) pc L (zv z :: st) :=
  Z.getI F (ref := "SafeBuckets$Column") in_X4 (ci := 3) rfl (by decide) (kf := 2) (by decide) q263 (fun _ h => h) rfl hdg k
theorem pfX4_25 (F : ZF p R s m args meth c cc nL "SafeBuckets$Column" nm ret D A al sz mc ms fr lo) {z : Nat} {u : Int32} (hdg : decode cc pc = .ok (.putfield 25, 3)) (k : ZW p l e R s m args below meth c Q nL D A al n0 P (pc + 3) L st) : ZW p l e R s m args below meth c Q nL D A al n0 (zpI 4 z 2 u P) pc L (.int u :: zv z :: st) :=
  Z.putI F (ref := "SafeBuckets$Column") in_X4 (ci := 3) rfl (by decide) (kf := 2) (by decide) q263 (fun _ h => h) tyX4 tyX4_ok nmX4 rfl rfl rfl hdg k
theorem clX4_28 (F : ZF p R s m args meth c cc nL "SafeBuckets$Column" nm ret D A al sz mc ms fr lo) {h0 : Nat} {h1 : Nat} {K : ZM → Prop} (hR : 0 + 1 ≤ fr ∧ 8 + (2 + 11) + 0 ≤ lo) (hst4 : zlw st) (hdg : decode cc pc = .ok (.invokevirtual 28, 3)) (k : ZW p l e R s m args below meth c Q nL D A al n0 K (pc + 3) L st) : ZW p l e R s m args below meth c Q nL D A al n0 (zat 5 h0 (f_X7_becomes h0 h1 K)) pc L (zv h1 :: zv h0 :: st) :=
  Z.rv0 _ (fun μ H locs cells slots ls hI h hP => Z.V0 F hI (n := 1) (ci := 4) rfl (by decide) hP.1 hP.2 (k_X7_becomes l h0 h1 D A (zX μ, zC μ, zS μ) H.size K μ) q1034 q1035 q1036 q122 q1037 (by decide +kernel) rfl h.1 hst4 hR rfl hdg) k
set_option maxHeartbeats 4000000 in
theorem k_X4_becomes (l : Launch) (h0 : Nat) (h1 : Nat) : ZCv l yX4_becomes (ws_ yX4_becomes cX4_becomes 3 none) 1 21 0 0 false [zv h0, zv h1] (f_X4_becomes h0 h1) := by
  refine Z.metV (by decide +kernel) (fun h => ⟨rfl, rfl⟩) (L0 := [(0, zv h0), (1, zv h1)]) (by first | (rw [zla_v, zla_v, zla_0]; done) | (rw [zla_v, zla_v, zla_0]; rfl)) (by rw [zsl_v, zsl_v, zsl_0]; exact Nat.le_of_ble_eq_true rfl) ?_
  intro p e R s m args below meth c D A n0 sz k F
  have F : ZF p R s m args meth c cX4_becomes 3 "SafeBuckets$Column" "becomes" none D A false sz 0 0 1 21 := F
  unfold f_X4_becomes
  refine Z.aload_n F 0 rfl dX4_becomes_0 ?_
  refine Z.aload_n F 1 rfl dX4_becomes_1 ?_
  refine gfX4_22 F dX4_becomes_2 (fun g2 => ?_)
  refine pfX4_22 F dX4_becomes_5 ?_
  refine Z.aload_n F 0 rfl dX4_becomes_8 ?_
  refine Z.aload_n F 1 rfl dX4_becomes_9 ?_
  refine gfX4_25 F dX4_becomes_10 (fun g10 => ?_)
  refine pfX4_25 F dX4_becomes_13 ?_
  refine Z.iconst F (v := (0 : Int32)) (by decide) dX4_becomes_16 ?_
  refine Z.istore_n F (L0 := [(0, zv h0), (1, zv h1)]) [0, 1] rfl (zkR rfl (zkR rfl zkN)) (by decide) dX4_becomes_17 ?_
  refine Z.sub [1, 2, 0] rfl ?_
  refine Z.w1 (Lf := fun p18l2 => [(0, zv h0), (1, zv h1), (2, .int p18l2)]) (sf := fun p18l2 => []) (fun r18 hr18 p18l2 => ?_) (0 : Int32)
  refine Z.iload_n F 2 rfl dX4_becomes_18 ?_
  refine Z.aload_n F 1 rfl dX4_becomes_19 ?_
  refine gfX4_22 F dX4_becomes_20 (fun g20 => ?_)
  refine Z.icmp_ge F (tgt := 47) dX4_becomes_23 (by decide) ?_ ?_
  · exact Z.vret F dX4_becomes_47
  refine Z.aload_n F 0 rfl dX4_becomes_26 ?_
  refine gfX4_11 F dX4_becomes_27 (fun g27 => ?_)
  refine Z.iload_n F 2 rfl dX4_becomes_30 ?_
  refine Z.aald F (t := 8) (by decide) rfl rfl dX4_becomes_31 (fun g31 => ?_)
  refine Z.aload_n F 1 rfl dX4_becomes_32 ?_
  refine gfX4_11 F dX4_becomes_33 (fun g33 => ?_)
  refine Z.iload_n F 2 rfl dX4_becomes_36 ?_
  refine Z.aald F (t := 8) (by decide) rfl rfl dX4_becomes_37 (fun g37 => ?_)
  refine clX4_28 F ⟨Nat.le_of_ble_eq_true rfl, Nat.le_of_ble_eq_true rfl⟩ (zlw4 (Nat.le_of_ble_eq_true rfl)) dX4_becomes_38 ?_
  refine Z.iinc F (L0 := [(0, zv h0), (1, zv h1)]) (k0 := 2) (v := (1 : Int32)) rfl (by decide) [0, 1] rfl (zkR rfl (zkR rfl zkN)) (by decide) dX4_becomes_41 ?_
  refine Z.goto F (tgt := 18) dX4_becomes_44 (by decide) ?_
  exact Z.sub [1, 2, 0] rfl (hr18 (p18l2 + (1 : Int32)))
theorem clX3_39 (F : ZF p R s m args meth c cc nL "SafeBuckets$Sheet" nm ret D A al sz mc ms fr lo) {h0 : Nat} {h1 : Nat} {K : ZM → Prop} (hR : 1 + 1 ≤ fr ∧ 8 + (3 + 11) + 21 ≤ lo) (hst4 : zlw st) (hdg : decode cc pc = .ok (.invokevirtual 39, 3)) (k : ZW p l e R s m args below meth c Q nL D A al n0 K (pc + 3) L st) : ZW p l e R s m args below meth c Q nL D A al n0 (zat 4 h0 (f_X4_becomes h0 h1 K)) pc L (zv h1 :: zv h0 :: st) :=
  Z.rv0 _ (fun μ H locs cells slots ls hI h hP => Z.V0 F hI (n := 1) (ci := 3) rfl (by decide) hP.1 hP.2 (k_X4_becomes l h0 h1 D A (zX μ, zC μ, zS μ) H.size K μ) q1030 q1031 q1032 q119 q1033 (by decide +kernel) rfl h.1 hst4 hR rfl hdg) k
set_option maxHeartbeats 4000000 in
theorem k_X3_becomes (l : Launch) (h0 : Nat) (h1 : Nat) : ZCv l yX3_becomes (ws_ yX3_becomes cX3_becomes 3 none) 2 60 0 0 false [zv h0, zv h1] (f_X3_becomes h0 h1) := by
  refine Z.metV (by decide +kernel) (fun h => ⟨rfl, rfl⟩) (L0 := [(0, zv h0), (1, zv h1)]) (by first | (rw [zla_v, zla_v, zla_0]; done) | (rw [zla_v, zla_v, zla_0]; rfl)) (by rw [zsl_v, zsl_v, zsl_0]; exact Nat.le_of_ble_eq_true rfl) ?_
  intro p e R s m args below meth c D A n0 sz k F
  have F : ZF p R s m args meth c cX3_becomes 3 "SafeBuckets$Sheet" "becomes" none D A false sz 0 0 2 60 := F
  unfold f_X3_becomes
  refine Z.aload_n F 1 rfl dX3_becomes_0 ?_
  refine gfX3_15 F dX3_becomes_1 (fun g1 => ?_)
  refine Z.iconst F (v := (0 : Int32)) (by decide) dX3_becomes_4 ?_
  refine Z.aload_n F 0 rfl dX3_becomes_5 ?_
  refine gfX3_15 F dX3_becomes_6 (fun g6 => ?_)
  refine Z.iconst F (v := (0 : Int32)) (by decide) dX3_becomes_9 ?_
  refine Z.sipush F (v := (289 : Int32)) (by decide) dX3_becomes_10 ?_
  refine Z.cpy F q1027 (Nat.le_of_ble_eq_true rfl) (by decide) (zlw4 (Nat.le_of_ble_eq_true rfl)) dX3_becomes_13 ?_
  refine Z.aload_n F 0 rfl dX3_becomes_16 ?_
  refine Z.aload_n F 1 rfl dX3_becomes_17 ?_
  refine gfX3_26 F dX3_becomes_18 (fun g18 => ?_)
  refine pfX3_26 F dX3_becomes_21 ?_
  refine Z.aload_n F 0 rfl dX3_becomes_24 ?_
  refine Z.aload_n F 1 rfl dX3_becomes_25 ?_
  refine gfX3_30 F dX3_becomes_26 (fun g26 => ?_)
  refine pfX3_30 F dX3_becomes_29 ?_
  refine Z.iconst F (v := (0 : Int32)) (by decide) dX3_becomes_32 ?_
  refine Z.istore_n F (L0 := [(0, zv h0), (1, zv h1)]) [0, 1] rfl (zkR rfl (zkR rfl zkN)) (by decide) dX3_becomes_33 ?_
  refine Z.sub [1, 2, 0] rfl ?_
  refine Z.w1 (Lf := fun p34l2 => [(0, zv h0), (1, zv h1), (2, .int p34l2)]) (sf := fun p34l2 => []) (fun r34 hr34 p34l2 => ?_) (0 : Int32)
  refine Z.iload_n F 2 rfl dX3_becomes_34 ?_
  refine Z.iconst F (v := (2 : Int32)) (by decide) dX3_becomes_35 ?_
  refine Z.icmp_ge F (tgt := 60) dX3_becomes_36 (by decide) ?_ ?_
  · exact Z.vret F dX3_becomes_60
  refine Z.aload_n F 0 rfl dX3_becomes_39 ?_
  refine gfX3_22 F dX3_becomes_40 (fun g40 => ?_)
  refine Z.iload_n F 2 rfl dX3_becomes_43 ?_
  refine Z.aald F (t := 7) (by decide) rfl rfl dX3_becomes_44 (fun g44 => ?_)
  refine Z.aload_n F 1 rfl dX3_becomes_45 ?_
  refine gfX3_22 F dX3_becomes_46 (fun g46 => ?_)
  refine Z.iload_n F 2 rfl dX3_becomes_49 ?_
  refine Z.aald F (t := 7) (by decide) rfl rfl dX3_becomes_50 (fun g50 => ?_)
  refine clX3_39 F ⟨Nat.le_of_ble_eq_true rfl, Nat.le_of_ble_eq_true rfl⟩ (zlw4 (Nat.le_of_ble_eq_true rfl)) dX3_becomes_51 ?_
  refine Z.iinc F (L0 := [(0, zv h0), (1, zv h1)]) (k0 := 2) (v := (1 : Int32)) rfl (by decide) [0, 1] rfl (zkR rfl (zkR rfl zkN)) (by decide) dX3_becomes_54 ?_
  refine Z.goto F (tgt := 34) dX3_becomes_57 (by decide) ?_
  exact Z.sub [1, 2, 0] rfl (hr34 (p34l2 + (1 : Int32)))
theorem gfX2_24 (F : ZF p R s m args meth c cc nL "SafeBuckets$State" nm ret D A al sz mc ms fr lo) {z : Nat} {K : Nat → ZM → Prop} (hdg : decode cc pc = .ok (.getfield 24, 3)) (k : ∀ u, ZW p l e R s m args below meth c Q nL D A al n0 (K u) (pc + 3) L (zv u :: st)) : ZW p l e R s m args below meth c Q nL D A al n0 (zgR 2 z 1 K) pc L (zv z :: st) :=
  Z.getR F (ref := "SafeBuckets$State") in_X2 (ci := 1) rfl (by decide) (kf := 1) (by decide) q300 (fun _ h => h) rfl hdg k
theorem gfX2_75 (F : ZF p R s m args meth c cc nL "SafeBuckets$State" nm ret D A al sz mc ms fr lo) {z : Nat} {K : Int32 → ZM → Prop} (hdg : decode cc pc = .ok (.getfield 75, 3)) (k : ∀ u, ZW p l e R s m args below meth c Q nL D A al n0 (K u) (pc + 3) L (.int u :: st)) : ZW p l e R s m args below meth c Q nL D A al n0 (zgI 2 z 3 K) pc L (zv z :: st) :=
  Z.getI F (ref := "SafeBuckets$State") in_X2 (ci := 1) rfl (by decide) (kf := 3) (by decide) q304 (fun _ h => h) rfl hdg k
theorem gfX2_72 (F : ZF p R s m args meth c cc nL "SafeBuckets$State" nm ret D A al sz mc ms fr lo) {z : Nat} {K : Int32 → ZM → Prop} (hdg : decode cc pc = .ok (.getfield 72, 3)) (k : ∀ u, ZW p l e R s m args below meth c Q nL D A al n0 (K u) (pc + 3) L (.int u :: st)) : ZW p l e R s m args below meth c Q nL D A al n0 (zgI 2 z 2 K) pc L (zv z :: st) :=
  Z.getI F (ref := "SafeBuckets$State") in_X2 (ci := 1) rfl (by decide) (kf := 2) (by decide) q302 (fun _ h => h) rfl hdg k
theorem clX2_78 (F : ZF p R s m args meth c cc nL "SafeBuckets$State" nm ret D A al sz mc ms fr lo) {h0 : Nat} {h1 : Nat} {K : ZM → Prop} (hR : 2 + 1 ≤ fr ∧ 8 + (3 + 11) + 60 ≤ lo) (hst4 : zlw st) (hdg : decode cc pc = .ok (.invokevirtual 78, 3)) (k : ZW p l e R s m args below meth c Q nL D A al n0 K (pc + 3) L st) : ZW p l e R s m args below meth c Q nL D A al n0 (zat 3 h0 (f_X3_becomes h0 h1 K)) pc L (zv h1 :: zv h0 :: st) :=
  Z.rv0 _ (fun μ H locs cells slots ls hI h hP => Z.V0 F hI (n := 1) (ci := 2) rfl (by decide) hP.1 hP.2 (k_X3_becomes l h0 h1 D A (zX μ, zC μ, zS μ) H.size K μ) q1023 q1024 q1025 q118 q1026 (by decide +kernel) rfl h.1 hst4 hR rfl hdg) k
set_option maxHeartbeats 4000000 in
theorem k_X2_becomes (l : Launch) (h0 : Nat) (h1 : Nat) : ZCv l yX2_becomes (ws_ yX2_becomes cX2_becomes 3 none) 3 82 0 0 false [zv h0, zv h1] (f_X2_becomes h0 h1) := by
  refine Z.metV (by decide +kernel) (fun h => ⟨rfl, rfl⟩) (L0 := [(0, zv h0), (1, zv h1)]) (by first | (rw [zla_v, zla_v, zla_0]; done) | (rw [zla_v, zla_v, zla_0]; rfl)) (by rw [zsl_v, zsl_v, zsl_0]; exact Nat.le_of_ble_eq_true rfl) ?_
  intro p e R s m args below meth c D A n0 sz k F
  have F : ZF p R s m args meth c cX2_becomes 3 "SafeBuckets$State" "becomes" none D A false sz 0 0 3 82 := F
  unfold f_X2_becomes
  refine Z.iconst F (v := (0 : Int32)) (by decide) dX2_becomes_0 ?_
  refine Z.istore_n F (L0 := [(0, zv h0), (1, zv h1)]) [0, 1] rfl (zkR rfl (zkR rfl zkN)) (by decide) dX2_becomes_1 ?_
  refine Z.jn0 (J := _) ([(0, zv h0), (1, zv h1)]) ([]) 37 (?_) (fun j37 hj37 => ?_)
  · refine Z.aload_n F 1 rfl dX2_becomes_37 ?_
    refine gfX2_24 F dX2_becomes_38 (fun g38 => ?_)
    refine Z.iconst F (v := (0 : Int32)) (by decide) dX2_becomes_41 ?_
    refine Z.aload_n F 0 rfl dX2_becomes_42 ?_
    refine gfX2_24 F dX2_becomes_43 (fun g43 => ?_)
    refine Z.iconst F (v := (0 : Int32)) (by decide) dX2_becomes_46 ?_
    refine Z.iconst F (v := (3 : Int32)) (by decide) dX2_becomes_47 ?_
    refine Z.aload_n F 1 rfl dX2_becomes_48 ?_
    refine gfX2_75 F dX2_becomes_49 (fun g49 => ?_)
    refine Z.imul F dX2_becomes_52 ?_
    refine Z.cpy F q1038 (Nat.le_of_ble_eq_true rfl) (by decide) (zlw4 (Nat.le_of_ble_eq_true rfl)) dX2_becomes_53 ?_
    refine Z.aload_n F 0 rfl dX2_becomes_56 ?_
    refine Z.aload_n F 1 rfl dX2_becomes_57 ?_
    refine gfX2_72 F dX2_becomes_58 (fun g58 => ?_)
    refine pfX2_72 F dX2_becomes_61 ?_
    refine Z.aload_n F 0 rfl dX2_becomes_64 ?_
    refine Z.aload_n F 1 rfl dX2_becomes_65 ?_
    refine gfX2_75 F dX2_becomes_66 (fun g66 => ?_)
    refine pfX2_75 F dX2_becomes_69 ?_
    exact Z.vret F dX2_becomes_72
  refine Z.sub [1, 2, 0] rfl ?_
  refine Z.w1 (Lf := fun p2l2 => [(0, zv h0), (1, zv h1), (2, .int p2l2)]) (sf := fun p2l2 => []) (fun r2 hr2 p2l2 => ?_) (0 : Int32)
  refine Z.iload_n F 2 rfl dX2_becomes_2 ?_
  refine Z.aload_n F 0 rfl dX2_becomes_3 ?_
  refine gfX2_3 F dX2_becomes_4 (fun g4 => ?_)
  refine gfX2_28 F dX2_becomes_7 (fun g7 => ?_)
  refine gfX2_32 F dX2_becomes_10 (fun g10 => ?_)
  refine Z.icmp_ge F (tgt := 37) dX2_becomes_13 (by decide) ?_ ?_
  · exact Z.sub [0, 1] rfl (hj37)
  refine Z.aload_n F 0 rfl dX2_becomes_16 ?_
  refine gfX2_20 F dX2_becomes_17 (fun g17 => ?_)
  refine Z.iload_n F 2 rfl dX2_becomes_20 ?_
  refine Z.aald F (t := 6) (by decide) rfl rfl dX2_becomes_21 (fun g21 => ?_)
  refine Z.aload_n F 1 rfl dX2_becomes_22 ?_
  refine gfX2_20 F dX2_becomes_23 (fun g23 => ?_)
  refine Z.iload_n F 2 rfl dX2_becomes_26 ?_
  refine Z.aald F (t := 6) (by decide) rfl rfl dX2_becomes_27 (fun g27 => ?_)
  refine clX2_78 F ⟨Nat.le_of_ble_eq_true rfl, Nat.le_of_ble_eq_true rfl⟩ (zlw4 (Nat.le_of_ble_eq_true rfl)) dX2_becomes_28 ?_
  refine Z.iinc F (L0 := [(0, zv h0), (1, zv h1)]) (k0 := 2) (v := (1 : Int32)) rfl (by decide) [0, 1] rfl (zkR rfl (zkR rfl zkN)) (by decide) dX2_becomes_31 ?_
  refine Z.goto F (tgt := 2) dX2_becomes_34 (by decide) ?_
  exact Z.sub [1, 2, 0] rfl (hr2 (p2l2 + (1 : Int32)))
theorem gfX1_73 (F : ZF p R s m args meth c cc nL "SafeBuckets" nm ret D A al sz mc ms fr lo) {z : Nat} {K : Nat → ZM → Prop} (hdg : decode cc pc = .ok (.getfield 73, 3)) (k : ∀ u, ZW p l e R s m args below meth c Q nL D A al n0 (K u) (pc + 3) L (zv u :: st)) : ZW p l e R s m args below meth c Q nL D A al n0 (zgR 1 z 18 K) pc L (zv z :: st) :=
  Z.getR F (ref := "SafeBuckets") in_X1 (ci := 0) rfl (by decide) (kf := 18) (by decide) q407 (fun _ h => h) rfl hdg k
theorem gfX1_278 (F : ZF p R s m args meth c cc nL "SafeBuckets" nm ret D A al sz mc ms fr lo) {z : Nat} {K : Int32 → ZM → Prop} (hdg : decode cc pc = .ok (.getfield 278, 3)) (k : ∀ u, ZW p l e R s m args below meth c Q nL D A al n0 (K u) (pc + 3) L (.int u :: st)) : ZW p l e R s m args below meth c Q nL D A al n0 (zgI 1 z 20 K) pc L (zv z :: st) :=
  Z.getI F (ref := "SafeBuckets") in_X1 (ci := 0) rfl (by decide) (kf := 20) (by decide) q409 (fun _ h => h) rfl hdg k
theorem clX1_281 (F : ZF p R s m args meth c cc nL "SafeBuckets" nm ret D A al sz mc ms fr lo) {h0 : Nat} {h1 : Nat} {K : ZM → Prop} (hR : 3 + 1 ≤ fr ∧ 8 + (3 + 11) + 82 ≤ lo) (hst4 : zlw st) (hdg : decode cc pc = .ok (.invokevirtual 281, 3)) (k : ZW p l e R s m args below meth c Q nL D A al n0 K (pc + 3) L st) : ZW p l e R s m args below meth c Q nL D A al n0 (zat 2 h0 (f_X2_becomes h0 h1 K)) pc L (zv h1 :: zv h0 :: st) :=
  Z.rv0 _ (fun μ H locs cells slots ls hI h hP => Z.V0 F hI (n := 1) (ci := 1) rfl (by decide) hP.1 hP.2 (k_X2_becomes l h0 h1 D A (zX μ, zC μ, zS μ) H.size K μ) q1019 q1020 q1021 q117 q1022 (by decide +kernel) rfl h.1 hst4 hR rfl hdg) k
theorem pfX1_278 (F : ZF p R s m args meth c cc nL "SafeBuckets" nm ret D A al sz mc ms fr lo) {z : Nat} {u : Int32} (hdg : decode cc pc = .ok (.putfield 278, 3)) (k : ZW p l e R s m args below meth c Q nL D A al n0 P (pc + 3) L st) : ZW p l e R s m args below meth c Q nL D A al n0 (zpI 1 z 20 u P) pc L (.int u :: zv z :: st) :=
  Z.putI F (ref := "SafeBuckets") in_X1 (ci := 0) rfl (by decide) (kf := 20) (by decide) q409 (fun _ h => h) tyX1 tyX1_ok nmX1 rfl rfl rfl hdg k
theorem gfX1_132 (F : ZF p R s m args meth c cc nL "SafeBuckets" nm ret D A al sz mc ms fr lo) {z : Nat} {K : Int32 → ZM → Prop} (hdg : decode cc pc = .ok (.getfield 132, 3)) (k : ∀ u, ZW p l e R s m args below meth c Q nL D A al n0 (K u) (pc + 3) L (.int u :: st)) : ZW p l e R s m args below meth c Q nL D A al n0 (zgI 1 z 19 K) pc L (zv z :: st) :=
  Z.getI F (ref := "SafeBuckets") in_X1 (ci := 0) rfl (by decide) (kf := 19) (by decide) q408 (fun _ h => h) rfl hdg k
set_option maxHeartbeats 4000000 in
theorem k_X1_remember (l : Launch) (h0 : Nat) : ZCv l yX1_remember (ws_ yX1_remember cX1_remember 1 none) 7 143 72 1334 true [zv h0] (f_X1_remember h0) := by
  refine Z.metV (by decide +kernel) (fun h => by cases h) (L0 := [(0, zv h0)]) (by first | (rw [zla_v, zla_0]; done) | (rw [zla_v, zla_0]; rfl)) (by rw [zsl_v, zsl_0]; exact Nat.le_of_ble_eq_true rfl) ?_
  intro p e R s m args below meth c D A n0 sz k F
  have F : ZF p R s m args meth c cX1_remember 1 "SafeBuckets" "remember" none D A true sz 72 1334 7 143 := F
  unfold f_X1_remember
  refine Z.aload_n F 0 rfl dX1_remember_0 ?_
  refine gfX1_73 F dX1_remember_1 (fun g1 => ?_)
  refine Z.aload_n F 0 rfl dX1_remember_4 ?_
  refine gfX1_278 F dX1_remember_5 (fun g5 => ?_)
  refine Z.aald F (t := 9) (by decide) rfl rfl dX1_remember_8 (fun g8 => ?_)
  refine Z.jn0 (J := _) ([(0, zv h0)]) ([]) 29 (?_) (fun j29 hj29 => ?_)
  · refine Z.aload_n F 0 rfl dX1_remember_29 ?_
    refine gfX1_73 F dX1_remember_30 (fun g30 => ?_)
    refine Z.aload_n F 0 rfl dX1_remember_33 ?_
    refine gfX1_278 F dX1_remember_34 (fun g34 => ?_)
    refine Z.aald F (t := 9) (by decide) rfl rfl dX1_remember_37 (fun g37 => ?_)
    refine Z.aload_n F 0 rfl dX1_remember_38 ?_
    refine gfX1_59 F dX1_remember_39 (fun g39 => ?_)
    refine clX1_281 F ⟨Nat.le_of_ble_eq_true rfl, Nat.le_of_ble_eq_true rfl⟩ (zlw4 (Nat.le_of_ble_eq_true rfl)) dX1_remember_42 ?_
    refine Z.aload_n F 0 rfl dX1_remember_45 ?_
    refine Z.aload_n F 0 rfl dX1_remember_46 ?_
    refine gfX1_278 F dX1_remember_47 (fun g47 => ?_)
    refine Z.iconst F (v := (1 : Int32)) (by decide) dX1_remember_50 ?_
    refine Z.iadd F dX1_remember_51 ?_
    refine Z.bipush F (v := (40 : Int32)) (by decide) dX1_remember_52 ?_
    refine Z.irem F dX1_remember_54 ?_
    refine pfX1_278 F dX1_remember_55 ?_
    refine Z.aload_n F 0 rfl dX1_remember_58 ?_
    refine Z.bipush F (v := (40 : Int32)) (by decide) dX1_remember_59 ?_
    refine Z.aload_n F 0 rfl dX1_remember_61 ?_
    refine gfX1_132 F dX1_remember_62 (fun g62 => ?_)
    refine Z.iconst F (v := (1 : Int32)) (by decide) dX1_remember_65 ?_
    refine Z.iadd F dX1_remember_66 ?_
    refine Z.mmin F q1039 (Nat.le_of_ble_eq_true rfl) (Nat.le_of_ble_eq_true rfl) (zlw4 (Nat.le_of_ble_eq_true rfl)) dX1_remember_67 ?_
    refine Z.nmI (fun v67 => ?_)
    refine pfX1_132 F dX1_remember_70 ?_
    exact Z.vret F dX1_remember_73
  refine Z.ifnonnull F (tgt := 29) dX1_remember_9 (by decide) ?_ ?_
  · exact Z.sub [0] rfl (hj29)
  refine Z.aload_n F 0 rfl dX1_remember_12 ?_
  refine gfX1_73 F dX1_remember_13 (fun g13 => ?_)
  refine Z.aload_n F 0 rfl dX1_remember_16 ?_
  refine gfX1_278 F dX1_remember_17 (fun g17 => ?_)
  refine Z.newO F in_X2 tyX2 tyX2_ok (ci := 1) rfl (by decide) q185 q186 q117 df_X2 dX1_remember_20 (fun n20 => ?_)
  refine Z.dup F dX1_remember_23 ?_
  refine Z.aload_n F 0 rfl dX1_remember_24 ?_
  refine clX1_56 F ⟨Nat.le_of_ble_eq_true rfl, Nat.le_of_ble_eq_true rfl⟩ (zlw4 (Nat.le_of_ble_eq_true rfl)) dX1_remember_25 ?_
  refine Z.aast F (t := 9) (ci := 1) (by decide) rfl rfl (by decide) dX1_remember_28 ?_
  exact Z.sub [0] rfl (hj29)
theorem gfX4_18 (F : ZF p R s m args meth c cc nL "SafeBuckets$Column" nm ret D A al sz mc ms fr lo) {z : Nat} {K : Int32 → ZM → Prop} (hdg : decode cc pc = .ok (.getfield 18, 3)) (k : ∀ u, ZW p l e R s m args below meth c Q nL D A al n0 (K u) (pc + 3) L (.int u :: st)) : ZW p l e R s m args below meth c Q nL D A al n0 (zgI 5 z 1 K) pc L (zv z :: st) :=
  Z.getI F (ref := "SafeBuckets$Bucket") in_X7 (ci := 4) rfl (by decide) (kf := 1) (by decide) q237 (fun x h => u_same (F.hts _ q238) x h) rfl hdg k
set_option maxHeartbeats 4000000 in
theorem k_X4_of (l : Launch) (h0 : Nat) (x1 : Int32) : ZCr' l yX4_of (ws_ yX4_of cX4_of 3 (some (.object "SafeBuckets$Bucket"))) 0 0 0 0 false [zv h0, .int x1] (f_X4_of h0 x1) := by
  refine Z.metQ (by decide +kernel) (fun h => ⟨rfl, rfl⟩) (L0 := [(0, zv h0), (1, .int x1)]) (by first | (rw [zla_v, zla_i, zla_0]; done) | (rw [zla_v, zla_i, zla_0]; rfl)) (by rw [zsl_v, zsl_i, zsl_0]; exact Nat.le_of_ble_eq_true rfl) ?_
  intro p e R s m args below meth c D A n0 sz k F
  have F : ZF p R s m args meth c cX4_of 3 "SafeBuckets$Column" "of" (some (.object "SafeBuckets$Bucket")) D A false sz 0 0 0 0 := F
  unfold f_X4_of
  refine Z.iconst F (v := (0 : Int32)) (by decide) dX4_of_0 ?_
  refine Z.istore_n F (L0 := [(0, zv h0), (1, .int x1)]) [0, 1] rfl (zkR rfl (zkI rfl zkN)) (by decide) dX4_of_1 ?_
  refine Z.jn1 (J := _) (fun p21l2 => [(0, zv h0), (2, .int p21l2)]) (fun p21l2 => []) 21 (fun p21l2 => ?_) (fun j21 hj21 => ?_)
  · refine Z.aload_n F 0 rfl dX4_of_21 ?_
    refine gfX4_11 F dX4_of_22 (fun g22 => ?_)
    refine Z.iload_n F 1 rfl dX4_of_25 ?_
    refine Z.aald F (t := 8) (by decide) rfl rfl dX4_of_26 (fun g26 => ?_)
    exact Z.aret F (Or.inl ⟨_, rfl⟩) dX4_of_27
  refine Z.sub [1, 2, 0] rfl ?_
  refine Z.w1 (Lf := fun p2l2 => [(0, zv h0), (1, .int x1), (2, .int p2l2)]) (sf := fun p2l2 => []) (fun r2 hr2 p2l2 => ?_) (0 : Int32)
  refine Z.aload_n F 0 rfl dX4_of_2 ?_
  refine gfX4_11 F dX4_of_3 (fun g3 => ?_)
  refine Z.iload_n F 2 rfl dX4_of_6 ?_
  refine Z.aald F (t := 8) (by decide) rfl rfl dX4_of_7 (fun g7 => ?_)
  refine gfX4_18 F dX4_of_8 (fun g8 => ?_)
  refine Z.iload_n F 1 rfl dX4_of_11 ?_
  refine Z.icmp_ge F (tgt := 21) dX4_of_12 (by decide) ?_ ?_
  · exact Z.sub [0, 2] rfl (hj21 p2l2)
  refine Z.iinc F (L0 := [(0, zv h0), (1, .int x1)]) (k0 := 2) (v := (1 : Int32)) rfl (by decide) [0, 1] rfl (zkR rfl (zkI rfl zkN)) (by decide) dX4_of_15 ?_
  refine Z.goto F (tgt := 2) dX4_of_18 (by decide) ?_
  exact Z.sub [1, 2, 0] rfl (hr2 (p2l2 + (1 : Int32)))
theorem gfX6_7 (F : ZF p R s m args meth c cc nL "SafeBuckets$Kept" nm ret D A al sz mc ms fr lo) {z : Nat} {K : Int32 → ZM → Prop} (hdg : decode cc pc = .ok (.getfield 7, 3)) (k : ∀ u, ZW p l e R s m args below meth c Q nL D A al n0 (K u) (pc + 3) L (.int u :: st)) : ZW p l e R s m args below meth c Q nL D A al n0 (zgI 5 z 2 K) pc L (zv z :: st) :=
  Z.getI F (ref := "SafeBuckets$Kept") in_X7 (ci := 4) rfl (by decide) (kf := 2) (by decide) q218 (fun _ h => h) rfl hdg k
theorem pfX6_7 (F : ZF p R s m args meth c cc nL "SafeBuckets$Kept" nm ret D A al sz mc ms fr lo) {z : Nat} {u : Int32} (hdg : decode cc pc = .ok (.putfield 7, 3)) (k : ZW p l e R s m args below meth c Q nL D A al n0 P (pc + 3) L st) : ZW p l e R s m args below meth c Q nL D A al n0 (zpI 5 z 2 u P) pc L (.int u :: zv z :: st) :=
  Z.putI F (ref := "SafeBuckets$Kept") in_X7 (ci := 4) rfl (by decide) (kf := 2) (by decide) q218 (fun _ h => h) tyX7 tyX7_ok nmX7 rfl rfl rfl hdg k
theorem gfX6_13 (F : ZF p R s m args meth c cc nL "SafeBuckets$Kept" nm ret D A al sz mc ms fr lo) {z : Nat} {K : Int32 → ZM → Prop} (hdg : decode cc pc = .ok (.getfield 13, 3)) (k : ∀ u, ZW p l e R s m args below meth c Q nL D A al n0 (K u) (pc + 3) L (.int u :: st)) : ZW p l e R s m args below meth c Q nL D A al n0 (zgI 5 z 3 K) pc L (zv z :: st) :=
  Z.getI F (ref := "SafeBuckets$Kept") in_X7 (ci := 4) rfl (by decide) (kf := 3) (by decide) q224 (fun _ h => h) rfl hdg k
theorem pfX6_13 (F : ZF p R s m args meth c cc nL "SafeBuckets$Kept" nm ret D A al sz mc ms fr lo) {z : Nat} {u : Int32} (hdg : decode cc pc = .ok (.putfield 13, 3)) (k : ZW p l e R s m args below meth c Q nL D A al n0 P (pc + 3) L st) : ZW p l e R s m args below meth c Q nL D A al n0 (zpI 5 z 3 u P) pc L (.int u :: zv z :: st) :=
  Z.putI F (ref := "SafeBuckets$Kept") in_X7 (ci := 4) rfl (by decide) (kf := 3) (by decide) q224 (fun _ h => h) tyX7 tyX7_ok nmX7 rfl rfl rfl hdg k
set_option maxHeartbeats 4000000 in
theorem k_X6_goesUp (l : Launch) (h0 : Nat) (x1 : Int32) : ZCv l yX6_goesUp (ws_ yX6_goesUp cX6_goesUp 2 none) 1 21 0 0 false [zv h0, .int x1] (f_X6_goesUp h0 x1) := by
  refine Z.metV (by decide +kernel) (fun h => ⟨rfl, rfl⟩) (L0 := [(0, zv h0), (1, .int x1)]) (by first | (rw [zla_v, zla_i, zla_0]; done) | (rw [zla_v, zla_i, zla_0]; rfl)) (by rw [zsl_v, zsl_i, zsl_0]; exact Nat.le_of_ble_eq_true rfl) ?_
  intro p e R s m args below meth c D A n0 sz k F
  have F : ZF p R s m args meth c cX6_goesUp 2 "SafeBuckets$Kept" "goesUp" none D A false sz 0 0 1 21 := F
  unfold f_X6_goesUp
  refine Z.aload_n F 0 rfl dX6_goesUp_0 ?_
  refine Z.dup F dX6_goesUp_1 ?_
  refine gfX6_7 F dX6_goesUp_2 (fun g2 => ?_)
  refine Z.iload_n F 1 rfl dX6_goesUp_5 ?_
  refine Z.iadd F dX6_goesUp_6 ?_
  refine pfX6_7 F dX6_goesUp_7 ?_
  refine Z.aload_n F 0 rfl dX6_goesUp_10 ?_
  refine Z.aload_n F 0 rfl dX6_goesUp_11 ?_
  refine gfX6_7 F dX6_goesUp_12 (fun g12 => ?_)
  refine Z.aload_n F 0 rfl dX6_goesUp_15 ?_
  refine gfX6_13 F dX6_goesUp_16 (fun g16 => ?_)
  refine Z.iload_n F 1 rfl dX6_goesUp_19 ?_
  refine Z.iadd F dX6_goesUp_20 ?_
  refine Z.mmin F q1055 (Nat.le_of_ble_eq_true rfl) (Nat.le_of_ble_eq_true rfl) (zlw4 (Nat.le_of_ble_eq_true rfl)) dX6_goesUp_21 ?_
  refine pfX6_13 F dX6_goesUp_24 ?_
  exact Z.vret F dX6_goesUp_27
set_option maxHeartbeats 4000000 in
theorem k_X6_goesDown (l : Launch) (h0 : Nat) (x1 : Int32) : ZCv l yX6_goesDown (ws_ yX6_goesDown cX6_goesDown 2 none) 1 21 0 0 false [zv h0, .int x1] (f_X6_goesDown h0 x1) := by
  refine Z.metV (by decide +kernel) (fun h => ⟨rfl, rfl⟩) (L0 := [(0, zv h0), (1, .int x1)]) (by first | (rw [zla_v, zla_i, zla_0]; done) | (rw [zla_v, zla_i, zla_0]; rfl)) (by rw [zsl_v, zsl_i, zsl_0]; exact Nat.le_of_ble_eq_true rfl) ?_
  intro p e R s m args below meth c D A n0 sz k F
  have F : ZF p R s m args meth c cX6_goesDown 2 "SafeBuckets$Kept" "goesDown" none D A false sz 0 0 1 21 := F
  unfold f_X6_goesDown
  refine Z.aload_n F 0 rfl dX6_goesDown_0 ?_
  refine Z.dup F dX6_goesDown_1 ?_
  refine gfX6_7 F dX6_goesDown_2 (fun g2 => ?_)
  refine Z.iload_n F 1 rfl dX6_goesDown_5 ?_
  refine Z.isub F dX6_goesDown_6 ?_
  refine pfX6_7 F dX6_goesDown_7 ?_
  refine Z.aload_n F 0 rfl dX6_goesDown_10 ?_
  refine Z.aload_n F 0 rfl dX6_goesDown_11 ?_
  refine gfX6_7 F dX6_goesDown_12 (fun g12 => ?_)
  refine Z.aload_n F 0 rfl dX6_goesDown_15 ?_
  refine gfX6_13 F dX6_goesDown_16 (fun g16 => ?_)
  refine Z.mmin F q1055 (Nat.le_of_ble_eq_true rfl) (Nat.le_of_ble_eq_true rfl) (zlw4 (Nat.le_of_ble_eq_true rfl)) dX6_goesDown_19 ?_
  refine pfX6_13 F dX6_goesDown_22 ?_
  exact Z.vret F dX6_goesDown_25
theorem clX3_57 (F : ZF p R s m args meth c cc nL "SafeBuckets$Sheet" nm ret D A al sz mc ms fr lo) {h0 : Nat} {x1 : Int32} {x2 : Int32} {x3 : Int32} {K : ZM → Prop} (hR : 1 + 1 ≤ fr ∧ 8 + (4 + 11) + 22 ≤ lo) (hst4 : zlw st) (hdg : decode cc pc = .ok (.invokevirtual 57, 3)) (k : ZW p l e R s m args below meth c Q nL D A al n0 K (pc + 3) L st) : ZW p l e R s m args below meth c Q nL D A al n0 (zat 3 h0 (f_X3_tells h0 x1 x2 x3 K)) pc L (.int x3 :: .int x2 :: .int x1 :: zv h0 :: st) :=
  Z.rv0 _ (fun μ H locs cells slots ls hI h hP => Z.V0 F hI (n := 3) (ci := 2) rfl (by decide) hP.1 hP.2 (k_X3_tells l h0 x1 x2 x3 D A (zX μ, zC μ, zS μ) H.size K μ) q1044 q872 q873 q118 q874 (by decide +kernel) rfl h.1 hst4 hR rfl hdg) k
theorem gfX3_74 (F : ZF p R s m args meth c cc nL "SafeBuckets$Sheet" nm ret D A al sz mc ms fr lo) {z : Nat} {K : Int32 → ZM → Prop} (hdg : decode cc pc = .ok (.getfield 74, 3)) (k : ∀ u, ZW p l e R s m args below meth c Q nL D A al n0 (K u) (pc + 3) L (.int u :: st)) : ZW p l e R s m args below meth c Q nL D A al n0 (zgI 4 z 2 K) pc L (zv z :: st) :=
  Z.getIN F (ref := "SafeBuckets$Column") in_X4 (ci := 3) rfl (by decide) (kf := 2) (by decide) (host := "SafeBuckets") (List.mem_of_getElem? (i := 32) rfl) (fun _ h => h) rfl hdg k
theorem clX3_97 (F : ZF p R s m args meth c cc nL "SafeBuckets$Sheet" nm ret D A al sz mc ms fr lo) {h0 : Nat} {x1 : Int32} {K : ZM → Prop} (hR : 5 + 1 ≤ fr ∧ 8 + (8 + 11) + 117 ≤ lo) (hst4 : zlw st) (hdg : decode cc pc = .ok (.invokevirtual 97, 3)) (k : ZW p l e R s m args below meth c Q nL D A al n0 K (pc + 3) L st) : ZW p l e R s m args below meth c Q nL D A al n0 (zat 3 h0 (f_X3_builds h0 x1 K)) pc L (.int x1 :: zv h0 :: st) :=
  Z.rv0 _ (fun μ H locs cells slots ls hI h hP => Z.V0 F hI (n := 1) (ci := 2) rfl (by decide) hP.1 hP.2 (k_X3_builds l h0 x1 D A (zX μ, zC μ, zS μ) H.size K μ) q1065 q880 q881 q118 q882 (by decide +kernel) rfl h.1 hst4 hR rfl hdg) k
theorem clX3_61 (F : ZF p R s m args meth c cc nL "SafeBuckets$Sheet" nm ret D A al sz mc ms fr lo) {h0 : Nat} {x1 : Int32} {K : Nat → ZM → Prop} (hR : 0 + 1 ≤ fr ∧ 8 + (3 + 11) + 0 ≤ lo) (hst4 : zlw st) (hdg : decode cc pc = .ok (.invokevirtual 61, 3)) (k : ∀ r, ZW p l e R s m args below meth c Q nL D A al n0 (K r) (pc + 3) L (zv r :: st)) : ZW p l e R s m args below meth c Q nL D A al n0 (zat 4 h0 (f_X4_of h0 x1 K)) pc L (.int x1 :: zv h0 :: st) :=
  Z.rq0 _ (fun μ H locs cells slots ls hI h hP => Z.V0 F hI (n := 1) (ci := 3) rfl (by decide) hP.1 hP.2 (k_X4_of l h0 x1 D A (zX μ, zC μ, zS μ) H.size K μ) q1045 q1046 q1047 q119 q1048 (by decide +kernel) rfl h.1 hst4 hR rfl hdg) k
theorem clX3_71_X6_goesDown (F : ZF p R s m args meth c cc nL "SafeBuckets$Sheet" nm ret D A al sz mc ms fr lo) {h0 : Nat} {x1 : Int32} {K : ZM → Prop} (hR : 1 + 1 ≤ fr ∧ 8 + (2 + 11) + 21 ≤ lo) (hst4 : zlw st) (hdg : decode cc pc = .ok (.invokevirtual 71, 3)) (k : ZW p l e R s m args below meth c Q nL D A al n0 K (pc + 3) L st) : ZW p l e R s m args below meth c Q nL D A al n0 (zat 5 h0 (f_X6_goesDown h0 x1 K)) pc L (.int x1 :: zv h0 :: st) :=
  Z.rv0 _ (fun μ H locs cells slots ls hI h hP => Z.U0 F hI (n := 1) (ci := 4) rfl (by decide) hP.1 hP.2 (k_X6_goesDown l h0 x1 D A (zX μ, zC μ, zS μ) H.size K μ) (owner := "SafeBuckets$Kept") q1056 q1057 q1059 q1060 q121 q1061 rfl (by decide +kernel) rfl h.1 hst4 hR rfl hdg) k
theorem clX3_65_X6_goesUp (F : ZF p R s m args meth c cc nL "SafeBuckets$Sheet" nm ret D A al sz mc ms fr lo) {h0 : Nat} {x1 : Int32} {K : ZM → Prop} (hR : 1 + 1 ≤ fr ∧ 8 + (2 + 11) + 21 ≤ lo) (hst4 : zlw st) (hdg : decode cc pc = .ok (.invokevirtual 65, 3)) (k : ZW p l e R s m args below meth c Q nL D A al n0 K (pc + 3) L st) : ZW p l e R s m args below meth c Q nL D A al n0 (zat 5 h0 (f_X6_goesUp h0 x1 K)) pc L (.int x1 :: zv h0 :: st) :=
  Z.rv0 _ (fun μ H locs cells slots ls hI h hP => Z.U0 F hI (n := 1) (ci := 4) rfl (by decide) hP.1 hP.2 (k_X6_goesUp l h0 x1 D A (zX μ, zC μ, zS μ) H.size K μ) (owner := "SafeBuckets$Kept") q1049 q1050 q1052 q1053 q121 q1054 rfl (by decide +kernel) rfl h.1 hst4 hR rfl hdg) k
set_option maxHeartbeats 4000000 in
theorem k_X3_comes (l : Launch) (h0 : Nat) (x1 : Int32) (x2 : Int32) (x3 : Int32) : ZCv l yX3_comes (ws_ yX3_comes cX3_comes 7 none) 6 144 0 0 false [zv h0, .int x1, .int x2, .int x3] (f_X3_comes h0 x1 x2 x3) := by
  refine Z.metV (by decide +kernel) (fun h => ⟨rfl, rfl⟩) (L0 := [(0, zv h0), (1, .int x1), (2, .int x2), (3, .int x3)]) (by first | (rw [zla_v, zla_i, zla_i, zla_i, zla_0]; done) | (rw [zla_v, zla_i, zla_i, zla_i, zla_0]; rfl)) (by rw [zsl_v, zsl_i, zsl_i, zsl_i, zsl_0]; exact Nat.le_of_ble_eq_true rfl) ?_
  intro p e R s m args below meth c D A n0 sz k F
  have F : ZF p R s m args meth c cX3_comes 7 "SafeBuckets$Sheet" "comes" none D A false sz 0 0 6 144 := F
  unfold f_X3_comes
  refine Z.aload_n F 0 rfl dX3_comes_0 ?_
  refine Z.iload_n F 1 rfl dX3_comes_1 ?_
  refine Z.iload_n F 2 rfl dX3_comes_2 ?_
  refine Z.iload_n F 3 rfl dX3_comes_3 ?_
  refine clX3_57 F ⟨Nat.le_of_ble_eq_true rfl, Nat.le_of_ble_eq_true rfl⟩ (zlw4 (Nat.le_of_ble_eq_true rfl)) dX3_comes_4 ?_
  refine Z.iconst F (v := (0 : Int32)) (by decide) dX3_comes_7 ?_
  refine Z.istore F (L0 := [(0, zv h0), (1, .int x1), (2, .int x2), (3, .int x3)]) [0, 1, 2, 3] rfl (zkR rfl (zkI rfl (zkI rfl (zkI rfl zkN)))) (by decide) dX3_comes_8 ?_
  refine Z.jn0 (J := _) ([(0, zv h0)]) ([]) 96 (?_) (fun j96 hj96 => ?_)
  · refine Z.iconst F (v := (0 : Int32)) (by decide) dX3_comes_96 ?_
    refine Z.istore F (L0 := [(0, zv h0)]) [0] rfl (zkR rfl zkN) (by decide) dX3_comes_97 ?_
    refine Z.sub [1, 0] rfl ?_
    refine Z.w1 (Lf := fun p99l4 => [(0, zv h0), (4, .int p99l4)]) (sf := fun p99l4 => []) (fun r99 hr99 p99l4 => ?_) (0 : Int32)
    refine Z.iload F 1 rfl dX3_comes_99 ?_
    refine Z.iconst F (v := (2 : Int32)) (by decide) dX3_comes_101 ?_
    refine Z.icmp_ge F (tgt := 145) dX3_comes_102 (by decide) ?_ ?_
    · exact Z.vret F dX3_comes_145
    refine Z.aload_n F 0 rfl dX3_comes_105 ?_
    refine gfX3_22 F dX3_comes_106 (fun g106 => ?_)
    refine Z.iload F 1 rfl dX3_comes_109 ?_
    refine Z.aald F (t := 7) (by decide) rfl rfl dX3_comes_111 (fun g111 => ?_)
    refine gfX3_74 F dX3_comes_112 (fun g112 => ?_)
    refine Z.aload_n F 0 rfl dX3_comes_115 ?_
    refine gfX3_3 F dX3_comes_116 (fun g116 => ?_)
    refine gfX3_83 F dX3_comes_119 (fun g119 => ?_)
    refine gfX3_87 F dX3_comes_122 (fun g122 => ?_)
    refine gfX3_93 F dX3_comes_125 (fun g125 => ?_)
    refine Z.iconst F (v := (1 : Int32)) (by decide) dX3_comes_128 ?_
    refine Z.iald F dX3_comes_129 (fun g129 => ?_)
    refine Z.jn0 (J := _) ([(0, zv h0), (4, .int p99l4)]) ([]) 139 (?_) (fun j139 hj139 => ?_)
    · refine Z.iinc F (L0 := [(0, zv h0)]) (k0 := 1) (v := (1 : Int32)) rfl (by decide) [0] rfl (zkR rfl zkN) (by decide) dX3_comes_139 ?_
      refine Z.goto F (tgt := 99) dX3_comes_142 (by decide) ?_
      exact Z.sub [1, 0] rfl (hr99 (p99l4 + (1 : Int32)))
    refine Z.icmp_le F (tgt := 139) dX3_comes_130 (by decide) ?_ ?_
    · exact Z.sub [0, 1] rfl (hj139)
    refine Z.aload_n F 0 rfl dX3_comes_133 ?_
    refine Z.iload F 1 rfl dX3_comes_134 ?_
    refine clX3_97 F ⟨Nat.le_of_ble_eq_true rfl, Nat.le_of_ble_eq_true rfl⟩ (zlw4 (Nat.le_of_ble_eq_true rfl)) dX3_comes_136 ?_
    exact Z.sub [0, 1] rfl (hj139)
  refine Z.sub [1, 2, 3, 4, 0] rfl ?_
  refine Z.w1 (Lf := fun p10l4 => [(0, zv h0), (1, .int x1), (2, .int x2), (3, .int x3), (4, .int p10l4)]) (sf := fun p10l4 => []) (fun r10 hr10 p10l4 => ?_) (0 : Int32)
  refine Z.iload F 4 rfl dX3_comes_10 ?_
  refine Z.iconst F (v := (2 : Int32)) (by decide) dX3_comes_12 ?_
  refine Z.icmp_ge F (tgt := 96) dX3_comes_13 (by decide) ?_ ?_
  · exact Z.sub [0] rfl (hj96)
  refine Z.iload F 4 rfl dX3_comes_16 ?_
  refine Z.jn1 (J := _) (fun p26s0 => [(0, zv h0), (1, .int x1), (2, .int x2), (3, .int x3), (4, .int p10l4)]) (fun p26s0 => [.int p26s0]) 26 (fun p26s0 => ?_) (fun j26 hj26 => ?_)
  · refine Z.istore F (L0 := [(0, zv h0), (1, .int x1), (2, .int x2), (3, .int x3), (4, .int p10l4)]) [0, 1, 2, 3, 4] rfl (zkR rfl (zkI rfl (zkI rfl (zkI rfl (zkI rfl zkN))))) (by decide) dX3_comes_26 ?_
    refine Z.iload F 0 rfl dX3_comes_28 ?_
    refine Z.iconst F (v := (-1 : Int32)) (by decide) dX3_comes_30 ?_
    refine Z.jn0 (J := _) ([(0, zv h0), (1, .int x1), (2, .int x2), (3, .int x3), (4, .int p10l4)]) ([]) 90 (?_) (fun j90 hj90 => ?_)
    · refine Z.iinc F (L0 := [(0, zv h0), (1, .int x1), (2, .int x2), (3, .int x3)]) (k0 := 4) (v := (1 : Int32)) rfl (by decide) [0, 1, 2, 3] rfl (zkR rfl (zkI rfl (zkI rfl (zkI rfl zkN)))) (by decide) dX3_comes_90 ?_
      refine Z.goto F (tgt := 10) dX3_comes_93 (by decide) ?_
      exact Z.sub [1, 2, 3, 4, 0] rfl (hr10 (p10l4 + (1 : Int32)))
    refine Z.icmp_ne F (tgt := 37) dX3_comes_31 (by decide) ?_ ?_
    · refine Z.aload_n F 1 rfl dX3_comes_37 ?_
      refine gfX3_22 F dX3_comes_38 (fun g38 => ?_)
      refine Z.iload F 5 rfl dX3_comes_41 ?_
      refine Z.aald F (t := 7) (by decide) rfl rfl dX3_comes_43 (fun g43 => ?_)
      refine Z.iload F 0 rfl dX3_comes_44 ?_
      refine clX3_61 F ⟨Nat.le_of_ble_eq_true rfl, Nat.le_of_ble_eq_true rfl⟩ (zlw4 (Nat.le_of_ble_eq_true rfl)) dX3_comes_46 (fun r46 => ?_)
      refine Z.astore F (L0 := [(5, .int p26s0), (0, zv h0), (1, .int x1), (2, .int x2), (3, .int x3), (4, .int p10l4)]) [0, 1, 2, 3, 4, 5] rfl (zkI rfl (zkR rfl (zkI rfl (zkI rfl (zkI rfl (zkI rfl zkN)))))) (by decide) dX3_comes_49 ?_
      refine Z.iload_n F 5 rfl dX3_comes_51 ?_
      refine Z.jn0 (J := _) ([(0, zv h0), (1, .int x1), (2, .int x2), (3, .int x3), (4, .int p10l4)]) ([]) 71 (?_) (fun j71 hj71 => ?_)
      · refine Z.aload_n F 0 rfl dX3_comes_71 ?_
        refine gfX3_22 F dX3_comes_72 (fun g72 => ?_)
        refine Z.iload F 4 rfl dX3_comes_75 ?_
        refine Z.aald F (t := 7) (by decide) rfl rfl dX3_comes_77 (fun g77 => ?_)
        refine Z.dup F dX3_comes_78 ?_
        refine gfX3_74 F dX3_comes_79 (fun g79 => ?_)
        refine Z.iload_n F 3 rfl dX3_comes_82 ?_
        refine Z.mabs F q1062 (Nat.le_of_ble_eq_true rfl) (Nat.le_of_ble_eq_true rfl) (zlw4 (Nat.le_of_ble_eq_true rfl)) dX3_comes_83 ?_
        refine Z.iadd F dX3_comes_86 ?_
        refine pfX3_74 F dX3_comes_87 ?_
        exact Z.sub [0, 1, 2, 3, 4] rfl (hj90)
      refine Z.if_le F (tgt := 64) dX3_comes_52 (by decide) ?_ ?_
      · refine Z.aload F 0 rfl dX3_comes_64 ?_
        refine Z.iload_n F 5 rfl dX3_comes_66 ?_
        refine Z.ineg F dX3_comes_67 ?_
        refine clX3_71_X6_goesDown F ⟨Nat.le_of_ble_eq_true rfl, Nat.le_of_ble_eq_true rfl⟩ (zlw4 (Nat.le_of_ble_eq_true rfl)) dX3_comes_68 ?_
        exact Z.sub [2, 3, 4, 5, 6] rfl (hj71)
      refine Z.aload F 0 rfl dX3_comes_55 ?_
      refine Z.iload_n F 5 rfl dX3_comes_57 ?_
      refine clX3_65_X6_goesUp F ⟨Nat.le_of_ble_eq_true rfl, Nat.le_of_ble_eq_true rfl⟩ (zlw4 (Nat.le_of_ble_eq_true rfl)) dX3_comes_58 ?_
      refine Z.goto F (tgt := 71) dX3_comes_61 (by decide) ?_
      exact Z.sub [2, 3, 4, 5, 6] rfl (hj71)
    refine Z.goto F (tgt := 90) dX3_comes_34 (by decide) ?_
    exact Z.sub [1, 2, 3, 4, 5] rfl (hj90)
  refine Z.if_ne F (tgt := 25) dX3_comes_18 (by decide) ?_ ?_
  · refine Z.iload_n F 2 rfl dX3_comes_25 ?_
    exact Z.sub [0, 1, 2, 3, 4] rfl (hj26 x2)
  refine Z.iload_n F 1 rfl dX3_comes_21 ?_
  refine Z.goto F (tgt := 26) dX3_comes_22 (by decide) ?_
  exact Z.sub [0, 1, 2, 3, 4] rfl (hj26 x1)
end ZWalk
