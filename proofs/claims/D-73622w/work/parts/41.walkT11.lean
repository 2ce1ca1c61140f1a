section ZWalk
variable {p : Program} {l : Launch} {e : Env} {R : Room} {s : State} {m : MethodId} {args : Array Value} {below : List Frame} {meth : Method} {c : Code} {Q : State → Prop} {nL : Nat} {D : ZD} {A : Nat → Prop} {al : Bool} {n0 : Nat × Nat × Nat} {cc : ByteArray} {nm : String} {ret : Option FieldType} {sz mc ms fr lo : Nat}
variable {P : ZM → Prop} {pc : Nat} {L : List (Nat × Value)} {st : List Value}
set_option maxHeartbeats 4000000 in
theorem k_X9_unit (l : Launch) (h0 : Nat) (x1 : Int32) (x2 : Int32) (x3 : Int32) : ZCi l yX9_unit (ws_ yX9_unit cX9_unit 4 (some .int)) 2 46 0 0 false [zv h0, .int x1, .int x2, .int x3] (f_X9_unit h0 x1 x2 x3) := by
  refine Z.metI (by decide +kernel) (fun h => ⟨rfl, rfl⟩) (L0 := [(0, zv h0), (1, .int x1), (2, .int x2), (3, .int x3)]) (by first | (rw [zla_v, zla_i, zla_i, zla_i, zla_0]; done) | (rw [zla_v, zla_i, zla_i, zla_i, zla_0]; rfl)) (by rw [zsl_v, zsl_i, zsl_i, zsl_i, zsl_0]; exact Nat.le_of_ble_eq_true rfl) ?_
  intro p e R s m args below meth c D A n0 sz k F
  have F : ZF p R s m args meth c cX9_unit 4 "SafeBucketsModel" "unit" (some .int) D A false sz 0 0 2 46 := F
  unfold f_X9_unit
  refine Z.aload_n F 0 rfl dX9_unit_0 ?_
  refine Z.iload_n F 1 rfl dX9_unit_1 ?_
  refine clX9_359 F ⟨Nat.le_of_ble_eq_true rfl, Nat.le_of_ble_eq_true rfl⟩ (zlw4 (Nat.le_of_ble_eq_true rfl)) dX9_unit_2 (fun r2 => ?_)
  refine Z.jn1 (J := _) (fun p50s0 => []) (fun p50s0 => [.int p50s0]) 50 (fun p50s0 => ?_) (fun j50 hj50 => ?_)
  · exact Z.iret F dX9_unit_50
  refine Z.jn0 (J := _) ([]) ([]) 48 (?_) (fun j48 hj48 => ?_)
  · refine Z.ldcI F q1850 dX9_unit_48 ?_
    exact Z.sub [] rfl (hj50 (-1000000 : Int32))
  refine Z.if_eq F (tgt := 48) dX9_unit_5 (by decide) ?_ ?_
  · exact Z.sub [] rfl (hj48)
  refine Z.iload_n F 2 rfl dX9_unit_8 ?_
  refine Z.i2l F dX9_unit_9 ?_
  refine Z.lconst F (w := (0 : Int64)) (by decide) dX9_unit_10 ?_
  refine Z.aload_n F 0 rfl dX9_unit_11 ?_
  refine gfX9_31 F dX9_unit_12 (fun g12 => ?_)
  refine Z.iload_n F 1 rfl dX9_unit_15 ?_
  refine Z.iald F dX9_unit_16 (fun g16 => ?_)
  refine Z.iconst F (v := (1 : Int32)) (by decide) dX9_unit_17 ?_
  refine Z.isub F dX9_unit_18 ?_
  refine Z.i2l F dX9_unit_19 ?_
  refine clX9_77 F ⟨Nat.le_of_ble_eq_true rfl, Nat.le_of_ble_eq_true rfl⟩ (zlw4 (Nat.le_of_ble_eq_true rfl)) dX9_unit_20 (fun r20 => ?_)
  refine Z.if_eq F (tgt := 48) dX9_unit_23 (by decide) ?_ ?_
  · exact Z.sub [] rfl (hj48)
  refine Z.iload_n F 3 rfl dX9_unit_26 ?_
  refine Z.i2l F dX9_unit_27 ?_
  refine Z.lconst F (w := (0 : Int64)) (by decide) dX9_unit_28 ?_
  refine Z.ldc2 F q1816 dX9_unit_29 ?_
  refine clX9_77 F ⟨Nat.le_of_ble_eq_true rfl, Nat.le_of_ble_eq_true rfl⟩ (zlw4 (Nat.le_of_ble_eq_true rfl)) dX9_unit_32 (fun r32 => ?_)
  refine Z.if_eq F (tgt := 48) dX9_unit_35 (by decide) ?_ ?_
  · exact Z.sub [] rfl (hj48)
  refine Z.aload_n F 0 rfl dX9_unit_38 ?_
  refine Z.iload_n F 1 rfl dX9_unit_39 ?_
  refine Z.iload_n F 2 rfl dX9_unit_40 ?_
  refine Z.iload_n F 3 rfl dX9_unit_41 ?_
  refine clX9_335 F ⟨Nat.le_of_ble_eq_true rfl, Nat.le_of_ble_eq_true rfl⟩ (zlw4 (Nat.le_of_ble_eq_true rfl)) dX9_unit_42 (fun r42 => ?_)
  refine Z.goto F (tgt := 50) dX9_unit_45 (by decide) ?_
  exact Z.sub [] rfl (hj50 r42)
set_option maxHeartbeats 4000000 in
theorem k_X9_shares (l : Launch) (h0 : Nat) (x1 : Int32) (x2 : Int32) : ZCi l yX9_shares (ws_ yX9_shares cX9_shares 3 (some .int)) 2 46 0 0 false [zv h0, .int x1, .int x2] (f_X9_shares h0 x1 x2) := by
  refine Z.metI (by decide +kernel) (fun h => ⟨rfl, rfl⟩) (L0 := [(0, zv h0), (1, .int x1), (2, .int x2)]) (by first | (rw [zla_v, zla_i, zla_i, zla_0]; done) | (rw [zla_v, zla_i, zla_i, zla_0]; rfl)) (by rw [zsl_v, zsl_i, zsl_i, zsl_0]; exact Nat.le_of_ble_eq_true rfl) ?_
  intro p e R s m args below meth c D A n0 sz k F
  have F : ZF p R s m args meth c cX9_shares 3 "SafeBucketsModel" "shares" (some .int) D A false sz 0 0 2 46 := F
  unfold f_X9_shares
  refine Z.aload_n F 0 rfl dX9_shares_0 ?_
  refine Z.iload_n F 1 rfl dX9_shares_1 ?_
  refine clX9_153 F ⟨Nat.le_of_ble_eq_true rfl, Nat.le_of_ble_eq_true rfl⟩ (zlw4 (Nat.le_of_ble_eq_true rfl)) dX9_shares_2 (fun r2 => ?_)
  refine Z.jn0 (J := _) ([]) ([]) 20 (?_) (fun j20 hj20 => ?_)
  · refine Z.iconst F (v := (-1 : Int32)) (by decide) dX9_shares_20 ?_
    exact Z.iret F dX9_shares_21
  refine Z.if_eq F (tgt := 20) dX9_shares_5 (by decide) ?_ ?_
  · exact Z.sub [] rfl (hj20)
  refine Z.iload_n F 2 rfl dX9_shares_8 ?_
  refine Z.i2l F dX9_shares_9 ?_
  refine Z.lconst F (w := (0 : Int64)) (by decide) dX9_shares_10 ?_
  refine Z.ldc2 F q1940 dX9_shares_11 ?_
  refine clX9_77 F ⟨Nat.le_of_ble_eq_true rfl, Nat.le_of_ble_eq_true rfl⟩ (zlw4 (Nat.le_of_ble_eq_true rfl)) dX9_shares_14 (fun r14 => ?_)
  refine Z.if_ne F (tgt := 22) dX9_shares_17 (by decide) ?_ ?_
  · refine Z.aload_n F 0 rfl dX9_shares_22 ?_
    refine clX9_318 F ⟨Nat.le_of_ble_eq_true rfl, Nat.le_of_ble_eq_true rfl⟩ (zlw4 (Nat.le_of_ble_eq_true rfl)) dX9_shares_23 (fun r23 => ?_)
    refine Z.jn1 (J := _) (fun p45s0 => []) (fun p45s0 => [.int p45s0]) 45 (fun p45s0 => ?_) (fun j45 hj45 => ?_)
    · exact Z.iret F dX9_shares_45
    refine Z.if_ne F (tgt := 33) dX9_shares_26 (by decide) ?_ ?_
    · refine Z.iload_n F 2 rfl dX9_shares_33 ?_
      refine Z.aload_n F 0 rfl dX9_shares_34 ?_
      refine Z.iload_n F 1 rfl dX9_shares_35 ?_
      refine clX9_161 F ⟨Nat.le_of_ble_eq_true rfl, Nat.le_of_ble_eq_true rfl⟩ (zlw4 (Nat.le_of_ble_eq_true rfl)) dX9_shares_36 (fun r36 => ?_)
      refine Z.imul F dX9_shares_39 ?_
      refine Z.aload_n F 0 rfl dX9_shares_40 ?_
      refine clX9_318 F ⟨Nat.le_of_ble_eq_true rfl, Nat.le_of_ble_eq_true rfl⟩ (zlw4 (Nat.le_of_ble_eq_true rfl)) dX9_shares_41 (fun r41 => ?_)
      refine Z.idiv F dX9_shares_44 ?_
      exact Z.sub [] rfl (hj45 ((x2 * r36) / r41))
    refine Z.iconst F (v := (0 : Int32)) (by decide) dX9_shares_29 ?_
    refine Z.goto F (tgt := 45) dX9_shares_30 (by decide) ?_
    exact Z.sub [] rfl (hj45 (0 : Int32))
  exact Z.sub [] rfl (hj20)
set_option maxHeartbeats 4000000 in
theorem k_X9_longest (l : Launch) (h0 : Nat) : ZCi l yX9_longest (ws_ yX9_longest cX9_longest 3 (some .int)) 1 23 0 0 false [zv h0] (f_X9_longest h0) := by
  refine Z.metI (by decide +kernel) (fun h => ⟨rfl, rfl⟩) (L0 := [(0, zv h0)]) (by first | (rw [zla_v, zla_0]; done) | (rw [zla_v, zla_0]; rfl)) (by rw [zsl_v, zsl_0]; exact Nat.le_of_ble_eq_true rfl) ?_
  intro p e R s m args below meth c D A n0 sz k F
  have F : ZF p R s m args meth c cX9_longest 3 "SafeBucketsModel" "longest" (some .int) D A false sz 0 0 1 23 := F
  unfold f_X9_longest
  refine Z.iconst F (v := (0 : Int32)) (by decide) dX9_longest_0 ?_
  refine Z.istore_n F (L0 := [(0, zv h0)]) [0] rfl (zkR rfl zkN) (by decide) dX9_longest_1 ?_
  refine Z.iconst F (v := (1 : Int32)) (by decide) dX9_longest_2 ?_
  refine Z.istore_n F (L0 := [(1, .int (0 : Int32)), (0, zv h0)]) [0, 1] rfl (zkI rfl (zkR rfl zkN)) (by decide) dX9_longest_3 ?_
  refine Z.sub [2, 1, 0] rfl ?_
  refine Z.w2 (Lf := fun p4l1 p4l2 => [(0, zv h0), (1, .int p4l1), (2, .int p4l2)]) (sf := fun p4l1 p4l2 => []) (fun r4 hr4 p4l1 p4l2 => ?_) (0 : Int32) (1 : Int32)
  refine Z.iload_n F 2 rfl dX9_longest_4 ?_
  refine Z.aload_n F 0 rfl dX9_longest_5 ?_
  refine gfX9_150 F dX9_longest_6 (fun g6 => ?_)
  refine Z.icmp_ge F (tgt := 37) dX9_longest_9 (by decide) ?_ ?_
  · refine Z.iload_n F 1 rfl dX9_longest_37 ?_
    exact Z.iret F dX9_longest_38
  refine Z.aload_n F 0 rfl dX9_longest_12 ?_
  refine Z.iload_n F 2 rfl dX9_longest_13 ?_
  refine clX9_161 F ⟨Nat.le_of_ble_eq_true rfl, Nat.le_of_ble_eq_true rfl⟩ (zlw4 (Nat.le_of_ble_eq_true rfl)) dX9_longest_14 (fun r14 => ?_)
  refine Z.aload_n F 0 rfl dX9_longest_17 ?_
  refine Z.iload_n F 1 rfl dX9_longest_18 ?_
  refine clX9_161 F ⟨Nat.le_of_ble_eq_true rfl, Nat.le_of_ble_eq_true rfl⟩ (zlw4 (Nat.le_of_ble_eq_true rfl)) dX9_longest_19 (fun r19 => ?_)
  refine Z.jn1 (J := _) (fun p30s0 => [(0, zv h0), (2, .int p4l2)]) (fun p30s0 => [.int p30s0]) 30 (fun p30s0 => ?_) (fun j30 hj30 => ?_)
  · refine Z.istore_n F (L0 := [(0, zv h0), (2, .int p4l2)]) [0, 1] rfl (zkR rfl (zkI rfl zkN)) (by decide) dX9_longest_30 ?_
    refine Z.iinc F (L0 := [(1, .int p30s0), (0, zv h0)]) (k0 := 2) (v := (1 : Int32)) rfl (by decide) [0, 1] rfl (zkI rfl (zkR rfl zkN)) (by decide) dX9_longest_31 ?_
    refine Z.goto F (tgt := 4) dX9_longest_34 (by decide) ?_
    exact Z.sub [2, 1, 0] rfl (hr4 p30s0 (p4l2 + (1 : Int32)))
  refine Z.icmp_le F (tgt := 29) dX9_longest_22 (by decide) ?_ ?_
  · refine Z.iload_n F 1 rfl dX9_longest_29 ?_
    exact Z.sub [0, 2] rfl (hj30 p4l1)
  refine Z.iload_n F 2 rfl dX9_longest_25 ?_
  refine Z.goto F (tgt := 30) dX9_longest_26 (by decide) ?_
  exact Z.sub [0, 2] rfl (hj30 p4l2)
set_option maxHeartbeats 4000000 in
theorem k_X9_mostDrifted (l : Launch) (h0 : Nat) : ZCi l yX9_mostDrifted (ws_ yX9_mostDrifted cX9_mostDrifted 3 (some .int)) 2 42 0 0 false [zv h0] (f_X9_mostDrifted h0) := by
  refine Z.metI (by decide +kernel) (fun h => ⟨rfl, rfl⟩) (L0 := [(0, zv h0)]) (by first | (rw [zla_v, zla_0]; done) | (rw [zla_v, zla_0]; rfl)) (by rw [zsl_v, zsl_0]; exact Nat.le_of_ble_eq_true rfl) ?_
  intro p e R s m args below meth c D A n0 sz k F
  have F : ZF p R s m args meth c cX9_mostDrifted 3 "SafeBucketsModel" "mostDrifted" (some .int) D A false sz 0 0 2 42 := F
  unfold f_X9_mostDrifted
  refine Z.iconst F (v := (0 : Int32)) (by decide) dX9_mostDrifted_0 ?_
  refine Z.istore_n F (L0 := [(0, zv h0)]) [0] rfl (zkR rfl zkN) (by decide) dX9_mostDrifted_1 ?_
  refine Z.iconst F (v := (1 : Int32)) (by decide) dX9_mostDrifted_2 ?_
  refine Z.istore_n F (L0 := [(1, .int (0 : Int32)), (0, zv h0)]) [0, 1] rfl (zkI rfl (zkR rfl zkN)) (by decide) dX9_mostDrifted_3 ?_
  refine Z.jn1 (J := _) (fun p57l1 => [(1, .int p57l1)]) (fun p57l1 => []) 57 (fun p57l1 => ?_) (fun j57 hj57 => ?_)
  · refine Z.bipush F (v := (10 : Int32)) (by decide) dX9_mostDrifted_57 ?_
    refine Z.iload_n F 0 rfl dX9_mostDrifted_59 ?_
    refine Z.iconst F (v := (2 : Int32)) (by decide) dX9_mostDrifted_60 ?_
    refine Z.idiv F dX9_mostDrifted_61 ?_
    refine Z.imul F dX9_mostDrifted_62 ?_
    refine Z.iload_n F 0 rfl dX9_mostDrifted_63 ?_
    refine Z.iconst F (v := (2 : Int32)) (by decide) dX9_mostDrifted_64 ?_
    refine Z.irem F dX9_mostDrifted_65 ?_
    refine Z.iadd F dX9_mostDrifted_66 ?_
    refine Z.nmI (fun v66 => ?_)
    exact Z.iret F dX9_mostDrifted_67
  refine Z.sub [2, 1, 0] rfl ?_
  refine Z.w2 (Lf := fun p4l1 p4l2 => [(0, zv h0), (1, .int p4l1), (2, .int p4l2)]) (sf := fun p4l1 p4l2 => []) (fun r4 hr4 p4l1 p4l2 => ?_) (0 : Int32) (1 : Int32)
  refine Z.iload_n F 2 rfl dX9_mostDrifted_4 ?_
  refine Z.iconst F (v := (2 : Int32)) (by decide) dX9_mostDrifted_5 ?_
  refine Z.aload_n F 0 rfl dX9_mostDrifted_6 ?_
  refine gfX9_150 F dX9_mostDrifted_7 (fun g7 => ?_)
  refine Z.imul F dX9_mostDrifted_10 ?_
  refine Z.icmp_ge F (tgt := 57) dX9_mostDrifted_11 (by decide) ?_ ?_
  · exact Z.sub [1] rfl (hj57 p4l1)
  refine Z.aload_n F 0 rfl dX9_mostDrifted_14 ?_
  refine gfX9_34 F dX9_mostDrifted_15 (fun g15 => ?_)
  refine Z.iload_n F 2 rfl dX9_mostDrifted_18 ?_
  refine Z.iconst F (v := (2 : Int32)) (by decide) dX9_mostDrifted_19 ?_
  refine Z.idiv F dX9_mostDrifted_20 ?_
  refine Z.iload_n F 2 rfl dX9_mostDrifted_21 ?_
  refine Z.iconst F (v := (2 : Int32)) (by decide) dX9_mostDrifted_22 ?_
  refine Z.irem F dX9_mostDrifted_23 ?_
  refine clX9_199 F ⟨Nat.le_of_ble_eq_true rfl, Nat.le_of_ble_eq_true rfl⟩ (zlw4 (Nat.le_of_ble_eq_true rfl)) dX9_mostDrifted_24 (fun r24 => ?_)
  refine Z.iald F dX9_mostDrifted_27 (fun g27 => ?_)
  refine Z.aload_n F 0 rfl dX9_mostDrifted_28 ?_
  refine gfX9_34 F dX9_mostDrifted_29 (fun g29 => ?_)
  refine Z.iload_n F 1 rfl dX9_mostDrifted_32 ?_
  refine Z.iconst F (v := (2 : Int32)) (by decide) dX9_mostDrifted_33 ?_
  refine Z.idiv F dX9_mostDrifted_34 ?_
  refine Z.iload_n F 1 rfl dX9_mostDrifted_35 ?_
  refine Z.iconst F (v := (2 : Int32)) (by decide) dX9_mostDrifted_36 ?_
  refine Z.irem F dX9_mostDrifted_37 ?_
  refine clX9_199 F ⟨Nat.le_of_ble_eq_true rfl, Nat.le_of_ble_eq_true rfl⟩ (zlw4 (Nat.le_of_ble_eq_true rfl)) dX9_mostDrifted_38 (fun r38 => ?_)
  refine Z.iald F dX9_mostDrifted_41 (fun g41 => ?_)
  refine Z.jn1 (J := _) (fun p50s0 => [(0, zv h0), (2, .int p4l2)]) (fun p50s0 => [.int p50s0]) 50 (fun p50s0 => ?_) (fun j50 hj50 => ?_)
  · refine Z.istore_n F (L0 := [(0, zv h0), (2, .int p4l2)]) [0, 1] rfl (zkR rfl (zkI rfl zkN)) (by decide) dX9_mostDrifted_50 ?_
    refine Z.iinc F (L0 := [(1, .int p50s0), (0, zv h0)]) (k0 := 2) (v := (1 : Int32)) rfl (by decide) [0, 1] rfl (zkI rfl (zkR rfl zkN)) (by decide) dX9_mostDrifted_51 ?_
    refine Z.goto F (tgt := 4) dX9_mostDrifted_54 (by decide) ?_
    exact Z.sub [2, 1, 0] rfl (hr4 p50s0 (p4l2 + (1 : Int32)))
  refine Z.icmp_le F (tgt := 49) dX9_mostDrifted_42 (by decide) ?_ ?_
  · refine Z.iload_n F 1 rfl dX9_mostDrifted_49 ?_
    exact Z.sub [0, 2] rfl (hj50 p4l1)
  refine Z.iload_n F 2 rfl dX9_mostDrifted_45 ?_
  refine Z.goto F (tgt := 50) dX9_mostDrifted_46 (by decide) ?_
  exact Z.sub [0, 2] rfl (hj50 p4l2)
set_option maxHeartbeats 4000000 in
theorem k_X9_greatestTotal (l : Launch) (h0 : Nat) : ZCi l yX9_greatestTotal (ws_ yX9_greatestTotal cX9_greatestTotal 4 (some .int)) 2 45 0 0 false [zv h0] (f_X9_greatestTotal h0) := by
  refine Z.metI (by decide +kernel) (fun h => ⟨rfl, rfl⟩) (L0 := [(0, zv h0)]) (by first | (rw [zla_v, zla_0]; done) | (rw [zla_v, zla_0]; rfl)) (by rw [zsl_v, zsl_0]; exact Nat.le_of_ble_eq_true rfl) ?_
  intro p e R s m args below meth c D A n0 sz k F
  have F : ZF p R s m args meth c cX9_greatestTotal 4 "SafeBucketsModel" "greatestTotal" (some .int) D A false sz 0 0 2 45 := F
  unfold f_X9_greatestTotal
  refine Z.iconst F (v := (0 : Int32)) (by decide) dX9_greatestTotal_0 ?_
  refine Z.istore_n F (L0 := [(0, zv h0)]) [0] rfl (zkR rfl zkN) (by decide) dX9_greatestTotal_1 ?_
  refine Z.iconst F (v := (0 : Int32)) (by decide) dX9_greatestTotal_2 ?_
  refine Z.istore_n F (L0 := [(1, .int (0 : Int32)), (0, zv h0)]) [0, 1] rfl (zkI rfl (zkR rfl zkN)) (by decide) dX9_greatestTotal_3 ?_
  refine Z.sub [2, 1, 0] rfl ?_
  refine Z.w2 (Lf := fun p4l1 p4l2 => [(0, zv h0), (1, .int p4l1), (2, .int p4l2)]) (sf := fun p4l1 p4l2 => []) (fun r4 hr4 p4l1 p4l2 => ?_) (0 : Int32) (0 : Int32)
  refine Z.iload_n F 2 rfl dX9_greatestTotal_4 ?_
  refine Z.iconst F (v := (2 : Int32)) (by decide) dX9_greatestTotal_5 ?_
  refine Z.aload_n F 0 rfl dX9_greatestTotal_6 ?_
  refine gfX9_150 F dX9_greatestTotal_7 (fun g7 => ?_)
  refine Z.imul F dX9_greatestTotal_10 ?_
  refine Z.icmp_ge F (tgt := 59) dX9_greatestTotal_11 (by decide) ?_ ?_
  · refine Z.iload_n F 1 rfl dX9_greatestTotal_59 ?_
    exact Z.iret F dX9_greatestTotal_60
  refine Z.iconst F (v := (0 : Int32)) (by decide) dX9_greatestTotal_14 ?_
  refine Z.istore_n F (L0 := [(0, zv h0), (1, .int p4l1), (2, .int p4l2)]) [0, 1, 2] rfl (zkR rfl (zkI rfl (zkI rfl zkN))) (by decide) dX9_greatestTotal_15 ?_
  refine Z.jn2 (J := _) (fun p53l1 p53l2 => [(0, zv h0), (1, .int p53l1), (2, .int p53l2)]) (fun p53l1 p53l2 => []) 53 (fun p53l1 p53l2 => ?_) (fun j53 hj53 => ?_)
  · refine Z.iinc F (L0 := [(0, zv h0), (1, .int p53l1)]) (k0 := 2) (v := (1 : Int32)) rfl (by decide) [0, 1] rfl (zkR rfl (zkI rfl zkN)) (by decide) dX9_greatestTotal_53 ?_
    refine Z.goto F (tgt := 4) dX9_greatestTotal_56 (by decide) ?_
    exact Z.sub [1, 2, 0] rfl (hr4 p53l1 (p53l2 + (1 : Int32)))
  refine Z.sub [1, 2, 3, 0] rfl ?_
  refine Z.w3 (Lf := fun p16l1 p16l2 p16l3 => [(0, zv h0), (1, .int p16l1), (2, .int p16l2), (3, .int p16l3)]) (sf := fun p16l1 p16l2 p16l3 => []) (fun r16 hr16 p16l1 p16l2 p16l3 => ?_) p4l1 p4l2 (0 : Int32)
  refine Z.iload_n F 3 rfl dX9_greatestTotal_16 ?_
  refine Z.aload_n F 0 rfl dX9_greatestTotal_17 ?_
  refine Z.iload_n F 2 rfl dX9_greatestTotal_18 ?_
  refine Z.iconst F (v := (2 : Int32)) (by decide) dX9_greatestTotal_19 ?_
  refine Z.idiv F dX9_greatestTotal_20 ?_
  refine Z.iload_n F 2 rfl dX9_greatestTotal_21 ?_
  refine Z.iconst F (v := (2 : Int32)) (by decide) dX9_greatestTotal_22 ?_
  refine Z.irem F dX9_greatestTotal_23 ?_
  refine clX9_238 F ⟨Nat.le_of_ble_eq_true rfl, Nat.le_of_ble_eq_true rfl⟩ (zlw4 (Nat.le_of_ble_eq_true rfl)) dX9_greatestTotal_24 (fun r24 => ?_)
  refine Z.icmp_ge F (tgt := 53) dX9_greatestTotal_27 (by decide) ?_ ?_
  · exact Z.sub [0, 1, 2] rfl (hj53 p16l1 p16l2)
  refine Z.iload_n F 1 rfl dX9_greatestTotal_30 ?_
  refine Z.aload_n F 0 rfl dX9_greatestTotal_31 ?_
  refine Z.iload_n F 2 rfl dX9_greatestTotal_32 ?_
  refine Z.iconst F (v := (2 : Int32)) (by decide) dX9_greatestTotal_33 ?_
  refine Z.idiv F dX9_greatestTotal_34 ?_
  refine Z.iload_n F 2 rfl dX9_greatestTotal_35 ?_
  refine Z.iconst F (v := (2 : Int32)) (by decide) dX9_greatestTotal_36 ?_
  refine Z.irem F dX9_greatestTotal_37 ?_
  refine Z.iload_n F 3 rfl dX9_greatestTotal_38 ?_
  refine Z.iconst F (v := (2 : Int32)) (by decide) dX9_greatestTotal_39 ?_
  refine clX9_241 F ⟨Nat.le_of_ble_eq_true rfl, Nat.le_of_ble_eq_true rfl⟩ (zlw4 (Nat.le_of_ble_eq_true rfl)) dX9_greatestTotal_40 (fun r40 => ?_)
  refine Z.mmax F q1794 (Nat.le_of_ble_eq_true rfl) (Nat.le_of_ble_eq_true rfl) (zlw4 (Nat.le_of_ble_eq_true rfl)) dX9_greatestTotal_43 ?_
  refine Z.istore_n F (L0 := [(0, zv h0), (2, .int p16l2), (3, .int p16l3)]) [0, 2, 3] rfl (zkR rfl (zkI rfl (zkI rfl zkN))) (by decide) dX9_greatestTotal_46 ?_
  refine Z.iinc F (L0 := [(1, .int (if p16l1 < r40 then r40 else p16l1)), (0, zv h0), (2, .int p16l2)]) (k0 := 3) (v := (1 : Int32)) rfl (by decide) [0, 1, 2] rfl (zkI rfl (zkR rfl (zkI rfl zkN))) (by decide) dX9_greatestTotal_47 ?_
  refine Z.goto F (tgt := 16) dX9_greatestTotal_50 (by decide) ?_
  exact Z.sub [2, 1, 3, 0] rfl (hr16 (if p16l1 < r40 then r40 else p16l1) p16l2 (p16l3 + (1 : Int32)))
set_option maxHeartbeats 4000000 in
theorem k_X9_mostAlike (l : Launch) (h0 : Nat) : ZCi l yX9_mostAlike (ws_ yX9_mostAlike cX9_mostAlike 4 (some .int)) 1 21 0 0 false [zv h0] (f_X9_mostAlike h0) := by
  refine Z.metI (by decide +kernel) (fun h => ⟨rfl, rfl⟩) (L0 := [(0, zv h0)]) (by first | (rw [zla_v, zla_0]; done) | (rw [zla_v, zla_0]; rfl)) (by rw [zsl_v, zsl_0]; exact Nat.le_of_ble_eq_true rfl) ?_
  intro p e R s m args below meth c D A n0 sz k F
  have F : ZF p R s m args meth c cX9_mostAlike 4 "SafeBucketsModel" "mostAlike" (some .int) D A false sz 0 0 1 21 := F
  unfold f_X9_mostAlike
  refine Z.iconst F (v := (0 : Int32)) (by decide) dX9_mostAlike_0 ?_
  refine Z.istore_n F (L0 := [(0, zv h0)]) [0] rfl (zkR rfl zkN) (by decide) dX9_mostAlike_1 ?_
  refine Z.iconst F (v := (0 : Int32)) (by decide) dX9_mostAlike_2 ?_
  refine Z.istore_n F (L0 := [(1, .int (0 : Int32)), (0, zv h0)]) [0, 1] rfl (zkI rfl (zkR rfl zkN)) (by decide) dX9_mostAlike_3 ?_
  refine Z.sub [2, 1, 0] rfl ?_
  refine Z.w2 (Lf := fun p4l1 p4l2 => [(0, zv h0), (1, .int p4l1), (2, .int p4l2)]) (sf := fun p4l1 p4l2 => []) (fun r4 hr4 p4l1 p4l2 => ?_) (0 : Int32) (0 : Int32)
  refine Z.iload_n F 2 rfl dX9_mostAlike_4 ?_
  refine Z.aload_n F 0 rfl dX9_mostAlike_5 ?_
  refine gfX9_150 F dX9_mostAlike_6 (fun g6 => ?_)
  refine Z.icmp_ge F (tgt := 50) dX9_mostAlike_9 (by decide) ?_ ?_
  · refine Z.iload_n F 1 rfl dX9_mostAlike_50 ?_
    exact Z.iret F dX9_mostAlike_51
  refine Z.iconst F (v := (0 : Int32)) (by decide) dX9_mostAlike_12 ?_
  refine Z.istore_n F (L0 := [(0, zv h0), (1, .int p4l1), (2, .int p4l2)]) [0, 1, 2] rfl (zkR rfl (zkI rfl (zkI rfl zkN))) (by decide) dX9_mostAlike_13 ?_
  refine Z.jn2 (J := _) (fun p44l1 p44l2 => [(0, zv h0), (1, .int p44l1), (2, .int p44l2)]) (fun p44l1 p44l2 => []) 44 (fun p44l1 p44l2 => ?_) (fun j44 hj44 => ?_)
  · refine Z.iinc F (L0 := [(0, zv h0), (1, .int p44l1)]) (k0 := 2) (v := (1 : Int32)) rfl (by decide) [0, 1] rfl (zkR rfl (zkI rfl zkN)) (by decide) dX9_mostAlike_44 ?_
    refine Z.goto F (tgt := 4) dX9_mostAlike_47 (by decide) ?_
    exact Z.sub [1, 2, 0] rfl (hr4 p44l1 (p44l2 + (1 : Int32)))
  refine Z.sub [1, 2, 3, 0] rfl ?_
  refine Z.w3 (Lf := fun p14l1 p14l2 p14l3 => [(0, zv h0), (1, .int p14l1), (2, .int p14l2), (3, .int p14l3)]) (sf := fun p14l1 p14l2 p14l3 => []) (fun r14 hr14 p14l1 p14l2 p14l3 => ?_) p4l1 p4l2 (0 : Int32)
  refine Z.iload_n F 3 rfl dX9_mostAlike_14 ?_
  refine Z.sipush F (v := (289 : Int32)) (by decide) dX9_mostAlike_15 ?_
  refine Z.icmp_ge F (tgt := 44) dX9_mostAlike_18 (by decide) ?_ ?_
  · exact Z.sub [0, 1, 2] rfl (hj44 p14l1 p14l2)
  refine Z.iload_n F 1 rfl dX9_mostAlike_21 ?_
  refine Z.aload_n F 0 rfl dX9_mostAlike_22 ?_
  refine gfX9_34 F dX9_mostAlike_23 (fun g23 => ?_)
  refine Z.sipush F (v := (357 : Int32)) (by decide) dX9_mostAlike_26 ?_
  refine Z.iload_n F 2 rfl dX9_mostAlike_29 ?_
  refine Z.imul F dX9_mostAlike_30 ?_
  refine Z.iload_n F 3 rfl dX9_mostAlike_31 ?_
  refine Z.iadd F dX9_mostAlike_32 ?_
  refine Z.iald F dX9_mostAlike_33 (fun g33 => ?_)
  refine Z.mmax F q1794 (Nat.le_of_ble_eq_true rfl) (Nat.le_of_ble_eq_true rfl) (zlw4 (Nat.le_of_ble_eq_true rfl)) dX9_mostAlike_34 ?_
  refine Z.istore_n F (L0 := [(0, zv h0), (2, .int p14l2), (3, .int p14l3)]) [0, 2, 3] rfl (zkR rfl (zkI rfl (zkI rfl zkN))) (by decide) dX9_mostAlike_37 ?_
  refine Z.iinc F (L0 := [(1, .int (if p14l1 < g33 then g33 else p14l1)), (0, zv h0), (2, .int p14l2)]) (k0 := 3) (v := (1 : Int32)) rfl (by decide) [0, 1, 2] rfl (zkI rfl (zkR rfl (zkI rfl zkN))) (by decide) dX9_mostAlike_38 ?_
  refine Z.goto F (tgt := 14) dX9_mostAlike_41 (by decide) ?_
  exact Z.sub [2, 1, 3, 0] rfl (hr14 (if p14l1 < g33 then g33 else p14l1) p14l2 (p14l3 + (1 : Int32)))
set_option maxHeartbeats 4000000 in
theorem k_X9_commonest (l : Launch) (h0 : Nat) : ZCi l yX9_commonest (ws_ yX9_commonest cX9_commonest 6 (some .int)) 3 71 0 0 false [zv h0] (f_X9_commonest h0) := by
  refine Z.metI (by decide +kernel) (fun h => ⟨rfl, rfl⟩) (L0 := [(0, zv h0)]) (by first | (rw [zla_v, zla_0]; done) | (rw [zla_v, zla_0]; rfl)) (by rw [zsl_v, zsl_0]; exact Nat.le_of_ble_eq_true rfl) ?_
  intro p e R s m args below meth c D A n0 sz k F
  have F : ZF p R s m args meth c cX9_commonest 6 "SafeBucketsModel" "commonest" (some .int) D A false sz 0 0 3 71 := F
  unfold f_X9_commonest
  refine Z.iconst F (v := (0 : Int32)) (by decide) dX9_commonest_0 ?_
  refine Z.istore_n F (L0 := [(0, zv h0)]) [0] rfl (zkR rfl zkN) (by decide) dX9_commonest_1 ?_
  refine Z.iconst F (v := (-1 : Int32)) (by decide) dX9_commonest_2 ?_
  refine Z.istore_n F (L0 := [(1, .int (0 : Int32)), (0, zv h0)]) [0, 1] rfl (zkI rfl (zkR rfl zkN)) (by decide) dX9_commonest_3 ?_
  refine Z.iconst F (v := (0 : Int32)) (by decide) dX9_commonest_4 ?_
  refine Z.istore_n F (L0 := [(2, .int (-1 : Int32)), (1, .int (0 : Int32)), (0, zv h0)]) [0, 1, 2] rfl (zkI rfl (zkI rfl (zkR rfl zkN))) (by decide) dX9_commonest_5 ?_
  refine Z.sub [3, 2, 1, 0] rfl ?_
  refine Z.w3 (Lf := fun p6l1 p6l2 p6l3 => [(0, zv h0), (1, .int p6l1), (2, .int p6l2), (3, .int p6l3)]) (sf := fun p6l1 p6l2 p6l3 => []) (fun r6 hr6 p6l1 p6l2 p6l3 => ?_) (0 : Int32) (-1 : Int32) (0 : Int32)
  refine Z.iload_n F 3 rfl dX9_commonest_6 ?_
  refine Z.bipush F (v := (16 : Int32)) (by decide) dX9_commonest_7 ?_
  refine Z.icmp_ge F (tgt := 64) dX9_commonest_9 (by decide) ?_ ?_
  · refine Z.iload_n F 1 rfl dX9_commonest_64 ?_
    exact Z.iret F dX9_commonest_65
  refine Z.iconst F (v := (0 : Int32)) (by decide) dX9_commonest_12 ?_
  refine Z.istore F (L0 := [(0, zv h0), (1, .int p6l1), (2, .int p6l2), (3, .int p6l3)]) [0, 1, 2, 3] rfl (zkR rfl (zkI rfl (zkI rfl (zkI rfl zkN)))) (by decide) dX9_commonest_13 ?_
  refine Z.jn3 (J := _) (fun p58l1 p58l2 p58l3 => [(0, zv h0), (1, .int p58l1), (2, .int p58l2), (3, .int p58l3)]) (fun p58l1 p58l2 p58l3 => []) 58 (fun p58l1 p58l2 p58l3 => ?_) (fun j58 hj58 => ?_)
  · refine Z.iinc F (L0 := [(0, zv h0), (1, .int p58l1), (2, .int p58l2)]) (k0 := 3) (v := (1 : Int32)) rfl (by decide) [0, 1, 2] rfl (zkR rfl (zkI rfl (zkI rfl zkN))) (by decide) dX9_commonest_58 ?_
    refine Z.goto F (tgt := 6) dX9_commonest_61 (by decide) ?_
    exact Z.sub [1, 2, 3, 0] rfl (hr6 p58l1 p58l2 (p58l3 + (1 : Int32)))
  refine Z.sub [1, 2, 3, 4, 0] rfl ?_
  refine Z.w4 (Lf := fun p15l1 p15l2 p15l3 p15l4 => [(0, zv h0), (1, .int p15l1), (2, .int p15l2), (3, .int p15l3), (4, .int p15l4)]) (sf := fun p15l1 p15l2 p15l3 p15l4 => []) (fun r15 hr15 p15l1 p15l2 p15l3 p15l4 => ?_) p6l1 p6l2 p6l3 (0 : Int32)
  refine Z.iload F 4 rfl dX9_commonest_15 ?_
  refine Z.iconst F (v := (2 : Int32)) (by decide) dX9_commonest_17 ?_
  refine Z.aload_n F 0 rfl dX9_commonest_18 ?_
  refine gfX9_150 F dX9_commonest_19 (fun g19 => ?_)
  refine Z.imul F dX9_commonest_22 ?_
  refine Z.icmp_ge F (tgt := 58) dX9_commonest_23 (by decide) ?_ ?_
  · exact Z.sub [0, 1, 2, 3] rfl (hj58 p15l1 p15l2 p15l3)
  refine Z.aload_n F 0 rfl dX9_commonest_26 ?_
  refine Z.iload F 4 rfl dX9_commonest_27 ?_
  refine Z.iconst F (v := (2 : Int32)) (by decide) dX9_commonest_29 ?_
  refine Z.idiv F dX9_commonest_30 ?_
  refine Z.iload F 4 rfl dX9_commonest_31 ?_
  refine Z.iconst F (v := (2 : Int32)) (by decide) dX9_commonest_33 ?_
  refine Z.irem F dX9_commonest_34 ?_
  refine Z.iload_n F 3 rfl dX9_commonest_35 ?_
  refine clX9_375 F ⟨Nat.le_of_ble_eq_true rfl, Nat.le_of_ble_eq_true rfl⟩ (zlw4 (Nat.le_of_ble_eq_true rfl)) dX9_commonest_36 (fun r36 => ?_)
  refine Z.istore F (L0 := [(0, zv h0), (1, .int p15l1), (2, .int p15l2), (3, .int p15l3), (4, .int p15l4)]) [0, 1, 2, 3, 4] rfl (zkR rfl (zkI rfl (zkI rfl (zkI rfl (zkI rfl zkN))))) (by decide) dX9_commonest_39 ?_
  refine Z.iload F 0 rfl dX9_commonest_41 ?_
  refine Z.iload_n F 3 rfl dX9_commonest_43 ?_
  refine Z.jn2 (J := _) (fun p52l1 p52l2 => [(0, zv h0), (1, .int p52l1), (2, .int p52l2), (3, .int p15l3), (4, .int p15l4)]) (fun p52l1 p52l2 => []) 52 (fun p52l1 p52l2 => ?_) (fun j52 hj52 => ?_)
  · refine Z.iinc F (L0 := [(0, zv h0), (1, .int p52l1), (2, .int p52l2), (3, .int p15l3)]) (k0 := 4) (v := (1 : Int32)) rfl (by decide) [0, 1, 2, 3] rfl (zkR rfl (zkI rfl (zkI rfl (zkI rfl zkN)))) (by decide) dX9_commonest_52 ?_
    refine Z.goto F (tgt := 15) dX9_commonest_55 (by decide) ?_
    exact Z.sub [1, 2, 3, 4, 0] rfl (hr15 p52l1 p52l2 p15l3 (p15l4 + (1 : Int32)))
  refine Z.icmp_le F (tgt := 52) dX9_commonest_44 (by decide) ?_ ?_
  · exact Z.sub [1, 2, 3, 4, 5] rfl (hj52 p15l1 p15l2)
  refine Z.iload_n F 4 rfl dX9_commonest_47 ?_
  refine Z.istore_n F (L0 := [(5, .int r36), (0, zv h0), (2, .int p15l2), (3, .int p15l3), (4, .int p15l4)]) [0, 1, 3, 4, 5] rfl (zkI rfl (zkR rfl (zkI rfl (zkI rfl (zkI rfl zkN))))) (by decide) dX9_commonest_48 ?_
  refine Z.iload F 1 rfl dX9_commonest_49 ?_
  refine Z.istore_n F (L0 := [(1, .int p15l3), (5, .int r36), (0, zv h0), (3, .int p15l3), (4, .int p15l4)]) [0, 1, 2, 4, 5] rfl (zkI rfl (zkI rfl (zkR rfl (zkI rfl (zkI rfl zkN))))) (by decide) dX9_commonest_51 ?_
  exact Z.sub [3, 1, 0, 4, 5] rfl (hj52 p15l3 r36)
theorem clX9_405 (F : ZF p R s m args meth c cc nL "SafeBucketsModel" nm ret D A al sz mc ms fr lo) {h0 : Nat} {K : Int32 → ZM → Prop} (hR : 1 + 1 ≤ fr ∧ 8 + (3 + 11) + 23 ≤ lo) (hst4 : zlw st) (hdg : decode cc pc = .ok (.invokevirtual 405, 3)) (k : ∀ r, ZW p l e R s m args below meth c Q nL D A al n0 (K r) (pc + 3) L (.int r :: st)) : ZW p l e R s m args below meth c Q nL D A al n0 (zat 7 h0 (f_X9_longest h0 K)) pc L (zv h0 :: st) :=
  Z.ri0 _ (fun μ H locs cells slots ls hI h hP => Z.V0 F hI (n := 0) (ci := 6) rfl (by decide) hP.1 hP.2 (k_X9_longest l h0 D A (zX μ, zC μ, zS μ) H.size K μ) q2105 q2107 qs110 q126 q2108 (by decide +kernel) rfl h.1 hst4 hR rfl hdg) k
theorem clX9_408 (F : ZF p R s m args meth c cc nL "SafeBucketsModel" nm ret D A al sz mc ms fr lo) {h0 : Nat} {K : Int32 → ZM → Prop} (hR : 2 + 1 ≤ fr ∧ 8 + (3 + 11) + 42 ≤ lo) (hst4 : zlw st) (hdg : decode cc pc = .ok (.invokevirtual 408, 3)) (k : ∀ r, ZW p l e R s m args below meth c Q nL D A al n0 (K r) (pc + 3) L (.int r :: st)) : ZW p l e R s m args below meth c Q nL D A al n0 (zat 7 h0 (f_X9_mostDrifted h0 K)) pc L (zv h0 :: st) :=
  Z.ri0 _ (fun μ H locs cells slots ls hI h hP => Z.V0 F hI (n := 0) (ci := 6) rfl (by decide) hP.1 hP.2 (k_X9_mostDrifted l h0 D A (zX μ, zC μ, zS μ) H.size K μ) q2109 q2111 qs111 q126 q2112 (by decide +kernel) rfl h.1 hst4 hR rfl hdg) k
theorem clX9_411 (F : ZF p R s m args meth c cc nL "SafeBucketsModel" nm ret D A al sz mc ms fr lo) {h0 : Nat} {K : Int32 → ZM → Prop} (hR : 2 + 1 ≤ fr ∧ 8 + (4 + 11) + 45 ≤ lo) (hst4 : zlw st) (hdg : decode cc pc = .ok (.invokevirtual 411, 3)) (k : ∀ r, ZW p l e R s m args below meth c Q nL D A al n0 (K r) (pc + 3) L (.int r :: st)) : ZW p l e R s m args below meth c Q nL D A al n0 (zat 7 h0 (f_X9_greatestTotal h0 K)) pc L (zv h0 :: st) :=
  Z.ri0 _ (fun μ H locs cells slots ls hI h hP => Z.V0 F hI (n := 0) (ci := 6) rfl (by decide) hP.1 hP.2 (k_X9_greatestTotal l h0 D A (zX μ, zC μ, zS μ) H.size K μ) q2113 q2115 qs112 q126 q2116 (by decide +kernel) rfl h.1 hst4 hR rfl hdg) k
theorem clX9_414 (F : ZF p R s m args meth c cc nL "SafeBucketsModel" nm ret D A al sz mc ms fr lo) {h0 : Nat} {K : Int32 → ZM → Prop} (hR : 1 + 1 ≤ fr ∧ 8 + (4 + 11) + 21 ≤ lo) (hst4 : zlw st) (hdg : decode cc pc = .ok (.invokevirtual 414, 3)) (k : ∀ r, ZW p l e R s m args below meth c Q nL D A al n0 (K r) (pc + 3) L (.int r :: st)) : ZW p l e R s m args below meth c Q nL D A al n0 (zat 7 h0 (f_X9_mostAlike h0 K)) pc L (zv h0 :: st) :=
  Z.ri0 _ (fun μ H locs cells slots ls hI h hP => Z.V0 F hI (n := 0) (ci := 6) rfl (by decide) hP.1 hP.2 (k_X9_mostAlike l h0 D A (zX μ, zC μ, zS μ) H.size K μ) q2117 q2119 qs113 q126 q2120 (by decide +kernel) rfl h.1 hst4 hR rfl hdg) k
theorem clX9_417 (F : ZF p R s m args meth c cc nL "SafeBucketsModel" nm ret D A al sz mc ms fr lo) {h0 : Nat} {K : Int32 → ZM → Prop} (hR : 3 + 1 ≤ fr ∧ 8 + (6 + 11) + 71 ≤ lo) (hst4 : zlw st) (hdg : decode cc pc = .ok (.invokevirtual 417, 3)) (k : ∀ r, ZW p l e R s m args below meth c Q nL D A al n0 (K r) (pc + 3) L (.int r :: st)) : ZW p l e R s m args below meth c Q nL D A al n0 (zat 7 h0 (f_X9_commonest h0 K)) pc L (zv h0 :: st) :=
  Z.ri0 _ (fun μ H locs cells slots ls hI h hP => Z.V0 F hI (n := 0) (ci := 6) rfl (by decide) hP.1 hP.2 (k_X9_commonest l h0 D A (zX μ, zC μ, zS μ) H.size K μ) q2121 q2123 qs114 q126 q2124 (by decide +kernel) rfl h.1 hst4 hR rfl hdg) k
set_option maxHeartbeats 4000000 in
theorem k_X9_most (l : Launch) (h0 : Nat) (x1 : Int32) : ZCi l yX9_most (ws_ yX9_most cX9_most 2 (some .int)) 4 96 0 0 false [zv h0, .int x1] (f_X9_most h0 x1) := by
  refine Z.metI (by decide +kernel) (fun h => ⟨rfl, rfl⟩) (L0 := [(0, zv h0), (1, .int x1)]) (by first | (rw [zla_v, zla_i, zla_0]; done) | (rw [zla_v, zla_i, zla_0]; rfl)) (by rw [zsl_v, zsl_i, zsl_0]; exact Nat.le_of_ble_eq_true rfl) ?_
  intro p e R s m args below meth c D A n0 sz k F
  have F : ZF p R s m args meth c cX9_most 2 "SafeBucketsModel" "most" (some .int) D A false sz 0 0 4 96 := F
  unfold f_X9_most
  refine Z.aload_n F 0 rfl dX9_most_0 ?_
  refine clX9_225 F ⟨Nat.le_of_ble_eq_true rfl, Nat.le_of_ble_eq_true rfl⟩ (zlw4 (Nat.le_of_ble_eq_true rfl)) dX9_most_1 (fun r1 => ?_)
  refine Z.jn0 (J := _) ([]) ([]) 19 (?_) (fun j19 hj19 => ?_)
  · refine Z.ldcI F q1850 dX9_most_19 ?_
    exact Z.iret F dX9_most_21
  refine Z.if_eq F (tgt := 19) dX9_most_4 (by decide) ?_ ?_
  · exact Z.sub [] rfl (hj19)
  refine Z.iload_n F 1 rfl dX9_most_7 ?_
  refine Z.i2l F dX9_most_8 ?_
  refine Z.lconst F (w := (0 : Int64)) (by decide) dX9_most_9 ?_
  refine Z.ldc2 F q2104 dX9_most_10 ?_
  refine clX9_77 F ⟨Nat.le_of_ble_eq_true rfl, Nat.le_of_ble_eq_true rfl⟩ (zlw4 (Nat.le_of_ble_eq_true rfl)) dX9_most_13 (fun r13 => ?_)
  refine Z.if_ne F (tgt := 22) dX9_most_16 (by decide) ?_ ?_
  · refine Z.iload_n F 1 rfl dX9_most_22 ?_
    refine Z.table F (tgts := [56, 61, 66, 71, 76]) (tgt := 81) dX9_most_23 rfl (by decide) (by decide) (by decide) ?_ ?_
    · refine Z.aload_n F 0 rfl dX9_most_81 ?_
      refine clX9_417 F ⟨Nat.le_of_ble_eq_true rfl, Nat.le_of_ble_eq_true rfl⟩ (zlw4 (Nat.le_of_ble_eq_true rfl)) dX9_most_82 (fun r82 => ?_)
      exact Z.iret F dX9_most_85
    intro i9 P9 t9 e9 e8
    match i9, e9, e8 with
    | 0, e9, e8 =>
      cases e9; cases e8
      refine Z.aload_n F 0 rfl dX9_most_56 ?_
      refine clX9_405 F ⟨Nat.le_of_ble_eq_true rfl, Nat.le_of_ble_eq_true rfl⟩ (zlw4 (Nat.le_of_ble_eq_true rfl)) dX9_most_57 (fun r57 => ?_)
      exact Z.iret F dX9_most_60
    | 1, e9, e8 =>
      cases e9; cases e8
      refine Z.aload_n F 0 rfl dX9_most_61 ?_
      refine clX9_408 F ⟨Nat.le_of_ble_eq_true rfl, Nat.le_of_ble_eq_true rfl⟩ (zlw4 (Nat.le_of_ble_eq_true rfl)) dX9_most_62 (fun r62 => ?_)
      exact Z.iret F dX9_most_65
    | 2, e9, e8 =>
      cases e9; cases e8
      refine Z.aload_n F 0 rfl dX9_most_66 ?_
      refine clX9_411 F ⟨Nat.le_of_ble_eq_true rfl, Nat.le_of_ble_eq_true rfl⟩ (zlw4 (Nat.le_of_ble_eq_true rfl)) dX9_most_67 (fun r67 => ?_)
      exact Z.iret F dX9_most_70
    | 3, e9, e8 =>
      cases e9; cases e8
      refine Z.aload_n F 0 rfl dX9_most_71 ?_
      refine clX9_414 F ⟨Nat.le_of_ble_eq_true rfl, Nat.le_of_ble_eq_true rfl⟩ (zlw4 (Nat.le_of_ble_eq_true rfl)) dX9_most_72 (fun r72 => ?_)
      exact Z.iret F dX9_most_75
    | 4, e9, e8 =>
      cases e9; cases e8
      refine Z.aload_n F 0 rfl dX9_most_76 ?_
      refine clX9_318 F ⟨Nat.le_of_ble_eq_true rfl, Nat.le_of_ble_eq_true rfl⟩ (zlw4 (Nat.le_of_ble_eq_true rfl)) dX9_most_77 (fun r77 => ?_)
      exact Z.iret F dX9_most_80
    | n + 5, e9, e8 => simp at e9
  exact Z.sub [] rfl (hj19)
theorem gfX9_63 (F : ZF p R s m args meth c cc nL "SafeBucketsModel" nm ret D A al sz mc ms fr lo) {z : Nat} {K : Nat → ZM → Prop} (hdg : decode cc pc = .ok (.getfield 63, 3)) (k : ∀ u, ZW p l e R s m args below meth c Q nL D A al n0 (K u) (pc + 3) L (zv u :: st)) : ZW p l e R s m args below meth c Q nL D A al n0 (zgR 7 z 31 K) pc L (zv z :: st) :=
  Z.getR F (ref := "SafeBucketsModel") in_X9 (ci := 6) rfl (by decide) (kf := 31) (by decide) q1601 (fun _ h => h) rfl hdg k
set_option maxHeartbeats 4000000 in
theorem k_X9_image (l : Launch) (h0 : Nat) : ZCi l yX9_image (ws_ yX9_image cX9_image 2 (some .int)) 2 45 0 0 false [zv h0] (f_X9_image h0) := by
  refine Z.metI (by decide +kernel) (fun h => ⟨rfl, rfl⟩) (L0 := [(0, zv h0)]) (by first | (rw [zla_v, zla_0]; done) | (rw [zla_v, zla_0]; rfl)) (by rw [zsl_v, zsl_0]; exact Nat.le_of_ble_eq_true rfl) ?_
  intro p e R s m args below meth c D A n0 sz k F
  have F : ZF p R s m args meth c cX9_image 2 "SafeBucketsModel" "image" (some .int) D A false sz 0 0 2 45 := F
  unfold f_X9_image
  refine Z.aload_n F 0 rfl dX9_image_0 ?_
  refine clX9_225 F ⟨Nat.le_of_ble_eq_true rfl, Nat.le_of_ble_eq_true rfl⟩ (zlw4 (Nat.le_of_ble_eq_true rfl)) dX9_image_1 (fun r1 => ?_)
  refine Z.if_ne F (tgt := 9) dX9_image_4 (by decide) ?_ ?_
  · refine Z.iconst F (v := (0 : Int32)) (by decide) dX9_image_9 ?_
    refine Z.istore_n F (L0 := [(0, zv h0)]) [0] rfl (zkR rfl zkN) (by decide) dX9_image_10 ?_
    refine Z.jn0 (J := _) ([(0, zv h0)]) ([]) 36 (?_) (fun j36 hj36 => ?_)
    · refine Z.aload_n F 0 rfl dX9_image_36 ?_
      refine Z.iconst F (v := (1 : Int32)) (by decide) dX9_image_37 ?_
      refine pfX9_215 F dX9_image_38 ?_
      refine Z.aload_n F 0 rfl dX9_image_41 ?_
      refine clX9_318 F ⟨Nat.le_of_ble_eq_true rfl, Nat.le_of_ble_eq_true rfl⟩ (zlw4 (Nat.le_of_ble_eq_true rfl)) dX9_image_42 (fun r42 => ?_)
      exact Z.iret F dX9_image_45
    refine Z.sub [1, 0] rfl ?_
    refine Z.w1 (Lf := fun p11l1 => [(0, zv h0), (1, .int p11l1)]) (sf := fun p11l1 => []) (fun r11 hr11 p11l1 => ?_) (0 : Int32)
    refine Z.iload_n F 1 rfl dX9_image_11 ?_
    refine Z.sipush F (v := (1253 : Int32)) (by decide) dX9_image_12 ?_
    refine Z.icmp_ge F (tgt := 36) dX9_image_15 (by decide) ?_ ?_
    · exact Z.sub [0] rfl (hj36)
    refine Z.aload_n F 0 rfl dX9_image_18 ?_
    refine gfX9_63 F dX9_image_19 (fun g19 => ?_)
    refine Z.iload_n F 1 rfl dX9_image_22 ?_
    refine Z.aload_n F 0 rfl dX9_image_23 ?_
    refine gfX9_34 F dX9_image_24 (fun g24 => ?_)
    refine Z.iload_n F 1 rfl dX9_image_27 ?_
    refine Z.iald F dX9_image_28 (fun g28 => ?_)
    refine Z.iast F dX9_image_29 ?_
    refine Z.iinc F (L0 := [(0, zv h0)]) (k0 := 1) (v := (1 : Int32)) rfl (by decide) [0] rfl (zkR rfl zkN) (by decide) dX9_image_30 ?_
    refine Z.goto F (tgt := 11) dX9_image_33 (by decide) ?_
    exact Z.sub [1, 0] rfl (hr11 (p11l1 + (1 : Int32)))
  refine Z.iconst F (v := (-1 : Int32)) (by decide) dX9_image_7 ?_
  exact Z.iret F dX9_image_8
theorem gfX9_215 (F : ZF p R s m args meth c cc nL "SafeBucketsModel" nm ret D A al sz mc ms fr lo) {z : Nat} {K : Int32 → ZM → Prop} (hdg : decode cc pc = .ok (.getfield 215, 3)) (k : ∀ u, ZW p l e R s m args below meth c Q nL D A al n0 (K u) (pc + 3) L (.int u :: st)) : ZW p l e R s m args below meth c Q nL D A al n0 (zgI 7 z 32 K) pc L (zv z :: st) :=
  Z.getI F (ref := "SafeBucketsModel") in_X9 (ci := 6) rfl (by decide) (kf := 32) (by decide) q1602 (fun _ h => h) rfl hdg k
set_option maxHeartbeats 4000000 in
theorem k_X9_back (l : Launch) (h0 : Nat) : ZCi l yX9_back (ws_ yX9_back cX9_back 2 (some .int)) 2 45 0 0 false [zv h0] (f_X9_back h0) := by
  refine Z.metI (by decide +kernel) (fun h => ⟨rfl, rfl⟩) (L0 := [(0, zv h0)]) (by first | (rw [zla_v, zla_0]; done) | (rw [zla_v, zla_0]; rfl)) (by rw [zsl_v, zsl_0]; exact Nat.le_of_ble_eq_true rfl) ?_
  intro p e R s m args below meth c D A n0 sz k F
  have F : ZF p R s m args meth c cX9_back 2 "SafeBucketsModel" "back" (some .int) D A false sz 0 0 2 45 := F
  unfold f_X9_back
  refine Z.aload_n F 0 rfl dX9_back_0 ?_
  refine gfX9_215 F dX9_back_1 (fun g1 => ?_)
  refine Z.if_ne F (tgt := 9) dX9_back_4 (by decide) ?_ ?_
  · refine Z.iconst F (v := (0 : Int32)) (by decide) dX9_back_9 ?_
    refine Z.istore_n F (L0 := [(0, zv h0)]) [0] rfl (zkR rfl zkN) (by decide) dX9_back_10 ?_
    refine Z.jn0 (J := _) ([(0, zv h0)]) ([]) 36 (?_) (fun j36 hj36 => ?_)
    · refine Z.aload_n F 0 rfl dX9_back_36 ?_
      refine Z.iconst F (v := (0 : Int32)) (by decide) dX9_back_37 ?_
      refine pfX9_212 F dX9_back_38 ?_
      refine Z.aload_n F 0 rfl dX9_back_41 ?_
      refine clX9_318 F ⟨Nat.le_of_ble_eq_true rfl, Nat.le_of_ble_eq_true rfl⟩ (zlw4 (Nat.le_of_ble_eq_true rfl)) dX9_back_42 (fun r42 => ?_)
      exact Z.iret F dX9_back_45
    refine Z.sub [1, 0] rfl ?_
    refine Z.w1 (Lf := fun p11l1 => [(0, zv h0), (1, .int p11l1)]) (sf := fun p11l1 => []) (fun r11 hr11 p11l1 => ?_) (0 : Int32)
    refine Z.iload_n F 1 rfl dX9_back_11 ?_
    refine Z.sipush F (v := (1253 : Int32)) (by decide) dX9_back_12 ?_
    refine Z.icmp_ge F (tgt := 36) dX9_back_15 (by decide) ?_ ?_
    · exact Z.sub [0] rfl (hj36)
    refine Z.aload_n F 0 rfl dX9_back_18 ?_
    refine gfX9_34 F dX9_back_19 (fun g19 => ?_)
    refine Z.iload_n F 1 rfl dX9_back_22 ?_
    refine Z.aload_n F 0 rfl dX9_back_23 ?_
    refine gfX9_63 F dX9_back_24 (fun g24 => ?_)
    refine Z.iload_n F 1 rfl dX9_back_27 ?_
    refine Z.iald F dX9_back_28 (fun g28 => ?_)
    refine Z.iast F dX9_back_29 ?_
    refine Z.iinc F (L0 := [(0, zv h0)]) (k0 := 1) (v := (1 : Int32)) rfl (by decide) [0] rfl (zkR rfl zkN) (by decide) dX9_back_30 ?_
    refine Z.goto F (tgt := 11) dX9_back_33 (by decide) ?_
    exact Z.sub [1, 0] rfl (hr11 (p11l1 + (1 : Int32)))
  refine Z.iconst F (v := (-1 : Int32)) (by decide) dX9_back_7 ?_
  exact Z.iret F dX9_back_8
set_option maxHeartbeats 4000000 in
theorem k_X9_count (l : Launch) (h0 : Nat) (x1 : Int32) : ZCi l yX9_count (ws_ yX9_count cX9_count 2 (some .int)) 0 0 0 0 false [zv h0, .int x1] (f_X9_count h0 x1) := by
  refine Z.metI (by decide +kernel) (fun h => ⟨rfl, rfl⟩) (L0 := [(0, zv h0), (1, .int x1)]) (by first | (rw [zla_v, zla_i, zla_0]; done) | (rw [zla_v, zla_i, zla_0]; rfl)) (by rw [zsl_v, zsl_i, zsl_0]; exact Nat.le_of_ble_eq_true rfl) ?_
  intro p e R s m args below meth c D A n0 sz k F
  have F : ZF p R s m args meth c cX9_count 2 "SafeBucketsModel" "count" (some .int) D A false sz 0 0 0 0 := F
  unfold f_X9_count
  refine Z.iload_n F 1 rfl dX9_count_0 ?_
  refine Z.table F (tgts := [40, 45, 50, 55, 64, 69]) (tgt := 74) dX9_count_1 rfl (by decide) (by decide) (by decide) ?_ ?_
  · refine Z.ldcI F q1850 dX9_count_74 ?_
    exact Z.iret F dX9_count_76
  intro i9 P9 t9 e9 e8
  match i9, e9, e8 with
  | 0, e9, e8 =>
    cases e9; cases e8
    refine Z.aload_n F 0 rfl dX9_count_40 ?_
    refine gfX9_150 F dX9_count_41 (fun g41 => ?_)
    exact Z.iret F dX9_count_44
  | 1, e9, e8 =>
    cases e9; cases e8
    refine Z.aload_n F 0 rfl dX9_count_45 ?_
    refine gfX9_222 F dX9_count_46 (fun g46 => ?_)
    exact Z.iret F dX9_count_49
  | 2, e9, e8 =>
    cases e9; cases e8
    refine Z.aload_n F 0 rfl dX9_count_50 ?_
    refine gfX9_74 F dX9_count_51 (fun g51 => ?_)
    exact Z.iret F dX9_count_54
  | 3, e9, e8 =>
    cases e9; cases e8
    refine Z.aload_n F 0 rfl dX9_count_55 ?_
    refine gfX9_34 F dX9_count_56 (fun g56 => ?_)
    refine Z.sipush F (v := (1072 : Int32)) (by decide) dX9_count_59 ?_
    refine Z.iald F dX9_count_62 (fun g62 => ?_)
    exact Z.iret F dX9_count_63
  | 4, e9, e8 =>
    cases e9; cases e8
    refine Z.aload_n F 0 rfl dX9_count_64 ?_
    refine gfX9_212 F dX9_count_65 (fun g65 => ?_)
    exact Z.iret F dX9_count_68
  | 5, e9, e8 =>
    cases e9; cases e8
    refine Z.aload_n F 0 rfl dX9_count_69 ?_
    refine gfX9_323 F dX9_count_70 (fun g70 => ?_)
    exact Z.iret F dX9_count_73
  | n + 6, e9, e8 => simp at e9
end ZWalk
