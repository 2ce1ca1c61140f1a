section ZWalk
variable {p : Program} {l : Launch} {e : Env} {R : Room} {s : State} {m : MethodId} {args : Array Value} {below : List Frame} {meth : Method} {c : Code} {Q : State → Prop} {nL : Nat} {D : ZD} {A : Nat → Prop} {al : Bool} {n0 : Nat × Nat × Nat} {cc : ByteArray} {nm : String} {ret : Option FieldType} {sz mc ms fr lo : Nat}
variable {P : ZM → Prop} {pc : Nat} {L : List (Nat × Value)} {st : List Value}
set_option maxHeartbeats 4000000 in
theorem k_X1_shares (l : Launch) (h0 : Nat) (x1 : Int32) (x2 : Int32) : ZCi l yX1_shares (ws_ yX1_shares cX1_shares 3 (some .int)) 1 25 0 0 false [zv h0, .int x1, .int x2] (f_X1_shares h0 x1 x2) := by
  refine Z.metI (by decide +kernel) (fun h => ⟨rfl, rfl⟩) (L0 := [(0, zv h0), (1, .int x1), (2, .int x2)]) (by first | (rw [zla_v, zla_i, zla_i, zla_0]; done) | (rw [zla_v, zla_i, zla_i, zla_0]; rfl)) (by rw [zsl_v, zsl_i, zsl_i, zsl_0]; exact Nat.le_of_ble_eq_true rfl) ?_
  intro p e R s m args below meth c D A n0 sz k F
  have F : ZF p R s m args meth c cX1_shares 3 "SafeBuckets" "shares" (some .int) D A false sz 0 0 1 25 := F
  unfold f_X1_shares
  refine Z.aload_n F 0 rfl dX1_shares_0 ?_
  refine Z.iload_n F 1 rfl dX1_shares_1 ?_
  refine clX1_194 F ⟨Nat.le_of_ble_eq_true rfl, Nat.le_of_ble_eq_true rfl⟩ (zlw4 (Nat.le_of_ble_eq_true rfl)) dX1_shares_2 (fun r2 => ?_)
  refine Z.jn0 (J := _) ([]) ([]) 20 (?_) (fun j20 hj20 => ?_)
  · refine Z.iconst F (v := (-1 : Int32)) (by decide) dX1_shares_20 ?_
    exact Z.iret F dX1_shares_21
  refine Z.if_eq F (tgt := 20) dX1_shares_5 (by decide) ?_ ?_
  · exact Z.sub [] rfl (hj20)
  refine Z.iload_n F 2 rfl dX1_shares_8 ?_
  refine Z.i2l F dX1_shares_9 ?_
  refine Z.lconst F (w := (0 : Int64)) (by decide) dX1_shares_10 ?_
  refine Z.ldc2 F q1091 dX1_shares_11 ?_
  refine clX1_97 F ⟨Nat.le_of_ble_eq_true rfl, Nat.le_of_ble_eq_true rfl⟩ (zlw4 (Nat.le_of_ble_eq_true rfl)) dX1_shares_14 (fun r14 => ?_)
  refine Z.if_ne F (tgt := 22) dX1_shares_17 (by decide) ?_ ?_
  · refine Z.aload_n F 0 rfl dX1_shares_22 ?_
    refine gfX1_59 F dX1_shares_23 (fun g23 => ?_)
    refine clX1_339 F ⟨Nat.le_of_ble_eq_true rfl, Nat.le_of_ble_eq_true rfl⟩ (zlw4 (Nat.le_of_ble_eq_true rfl)) dX1_shares_26 (fun r26 => ?_)
    refine Z.jn1 (J := _) (fun p54s0 => []) (fun p54s0 => [.int p54s0]) 54 (fun p54s0 => ?_) (fun j54 hj54 => ?_)
    · exact Z.iret F dX1_shares_54
    refine Z.if_ne F (tgt := 36) dX1_shares_29 (by decide) ?_ ?_
    · refine Z.iload_n F 2 rfl dX1_shares_36 ?_
      refine Z.aload_n F 0 rfl dX1_shares_37 ?_
      refine Z.iload_n F 1 rfl dX1_shares_38 ?_
      refine clX1_218 F ⟨Nat.le_of_ble_eq_true rfl, Nat.le_of_ble_eq_true rfl⟩ (zlw4 (Nat.le_of_ble_eq_true rfl)) dX1_shares_39 (fun r39 => ?_)
      refine gfX1_222 F dX1_shares_42 (fun g42 => ?_)
      refine Z.imul F dX1_shares_45 ?_
      refine Z.aload_n F 0 rfl dX1_shares_46 ?_
      refine gfX1_59 F dX1_shares_47 (fun g47 => ?_)
      refine clX1_339 F ⟨Nat.le_of_ble_eq_true rfl, Nat.le_of_ble_eq_true rfl⟩ (zlw4 (Nat.le_of_ble_eq_true rfl)) dX1_shares_50 (fun r50 => ?_)
      refine Z.idiv F dX1_shares_53 ?_
      exact Z.sub [] rfl (hj54 ((x2 * g42) / r50))
    refine Z.iconst F (v := (0 : Int32)) (by decide) dX1_shares_32 ?_
    refine Z.goto F (tgt := 54) dX1_shares_33 (by decide) ?_
    exact Z.sub [] rfl (hj54 (0 : Int32))
  exact Z.sub [] rfl (hj20)
set_option maxHeartbeats 4000000 in
theorem k_X1_greatestRows (l : Launch) (h0 : Nat) : ZCi l yX1_greatestRows (ws_ yX1_greatestRows cX1_greatestRows 3 (some .int)) 1 21 0 0 false [zv h0] (f_X1_greatestRows h0) := by
  refine Z.metI (by decide +kernel) (fun h => ⟨rfl, rfl⟩) (L0 := [(0, zv h0)]) (by first | (rw [zla_v, zla_0]; done) | (rw [zla_v, zla_0]; rfl)) (by rw [zsl_v, zsl_0]; exact Nat.le_of_ble_eq_true rfl) ?_
  intro p e R s m args below meth c D A n0 sz k F
  have F : ZF p R s m args meth c cX1_greatestRows 3 "SafeBuckets" "greatestRows" (some .int) D A false sz 0 0 1 21 := F
  unfold f_X1_greatestRows
  refine Z.iconst F (v := (0 : Int32)) (by decide) dX1_greatestRows_0 ?_
  refine Z.istore_n F (L0 := [(0, zv h0)]) [0] rfl (zkR rfl zkN) (by decide) dX1_greatestRows_1 ?_
  refine Z.iconst F (v := (1 : Int32)) (by decide) dX1_greatestRows_2 ?_
  refine Z.istore_n F (L0 := [(1, .int (0 : Int32)), (0, zv h0)]) [0, 1] rfl (zkI rfl (zkR rfl zkN)) (by decide) dX1_greatestRows_3 ?_
  refine Z.sub [2, 1, 0] rfl ?_
  refine Z.w2 (Lf := fun p4l1 p4l2 => [(0, zv h0), (1, .int p4l1), (2, .int p4l2)]) (sf := fun p4l1 p4l2 => []) (fun r4 hr4 p4l1 p4l2 => ?_) (0 : Int32) (1 : Int32)
  refine Z.iload_n F 2 rfl dX1_greatestRows_4 ?_
  refine Z.aload_n F 0 rfl dX1_greatestRows_5 ?_
  refine gfX1_93 F dX1_greatestRows_6 (fun g6 => ?_)
  refine gfX1_139 F dX1_greatestRows_9 (fun g9 => ?_)
  refine Z.icmp_ge F (tgt := 46) dX1_greatestRows_12 (by decide) ?_ ?_
  · refine Z.iload_n F 1 rfl dX1_greatestRows_46 ?_
    exact Z.iret F dX1_greatestRows_47
  refine Z.aload_n F 0 rfl dX1_greatestRows_15 ?_
  refine Z.iload_n F 2 rfl dX1_greatestRows_16 ?_
  refine clX1_218 F ⟨Nat.le_of_ble_eq_true rfl, Nat.le_of_ble_eq_true rfl⟩ (zlw4 (Nat.le_of_ble_eq_true rfl)) dX1_greatestRows_17 (fun r17 => ?_)
  refine gfX1_222 F dX1_greatestRows_20 (fun g20 => ?_)
  refine Z.aload_n F 0 rfl dX1_greatestRows_23 ?_
  refine Z.iload_n F 1 rfl dX1_greatestRows_24 ?_
  refine clX1_218 F ⟨Nat.le_of_ble_eq_true rfl, Nat.le_of_ble_eq_true rfl⟩ (zlw4 (Nat.le_of_ble_eq_true rfl)) dX1_greatestRows_25 (fun r25 => ?_)
  refine gfX1_222 F dX1_greatestRows_28 (fun g28 => ?_)
  refine Z.jn1 (J := _) (fun p39s0 => [(0, zv h0), (2, .int p4l2)]) (fun p39s0 => [.int p39s0]) 39 (fun p39s0 => ?_) (fun j39 hj39 => ?_)
  · refine Z.istore_n F (L0 := [(0, zv h0), (2, .int p4l2)]) [0, 1] rfl (zkR rfl (zkI rfl zkN)) (by decide) dX1_greatestRows_39 ?_
    refine Z.iinc F (L0 := [(1, .int p39s0), (0, zv h0)]) (k0 := 2) (v := (1 : Int32)) rfl (by decide) [0, 1] rfl (zkI rfl (zkR rfl zkN)) (by decide) dX1_greatestRows_40 ?_
    refine Z.goto F (tgt := 4) dX1_greatestRows_43 (by decide) ?_
    exact Z.sub [2, 1, 0] rfl (hr4 p39s0 (p4l2 + (1 : Int32)))
  refine Z.icmp_le F (tgt := 38) dX1_greatestRows_31 (by decide) ?_ ?_
  · refine Z.iload_n F 1 rfl dX1_greatestRows_38 ?_
    exact Z.sub [0, 2] rfl (hj39 p4l1)
  refine Z.iload_n F 2 rfl dX1_greatestRows_34 ?_
  refine Z.goto F (tgt := 39) dX1_greatestRows_35 (by decide) ?_
  exact Z.sub [0, 2] rfl (hj39 p4l2)
set_option maxHeartbeats 4000000 in
theorem k_X1_mostDrifted (l : Launch) (h0 : Nat) : ZCi l yX1_mostDrifted (ws_ yX1_mostDrifted cX1_mostDrifted 4 (some .int)) 1 21 0 0 false [zv h0] (f_X1_mostDrifted h0) := by
  refine Z.metI (by decide +kernel) (fun h => ⟨rfl, rfl⟩) (L0 := [(0, zv h0)]) (by first | (rw [zla_v, zla_0]; done) | (rw [zla_v, zla_0]; rfl)) (by rw [zsl_v, zsl_0]; exact Nat.le_of_ble_eq_true rfl) ?_
  intro p e R s m args below meth c D A n0 sz k F
  have F : ZF p R s m args meth c cX1_mostDrifted 4 "SafeBuckets" "mostDrifted" (some .int) D A false sz 0 0 1 21 := F
  unfold f_X1_mostDrifted
  refine Z.iconst F (v := (0 : Int32)) (by decide) dX1_mostDrifted_0 ?_
  refine Z.istore_n F (L0 := [(0, zv h0)]) [0] rfl (zkR rfl zkN) (by decide) dX1_mostDrifted_1 ?_
  refine Z.iconst F (v := (0 : Int32)) (by decide) dX1_mostDrifted_2 ?_
  refine Z.istore_n F (L0 := [(1, .int (0 : Int32)), (0, zv h0)]) [0, 1] rfl (zkI rfl (zkR rfl zkN)) (by decide) dX1_mostDrifted_3 ?_
  refine Z.sub [2, 1, 0] rfl ?_
  refine Z.w2 (Lf := fun p4l1 p4l2 => [(0, zv h0), (1, .int p4l1), (2, .int p4l2)]) (sf := fun p4l1 p4l2 => []) (fun r4 hr4 p4l1 p4l2 => ?_) (0 : Int32) (0 : Int32)
  refine Z.iload_n F 2 rfl dX1_mostDrifted_4 ?_
  refine Z.aload_n F 0 rfl dX1_mostDrifted_5 ?_
  refine gfX1_93 F dX1_mostDrifted_6 (fun g6 => ?_)
  refine gfX1_139 F dX1_mostDrifted_9 (fun g9 => ?_)
  refine Z.icmp_ge F (tgt := 76) dX1_mostDrifted_12 (by decide) ?_ ?_
  · refine Z.iload_n F 1 rfl dX1_mostDrifted_76 ?_
    exact Z.iret F dX1_mostDrifted_77
  refine Z.iconst F (v := (0 : Int32)) (by decide) dX1_mostDrifted_15 ?_
  refine Z.istore_n F (L0 := [(0, zv h0), (1, .int p4l1), (2, .int p4l2)]) [0, 1, 2] rfl (zkR rfl (zkI rfl (zkI rfl zkN))) (by decide) dX1_mostDrifted_16 ?_
  refine Z.jn2 (J := _) (fun p70l1 p70l2 => [(0, zv h0), (1, .int p70l1), (2, .int p70l2)]) (fun p70l1 p70l2 => []) 70 (fun p70l1 p70l2 => ?_) (fun j70 hj70 => ?_)
  · refine Z.iinc F (L0 := [(0, zv h0), (1, .int p70l1)]) (k0 := 2) (v := (1 : Int32)) rfl (by decide) [0, 1] rfl (zkR rfl (zkI rfl zkN)) (by decide) dX1_mostDrifted_70 ?_
    refine Z.goto F (tgt := 4) dX1_mostDrifted_73 (by decide) ?_
    exact Z.sub [1, 2, 0] rfl (hr4 p70l1 (p70l2 + (1 : Int32)))
  refine Z.sub [1, 2, 3, 0] rfl ?_
  refine Z.w3 (Lf := fun p17l1 p17l2 p17l3 => [(0, zv h0), (1, .int p17l1), (2, .int p17l2), (3, .int p17l3)]) (sf := fun p17l1 p17l2 p17l3 => []) (fun r17 hr17 p17l1 p17l2 p17l3 => ?_) p4l1 p4l2 (0 : Int32)
  refine Z.iload_n F 3 rfl dX1_mostDrifted_17 ?_
  refine Z.iconst F (v := (2 : Int32)) (by decide) dX1_mostDrifted_18 ?_
  refine Z.icmp_ge F (tgt := 70) dX1_mostDrifted_19 (by decide) ?_ ?_
  · exact Z.sub [0, 1, 2] rfl (hj70 p17l1 p17l2)
  refine Z.aload_n F 0 rfl dX1_mostDrifted_22 ?_
  refine Z.iload_n F 2 rfl dX1_mostDrifted_23 ?_
  refine clX1_218 F ⟨Nat.le_of_ble_eq_true rfl, Nat.le_of_ble_eq_true rfl⟩ (zlw4 (Nat.le_of_ble_eq_true rfl)) dX1_mostDrifted_24 (fun r24 => ?_)
  refine gfX1_242 F dX1_mostDrifted_27 (fun g27 => ?_)
  refine Z.iload_n F 3 rfl dX1_mostDrifted_30 ?_
  refine Z.aald F (t := 7) (by decide) rfl rfl dX1_mostDrifted_31 (fun g31 => ?_)
  refine gfX1_262 F dX1_mostDrifted_32 (fun g32 => ?_)
  refine Z.aload_n F 0 rfl dX1_mostDrifted_35 ?_
  refine Z.iload_n F 1 rfl dX1_mostDrifted_36 ?_
  refine Z.bipush F (v := (10 : Int32)) (by decide) dX1_mostDrifted_37 ?_
  refine Z.idiv F dX1_mostDrifted_39 ?_
  refine clX1_218 F ⟨Nat.le_of_ble_eq_true rfl, Nat.le_of_ble_eq_true rfl⟩ (zlw4 (Nat.le_of_ble_eq_true rfl)) dX1_mostDrifted_40 (fun r40 => ?_)
  refine gfX1_242 F dX1_mostDrifted_43 (fun g43 => ?_)
  refine Z.iload_n F 1 rfl dX1_mostDrifted_46 ?_
  refine Z.bipush F (v := (10 : Int32)) (by decide) dX1_mostDrifted_47 ?_
  refine Z.irem F dX1_mostDrifted_49 ?_
  refine Z.aald F (t := 7) (by decide) rfl rfl dX1_mostDrifted_50 (fun g50 => ?_)
  refine gfX1_262 F dX1_mostDrifted_51 (fun g51 => ?_)
  refine Z.jn1 (J := _) (fun p64l1 => [(0, zv h0), (1, .int p64l1), (2, .int p17l2), (3, .int p17l3)]) (fun p64l1 => []) 64 (fun p64l1 => ?_) (fun j64 hj64 => ?_)
  · refine Z.iinc F (L0 := [(0, zv h0), (1, .int p64l1), (2, .int p17l2)]) (k0 := 3) (v := (1 : Int32)) rfl (by decide) [0, 1, 2] rfl (zkR rfl (zkI rfl (zkI rfl zkN))) (by decide) dX1_mostDrifted_64 ?_
    refine Z.goto F (tgt := 17) dX1_mostDrifted_67 (by decide) ?_
    exact Z.sub [1, 2, 3, 0] rfl (hr17 p64l1 p17l2 (p17l3 + (1 : Int32)))
  refine Z.icmp_le F (tgt := 64) dX1_mostDrifted_54 (by decide) ?_ ?_
  · exact Z.sub [0, 1, 2, 3] rfl (hj64 p17l1)
  refine Z.bipush F (v := (10 : Int32)) (by decide) dX1_mostDrifted_57 ?_
  refine Z.iload_n F 2 rfl dX1_mostDrifted_59 ?_
  refine Z.imul F dX1_mostDrifted_60 ?_
  refine Z.iload_n F 3 rfl dX1_mostDrifted_61 ?_
  refine Z.iadd F dX1_mostDrifted_62 ?_
  refine Z.istore_n F (L0 := [(0, zv h0), (2, .int p17l2), (3, .int p17l3)]) [0, 2, 3] rfl (zkR rfl (zkI rfl (zkI rfl zkN))) (by decide) dX1_mostDrifted_63 ?_
  exact Z.sub [1, 0, 2, 3] rfl (hj64 (((10 : Int32) * p17l2) + p17l3))
set_option maxHeartbeats 4000000 in
theorem k_X1_greatestTotal (l : Launch) (h0 : Nat) : ZCi l yX1_greatestTotal (ws_ yX1_greatestTotal cX1_greatestTotal 8 (some .int)) 1 21 0 0 false [zv h0] (f_X1_greatestTotal h0) := by
  refine Z.metI (by decide +kernel) (fun h => ⟨rfl, rfl⟩) (L0 := [(0, zv h0)]) (by first | (rw [zla_v, zla_0]; done) | (rw [zla_v, zla_0]; rfl)) (by rw [zsl_v, zsl_0]; exact Nat.le_of_ble_eq_true rfl) ?_
  intro p e R s m args below meth c D A n0 sz k F
  have F : ZF p R s m args meth c cX1_greatestTotal 8 "SafeBuckets" "greatestTotal" (some .int) D A false sz 0 0 1 21 := F
  unfold f_X1_greatestTotal
  refine Z.iconst F (v := (0 : Int32)) (by decide) dX1_greatestTotal_0 ?_
  refine Z.istore_n F (L0 := [(0, zv h0)]) [0] rfl (zkR rfl zkN) (by decide) dX1_greatestTotal_1 ?_
  refine Z.iconst F (v := (0 : Int32)) (by decide) dX1_greatestTotal_2 ?_
  refine Z.istore_n F (L0 := [(1, .int (0 : Int32)), (0, zv h0)]) [0, 1] rfl (zkI rfl (zkR rfl zkN)) (by decide) dX1_greatestTotal_3 ?_
  refine Z.sub [2, 1, 0] rfl ?_
  refine Z.w2 (Lf := fun p4l1 p4l2 => [(0, zv h0), (1, .int p4l1), (2, .int p4l2)]) (sf := fun p4l1 p4l2 => []) (fun r4 hr4 p4l1 p4l2 => ?_) (0 : Int32) (0 : Int32)
  refine Z.iload_n F 2 rfl dX1_greatestTotal_4 ?_
  refine Z.aload_n F 0 rfl dX1_greatestTotal_5 ?_
  refine gfX1_93 F dX1_greatestTotal_6 (fun g6 => ?_)
  refine gfX1_139 F dX1_greatestTotal_9 (fun g9 => ?_)
  refine Z.icmp_ge F (tgt := 91) dX1_greatestTotal_12 (by decide) ?_ ?_
  · refine Z.iload_n F 1 rfl dX1_greatestTotal_91 ?_
    exact Z.iret F dX1_greatestTotal_92
  refine Z.aload_n F 0 rfl dX1_greatestTotal_15 ?_
  refine Z.iload_n F 2 rfl dX1_greatestTotal_16 ?_
  refine clX1_218 F ⟨Nat.le_of_ble_eq_true rfl, Nat.le_of_ble_eq_true rfl⟩ (zlw4 (Nat.le_of_ble_eq_true rfl)) dX1_greatestTotal_17 (fun r17 => ?_)
  refine gfX1_242 F dX1_greatestTotal_20 (fun g20 => ?_)
  refine Z.astore_n F (L0 := [(0, zv h0), (1, .int p4l1), (2, .int p4l2)]) [0, 1, 2] rfl (zkR rfl (zkI rfl (zkI rfl zkN))) (by decide) dX1_greatestTotal_23 ?_
  refine Z.aload_n F 0 rfl dX1_greatestTotal_24 ?_
  refine Z.alen F (t := 7) rfl dX1_greatestTotal_25 (fun g25 => ?_)
  refine Z.istore F (L0 := [(3, zv g20), (0, zv h0), (1, .int p4l1), (2, .int p4l2)]) [0, 1, 2, 3] rfl (zkR rfl (zkR rfl (zkI rfl (zkI rfl zkN)))) (by decide) dX1_greatestTotal_26 ?_
  refine Z.iconst F (v := (0 : Int32)) (by decide) dX1_greatestTotal_28 ?_
  refine Z.istore F (L0 := [(4, .int g25), (3, zv g20), (0, zv h0), (1, .int p4l1), (2, .int p4l2)]) [0, 1, 2, 3, 4] rfl (zkI rfl (zkR rfl (zkR rfl (zkI rfl (zkI rfl zkN))))) (by decide) dX1_greatestTotal_29 ?_
  refine Z.jn2 (J := _) (fun p85l1 p85l2 => [(0, zv h0), (1, .int p85l1), (2, .int p85l2)]) (fun p85l1 p85l2 => []) 85 (fun p85l1 p85l2 => ?_) (fun j85 hj85 => ?_)
  · refine Z.iinc F (L0 := [(0, zv h0), (1, .int p85l1)]) (k0 := 2) (v := (1 : Int32)) rfl (by decide) [0, 1] rfl (zkR rfl (zkI rfl zkN)) (by decide) dX1_greatestTotal_85 ?_
    refine Z.goto F (tgt := 4) dX1_greatestTotal_88 (by decide) ?_
    exact Z.sub [1, 2, 0] rfl (hr4 p85l1 (p85l2 + (1 : Int32)))
  refine Z.sub [3, 4, 5, 2, 1, 0] rfl ?_
  refine Z.w3 (Lf := fun p31l1 p31l2 p31l5 => [(0, zv h0), (1, .int p31l1), (2, .int p31l2), (3, zv g20), (4, .int g25), (5, .int p31l5)]) (sf := fun p31l1 p31l2 p31l5 => []) (fun r31 hr31 p31l1 p31l2 p31l5 => ?_) p4l1 p4l2 (0 : Int32)
  refine Z.iload F 5 rfl dX1_greatestTotal_31 ?_
  refine Z.iload F 4 rfl dX1_greatestTotal_33 ?_
  refine Z.icmp_ge F (tgt := 85) dX1_greatestTotal_35 (by decide) ?_ ?_
  · exact Z.sub [0, 1, 2] rfl (hj85 p31l1 p31l2)
  refine Z.aload_n F 3 rfl dX1_greatestTotal_38 ?_
  refine Z.iload F 5 rfl dX1_greatestTotal_39 ?_
  refine Z.aald F (t := 7) (by decide) rfl rfl dX1_greatestTotal_41 (fun g41 => ?_)
  refine Z.astore F (L0 := [(0, zv h0), (1, .int p31l1), (2, .int p31l2), (3, zv g20), (4, .int g25), (5, .int p31l5)]) [0, 1, 2, 3, 4, 5] rfl (zkR rfl (zkI rfl (zkI rfl (zkR rfl (zkI rfl (zkI rfl zkN)))))) (by decide) dX1_greatestTotal_42 ?_
  refine Z.iconst F (v := (0 : Int32)) (by decide) dX1_greatestTotal_44 ?_
  refine Z.istore F (L0 := [(6, zv g41), (0, zv h0), (1, .int p31l1), (2, .int p31l2), (3, zv g20), (4, .int g25), (5, .int p31l5)]) [0, 1, 2, 3, 4, 5, 6] rfl (zkR rfl (zkR rfl (zkI rfl (zkI rfl (zkR rfl (zkI rfl (zkI rfl zkN))))))) (by decide) dX1_greatestTotal_45 ?_
  refine Z.jn3 (J := _) (fun p79l1 p79l2 p79l5 => [(0, zv h0), (1, .int p79l1), (2, .int p79l2), (3, zv g20), (4, .int g25), (5, .int p79l5)]) (fun p79l1 p79l2 p79l5 => []) 79 (fun p79l1 p79l2 p79l5 => ?_) (fun j79 hj79 => ?_)
  · refine Z.iinc F (L0 := [(0, zv h0), (1, .int p79l1), (2, .int p79l2), (3, zv g20), (4, .int g25)]) (k0 := 5) (v := (1 : Int32)) rfl (by decide) [0, 1, 2, 3, 4] rfl (zkR rfl (zkI rfl (zkI rfl (zkR rfl (zkI rfl zkN))))) (by decide) dX1_greatestTotal_79 ?_
    refine Z.goto F (tgt := 31) dX1_greatestTotal_82 (by decide) ?_
    exact Z.sub [1, 2, 3, 4, 5, 0] rfl (hr31 p79l1 p79l2 (p79l5 + (1 : Int32)))
  refine Z.sub [2, 3, 4, 5, 6, 7, 1, 0] rfl ?_
  refine Z.w4 (Lf := fun p47l1 p47l2 p47l5 p47l7 => [(0, zv h0), (1, .int p47l1), (2, .int p47l2), (3, zv g20), (4, .int g25), (5, .int p47l5), (6, zv g41), (7, .int p47l7)]) (sf := fun p47l1 p47l2 p47l5 p47l7 => []) (fun r47 hr47 p47l1 p47l2 p47l5 p47l7 => ?_) p31l1 p31l2 p31l5 (0 : Int32)
  refine Z.iload F 7 rfl dX1_greatestTotal_47 ?_
  refine Z.aload F 6 rfl dX1_greatestTotal_49 ?_
  refine gfX1_246 F dX1_greatestTotal_51 (fun g51 => ?_)
  refine Z.icmp_ge F (tgt := 79) dX1_greatestTotal_54 (by decide) ?_ ?_
  · exact Z.sub [0, 1, 2, 3, 4, 5] rfl (hj79 p47l1 p47l2 p47l5)
  refine Z.iload_n F 1 rfl dX1_greatestTotal_57 ?_
  refine Z.aload F 6 rfl dX1_greatestTotal_58 ?_
  refine gfX1_249 F dX1_greatestTotal_60 (fun g60 => ?_)
  refine Z.iload F 7 rfl dX1_greatestTotal_63 ?_
  refine Z.aald F (t := 8) (by decide) rfl rfl dX1_greatestTotal_65 (fun g65 => ?_)
  refine gfX1_407 F dX1_greatestTotal_66 (fun g66 => ?_)
  refine Z.mmax F q1506 (Nat.le_of_ble_eq_true rfl) (Nat.le_of_ble_eq_true rfl) (zlw4 (Nat.le_of_ble_eq_true rfl)) dX1_greatestTotal_69 ?_
  refine Z.istore_n F (L0 := [(0, zv h0), (2, .int p47l2), (3, zv g20), (4, .int g25), (5, .int p47l5), (6, zv g41), (7, .int p47l7)]) [0, 2, 3, 4, 5, 6, 7] rfl (zkR rfl (zkI rfl (zkR rfl (zkI rfl (zkI rfl (zkR rfl (zkI rfl zkN))))))) (by decide) dX1_greatestTotal_72 ?_
  refine Z.iinc F (L0 := [(1, .int (if p47l1 < g66 then g66 else p47l1)), (0, zv h0), (2, .int p47l2), (3, zv g20), (4, .int g25), (5, .int p47l5), (6, zv g41)]) (k0 := 7) (v := (1 : Int32)) rfl (by decide) [0, 1, 2, 3, 4, 5, 6] rfl (zkI rfl (zkR rfl (zkI rfl (zkR rfl (zkI rfl (zkI rfl (zkR rfl zkN))))))) (by decide) dX1_greatestTotal_73 ?_
  refine Z.goto F (tgt := 47) dX1_greatestTotal_76 (by decide) ?_
  exact Z.sub [2, 1, 3, 4, 5, 6, 7, 0] rfl (hr47 (if p47l1 < g66 then g66 else p47l1) p47l2 p47l5 (p47l7 + (1 : Int32)))
theorem gfX1_463 (F : ZF p R s m args meth c cc nL "SafeBuckets" nm ret D A al sz mc ms fr lo) {z : Nat} {K : Nat → ZM → Prop} (hdg : decode cc pc = .ok (.getfield 463, 3)) (k : ∀ u, ZW p l e R s m args below meth c Q nL D A al n0 (K u) (pc + 3) L (zv u :: st)) : ZW p l e R s m args below meth c Q nL D A al n0 (zgR 3 z 0 K) pc L (zv z :: st) :=
  Z.getRN F (ref := "SafeBuckets$Sheet") in_X3 (ci := 2) rfl (by decide) (kf := 0) (by decide) (host := "SafeBuckets") (List.mem_of_getElem? (i := 17) rfl) (fun _ h => h) rfl hdg k
set_option maxHeartbeats 4000000 in
theorem k_X1_mostAlike (l : Launch) (h0 : Nat) : ZCi l yX1_mostAlike (ws_ yX1_mostAlike cX1_mostAlike 7 (some .int)) 1 21 0 0 false [zv h0] (f_X1_mostAlike h0) := by
  refine Z.metI (by decide +kernel) (fun h => ⟨rfl, rfl⟩) (L0 := [(0, zv h0)]) (by first | (rw [zla_v, zla_0]; done) | (rw [zla_v, zla_0]; rfl)) (by rw [zsl_v, zsl_0]; exact Nat.le_of_ble_eq_true rfl) ?_
  intro p e R s m args below meth c D A n0 sz k F
  have F : ZF p R s m args meth c cX1_mostAlike 7 "SafeBuckets" "mostAlike" (some .int) D A false sz 0 0 1 21 := F
  unfold f_X1_mostAlike
  refine Z.iconst F (v := (0 : Int32)) (by decide) dX1_mostAlike_0 ?_
  refine Z.istore_n F (L0 := [(0, zv h0)]) [0] rfl (zkR rfl zkN) (by decide) dX1_mostAlike_1 ?_
  refine Z.iconst F (v := (0 : Int32)) (by decide) dX1_mostAlike_2 ?_
  refine Z.istore_n F (L0 := [(1, .int (0 : Int32)), (0, zv h0)]) [0, 1] rfl (zkI rfl (zkR rfl zkN)) (by decide) dX1_mostAlike_3 ?_
  refine Z.sub [2, 1, 0] rfl ?_
  refine Z.w2 (Lf := fun p4l1 p4l2 => [(0, zv h0), (1, .int p4l1), (2, .int p4l2)]) (sf := fun p4l1 p4l2 => []) (fun r4 hr4 p4l1 p4l2 => ?_) (0 : Int32) (0 : Int32)
  refine Z.iload_n F 2 rfl dX1_mostAlike_4 ?_
  refine Z.aload_n F 0 rfl dX1_mostAlike_5 ?_
  refine gfX1_93 F dX1_mostAlike_6 (fun g6 => ?_)
  refine gfX1_139 F dX1_mostAlike_9 (fun g9 => ?_)
  refine Z.icmp_ge F (tgt := 63) dX1_mostAlike_12 (by decide) ?_ ?_
  · refine Z.iload_n F 1 rfl dX1_mostAlike_63 ?_
    exact Z.iret F dX1_mostAlike_64
  refine Z.aload_n F 0 rfl dX1_mostAlike_15 ?_
  refine Z.iload_n F 2 rfl dX1_mostAlike_16 ?_
  refine clX1_218 F ⟨Nat.le_of_ble_eq_true rfl, Nat.le_of_ble_eq_true rfl⟩ (zlw4 (Nat.le_of_ble_eq_true rfl)) dX1_mostAlike_17 (fun r17 => ?_)
  refine gfX1_463 F dX1_mostAlike_20 (fun g20 => ?_)
  refine Z.astore_n F (L0 := [(0, zv h0), (1, .int p4l1), (2, .int p4l2)]) [0, 1, 2] rfl (zkR rfl (zkI rfl (zkI rfl zkN))) (by decide) dX1_mostAlike_23 ?_
  refine Z.aload_n F 0 rfl dX1_mostAlike_24 ?_
  refine Z.alen F (t := 0) rfl dX1_mostAlike_25 (fun g25 => ?_)
  refine Z.istore F (L0 := [(3, zv g20), (0, zv h0), (1, .int p4l1), (2, .int p4l2)]) [0, 1, 2, 3] rfl (zkR rfl (zkR rfl (zkI rfl (zkI rfl zkN)))) (by decide) dX1_mostAlike_26 ?_
  refine Z.iconst F (v := (0 : Int32)) (by decide) dX1_mostAlike_28 ?_
  refine Z.istore F (L0 := [(4, .int g25), (3, zv g20), (0, zv h0), (1, .int p4l1), (2, .int p4l2)]) [0, 1, 2, 3, 4] rfl (zkI rfl (zkR rfl (zkR rfl (zkI rfl (zkI rfl zkN))))) (by decide) dX1_mostAlike_29 ?_
  refine Z.jn2 (J := _) (fun p57l1 p57l2 => [(0, zv h0), (1, .int p57l1), (2, .int p57l2)]) (fun p57l1 p57l2 => []) 57 (fun p57l1 p57l2 => ?_) (fun j57 hj57 => ?_)
  · refine Z.iinc F (L0 := [(0, zv h0), (1, .int p57l1)]) (k0 := 2) (v := (1 : Int32)) rfl (by decide) [0, 1] rfl (zkR rfl (zkI rfl zkN)) (by decide) dX1_mostAlike_57 ?_
    refine Z.goto F (tgt := 4) dX1_mostAlike_60 (by decide) ?_
    exact Z.sub [1, 2, 0] rfl (hr4 p57l1 (p57l2 + (1 : Int32)))
  refine Z.sub [3, 4, 5, 2, 1, 0] rfl ?_
  refine Z.w3 (Lf := fun p31l1 p31l2 p31l5 => [(0, zv h0), (1, .int p31l1), (2, .int p31l2), (3, zv g20), (4, .int g25), (5, .int p31l5)]) (sf := fun p31l1 p31l2 p31l5 => []) (fun r31 hr31 p31l1 p31l2 p31l5 => ?_) p4l1 p4l2 (0 : Int32)
  refine Z.iload F 5 rfl dX1_mostAlike_31 ?_
  refine Z.iload F 4 rfl dX1_mostAlike_33 ?_
  refine Z.icmp_ge F (tgt := 57) dX1_mostAlike_35 (by decide) ?_ ?_
  · exact Z.sub [0, 1, 2] rfl (hj57 p31l1 p31l2)
  refine Z.aload_n F 3 rfl dX1_mostAlike_38 ?_
  refine Z.iload F 5 rfl dX1_mostAlike_39 ?_
  refine Z.iald F dX1_mostAlike_41 (fun g41 => ?_)
  refine Z.istore F (L0 := [(0, zv h0), (1, .int p31l1), (2, .int p31l2), (3, zv g20), (4, .int g25), (5, .int p31l5)]) [0, 1, 2, 3, 4, 5] rfl (zkR rfl (zkI rfl (zkI rfl (zkR rfl (zkI rfl (zkI rfl zkN)))))) (by decide) dX1_mostAlike_42 ?_
  refine Z.iload_n F 2 rfl dX1_mostAlike_44 ?_
  refine Z.iload F 0 rfl dX1_mostAlike_45 ?_
  refine Z.mmax F q1506 (Nat.le_of_ble_eq_true rfl) (Nat.le_of_ble_eq_true rfl) (zlw4 (Nat.le_of_ble_eq_true rfl)) dX1_mostAlike_47 ?_
  refine Z.istore_n F (L0 := [(6, .int g41), (0, zv h0), (2, .int p31l2), (3, zv g20), (4, .int g25), (5, .int p31l5)]) [0, 1, 3, 4, 5, 6] rfl (zkI rfl (zkR rfl (zkI rfl (zkR rfl (zkI rfl (zkI rfl zkN)))))) (by decide) dX1_mostAlike_50 ?_
  refine Z.iinc F (L0 := [(1, .int (if p31l1 < g41 then g41 else p31l1)), (6, .int g41), (0, zv h0), (2, .int p31l2), (3, zv g20), (4, .int g25)]) (k0 := 6) (v := (1 : Int32)) rfl (by decide) [0, 1, 2, 3, 4, 5] rfl (zkI rfl (zkI rfl (zkR rfl (zkI rfl (zkR rfl (zkI rfl zkN)))))) (by decide) dX1_mostAlike_51 ?_
  refine Z.goto F (tgt := 31) dX1_mostAlike_54 (by decide) ?_
  exact Z.sub [3, 1, 4, 5, 6, 0] rfl (hr31 (if p31l1 < g41 then g41 else p31l1) p31l2 (p31l5 + (1 : Int32)))
set_option maxHeartbeats 4000000 in
theorem k_X1_countedMost (l : Launch) (h0 : Nat) (x1 : Int32) : ZCi l yX1_countedMost (ws_ yX1_countedMost cX1_countedMost 5 (some .int)) 3 68 0 0 false [zv h0, .int x1] (f_X1_countedMost h0 x1) := by
  refine Z.metI (by decide +kernel) (fun h => ⟨rfl, rfl⟩) (L0 := [(0, zv h0), (1, .int x1)]) (by first | (rw [zla_v, zla_i, zla_0]; done) | (rw [zla_v, zla_i, zla_0]; rfl)) (by rw [zsl_v, zsl_i, zsl_0]; exact Nat.le_of_ble_eq_true rfl) ?_
  intro p e R s m args below meth c D A n0 sz k F
  have F : ZF p R s m args meth c cX1_countedMost 5 "SafeBuckets" "countedMost" (some .int) D A false sz 0 0 3 68 := F
  unfold f_X1_countedMost
  refine Z.iconst F (v := (0 : Int32)) (by decide) dX1_countedMost_0 ?_
  refine Z.istore_n F (L0 := [(0, zv h0), (1, .int x1)]) [0, 1] rfl (zkR rfl (zkI rfl zkN)) (by decide) dX1_countedMost_1 ?_
  refine Z.iconst F (v := (0 : Int32)) (by decide) dX1_countedMost_2 ?_
  refine Z.istore_n F (L0 := [(2, .int (0 : Int32)), (0, zv h0), (1, .int x1)]) [0, 1, 2] rfl (zkI rfl (zkR rfl (zkI rfl zkN))) (by decide) dX1_countedMost_3 ?_
  refine Z.sub [2, 3, 1, 0] rfl ?_
  refine Z.w2 (Lf := fun p4l2 p4l3 => [(0, zv h0), (1, .int x1), (2, .int p4l2), (3, .int p4l3)]) (sf := fun p4l2 p4l3 => []) (fun r4 hr4 p4l2 p4l3 => ?_) (0 : Int32) (0 : Int32)
  refine Z.iload_n F 3 rfl dX1_countedMost_4 ?_
  refine Z.aload_n F 0 rfl dX1_countedMost_5 ?_
  refine gfX1_93 F dX1_countedMost_6 (fun g6 => ?_)
  refine gfX1_139 F dX1_countedMost_9 (fun g9 => ?_)
  refine Z.icmp_ge F (tgt := 64) dX1_countedMost_12 (by decide) ?_ ?_
  · refine Z.iload_n F 2 rfl dX1_countedMost_64 ?_
    exact Z.iret F dX1_countedMost_65
  refine Z.iconst F (v := (0 : Int32)) (by decide) dX1_countedMost_15 ?_
  refine Z.istore F (L0 := [(0, zv h0), (1, .int x1), (2, .int p4l2), (3, .int p4l3)]) [0, 1, 2, 3] rfl (zkR rfl (zkI rfl (zkI rfl (zkI rfl zkN)))) (by decide) dX1_countedMost_16 ?_
  refine Z.jn2 (J := _) (fun p58l2 p58l3 => [(0, zv h0), (1, .int x1), (2, .int p58l2), (3, .int p58l3)]) (fun p58l2 p58l3 => []) 58 (fun p58l2 p58l3 => ?_) (fun j58 hj58 => ?_)
  · refine Z.iinc F (L0 := [(0, zv h0), (1, .int x1), (2, .int p58l2)]) (k0 := 3) (v := (1 : Int32)) rfl (by decide) [0, 1, 2] rfl (zkR rfl (zkI rfl (zkI rfl zkN))) (by decide) dX1_countedMost_58 ?_
    refine Z.goto F (tgt := 4) dX1_countedMost_61 (by decide) ?_
    exact Z.sub [1, 2, 3, 0] rfl (hr4 p58l2 (p58l3 + (1 : Int32)))
  refine Z.sub [1, 2, 3, 4, 0] rfl ?_
  refine Z.w3 (Lf := fun p18l2 p18l3 p18l4 => [(0, zv h0), (1, .int x1), (2, .int p18l2), (3, .int p18l3), (4, .int p18l4)]) (sf := fun p18l2 p18l3 p18l4 => []) (fun r18 hr18 p18l2 p18l3 p18l4 => ?_) p4l2 p4l3 (0 : Int32)
  refine Z.iload F 4 rfl dX1_countedMost_18 ?_
  refine Z.iconst F (v := (2 : Int32)) (by decide) dX1_countedMost_20 ?_
  refine Z.icmp_ge F (tgt := 58) dX1_countedMost_21 (by decide) ?_ ?_
  · exact Z.sub [0, 1, 2, 3] rfl (hj58 p18l2 p18l3)
  refine Z.iload_n F 1 rfl dX1_countedMost_24 ?_
  refine Z.aload_n F 0 rfl dX1_countedMost_25 ?_
  refine Z.iload_n F 3 rfl dX1_countedMost_26 ?_
  refine clX1_218 F ⟨Nat.le_of_ble_eq_true rfl, Nat.le_of_ble_eq_true rfl⟩ (zlw4 (Nat.le_of_ble_eq_true rfl)) dX1_countedMost_27 (fun r27 => ?_)
  refine gfX1_164 F dX1_countedMost_30 (fun g30 => ?_)
  refine Z.jn1 (J := _) (fun p52l2 => [(0, zv h0), (1, .int x1), (2, .int p52l2), (3, .int p18l3), (4, .int p18l4)]) (fun p52l2 => []) 52 (fun p52l2 => ?_) (fun j52 hj52 => ?_)
  · refine Z.iinc F (L0 := [(0, zv h0), (1, .int x1), (2, .int p52l2), (3, .int p18l3)]) (k0 := 4) (v := (1 : Int32)) rfl (by decide) [0, 1, 2, 3] rfl (zkR rfl (zkI rfl (zkI rfl (zkI rfl zkN)))) (by decide) dX1_countedMost_52 ?_
    refine Z.goto F (tgt := 18) dX1_countedMost_55 (by decide) ?_
    exact Z.sub [1, 2, 3, 4, 0] rfl (hr18 p52l2 p18l3 (p18l4 + (1 : Int32)))
  refine Z.icmp_ge F (tgt := 52) dX1_countedMost_33 (by decide) ?_ ?_
  · exact Z.sub [0, 1, 2, 3, 4] rfl (hj52 p18l2)
  refine Z.iload_n F 2 rfl dX1_countedMost_36 ?_
  refine Z.aload_n F 0 rfl dX1_countedMost_37 ?_
  refine Z.iload_n F 3 rfl dX1_countedMost_38 ?_
  refine clX1_218 F ⟨Nat.le_of_ble_eq_true rfl, Nat.le_of_ble_eq_true rfl⟩ (zlw4 (Nat.le_of_ble_eq_true rfl)) dX1_countedMost_39 (fun r39 => ?_)
  refine Z.iload F 4 rfl dX1_countedMost_42 ?_
  refine Z.iload_n F 1 rfl dX1_countedMost_44 ?_
  refine clX1_167 F ⟨Nat.le_of_ble_eq_true rfl, Nat.le_of_ble_eq_true rfl⟩ (zlw4 (Nat.le_of_ble_eq_true rfl)) dX1_countedMost_45 (fun r45 => ?_)
  refine Z.mmax F q1506 (Nat.le_of_ble_eq_true rfl) (Nat.le_of_ble_eq_true rfl) (zlw4 (Nat.le_of_ble_eq_true rfl)) dX1_countedMost_48 ?_
  refine Z.istore_n F (L0 := [(0, zv h0), (1, .int x1), (3, .int p18l3), (4, .int p18l4)]) [0, 1, 3, 4] rfl (zkR rfl (zkI rfl (zkI rfl (zkI rfl zkN)))) (by decide) dX1_countedMost_51 ?_
  exact Z.sub [1, 2, 0, 3, 4] rfl (hj52 (if p18l2 < r45 then r45 else p18l2))
theorem clX1_466 (F : ZF p R s m args meth c cc nL "SafeBuckets" nm ret D A al sz mc ms fr lo) {h0 : Nat} {x1 : Int32} {K : Int32 → ZM → Prop} (hR : 3 + 1 ≤ fr ∧ 8 + (5 + 11) + 68 ≤ lo) (hst4 : zlw st) (hdg : decode cc pc = .ok (.invokevirtual 466, 3)) (k : ∀ r, ZW p l e R s m args below meth c Q nL D A al n0 (K r) (pc + 3) L (.int r :: st)) : ZW p l e R s m args below meth c Q nL D A al n0 (zat 1 h0 (f_X1_countedMost h0 x1 K)) pc L (.int x1 :: zv h0 :: st) :=
  Z.ri0 _ (fun μ H locs cells slots ls hI h hP => Z.V0 F hI (n := 1) (ci := 0) rfl (by decide) hP.1 hP.2 (k_X1_countedMost l h0 x1 D A (zX μ, zC μ, zS μ) H.size K μ) q1515 q1517 qs47 q116 q1518 (by decide +kernel) rfl h.1 hst4 hR rfl hdg) k
set_option maxHeartbeats 4000000 in
theorem k_X1_commonest (l : Launch) (h0 : Nat) : ZCi l yX1_commonest (ws_ yX1_commonest cX1_commonest 3 (some .int)) 4 92 0 0 false [zv h0] (f_X1_commonest h0) := by
  refine Z.metI (by decide +kernel) (fun h => ⟨rfl, rfl⟩) (L0 := [(0, zv h0)]) (by first | (rw [zla_v, zla_0]; done) | (rw [zla_v, zla_0]; rfl)) (by rw [zsl_v, zsl_0]; exact Nat.le_of_ble_eq_true rfl) ?_
  intro p e R s m args below meth c D A n0 sz k F
  have F : ZF p R s m args meth c cX1_commonest 3 "SafeBuckets" "commonest" (some .int) D A false sz 0 0 4 92 := F
  unfold f_X1_commonest
  refine Z.iconst F (v := (0 : Int32)) (by decide) dX1_commonest_0 ?_
  refine Z.istore_n F (L0 := [(0, zv h0)]) [0] rfl (zkR rfl zkN) (by decide) dX1_commonest_1 ?_
  refine Z.iconst F (v := (1 : Int32)) (by decide) dX1_commonest_2 ?_
  refine Z.istore_n F (L0 := [(1, .int (0 : Int32)), (0, zv h0)]) [0, 1] rfl (zkI rfl (zkR rfl zkN)) (by decide) dX1_commonest_3 ?_
  refine Z.sub [2, 1, 0] rfl ?_
  refine Z.w2 (Lf := fun p4l1 p4l2 => [(0, zv h0), (1, .int p4l1), (2, .int p4l2)]) (sf := fun p4l1 p4l2 => []) (fun r4 hr4 p4l1 p4l2 => ?_) (0 : Int32) (1 : Int32)
  refine Z.iload_n F 2 rfl dX1_commonest_4 ?_
  refine Z.bipush F (v := (16 : Int32)) (by decide) dX1_commonest_5 ?_
  refine Z.icmp_ge F (tgt := 35) dX1_commonest_7 (by decide) ?_ ?_
  · refine Z.iload_n F 1 rfl dX1_commonest_35 ?_
    exact Z.iret F dX1_commonest_36
  refine Z.aload_n F 0 rfl dX1_commonest_10 ?_
  refine Z.iload_n F 2 rfl dX1_commonest_11 ?_
  refine clX1_466 F ⟨Nat.le_of_ble_eq_true rfl, Nat.le_of_ble_eq_true rfl⟩ (zlw4 (Nat.le_of_ble_eq_true rfl)) dX1_commonest_12 (fun r12 => ?_)
  refine Z.aload_n F 0 rfl dX1_commonest_15 ?_
  refine Z.iload_n F 1 rfl dX1_commonest_16 ?_
  refine clX1_466 F ⟨Nat.le_of_ble_eq_true rfl, Nat.le_of_ble_eq_true rfl⟩ (zlw4 (Nat.le_of_ble_eq_true rfl)) dX1_commonest_17 (fun r17 => ?_)
  refine Z.jn1 (J := _) (fun p28s0 => [(0, zv h0), (2, .int p4l2)]) (fun p28s0 => [.int p28s0]) 28 (fun p28s0 => ?_) (fun j28 hj28 => ?_)
  · refine Z.istore_n F (L0 := [(0, zv h0), (2, .int p4l2)]) [0, 1] rfl (zkR rfl (zkI rfl zkN)) (by decide) dX1_commonest_28 ?_
    refine Z.iinc F (L0 := [(1, .int p28s0), (0, zv h0)]) (k0 := 2) (v := (1 : Int32)) rfl (by decide) [0, 1] rfl (zkI rfl (zkR rfl zkN)) (by decide) dX1_commonest_29 ?_
    refine Z.goto F (tgt := 4) dX1_commonest_32 (by decide) ?_
    exact Z.sub [2, 1, 0] rfl (hr4 p28s0 (p4l2 + (1 : Int32)))
  refine Z.icmp_le F (tgt := 27) dX1_commonest_20 (by decide) ?_ ?_
  · refine Z.iload_n F 1 rfl dX1_commonest_27 ?_
    exact Z.sub [0, 2] rfl (hj28 p4l1)
  refine Z.iload_n F 2 rfl dX1_commonest_23 ?_
  refine Z.goto F (tgt := 28) dX1_commonest_24 (by decide) ?_
  exact Z.sub [0, 2] rfl (hj28 p4l2)
theorem clX1_469 (F : ZF p R s m args meth c cc nL "SafeBuckets" nm ret D A al sz mc ms fr lo) {h0 : Nat} {K : Int32 → ZM → Prop} (hR : 1 + 1 ≤ fr ∧ 8 + (3 + 11) + 21 ≤ lo) (hst4 : zlw st) (hdg : decode cc pc = .ok (.invokevirtual 469, 3)) (k : ∀ r, ZW p l e R s m args below meth c Q nL D A al n0 (K r) (pc + 3) L (.int r :: st)) : ZW p l e R s m args below meth c Q nL D A al n0 (zat 1 h0 (f_X1_greatestRows h0 K)) pc L (zv h0 :: st) :=
  Z.ri0 _ (fun μ H locs cells slots ls hI h hP => Z.V0 F hI (n := 0) (ci := 0) rfl (by decide) hP.1 hP.2 (k_X1_greatestRows l h0 D A (zX μ, zC μ, zS μ) H.size K μ) q1494 q1496 qs42 q116 q1497 (by decide +kernel) rfl h.1 hst4 hR rfl hdg) k
theorem clX1_472 (F : ZF p R s m args meth c cc nL "SafeBuckets" nm ret D A al sz mc ms fr lo) {h0 : Nat} {K : Int32 → ZM → Prop} (hR : 1 + 1 ≤ fr ∧ 8 + (4 + 11) + 21 ≤ lo) (hst4 : zlw st) (hdg : decode cc pc = .ok (.invokevirtual 472, 3)) (k : ∀ r, ZW p l e R s m args below meth c Q nL D A al n0 (K r) (pc + 3) L (.int r :: st)) : ZW p l e R s m args below meth c Q nL D A al n0 (zat 1 h0 (f_X1_mostDrifted h0 K)) pc L (zv h0 :: st) :=
  Z.ri0 _ (fun μ H locs cells slots ls hI h hP => Z.V0 F hI (n := 0) (ci := 0) rfl (by decide) hP.1 hP.2 (k_X1_mostDrifted l h0 D A (zX μ, zC μ, zS μ) H.size K μ) q1498 q1500 qs43 q116 q1501 (by decide +kernel) rfl h.1 hst4 hR rfl hdg) k
theorem clX1_475 (F : ZF p R s m args meth c cc nL "SafeBuckets" nm ret D A al sz mc ms fr lo) {h0 : Nat} {K : Int32 → ZM → Prop} (hR : 1 + 1 ≤ fr ∧ 8 + (8 + 11) + 21 ≤ lo) (hst4 : zlw st) (hdg : decode cc pc = .ok (.invokevirtual 475, 3)) (k : ∀ r, ZW p l e R s m args below meth c Q nL D A al n0 (K r) (pc + 3) L (.int r :: st)) : ZW p l e R s m args below meth c Q nL D A al n0 (zat 1 h0 (f_X1_greatestTotal h0 K)) pc L (zv h0 :: st) :=
  Z.ri0 _ (fun μ H locs cells slots ls hI h hP => Z.V0 F hI (n := 0) (ci := 0) rfl (by decide) hP.1 hP.2 (k_X1_greatestTotal l h0 D A (zX μ, zC μ, zS μ) H.size K μ) q1502 q1504 qs44 q116 q1505 (by decide +kernel) rfl h.1 hst4 hR rfl hdg) k
theorem clX1_478 (F : ZF p R s m args meth c cc nL "SafeBuckets" nm ret D A al sz mc ms fr lo) {h0 : Nat} {K : Int32 → ZM → Prop} (hR : 1 + 1 ≤ fr ∧ 8 + (7 + 11) + 21 ≤ lo) (hst4 : zlw st) (hdg : decode cc pc = .ok (.invokevirtual 478, 3)) (k : ∀ r, ZW p l e R s m args below meth c Q nL D A al n0 (K r) (pc + 3) L (.int r :: st)) : ZW p l e R s m args below meth c Q nL D A al n0 (zat 1 h0 (f_X1_mostAlike h0 K)) pc L (zv h0 :: st) :=
  Z.ri0 _ (fun μ H locs cells slots ls hI h hP => Z.V0 F hI (n := 0) (ci := 0) rfl (by decide) hP.1 hP.2 (k_X1_mostAlike l h0 D A (zX μ, zC μ, zS μ) H.size K μ) q1507 q1509 qs45 q116 q1510 (by decide +kernel) rfl h.1 hst4 hR rfl hdg) k
theorem clX1_481 (F : ZF p R s m args meth c cc nL "SafeBuckets" nm ret D A al sz mc ms fr lo) {h0 : Nat} {K : Int32 → ZM → Prop} (hR : 4 + 1 ≤ fr ∧ 8 + (3 + 11) + 92 ≤ lo) (hst4 : zlw st) (hdg : decode cc pc = .ok (.invokevirtual 481, 3)) (k : ∀ r, ZW p l e R s m args below meth c Q nL D A al n0 (K r) (pc + 3) L (.int r :: st)) : ZW p l e R s m args below meth c Q nL D A al n0 (zat 1 h0 (f_X1_commonest h0 K)) pc L (zv h0 :: st) :=
  Z.ri0 _ (fun μ H locs cells slots ls hI h hP => Z.V0 F hI (n := 0) (ci := 0) rfl (by decide) hP.1 hP.2 (k_X1_commonest l h0 D A (zX μ, zC μ, zS μ) H.size K μ) q1511 q1513 qs46 q116 q1514 (by decide +kernel) rfl h.1 hst4 hR rfl hdg) k
set_option maxHeartbeats 4000000 in
theorem k_X1_most (l : Launch) (h0 : Nat) (x1 : Int32) : ZCi l yX1_most (ws_ yX1_most cX1_most 2 (some .int)) 5 114 0 0 false [zv h0, .int x1] (f_X1_most h0 x1) := by
  refine Z.metI (by decide +kernel) (fun h => ⟨rfl, rfl⟩) (L0 := [(0, zv h0), (1, .int x1)]) (by first | (rw [zla_v, zla_i, zla_0]; done) | (rw [zla_v, zla_i, zla_0]; rfl)) (by rw [zsl_v, zsl_i, zsl_0]; exact Nat.le_of_ble_eq_true rfl) ?_
  intro p e R s m args below meth c D A n0 sz k F
  have F : ZF p R s m args meth c cX1_most 2 "SafeBuckets" "most" (some .int) D A false sz 0 0 5 114 := F
  unfold f_X1_most
  refine Z.aload_n F 0 rfl dX1_most_0 ?_
  refine gfX1_93 F dX1_most_1 (fun g1 => ?_)
  refine Z.ifnonnull F (tgt := 10) dX1_most_4 (by decide) ?_ ?_
  · refine Z.iload_n F 1 rfl dX1_most_10 ?_
    refine Z.table F (tgts := [48, 53, 58, 63, 68, 76]) (tgt := 81) dX1_most_11 rfl (by decide) (by decide) (by decide) ?_ ?_
    · refine Z.ldcI F q916 dX1_most_81 ?_
      exact Z.iret F dX1_most_83
    intro i9 P9 t9 e9 e8
    match i9, e9, e8 with
    | 0, e9, e8 =>
      cases e9; cases e8
      refine Z.aload_n F 0 rfl dX1_most_48 ?_
      refine clX1_469 F ⟨Nat.le_of_ble_eq_true rfl, Nat.le_of_ble_eq_true rfl⟩ (zlw4 (Nat.le_of_ble_eq_true rfl)) dX1_most_49 (fun r49 => ?_)
      exact Z.iret F dX1_most_52
    | 1, e9, e8 =>
      cases e9; cases e8
      refine Z.aload_n F 0 rfl dX1_most_53 ?_
      refine clX1_472 F ⟨Nat.le_of_ble_eq_true rfl, Nat.le_of_ble_eq_true rfl⟩ (zlw4 (Nat.le_of_ble_eq_true rfl)) dX1_most_54 (fun r54 => ?_)
      exact Z.iret F dX1_most_57
    | 2, e9, e8 =>
      cases e9; cases e8
      refine Z.aload_n F 0 rfl dX1_most_58 ?_
      refine clX1_475 F ⟨Nat.le_of_ble_eq_true rfl, Nat.le_of_ble_eq_true rfl⟩ (zlw4 (Nat.le_of_ble_eq_true rfl)) dX1_most_59 (fun r59 => ?_)
      exact Z.iret F dX1_most_62
    | 3, e9, e8 =>
      cases e9; cases e8
      refine Z.aload_n F 0 rfl dX1_most_63 ?_
      refine clX1_478 F ⟨Nat.le_of_ble_eq_true rfl, Nat.le_of_ble_eq_true rfl⟩ (zlw4 (Nat.le_of_ble_eq_true rfl)) dX1_most_64 (fun r64 => ?_)
      exact Z.iret F dX1_most_67
    | 4, e9, e8 =>
      cases e9; cases e8
      refine Z.aload_n F 0 rfl dX1_most_68 ?_
      refine gfX1_59 F dX1_most_69 (fun g69 => ?_)
      refine clX1_339 F ⟨Nat.le_of_ble_eq_true rfl, Nat.le_of_ble_eq_true rfl⟩ (zlw4 (Nat.le_of_ble_eq_true rfl)) dX1_most_72 (fun r72 => ?_)
      exact Z.iret F dX1_most_75
    | 5, e9, e8 =>
      cases e9; cases e8
      refine Z.aload_n F 0 rfl dX1_most_76 ?_
      refine clX1_481 F ⟨Nat.le_of_ble_eq_true rfl, Nat.le_of_ble_eq_true rfl⟩ (zlw4 (Nat.le_of_ble_eq_true rfl)) dX1_most_77 (fun r77 => ?_)
      exact Z.iret F dX1_most_80
    | n + 6, e9, e8 => simp at e9
  refine Z.ldcI F q916 dX1_most_7 ?_
  exact Z.iret F dX1_most_9
theorem gfX1_63 (F : ZF p R s m args meth c cc nL "SafeBuckets" nm ret D A al sz mc ms fr lo) {z : Nat} {K : Nat → ZM → Prop} (hdg : decode cc pc = .ok (.getfield 63, 3)) (k : ∀ u, ZW p l e R s m args below meth c Q nL D A al n0 (K u) (pc + 3) L (zv u :: st)) : ZW p l e R s m args below meth c Q nL D A al n0 (zgR 1 z 16 K) pc L (zv z :: st) :=
  Z.getR F (ref := "SafeBuckets") in_X1 (ci := 0) rfl (by decide) (kf := 16) (by decide) q405 (fun _ h => h) rfl hdg k
set_option maxHeartbeats 4000000 in
theorem k_X1_image (l : Launch) (h0 : Nat) : ZCi l yX1_image (ws_ yX1_image cX1_image 1 (some .int)) 4 104 0 0 false [zv h0] (f_X1_image h0) := by
  refine Z.metI (by decide +kernel) (fun h => ⟨rfl, rfl⟩) (L0 := [(0, zv h0)]) (by first | (rw [zla_v, zla_0]; done) | (rw [zla_v, zla_0]; rfl)) (by rw [zsl_v, zsl_0]; exact Nat.le_of_ble_eq_true rfl) ?_
  intro p e R s m args below meth c D A n0 sz k F
  have F : ZF p R s m args meth c cX1_image 1 "SafeBuckets" "image" (some .int) D A false sz 0 0 4 104 := F
  unfold f_X1_image
  refine Z.aload_n F 0 rfl dX1_image_0 ?_
  refine gfX1_93 F dX1_image_1 (fun g1 => ?_)
  refine Z.ifnonnull F (tgt := 9) dX1_image_4 (by decide) ?_ ?_
  · refine Z.aload_n F 0 rfl dX1_image_9 ?_
    refine gfX1_63 F dX1_image_10 (fun g10 => ?_)
    refine Z.aload_n F 0 rfl dX1_image_13 ?_
    refine gfX1_59 F dX1_image_14 (fun g14 => ?_)
    refine clX1_281 F ⟨Nat.le_of_ble_eq_true rfl, Nat.le_of_ble_eq_true rfl⟩ (zlw4 (Nat.le_of_ble_eq_true rfl)) dX1_image_17 ?_
    refine Z.aload_n F 0 rfl dX1_image_20 ?_
    refine Z.iconst F (v := (1 : Int32)) (by decide) dX1_image_21 ?_
    refine pfX1_135 F dX1_image_22 ?_
    refine Z.aload_n F 0 rfl dX1_image_25 ?_
    refine gfX1_59 F dX1_image_26 (fun g26 => ?_)
    refine clX1_339 F ⟨Nat.le_of_ble_eq_true rfl, Nat.le_of_ble_eq_true rfl⟩ (zlw4 (Nat.le_of_ble_eq_true rfl)) dX1_image_29 (fun r29 => ?_)
    exact Z.iret F dX1_image_32
  refine Z.iconst F (v := (-1 : Int32)) (by decide) dX1_image_7 ?_
  exact Z.iret F dX1_image_8
theorem gfX1_135 (F : ZF p R s m args meth c cc nL "SafeBuckets" nm ret D A al sz mc ms fr lo) {z : Nat} {K : Int32 → ZM → Prop} (hdg : decode cc pc = .ok (.getfield 135, 3)) (k : ∀ u, ZW p l e R s m args below meth c Q nL D A al n0 (K u) (pc + 3) L (.int u :: st)) : ZW p l e R s m args below meth c Q nL D A al n0 (zgI 1 z 28 K) pc L (zv z :: st) :=
  Z.getI F (ref := "SafeBuckets") in_X1 (ci := 0) rfl (by decide) (kf := 28) (by decide) q417 (fun _ h => h) rfl hdg k
set_option maxHeartbeats 4000000 in
theorem k_X1_back (l : Launch) (h0 : Nat) : ZCi l yX1_back (ws_ yX1_back cX1_back 1 (some .int)) 4 104 0 0 false [zv h0] (f_X1_back h0) := by
  refine Z.metI (by decide +kernel) (fun h => ⟨rfl, rfl⟩) (L0 := [(0, zv h0)]) (by first | (rw [zla_v, zla_0]; done) | (rw [zla_v, zla_0]; rfl)) (by rw [zsl_v, zsl_0]; exact Nat.le_of_ble_eq_true rfl) ?_
  intro p e R s m args below meth c D A n0 sz k F
  have F : ZF p R s m args meth c cX1_back 1 "SafeBuckets" "back" (some .int) D A false sz 0 0 4 104 := F
  unfold f_X1_back
  refine Z.aload_n F 0 rfl dX1_back_0 ?_
  refine gfX1_135 F dX1_back_1 (fun g1 => ?_)
  refine Z.if_ne F (tgt := 9) dX1_back_4 (by decide) ?_ ?_
  · refine Z.aload_n F 0 rfl dX1_back_9 ?_
    refine gfX1_59 F dX1_back_10 (fun g10 => ?_)
    refine Z.aload_n F 0 rfl dX1_back_13 ?_
    refine gfX1_63 F dX1_back_14 (fun g14 => ?_)
    refine clX1_281 F ⟨Nat.le_of_ble_eq_true rfl, Nat.le_of_ble_eq_true rfl⟩ (zlw4 (Nat.le_of_ble_eq_true rfl)) dX1_back_17 ?_
    refine Z.aload_n F 0 rfl dX1_back_20 ?_
    refine Z.iconst F (v := (0 : Int32)) (by decide) dX1_back_21 ?_
    refine pfX1_132 F dX1_back_22 ?_
    refine Z.aload_n F 0 rfl dX1_back_25 ?_
    refine gfX1_59 F dX1_back_26 (fun g26 => ?_)
    refine clX1_339 F ⟨Nat.le_of_ble_eq_true rfl, Nat.le_of_ble_eq_true rfl⟩ (zlw4 (Nat.le_of_ble_eq_true rfl)) dX1_back_29 (fun r29 => ?_)
    exact Z.iret F dX1_back_32
  refine Z.iconst F (v := (-1 : Int32)) (by decide) dX1_back_7 ?_
  exact Z.iret F dX1_back_8
set_option maxHeartbeats 4000000 in
theorem k_X1_count (l : Launch) (h0 : Nat) (x1 : Int32) : ZCi l yX1_count (ws_ yX1_count cX1_count 2 (some .int)) 0 0 0 0 false [zv h0, .int x1] (f_X1_count h0 x1) := by
  refine Z.metI (by decide +kernel) (fun h => ⟨rfl, rfl⟩) (L0 := [(0, zv h0), (1, .int x1)]) (by first | (rw [zla_v, zla_i, zla_0]; done) | (rw [zla_v, zla_i, zla_0]; rfl)) (by rw [zsl_v, zsl_i, zsl_0]; exact Nat.le_of_ble_eq_true rfl) ?_
  intro p e R s m args below meth c D A n0 sz k F
  have F : ZF p R s m args meth c cX1_count 2 "SafeBuckets" "count" (some .int) D A false sz 0 0 0 0 := F
  unfold f_X1_count
  refine Z.iload_n F 1 rfl dX1_count_0 ?_
  refine Z.table F (tgts := [40, 59, 64, 69, 88, 93]) (tgt := 98) dX1_count_1 rfl (by decide) (by decide) (by decide) ?_ ?_
  · refine Z.ldcI F q916 dX1_count_98 ?_
    exact Z.iret F dX1_count_100
  intro i9 P9 t9 e9 e8
  match i9, e9, e8 with
  | 0, e9, e8 =>
    cases e9; cases e8
    refine Z.aload_n F 0 rfl dX1_count_40 ?_
    refine gfX1_93 F dX1_count_41 (fun g41 => ?_)
    refine Z.jn1 (J := _) (fun p58s0 => []) (fun p58s0 => [.int p58s0]) 58 (fun p58s0 => ?_) (fun j58 hj58 => ?_)
    · exact Z.iret F dX1_count_58
    refine Z.ifnonnull F (tgt := 51) dX1_count_44 (by decide) ?_ ?_
    · refine Z.aload_n F 0 rfl dX1_count_51 ?_
      refine gfX1_93 F dX1_count_52 (fun g52 => ?_)
      refine gfX1_139 F dX1_count_55 (fun g55 => ?_)
      exact Z.sub [] rfl (hj58 g55)
    refine Z.iconst F (v := (0 : Int32)) (by decide) dX1_count_47 ?_
    refine Z.goto F (tgt := 58) dX1_count_48 (by decide) ?_
    exact Z.sub [] rfl (hj58 (0 : Int32))
  | 1, e9, e8 =>
    cases e9; cases e8
    refine Z.aload_n F 0 rfl dX1_count_59 ?_
    refine gfX1_123 F dX1_count_60 (fun g60 => ?_)
    exact Z.iret F dX1_count_63
  | 2, e9, e8 =>
    cases e9; cases e8
    refine Z.aload_n F 0 rfl dX1_count_64 ?_
    refine gfX1_7 F dX1_count_65 (fun g65 => ?_)
    exact Z.iret F dX1_count_68
  | 3, e9, e8 =>
    cases e9; cases e8
    refine Z.aload_n F 0 rfl dX1_count_69 ?_
    refine gfX1_93 F dX1_count_70 (fun g70 => ?_)
    refine Z.jn1 (J := _) (fun p87s0 => []) (fun p87s0 => [.int p87s0]) 87 (fun p87s0 => ?_) (fun j87 hj87 => ?_)
    · exact Z.iret F dX1_count_87
    refine Z.ifnonnull F (tgt := 80) dX1_count_73 (by decide) ?_ ?_
    · refine Z.aload_n F 0 rfl dX1_count_80 ?_
      refine gfX1_59 F dX1_count_81 (fun g81 => ?_)
      refine gfX1_344 F dX1_count_84 (fun g84 => ?_)
      exact Z.sub [] rfl (hj87 g84)
    refine Z.iconst F (v := (0 : Int32)) (by decide) dX1_count_76 ?_
    refine Z.goto F (tgt := 87) dX1_count_77 (by decide) ?_
    exact Z.sub [] rfl (hj87 (0 : Int32))
  | 4, e9, e8 =>
    cases e9; cases e8
    refine Z.aload_n F 0 rfl dX1_count_88 ?_
    refine gfX1_132 F dX1_count_89 (fun g89 => ?_)
    exact Z.iret F dX1_count_92
  | 5, e9, e8 =>
    cases e9; cases e8
    refine Z.aload_n F 0 rfl dX1_count_93 ?_
    refine gfX1_349 F dX1_count_94 (fun g94 => ?_)
    exact Z.iret F dX1_count_97
  | n + 6, e9, e8 => simp at e9
theorem clX1_225 (F : ZF p R s m args meth c cc nL "SafeBuckets" nm ret D A al sz mc ms fr lo) {h0 : Nat} {x1 : Int32} {K : Int32 → ZM → Prop} (hR : 3 + 1 ≤ fr ∧ 8 + (2 + 11) + 68 ≤ lo) (hst4 : zlw st) (hdg : decode cc pc = .ok (.invokevirtual 225, 3)) (k : ∀ r, ZW p l e R s m args below meth c Q nL D A al n0 (K r) (pc + 3) L (.int r :: st)) : ZW p l e R s m args below meth c Q nL D A al n0 (zat 3 h0 (f_X3_missing h0 x1 K)) pc L (.int x1 :: zv h0 :: st) :=
  Z.ri0 _ (fun μ H locs cells slots ls hI h hP => Z.V0 F hI (n := 1) (ci := 2) rfl (by decide) hP.1 hP.2 (k_X3_missing l h0 x1 D A (zX μ, zC μ, zS μ) H.size K μ) q1562 q1148 q1149 q118 q1150 (by decide +kernel) rfl h.1 hst4 hR rfl hdg) k
set_option maxHeartbeats 4000000 in
theorem k_X1_table (l : Launch) (hl : l.stackTraces = false) (h0 : Nat) (x1 : Int32) (x2 : Int32) : ZCix l yX1_table (ws_ yX1_table cX1_table 4 (some .int)) 6 89 1 6 true "java/util/NoSuchElementException" [zv h0, .int x1, .int x2] (fun k kx => f_X1_table h0 x1 x2 kx k) := by
  refine Z.metIx (by decide +kernel) (fun h => by cases h) (L0 := [(0, zv h0), (1, .int x1), (2, .int x2)]) (by first | (rw [zla_v, zla_i, zla_i, zla_0]; done) | (rw [zla_v, zla_i, zla_i, zla_0]; rfl)) (by rw [zsl_v, zsl_i, zsl_i, zsl_0]; exact Nat.le_of_ble_eq_true rfl) ?_
  intro p e R s m args below meth c D A n0 sz k kx F htb
  have F : ZF p R s m args meth c cX1_table 4 "SafeBuckets" "table" (some .int) D A true sz 1 6 6 89 := F
  show ZW p l e R s m args below meth c _ _ D A _ _ (f_X1_table h0 x1 x2 kx k) _ _ _
  unfold f_X1_table
  refine Z.aload_n F 0 rfl dX1_table_0 ?_
  refine Z.iload_n F 1 rfl dX1_table_1 ?_
  refine clX1_194 F ⟨Nat.le_of_ble_eq_true rfl, Nat.le_of_ble_eq_true rfl⟩ (zlw4 (Nat.le_of_ble_eq_true rfl)) dX1_table_2 (fun r2 => ?_)
  refine Z.jn0 (J := _) ([]) ([]) 20 (?_) (fun j20 hj20 => ?_)
  · exact Z.thrN F hl dX1_table_20 dX1_table_23 dX1_table_24 dX1_table_27 (by rw [htb]; exact fun _ h => by cases h) ⟨Nat.le_of_ble_eq_true rfl, Nat.le_of_ble_eq_true rfl⟩ (zlw4 (Nat.le_of_ble_eq_true rfl))
  refine Z.if_eq F (tgt := 20) dX1_table_5 (by decide) ?_ ?_
  · exact Z.sub [] rfl (hj20)
  refine Z.iload_n F 2 rfl dX1_table_8 ?_
  refine Z.i2l F dX1_table_9 ?_
  refine Z.lconst F (w := (0 : Int64)) (by decide) dX1_table_10 ?_
  refine Z.ldc2 F q915 dX1_table_11 ?_
  refine clX1_97 F ⟨Nat.le_of_ble_eq_true rfl, Nat.le_of_ble_eq_true rfl⟩ (zlw4 (Nat.le_of_ble_eq_true rfl)) dX1_table_14 (fun r14 => ?_)
  refine Z.if_ne F (tgt := 28) dX1_table_17 (by decide) ?_ ?_
  · refine Z.aload_n F 0 rfl dX1_table_28 ?_
    refine Z.iload_n F 1 rfl dX1_table_29 ?_
    refine clX1_218 F ⟨Nat.le_of_ble_eq_true rfl, Nat.le_of_ble_eq_true rfl⟩ (zlw4 (Nat.le_of_ble_eq_true rfl)) dX1_table_30 (fun r30 => ?_)
    refine Z.astore_n F (L0 := [(0, zv h0), (1, .int x1), (2, .int x2)]) [0, 1, 2] rfl (zkR rfl (zkI rfl (zkI rfl zkN))) (by decide) dX1_table_33 ?_
    refine Z.iload_n F 3 rfl dX1_table_34 ?_
    refine Z.jn1 (J := _) (fun p64s0 => []) (fun p64s0 => [.int p64s0]) 64 (fun p64s0 => ?_) (fun j64 hj64 => ?_)
    · exact Z.retx (Z.iret F dX1_table_64)
    refine Z.if_ne F (tgt := 45) dX1_table_35 (by decide) ?_ ?_
    · refine Z.iload_n F 3 rfl dX1_table_45 ?_
      refine Z.iconst F (v := (1 : Int32)) (by decide) dX1_table_46 ?_
      refine Z.icmp_ne F (tgt := 57) dX1_table_47 (by decide) ?_ ?_
      · refine Z.aload_n F 0 rfl dX1_table_57 ?_
        refine Z.iload_n F 3 rfl dX1_table_58 ?_
        refine Z.iconst F (v := (2 : Int32)) (by decide) dX1_table_59 ?_
        refine Z.isub F dX1_table_60 ?_
        refine clX1_225 F ⟨Nat.le_of_ble_eq_true rfl, Nat.le_of_ble_eq_true rfl⟩ (zlw4 (Nat.le_of_ble_eq_true rfl)) dX1_table_61 (fun r61 => ?_)
        exact Z.sub [] rfl (hj64 r61)
      refine Z.aload_n F 0 rfl dX1_table_50 ?_
      refine gfX1_222 F dX1_table_51 (fun g51 => ?_)
      refine Z.goto F (tgt := 64) dX1_table_54 (by decide) ?_
      exact Z.sub [] rfl (hj64 g51)
    refine Z.aload_n F 0 rfl dX1_table_38 ?_
    refine gfX1_164 F dX1_table_39 (fun g39 => ?_)
    refine Z.goto F (tgt := 64) dX1_table_42 (by decide) ?_
    exact Z.sub [] rfl (hj64 g39)
  exact Z.sub [] rfl (hj20)
end ZWalk
