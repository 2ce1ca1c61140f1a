section ZWalk
variable {p : Program} {l : Launch} {e : Env} {R : Room} {s : State} {m : MethodId} {args : Array Value} {below : List Frame} {meth : Method} {c : Code} {Q : State → Prop} {nL : Nat} {D : ZD} {A : Nat → Prop} {al : Bool} {n0 : Nat × Nat × Nat} {cc : ByteArray} {nm : String} {ret : Option FieldType} {sz mc ms fr lo : Nat}
variable {P : ZM → Prop} {pc : Nat} {L : List (Nat × Value)} {st : List Value}
set_option maxHeartbeats 4000000 in
theorem k_X9_joinTruth (l : Launch) (h0 : Nat) (x1 : Int32) (x2 : Int32) (x3 : Int32) (x4 : Int32) : ZCl l yX9_joinTruth (ws_ yX9_joinTruth cX9_joinTruth 9 (some .long)) 3 71 0 0 false [zv h0, .int x1, .int x2, .int x3, .int x4] (f_X9_joinTruth h0 x1 x2 x3 x4) := by
  refine Z.metL (by decide +kernel) (fun h => ⟨rfl, rfl⟩) (L0 := [(0, zv h0), (1, .int x1), (2, .int x2), (3, .int x3), (4, .int x4)]) (by first | (rw [zla_v, zla_i, zla_i, zla_i, zla_i, zla_0]; done) | (rw [zla_v, zla_i, zla_i, zla_i, zla_i, zla_0]; rfl)) (by rw [zsl_v, zsl_i, zsl_i, zsl_i, zsl_i, zsl_0]; exact Nat.le_of_ble_eq_true rfl) ?_
  intro p e R s m args below meth c D A n0 sz k F
  have F : ZF p R s m args meth c cX9_joinTruth 9 "SafeBucketsModel" "joinTruth" (some .long) D A false sz 0 0 3 71 := F
  unfold f_X9_joinTruth
  refine Z.lconst F (w := (0 : Int64)) (by decide) dX9_joinTruth_0 ?_
  refine Z.lstore F (L0 := [(0, zv h0), (1, .int x1), (2, .int x2), (3, .int x3), (4, .int x4)]) [0, 1, 2, 3, 4] rfl (zmR rfl rfl  (zmI rfl rfl  (zmI rfl rfl  (zmI rfl rfl  (zmI rfl rfl  zmN))))) (by decide) dX9_joinTruth_1 ?_
  refine Z.iconst F (v := (0 : Int32)) (by decide) dX9_joinTruth_3 ?_
  refine Z.istore F (L0 := [(5, .long (0 : Int64)), (0, zv h0), (1, .int x1), (2, .int x2), (3, .int x3), (4, .int x4)]) [0, 1, 2, 3, 4, 5] rfl (zkL rfl rfl (zkR rfl (zkI rfl (zkI rfl (zkI rfl (zkI rfl zkN)))))) (by decide) dX9_joinTruth_4 ?_
  refine Z.sub [2, 3, 4, 5, 6, 1, 0] rfl ?_
  refine Z.w2 (Lf := fun p6l5 p6l7 => [(0, zv h0), (1, .int x1), (2, .int x2), (3, .int x3), (4, .int x4), (5, .long p6l5), (7, .int p6l7)]) (sf := fun p6l5 p6l7 => []) (fun r6 hr6 p6l5 p6l7 => ?_) (0 : Int64) (0 : Int32)
  refine Z.iload F 6 rfl dX9_joinTruth_6 ?_
  refine Z.aload_n F 0 rfl dX9_joinTruth_8 ?_
  refine gfX9_25 F dX9_joinTruth_9 (fun g9 => ?_)
  refine Z.iload_n F 1 rfl dX9_joinTruth_12 ?_
  refine Z.iald F dX9_joinTruth_13 (fun g13 => ?_)
  refine Z.icmp_ge F (tgt := 68) dX9_joinTruth_14 (by decide) ?_ ?_
  · refine Z.lload F 5 rfl dX9_joinTruth_68 ?_
    exact Z.lret F dX9_joinTruth_70
  refine Z.aload_n F 0 rfl dX9_joinTruth_17 ?_
  refine Z.iload_n F 1 rfl dX9_joinTruth_18 ?_
  refine Z.iload_n F 2 rfl dX9_joinTruth_19 ?_
  refine Z.iload F 6 rfl dX9_joinTruth_20 ?_
  refine clX9_167 F ⟨Nat.le_of_ble_eq_true rfl, Nat.le_of_ble_eq_true rfl⟩ (zlw4 (Nat.le_of_ble_eq_true rfl)) dX9_joinTruth_22 (fun r22 => ?_)
  refine Z.istore F (L0 := [(0, zv h0), (1, .int x1), (2, .int x2), (3, .int x3), (4, .int x4), (5, .long p6l5), (7, .int p6l7)]) [0, 1, 2, 3, 4, 5, 6] rfl (zkR rfl (zkI rfl (zkI rfl (zkI rfl (zkI rfl (zkL rfl rfl (zkI rfl zkN))))))) (by decide) dX9_joinTruth_25 ?_
  refine Z.iload F 0 rfl dX9_joinTruth_27 ?_
  refine Z.jn1 (J := _) (fun p62l5 => [(0, zv h0), (1, .int x1), (2, .int x2), (3, .int x3), (4, .int x4), (5, .long p62l5), (7, .int p6l7)]) (fun p62l5 => []) 62 (fun p62l5 => ?_) (fun j62 hj62 => ?_)
  · refine Z.iinc F (L0 := [(0, zv h0), (1, .int x1), (2, .int x2), (3, .int x3), (4, .int x4), (5, .long p62l5)]) (k0 := 6) (v := (1 : Int32)) rfl (by decide) [0, 1, 2, 3, 4, 5] rfl (zkR rfl (zkI rfl (zkI rfl (zkI rfl (zkI rfl (zkL rfl rfl zkN)))))) (by decide) dX9_joinTruth_62 ?_
    refine Z.goto F (tgt := 6) dX9_joinTruth_65 (by decide) ?_
    exact Z.sub [1, 2, 3, 4, 5, 6, 0] rfl (hr6 p62l5 (p6l7 + (1 : Int32)))
  refine Z.if_le F (tgt := 62) dX9_joinTruth_29 (by decide) ?_ ?_
  · exact Z.sub [1, 2, 3, 4, 5, 6, 7] rfl (hj62 p6l5)
  refine Z.aload_n F 1 rfl dX9_joinTruth_32 ?_
  refine clX9_347 F ⟨Nat.le_of_ble_eq_true rfl, Nat.le_of_ble_eq_true rfl⟩ (zlw4 (Nat.le_of_ble_eq_true rfl)) dX9_joinTruth_33 (fun r33 => ?_)
  refine Z.if_eq F (tgt := 43) dX9_joinTruth_36 (by decide) ?_ ?_
  · refine Z.lload F 6 rfl dX9_joinTruth_43 ?_
    refine Z.iload F 0 rfl dX9_joinTruth_45 ?_
    refine Z.i2l F dX9_joinTruth_47 ?_
    refine Z.aload_n F 1 rfl dX9_joinTruth_48 ?_
    refine Z.iload_n F 4 rfl dX9_joinTruth_49 ?_
    refine Z.iload F 5 rfl dX9_joinTruth_50 ?_
    refine Z.iload F 7 rfl dX9_joinTruth_52 ?_
    refine clX9_375 F ⟨Nat.le_of_ble_eq_true rfl, Nat.le_of_ble_eq_true rfl⟩ (zlw4 (Nat.le_of_ble_eq_true rfl)) dX9_joinTruth_54 (fun r54 => ?_)
    refine Z.i2l F dX9_joinTruth_57 ?_
    refine Z.lmul F dX9_joinTruth_58 ?_
    refine Z.ladd F dX9_joinTruth_59 ?_
    refine Z.lstore F (L0 := [(8, .int r22), (0, zv h0), (1, .int x1), (2, .int x2), (3, .int x3), (4, .int x4), (7, .int p6l7)]) [0, 1, 2, 3, 4, 5, 7] rfl (zmI rfl rfl  (zmR rfl rfl  (zmI rfl rfl  (zmI rfl rfl  (zmI rfl rfl  (zmI rfl rfl  (zmI rfl rfl  zmN))))))) (by decide) dX9_joinTruth_60 ?_
    exact Z.sub [2, 3, 4, 5, 6, 0, 7] rfl (hj62 (p6l5 + (r22.toInt64 * r54.toInt64)))
  refine Z.ldc2 F q1829 dX9_joinTruth_39 ?_
  exact Z.lret F dX9_joinTruth_42
theorem clX9_390 (F : ZF p R s m args meth c cc nL "SafeBucketsModel" nm ret D A al sz mc ms fr lo) {h0 : Nat} {x1 : Int32} {x2 : Int32} {x3 : Int32} {x4 : Int32} {K : Int64 → ZM → Prop} (hR : 3 + 1 ≤ fr ∧ 8 + (9 + 11) + 71 ≤ lo) (hst4 : zlw st) (hdg : decode cc pc = .ok (.invokevirtual 390, 3)) (k : ∀ r, ZW p l e R s m args below meth c Q nL D A al n0 (K r) (pc + 3) L (.long r :: st)) : ZW p l e R s m args below meth c Q nL D A al n0 (zat 7 h0 (f_X9_joinTruth h0 x1 x2 x3 x4 K)) pc L (.int x4 :: .int x3 :: .int x2 :: .int x1 :: zv h0 :: st) :=
  Z.rl0 _ (fun μ H locs cells slots ls hI h hP => Z.V0 F hI (n := 4) (ci := 6) rfl (by decide) hP.1 hP.2 (k_X9_joinTruth l h0 x1 x2 x3 x4 D A (zX μ, zC μ, zS μ) H.size K μ) q2064 q2066 qs106 q126 q2067 (by decide +kernel) rfl h.1 hst4 hR rfl hdg) k
theorem clX9_386 (F : ZF p R s m args meth c cc nL "SafeBucketsModel" nm ret D A al sz mc ms fr lo) {h0 : Nat} {x1 : Int32} {x2 : Int32} {x3 : Int32} {x4 : Int32} {x5 : Int32} {K : Int64 → ZM → Prop} (hR : 2 + 1 ≤ fr ∧ 8 + (22 + 11) + 45 ≤ lo) (hst4 : zlw st) (hdg : decode cc pc = .ok (.invokevirtual 386, 3)) (k : ∀ r, ZW p l e R s m args below meth c Q nL D A al n0 (K r) (pc + 3) L (.long r :: st)) : ZW p l e R s m args below meth c Q nL D A al n0 (zat 7 h0 (f_X9_joinBy h0 x1 x2 x3 x4 x5 K)) pc L (.int x5 :: .int x4 :: .int x3 :: .int x2 :: .int x1 :: zv h0 :: st) :=
  Z.rl0 _ (fun μ H locs cells slots ls hI h hP => Z.V0 F hI (n := 5) (ci := 6) rfl (by decide) hP.1 hP.2 (k_X9_joinBy l h0 x1 x2 x3 x4 x5 D A (zX μ, zC μ, zS μ) H.size K μ) q2060 q2062 qs105 q126 q2063 (by decide +kernel) rfl h.1 hst4 hR rfl hdg) k
theorem clX9_382 (F : ZF p R s m args meth c cc nL "SafeBucketsModel" nm ret D A al sz mc ms fr lo) {h0 : Nat} {x1 : Int32} {x2 : Int32} {x3 : Int32} {x4 : Int32} {K : Int64 → ZM → Prop} (hR : 4 + 1 ≤ fr ∧ 8 + (8 + 11) + 97 ≤ lo) (hst4 : zlw st) (hdg : decode cc pc = .ok (.invokevirtual 382, 3)) (k : ∀ r, ZW p l e R s m args below meth c Q nL D A al n0 (K r) (pc + 3) L (.long r :: st)) : ZW p l e R s m args below meth c Q nL D A al n0 (zat 7 h0 (f_X9_degrees h0 x1 x2 x3 x4 K)) pc L (.int x4 :: .int x3 :: .int x2 :: .int x1 :: zv h0 :: st) :=
  Z.rl0 _ (fun μ H locs cells slots ls hI h hP => Z.V0 F hI (n := 4) (ci := 6) rfl (by decide) hP.1 hP.2 (k_X9_degrees l h0 x1 x2 x3 x4 D A (zX μ, zC μ, zS μ) H.size K μ) q2048 q2050 qs102 q126 q2051 (by decide +kernel) rfl h.1 hst4 hR rfl hdg) k
set_option maxHeartbeats 4000000 in
theorem k_X9_join (l : Launch) (h0 : Nat) (x1 : Int32) (x2 : Int32) (x3 : Int32) (x4 : Int32) (x5 : Int32) : ZCl l yX9_join (ws_ yX9_join cX9_join 6 (some .long)) 5 124 0 0 false [zv h0, .int x1, .int x2, .int x3, .int x4, .int x5] (f_X9_join h0 x1 x2 x3 x4 x5) := by
  refine Z.metL (by decide +kernel) (fun h => ⟨rfl, rfl⟩) (L0 := [(0, zv h0), (1, .int x1), (2, .int x2), (3, .int x3), (4, .int x4), (5, .int x5)]) (by first | (rw [zla_v, zla_i, zla_i, zla_i, zla_i, zla_i, zla_0]; done) | (rw [zla_v, zla_i, zla_i, zla_i, zla_i, zla_i, zla_0]; rfl)) (by rw [zsl_v, zsl_i, zsl_i, zsl_i, zsl_i, zsl_i, zsl_0]; exact Nat.le_of_ble_eq_true rfl) ?_
  intro p e R s m args below meth c D A n0 sz k F
  have F : ZF p R s m args meth c cX9_join 6 "SafeBucketsModel" "join" (some .long) D A false sz 0 0 5 124 := F
  unfold f_X9_join
  refine Z.aload_n F 0 rfl dX9_join_0 ?_
  refine Z.iload_n F 1 rfl dX9_join_1 ?_
  refine Z.iload_n F 2 rfl dX9_join_2 ?_
  refine clX9_235 F ⟨Nat.le_of_ble_eq_true rfl, Nat.le_of_ble_eq_true rfl⟩ (zlw4 (Nat.le_of_ble_eq_true rfl)) dX9_join_3 (fun r3 => ?_)
  refine Z.jn0 (J := _) ([]) ([]) 32 (?_) (fun j32 hj32 => ?_)
  · refine Z.ldc2 F q1829 dX9_join_32 ?_
    exact Z.lret F dX9_join_35
  refine Z.if_eq F (tgt := 32) dX9_join_6 (by decide) ?_ ?_
  · exact Z.sub [] rfl (hj32)
  refine Z.aload_n F 0 rfl dX9_join_9 ?_
  refine Z.iload_n F 3 rfl dX9_join_10 ?_
  refine Z.iload F 4 rfl dX9_join_11 ?_
  refine clX9_235 F ⟨Nat.le_of_ble_eq_true rfl, Nat.le_of_ble_eq_true rfl⟩ (zlw4 (Nat.le_of_ble_eq_true rfl)) dX9_join_13 (fun r13 => ?_)
  refine Z.if_eq F (tgt := 32) dX9_join_16 (by decide) ?_ ?_
  · exact Z.sub [] rfl (hj32)
  refine Z.iload F 5 rfl dX9_join_19 ?_
  refine Z.i2l F dX9_join_21 ?_
  refine Z.lconst F (w := (0 : Int64)) (by decide) dX9_join_22 ?_
  refine Z.ldc2 F q1816 dX9_join_23 ?_
  refine clX9_77 F ⟨Nat.le_of_ble_eq_true rfl, Nat.le_of_ble_eq_true rfl⟩ (zlw4 (Nat.le_of_ble_eq_true rfl)) dX9_join_26 (fun r26 => ?_)
  refine Z.if_ne F (tgt := 36) dX9_join_29 (by decide) ?_ ?_
  · refine Z.iload F 5 rfl dX9_join_36 ?_
    refine Z.if_le F (tgt := 80) dX9_join_38 (by decide) ?_ ?_
    · refine Z.aload_n F 0 rfl dX9_join_80 ?_
      refine clX9_365 F ⟨Nat.le_of_ble_eq_true rfl, Nat.le_of_ble_eq_true rfl⟩ (zlw4 (Nat.le_of_ble_eq_true rfl)) dX9_join_81 ?_
      refine Z.aload_n F 0 rfl dX9_join_84 ?_
      refine Z.iload_n F 1 rfl dX9_join_85 ?_
      refine clX9_332 F ⟨Nat.le_of_ble_eq_true rfl, Nat.le_of_ble_eq_true rfl⟩ (zlw4 (Nat.le_of_ble_eq_true rfl)) dX9_join_86 ?_
      refine Z.aload_n F 0 rfl dX9_join_89 ?_
      refine Z.iload_n F 3 rfl dX9_join_90 ?_
      refine clX9_332 F ⟨Nat.le_of_ble_eq_true rfl, Nat.le_of_ble_eq_true rfl⟩ (zlw4 (Nat.le_of_ble_eq_true rfl)) dX9_join_91 ?_
      refine Z.aload_n F 0 rfl dX9_join_94 ?_
      refine Z.aload_n F 0 rfl dX9_join_95 ?_
      refine Z.iload_n F 1 rfl dX9_join_96 ?_
      refine Z.iload_n F 2 rfl dX9_join_97 ?_
      refine Z.iload_n F 3 rfl dX9_join_98 ?_
      refine Z.iload F 4 rfl dX9_join_99 ?_
      refine clX9_390 F ⟨Nat.le_of_ble_eq_true rfl, Nat.le_of_ble_eq_true rfl⟩ (zlw4 (Nat.le_of_ble_eq_true rfl)) dX9_join_101 (fun r101 => ?_)
      refine clX9_371 F ⟨Nat.le_of_ble_eq_true rfl, Nat.le_of_ble_eq_true rfl⟩ (zlw4 (Nat.le_of_ble_eq_true rfl)) dX9_join_104 (fun r104 => ?_)
      exact Z.lret F dX9_join_107
    refine Z.iload F 5 rfl dX9_join_41 ?_
    refine Z.iconst F (v := (2 : Int32)) (by decide) dX9_join_43 ?_
    refine Z.jn1 (J := _) (fun p79s0 => []) (fun p79s0 => [.long p79s0]) 79 (fun p79s0 => ?_) (fun j79 hj79 => ?_)
    · exact Z.lret F dX9_join_79
    refine Z.icmp_ne F (tgt := 59) dX9_join_44 (by decide) ?_ ?_
    · refine Z.aload_n F 0 rfl dX9_join_59 ?_
      refine Z.iload_n F 1 rfl dX9_join_60 ?_
      refine Z.iload_n F 2 rfl dX9_join_61 ?_
      refine Z.iload_n F 3 rfl dX9_join_62 ?_
      refine Z.iload F 4 rfl dX9_join_63 ?_
      refine Z.iload F 5 rfl dX9_join_65 ?_
      refine Z.iconst F (v := (1 : Int32)) (by decide) dX9_join_67 ?_
      refine Z.jn1 (J := _) (fun p76s5 => []) (fun p76s5 => [.int p76s5, .int x4, .int x3, .int x2, .int x1, zv h0]) 76 (fun p76s5 => ?_) (fun j76 hj76 => ?_)
      · refine clX9_386 F ⟨Nat.le_of_ble_eq_true rfl, Nat.le_of_ble_eq_true rfl⟩ (zlw4 (Nat.le_of_ble_eq_true rfl)) dX9_join_76 (fun r76 => ?_)
        exact Z.sub [] rfl (hj79 r76)
      refine Z.icmp_ne F (tgt := 75) dX9_join_68 (by decide) ?_ ?_
      · refine Z.iconst F (v := (0 : Int32)) (by decide) dX9_join_75 ?_
        exact Z.sub [] rfl (hj76 (0 : Int32))
      refine Z.iconst F (v := (1 : Int32)) (by decide) dX9_join_71 ?_
      refine Z.goto F (tgt := 76) dX9_join_72 (by decide) ?_
      exact Z.sub [] rfl (hj76 (1 : Int32))
    refine Z.aload_n F 0 rfl dX9_join_47 ?_
    refine Z.iload_n F 1 rfl dX9_join_48 ?_
    refine Z.iload_n F 2 rfl dX9_join_49 ?_
    refine Z.iload_n F 3 rfl dX9_join_50 ?_
    refine Z.iload F 4 rfl dX9_join_51 ?_
    refine clX9_382 F ⟨Nat.le_of_ble_eq_true rfl, Nat.le_of_ble_eq_true rfl⟩ (zlw4 (Nat.le_of_ble_eq_true rfl)) dX9_join_53 (fun r53 => ?_)
    refine Z.goto F (tgt := 79) dX9_join_56 (by decide) ?_
    exact Z.sub [] rfl (hj79 r53)
  exact Z.sub [] rfl (hj32)
set_option maxHeartbeats 4000000 in
theorem k_X9_greatestOf (l : Launch) (h0 : Nat) (x1 : Int32) (x2 : Int32) : ZCl l yX9_greatestOf (ws_ yX9_greatestOf cX9_greatestOf 5 (some .long)) 2 45 0 0 false [zv h0, .int x1, .int x2] (f_X9_greatestOf h0 x1 x2) := by
  refine Z.metL (by decide +kernel) (fun h => ⟨rfl, rfl⟩) (L0 := [(0, zv h0), (1, .int x1), (2, .int x2)]) (by first | (rw [zla_v, zla_i, zla_i, zla_0]; done) | (rw [zla_v, zla_i, zla_i, zla_0]; rfl)) (by rw [zsl_v, zsl_i, zsl_i, zsl_0]; exact Nat.le_of_ble_eq_true rfl) ?_
  intro p e R s m args below meth c D A n0 sz k F
  have F : ZF p R s m args meth c cX9_greatestOf 5 "SafeBucketsModel" "greatestOf" (some .long) D A false sz 0 0 2 45 := F
  unfold f_X9_greatestOf
  refine Z.iconst F (v := (0 : Int32)) (by decide) dX9_greatestOf_0 ?_
  refine Z.istore_n F (L0 := [(0, zv h0), (1, .int x1), (2, .int x2)]) [0, 1, 2] rfl (zkR rfl (zkI rfl (zkI rfl zkN))) (by decide) dX9_greatestOf_1 ?_
  refine Z.iconst F (v := (0 : Int32)) (by decide) dX9_greatestOf_2 ?_
  refine Z.istore F (L0 := [(3, .int (0 : Int32)), (0, zv h0), (1, .int x1), (2, .int x2)]) [0, 1, 2, 3] rfl (zkI rfl (zkR rfl (zkI rfl (zkI rfl zkN)))) (by decide) dX9_greatestOf_3 ?_
  refine Z.sub [2, 3, 4, 1, 0] rfl ?_
  refine Z.w2 (Lf := fun p5l3 p5l4 => [(0, zv h0), (1, .int x1), (2, .int x2), (3, .int p5l3), (4, .int p5l4)]) (sf := fun p5l3 p5l4 => []) (fun r5 hr5 p5l3 p5l4 => ?_) (0 : Int32) (0 : Int32)
  refine Z.iload F 4 rfl dX9_greatestOf_5 ?_
  refine Z.aload_n F 0 rfl dX9_greatestOf_7 ?_
  refine Z.iload_n F 1 rfl dX9_greatestOf_8 ?_
  refine Z.iload_n F 2 rfl dX9_greatestOf_9 ?_
  refine clX9_238 F ⟨Nat.le_of_ble_eq_true rfl, Nat.le_of_ble_eq_true rfl⟩ (zlw4 (Nat.le_of_ble_eq_true rfl)) dX9_greatestOf_10 (fun r10 => ?_)
  refine Z.icmp_ge F (tgt := 36) dX9_greatestOf_13 (by decide) ?_ ?_
  · refine Z.iload_n F 3 rfl dX9_greatestOf_36 ?_
    refine Z.i2l F dX9_greatestOf_37 ?_
    exact Z.lret F dX9_greatestOf_38
  refine Z.iload_n F 3 rfl dX9_greatestOf_16 ?_
  refine Z.aload_n F 0 rfl dX9_greatestOf_17 ?_
  refine Z.iload_n F 1 rfl dX9_greatestOf_18 ?_
  refine Z.iload_n F 2 rfl dX9_greatestOf_19 ?_
  refine Z.iload F 4 rfl dX9_greatestOf_20 ?_
  refine Z.iconst F (v := (3 : Int32)) (by decide) dX9_greatestOf_22 ?_
  refine clX9_241 F ⟨Nat.le_of_ble_eq_true rfl, Nat.le_of_ble_eq_true rfl⟩ (zlw4 (Nat.le_of_ble_eq_true rfl)) dX9_greatestOf_23 (fun r23 => ?_)
  refine Z.mmax F q1794 (Nat.le_of_ble_eq_true rfl) (Nat.le_of_ble_eq_true rfl) (zlw4 (Nat.le_of_ble_eq_true rfl)) dX9_greatestOf_26 ?_
  refine Z.istore_n F (L0 := [(0, zv h0), (1, .int x1), (2, .int x2), (4, .int p5l4)]) [0, 1, 2, 4] rfl (zkR rfl (zkI rfl (zkI rfl (zkI rfl zkN)))) (by decide) dX9_greatestOf_29 ?_
  refine Z.iinc F (L0 := [(3, .int (if p5l3 < r23 then r23 else p5l3)), (0, zv h0), (1, .int x1), (2, .int x2)]) (k0 := 4) (v := (1 : Int32)) rfl (by decide) [0, 1, 2, 3] rfl (zkI rfl (zkR rfl (zkI rfl (zkI rfl zkN)))) (by decide) dX9_greatestOf_30 ?_
  refine Z.goto F (tgt := 5) dX9_greatestOf_33 (by decide) ?_
  exact Z.sub [2, 3, 4, 1, 0] rfl (hr5 (if p5l3 < r23 then r23 else p5l3) (p5l4 + (1 : Int32)))
set_option maxHeartbeats 4000000 in
theorem k_X9_chainTruth (l : Launch) (h0 : Nat) : ZCl l yX9_chainTruth (ws_ yX9_chainTruth cX9_chainTruth 6 (some .long)) 3 71 0 0 false [zv h0] (f_X9_chainTruth h0) := by
  refine Z.metL (by decide +kernel) (fun h => ⟨rfl, rfl⟩) (L0 := [(0, zv h0)]) (by first | (rw [zla_v, zla_0]; done) | (rw [zla_v, zla_0]; rfl)) (by rw [zsl_v, zsl_0]; exact Nat.le_of_ble_eq_true rfl) ?_
  intro p e R s m args below meth c D A n0 sz k F
  have F : ZF p R s m args meth c cX9_chainTruth 6 "SafeBucketsModel" "chainTruth" (some .long) D A false sz 0 0 3 71 := F
  unfold f_X9_chainTruth
  refine Z.lconst F (w := (0 : Int64)) (by decide) dX9_chainTruth_0 ?_
  refine Z.lstore_n F (L0 := [(0, zv h0)]) [0] rfl (zmR rfl rfl  zmN) (by decide) dX9_chainTruth_1 ?_
  refine Z.iconst F (v := (0 : Int32)) (by decide) dX9_chainTruth_2 ?_
  refine Z.istore_n F (L0 := [(1, .long (0 : Int64)), (0, zv h0)]) [0, 1] rfl (zkL rfl rfl (zkR rfl zkN)) (by decide) dX9_chainTruth_3 ?_
  refine Z.sub [2, 1, 0] rfl ?_
  refine Z.w2 (Lf := fun p4l1 p4l3 => [(0, zv h0), (1, .long p4l1), (3, .int p4l3)]) (sf := fun p4l1 p4l3 => []) (fun r4 hr4 p4l1 p4l3 => ?_) (0 : Int64) (0 : Int32)
  refine Z.iload_n F 2 rfl dX9_chainTruth_4 ?_
  refine Z.aload_n F 0 rfl dX9_chainTruth_5 ?_
  refine gfX9_25 F dX9_chainTruth_6 (fun g6 => ?_)
  refine Z.iconst F (v := (1 : Int32)) (by decide) dX9_chainTruth_9 ?_
  refine Z.iald F dX9_chainTruth_10 (fun g10 => ?_)
  refine Z.icmp_ge F (tgt := 95) dX9_chainTruth_11 (by decide) ?_ ?_
  · refine Z.lload_n F 1 rfl dX9_chainTruth_95 ?_
    exact Z.lret F dX9_chainTruth_96
  refine Z.iconst F (v := (0 : Int32)) (by decide) dX9_chainTruth_14 ?_
  refine Z.istore F (L0 := [(0, zv h0), (1, .long p4l1), (3, .int p4l3)]) [0, 1, 2] rfl (zkR rfl (zkL rfl rfl (zkI rfl zkN))) (by decide) dX9_chainTruth_15 ?_
  refine Z.jn2 (J := _) (fun p89l1 p89l3 => [(0, zv h0), (1, .long p89l1), (3, .int p89l3)]) (fun p89l1 p89l3 => []) 89 (fun p89l1 p89l3 => ?_) (fun j89 hj89 => ?_)
  · refine Z.iinc F (L0 := [(0, zv h0), (1, .long p89l1)]) (k0 := 2) (v := (1 : Int32)) rfl (by decide) [0, 1] rfl (zkR rfl (zkL rfl rfl zkN)) (by decide) dX9_chainTruth_89 ?_
    refine Z.goto F (tgt := 4) dX9_chainTruth_92 (by decide) ?_
    exact Z.sub [1, 2, 0] rfl (hr4 p89l1 (p89l3 + (1 : Int32)))
  refine Z.sub [1, 2, 3, 0] rfl ?_
  refine Z.w3 (Lf := fun p17l1 p17l3 p17l4 => [(0, zv h0), (1, .long p17l1), (3, .int p17l3), (4, .int p17l4)]) (sf := fun p17l1 p17l3 p17l4 => []) (fun r17 hr17 p17l1 p17l3 p17l4 => ?_) p4l1 p4l3 (0 : Int32)
  refine Z.iload F 3 rfl dX9_chainTruth_17 ?_
  refine Z.aload_n F 0 rfl dX9_chainTruth_19 ?_
  refine gfX9_25 F dX9_chainTruth_20 (fun g20 => ?_)
  refine Z.iconst F (v := (1 : Int32)) (by decide) dX9_chainTruth_23 ?_
  refine Z.iald F dX9_chainTruth_24 (fun g24 => ?_)
  refine Z.icmp_ge F (tgt := 89) dX9_chainTruth_25 (by decide) ?_ ?_
  · exact Z.sub [0, 1, 2] rfl (hj89 p17l1 p17l3)
  refine Z.aload_n F 0 rfl dX9_chainTruth_28 ?_
  refine gfX9_34 F dX9_chainTruth_29 (fun g29 => ?_)
  refine Z.iconst F (v := (1 : Int32)) (by decide) dX9_chainTruth_32 ?_
  refine Z.iload_n F 2 rfl dX9_chainTruth_33 ?_
  refine Z.iload F 3 rfl dX9_chainTruth_34 ?_
  refine clX9_158 F ⟨Nat.le_of_ble_eq_true rfl, Nat.le_of_ble_eq_true rfl⟩ (zlw4 (Nat.le_of_ble_eq_true rfl)) dX9_chainTruth_36 (fun r36 => ?_)
  refine Z.iald F dX9_chainTruth_39 (fun g39 => ?_)
  refine Z.istore F (L0 := [(0, zv h0), (1, .long p17l1), (3, .int p17l3), (4, .int p17l4)]) [0, 1, 2, 3] rfl (zkR rfl (zkL rfl rfl (zkI rfl (zkI rfl zkN)))) (by decide) dX9_chainTruth_40 ?_
  refine Z.iload F 0 rfl dX9_chainTruth_42 ?_
  refine Z.jn1 (J := _) (fun p83l1 => [(0, zv h0), (1, .long p83l1), (3, .int p17l3), (4, .int p17l4)]) (fun p83l1 => []) 83 (fun p83l1 => ?_) (fun j83 hj83 => ?_)
  · refine Z.iinc F (L0 := [(0, zv h0), (1, .long p83l1), (3, .int p17l3)]) (k0 := 3) (v := (1 : Int32)) rfl (by decide) [0, 1, 2] rfl (zkR rfl (zkL rfl rfl (zkI rfl zkN))) (by decide) dX9_chainTruth_83 ?_
    refine Z.goto F (tgt := 17) dX9_chainTruth_86 (by decide) ?_
    exact Z.sub [1, 2, 3, 0] rfl (hr17 p83l1 p17l3 (p17l4 + (1 : Int32)))
  refine Z.if_le F (tgt := 83) dX9_chainTruth_44 (by decide) ?_ ?_
  · exact Z.sub [1, 2, 3, 4] rfl (hj83 p17l1)
  refine Z.aload_n F 1 rfl dX9_chainTruth_47 ?_
  refine clX9_347 F ⟨Nat.le_of_ble_eq_true rfl, Nat.le_of_ble_eq_true rfl⟩ (zlw4 (Nat.le_of_ble_eq_true rfl)) dX9_chainTruth_48 (fun r48 => ?_)
  refine Z.if_eq F (tgt := 58) dX9_chainTruth_51 (by decide) ?_ ?_
  · refine Z.lload_n F 2 rfl dX9_chainTruth_58 ?_
    refine Z.iload F 0 rfl dX9_chainTruth_59 ?_
    refine Z.i2l F dX9_chainTruth_61 ?_
    refine Z.aload_n F 1 rfl dX9_chainTruth_62 ?_
    refine Z.iconst F (v := (0 : Int32)) (by decide) dX9_chainTruth_63 ?_
    refine Z.iconst F (v := (1 : Int32)) (by decide) dX9_chainTruth_64 ?_
    refine Z.iload_n F 3 rfl dX9_chainTruth_65 ?_
    refine clX9_375 F ⟨Nat.le_of_ble_eq_true rfl, Nat.le_of_ble_eq_true rfl⟩ (zlw4 (Nat.le_of_ble_eq_true rfl)) dX9_chainTruth_66 (fun r66 => ?_)
    refine Z.i2l F dX9_chainTruth_69 ?_
    refine Z.lmul F dX9_chainTruth_70 ?_
    refine Z.aload_n F 1 rfl dX9_chainTruth_71 ?_
    refine Z.iconst F (v := (2 : Int32)) (by decide) dX9_chainTruth_72 ?_
    refine Z.iconst F (v := (0 : Int32)) (by decide) dX9_chainTruth_73 ?_
    refine Z.iload F 4 rfl dX9_chainTruth_74 ?_
    refine clX9_375 F ⟨Nat.le_of_ble_eq_true rfl, Nat.le_of_ble_eq_true rfl⟩ (zlw4 (Nat.le_of_ble_eq_true rfl)) dX9_chainTruth_76 (fun r76 => ?_)
    refine Z.i2l F dX9_chainTruth_79 ?_
    refine Z.lmul F dX9_chainTruth_80 ?_
    refine Z.ladd F dX9_chainTruth_81 ?_
    refine Z.lstore_n F (L0 := [(5, .int g39), (0, zv h0), (3, .int p17l3), (4, .int p17l4)]) [0, 1, 3, 4] rfl (zmI rfl rfl  (zmR rfl rfl  (zmI rfl rfl  (zmI rfl rfl  zmN)))) (by decide) dX9_chainTruth_82 ?_
    exact Z.sub [2, 0, 3, 4] rfl (hj83 (p17l1 + ((g39.toInt64 * r66.toInt64) * r76.toInt64)))
  refine Z.ldc2 F q1829 dX9_chainTruth_54 ?_
  exact Z.lret F dX9_chainTruth_57
theorem clX9_396 (F : ZF p R s m args meth c cc nL "SafeBucketsModel" nm ret D A al sz mc ms fr lo) {h0 : Nat} {K : Int64 → ZM → Prop} (hR : 3 + 1 ≤ fr ∧ 8 + (6 + 11) + 71 ≤ lo) (hst4 : zlw st) (hdg : decode cc pc = .ok (.invokevirtual 396, 3)) (k : ∀ r, ZW p l e R s m args below meth c Q nL D A al n0 (K r) (pc + 3) L (.long r :: st)) : ZW p l e R s m args below meth c Q nL D A al n0 (zat 7 h0 (f_X9_chainTruth h0 K)) pc L (zv h0 :: st) :=
  Z.rl0 _ (fun μ H locs cells slots ls hI h hP => Z.V0 F hI (n := 0) (ci := 6) rfl (by decide) hP.1 hP.2 (k_X9_chainTruth l h0 D A (zX μ, zC μ, zS μ) H.size K μ) q2076 q2078 qs108 q126 q2079 (by decide +kernel) rfl h.1 hst4 hR rfl hdg) k
theorem clX9_393 (F : ZF p R s m args meth c cc nL "SafeBucketsModel" nm ret D A al sz mc ms fr lo) {h0 : Nat} {x1 : Int32} {x2 : Int32} {K : Int64 → ZM → Prop} (hR : 2 + 1 ≤ fr ∧ 8 + (5 + 11) + 45 ≤ lo) (hst4 : zlw st) (hdg : decode cc pc = .ok (.invokevirtual 393, 3)) (k : ∀ r, ZW p l e R s m args below meth c Q nL D A al n0 (K r) (pc + 3) L (.long r :: st)) : ZW p l e R s m args below meth c Q nL D A al n0 (zat 7 h0 (f_X9_greatestOf h0 x1 x2 K)) pc L (.int x2 :: .int x1 :: zv h0 :: st) :=
  Z.rl0 _ (fun μ H locs cells slots ls hI h hP => Z.V0 F hI (n := 2) (ci := 6) rfl (by decide) hP.1 hP.2 (k_X9_greatestOf l h0 x1 x2 D A (zX μ, zC μ, zS μ) H.size K μ) q2072 q2074 qs107 q126 q2075 (by decide +kernel) rfl h.1 hst4 hR rfl hdg) k
set_option maxHeartbeats 4000000 in
theorem k_X9_chain (l : Launch) (h0 : Nat) (x1 : Int32) : ZCl l yX9_chain (ws_ yX9_chain cX9_chain 2 (some .long)) 4 96 0 0 false [zv h0, .int x1] (f_X9_chain h0 x1) := by
  refine Z.metL (by decide +kernel) (fun h => ⟨rfl, rfl⟩) (L0 := [(0, zv h0), (1, .int x1)]) (by first | (rw [zla_v, zla_i, zla_0]; done) | (rw [zla_v, zla_i, zla_0]; rfl)) (by rw [zsl_v, zsl_i, zsl_0]; exact Nat.le_of_ble_eq_true rfl) ?_
  intro p e R s m args below meth c D A n0 sz k F
  have F : ZF p R s m args meth c cX9_chain 2 "SafeBucketsModel" "chain" (some .long) D A false sz 0 0 4 96 := F
  unfold f_X9_chain
  refine Z.aload_n F 0 rfl dX9_chain_0 ?_
  refine gfX9_150 F dX9_chain_1 (fun g1 => ?_)
  refine Z.iconst F (v := (3 : Int32)) (by decide) dX9_chain_4 ?_
  refine Z.jn0 (J := _) ([]) ([]) 18 (?_) (fun j18 hj18 => ?_)
  · refine Z.ldc2 F q1829 dX9_chain_18 ?_
    exact Z.lret F dX9_chain_21
  refine Z.icmp_lt F (tgt := 18) dX9_chain_5 (by decide) ?_ ?_
  · exact Z.sub [] rfl (hj18)
  refine Z.iload_n F 1 rfl dX9_chain_8 ?_
  refine Z.i2l F dX9_chain_9 ?_
  refine Z.lconst F (w := (0 : Int64)) (by decide) dX9_chain_10 ?_
  refine Z.lconst F (w := (1 : Int64)) (by decide) dX9_chain_11 ?_
  refine clX9_77 F ⟨Nat.le_of_ble_eq_true rfl, Nat.le_of_ble_eq_true rfl⟩ (zlw4 (Nat.le_of_ble_eq_true rfl)) dX9_chain_12 (fun r12 => ?_)
  refine Z.if_ne F (tgt := 22) dX9_chain_15 (by decide) ?_ ?_
  · refine Z.iload_n F 1 rfl dX9_chain_22 ?_
    refine Z.iconst F (v := (1 : Int32)) (by decide) dX9_chain_23 ?_
    refine Z.icmp_ne F (tgt := 63) dX9_chain_24 (by decide) ?_ ?_
    · refine Z.aload_n F 0 rfl dX9_chain_63 ?_
      refine clX9_365 F ⟨Nat.le_of_ble_eq_true rfl, Nat.le_of_ble_eq_true rfl⟩ (zlw4 (Nat.le_of_ble_eq_true rfl)) dX9_chain_64 ?_
      refine Z.aload_n F 0 rfl dX9_chain_67 ?_
      refine Z.iconst F (v := (0 : Int32)) (by decide) dX9_chain_68 ?_
      refine clX9_332 F ⟨Nat.le_of_ble_eq_true rfl, Nat.le_of_ble_eq_true rfl⟩ (zlw4 (Nat.le_of_ble_eq_true rfl)) dX9_chain_69 ?_
      refine Z.aload_n F 0 rfl dX9_chain_72 ?_
      refine Z.iconst F (v := (1 : Int32)) (by decide) dX9_chain_73 ?_
      refine clX9_332 F ⟨Nat.le_of_ble_eq_true rfl, Nat.le_of_ble_eq_true rfl⟩ (zlw4 (Nat.le_of_ble_eq_true rfl)) dX9_chain_74 ?_
      refine Z.aload_n F 0 rfl dX9_chain_77 ?_
      refine Z.iconst F (v := (2 : Int32)) (by decide) dX9_chain_78 ?_
      refine clX9_332 F ⟨Nat.le_of_ble_eq_true rfl, Nat.le_of_ble_eq_true rfl⟩ (zlw4 (Nat.le_of_ble_eq_true rfl)) dX9_chain_79 ?_
      refine Z.aload_n F 0 rfl dX9_chain_82 ?_
      refine Z.aload_n F 0 rfl dX9_chain_83 ?_
      refine clX9_396 F ⟨Nat.le_of_ble_eq_true rfl, Nat.le_of_ble_eq_true rfl⟩ (zlw4 (Nat.le_of_ble_eq_true rfl)) dX9_chain_84 (fun r84 => ?_)
      refine clX9_371 F ⟨Nat.le_of_ble_eq_true rfl, Nat.le_of_ble_eq_true rfl⟩ (zlw4 (Nat.le_of_ble_eq_true rfl)) dX9_chain_87 (fun r87 => ?_)
      exact Z.lret F dX9_chain_90
    refine Z.aload_n F 0 rfl dX9_chain_27 ?_
    refine Z.iconst F (v := (0 : Int32)) (by decide) dX9_chain_28 ?_
    refine Z.iconst F (v := (1 : Int32)) (by decide) dX9_chain_29 ?_
    refine Z.iconst F (v := (1 : Int32)) (by decide) dX9_chain_30 ?_
    refine Z.iconst F (v := (0 : Int32)) (by decide) dX9_chain_31 ?_
    refine Z.iconst F (v := (1 : Int32)) (by decide) dX9_chain_32 ?_
    refine clX9_386 F ⟨Nat.le_of_ble_eq_true rfl, Nat.le_of_ble_eq_true rfl⟩ (zlw4 (Nat.le_of_ble_eq_true rfl)) dX9_chain_33 (fun r33 => ?_)
    refine Z.aload_n F 0 rfl dX9_chain_36 ?_
    refine Z.iconst F (v := (2 : Int32)) (by decide) dX9_chain_37 ?_
    refine Z.iconst F (v := (0 : Int32)) (by decide) dX9_chain_38 ?_
    refine clX9_393 F ⟨Nat.le_of_ble_eq_true rfl, Nat.le_of_ble_eq_true rfl⟩ (zlw4 (Nat.le_of_ble_eq_true rfl)) dX9_chain_39 (fun r39 => ?_)
    refine Z.lmul F dX9_chain_42 ?_
    refine Z.aload_n F 0 rfl dX9_chain_43 ?_
    refine Z.iconst F (v := (1 : Int32)) (by decide) dX9_chain_44 ?_
    refine Z.iconst F (v := (1 : Int32)) (by decide) dX9_chain_45 ?_
    refine Z.iconst F (v := (2 : Int32)) (by decide) dX9_chain_46 ?_
    refine Z.iconst F (v := (0 : Int32)) (by decide) dX9_chain_47 ?_
    refine Z.iconst F (v := (1 : Int32)) (by decide) dX9_chain_48 ?_
    refine clX9_386 F ⟨Nat.le_of_ble_eq_true rfl, Nat.le_of_ble_eq_true rfl⟩ (zlw4 (Nat.le_of_ble_eq_true rfl)) dX9_chain_49 (fun r49 => ?_)
    refine Z.aload_n F 0 rfl dX9_chain_52 ?_
    refine Z.iconst F (v := (0 : Int32)) (by decide) dX9_chain_53 ?_
    refine Z.iconst F (v := (1 : Int32)) (by decide) dX9_chain_54 ?_
    refine clX9_393 F ⟨Nat.le_of_ble_eq_true rfl, Nat.le_of_ble_eq_true rfl⟩ (zlw4 (Nat.le_of_ble_eq_true rfl)) dX9_chain_55 (fun r55 => ?_)
    refine Z.lmul F dX9_chain_58 ?_
    refine Z.lmin F q1787 (Nat.le_of_ble_eq_true rfl) (Nat.le_of_ble_eq_true rfl) (zlw4 (Nat.le_of_ble_eq_true rfl)) dX9_chain_59 ?_
    exact Z.lret F dX9_chain_62
  exact Z.sub [] rfl (hj18)
theorem gfX9_60 (F : ZF p R s m args meth c cc nL "SafeBucketsModel" nm ret D A al sz mc ms fr lo) {z : Nat} {K : Nat → ZM → Prop} (hdg : decode cc pc = .ok (.getfield 60, 3)) (k : ∀ u, ZW p l e R s m args below meth c Q nL D A al n0 (K u) (pc + 3) L (zv u :: st)) : ZW p l e R s m args below meth c Q nL D A al n0 (zgR 7 z 30 K) pc L (zv z :: st) :=
  Z.getR F (ref := "SafeBucketsModel") in_X9 (ci := 6) rfl (by decide) (kf := 30) (by decide) q1600 (fun _ h => h) rfl hdg k
set_option maxHeartbeats 4000000 in
theorem k_X9_gapIfBuilt (l : Launch) (h0 : Nat) (x1 : Int32) (x2 : Int32) (x3 : Int32) : ZCi l yX9_gapIfBuilt (ws_ yX9_gapIfBuilt cX9_gapIfBuilt 6 (some .int)) 5 136 0 0 false [zv h0, .int x1, .int x2, .int x3] (f_X9_gapIfBuilt h0 x1 x2 x3) := by
  refine Z.metI (by decide +kernel) (fun h => ⟨rfl, rfl⟩) (L0 := [(0, zv h0), (1, .int x1), (2, .int x2), (3, .int x3)]) (by first | (rw [zla_v, zla_i, zla_i, zla_i, zla_0]; done) | (rw [zla_v, zla_i, zla_i, zla_i, zla_0]; rfl)) (by rw [zsl_v, zsl_i, zsl_i, zsl_i, zsl_0]; exact Nat.le_of_ble_eq_true rfl) ?_
  intro p e R s m args below meth c D A n0 sz k F
  have F : ZF p R s m args meth c cX9_gapIfBuilt 6 "SafeBucketsModel" "gapIfBuilt" (some .int) D A false sz 0 0 5 136 := F
  unfold f_X9_gapIfBuilt
  refine Z.iconst F (v := (0 : Int32)) (by decide) dX9_gapIfBuilt_0 ?_
  refine Z.istore F (L0 := [(0, zv h0), (1, .int x1), (2, .int x2), (3, .int x3)]) [0, 1, 2, 3] rfl (zkR rfl (zkI rfl (zkI rfl (zkI rfl zkN)))) (by decide) dX9_gapIfBuilt_1 ?_
  refine Z.jn0 (J := _) ([(0, zv h0), (1, .int x1), (2, .int x2), (3, .int x3)]) ([]) 31 (?_) (fun j31 hj31 => ?_)
  · refine Z.aload_n F 0 rfl dX9_gapIfBuilt_31 ?_
    refine Z.iload_n F 1 rfl dX9_gapIfBuilt_32 ?_
    refine Z.iload_n F 3 rfl dX9_gapIfBuilt_33 ?_
    refine clX9_209 F ⟨Nat.le_of_ble_eq_true rfl, Nat.le_of_ble_eq_true rfl⟩ (zlw4 (Nat.le_of_ble_eq_true rfl)) dX9_gapIfBuilt_34 ?_
    refine Z.aload_n F 0 rfl dX9_gapIfBuilt_37 ?_
    refine Z.iload_n F 1 rfl dX9_gapIfBuilt_38 ?_
    refine Z.iload_n F 2 rfl dX9_gapIfBuilt_39 ?_
    refine Z.iconst F (v := (2 : Int32)) (by decide) dX9_gapIfBuilt_40 ?_
    refine clX9_362 F ⟨Nat.le_of_ble_eq_true rfl, Nat.le_of_ble_eq_true rfl⟩ (zlw4 (Nat.le_of_ble_eq_true rfl)) dX9_gapIfBuilt_41 (fun r41 => ?_)
    refine Z.aload_n F 0 rfl dX9_gapIfBuilt_44 ?_
    refine Z.iload_n F 1 rfl dX9_gapIfBuilt_45 ?_
    refine Z.iload_n F 2 rfl dX9_gapIfBuilt_46 ?_
    refine Z.iconst F (v := (1 : Int32)) (by decide) dX9_gapIfBuilt_47 ?_
    refine clX9_362 F ⟨Nat.le_of_ble_eq_true rfl, Nat.le_of_ble_eq_true rfl⟩ (zlw4 (Nat.le_of_ble_eq_true rfl)) dX9_gapIfBuilt_48 (fun r48 => ?_)
    refine Z.isub F dX9_gapIfBuilt_51 ?_
    refine Z.istore F (L0 := [(0, zv h0), (1, .int x1), (2, .int x2), (3, .int x3)]) [0, 1, 2, 3] rfl (zkR rfl (zkI rfl (zkI rfl (zkI rfl zkN)))) (by decide) dX9_gapIfBuilt_52 ?_
    refine Z.iconst F (v := (0 : Int32)) (by decide) dX9_gapIfBuilt_54 ?_
    refine Z.istore F (L0 := [(4, .int (r41 - r48)), (0, zv h0), (1, .int x1), (2, .int x2), (3, .int x3)]) [0, 1, 2, 3, 4] rfl (zkI rfl (zkR rfl (zkI rfl (zkI rfl (zkI rfl zkN))))) (by decide) dX9_gapIfBuilt_55 ?_
    refine Z.sub [2, 1, 0] rfl ?_
    refine Z.w1 (Lf := fun p57l5 => [(0, zv h0), (4, .int (r41 - r48)), (5, .int p57l5)]) (sf := fun p57l5 => []) (fun r57 hr57 p57l5 => ?_) (0 : Int32)
    refine Z.iload F 2 rfl dX9_gapIfBuilt_57 ?_
    refine Z.sipush F (v := (1072 : Int32)) (by decide) dX9_gapIfBuilt_59 ?_
    refine Z.icmp_ge F (tgt := 85) dX9_gapIfBuilt_62 (by decide) ?_ ?_
    · refine Z.iload F 1 rfl dX9_gapIfBuilt_85 ?_
      exact Z.iret F dX9_gapIfBuilt_87
    refine Z.aload_n F 0 rfl dX9_gapIfBuilt_65 ?_
    refine gfX9_34 F dX9_gapIfBuilt_66 (fun g66 => ?_)
    refine Z.iload F 2 rfl dX9_gapIfBuilt_69 ?_
    refine Z.aload_n F 0 rfl dX9_gapIfBuilt_71 ?_
    refine gfX9_60 F dX9_gapIfBuilt_72 (fun g72 => ?_)
    refine Z.iload F 2 rfl dX9_gapIfBuilt_75 ?_
    refine Z.iald F dX9_gapIfBuilt_77 (fun g77 => ?_)
    refine Z.iast F dX9_gapIfBuilt_78 ?_
    refine Z.iinc F (L0 := [(0, zv h0), (4, .int (r41 - r48))]) (k0 := 2) (v := (1 : Int32)) rfl (by decide) [0, 1] rfl (zkR rfl (zkI rfl zkN)) (by decide) dX9_gapIfBuilt_79 ?_
    refine Z.goto F (tgt := 57) dX9_gapIfBuilt_82 (by decide) ?_
    exact Z.sub [1, 2, 0] rfl (hr57 (p57l5 + (1 : Int32)))
  refine Z.sub [1, 2, 3, 4, 0] rfl ?_
  refine Z.w1 (Lf := fun p3l4 => [(0, zv h0), (1, .int x1), (2, .int x2), (3, .int x3), (4, .int p3l4)]) (sf := fun p3l4 => []) (fun r3 hr3 p3l4 => ?_) (0 : Int32)
  refine Z.iload F 4 rfl dX9_gapIfBuilt_3 ?_
  refine Z.sipush F (v := (1072 : Int32)) (by decide) dX9_gapIfBuilt_5 ?_
  refine Z.icmp_ge F (tgt := 31) dX9_gapIfBuilt_8 (by decide) ?_ ?_
  · exact Z.sub [0, 1, 2, 3] rfl (hj31)
  refine Z.aload_n F 0 rfl dX9_gapIfBuilt_11 ?_
  refine gfX9_60 F dX9_gapIfBuilt_12 (fun g12 => ?_)
  refine Z.iload F 4 rfl dX9_gapIfBuilt_15 ?_
  refine Z.aload_n F 0 rfl dX9_gapIfBuilt_17 ?_
  refine gfX9_34 F dX9_gapIfBuilt_18 (fun g18 => ?_)
  refine Z.iload F 4 rfl dX9_gapIfBuilt_21 ?_
  refine Z.iald F dX9_gapIfBuilt_23 (fun g23 => ?_)
  refine Z.iast F dX9_gapIfBuilt_24 ?_
  refine Z.iinc F (L0 := [(0, zv h0), (1, .int x1), (2, .int x2), (3, .int x3)]) (k0 := 4) (v := (1 : Int32)) rfl (by decide) [0, 1, 2, 3] rfl (zkR rfl (zkI rfl (zkI rfl (zkI rfl zkN)))) (by decide) dX9_gapIfBuilt_25 ?_
  refine Z.goto F (tgt := 3) dX9_gapIfBuilt_28 (by decide) ?_
  exact Z.sub [1, 2, 3, 4, 0] rfl (hr3 (p3l4 + (1 : Int32)))
theorem clX9_400 (F : ZF p R s m args meth c cc nL "SafeBucketsModel" nm ret D A al sz mc ms fr lo) {h0 : Nat} {x1 : Int32} {x2 : Int32} {x3 : Int32} {K : Int32 → ZM → Prop} (hR : 5 + 1 ≤ fr ∧ 8 + (6 + 11) + 136 ≤ lo) (hst4 : zlw st) (hdg : decode cc pc = .ok (.invokevirtual 400, 3)) (k : ∀ r, ZW p l e R s m args below meth c Q nL D A al n0 (K r) (pc + 3) L (.int r :: st)) : ZW p l e R s m args below meth c Q nL D A al n0 (zat 7 h0 (f_X9_gapIfBuilt h0 x1 x2 x3 K)) pc L (.int x3 :: .int x2 :: .int x1 :: zv h0 :: st) :=
  Z.ri0 _ (fun μ H locs cells slots ls hI h hP => Z.V0 F hI (n := 3) (ci := 6) rfl (by decide) hP.1 hP.2 (k_X9_gapIfBuilt l h0 x1 x2 x3 D A (zX μ, zC μ, zS μ) H.size K μ) q2084 q2086 qs109 q126 q2087 (by decide +kernel) rfl h.1 hst4 hR rfl hdg) k
set_option maxHeartbeats 4000000 in
theorem k_X9_narrow (l : Launch) (h0 : Nat) (x1 : Int32) (x2 : Int32) (x3 : Int32) : ZCi l yX9_narrow (ws_ yX9_narrow cX9_narrow 9 (some .int)) 6 161 0 0 false [zv h0, .int x1, .int x2, .int x3] (f_X9_narrow h0 x1 x2 x3) := by
  refine Z.metI (by decide +kernel) (fun h => ⟨rfl, rfl⟩) (L0 := [(0, zv h0), (1, .int x1), (2, .int x2), (3, .int x3)]) (by first | (rw [zla_v, zla_i, zla_i, zla_i, zla_0]; done) | (rw [zla_v, zla_i, zla_i, zla_i, zla_0]; rfl)) (by rw [zsl_v, zsl_i, zsl_i, zsl_i, zsl_0]; exact Nat.le_of_ble_eq_true rfl) ?_
  intro p e R s m args below meth c D A n0 sz k F
  have F : ZF p R s m args meth c cX9_narrow 9 "SafeBucketsModel" "narrow" (some .int) D A false sz 0 0 6 161 := F
  unfold f_X9_narrow
  refine Z.aload_n F 0 rfl dX9_narrow_0 ?_
  refine Z.iload_n F 1 rfl dX9_narrow_1 ?_
  refine clX9_153 F ⟨Nat.le_of_ble_eq_true rfl, Nat.le_of_ble_eq_true rfl⟩ (zlw4 (Nat.le_of_ble_eq_true rfl)) dX9_narrow_2 (fun r2 => ?_)
  refine Z.jn0 (J := _) ([]) ([]) 26 (?_) (fun j26 hj26 => ?_)
  · refine Z.ldcI F q1850 dX9_narrow_26 ?_
    exact Z.iret F dX9_narrow_28
  refine Z.if_eq F (tgt := 26) dX9_narrow_5 (by decide) ?_ ?_
  · exact Z.sub [] rfl (hj26)
  refine Z.aload_n F 0 rfl dX9_narrow_8 ?_
  refine Z.iload_n F 2 rfl dX9_narrow_9 ?_
  refine clX9_359 F ⟨Nat.le_of_ble_eq_true rfl, Nat.le_of_ble_eq_true rfl⟩ (zlw4 (Nat.le_of_ble_eq_true rfl)) dX9_narrow_10 (fun r10 => ?_)
  refine Z.if_eq F (tgt := 26) dX9_narrow_13 (by decide) ?_ ?_
  · exact Z.sub [] rfl (hj26)
  refine Z.iload_n F 3 rfl dX9_narrow_16 ?_
  refine Z.i2l F dX9_narrow_17 ?_
  refine Z.lconst F (w := (0 : Int64)) (by decide) dX9_narrow_18 ?_
  refine Z.lconst F (w := (1 : Int64)) (by decide) dX9_narrow_19 ?_
  refine clX9_77 F ⟨Nat.le_of_ble_eq_true rfl, Nat.le_of_ble_eq_true rfl⟩ (zlw4 (Nat.le_of_ble_eq_true rfl)) dX9_narrow_20 (fun r20 => ?_)
  refine Z.if_ne F (tgt := 29) dX9_narrow_23 (by decide) ?_ ?_
  · refine Z.aload_n F 0 rfl dX9_narrow_29 ?_
    refine Z.iload_n F 1 rfl dX9_narrow_30 ?_
    refine Z.iload_n F 2 rfl dX9_narrow_31 ?_
    refine Z.iconst F (v := (2 : Int32)) (by decide) dX9_narrow_32 ?_
    refine clX9_362 F ⟨Nat.le_of_ble_eq_true rfl, Nat.le_of_ble_eq_true rfl⟩ (zlw4 (Nat.le_of_ble_eq_true rfl)) dX9_narrow_33 (fun r33 => ?_)
    refine Z.aload_n F 0 rfl dX9_narrow_36 ?_
    refine Z.iload_n F 1 rfl dX9_narrow_37 ?_
    refine Z.iload_n F 2 rfl dX9_narrow_38 ?_
    refine Z.iconst F (v := (1 : Int32)) (by decide) dX9_narrow_39 ?_
    refine clX9_362 F ⟨Nat.le_of_ble_eq_true rfl, Nat.le_of_ble_eq_true rfl⟩ (zlw4 (Nat.le_of_ble_eq_true rfl)) dX9_narrow_40 (fun r40 => ?_)
    refine Z.isub F dX9_narrow_43 ?_
    refine Z.istore F (L0 := [(0, zv h0), (1, .int x1), (2, .int x2), (3, .int x3)]) [0, 1, 2, 3] rfl (zkR rfl (zkI rfl (zkI rfl (zkI rfl zkN)))) (by decide) dX9_narrow_44 ?_
    refine Z.iconst F (v := (-1 : Int32)) (by decide) dX9_narrow_46 ?_
    refine Z.istore F (L0 := [(4, .int (r33 - r40)), (0, zv h0), (1, .int x1), (2, .int x2), (3, .int x3)]) [0, 1, 2, 3, 4] rfl (zkI rfl (zkR rfl (zkI rfl (zkI rfl (zkI rfl zkN))))) (by decide) dX9_narrow_47 ?_
    refine Z.iload F 1 rfl dX9_narrow_49 ?_
    refine Z.istore F (L0 := [(5, .int (-1 : Int32)), (4, .int (r33 - r40)), (0, zv h0), (1, .int x1), (2, .int x2), (3, .int x3)]) [0, 1, 2, 3, 4, 5] rfl (zkI rfl (zkI rfl (zkR rfl (zkI rfl (zkI rfl (zkI rfl zkN)))))) (by decide) dX9_narrow_51 ?_
    refine Z.iconst F (v := (0 : Int32)) (by decide) dX9_narrow_53 ?_
    refine Z.istore F (L0 := [(6, .int (r33 - r40)), (5, .int (-1 : Int32)), (4, .int (r33 - r40)), (0, zv h0), (1, .int x1), (2, .int x2), (3, .int x3)]) [0, 1, 2, 3, 4, 5, 6] rfl (zkI rfl (zkI rfl (zkI rfl (zkR rfl (zkI rfl (zkI rfl (zkI rfl zkN))))))) (by decide) dX9_narrow_54 ?_
    refine Z.jn2 (J := _) (fun p93l5 p93l6 => [(3, .int x3), (4, .int (r33 - r40)), (5, .int p93l5), (6, .int p93l6)]) (fun p93l5 p93l6 => []) 93 (fun p93l5 p93l6 => ?_) (fun j93 hj93 => ?_)
    · refine Z.iload_n F 0 rfl dX9_narrow_93 ?_
      refine Z.jn1 (J := _) (fun p107s0 => []) (fun p107s0 => [.int p107s0]) 107 (fun p107s0 => ?_) (fun j107 hj107 => ?_)
      · exact Z.iret F dX9_narrow_107
      refine Z.if_ne F (tgt := 102) dX9_narrow_94 (by decide) ?_ ?_
      · refine Z.iload F 1 rfl dX9_narrow_102 ?_
        refine Z.iload F 3 rfl dX9_narrow_104 ?_
        refine Z.isub F dX9_narrow_106 ?_
        exact Z.sub [] rfl (hj107 ((r33 - r40) - p93l6))
      refine Z.iload F 2 rfl dX9_narrow_97 ?_
      refine Z.goto F (tgt := 107) dX9_narrow_99 (by decide) ?_
      exact Z.sub [] rfl (hj107 p93l5)
    refine Z.sub [4, 5, 6, 7, 3, 2, 1, 0] rfl ?_
    refine Z.w3 (Lf := fun p56l5 p56l6 p56l7 => [(0, zv h0), (1, .int x1), (2, .int x2), (3, .int x3), (4, .int (r33 - r40)), (5, .int p56l5), (6, .int p56l6), (7, .int p56l7)]) (sf := fun p56l5 p56l6 p56l7 => []) (fun r56 hr56 p56l5 p56l6 p56l7 => ?_) (-1 : Int32) (r33 - r40) (0 : Int32)
    refine Z.iload F 7 rfl dX9_narrow_56 ?_
    refine Z.iconst F (v := (2 : Int32)) (by decide) dX9_narrow_58 ?_
    refine Z.icmp_ge F (tgt := 93) dX9_narrow_59 (by decide) ?_ ?_
    · exact Z.sub [3, 4, 5, 6] rfl (hj93 p56l5 p56l6)
    refine Z.aload_n F 0 rfl dX9_narrow_62 ?_
    refine Z.iload_n F 1 rfl dX9_narrow_63 ?_
    refine Z.iload_n F 2 rfl dX9_narrow_64 ?_
    refine Z.iload F 7 rfl dX9_narrow_65 ?_
    refine clX9_400 F ⟨Nat.le_of_ble_eq_true rfl, Nat.le_of_ble_eq_true rfl⟩ (zlw4 (Nat.le_of_ble_eq_true rfl)) dX9_narrow_67 (fun r67 => ?_)
    refine Z.istore F (L0 := [(0, zv h0), (1, .int x1), (2, .int x2), (3, .int x3), (4, .int (r33 - r40)), (5, .int p56l5), (6, .int p56l6), (7, .int p56l7)]) [0, 1, 2, 3, 4, 5, 6, 7] rfl (zkR rfl (zkI rfl (zkI rfl (zkI rfl (zkI rfl (zkI rfl (zkI rfl (zkI rfl zkN)))))))) (by decide) dX9_narrow_70 ?_
    refine Z.iload F 0 rfl dX9_narrow_72 ?_
    refine Z.iload F 7 rfl dX9_narrow_74 ?_
    refine Z.jn2 (J := _) (fun p87l5 p87l6 => [(0, zv h0), (1, .int x1), (2, .int x2), (3, .int x3), (4, .int (r33 - r40)), (5, .int p87l5), (6, .int p87l6), (7, .int p56l7)]) (fun p87l5 p87l6 => []) 87 (fun p87l5 p87l6 => ?_) (fun j87 hj87 => ?_)
    · refine Z.iinc F (L0 := [(0, zv h0), (1, .int x1), (2, .int x2), (3, .int x3), (4, .int (r33 - r40)), (5, .int p87l5), (6, .int p87l6)]) (k0 := 7) (v := (1 : Int32)) rfl (by decide) [0, 1, 2, 3, 4, 5, 6] rfl (zkR rfl (zkI rfl (zkI rfl (zkI rfl (zkI rfl (zkI rfl (zkI rfl zkN))))))) (by decide) dX9_narrow_87 ?_
      refine Z.goto F (tgt := 56) dX9_narrow_90 (by decide) ?_
      exact Z.sub [1, 2, 3, 4, 5, 6, 7, 0] rfl (hr56 p87l5 p87l6 (p56l7 + (1 : Int32)))
    refine Z.icmp_ge F (tgt := 87) dX9_narrow_76 (by decide) ?_ ?_
    · exact Z.sub [1, 2, 3, 4, 5, 6, 7, 8] rfl (hj87 p56l5 p56l6)
    refine Z.iload F 8 rfl dX9_narrow_79 ?_
    refine Z.istore F (L0 := [(8, .int r67), (0, zv h0), (1, .int x1), (2, .int x2), (3, .int x3), (4, .int (r33 - r40)), (6, .int p56l6), (7, .int p56l7)]) [0, 1, 2, 3, 4, 5, 7, 8] rfl (zkI rfl (zkR rfl (zkI rfl (zkI rfl (zkI rfl (zkI rfl (zkI rfl (zkI rfl zkN)))))))) (by decide) dX9_narrow_81 ?_
    refine Z.iload F 1 rfl dX9_narrow_83 ?_
    refine Z.istore F (L0 := [(5, .int p56l7), (8, .int r67), (0, zv h0), (1, .int x1), (2, .int x2), (3, .int x3), (4, .int (r33 - r40)), (7, .int p56l7)]) [0, 1, 2, 3, 4, 5, 6, 8] rfl (zkI rfl (zkI rfl (zkR rfl (zkI rfl (zkI rfl (zkI rfl (zkI rfl (zkI rfl zkN)))))))) (by decide) dX9_narrow_85 ?_
    exact Z.sub [3, 4, 5, 6, 7, 1, 0, 8] rfl (hj87 p56l7 r67)
  exact Z.sub [] rfl (hj26)
set_option maxHeartbeats 4000000 in
theorem k_X9_odds (l : Launch) (h0 : Nat) (x1 : Int32) (x2 : Int32) (x3 : Int32) (x4 : Int32) : ZCl l yX9_odds (ws_ yX9_odds cX9_odds 15 (some .long)) 5 125 0 0 false [zv h0, .int x1, .int x2, .int x3, .int x4] (f_X9_odds h0 x1 x2 x3 x4) := by
  refine Z.metL (by decide +kernel) (fun h => ⟨rfl, rfl⟩) (L0 := [(0, zv h0), (1, .int x1), (2, .int x2), (3, .int x3), (4, .int x4)]) (by first | (rw [zla_v, zla_i, zla_i, zla_i, zla_i, zla_0]; done) | (rw [zla_v, zla_i, zla_i, zla_i, zla_i, zla_0]; rfl)) (by rw [zsl_v, zsl_i, zsl_i, zsl_i, zsl_i, zsl_0]; exact Nat.le_of_ble_eq_true rfl) ?_
  intro p e R s m args below meth c D A n0 sz k F
  have F : ZF p R s m args meth c cX9_odds 15 "SafeBucketsModel" "odds" (some .long) D A false sz 0 0 5 125 := F
  unfold f_X9_odds
  refine Z.aload_n F 0 rfl dX9_odds_0 ?_
  refine Z.iload_n F 1 rfl dX9_odds_1 ?_
  refine clX9_153 F ⟨Nat.le_of_ble_eq_true rfl, Nat.le_of_ble_eq_true rfl⟩ (zlw4 (Nat.le_of_ble_eq_true rfl)) dX9_odds_2 (fun r2 => ?_)
  refine Z.jn0 (J := _) ([]) ([]) 48 (?_) (fun j48 hj48 => ?_)
  · refine Z.ldc2 F q1829 dX9_odds_48 ?_
    exact Z.lret F dX9_odds_51
  refine Z.if_eq F (tgt := 48) dX9_odds_5 (by decide) ?_ ?_
  · exact Z.sub [] rfl (hj48)
  refine Z.aload_n F 0 rfl dX9_odds_8 ?_
  refine Z.iload_n F 2 rfl dX9_odds_9 ?_
  refine clX9_359 F ⟨Nat.le_of_ble_eq_true rfl, Nat.le_of_ble_eq_true rfl⟩ (zlw4 (Nat.le_of_ble_eq_true rfl)) dX9_odds_10 (fun r10 => ?_)
  refine Z.if_eq F (tgt := 48) dX9_odds_13 (by decide) ?_ ?_
  · exact Z.sub [] rfl (hj48)
  refine Z.iload_n F 3 rfl dX9_odds_16 ?_
  refine Z.i2l F dX9_odds_17 ?_
  refine Z.lconst F (w := (1 : Int64)) (by decide) dX9_odds_18 ?_
  refine Z.ldc2 F q1971 dX9_odds_19 ?_
  refine clX9_77 F ⟨Nat.le_of_ble_eq_true rfl, Nat.le_of_ble_eq_true rfl⟩ (zlw4 (Nat.le_of_ble_eq_true rfl)) dX9_odds_22 (fun r22 => ?_)
  refine Z.if_eq F (tgt := 48) dX9_odds_25 (by decide) ?_ ?_
  · exact Z.sub [] rfl (hj48)
  refine Z.iload F 4 rfl dX9_odds_28 ?_
  refine Z.i2l F dX9_odds_30 ?_
  refine Z.lconst F (w := (0 : Int64)) (by decide) dX9_odds_31 ?_
  refine Z.lconst F (w := (1 : Int64)) (by decide) dX9_odds_32 ?_
  refine clX9_77 F ⟨Nat.le_of_ble_eq_true rfl, Nat.le_of_ble_eq_true rfl⟩ (zlw4 (Nat.le_of_ble_eq_true rfl)) dX9_odds_33 (fun r33 => ?_)
  refine Z.if_eq F (tgt := 48) dX9_odds_36 (by decide) ?_ ?_
  · exact Z.sub [] rfl (hj48)
  refine Z.aload_n F 0 rfl dX9_odds_39 ?_
  refine Z.iload_n F 1 rfl dX9_odds_40 ?_
  refine clX9_161 F ⟨Nat.le_of_ble_eq_true rfl, Nat.le_of_ble_eq_true rfl⟩ (zlw4 (Nat.le_of_ble_eq_true rfl)) dX9_odds_41 (fun r41 => ?_)
  refine Z.iload_n F 3 rfl dX9_odds_44 ?_
  refine Z.icmp_ge F (tgt := 52) dX9_odds_45 (by decide) ?_ ?_
  · refine Z.lconst F (w := (1 : Int64)) (by decide) dX9_odds_52 ?_
    refine Z.lstore F (L0 := [(0, zv h0), (1, .int x1), (2, .int x2), (3, .int x3), (4, .int x4)]) [0, 1, 2, 3, 4] rfl (zmR rfl rfl  (zmI rfl rfl  (zmI rfl rfl  (zmI rfl rfl  (zmI rfl rfl  zmN))))) (by decide) dX9_odds_53 ?_
    refine Z.lconst F (w := (1 : Int64)) (by decide) dX9_odds_55 ?_
    refine Z.lstore F (L0 := [(5, .long (1 : Int64)), (0, zv h0), (1, .int x1), (2, .int x2), (3, .int x3), (4, .int x4)]) [0, 1, 2, 3, 4, 5] rfl (zmL rfl rfl rfl  (zmR rfl rfl  (zmI rfl rfl  (zmI rfl rfl  (zmI rfl rfl  (zmI rfl rfl  zmN)))))) (by decide) dX9_odds_56 ?_
    refine Z.iconst F (v := (0 : Int32)) (by decide) dX9_odds_58 ?_
    refine Z.istore F (L0 := [(7, .long (1 : Int64)), (5, .long (1 : Int64)), (0, zv h0), (1, .int x1), (2, .int x2), (3, .int x3), (4, .int x4)]) [0, 1, 2, 3, 4, 5, 6] rfl (zkL rfl rfl (zkL rfl rfl (zkR rfl (zkI rfl (zkI rfl (zkI rfl (zkI rfl zkN))))))) (by decide) dX9_odds_59 ?_
    refine Z.jn2 (J := _) (fun p107l5 p107l7 => [(4, .int x4), (5, .long p107l5), (7, .long p107l7)]) (fun p107l5 p107l7 => []) 107 (fun p107l5 p107l7 => ?_) (fun j107 hj107 => ?_)
    · refine Z.lload F 2 rfl dX9_odds_107 ?_
      refine Z.lstore F (L0 := [(4, .int x4), (5, .long p107l5), (7, .long p107l7)]) [0, 1, 2] rfl (zmI rfl rfl  (zmL rfl rfl rfl  (zmL rfl rfl rfl  zmN))) (by decide) dX9_odds_109 ?_
      refine Z.lload F 2 rfl dX9_odds_111 ?_
      refine Z.lstore F (L0 := [(9, .long p107l7), (4, .int x4), (5, .long p107l5), (7, .long p107l7)]) [0, 1, 2, 3] rfl (zmL rfl rfl rfl  (zmI rfl rfl  (zmL rfl rfl rfl  (zmL rfl rfl rfl  zmN)))) (by decide) dX9_odds_113 ?_
      refine Z.jn3 (J := _) (fun p140l5 p140l7 p140l9 => [(4, .int x4), (5, .long p140l5), (7, .long p140l7), (9, .long p140l9)]) (fun p140l5 p140l7 p140l9 => []) 140 (fun p140l5 p140l7 p140l9 => ?_) (fun j140 hj140 => ?_)
      · refine Z.iload F 0 rfl dX9_odds_140 ?_
        refine Z.jn1 (J := _) (fun p158s0 => []) (fun p158s0 => [.long p158s0]) 158 (fun p158s0 => ?_) (fun j158 hj158 => ?_)
        · exact Z.lret F dX9_odds_158
        refine Z.if_ne F (tgt := 153) dX9_odds_142 (by decide) ?_ ?_
        · refine Z.lload F 2 rfl dX9_odds_153 ?_
          refine Z.lload F 3 rfl dX9_odds_155 ?_
          refine Z.ldiv F dX9_odds_157 ?_
          exact Z.sub [] rfl (hj158 (p140l7 / p140l9))
        refine Z.lload F 1 rfl dX9_odds_145 ?_
        refine Z.lload F 3 rfl dX9_odds_147 ?_
        refine Z.ldiv F dX9_odds_149 ?_
        refine Z.goto F (tgt := 158) dX9_odds_150 (by decide) ?_
        exact Z.sub [] rfl (hj158 (p140l5 / p140l9))
      refine Z.sub [2, 3, 4, 1, 0] rfl ?_
      refine Z.w4 (Lf := fun p115l5 p115l7 p115l9 p115l11 => [(4, .int x4), (5, .long p115l5), (7, .long p115l7), (9, .long p115l9), (11, .long p115l11)]) (sf := fun p115l5 p115l7 p115l9 p115l11 => []) (fun r115 hr115 p115l5 p115l7 p115l9 p115l11 => ?_) p107l5 p107l7 p107l7 p107l5
      refine Z.lload F 4 rfl dX9_odds_115 ?_
      refine Z.lconst F (w := (0 : Int64)) (by decide) dX9_odds_117 ?_
      refine Z.lcmp F dX9_odds_118 ?_
      refine Z.if_eq F (tgt := 140) dX9_odds_119 (by decide) ?_ ?_
      · exact Z.sub [0, 1, 2, 3] rfl (hj140 p115l5 p115l7 p115l9)
      refine Z.lload F 3 rfl dX9_odds_122 ?_
      refine Z.lload F 4 rfl dX9_odds_124 ?_
      refine Z.lrem F dX9_odds_126 ?_
      refine Z.lstore F (L0 := [(4, .int x4), (5, .long p115l5), (7, .long p115l7), (9, .long p115l9), (11, .long p115l11)]) [0, 1, 2, 3, 4] rfl (zmI rfl rfl  (zmL rfl rfl rfl  (zmL rfl rfl rfl  (zmL rfl rfl rfl  (zmL rfl rfl rfl  zmN))))) (by decide) dX9_odds_127 ?_
      refine Z.lload F 5 rfl dX9_odds_129 ?_
      refine Z.lstore F (L0 := [(13, .long (p115l9 - p115l9 / p115l11 * p115l11)), (4, .int x4), (5, .long p115l5), (7, .long p115l7), (11, .long p115l11)]) [0, 1, 2, 3, 5] rfl (zmL rfl rfl rfl  (zmI rfl rfl  (zmL rfl rfl rfl  (zmL rfl rfl rfl  (zmL rfl rfl rfl  zmN))))) (by decide) dX9_odds_131 ?_
      refine Z.lload F 1 rfl dX9_odds_133 ?_
      refine Z.lstore F (L0 := [(9, .long p115l11), (13, .long (p115l9 - p115l9 / p115l11 * p115l11)), (4, .int x4), (5, .long p115l5), (7, .long p115l7)]) [0, 1, 2, 3, 4] rfl (zmL rfl rfl rfl  (zmL rfl rfl rfl  (zmI rfl rfl  (zmL rfl rfl rfl  (zmL rfl rfl rfl  zmN))))) (by decide) dX9_odds_135 ?_
      refine Z.goto F (tgt := 115) dX9_odds_137 (by decide) ?_
      exact Z.sub [3, 4, 5, 1, 0] rfl (hr115 p115l5 p115l7 p115l11 (p115l9 - p115l9 / p115l11 * p115l11))
    refine Z.sub [3, 4, 5, 6, 7, 2, 1, 0] rfl ?_
    refine Z.w3 (Lf := fun p61l5 p61l7 p61l9 => [(0, zv h0), (1, .int x1), (2, .int x2), (3, .int x3), (4, .int x4), (5, .long p61l5), (7, .long p61l7), (9, .int p61l9)]) (sf := fun p61l5 p61l7 p61l9 => []) (fun r61 hr61 p61l5 p61l7 p61l9 => ?_) (1 : Int64) (1 : Int64) (0 : Int32)
    refine Z.iload F 7 rfl dX9_odds_61 ?_
    refine Z.iload_n F 3 rfl dX9_odds_63 ?_
    refine Z.icmp_ge F (tgt := 107) dX9_odds_64 (by decide) ?_ ?_
    · exact Z.sub [4, 5, 6] rfl (hj107 p61l5 p61l7)
    refine Z.lload F 5 rfl dX9_odds_67 ?_
    refine Z.iconst F (v := (0 : Int32)) (by decide) dX9_odds_69 ?_
    refine Z.aload_n F 0 rfl dX9_odds_70 ?_
    refine Z.iload_n F 1 rfl dX9_odds_71 ?_
    refine Z.iload_n F 2 rfl dX9_odds_72 ?_
    refine Z.iconst F (v := (0 : Int32)) (by decide) dX9_odds_73 ?_
    refine clX9_368 F ⟨Nat.le_of_ble_eq_true rfl, Nat.le_of_ble_eq_true rfl⟩ (zlw4 (Nat.le_of_ble_eq_true rfl)) dX9_odds_74 (fun r74 => ?_)
    refine Z.iload F 7 rfl dX9_odds_77 ?_
    refine Z.isub F dX9_odds_79 ?_
    refine Z.mmax F q1794 (Nat.le_of_ble_eq_true rfl) (Nat.le_of_ble_eq_true rfl) (zlw4 (Nat.le_of_ble_eq_true rfl)) dX9_odds_80 ?_
    refine Z.i2l F dX9_odds_83 ?_
    refine Z.nmJ (fun v83 => ?_)
    refine Z.lmul F dX9_odds_84 ?_
    refine Z.lstore F (L0 := [(0, zv h0), (1, .int x1), (2, .int x2), (3, .int x3), (4, .int x4), (7, .long p61l7), (9, .int p61l9)]) [0, 1, 2, 3, 4, 6, 7] rfl (zmR rfl rfl  (zmI rfl rfl  (zmI rfl rfl  (zmI rfl rfl  (zmI rfl rfl  (zmL rfl rfl rfl  (zmI rfl rfl  zmN))))))) (by decide) dX9_odds_85 ?_
    refine Z.lload F 6 rfl dX9_odds_87 ?_
    refine Z.aload_n F 1 rfl dX9_odds_89 ?_
    refine Z.iload_n F 2 rfl dX9_odds_90 ?_
    refine clX9_161 F ⟨Nat.le_of_ble_eq_true rfl, Nat.le_of_ble_eq_true rfl⟩ (zlw4 (Nat.le_of_ble_eq_true rfl)) dX9_odds_91 (fun r91 => ?_)
    refine Z.iload F 7 rfl dX9_odds_94 ?_
    refine Z.isub F dX9_odds_96 ?_
    refine Z.i2l F dX9_odds_97 ?_
    refine Z.lmul F dX9_odds_98 ?_
    refine Z.lstore F (L0 := [(5, .long (p61l5 * v83)), (0, zv h0), (1, .int x1), (2, .int x2), (3, .int x3), (4, .int x4), (9, .int p61l9)]) [0, 1, 2, 3, 4, 5, 7] rfl (zmL rfl rfl rfl  (zmR rfl rfl  (zmI rfl rfl  (zmI rfl rfl  (zmI rfl rfl  (zmI rfl rfl  (zmI rfl rfl  zmN))))))) (by decide) dX9_odds_99 ?_
    refine Z.iinc F (L0 := [(7, .long (p61l7 * (r91 - p61l9).toInt64)), (5, .long (p61l5 * v83)), (0, zv h0), (1, .int x1), (2, .int x2), (3, .int x3), (4, .int x4)]) (k0 := 7) (v := (1 : Int32)) rfl (by decide) [0, 1, 2, 3, 4, 5, 6] rfl (zkL rfl rfl (zkL rfl rfl (zkR rfl (zkI rfl (zkI rfl (zkI rfl (zkI rfl zkN))))))) (by decide) dX9_odds_101 ?_
    refine Z.goto F (tgt := 61) dX9_odds_104 (by decide) ?_
    exact Z.sub [3, 4, 5, 6, 7, 2, 1, 0] rfl (hr61 (p61l5 * v83) (p61l7 * (r91 - p61l9).toInt64) (p61l9 + (1 : Int32)))
  exact Z.sub [] rfl (hj48)
end ZWalk
