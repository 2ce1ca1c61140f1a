section ZWalk
variable {p : Program} {l : Launch} {e : Env} {R : Room} {s : State} {m : MethodId} {args : Array Value} {below : List Frame} {meth : Method} {c : Code} {Q : State → Prop} {nL : Nat} {D : ZD} {A : Nat → Prop} {al : Bool} {n0 : Nat × Nat × Nat} {cc : ByteArray} {nm : String} {ret : Option FieldType} {sz mc ms fr lo : Nat}
variable {P : ZM → Prop} {pc : Nat} {L : List (Nat × Value)} {st : List Value}
theorem clX1_431 (F : ZF p R s m args meth c cc nL "SafeBuckets" nm ret D A true sz mc ms fr lo) {h0 : Nat} {x1 : Int32} {x2 : Int32} {x3 : Int32} {x4 : Int32} {K : Int64 → ZM → Prop} {Kx : Nat → ZM → Prop} (hR : 3 + 1 ≤ fr ∧ 8 + (11 + 11) + 68 ≤ lo) (hst4 : zlw st) (hdg : decode cc pc = .ok (.invokevirtual 431, 3)) (kx : ZX p l e R s m args below meth c Q nL D A true n0 "SafeBuckets$TooLong" Kx pc L) (k : ∀ r, ZW p l e R s m args below meth c Q nL D A true n0 (K r) (pc + 3) L (.long r :: st)) : ZW p l e R s m args below meth c Q nL D A true n0 (zat 1 h0 (zclx' 2 4 (fun k kx => f_X1_truthOfJoin h0 x1 x2 x3 x4 kx k) Kx K)) pc L (.int x4 :: .int x3 :: .int x2 :: .int x1 :: zv h0 :: st) :=
  Z.xl1 (fun μ H locs cells slots ls hI h hP => ⟨hP.2.1, hP.2.2.1, Z.VXx1 F hI (n := 4) (ci := 0) rfl (by decide) hP.1 hP.2.1 hP.2.2.1 hP.2.2.2 (k_X1_truthOfJoin l h0 x1 x2 x3 x4 D A (0, 0, 0) 0 (fun r μ' => K r (zcs μ' (zC μ - 2) (zS μ - 4))) (fun r μ' => Kx r (zcs μ' (zC μ - 2) (zS μ - 4))) (zcs μ 2 4)) q1402 q1404 qs40 q116 q1405 (by decide +kernel) rfl h.1 hst4 hR rfl hdg⟩) kx k
theorem clX1_427 (F : ZF p R s m args meth c cc nL "SafeBuckets" nm ret D A al sz mc ms fr lo) {h0 : Nat} {h1 : Nat} {x2 : Int32} {K : Int64 → ZM → Prop} (hR : 2 + 1 ≤ fr ∧ 8 + (13 + 11) + 42 ≤ lo) (hst4 : zlw st) (hdg : decode cc pc = .ok (.invokestatic 427, 3)) (k : ∀ r, ZW p l e R s m args below meth c Q nL D A al n0 (K r) (pc + 3) L (.long r :: st)) : ZW p l e R s m args below meth c Q nL D A al n0 (f_X1_joined h0 h1 x2 K) pc L (.int x2 :: zv h1 :: zv h0 :: st) :=
  Z.rl0 _ (fun μ H locs cells slots ls hI h hP => Z.S0 F hI (n := 3) hP (k_X1_joined l h0 h1 x2 D A (zX μ, zC μ, zS μ) H.size K μ) q1390 q1391 q116 q1392 (by decide +kernel) rfl h.1 hst4 hR rfl hdg) k
theorem clX1_423 (F : ZF p R s m args meth c cc nL "SafeBuckets" nm ret D A al sz mc ms fr lo) {h0 : Nat} {h1 : Nat} {x2 : Int32} {h3 : Nat} {x4 : Int32} {K : Int64 → ZM → Prop} (hR : 4 + 1 ≤ fr ∧ 8 + (9 + 11) + 93 ≤ lo) (hst4 : zlw st) (hdg : decode cc pc = .ok (.invokevirtual 423, 3)) (k : ∀ r, ZW p l e R s m args below meth c Q nL D A al n0 (K r) (pc + 3) L (.long r :: st)) : ZW p l e R s m args below meth c Q nL D A al n0 (zat 1 h0 (f_X1_byDegrees h0 h1 x2 h3 x4 K)) pc L (.int x4 :: zv h3 :: .int x2 :: zv h1 :: zv h0 :: st) :=
  Z.rl0 _ (fun μ H locs cells slots ls hI h hP => Z.V0 F hI (n := 4) (ci := 0) rfl (by decide) hP.1 hP.2 (k_X1_byDegrees l h0 h1 x2 h3 x4 D A (zX μ, zC μ, zS μ) H.size K μ) q1383 q1385 qs39 q116 q1386 (by decide +kernel) rfl h.1 hst4 hR rfl hdg) k
set_option maxHeartbeats 4000000 in
theorem k_X1_join (l : Launch) (h0 : Nat) (x1 : Int32) (x2 : Int32) (x3 : Int32) (x4 : Int32) (x5 : Int32) : ZCl l yX1_join (wsW_ yX1_join cX1_join 9 (some .long) [(107, 116, 117, 77)]) 5 121 2 4 true [zv h0, .int x1, .int x2, .int x3, .int x4, .int x5] (f_X1_join h0 x1 x2 x3 x4 x5) := by
  refine Z.metLW (by decide +kernel) (fun h => by cases h) (L0 := [(0, zv h0), (1, .int x1), (2, .int x2), (3, .int x3), (4, .int x4), (5, .int x5)]) (by first | (rw [zla_v, zla_i, zla_i, zla_i, zla_i, zla_i, zla_0]; done) | (rw [zla_v, zla_i, zla_i, zla_i, zla_i, zla_i, zla_0]; rfl)) (by rw [zsl_v, zsl_i, zsl_i, zsl_i, zsl_i, zsl_i, zsl_0]; exact Nat.le_of_ble_eq_true rfl) ?_
  intro p e R s m args below meth c D A n0 sz k F htb
  have F : ZF p R s m args meth c cX1_join 9 "SafeBuckets" "join" (some .long) D A true sz 2 4 5 121 := F
  unfold f_X1_join
  refine Z.aload_n F 0 rfl dX1_join_0 ?_
  refine Z.iload_n F 1 rfl dX1_join_1 ?_
  refine Z.iload_n F 2 rfl dX1_join_2 ?_
  refine clX1_238 F ⟨Nat.le_of_ble_eq_true rfl, Nat.le_of_ble_eq_true rfl⟩ (zlw4 (Nat.le_of_ble_eq_true rfl)) dX1_join_3 (fun r3 => ?_)
  refine Z.jn0 (J := _) ([]) ([]) 32 (?_) (fun j32 hj32 => ?_)
  · refine Z.ldc2 F q984 dX1_join_32 ?_
    exact Z.lret F dX1_join_35
  refine Z.if_eq F (tgt := 32) dX1_join_6 (by decide) ?_ ?_
  · exact Z.sub [] rfl (hj32)
  refine Z.aload_n F 0 rfl dX1_join_9 ?_
  refine Z.iload_n F 3 rfl dX1_join_10 ?_
  refine Z.iload F 4 rfl dX1_join_11 ?_
  refine clX1_238 F ⟨Nat.le_of_ble_eq_true rfl, Nat.le_of_ble_eq_true rfl⟩ (zlw4 (Nat.le_of_ble_eq_true rfl)) dX1_join_13 (fun r13 => ?_)
  refine Z.if_eq F (tgt := 32) dX1_join_16 (by decide) ?_ ?_
  · exact Z.sub [] rfl (hj32)
  refine Z.iload F 5 rfl dX1_join_19 ?_
  refine Z.i2l F dX1_join_21 ?_
  refine Z.lconst F (w := (0 : Int64)) (by decide) dX1_join_22 ?_
  refine Z.ldc2 F q915 dX1_join_23 ?_
  refine clX1_97 F ⟨Nat.le_of_ble_eq_true rfl, Nat.le_of_ble_eq_true rfl⟩ (zlw4 (Nat.le_of_ble_eq_true rfl)) dX1_join_26 (fun r26 => ?_)
  refine Z.if_ne F (tgt := 36) dX1_join_29 (by decide) ?_ ?_
  · refine Z.aload_n F 0 rfl dX1_join_36 ?_
    refine Z.iload_n F 1 rfl dX1_join_37 ?_
    refine clX1_218 F ⟨Nat.le_of_ble_eq_true rfl, Nat.le_of_ble_eq_true rfl⟩ (zlw4 (Nat.le_of_ble_eq_true rfl)) dX1_join_38 (fun r38 => ?_)
    refine Z.astore F (L0 := [(0, zv h0), (1, .int x1), (2, .int x2), (3, .int x3), (4, .int x4), (5, .int x5)]) [0, 1, 2, 3, 4, 5] rfl (zkR rfl (zkI rfl (zkI rfl (zkI rfl (zkI rfl (zkI rfl zkN)))))) (by decide) dX1_join_41 ?_
    refine Z.aload_n F 1 rfl dX1_join_43 ?_
    refine Z.iload_n F 4 rfl dX1_join_44 ?_
    refine clX1_218 F ⟨Nat.le_of_ble_eq_true rfl, Nat.le_of_ble_eq_true rfl⟩ (zlw4 (Nat.le_of_ble_eq_true rfl)) dX1_join_45 (fun r45 => ?_)
    refine Z.astore F (L0 := [(6, zv r38), (0, zv h0), (1, .int x1), (2, .int x2), (3, .int x3), (4, .int x4), (5, .int x5)]) [0, 1, 2, 3, 4, 5, 6] rfl (zkR rfl (zkR rfl (zkI rfl (zkI rfl (zkI rfl (zkI rfl (zkI rfl zkN))))))) (by decide) dX1_join_48 ?_
    refine Z.iload F 7 rfl dX1_join_50 ?_
    refine Z.iconst F (v := (2 : Int32)) (by decide) dX1_join_52 ?_
    refine Z.icmp_ne F (tgt := 68) dX1_join_53 (by decide) ?_ ?_
    · refine Z.iload F 7 rfl dX1_join_68 ?_
      refine Z.if_le F (tgt := 103) dX1_join_70 (by decide) ?_ ?_
      · refine Z.aload_n F 2 rfl dX1_join_103 ?_
        refine clX1_394 F ⟨Nat.le_of_ble_eq_true rfl, Nat.le_of_ble_eq_true rfl⟩ (zlw4 (Nat.le_of_ble_eq_true rfl)) dX1_join_104 ?_
        refine Z.aload_n F 2 rfl dX1_join_107 ?_
        refine Z.iload_n F 3 rfl dX1_join_108 ?_
        refine Z.iload_n F 4 rfl dX1_join_109 ?_
        refine Z.iload_n F 5 rfl dX1_join_110 ?_
        refine Z.iload F 6 rfl dX1_join_111 ?_
        refine clX1_431 F ⟨Nat.le_of_ble_eq_true rfl, Nat.le_of_ble_eq_true rfl⟩ (zlw4 (Nat.le_of_ble_eq_true rfl)) dX1_join_113 (Z.catch F (name := "SafeBuckets$TooLong") ((tableOf [(107, 116, 117, 77)]).take 0) _ _ (htb.trans rfl) (by decide) (by decide) (by decide) q321 (List.mem_of_getElem? (i := 0) rfl) (fun e113 => ?_)) (fun r113 => ?_)
        · refine Z.astore F (L0 := [(7, zv r45), (6, zv r38), (0, zv h0), (1, .int x1), (2, .int x2), (3, .int x3), (4, .int x4), (5, .int x5)]) [0, 1, 2, 3, 4, 5, 6, 7] rfl (zkR rfl (zkR rfl (zkR rfl (zkI rfl (zkI rfl (zkI rfl (zkI rfl (zkI rfl zkN)))))))) (by decide) dX1_join_117 ?_
          refine Z.aload_n F 3 rfl dX1_join_119 ?_
          refine Z.iconst F (v := (4 : Int32)) (by decide) dX1_join_120 ?_
          refine clX1_305 F ⟨Nat.le_of_ble_eq_true rfl, Nat.le_of_ble_eq_true rfl⟩ (zlw4 (Nat.le_of_ble_eq_true rfl)) dX1_join_121 (fun r121 => ?_)
          refine Z.i2l F dX1_join_124 ?_
          exact Z.lret F dX1_join_125
        exact Z.lret F dX1_join_116
      refine Z.aload F 1 rfl dX1_join_73 ?_
      refine gfX1_242 F dX1_join_75 (fun g75 => ?_)
      refine Z.iload_n F 4 rfl dX1_join_78 ?_
      refine Z.aald F (t := 7) (by decide) rfl rfl dX1_join_79 (fun g79 => ?_)
      refine Z.aload F 0 rfl dX1_join_80 ?_
      refine gfX1_242 F dX1_join_82 (fun g82 => ?_)
      refine Z.iload F 6 rfl dX1_join_85 ?_
      refine Z.aald F (t := 7) (by decide) rfl rfl dX1_join_87 (fun g87 => ?_)
      refine Z.iload F 7 rfl dX1_join_88 ?_
      refine Z.iconst F (v := (1 : Int32)) (by decide) dX1_join_90 ?_
      refine Z.jn1 (J := _) (fun p99s2 => []) (fun p99s2 => [.int p99s2, zv g87, zv g79]) 99 (fun p99s2 => ?_) (fun j99 hj99 => ?_)
      · refine clX1_427 F ⟨Nat.le_of_ble_eq_true rfl, Nat.le_of_ble_eq_true rfl⟩ (zlw4 (Nat.le_of_ble_eq_true rfl)) dX1_join_99 (fun r99 => ?_)
        exact Z.lret F dX1_join_102
      refine Z.icmp_ne F (tgt := 98) dX1_join_91 (by decide) ?_ ?_
      · refine Z.iconst F (v := (0 : Int32)) (by decide) dX1_join_98 ?_
        exact Z.sub [] rfl (hj99 (0 : Int32))
      refine Z.iconst F (v := (1 : Int32)) (by decide) dX1_join_94 ?_
      refine Z.goto F (tgt := 99) dX1_join_95 (by decide) ?_
      exact Z.sub [] rfl (hj99 (1 : Int32))
    refine Z.aload_n F 2 rfl dX1_join_56 ?_
    refine Z.aload F 1 rfl dX1_join_57 ?_
    refine Z.iload_n F 4 rfl dX1_join_59 ?_
    refine Z.aload F 0 rfl dX1_join_60 ?_
    refine Z.iload F 6 rfl dX1_join_62 ?_
    refine clX1_423 F ⟨Nat.le_of_ble_eq_true rfl, Nat.le_of_ble_eq_true rfl⟩ (zlw4 (Nat.le_of_ble_eq_true rfl)) dX1_join_64 (fun r64 => ?_)
    exact Z.lret F dX1_join_67
  exact Z.sub [] rfl (hj32)
theorem gfX4_32 (F : ZF p R s m args meth c cc nL "SafeBuckets$Column" nm ret D A al sz mc ms fr lo) {z : Nat} {K : Int32 → ZM → Prop} (hdg : decode cc pc = .ok (.getfield 32, 3)) (k : ∀ u, ZW p l e R s m args below meth c Q nL D A al n0 (K u) (pc + 3) L (.int u :: st)) : ZW p l e R s m args below meth c Q nL D A al n0 (zgI 5 z 3 K) pc L (zv z :: st) :=
  Z.getI F (ref := "SafeBuckets$Bucket") in_X7 (ci := 4) rfl (by decide) (kf := 3) (by decide) q227 (fun x h => u_same (F.hts _ q226) x h) rfl hdg k
set_option maxHeartbeats 4000000 in
theorem k_X4_greatest (l : Launch) (h0 : Nat) : ZCi l yX4_greatest (ws_ yX4_greatest cX4_greatest 3 (some .int)) 1 21 0 0 false [zv h0] (f_X4_greatest h0) := by
  refine Z.metI (by decide +kernel) (fun h => ⟨rfl, rfl⟩) (L0 := [(0, zv h0)]) (by first | (rw [zla_v, zla_0]; done) | (rw [zla_v, zla_0]; rfl)) (by rw [zsl_v, zsl_0]; exact Nat.le_of_ble_eq_true rfl) ?_
  intro p e R s m args below meth c D A n0 sz k F
  have F : ZF p R s m args meth c cX4_greatest 3 "SafeBuckets$Column" "greatest" (some .int) D A false sz 0 0 1 21 := F
  unfold f_X4_greatest
  refine Z.iconst F (v := (0 : Int32)) (by decide) dX4_greatest_0 ?_
  refine Z.istore_n F (L0 := [(0, zv h0)]) [0] rfl (zkR rfl zkN) (by decide) dX4_greatest_1 ?_
  refine Z.iconst F (v := (0 : Int32)) (by decide) dX4_greatest_2 ?_
  refine Z.istore_n F (L0 := [(1, .int (0 : Int32)), (0, zv h0)]) [0, 1] rfl (zkI rfl (zkR rfl zkN)) (by decide) dX4_greatest_3 ?_
  refine Z.sub [2, 1, 0] rfl ?_
  refine Z.w2 (Lf := fun p4l1 p4l2 => [(0, zv h0), (1, .int p4l1), (2, .int p4l2)]) (sf := fun p4l1 p4l2 => []) (fun r4 hr4 p4l1 p4l2 => ?_) (0 : Int32) (0 : Int32)
  refine Z.iload_n F 2 rfl dX4_greatest_4 ?_
  refine Z.aload_n F 0 rfl dX4_greatest_5 ?_
  refine gfX4_22 F dX4_greatest_6 (fun g6 => ?_)
  refine Z.icmp_ge F (tgt := 32) dX4_greatest_9 (by decide) ?_ ?_
  · refine Z.iload_n F 1 rfl dX4_greatest_32 ?_
    exact Z.iret F dX4_greatest_33
  refine Z.iload_n F 1 rfl dX4_greatest_12 ?_
  refine Z.aload_n F 0 rfl dX4_greatest_13 ?_
  refine gfX4_11 F dX4_greatest_14 (fun g14 => ?_)
  refine Z.iload_n F 2 rfl dX4_greatest_17 ?_
  refine Z.aald F (t := 8) (by decide) rfl rfl dX4_greatest_18 (fun g18 => ?_)
  refine gfX4_32 F dX4_greatest_19 (fun g19 => ?_)
  refine Z.mmax F q1414 (Nat.le_of_ble_eq_true rfl) (Nat.le_of_ble_eq_true rfl) (zlw4 (Nat.le_of_ble_eq_true rfl)) dX4_greatest_22 ?_
  refine Z.istore_n F (L0 := [(0, zv h0), (2, .int p4l2)]) [0, 2] rfl (zkR rfl (zkI rfl zkN)) (by decide) dX4_greatest_25 ?_
  refine Z.iinc F (L0 := [(1, .int (if p4l1 < g19 then g19 else p4l1)), (0, zv h0)]) (k0 := 2) (v := (1 : Int32)) rfl (by decide) [0, 1] rfl (zkI rfl (zkR rfl zkN)) (by decide) dX4_greatest_26 ?_
  refine Z.goto F (tgt := 4) dX4_greatest_29 (by decide) ?_
  exact Z.sub [2, 1, 0] rfl (hr4 (if p4l1 < g19 then g19 else p4l1) (p4l2 + (1 : Int32)))
set_option maxHeartbeats 4000000 in
theorem k_X1_truthOfChain (l : Launch) (h0 : Nat) : ZClx l yX1_truthOfChain (wsW_ yX1_truthOfChain cX1_truthOfChain 9 (some .long) [(30, 163, 178, 372), (180, 184, 187, 372), (20, 167, 199, 372), (178, 199, 199, 372), (200, 204, 207, 372), (10, 171, 217, 372), (178, 217, 217, 372), (218, 222, 225, 372)]) 3 68 3 6 true "SafeBuckets$TooLong" [zv h0] (fun k kx => f_X1_truthOfChain h0 kx k) := by
  refine Z.metLWx (by decide +kernel) (fun h => by cases h) (L0 := [(0, zv h0)]) (by first | (rw [zla_v, zla_0]; done) | (rw [zla_v, zla_0]; rfl)) (by rw [zsl_v, zsl_0]; exact Nat.le_of_ble_eq_true rfl) ?_
  intro p e R s m args below meth c D A n0 sz k kx F htb
  have F : ZF p R s m args meth c cX1_truthOfChain 9 "SafeBuckets" "truthOfChain" (some .long) D A true sz 3 6 3 68 := F
  show ZW p l e R s m args below meth c _ _ D A _ _ (f_X1_truthOfChain h0 kx k) _ _ _
  unfold f_X1_truthOfChain
  refine Z.newO F in_X22 tyX22 tyX22_ok (ci := 16) rfl (by decide) q1229 q1230 q149 df_X22 dX1_truthOfChain_0 (fun n0 => ?_)
  refine Z.dup F dX1_truthOfChain_3 ?_
  refine Z.aload_n F 0 rfl dX1_truthOfChain_4 ?_
  refine Z.iconst F (v := (0 : Int32)) (by decide) dX1_truthOfChain_5 ?_
  refine clX1_357 F ⟨Nat.le_of_ble_eq_true rfl, Nat.le_of_ble_eq_true rfl⟩ (zlw4 (Nat.le_of_ble_eq_true rfl)) dX1_truthOfChain_6 ?_
  refine Z.astore_n F (L0 := [(0, zv h0)]) [0] rfl (zkR rfl zkN) (by decide) dX1_truthOfChain_9 ?_
  refine Z.newO F in_X22 tyX22 tyX22_ok (ci := 16) rfl (by decide) q1229 q1230 q149 df_X22 dX1_truthOfChain_10 (fun n10 => ?_)
  refine Z.dup F dX1_truthOfChain_13 ?_
  refine Z.aload_n F 1 rfl dX1_truthOfChain_14 ?_
  refine Z.iconst F (v := (1 : Int32)) (by decide) dX1_truthOfChain_15 ?_
  refine clX1_357 F ⟨Nat.le_of_ble_eq_true rfl, Nat.le_of_ble_eq_true rfl⟩ (zlw4 (Nat.le_of_ble_eq_true rfl)) dX1_truthOfChain_16 ?_
  refine Z.astore_n F (L0 := [(1, zv n0), (0, zv h0)]) [0, 1] rfl (zkR rfl (zkR rfl zkN)) (by decide) dX1_truthOfChain_19 ?_
  refine Z.newO F in_X22 tyX22 tyX22_ok (ci := 16) rfl (by decide) q1229 q1230 q149 df_X22 dX1_truthOfChain_20 (fun n20 => ?_)
  refine Z.dup F dX1_truthOfChain_23 ?_
  refine Z.aload_n F 2 rfl dX1_truthOfChain_24 ?_
  refine Z.iconst F (v := (2 : Int32)) (by decide) dX1_truthOfChain_25 ?_
  refine clX1_357 F ⟨Nat.le_of_ble_eq_true rfl, Nat.le_of_ble_eq_true rfl⟩ (zlw4 (Nat.le_of_ble_eq_true rfl)) dX1_truthOfChain_26 ?_
  refine Z.astore_n F (L0 := [(2, zv n10), (1, zv n0), (0, zv h0)]) [0, 1, 2] rfl (zkR rfl (zkR rfl (zkR rfl zkN))) (by decide) dX1_truthOfChain_29 ?_
  refine Z.aload_n F 1 rfl dX1_truthOfChain_30 ?_
  refine clX1_360 F ⟨Nat.le_of_ble_eq_true rfl, Nat.le_of_ble_eq_true rfl⟩ (zlw4 (Nat.le_of_ble_eq_true rfl)) dX1_truthOfChain_31 (fun r31 => ?_)
  refine Z.astore F (L0 := [(3, zv n20), (2, zv n10), (1, zv n0), (0, zv h0)]) [0, 1, 2, 3] rfl (zkR rfl (zkR rfl (zkR rfl (zkR rfl zkN)))) (by decide) dX1_truthOfChain_34 ?_
  refine Z.lconst F (w := (0 : Int64)) (by decide) dX1_truthOfChain_36 ?_
  refine Z.lstore F (L0 := [(4, zv r31), (3, zv n20), (2, zv n10), (1, zv n0), (0, zv h0)]) [0, 1, 2, 3, 4] rfl (zmR rfl rfl  (zmR rfl rfl  (zmR rfl rfl  (zmR rfl rfl  (zmR rfl rfl  zmN))))) (by decide) dX1_truthOfChain_37 ?_
  refine Z.iconst F (v := (0 : Int32)) (by decide) dX1_truthOfChain_39 ?_
  refine Z.istore F (L0 := [(5, .long (0 : Int64)), (4, zv r31), (3, zv n20), (2, zv n10), (1, zv n0), (0, zv h0)]) [0, 1, 2, 3, 4, 5] rfl (zkL rfl rfl (zkR rfl (zkR rfl (zkR rfl (zkR rfl (zkR rfl zkN)))))) (by decide) dX1_truthOfChain_40 ?_
  refine Z.jn1 (J := _) (fun p178s0 => [(1, zv n0), (2, zv n10), (3, zv n20)]) (fun p178s0 => [zv p178s0]) 178 (fun p178s0 => ?_) (fun j178 hj178 => ?_)
  · refine Z.astore F (L0 := [(1, zv n0), (2, zv n10), (3, zv n20)]) [0, 1, 2] rfl (zkR rfl (zkR rfl (zkR rfl zkN))) (by decide) dX1_truthOfChain_178 ?_
    refine Z.aload_n F 3 rfl dX1_truthOfChain_180 ?_
    refine clX1_369 F ⟨Nat.le_of_ble_eq_true rfl, Nat.le_of_ble_eq_true rfl⟩ (zlw4 (Nat.le_of_ble_eq_true rfl)) dX1_truthOfChain_181 ?_
    refine Z.goto F (tgt := 196) dX1_truthOfChain_184 (by decide) ?_
    refine Z.aload F 0 rfl dX1_truthOfChain_196 ?_
    refine Z.athrowC F (ci := 5) rfl (by decide) dX1_truthOfChain_198 (Z.catch F (name := "java/lang/Throwable") ((tableOf [(30, 163, 178, 372), (180, 184, 187, 372), (20, 167, 199, 372), (178, 199, 199, 372), (200, 204, 207, 372), (10, 171, 217, 372), (178, 217, 217, 372), (218, 222, 225, 372)]).take 3) _ _ (htb.trans rfl) (by decide) (by decide) (by decide) q1228 (List.mem_of_getElem? (i := 2) rfl) (fun e198 => ?_))
    refine Z.astore_n F (L0 := [(4, zv p178s0), (1, zv n0), (2, zv n10)]) [0, 1, 2] rfl (zkR rfl (zkR rfl (zkR rfl zkN))) (by decide) dX1_truthOfChain_199 ?_
    refine Z.aload_n F 3 rfl dX1_truthOfChain_200 ?_
    refine clX1_369 F ⟨Nat.le_of_ble_eq_true rfl, Nat.le_of_ble_eq_true rfl⟩ (zlw4 (Nat.le_of_ble_eq_true rfl)) dX1_truthOfChain_201 ?_
    refine Z.goto F (tgt := 215) dX1_truthOfChain_204 (by decide) ?_
    refine Z.aload_n F 0 rfl dX1_truthOfChain_215 ?_
    refine Z.athrowC F (ci := 5) rfl (by decide) dX1_truthOfChain_216 (Z.catch F (name := "java/lang/Throwable") ((tableOf [(30, 163, 178, 372), (180, 184, 187, 372), (20, 167, 199, 372), (178, 199, 199, 372), (200, 204, 207, 372), (10, 171, 217, 372), (178, 217, 217, 372), (218, 222, 225, 372)]).take 6) _ _ (htb.trans rfl) (by decide) (by decide) (by decide) q1228 (List.mem_of_getElem? (i := 2) rfl) (fun e216 => ?_))
    refine Z.astore_n F (L0 := [(3, zv e198), (4, zv p178s0), (1, zv n0)]) [0, 1, 2] rfl (zkR rfl (zkR rfl (zkR rfl zkN))) (by decide) dX1_truthOfChain_217 ?_
    refine Z.aload_n F 3 rfl dX1_truthOfChain_218 ?_
    refine clX1_369 F ⟨Nat.le_of_ble_eq_true rfl, Nat.le_of_ble_eq_true rfl⟩ (zlw4 (Nat.le_of_ble_eq_true rfl)) dX1_truthOfChain_219 ?_
    refine Z.goto F (tgt := 231) dX1_truthOfChain_222 (by decide) ?_
    refine Z.aload_n F 0 rfl dX1_truthOfChain_231 ?_
    exact Z.athrow F (ci := 5) rfl (by decide) dX1_truthOfChain_232 (Z.out F (by rw [htb]; decide))
  refine Z.jn1 (J := _) (fun p159l5 => [(1, zv n0), (2, zv n10), (3, zv n20), (5, .long p159l5)]) (fun p159l5 => []) 159 (fun p159l5 => ?_) (fun j159 hj159 => ?_)
  · refine Z.lload F 3 rfl dX1_truthOfChain_159 ?_
    refine Z.lstore F (L0 := [(1, zv n0), (2, zv n10), (3, zv n20), (5, .long p159l5)]) [0, 1, 2, 3] rfl (zmR rfl rfl  (zmR rfl rfl  (zmR rfl rfl  (zmL rfl rfl rfl  zmN)))) (by decide) dX1_truthOfChain_161 ?_
    refine Z.aload_n F 3 rfl dX1_truthOfChain_163 ?_
    refine clX1_369 F ⟨Nat.le_of_ble_eq_true rfl, Nat.le_of_ble_eq_true rfl⟩ (zlw4 (Nat.le_of_ble_eq_true rfl)) dX1_truthOfChain_164 ?_
    refine Z.aload_n F 2 rfl dX1_truthOfChain_167 ?_
    refine clX1_369 F ⟨Nat.le_of_ble_eq_true rfl, Nat.le_of_ble_eq_true rfl⟩ (zlw4 (Nat.le_of_ble_eq_true rfl)) dX1_truthOfChain_168 ?_
    refine Z.aload_n F 1 rfl dX1_truthOfChain_171 ?_
    refine clX1_369 F ⟨Nat.le_of_ble_eq_true rfl, Nat.le_of_ble_eq_true rfl⟩ (zlw4 (Nat.le_of_ble_eq_true rfl)) dX1_truthOfChain_172 ?_
    refine Z.lload F 0 rfl dX1_truthOfChain_175 ?_
    exact Z.retx (Z.lret F dX1_truthOfChain_177)
  refine Z.sub [6, 5, 4, 3, 2, 1, 0] rfl ?_
  refine Z.w2 (Lf := fun p42l5 p42l7 => [(0, zv h0), (1, zv n0), (2, zv n10), (3, zv n20), (4, zv r31), (5, .long p42l5), (7, .int p42l7)]) (sf := fun p42l5 p42l7 => []) (fun r42 hr42 p42l5 p42l7 => ?_) (0 : Int64) (0 : Int32)
  refine Z.iload F 6 rfl dX1_truthOfChain_42 ?_
  refine Z.aload F 4 rfl dX1_truthOfChain_44 ?_
  refine gfX1_164 F dX1_truthOfChain_46 (fun g46 => ?_)
  refine Z.icmp_ge F (tgt := 159) dX1_truthOfChain_49 (by decide) ?_ ?_
  · exact Z.sub [1, 2, 3, 5] rfl (hj159 p42l5)
  refine Z.iconst F (v := (0 : Int32)) (by decide) dX1_truthOfChain_52 ?_
  refine Z.istore F (L0 := [(0, zv h0), (1, zv n0), (2, zv n10), (3, zv n20), (4, zv r31), (5, .long p42l5), (7, .int p42l7)]) [0, 1, 2, 3, 4, 5, 6] rfl (zkR rfl (zkR rfl (zkR rfl (zkR rfl (zkR rfl (zkL rfl rfl (zkI rfl zkN))))))) (by decide) dX1_truthOfChain_53 ?_
  refine Z.jn2 (J := _) (fun p153l5 p153l7 => [(0, zv h0), (1, zv n0), (2, zv n10), (3, zv n20), (4, zv r31), (5, .long p153l5), (7, .int p153l7)]) (fun p153l5 p153l7 => []) 153 (fun p153l5 p153l7 => ?_) (fun j153 hj153 => ?_)
  · refine Z.iinc F (L0 := [(0, zv h0), (1, zv n0), (2, zv n10), (3, zv n20), (4, zv r31), (5, .long p153l5)]) (k0 := 6) (v := (1 : Int32)) rfl (by decide) [0, 1, 2, 3, 4, 5] rfl (zkR rfl (zkR rfl (zkR rfl (zkR rfl (zkR rfl (zkL rfl rfl zkN)))))) (by decide) dX1_truthOfChain_153 ?_
    refine Z.goto F (tgt := 42) dX1_truthOfChain_156 (by decide) ?_
    exact Z.sub [1, 2, 3, 4, 5, 6, 0] rfl (hr42 p153l5 (p153l7 + (1 : Int32)))
  refine Z.sub [1, 2, 3, 4, 5, 6, 7, 0] rfl ?_
  refine Z.w3 (Lf := fun p55l5 p55l7 p55l8 => [(0, zv h0), (1, zv n0), (2, zv n10), (3, zv n20), (4, zv r31), (5, .long p55l5), (7, .int p55l7), (8, .int p55l8)]) (sf := fun p55l5 p55l7 p55l8 => []) (fun r55 hr55 p55l5 p55l7 p55l8 => ?_) p42l5 p42l7 (0 : Int32)
  refine Z.iload F 7 rfl dX1_truthOfChain_55 ?_
  refine Z.aload F 4 rfl dX1_truthOfChain_57 ?_
  refine gfX1_164 F dX1_truthOfChain_59 (fun g59 => ?_)
  refine Z.icmp_ge F (tgt := 153) dX1_truthOfChain_62 (by decide) ?_ ?_
  · exact Z.sub [0, 1, 2, 3, 4, 5, 6] rfl (hj153 p55l5 p55l7)
  refine Z.aload F 4 rfl dX1_truthOfChain_65 ?_
  refine Z.iload F 6 rfl dX1_truthOfChain_67 ?_
  refine Z.iload F 7 rfl dX1_truthOfChain_69 ?_
  refine clX1_235 F ⟨Nat.le_of_ble_eq_true rfl, Nat.le_of_ble_eq_true rfl⟩ (zlw4 (Nat.le_of_ble_eq_true rfl)) dX1_truthOfChain_71 (fun r71 => ?_)
  refine Z.jn1 (J := _) (fun p147l5 => [(0, zv h0), (1, zv n0), (2, zv n10), (3, zv n20), (4, zv r31), (5, .long p147l5), (7, .int p55l7), (8, .int p55l8)]) (fun p147l5 => []) 147 (fun p147l5 => ?_) (fun j147 hj147 => ?_)
  · refine Z.iinc F (L0 := [(0, zv h0), (1, zv n0), (2, zv n10), (3, zv n20), (4, zv r31), (5, .long p147l5), (7, .int p55l7)]) (k0 := 7) (v := (1 : Int32)) rfl (by decide) [0, 1, 2, 3, 4, 5, 6] rfl (zkR rfl (zkR rfl (zkR rfl (zkR rfl (zkR rfl (zkL rfl rfl (zkI rfl zkN))))))) (by decide) dX1_truthOfChain_147 ?_
    refine Z.goto F (tgt := 55) dX1_truthOfChain_150 (by decide) ?_
    exact Z.sub [1, 2, 3, 4, 5, 6, 7, 0] rfl (hr55 p147l5 p55l7 (p55l8 + (1 : Int32)))
  refine Z.if_ne F (tgt := 80) dX1_truthOfChain_74 (by decide) ?_ ?_
  · refine Z.aload_n F 0 rfl dX1_truthOfChain_80 ?_
    refine clX1_363 F ⟨Nat.le_of_ble_eq_true rfl, Nat.le_of_ble_eq_true rfl⟩ (zlw4 (Nat.le_of_ble_eq_true rfl)) dX1_truthOfChain_81 (Z.catch F (name := "java/lang/Throwable") ((tableOf [(30, 163, 178, 372), (180, 184, 187, 372), (20, 167, 199, 372), (178, 199, 199, 372), (200, 204, 207, 372), (10, 171, 217, 372), (178, 217, 217, 372), (218, 222, 225, 372)]).take 0) _ _ (htb.trans rfl) (by decide) (by decide) (by decide) q1228 (List.mem_of_getElem? (i := 2) rfl) (fun e81 => ?_)) ?_
    · exact Z.sub [1, 2, 3] rfl (hj178 e81)
    refine Z.iload F 6 rfl dX1_truthOfChain_84 ?_
    refine Z.aload_n F 1 rfl dX1_truthOfChain_86 ?_
    refine clX1_360 F ⟨Nat.le_of_ble_eq_true rfl, Nat.le_of_ble_eq_true rfl⟩ (zlw4 (Nat.le_of_ble_eq_true rfl)) dX1_truthOfChain_87 (fun r87 => ?_)
    refine gfX1_164 F dX1_truthOfChain_90 (fun g90 => ?_)
    refine Z.icmp_ge F (tgt := 147) dX1_truthOfChain_93 (by decide) ?_ ?_
    · exact Z.sub [0, 1, 2, 3, 4, 5, 6, 7] rfl (hj147 p55l5)
    refine Z.iload F 7 rfl dX1_truthOfChain_96 ?_
    refine Z.aload_n F 3 rfl dX1_truthOfChain_98 ?_
    refine clX1_360 F ⟨Nat.le_of_ble_eq_true rfl, Nat.le_of_ble_eq_true rfl⟩ (zlw4 (Nat.le_of_ble_eq_true rfl)) dX1_truthOfChain_99 (fun r99 => ?_)
    refine gfX1_164 F dX1_truthOfChain_102 (fun g102 => ?_)
    refine Z.icmp_ge F (tgt := 147) dX1_truthOfChain_105 (by decide) ?_ ?_
    · exact Z.sub [0, 1, 2, 3, 4, 5, 6, 7] rfl (hj147 p55l5)
    refine Z.lload F 5 rfl dX1_truthOfChain_108 ?_
    refine Z.aload F 4 rfl dX1_truthOfChain_110 ?_
    refine Z.iload F 6 rfl dX1_truthOfChain_112 ?_
    refine Z.iload F 7 rfl dX1_truthOfChain_114 ?_
    refine clX1_235 F ⟨Nat.le_of_ble_eq_true rfl, Nat.le_of_ble_eq_true rfl⟩ (zlw4 (Nat.le_of_ble_eq_true rfl)) dX1_truthOfChain_116 (fun r116 => ?_)
    refine Z.i2l F dX1_truthOfChain_119 ?_
    refine Z.aload_n F 1 rfl dX1_truthOfChain_120 ?_
    refine clX1_360 F ⟨Nat.le_of_ble_eq_true rfl, Nat.le_of_ble_eq_true rfl⟩ (zlw4 (Nat.le_of_ble_eq_true rfl)) dX1_truthOfChain_121 (fun r121 => ?_)
    refine Z.iconst F (v := (1 : Int32)) (by decide) dX1_truthOfChain_124 ?_
    refine Z.iload F 6 rfl dX1_truthOfChain_125 ?_
    refine clX1_167 F ⟨Nat.le_of_ble_eq_true rfl, Nat.le_of_ble_eq_true rfl⟩ (zlw4 (Nat.le_of_ble_eq_true rfl)) dX1_truthOfChain_127 (fun r127 => ?_)
    refine Z.i2l F dX1_truthOfChain_130 ?_
    refine Z.lmul F dX1_truthOfChain_131 ?_
    refine Z.aload_n F 3 rfl dX1_truthOfChain_132 ?_
    refine clX1_360 F ⟨Nat.le_of_ble_eq_true rfl, Nat.le_of_ble_eq_true rfl⟩ (zlw4 (Nat.le_of_ble_eq_true rfl)) dX1_truthOfChain_133 (fun r133 => ?_)
    refine Z.iconst F (v := (0 : Int32)) (by decide) dX1_truthOfChain_136 ?_
    refine Z.iload F 7 rfl dX1_truthOfChain_137 ?_
    refine clX1_167 F ⟨Nat.le_of_ble_eq_true rfl, Nat.le_of_ble_eq_true rfl⟩ (zlw4 (Nat.le_of_ble_eq_true rfl)) dX1_truthOfChain_139 (fun r139 => ?_)
    refine Z.i2l F dX1_truthOfChain_142 ?_
    refine Z.lmul F dX1_truthOfChain_143 ?_
    refine Z.ladd F dX1_truthOfChain_144 ?_
    refine Z.lstore F (L0 := [(0, zv h0), (1, zv n0), (2, zv n10), (3, zv n20), (4, zv r31), (7, .int p55l7), (8, .int p55l8)]) [0, 1, 2, 3, 4, 6, 7] rfl (zmR rfl rfl  (zmR rfl rfl  (zmR rfl rfl  (zmR rfl rfl  (zmR rfl rfl  (zmI rfl rfl  (zmI rfl rfl  zmN))))))) (by decide) dX1_truthOfChain_145 ?_
    exact Z.sub [1, 2, 3, 4, 5, 0, 6, 7] rfl (hj147 (p55l5 + ((r116.toInt64 * r127.toInt64) * r139.toInt64)))
  refine Z.goto F (tgt := 147) dX1_truthOfChain_77 (by decide) ?_
  exact Z.sub [0, 1, 2, 3, 4, 5, 6, 7] rfl (hj147 p55l5)
theorem clX1_437 (F : ZF p R s m args meth c cc nL "SafeBuckets" nm ret D A true sz mc ms fr lo) {h0 : Nat} {K : Int64 → ZM → Prop} {Kx : Nat → ZM → Prop} (hR : 3 + 1 ≤ fr ∧ 8 + (9 + 11) + 68 ≤ lo) (hst4 : zlw st) (hdg : decode cc pc = .ok (.invokevirtual 437, 3)) (kx : ZX p l e R s m args below meth c Q nL D A true n0 "SafeBuckets$TooLong" Kx pc L) (k : ∀ r, ZW p l e R s m args below meth c Q nL D A true n0 (K r) (pc + 3) L (.long r :: st)) : ZW p l e R s m args below meth c Q nL D A true n0 (zat 1 h0 (zclx' 3 6 (fun k kx => f_X1_truthOfChain h0 kx k) Kx K)) pc L (zv h0 :: st) :=
  Z.xl1 (fun μ H locs cells slots ls hI h hP => ⟨hP.2.1, hP.2.2.1, Z.VXx1 F hI (n := 0) (ci := 0) rfl (by decide) hP.1 hP.2.1 hP.2.2.1 hP.2.2.2 (k_X1_truthOfChain l h0 D A (0, 0, 0) 0 (fun r μ' => K r (zcs μ' (zC μ - 3) (zS μ - 6))) (fun r μ' => Kx r (zcs μ' (zC μ - 3) (zS μ - 6))) (zcs μ 3 6)) q1415 q1417 qs41 q116 q1418 (by decide +kernel) rfl h.1 hst4 hR rfl hdg⟩) kx k
theorem clX1_435 (F : ZF p R s m args meth c cc nL "SafeBuckets" nm ret D A al sz mc ms fr lo) {h0 : Nat} {K : Int32 → ZM → Prop} (hR : 1 + 1 ≤ fr ∧ 8 + (3 + 11) + 21 ≤ lo) (hst4 : zlw st) (hdg : decode cc pc = .ok (.invokevirtual 435, 3)) (k : ∀ r, ZW p l e R s m args below meth c Q nL D A al n0 (K r) (pc + 3) L (.int r :: st)) : ZW p l e R s m args below meth c Q nL D A al n0 (zat 4 h0 (f_X4_greatest h0 K)) pc L (zv h0 :: st) :=
  Z.ri0 _ (fun μ H locs cells slots ls hI h hP => Z.V0 F hI (n := 0) (ci := 3) rfl (by decide) hP.1 hP.2 (k_X4_greatest l h0 D A (zX μ, zC μ, zS μ) H.size K μ) q1410 q1411 q1412 q119 q1413 (by decide +kernel) rfl h.1 hst4 hR rfl hdg) k
set_option maxHeartbeats 4000000 in
theorem k_X1_chain (l : Launch) (h0 : Nat) (x1 : Int32) : ZCl l yX1_chain (wsW_ yX1_chain cX1_chain 6 (some .long) [(118, 122, 123, 77)]) 4 96 3 6 true [zv h0, .int x1] (f_X1_chain h0 x1) := by
  refine Z.metLW (by decide +kernel) (fun h => by cases h) (L0 := [(0, zv h0), (1, .int x1)]) (by first | (rw [zla_v, zla_i, zla_0]; done) | (rw [zla_v, zla_i, zla_0]; rfl)) (by rw [zsl_v, zsl_i, zsl_0]; exact Nat.le_of_ble_eq_true rfl) ?_
  intro p e R s m args below meth c D A n0 sz k F htb
  have F : ZF p R s m args meth c cX1_chain 6 "SafeBuckets" "chain" (some .long) D A true sz 3 6 4 96 := F
  unfold f_X1_chain
  refine Z.aload_n F 0 rfl dX1_chain_0 ?_
  refine gfX1_93 F dX1_chain_1 (fun g1 => ?_)
  refine Z.jn0 (J := _) ([]) ([]) 28 (?_) (fun j28 hj28 => ?_)
  · refine Z.ldc2 F q984 dX1_chain_28 ?_
    exact Z.lret F dX1_chain_31
  refine Z.ifnull F (tgt := 28) dX1_chain_4 (by decide) ?_ ?_
  · exact Z.sub [] rfl (hj28)
  refine Z.aload_n F 0 rfl dX1_chain_7 ?_
  refine gfX1_93 F dX1_chain_8 (fun g8 => ?_)
  refine gfX1_139 F dX1_chain_11 (fun g11 => ?_)
  refine Z.iconst F (v := (3 : Int32)) (by decide) dX1_chain_14 ?_
  refine Z.icmp_lt F (tgt := 28) dX1_chain_15 (by decide) ?_ ?_
  · exact Z.sub [] rfl (hj28)
  refine Z.iload_n F 1 rfl dX1_chain_18 ?_
  refine Z.i2l F dX1_chain_19 ?_
  refine Z.lconst F (w := (0 : Int64)) (by decide) dX1_chain_20 ?_
  refine Z.lconst F (w := (1 : Int64)) (by decide) dX1_chain_21 ?_
  refine clX1_97 F ⟨Nat.le_of_ble_eq_true rfl, Nat.le_of_ble_eq_true rfl⟩ (zlw4 (Nat.le_of_ble_eq_true rfl)) dX1_chain_22 (fun r22 => ?_)
  refine Z.if_ne F (tgt := 32) dX1_chain_25 (by decide) ?_ ?_
  · refine Z.iload_n F 1 rfl dX1_chain_32 ?_
    refine Z.iconst F (v := (1 : Int32)) (by decide) dX1_chain_33 ?_
    refine Z.icmp_ne F (tgt := 114) dX1_chain_34 (by decide) ?_ ?_
    · refine Z.aload_n F 0 rfl dX1_chain_114 ?_
      refine clX1_394 F ⟨Nat.le_of_ble_eq_true rfl, Nat.le_of_ble_eq_true rfl⟩ (zlw4 (Nat.le_of_ble_eq_true rfl)) dX1_chain_115 ?_
      refine Z.aload_n F 0 rfl dX1_chain_118 ?_
      refine clX1_437 F ⟨Nat.le_of_ble_eq_true rfl, Nat.le_of_ble_eq_true rfl⟩ (zlw4 (Nat.le_of_ble_eq_true rfl)) dX1_chain_119 (Z.catch F (name := "SafeBuckets$TooLong") ((tableOf [(118, 122, 123, 77)]).take 0) _ _ (htb.trans rfl) (by decide) (by decide) (by decide) q321 (List.mem_of_getElem? (i := 0) rfl) (fun e119 => ?_)) (fun r119 => ?_)
      · refine Z.astore_n F (L0 := [(0, zv h0), (1, .int x1)]) [0, 1] rfl (zkR rfl (zkI rfl zkN)) (by decide) dX1_chain_123 ?_
        refine Z.aload_n F 1 rfl dX1_chain_124 ?_
        refine Z.iconst F (v := (4 : Int32)) (by decide) dX1_chain_125 ?_
        refine clX1_305 F ⟨Nat.le_of_ble_eq_true rfl, Nat.le_of_ble_eq_true rfl⟩ (zlw4 (Nat.le_of_ble_eq_true rfl)) dX1_chain_126 (fun r126 => ?_)
        refine Z.i2l F dX1_chain_129 ?_
        exact Z.lret F dX1_chain_130
      exact Z.lret F dX1_chain_122
    refine Z.aload_n F 0 rfl dX1_chain_37 ?_
    refine Z.iconst F (v := (0 : Int32)) (by decide) dX1_chain_38 ?_
    refine clX1_218 F ⟨Nat.le_of_ble_eq_true rfl, Nat.le_of_ble_eq_true rfl⟩ (zlw4 (Nat.le_of_ble_eq_true rfl)) dX1_chain_39 (fun r39 => ?_)
    refine gfX1_242 F dX1_chain_42 (fun g42 => ?_)
    refine Z.iconst F (v := (1 : Int32)) (by decide) dX1_chain_45 ?_
    refine Z.aald F (t := 7) (by decide) rfl rfl dX1_chain_46 (fun g46 => ?_)
    refine Z.astore_n F (L0 := [(0, zv h0), (1, .int x1)]) [0, 1] rfl (zkR rfl (zkI rfl zkN)) (by decide) dX1_chain_47 ?_
    refine Z.aload_n F 1 rfl dX1_chain_48 ?_
    refine Z.iconst F (v := (1 : Int32)) (by decide) dX1_chain_49 ?_
    refine clX1_218 F ⟨Nat.le_of_ble_eq_true rfl, Nat.le_of_ble_eq_true rfl⟩ (zlw4 (Nat.le_of_ble_eq_true rfl)) dX1_chain_50 (fun r50 => ?_)
    refine gfX1_242 F dX1_chain_53 (fun g53 => ?_)
    refine Z.iconst F (v := (0 : Int32)) (by decide) dX1_chain_56 ?_
    refine Z.aald F (t := 7) (by decide) rfl rfl dX1_chain_57 (fun g57 => ?_)
    refine Z.astore_n F (L0 := [(2, zv g46), (0, zv h0), (1, .int x1)]) [0, 1, 2] rfl (zkR rfl (zkR rfl (zkI rfl zkN))) (by decide) dX1_chain_58 ?_
    refine Z.aload_n F 2 rfl dX1_chain_59 ?_
    refine Z.iconst F (v := (1 : Int32)) (by decide) dX1_chain_60 ?_
    refine clX1_218 F ⟨Nat.le_of_ble_eq_true rfl, Nat.le_of_ble_eq_true rfl⟩ (zlw4 (Nat.le_of_ble_eq_true rfl)) dX1_chain_61 (fun r61 => ?_)
    refine gfX1_242 F dX1_chain_64 (fun g64 => ?_)
    refine Z.iconst F (v := (1 : Int32)) (by decide) dX1_chain_67 ?_
    refine Z.aald F (t := 7) (by decide) rfl rfl dX1_chain_68 (fun g68 => ?_)
    refine Z.astore F (L0 := [(3, zv g57), (2, zv g46), (0, zv h0), (1, .int x1)]) [0, 1, 2, 3] rfl (zkR rfl (zkR rfl (zkR rfl (zkI rfl zkN)))) (by decide) dX1_chain_69 ?_
    refine Z.aload_n F 3 rfl dX1_chain_71 ?_
    refine Z.iconst F (v := (2 : Int32)) (by decide) dX1_chain_72 ?_
    refine clX1_218 F ⟨Nat.le_of_ble_eq_true rfl, Nat.le_of_ble_eq_true rfl⟩ (zlw4 (Nat.le_of_ble_eq_true rfl)) dX1_chain_73 (fun r73 => ?_)
    refine gfX1_242 F dX1_chain_76 (fun g76 => ?_)
    refine Z.iconst F (v := (0 : Int32)) (by decide) dX1_chain_79 ?_
    refine Z.aald F (t := 7) (by decide) rfl rfl dX1_chain_80 (fun g80 => ?_)
    refine Z.astore F (L0 := [(4, zv g68), (3, zv g57), (2, zv g46), (0, zv h0), (1, .int x1)]) [0, 1, 2, 3, 4] rfl (zkR rfl (zkR rfl (zkR rfl (zkR rfl (zkI rfl zkN))))) (by decide) dX1_chain_81 ?_
    refine Z.aload_n F 3 rfl dX1_chain_83 ?_
    refine Z.aload_n F 2 rfl dX1_chain_84 ?_
    refine Z.iconst F (v := (1 : Int32)) (by decide) dX1_chain_85 ?_
    refine clX1_427 F ⟨Nat.le_of_ble_eq_true rfl, Nat.le_of_ble_eq_true rfl⟩ (zlw4 (Nat.le_of_ble_eq_true rfl)) dX1_chain_86 (fun r86 => ?_)
    refine Z.aload F 0 rfl dX1_chain_89 ?_
    refine clX1_435 F ⟨Nat.le_of_ble_eq_true rfl, Nat.le_of_ble_eq_true rfl⟩ (zlw4 (Nat.le_of_ble_eq_true rfl)) dX1_chain_91 (fun r91 => ?_)
    refine Z.i2l F dX1_chain_94 ?_
    refine Z.lmul F dX1_chain_95 ?_
    refine Z.aload F 1 rfl dX1_chain_96 ?_
    refine Z.aload F 0 rfl dX1_chain_98 ?_
    refine Z.iconst F (v := (1 : Int32)) (by decide) dX1_chain_100 ?_
    refine clX1_427 F ⟨Nat.le_of_ble_eq_true rfl, Nat.le_of_ble_eq_true rfl⟩ (zlw4 (Nat.le_of_ble_eq_true rfl)) dX1_chain_101 (fun r101 => ?_)
    refine Z.aload_n F 3 rfl dX1_chain_104 ?_
    refine clX1_435 F ⟨Nat.le_of_ble_eq_true rfl, Nat.le_of_ble_eq_true rfl⟩ (zlw4 (Nat.le_of_ble_eq_true rfl)) dX1_chain_105 (fun r105 => ?_)
    refine Z.i2l F dX1_chain_108 ?_
    refine Z.lmul F dX1_chain_109 ?_
    refine Z.lmin F q1398 (Nat.le_of_ble_eq_true rfl) (Nat.le_of_ble_eq_true rfl) (zlw4 (Nat.le_of_ble_eq_true rfl)) dX1_chain_110 ?_
    refine Z.nmJ (fun v110 => ?_)
    exact Z.lret F dX1_chain_113
  exact Z.sub [] rfl (hj28)
set_option maxHeartbeats 4000000 in
theorem k_X1_trace (l : Launch) (h0 : Nat) (x1 : Int32) : ZCi l yX1_trace (ws_ yX1_trace cX1_trace 2 (some .int)) 1 25 0 0 false [zv h0, .int x1] (f_X1_trace h0 x1) := by
  refine Z.metI (by decide +kernel) (fun h => ⟨rfl, rfl⟩) (L0 := [(0, zv h0), (1, .int x1)]) (by first | (rw [zla_v, zla_i, zla_0]; done) | (rw [zla_v, zla_i, zla_0]; rfl)) (by rw [zsl_v, zsl_i, zsl_0]; exact Nat.le_of_ble_eq_true rfl) ?_
  intro p e R s m args below meth c D A n0 sz k F
  have F : ZF p R s m args meth c cX1_trace 2 "SafeBuckets" "trace" (some .int) D A false sz 0 0 1 25 := F
  unfold f_X1_trace
  refine Z.iload_n F 1 rfl dX1_trace_0 ?_
  refine Z.i2l F dX1_trace_1 ?_
  refine Z.lconst F (w := (0 : Int64)) (by decide) dX1_trace_2 ?_
  refine Z.aload_n F 0 rfl dX1_trace_3 ?_
  refine gfX1_349 F dX1_trace_4 (fun g4 => ?_)
  refine Z.iconst F (v := (1 : Int32)) (by decide) dX1_trace_7 ?_
  refine Z.isub F dX1_trace_8 ?_
  refine Z.i2l F dX1_trace_9 ?_
  refine clX1_97 F ⟨Nat.le_of_ble_eq_true rfl, Nat.le_of_ble_eq_true rfl⟩ (zlw4 (Nat.le_of_ble_eq_true rfl)) dX1_trace_10 (fun r10 => ?_)
  refine Z.jn1 (J := _) (fun p26s0 => []) (fun p26s0 => [.int p26s0]) 26 (fun p26s0 => ?_) (fun j26 hj26 => ?_)
  · exact Z.iret F dX1_trace_26
  refine Z.if_eq F (tgt := 25) dX1_trace_13 (by decide) ?_ ?_
  · refine Z.iconst F (v := (-1 : Int32)) (by decide) dX1_trace_25 ?_
    exact Z.sub [] rfl (hj26 (-1 : Int32))
  refine Z.aload_n F 0 rfl dX1_trace_16 ?_
  refine gfX1_84 F dX1_trace_17 (fun g17 => ?_)
  refine Z.iload_n F 1 rfl dX1_trace_20 ?_
  refine Z.iald F dX1_trace_21 (fun g21 => ?_)
  refine Z.goto F (tgt := 26) dX1_trace_22 (by decide) ?_
  exact Z.sub [] rfl (hj26 g21)
theorem clX1_441 (F : ZF p R s m args meth c cc nL "SafeBuckets" nm ret D A al sz mc ms fr lo) {h0 : Nat} {h1 : Nat} {K : Int32 → ZM → Prop} (hR : 6 + 1 ≤ fr ∧ 8 + (4 + 11) + 136 ≤ lo) (hst4 : zlw st) (hdg : decode cc pc = .ok (.invokeinterface 441 2, 5)) (k : ∀ r, ZW p l e R s m args below meth c Q nL D A al n0 (K r) (pc + 5) L (.int r :: st)) : ZW p l e R s m args below meth c Q nL D A al n0 (zat 14 h0 (f_X18_upper h0 h1 K)) pc L (zv h1 :: zv h0 :: st) :=
  Z.ri0F _ (fun μ H locs cells slots ls hI h hP => Z.IF0 F hI (n := 1) (ci := 13) rfl (by decide) hP.1 hP.2 (k_X18_upper l h0 h1 D A (zX μ, zC μ, zS μ) H.size K μ) q1431 q1443 q1189 q141 q1191 (List.mem_of_getElem? (i := 2) rfl) (by decide +kernel) rfl h.1 hst4 hR rfl hdg) k
theorem clX1_442 (F : ZF p R s m args meth c cc nL "SafeBuckets" nm ret D A al sz mc ms fr lo) {h0 : Nat} {h1 : Nat} {K : Int32 → ZM → Prop} (hR : 6 + 1 ≤ fr ∧ 8 + (4 + 11) + 136 ≤ lo) (hst4 : zlw st) (hdg : decode cc pc = .ok (.invokeinterface 442 2, 5)) (k : ∀ r, ZW p l e R s m args below meth c Q nL D A al n0 (K r) (pc + 5) L (.int r :: st)) : ZW p l e R s m args below meth c Q nL D A al n0 (zat 14 h0 (f_X18_lower h0 h1 K)) pc L (zv h1 :: zv h0 :: st) :=
  Z.ri0F _ (fun μ H locs cells slots ls hI h hP => Z.IF0 F hI (n := 1) (ci := 13) rfl (by decide) hP.1 hP.2 (k_X18_lower l h0 h1 D A (zX μ, zC μ, zS μ) H.size K μ) q1447 q1456 q1136 q141 q1138 (List.mem_of_getElem? (i := 1) rfl) (by decide +kernel) rfl h.1 hst4 hR rfl hdg) k
set_option maxHeartbeats 4000000 in
theorem k_X1_spreadOf (l : Launch) (h0 : Nat) (h1 : Nat) : ZCi l yX1_spreadOf (ws_ yX1_spreadOf cX1_spreadOf 2 (some .int)) 7 159 0 0 false [zv h0, zv h1] (f_X1_spreadOf h0 h1) := by
  refine Z.metI (by decide +kernel) (fun h => ⟨rfl, rfl⟩) (L0 := [(0, zv h0), (1, zv h1)]) (by first | (rw [zla_v, zla_v, zla_0]; done) | (rw [zla_v, zla_v, zla_0]; rfl)) (by rw [zsl_v, zsl_v, zsl_0]; exact Nat.le_of_ble_eq_true rfl) ?_
  intro p e R s m args below meth c D A n0 sz k F
  have F : ZF p R s m args meth c cX1_spreadOf 2 "SafeBuckets" "spreadOf" (some .int) D A false sz 0 0 7 159 := F
  unfold f_X1_spreadOf
  refine Z.aload_n F 0 rfl dX1_spreadOf_0 ?_
  refine Z.aload_n F 1 rfl dX1_spreadOf_1 ?_
  refine clX1_441 F ⟨Nat.le_of_ble_eq_true rfl, Nat.le_of_ble_eq_true rfl⟩ (zlw4 (Nat.le_of_ble_eq_true rfl)) dX1_spreadOf_2 (fun r2 => ?_)
  refine Z.aload_n F 0 rfl dX1_spreadOf_7 ?_
  refine Z.aload_n F 1 rfl dX1_spreadOf_8 ?_
  refine clX1_442 F ⟨Nat.le_of_ble_eq_true rfl, Nat.le_of_ble_eq_true rfl⟩ (zlw4 (Nat.le_of_ble_eq_true rfl)) dX1_spreadOf_9 (fun r9 => ?_)
  refine Z.isub F dX1_spreadOf_14 ?_
  exact Z.iret F dX1_spreadOf_15
theorem clX1_443 (F : ZF p R s m args meth c cc nL "SafeBuckets" nm ret D A al sz mc ms fr lo) {h0 : Nat} {h1 : Nat} {K : Int32 → ZM → Prop} (hR : 7 + 1 ≤ fr ∧ 8 + (2 + 11) + 159 ≤ lo) (hst4 : zlw st) (hdg : decode cc pc = .ok (.invokestatic 443, 3)) (k : ∀ r, ZW p l e R s m args below meth c Q nL D A al n0 (K r) (pc + 3) L (.int r :: st)) : ZW p l e R s m args below meth c Q nL D A al n0 (f_X1_spreadOf h0 h1 K) pc L (zv h1 :: zv h0 :: st) :=
  Z.ri0 _ (fun μ H locs cells slots ls hI h hP => Z.S0 F hI (n := 2) hP (k_X1_spreadOf l h0 h1 D A (zX μ, zC μ, zS μ) H.size K μ) q1427 q1428 q116 q1429 (by decide +kernel) rfl h.1 hst4 hR rfl hdg) k
theorem gfX1_69 (F : ZF p R s m args meth c cc nL "SafeBuckets" nm ret D A al sz mc ms fr lo) {z : Nat} {K : Nat → ZM → Prop} (hdg : decode cc pc = .ok (.getfield 69, 3)) (k : ∀ u, ZW p l e R s m args below meth c Q nL D A al n0 (K u) (pc + 3) L (zv u :: st)) : ZW p l e R s m args below meth c Q nL D A al n0 (zgR 1 z 17 K) pc L (zv z :: st) :=
  Z.getR F (ref := "SafeBuckets") in_X1 (ci := 0) rfl (by decide) (kf := 17) (by decide) q406 (fun _ h => h) rfl hdg k
theorem clX1_447 (F : ZF p R s m args meth c cc nL "SafeBuckets" nm ret D A al sz mc ms fr lo) {h0 : Nat} {h1 : Nat} {K : ZM → Prop} (hR : 2 + 1 ≤ fr ∧ 8 + (3 + 11) + 60 ≤ lo) (hst4 : zlw st) (hdg : decode cc pc = .ok (.invokevirtual 447, 3)) (k : ZW p l e R s m args below meth c Q nL D A al n0 K (pc + 3) L st) : ZW p l e R s m args below meth c Q nL D A al n0 (zat 3 h0 (f_X3_becomes h0 h1 K)) pc L (zv h1 :: zv h0 :: st) :=
  Z.rv0 _ (fun μ H locs cells slots ls hI h hP => Z.V0 F hI (n := 1) (ci := 2) rfl (by decide) hP.1 hP.2 (k_X3_becomes l h0 h1 D A (zX μ, zC μ, zS μ) H.size K μ) q1459 q1024 q1025 q118 q1026 (by decide +kernel) rfl h.1 hst4 hR rfl hdg) k
set_option maxHeartbeats 4000000 in
theorem k_X1_narrow (l : Launch) (h0 : Nat) (x1 : Int32) (x2 : Int32) (x3 : Int32) : ZCi l yX1_narrow (ws_ yX1_narrow cX1_narrow 9 (some .int)) 8 180 0 0 false [zv h0, .int x1, .int x2, .int x3] (f_X1_narrow h0 x1 x2 x3) := by
  refine Z.metI (by decide +kernel) (fun h => ⟨rfl, rfl⟩) (L0 := [(0, zv h0), (1, .int x1), (2, .int x2), (3, .int x3)]) (by first | (rw [zla_v, zla_i, zla_i, zla_i, zla_0]; done) | (rw [zla_v, zla_i, zla_i, zla_i, zla_0]; rfl)) (by rw [zsl_v, zsl_i, zsl_i, zsl_i, zsl_0]; exact Nat.le_of_ble_eq_true rfl) ?_
  intro p e R s m args below meth c D A n0 sz k F
  have F : ZF p R s m args meth c cX1_narrow 9 "SafeBuckets" "narrow" (some .int) D A false sz 0 0 8 180 := F
  unfold f_X1_narrow
  refine Z.aload_n F 0 rfl dX1_narrow_0 ?_
  refine Z.iload_n F 1 rfl dX1_narrow_1 ?_
  refine clX1_194 F ⟨Nat.le_of_ble_eq_true rfl, Nat.le_of_ble_eq_true rfl⟩ (zlw4 (Nat.le_of_ble_eq_true rfl)) dX1_narrow_2 (fun r2 => ?_)
  refine Z.jn0 (J := _) ([]) ([]) 26 (?_) (fun j26 hj26 => ?_)
  · refine Z.ldcI F q916 dX1_narrow_26 ?_
    exact Z.iret F dX1_narrow_28
  refine Z.if_eq F (tgt := 26) dX1_narrow_5 (by decide) ?_ ?_
  · exact Z.sub [] rfl (hj26)
  refine Z.aload_n F 0 rfl dX1_narrow_8 ?_
  refine Z.iload_n F 2 rfl dX1_narrow_9 ?_
  refine clX1_381 F ⟨Nat.le_of_ble_eq_true rfl, Nat.le_of_ble_eq_true rfl⟩ (zlw4 (Nat.le_of_ble_eq_true rfl)) dX1_narrow_10 (fun r10 => ?_)
  refine Z.if_eq F (tgt := 26) dX1_narrow_13 (by decide) ?_ ?_
  · exact Z.sub [] rfl (hj26)
  refine Z.iload_n F 3 rfl dX1_narrow_16 ?_
  refine Z.i2l F dX1_narrow_17 ?_
  refine Z.lconst F (w := (0 : Int64)) (by decide) dX1_narrow_18 ?_
  refine Z.lconst F (w := (1 : Int64)) (by decide) dX1_narrow_19 ?_
  refine clX1_97 F ⟨Nat.le_of_ble_eq_true rfl, Nat.le_of_ble_eq_true rfl⟩ (zlw4 (Nat.le_of_ble_eq_true rfl)) dX1_narrow_20 (fun r20 => ?_)
  refine Z.if_ne F (tgt := 29) dX1_narrow_23 (by decide) ?_ ?_
  · refine Z.aload_n F 0 rfl dX1_narrow_29 ?_
    refine gfX1_27 F dX1_narrow_30 (fun g30 => ?_)
    refine Z.iload_n F 2 rfl dX1_narrow_33 ?_
    refine Z.aald F (t := 3) (by decide) rfl rfl dX1_narrow_34 (fun g34 => ?_)
    refine Z.aload_n F 0 rfl dX1_narrow_35 ?_
    refine Z.iload_n F 1 rfl dX1_narrow_36 ?_
    refine clX1_218 F ⟨Nat.le_of_ble_eq_true rfl, Nat.le_of_ble_eq_true rfl⟩ (zlw4 (Nat.le_of_ble_eq_true rfl)) dX1_narrow_37 (fun r37 => ?_)
    refine clX1_443 F ⟨Nat.le_of_ble_eq_true rfl, Nat.le_of_ble_eq_true rfl⟩ (zlw4 (Nat.le_of_ble_eq_true rfl)) dX1_narrow_40 (fun r40 => ?_)
    refine Z.istore F (L0 := [(0, zv h0), (1, .int x1), (2, .int x2), (3, .int x3)]) [0, 1, 2, 3] rfl (zkR rfl (zkI rfl (zkI rfl (zkI rfl zkN)))) (by decide) dX1_narrow_43 ?_
    refine Z.iconst F (v := (-1 : Int32)) (by decide) dX1_narrow_45 ?_
    refine Z.istore F (L0 := [(4, .int r40), (0, zv h0), (1, .int x1), (2, .int x2), (3, .int x3)]) [0, 1, 2, 3, 4] rfl (zkI rfl (zkR rfl (zkI rfl (zkI rfl (zkI rfl zkN))))) (by decide) dX1_narrow_46 ?_
    refine Z.iload F 1 rfl dX1_narrow_48 ?_
    refine Z.istore F (L0 := [(5, .int (-1 : Int32)), (4, .int r40), (0, zv h0), (1, .int x1), (2, .int x2), (3, .int x3)]) [0, 1, 2, 3, 4, 5] rfl (zkI rfl (zkI rfl (zkR rfl (zkI rfl (zkI rfl (zkI rfl zkN)))))) (by decide) dX1_narrow_50 ?_
    refine Z.iconst F (v := (0 : Int32)) (by decide) dX1_narrow_52 ?_
    refine Z.istore F (L0 := [(6, .int r40), (5, .int (-1 : Int32)), (4, .int r40), (0, zv h0), (1, .int x1), (2, .int x2), (3, .int x3)]) [0, 1, 2, 3, 4, 5, 6] rfl (zkI rfl (zkI rfl (zkI rfl (zkR rfl (zkI rfl (zkI rfl (zkI rfl zkN))))))) (by decide) dX1_narrow_53 ?_
    refine Z.jn2 (J := _) (fun p121l5 p121l6 => [(3, .int x3), (4, .int r40), (5, .int p121l5), (6, .int p121l6)]) (fun p121l5 p121l6 => []) 121 (fun p121l5 p121l6 => ?_) (fun j121 hj121 => ?_)
    · refine Z.iload_n F 0 rfl dX1_narrow_121 ?_
      refine Z.jn1 (J := _) (fun p135s0 => []) (fun p135s0 => [.int p135s0]) 135 (fun p135s0 => ?_) (fun j135 hj135 => ?_)
      · exact Z.iret F dX1_narrow_135
      refine Z.if_ne F (tgt := 130) dX1_narrow_122 (by decide) ?_ ?_
      · refine Z.iload F 1 rfl dX1_narrow_130 ?_
        refine Z.iload F 3 rfl dX1_narrow_132 ?_
        refine Z.isub F dX1_narrow_134 ?_
        exact Z.sub [] rfl (hj135 (r40 - p121l6))
      refine Z.iload F 2 rfl dX1_narrow_125 ?_
      refine Z.goto F (tgt := 135) dX1_narrow_127 (by decide) ?_
      exact Z.sub [] rfl (hj135 p121l5)
    refine Z.sub [4, 5, 6, 7, 3, 2, 1, 0] rfl ?_
    refine Z.w3 (Lf := fun p55l5 p55l6 p55l7 => [(0, zv h0), (1, .int x1), (2, .int x2), (3, .int x3), (4, .int r40), (5, .int p55l5), (6, .int p55l6), (7, .int p55l7)]) (sf := fun p55l5 p55l6 p55l7 => []) (fun r55 hr55 p55l5 p55l6 p55l7 => ?_) (-1 : Int32) r40 (0 : Int32)
    refine Z.iload F 7 rfl dX1_narrow_55 ?_
    refine Z.iconst F (v := (2 : Int32)) (by decide) dX1_narrow_57 ?_
    refine Z.icmp_ge F (tgt := 121) dX1_narrow_58 (by decide) ?_ ?_
    · exact Z.sub [3, 4, 5, 6] rfl (hj121 p55l5 p55l6)
    refine Z.aload_n F 0 rfl dX1_narrow_61 ?_
    refine gfX1_69 F dX1_narrow_62 (fun g62 => ?_)
    refine Z.aload_n F 0 rfl dX1_narrow_65 ?_
    refine Z.iload_n F 1 rfl dX1_narrow_66 ?_
    refine clX1_218 F ⟨Nat.le_of_ble_eq_true rfl, Nat.le_of_ble_eq_true rfl⟩ (zlw4 (Nat.le_of_ble_eq_true rfl)) dX1_narrow_67 (fun r67 => ?_)
    refine clX1_447 F ⟨Nat.le_of_ble_eq_true rfl, Nat.le_of_ble_eq_true rfl⟩ (zlw4 (Nat.le_of_ble_eq_true rfl)) dX1_narrow_70 ?_
    refine Z.aload_n F 0 rfl dX1_narrow_73 ?_
    refine gfX1_69 F dX1_narrow_74 (fun g74 => ?_)
    refine Z.iload F 7 rfl dX1_narrow_77 ?_
    refine clX1_311 F ⟨Nat.le_of_ble_eq_true rfl, Nat.le_of_ble_eq_true rfl⟩ (zlw4 (Nat.le_of_ble_eq_true rfl)) dX1_narrow_79 ?_
    refine Z.aload_n F 0 rfl dX1_narrow_82 ?_
    refine gfX1_27 F dX1_narrow_83 (fun g83 => ?_)
    refine Z.iload_n F 2 rfl dX1_narrow_86 ?_
    refine Z.aald F (t := 3) (by decide) rfl rfl dX1_narrow_87 (fun g87 => ?_)
    refine Z.aload_n F 0 rfl dX1_narrow_88 ?_
    refine gfX1_69 F dX1_narrow_89 (fun g89 => ?_)
    refine clX1_443 F ⟨Nat.le_of_ble_eq_true rfl, Nat.le_of_ble_eq_true rfl⟩ (zlw4 (Nat.le_of_ble_eq_true rfl)) dX1_narrow_92 (fun r92 => ?_)
    refine Z.istore F (L0 := [(0, zv h0), (1, .int x1), (2, .int x2), (3, .int x3), (4, .int r40), (5, .int p55l5), (6, .int p55l6), (7, .int p55l7)]) [0, 1, 2, 3, 4, 5, 6, 7] rfl (zkR rfl (zkI rfl (zkI rfl (zkI rfl (zkI rfl (zkI rfl (zkI rfl (zkI rfl zkN)))))))) (by decide) dX1_narrow_95 ?_
    refine Z.iload F 0 rfl dX1_narrow_97 ?_
    refine Z.iload F 7 rfl dX1_narrow_99 ?_
    refine Z.jn2 (J := _) (fun p115l5 p115l6 => [(0, zv h0), (1, .int x1), (2, .int x2), (3, .int x3), (4, .int r40), (5, .int p115l5), (6, .int p115l6), (7, .int p55l7)]) (fun p115l5 p115l6 => []) 115 (fun p115l5 p115l6 => ?_) (fun j115 hj115 => ?_)
    · refine Z.iinc F (L0 := [(0, zv h0), (1, .int x1), (2, .int x2), (3, .int x3), (4, .int r40), (5, .int p115l5), (6, .int p115l6)]) (k0 := 7) (v := (1 : Int32)) rfl (by decide) [0, 1, 2, 3, 4, 5, 6] rfl (zkR rfl (zkI rfl (zkI rfl (zkI rfl (zkI rfl (zkI rfl (zkI rfl zkN))))))) (by decide) dX1_narrow_115 ?_
      refine Z.goto F (tgt := 55) dX1_narrow_118 (by decide) ?_
      exact Z.sub [1, 2, 3, 4, 5, 6, 7, 0] rfl (hr55 p115l5 p115l6 (p55l7 + (1 : Int32)))
    refine Z.icmp_lt F (tgt := 107) dX1_narrow_101 (by decide) ?_ ?_
    · refine Z.iload F 8 rfl dX1_narrow_107 ?_
      refine Z.istore F (L0 := [(8, .int r92), (0, zv h0), (1, .int x1), (2, .int x2), (3, .int x3), (4, .int r40), (6, .int p55l6), (7, .int p55l7)]) [0, 1, 2, 3, 4, 5, 7, 8] rfl (zkI rfl (zkR rfl (zkI rfl (zkI rfl (zkI rfl (zkI rfl (zkI rfl (zkI rfl zkN)))))))) (by decide) dX1_narrow_109 ?_
      refine Z.iload F 1 rfl dX1_narrow_111 ?_
      refine Z.istore F (L0 := [(5, .int p55l7), (8, .int r92), (0, zv h0), (1, .int x1), (2, .int x2), (3, .int x3), (4, .int r40), (7, .int p55l7)]) [0, 1, 2, 3, 4, 5, 6, 8] rfl (zkI rfl (zkI rfl (zkR rfl (zkI rfl (zkI rfl (zkI rfl (zkI rfl (zkI rfl zkN)))))))) (by decide) dX1_narrow_113 ?_
      exact Z.sub [3, 4, 5, 6, 7, 1, 0, 8] rfl (hj115 p55l7 r92)
    refine Z.goto F (tgt := 115) dX1_narrow_104 (by decide) ?_
    exact Z.sub [1, 2, 3, 4, 5, 6, 7, 8] rfl (hj115 p55l5 p55l6)
  exact Z.sub [] rfl (hj26)
set_option maxHeartbeats 4000000 in
theorem k_X1_drawn (l : Launch) (x0 : Int32) (x1 : Int32) : ZCl l yX1_drawn (ws_ yX1_drawn cX1_drawn 5 (some .long)) 0 0 0 0 false [.int x0, .int x1] (f_X1_drawn x0 x1) := by
  refine Z.metL (by decide +kernel) (fun h => ⟨rfl, rfl⟩) (L0 := [(0, .int x0), (1, .int x1)]) (by first | (rw [zla_i, zla_i, zla_0]; done) | (rw [zla_i, zla_i, zla_0]; rfl)) (by rw [zsl_i, zsl_i, zsl_0]; exact Nat.le_of_ble_eq_true rfl) ?_
  intro p e R s m args below meth c D A n0 sz k F
  have F : ZF p R s m args meth c cX1_drawn 5 "SafeBuckets" "drawn" (some .long) D A false sz 0 0 0 0 := F
  unfold f_X1_drawn
  refine Z.lconst F (w := (1 : Int64)) (by decide) dX1_drawn_0 ?_
  refine Z.lstore_n F (L0 := [(0, .int x0), (1, .int x1)]) [0, 1] rfl (zmI rfl rfl  (zmI rfl rfl  zmN)) (by decide) dX1_drawn_1 ?_
  refine Z.iconst F (v := (0 : Int32)) (by decide) dX1_drawn_2 ?_
  refine Z.istore F (L0 := [(2, .long (1 : Int64)), (0, .int x0), (1, .int x1)]) [0, 1, 2] rfl (zkL rfl rfl (zkI rfl (zkI rfl zkN))) (by decide) dX1_drawn_3 ?_
  refine Z.jn1 (J := _) (fun p31l2 => [(0, .int x0), (1, .int x1), (2, .long p31l2)]) (fun p31l2 => []) 31 (fun p31l2 => ?_) (fun j31 hj31 => ?_)
  · refine Z.iload_n F 0 rfl dX1_drawn_31 ?_
    refine Z.iload_n F 1 rfl dX1_drawn_32 ?_
    refine Z.jn1 (J := _) (fun p41s0 => []) (fun p41s0 => [.long p41s0]) 41 (fun p41s0 => ?_) (fun j41 hj41 => ?_)
    · exact Z.lret F dX1_drawn_41
    refine Z.icmp_ge F (tgt := 40) dX1_drawn_33 (by decide) ?_ ?_
    · refine Z.lload_n F 2 rfl dX1_drawn_40 ?_
      exact Z.sub [] rfl (hj41 p31l2)
    refine Z.lconst F (w := (0 : Int64)) (by decide) dX1_drawn_36 ?_
    refine Z.goto F (tgt := 41) dX1_drawn_37 (by decide) ?_
    exact Z.sub [] rfl (hj41 (0 : Int64))
  refine Z.sub [2, 3, 1, 0] rfl ?_
  refine Z.w2 (Lf := fun p5l2 p5l4 => [(0, .int x0), (1, .int x1), (2, .long p5l2), (4, .int p5l4)]) (sf := fun p5l2 p5l4 => []) (fun r5 hr5 p5l2 p5l4 => ?_) (1 : Int64) (0 : Int32)
  refine Z.iload F 3 rfl dX1_drawn_5 ?_
  refine Z.iload_n F 1 rfl dX1_drawn_7 ?_
  refine Z.icmp_ge F (tgt := 31) dX1_drawn_8 (by decide) ?_ ?_
  · exact Z.sub [0, 1, 2] rfl (hj31 p5l2)
  refine Z.lload_n F 2 rfl dX1_drawn_11 ?_
  refine Z.iload_n F 0 rfl dX1_drawn_12 ?_
  refine Z.iload F 3 rfl dX1_drawn_13 ?_
  refine Z.isub F dX1_drawn_15 ?_
  refine Z.i2l F dX1_drawn_16 ?_
  refine Z.lmul F dX1_drawn_17 ?_
  refine Z.iload F 3 rfl dX1_drawn_18 ?_
  refine Z.iconst F (v := (1 : Int32)) (by decide) dX1_drawn_20 ?_
  refine Z.iadd F dX1_drawn_21 ?_
  refine Z.i2l F dX1_drawn_22 ?_
  refine Z.ldiv F dX1_drawn_23 ?_
  refine Z.lstore_n F (L0 := [(0, .int x0), (1, .int x1), (4, .int p5l4)]) [0, 1, 3] rfl (zmI rfl rfl  (zmI rfl rfl  (zmI rfl rfl  zmN))) (by decide) dX1_drawn_24 ?_
  refine Z.iinc F (L0 := [(2, .long ((p5l2 * (x0 - p5l4).toInt64) / (p5l4 + (1 : Int32)).toInt64)), (0, .int x0), (1, .int x1)]) (k0 := 3) (v := (1 : Int32)) rfl (by decide) [0, 1, 2] rfl (zkL rfl rfl (zkI rfl (zkI rfl zkN))) (by decide) dX1_drawn_25 ?_
  refine Z.goto F (tgt := 5) dX1_drawn_28 (by decide) ?_
  exact Z.sub [2, 3, 1, 0] rfl (hr5 ((p5l2 * (x0 - p5l4).toInt64) / (p5l4 + (1 : Int32)).toInt64) (p5l4 + (1 : Int32)))
theorem clX1_378 (F : ZF p R s m args meth c cc nL "SafeBuckets" nm ret D A al sz mc ms fr lo) {h0 : Nat} {x1 : Int32} {x2 : Int32} {K : Int32 → ZM → Prop} (hR : 3 + 1 ≤ fr ∧ 8 + (4 + 11) + 67 ≤ lo) (hst4 : zlw st) (hdg : decode cc pc = .ok (.invokeinterface 378 3, 5)) (k : ∀ r, ZW p l e R s m args below meth c Q nL D A al n0 (K r) (pc + 5) L (.int r :: st)) : ZW p l e R s m args below meth c Q nL D A al n0 (zat 14 h0 (f_X18_holds h0 x1 x2 K)) pc L (.int x2 :: .int x1 :: zv h0 :: st) :=
  Z.ri0F _ (fun μ H locs cells slots ls hI h hP => Z.IF0 F hI (n := 2) (ci := 13) rfl (by decide) hP.1 hP.2 (k_X18_holds l h0 x1 x2 D A (zX μ, zC μ, zS μ) H.size K μ) q1471 q1480 q1255 q141 q1257 (List.mem_of_getElem? (i := 0) rfl) (by decide +kernel) rfl h.1 hst4 hR rfl hdg) k
set_option maxHeartbeats 4000000 in
theorem k_X1_holdsFor (l : Launch) (h0 : Nat) (h1 : Nat) : ZCi l yX1_holdsFor (ws_ yX1_holdsFor cX1_holdsFor 5 (some .int)) 4 90 0 0 false [zv h0, zv h1] (f_X1_holdsFor h0 h1) := by
  refine Z.metI (by decide +kernel) (fun h => ⟨rfl, rfl⟩) (L0 := [(0, zv h0), (1, zv h1)]) (by first | (rw [zla_v, zla_v, zla_0]; done) | (rw [zla_v, zla_v, zla_0]; rfl)) (by rw [zsl_v, zsl_v, zsl_0]; exact Nat.le_of_ble_eq_true rfl) ?_
  intro p e R s m args below meth c D A n0 sz k F
  have F : ZF p R s m args meth c cX1_holdsFor 5 "SafeBuckets" "holdsFor" (some .int) D A false sz 0 0 4 90 := F
  unfold f_X1_holdsFor
  refine Z.iconst F (v := (0 : Int32)) (by decide) dX1_holdsFor_0 ?_
  refine Z.istore_n F (L0 := [(0, zv h0), (1, zv h1)]) [0, 1] rfl (zkR rfl (zkR rfl zkN)) (by decide) dX1_holdsFor_1 ?_
  refine Z.iconst F (v := (-1 : Int32)) (by decide) dX1_holdsFor_2 ?_
  refine Z.istore_n F (L0 := [(2, .int (0 : Int32)), (0, zv h0), (1, zv h1)]) [0, 1, 2] rfl (zkI rfl (zkR rfl (zkR rfl zkN))) (by decide) dX1_holdsFor_3 ?_
  refine Z.sub [2, 3, 1, 0] rfl ?_
  refine Z.w2 (Lf := fun p4l2 p4l3 => [(0, zv h0), (1, zv h1), (2, .int p4l2), (3, .int p4l3)]) (sf := fun p4l2 p4l3 => []) (fun r4 hr4 p4l2 p4l3 => ?_) (0 : Int32) (-1 : Int32)
  refine Z.iload_n F 3 rfl dX1_holdsFor_4 ?_
  refine Z.aload_n F 0 rfl dX1_holdsFor_5 ?_
  refine gfX1_164 F dX1_holdsFor_6 (fun g6 => ?_)
  refine Z.icmp_ge F (tgt := 62) dX1_holdsFor_9 (by decide) ?_ ?_
  · refine Z.iload_n F 2 rfl dX1_holdsFor_62 ?_
    exact Z.iret F dX1_holdsFor_63
  refine Z.iconst F (v := (-1 : Int32)) (by decide) dX1_holdsFor_12 ?_
  refine Z.istore F (L0 := [(0, zv h0), (1, zv h1), (2, .int p4l2), (3, .int p4l3)]) [0, 1, 2, 3] rfl (zkR rfl (zkR rfl (zkI rfl (zkI rfl zkN)))) (by decide) dX1_holdsFor_13 ?_
  refine Z.jn2 (J := _) (fun p56l2 p56l3 => [(0, zv h0), (1, zv h1), (2, .int p56l2), (3, .int p56l3)]) (fun p56l2 p56l3 => []) 56 (fun p56l2 p56l3 => ?_) (fun j56 hj56 => ?_)
  · refine Z.iinc F (L0 := [(0, zv h0), (1, zv h1), (2, .int p56l2)]) (k0 := 3) (v := (1 : Int32)) rfl (by decide) [0, 1, 2] rfl (zkR rfl (zkR rfl (zkI rfl zkN))) (by decide) dX1_holdsFor_56 ?_
    refine Z.goto F (tgt := 4) dX1_holdsFor_59 (by decide) ?_
    exact Z.sub [1, 2, 3, 0] rfl (hr4 p56l2 (p56l3 + (1 : Int32)))
  refine Z.sub [1, 2, 3, 4, 0] rfl ?_
  refine Z.w3 (Lf := fun p15l2 p15l3 p15l4 => [(0, zv h0), (1, zv h1), (2, .int p15l2), (3, .int p15l3), (4, .int p15l4)]) (sf := fun p15l2 p15l3 p15l4 => []) (fun r15 hr15 p15l2 p15l3 p15l4 => ?_) p4l2 p4l3 (-1 : Int32)
  refine Z.iload F 4 rfl dX1_holdsFor_15 ?_
  refine Z.aload_n F 0 rfl dX1_holdsFor_17 ?_
  refine gfX1_164 F dX1_holdsFor_18 (fun g18 => ?_)
  refine Z.icmp_ge F (tgt := 56) dX1_holdsFor_21 (by decide) ?_ ?_
  · exact Z.sub [0, 1, 2, 3] rfl (hj56 p15l2 p15l3)
  refine Z.iload_n F 2 rfl dX1_holdsFor_24 ?_
  refine Z.aload_n F 1 rfl dX1_holdsFor_25 ?_
  refine Z.iload_n F 3 rfl dX1_holdsFor_26 ?_
  refine Z.iload F 4 rfl dX1_holdsFor_27 ?_
  refine clX1_378 F ⟨Nat.le_of_ble_eq_true rfl, Nat.le_of_ble_eq_true rfl⟩ (zlw4 (Nat.le_of_ble_eq_true rfl)) dX1_holdsFor_29 (fun r29 => ?_)
  refine Z.jn1 (J := _) (fun p48s1 => [(0, zv h0), (1, zv h1), (3, .int p15l3), (4, .int p15l4)]) (fun p48s1 => [.int p48s1, .int p15l2]) 48 (fun p48s1 => ?_) (fun j48 hj48 => ?_)
  · refine Z.iadd F dX1_holdsFor_48 ?_
    refine Z.istore_n F (L0 := [(0, zv h0), (1, zv h1), (3, .int p15l3), (4, .int p15l4)]) [0, 1, 2, 3] rfl (zkR rfl (zkR rfl (zkI rfl (zkI rfl zkN)))) (by decide) dX1_holdsFor_49 ?_
    refine Z.iinc F (L0 := [(2, .int (p15l2 + p48s1)), (0, zv h0), (1, zv h1), (3, .int p15l3)]) (k0 := 4) (v := (1 : Int32)) rfl (by decide) [0, 1, 2, 3] rfl (zkI rfl (zkR rfl (zkR rfl (zkI rfl zkN)))) (by decide) dX1_holdsFor_50 ?_
    refine Z.goto F (tgt := 15) dX1_holdsFor_53 (by decide) ?_
    exact Z.sub [2, 3, 1, 4, 0] rfl (hr15 (p15l2 + p48s1) p15l3 (p15l4 + (1 : Int32)))
  refine Z.if_eq F (tgt := 47) dX1_holdsFor_34 (by decide) ?_ ?_
  · refine Z.iconst F (v := (0 : Int32)) (by decide) dX1_holdsFor_47 ?_
    exact Z.sub [0, 1, 3, 4] rfl (hj48 (0 : Int32))
  refine Z.aload_n F 0 rfl dX1_holdsFor_37 ?_
  refine Z.iload_n F 3 rfl dX1_holdsFor_38 ?_
  refine Z.iload F 4 rfl dX1_holdsFor_39 ?_
  refine clX1_235 F ⟨Nat.le_of_ble_eq_true rfl, Nat.le_of_ble_eq_true rfl⟩ (zlw4 (Nat.le_of_ble_eq_true rfl)) dX1_holdsFor_41 (fun r41 => ?_)
  refine Z.goto F (tgt := 48) dX1_holdsFor_44 (by decide) ?_
  exact Z.sub [0, 1, 3, 4] rfl (hj48 r41)
theorem clX1_453 (F : ZF p R s m args meth c cc nL "SafeBuckets" nm ret D A al sz mc ms fr lo) {x0 : Int32} {x1 : Int32} {K : Int64 → ZM → Prop} (hR : 0 + 1 ≤ fr ∧ 8 + (5 + 11) + 0 ≤ lo) (hst4 : zlw st) (hdg : decode cc pc = .ok (.invokestatic 453, 3)) (k : ∀ r, ZW p l e R s m args below meth c Q nL D A al n0 (K r) (pc + 3) L (.long r :: st)) : ZW p l e R s m args below meth c Q nL D A al n0 (f_X1_drawn x0 x1 K) pc L (.int x1 :: .int x0 :: st) :=
  Z.rl0 _ (fun μ H locs cells slots ls hI h hP => Z.S0 F hI (n := 2) hP (k_X1_drawn l x0 x1 D A (zX μ, zC μ, zS μ) H.size K μ) q1464 q1465 q116 q1466 (by decide +kernel) rfl h.1 hst4 hR rfl hdg) k
theorem clX1_456 (F : ZF p R s m args meth c cc nL "SafeBuckets" nm ret D A al sz mc ms fr lo) {h0 : Nat} {h1 : Nat} {K : Int32 → ZM → Prop} (hR : 4 + 1 ≤ fr ∧ 8 + (5 + 11) + 90 ≤ lo) (hst4 : zlw st) (hdg : decode cc pc = .ok (.invokestatic 456, 3)) (k : ∀ r, ZW p l e R s m args below meth c Q nL D A al n0 (K r) (pc + 3) L (.int r :: st)) : ZW p l e R s m args below meth c Q nL D A al n0 (f_X1_holdsFor h0 h1 K) pc L (zv h1 :: zv h0 :: st) :=
  Z.ri0 _ (fun μ H locs cells slots ls hI h hP => Z.S0 F hI (n := 2) hP (k_X1_holdsFor l h0 h1 D A (zX μ, zC μ, zS μ) H.size K μ) q1467 q1468 q116 q1469 (by decide +kernel) rfl h.1 hst4 hR rfl hdg) k
theorem clX1_450 (F : ZF p R s m args meth c cc nL "SafeBuckets" nm ret D A al sz mc ms fr lo) {x0 : Int64} {x2 : Int64} {K : Int64 → ZM → Prop} (hR : 100 + 1 ≤ fr ∧ 8 + (4 + 11) + 2300 ≤ lo) (hst4 : zlw st) (hdg : decode cc pc = .ok (.invokestatic 450, 3)) (k : ∀ r, ZW p l e R s m args below meth c Q nL D A al n0 (K r) (pc + 3) L (.long r :: st)) : ZW p l e R s m args below meth c Q nL D A al n0 (f_X1_divisor x0 x2 K) pc L (.long x2 :: .long x0 :: st) :=
  Z.rl0 _ (fun μ H locs cells slots ls hI h hP => Z.S0 F hI (n := 2) hP (k_X1_divisor l x0 x2 D A (zX μ, zC μ, zS μ) H.size K μ) q1483 q1484 q116 q1485 (by decide +kernel) rfl h.1 hst4 hR rfl hdg) k
set_option maxHeartbeats 4000000 in
theorem k_X1_odds (l : Launch) (h0 : Nat) (x1 : Int32) (x2 : Int32) (x3 : Int32) (x4 : Int32) : ZCl l yX1_odds (ws_ yX1_odds cX1_odds 9 (some .long)) 101 2323 0 0 false [zv h0, .int x1, .int x2, .int x3, .int x4] (f_X1_odds h0 x1 x2 x3 x4) := by
  refine Z.metL (by decide +kernel) (fun h => ⟨rfl, rfl⟩) (L0 := [(0, zv h0), (1, .int x1), (2, .int x2), (3, .int x3), (4, .int x4)]) (by first | (rw [zla_v, zla_i, zla_i, zla_i, zla_i, zla_0]; done) | (rw [zla_v, zla_i, zla_i, zla_i, zla_i, zla_0]; rfl)) (by rw [zsl_v, zsl_i, zsl_i, zsl_i, zsl_i, zsl_0]; exact Nat.le_of_ble_eq_true rfl) ?_
  intro p e R s m args below meth c D A n0 sz k F
  have F : ZF p R s m args meth c cX1_odds 9 "SafeBuckets" "odds" (some .long) D A false sz 0 0 101 2323 := F
  unfold f_X1_odds
  refine Z.aload_n F 0 rfl dX1_odds_0 ?_
  refine Z.iload_n F 1 rfl dX1_odds_1 ?_
  refine clX1_194 F ⟨Nat.le_of_ble_eq_true rfl, Nat.le_of_ble_eq_true rfl⟩ (zlw4 (Nat.le_of_ble_eq_true rfl)) dX1_odds_2 (fun r2 => ?_)
  refine Z.jn0 (J := _) ([]) ([]) 51 (?_) (fun j51 hj51 => ?_)
  · refine Z.ldc2 F q984 dX1_odds_51 ?_
    exact Z.lret F dX1_odds_54
  refine Z.if_eq F (tgt := 51) dX1_odds_5 (by decide) ?_ ?_
  · exact Z.sub [] rfl (hj51)
  refine Z.aload_n F 0 rfl dX1_odds_8 ?_
  refine Z.iload_n F 2 rfl dX1_odds_9 ?_
  refine clX1_381 F ⟨Nat.le_of_ble_eq_true rfl, Nat.le_of_ble_eq_true rfl⟩ (zlw4 (Nat.le_of_ble_eq_true rfl)) dX1_odds_10 (fun r10 => ?_)
  refine Z.if_eq F (tgt := 51) dX1_odds_13 (by decide) ?_ ?_
  · exact Z.sub [] rfl (hj51)
  refine Z.iload_n F 3 rfl dX1_odds_16 ?_
  refine Z.i2l F dX1_odds_17 ?_
  refine Z.lconst F (w := (1 : Int64)) (by decide) dX1_odds_18 ?_
  refine Z.ldc2 F q1118 dX1_odds_19 ?_
  refine clX1_97 F ⟨Nat.le_of_ble_eq_true rfl, Nat.le_of_ble_eq_true rfl⟩ (zlw4 (Nat.le_of_ble_eq_true rfl)) dX1_odds_22 (fun r22 => ?_)
  refine Z.if_eq F (tgt := 51) dX1_odds_25 (by decide) ?_ ?_
  · exact Z.sub [] rfl (hj51)
  refine Z.iload F 4 rfl dX1_odds_28 ?_
  refine Z.i2l F dX1_odds_30 ?_
  refine Z.lconst F (w := (0 : Int64)) (by decide) dX1_odds_31 ?_
  refine Z.lconst F (w := (1 : Int64)) (by decide) dX1_odds_32 ?_
  refine clX1_97 F ⟨Nat.le_of_ble_eq_true rfl, Nat.le_of_ble_eq_true rfl⟩ (zlw4 (Nat.le_of_ble_eq_true rfl)) dX1_odds_33 (fun r33 => ?_)
  refine Z.if_eq F (tgt := 51) dX1_odds_36 (by decide) ?_ ?_
  · exact Z.sub [] rfl (hj51)
  refine Z.aload_n F 0 rfl dX1_odds_39 ?_
  refine Z.iload_n F 1 rfl dX1_odds_40 ?_
  refine clX1_218 F ⟨Nat.le_of_ble_eq_true rfl, Nat.le_of_ble_eq_true rfl⟩ (zlw4 (Nat.le_of_ble_eq_true rfl)) dX1_odds_41 (fun r41 => ?_)
  refine gfX1_222 F dX1_odds_44 (fun g44 => ?_)
  refine Z.iload_n F 3 rfl dX1_odds_47 ?_
  refine Z.icmp_ge F (tgt := 55) dX1_odds_48 (by decide) ?_ ?_
  · refine Z.aload_n F 0 rfl dX1_odds_55 ?_
    refine Z.iload_n F 1 rfl dX1_odds_56 ?_
    refine clX1_218 F ⟨Nat.le_of_ble_eq_true rfl, Nat.le_of_ble_eq_true rfl⟩ (zlw4 (Nat.le_of_ble_eq_true rfl)) dX1_odds_57 (fun r57 => ?_)
    refine gfX1_222 F dX1_odds_60 (fun g60 => ?_)
    refine Z.iload_n F 3 rfl dX1_odds_63 ?_
    refine clX1_453 F ⟨Nat.le_of_ble_eq_true rfl, Nat.le_of_ble_eq_true rfl⟩ (zlw4 (Nat.le_of_ble_eq_true rfl)) dX1_odds_64 (fun r64 => ?_)
    refine Z.lstore F (L0 := [(0, zv h0), (1, .int x1), (2, .int x2), (3, .int x3), (4, .int x4)]) [0, 1, 2, 3, 4] rfl (zmR rfl rfl  (zmI rfl rfl  (zmI rfl rfl  (zmI rfl rfl  (zmI rfl rfl  zmN))))) (by decide) dX1_odds_67 ?_
    refine Z.aload_n F 1 rfl dX1_odds_69 ?_
    refine Z.iload_n F 2 rfl dX1_odds_70 ?_
    refine clX1_218 F ⟨Nat.le_of_ble_eq_true rfl, Nat.le_of_ble_eq_true rfl⟩ (zlw4 (Nat.le_of_ble_eq_true rfl)) dX1_odds_71 (fun r71 => ?_)
    refine Z.aload_n F 1 rfl dX1_odds_74 ?_
    refine gfX1_27 F dX1_odds_75 (fun g75 => ?_)
    refine Z.iload_n F 3 rfl dX1_odds_78 ?_
    refine Z.aald F (t := 3) (by decide) rfl rfl dX1_odds_79 (fun g79 => ?_)
    refine clX1_456 F ⟨Nat.le_of_ble_eq_true rfl, Nat.le_of_ble_eq_true rfl⟩ (zlw4 (Nat.le_of_ble_eq_true rfl)) dX1_odds_80 (fun r80 => ?_)
    refine Z.iload_n F 4 rfl dX1_odds_83 ?_
    refine clX1_453 F ⟨Nat.le_of_ble_eq_true rfl, Nat.le_of_ble_eq_true rfl⟩ (zlw4 (Nat.le_of_ble_eq_true rfl)) dX1_odds_84 (fun r84 => ?_)
    refine Z.lstore F (L0 := [(5, .long r64), (0, zv h0), (1, .int x1), (2, .int x2), (3, .int x3), (4, .int x4)]) [0, 1, 2, 3, 4, 5] rfl (zmL rfl rfl rfl  (zmR rfl rfl  (zmI rfl rfl  (zmI rfl rfl  (zmI rfl rfl  (zmI rfl rfl  zmN)))))) (by decide) dX1_odds_87 ?_
    refine Z.iload F 6 rfl dX1_odds_89 ?_
    refine Z.jn1 (J := _) (fun p101s0 => [(5, .long r64), (7, .long r84)]) (fun p101s0 => [.long p101s0]) 101 (fun p101s0 => ?_) (fun j101 hj101 => ?_)
    · refine Z.lload F 0 rfl dX1_odds_101 ?_
      refine Z.lload F 1 rfl dX1_odds_103 ?_
      refine clX1_450 F ⟨Nat.le_of_ble_eq_true rfl, Nat.le_of_ble_eq_true rfl⟩ (zlw4 (Nat.le_of_ble_eq_true rfl)) dX1_odds_105 (fun r105 => ?_)
      refine Z.ldiv F dX1_odds_108 ?_
      exact Z.lret F dX1_odds_109
    refine Z.if_ne F (tgt := 99) dX1_odds_91 (by decide) ?_ ?_
    · refine Z.lload F 1 rfl dX1_odds_99 ?_
      exact Z.sub [1, 0] rfl (hj101 r64)
    refine Z.lload F 0 rfl dX1_odds_94 ?_
    refine Z.goto F (tgt := 101) dX1_odds_96 (by decide) ?_
    exact Z.sub [1, 0] rfl (hj101 r84)
  exact Z.sub [] rfl (hj51)
end ZWalk
