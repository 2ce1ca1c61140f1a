section ZWalk
variable {p : Program} {l : Launch} {e : Env} {R : Room} {s : State} {m : MethodId} {args : Array Value} {below : List Frame} {meth : Method} {c : Code} {Q : State → Prop} {nL : Nat} {D : ZD} {A : Nat → Prop} {al : Bool} {n0 : Nat × Nat × Nat} {cc : ByteArray} {nm : String} {ret : Option FieldType} {sz mc ms fr lo : Nat}
variable {P : ZM → Prop} {pc : Nat} {L : List (Nat × Value)} {st : List Value}
theorem clX9_136 (F : ZF p R s m args meth c cc nL "SafeBucketsModel" nm ret D A al sz mc ms fr lo) {h0 : Nat} {x1 : Int32} {x2 : Int32} {K : ZM → Prop} (hR : 3 + 1 ≤ fr ∧ 8 + (6 + 11) + 65 ≤ lo) (hst4 : zlw st) (hdg : decode cc pc = .ok (.invokevirtual 136, 3)) (k : ZW p l e R s m args below meth c Q nL D A al n0 K (pc + 3) L st) : ZW p l e R s m args below meth c Q nL D A al n0 (zat 7 h0 (f_X9_readUnit h0 x1 x2 K)) pc L (.int x2 :: .int x1 :: zv h0 :: st) :=
  Z.rv0 _ (fun μ H locs cells slots ls hI h hP => Z.V0 F hI (n := 2) (ci := 6) rfl (by decide) hP.1 hP.2 (k_X9_readUnit l h0 x1 x2 D A (zX μ, zC μ, zS μ) H.size K μ) q1742 q1744 qs56 q126 q1745 (by decide +kernel) rfl h.1 hst4 hR rfl hdg) k
set_option maxHeartbeats 4000000 in
theorem k_X9_readWhere (l : Launch) (h0 : Nat) (x1 : Int32) : ZCi l yX9_readWhere (ws_ yX9_readWhere cX9_readWhere 5 (some .int)) 4 90 0 0 false [zv h0, .int x1] (f_X9_readWhere h0 x1) := by
  refine Z.metI (by decide +kernel) (fun h => ⟨rfl, rfl⟩) (L0 := [(0, zv h0), (1, .int x1)]) (by first | (rw [zla_v, zla_i, zla_0]; done) | (rw [zla_v, zla_i, zla_0]; rfl)) (by rw [zsl_v, zsl_i, zsl_0]; exact Nat.le_of_ble_eq_true rfl) ?_
  intro p e R s m args below meth c D A n0 sz k F
  have F : ZF p R s m args meth c cX9_readWhere 5 "SafeBucketsModel" "readWhere" (some .int) D A false sz 0 0 4 90 := F
  unfold f_X9_readWhere
  refine Z.aload_n F 0 rfl dX9_readWhere_0 ?_
  refine Z.iconst F (v := (0 : Int32)) (by decide) dX9_readWhere_1 ?_
  refine pfX9_81 F dX9_readWhere_2 ?_
  refine Z.aload_n F 0 rfl dX9_readWhere_5 ?_
  refine Z.iconst F (v := (-1 : Int32)) (by decide) dX9_readWhere_6 ?_
  refine pfX9_88 F dX9_readWhere_7 ?_
  refine Z.aload_n F 0 rfl dX9_readWhere_10 ?_
  refine gfX9_31 F dX9_readWhere_11 (fun g11 => ?_)
  refine Z.iload_n F 1 rfl dX9_readWhere_14 ?_
  refine Z.iconst F (v := (0 : Int32)) (by decide) dX9_readWhere_15 ?_
  refine Z.iast F dX9_readWhere_16 ?_
  refine Z.iconst F (v := (0 : Int32)) (by decide) dX9_readWhere_17 ?_
  refine Z.istore_n F (L0 := [(0, zv h0), (1, .int x1)]) [0, 1] rfl (zkR rfl (zkI rfl zkN)) (by decide) dX9_readWhere_18 ?_
  refine Z.iconst F (v := (1 : Int32)) (by decide) dX9_readWhere_19 ?_
  refine Z.istore_n F (L0 := [(2, .int (0 : Int32)), (0, zv h0), (1, .int x1)]) [0, 1, 2] rfl (zkI rfl (zkR rfl (zkI rfl zkN))) (by decide) dX9_readWhere_20 ?_
  refine Z.jn0 (J := _) ([(0, zv h0)]) ([]) 105 (?_) (fun j105 hj105 => ?_)
  · refine Z.aload_n F 0 rfl dX9_readWhere_105 ?_
    refine gfX9_88 F dX9_readWhere_106 (fun g106 => ?_)
    refine Z.iconst F (v := (-1 : Int32)) (by decide) dX9_readWhere_109 ?_
    refine Z.jn0 (J := _) ([(0, zv h0)]) ([]) 125 (?_) (fun j125 hj125 => ?_)
    · refine Z.aload_n F 0 rfl dX9_readWhere_125 ?_
      refine gfX9_88 F dX9_readWhere_126 (fun g126 => ?_)
      exact Z.iret F dX9_readWhere_129
    refine Z.icmp_ne F (tgt := 125) dX9_readWhere_110 (by decide) ?_ ?_
    · exact Z.sub [0] rfl (hj125)
    refine Z.aload_n F 0 rfl dX9_readWhere_113 ?_
    refine clX9_91 F ⟨Nat.le_of_ble_eq_true rfl, Nat.le_of_ble_eq_true rfl⟩ (zlw4 (Nat.le_of_ble_eq_true rfl)) dX9_readWhere_114 (fun r114 => ?_)
    refine Z.iconst F (v := (-1 : Int32)) (by decide) dX9_readWhere_117 ?_
    refine Z.icmp_eq F (tgt := 125) dX9_readWhere_118 (by decide) ?_ ?_
    · exact Z.sub [0] rfl (hj125)
    refine Z.aload_n F 0 rfl dX9_readWhere_121 ?_
    refine clX9_98 F ⟨Nat.le_of_ble_eq_true rfl, Nat.le_of_ble_eq_true rfl⟩ (zlw4 (Nat.le_of_ble_eq_true rfl)) dX9_readWhere_122 ?_
    exact Z.sub [0] rfl (hj125)
  refine Z.sub [2, 3, 1, 0] rfl ?_
  refine Z.w2 (Lf := fun p21l2 p21l3 => [(0, zv h0), (1, .int x1), (2, .int p21l2), (3, .int p21l3)]) (sf := fun p21l2 p21l3 => []) (fun r21 hr21 p21l2 p21l3 => ?_) (0 : Int32) (1 : Int32)
  refine Z.iload_n F 3 rfl dX9_readWhere_21 ?_
  refine Z.if_eq F (tgt := 105) dX9_readWhere_22 (by decide) ?_ ?_
  · exact Z.sub [0] rfl (hj105)
  refine Z.aload_n F 0 rfl dX9_readWhere_25 ?_
  refine Z.iload_n F 1 rfl dX9_readWhere_26 ?_
  refine Z.iload_n F 2 rfl dX9_readWhere_27 ?_
  refine clX9_136 F ⟨Nat.le_of_ble_eq_true rfl, Nat.le_of_ble_eq_true rfl⟩ (zlw4 (Nat.le_of_ble_eq_true rfl)) dX9_readWhere_28 ?_
  refine Z.aload_n F 0 rfl dX9_readWhere_31 ?_
  refine gfX9_88 F dX9_readWhere_32 (fun g32 => ?_)
  refine Z.iconst F (v := (-1 : Int32)) (by decide) dX9_readWhere_35 ?_
  refine Z.jn1 (J := _) (fun p47s0 => [(0, zv h0), (1, .int x1), (2, .int p21l2)]) (fun p47s0 => [.int p47s0]) 47 (fun p47s0 => ?_) (fun j47 hj47 => ?_)
  · refine Z.istore F (L0 := [(0, zv h0), (1, .int x1), (2, .int p21l2)]) [0, 1, 2] rfl (zkR rfl (zkI rfl (zkI rfl zkN))) (by decide) dX9_readWhere_47 ?_
    refine Z.iload F 0 rfl dX9_readWhere_49 ?_
    refine Z.bipush F (v := (38 : Int32)) (by decide) dX9_readWhere_51 ?_
    refine Z.jn1 (J := _) (fun p68s0 => [(0, zv h0), (1, .int x1), (2, .int p21l2), (4, .int p47s0)]) (fun p68s0 => [.int p68s0]) 68 (fun p68s0 => ?_) (fun j68 hj68 => ?_)
    · refine Z.istore_n F (L0 := [(0, zv h0), (1, .int x1), (2, .int p21l2), (4, .int p47s0)]) [0, 1, 2, 3] rfl (zkR rfl (zkI rfl (zkI rfl (zkI rfl zkN)))) (by decide) dX9_readWhere_68 ?_
      refine Z.aload_n F 1 rfl dX9_readWhere_69 ?_
      refine Z.dup F dX9_readWhere_70 ?_
      refine gfX9_81 F dX9_readWhere_71 (fun g71 => ?_)
      refine Z.iload_n F 0 rfl dX9_readWhere_74 ?_
      refine Z.jn1 (J := _) (fun p83s2 => [(0, zv h0), (1, .int x1), (2, .int p21l2), (3, .int p68s0), (4, .int p47s0)]) (fun p83s2 => [.int p83s2, .int g71, zv h0]) 83 (fun p83s2 => ?_) (fun j83 hj83 => ?_)
      · refine Z.iadd F dX9_readWhere_83 ?_
        refine pfX9_81 F dX9_readWhere_84 ?_
        refine Z.iload_n F 2 rfl dX9_readWhere_87 ?_
        refine Z.iload F 4 rfl dX9_readWhere_88 ?_
        refine Z.bipush F (v := (124 : Int32)) (by decide) dX9_readWhere_90 ?_
        refine Z.jn1 (J := _) (fun p100s1 => [(0, zv h0), (1, .int x1), (3, .int p68s0)]) (fun p100s1 => [.int p100s1, .int p21l2]) 100 (fun p100s1 => ?_) (fun j100 hj100 => ?_)
        · refine Z.iadd F dX9_readWhere_100 ?_
          refine Z.istore_n F (L0 := [(0, zv h0), (1, .int x1), (3, .int p68s0)]) [0, 1, 2] rfl (zkR rfl (zkI rfl (zkI rfl zkN))) (by decide) dX9_readWhere_101 ?_
          refine Z.goto F (tgt := 21) dX9_readWhere_102 (by decide) ?_
          exact Z.sub [1, 2, 0, 3] rfl (hr21 (p21l2 + p100s1) p68s0)
        refine Z.icmp_ne F (tgt := 99) dX9_readWhere_92 (by decide) ?_ ?_
        · refine Z.iconst F (v := (0 : Int32)) (by decide) dX9_readWhere_99 ?_
          exact Z.sub [0, 1, 3] rfl (hj100 (0 : Int32))
        refine Z.iconst F (v := (1 : Int32)) (by decide) dX9_readWhere_95 ?_
        refine Z.goto F (tgt := 100) dX9_readWhere_96 (by decide) ?_
        exact Z.sub [0, 1, 3] rfl (hj100 (1 : Int32))
      refine Z.if_eq F (tgt := 82) dX9_readWhere_75 (by decide) ?_ ?_
      · refine Z.iconst F (v := (0 : Int32)) (by decide) dX9_readWhere_82 ?_
        exact Z.sub [1, 2, 3, 0, 4] rfl (hj83 (0 : Int32))
      refine Z.iconst F (v := (1 : Int32)) (by decide) dX9_readWhere_78 ?_
      refine Z.goto F (tgt := 83) dX9_readWhere_79 (by decide) ?_
      exact Z.sub [1, 2, 3, 0, 4] rfl (hj83 (1 : Int32))
    refine Z.jn0 (J := _) ([(0, zv h0), (1, .int x1), (2, .int p21l2), (4, .int p47s0)]) ([]) 63 (?_) (fun j63 hj63 => ?_)
    · refine Z.iconst F (v := (1 : Int32)) (by decide) dX9_readWhere_63 ?_
      refine Z.goto F (tgt := 68) dX9_readWhere_64 (by decide) ?_
      exact Z.sub [0, 1, 2, 3] rfl (hj68 (1 : Int32))
    refine Z.icmp_eq F (tgt := 63) dX9_readWhere_53 (by decide) ?_ ?_
    · exact Z.sub [1, 2, 3, 0] rfl (hj63)
    refine Z.iload F 0 rfl dX9_readWhere_56 ?_
    refine Z.bipush F (v := (124 : Int32)) (by decide) dX9_readWhere_58 ?_
    refine Z.icmp_ne F (tgt := 67) dX9_readWhere_60 (by decide) ?_ ?_
    · refine Z.iconst F (v := (0 : Int32)) (by decide) dX9_readWhere_67 ?_
      exact Z.sub [1, 2, 3, 0] rfl (hj68 (0 : Int32))
    exact Z.sub [1, 2, 3, 0] rfl (hj63)
  refine Z.icmp_ne F (tgt := 46) dX9_readWhere_36 (by decide) ?_ ?_
  · refine Z.iconst F (v := (-1 : Int32)) (by decide) dX9_readWhere_46 ?_
    exact Z.sub [0, 1, 2] rfl (hj47 (-1 : Int32))
  refine Z.aload_n F 0 rfl dX9_readWhere_39 ?_
  refine clX9_91 F ⟨Nat.le_of_ble_eq_true rfl, Nat.le_of_ble_eq_true rfl⟩ (zlw4 (Nat.le_of_ble_eq_true rfl)) dX9_readWhere_40 (fun r40 => ?_)
  refine Z.goto F (tgt := 47) dX9_readWhere_43 (by decide) ?_
  exact Z.sub [0, 1, 2] rfl (hj47 r40)
theorem clX9_143 (F : ZF p R s m args meth c cc nL "SafeBucketsModel" nm ret D A al sz mc ms fr lo) {h0 : Nat} {x1 : Int32} {K : Int32 → ZM → Prop} (hR : 4 + 1 ≤ fr ∧ 8 + (5 + 11) + 90 ≤ lo) (hst4 : zlw st) (hdg : decode cc pc = .ok (.invokevirtual 143, 3)) (k : ∀ r, ZW p l e R s m args below meth c Q nL D A al n0 (K r) (pc + 3) L (.int r :: st)) : ZW p l e R s m args below meth c Q nL D A al n0 (zat 7 h0 (f_X9_readWhere h0 x1 K)) pc L (.int x1 :: zv h0 :: st) :=
  Z.ri0 _ (fun μ H locs cells slots ls hI h hP => Z.V0 F hI (n := 1) (ci := 6) rfl (by decide) hP.1 hP.2 (k_X9_readWhere l h0 x1 D A (zX μ, zC μ, zS μ) H.size K μ) q1738 q1740 qs55 q126 q1741 (by decide +kernel) rfl h.1 hst4 hR rfl hdg) k
theorem clX9_140 (F : ZF p R s m args meth c cc nL "SafeBucketsModel" nm ret D A al sz mc ms fr lo) {h0 : Nat} {K : Int32 → ZM → Prop} (hR : 4 + 1 ≤ fr ∧ 8 + (4 + 11) + 91 ≤ lo) (hst4 : zlw st) (hdg : decode cc pc = .ok (.invokevirtual 140, 3)) (k : ∀ r, ZW p l e R s m args below meth c Q nL D A al n0 (K r) (pc + 3) L (.int r :: st)) : ZW p l e R s m args below meth c Q nL D A al n0 (zat 7 h0 (f_X9_readBook h0 K)) pc L (zv h0 :: st) :=
  Z.ri0 _ (fun μ H locs cells slots ls hI h hP => Z.V0 F hI (n := 0) (ci := 6) rfl (by decide) hP.1 hP.2 (k_X9_readBook l h0 D A (zX μ, zC μ, zS μ) H.size K μ) q1692 q1694 qs48 q126 q1695 (by decide +kernel) rfl h.1 hst4 hR rfl hdg) k
set_option maxHeartbeats 4000000 in
theorem k_X9_fault (l : Launch) (h0 : Nat) (x1 : Int32) : ZCi l yX9_fault (ws_ yX9_fault cX9_fault 2 (some .int)) 5 114 0 0 false [zv h0, .int x1] (f_X9_fault h0 x1) := by
  refine Z.metI (by decide +kernel) (fun h => ⟨rfl, rfl⟩) (L0 := [(0, zv h0), (1, .int x1)]) (by first | (rw [zla_v, zla_i, zla_0]; done) | (rw [zla_v, zla_i, zla_0]; rfl)) (by rw [zsl_v, zsl_i, zsl_0]; exact Nat.le_of_ble_eq_true rfl) ?_
  intro p e R s m args below meth c D A n0 sz k F
  have F : ZF p R s m args meth c cX9_fault 2 "SafeBucketsModel" "fault" (some .int) D A false sz 0 0 5 114 := F
  unfold f_X9_fault
  refine Z.iload_n F 1 rfl dX9_fault_0 ?_
  refine Z.jn1 (J := _) (fun p26s0 => []) (fun p26s0 => [.int p26s0]) 26 (fun p26s0 => ?_) (fun j26 hj26 => ?_)
  · exact Z.iret F dX9_fault_26
  refine Z.if_ne F (tgt := 11) dX9_fault_1 (by decide) ?_ ?_
  · refine Z.iload_n F 1 rfl dX9_fault_11 ?_
    refine Z.iconst F (v := (1 : Int32)) (by decide) dX9_fault_12 ?_
    refine Z.icmp_ne F (tgt := 24) dX9_fault_13 (by decide) ?_ ?_
    · refine Z.bipush F (v := (-2 : Int32)) (by decide) dX9_fault_24 ?_
      exact Z.sub [] rfl (hj26 (-2 : Int32))
    refine Z.aload_n F 0 rfl dX9_fault_16 ?_
    refine Z.iconst F (v := (4 : Int32)) (by decide) dX9_fault_17 ?_
    refine clX9_143 F ⟨Nat.le_of_ble_eq_true rfl, Nat.le_of_ble_eq_true rfl⟩ (zlw4 (Nat.le_of_ble_eq_true rfl)) dX9_fault_18 (fun r18 => ?_)
    refine Z.goto F (tgt := 26) dX9_fault_21 (by decide) ?_
    exact Z.sub [] rfl (hj26 r18)
  refine Z.aload_n F 0 rfl dX9_fault_4 ?_
  refine clX9_140 F ⟨Nat.le_of_ble_eq_true rfl, Nat.le_of_ble_eq_true rfl⟩ (zlw4 (Nat.le_of_ble_eq_true rfl)) dX9_fault_5 (fun r5 => ?_)
  refine Z.goto F (tgt := 26) dX9_fault_8 (by decide) ?_
  exact Z.sub [] rfl (hj26 r5)
set_option maxHeartbeats 4000000 in
theorem k_X9_place (l : Launch) (x0 : Int32) (x1 : Int32) (x2 : Int32) : ZCi l yX9_place (ws_ yX9_place cX9_place 3 (some .int)) 0 0 0 0 false [.int x0, .int x1, .int x2] (f_X9_place x0 x1 x2) := by
  refine Z.metI (by decide +kernel) (fun h => ⟨rfl, rfl⟩) (L0 := [(0, .int x0), (1, .int x1), (2, .int x2)]) (by first | (rw [zla_i, zla_i, zla_i, zla_0]; done) | (rw [zla_i, zla_i, zla_i, zla_0]; rfl)) (by rw [zsl_i, zsl_i, zsl_i, zsl_0]; exact Nat.le_of_ble_eq_true rfl) ?_
  intro p e R s m args below meth c D A n0 sz k F
  have F : ZF p R s m args meth c cX9_place 3 "SafeBucketsModel" "place" (some .int) D A false sz 0 0 0 0 := F
  unfold f_X9_place
  refine Z.sipush F (v := (357 : Int32)) (by decide) dX9_place_0 ?_
  refine Z.iload_n F 0 rfl dX9_place_3 ?_
  refine Z.imul F dX9_place_4 ?_
  refine Z.bipush F (v := (17 : Int32)) (by decide) dX9_place_5 ?_
  refine Z.iload_n F 1 rfl dX9_place_7 ?_
  refine Z.iconst F (v := (-1 : Int32)) (by decide) dX9_place_8 ?_
  refine Z.jn1 (J := _) (fun p18s2 => [(2, .int x2)]) (fun p18s2 => [.int p18s2, .int (17 : Int32), .int ((357 : Int32) * x0)]) 18 (fun p18s2 => ?_) (fun j18 hj18 => ?_)
  · refine Z.imul F dX9_place_18 ?_
    refine Z.iadd F dX9_place_19 ?_
    refine Z.iload_n F 0 rfl dX9_place_20 ?_
    refine Z.iconst F (v := (-1 : Int32)) (by decide) dX9_place_21 ?_
    refine Z.jn1 (J := _) (fun p31s1 => []) (fun p31s1 => [.int p31s1, .int (((357 : Int32) * x0) + ((17 : Int32) * p18s2))]) 31 (fun p31s1 => ?_) (fun j31 hj31 => ?_)
    · refine Z.iadd F dX9_place_31 ?_
      exact Z.iret F dX9_place_32
    refine Z.icmp_ne F (tgt := 30) dX9_place_22 (by decide) ?_ ?_
    · refine Z.iload_n F 0 rfl dX9_place_30 ?_
      exact Z.sub [] rfl (hj31 x2)
    refine Z.bipush F (v := (16 : Int32)) (by decide) dX9_place_25 ?_
    refine Z.goto F (tgt := 31) dX9_place_27 (by decide) ?_
    exact Z.sub [] rfl (hj31 (16 : Int32))
  refine Z.icmp_ne F (tgt := 17) dX9_place_9 (by decide) ?_ ?_
  · refine Z.iload_n F 1 rfl dX9_place_17 ?_
    exact Z.sub [2] rfl (hj18 x1)
  refine Z.bipush F (v := (16 : Int32)) (by decide) dX9_place_12 ?_
  refine Z.goto F (tgt := 18) dX9_place_14 (by decide) ?_
  exact Z.sub [2] rfl (hj18 (16 : Int32))
theorem gfX9_34 (F : ZF p R s m args meth c cc nL "SafeBucketsModel" nm ret D A al sz mc ms fr lo) {z : Nat} {K : Nat → ZM → Prop} (hdg : decode cc pc = .ok (.getfield 34, 3)) (k : ∀ u, ZW p l e R s m args below meth c Q nL D A al n0 (K u) (pc + 3) L (zv u :: st)) : ZW p l e R s m args below meth c Q nL D A al n0 (zgR 7 z 16 K) pc L (zv z :: st) :=
  Z.getR F (ref := "SafeBucketsModel") in_X9 (ci := 6) rfl (by decide) (kf := 16) (by decide) q1586 (fun _ h => h) rfl hdg k
theorem clX9_158 (F : ZF p R s m args meth c cc nL "SafeBucketsModel" nm ret D A al sz mc ms fr lo) {x0 : Int32} {x1 : Int32} {x2 : Int32} {K : Int32 → ZM → Prop} (hR : 0 + 1 ≤ fr ∧ 8 + (3 + 11) + 0 ≤ lo) (hst4 : zlw st) (hdg : decode cc pc = .ok (.invokestatic 158, 3)) (k : ∀ r, ZW p l e R s m args below meth c Q nL D A al n0 (K r) (pc + 3) L (.int r :: st)) : ZW p l e R s m args below meth c Q nL D A al n0 (f_X9_place x0 x1 x2 K) pc L (.int x2 :: .int x1 :: .int x0 :: st) :=
  Z.ri0 _ (fun μ H locs cells slots ls hI h hP => Z.S0 F hI (n := 3) hP (k_X9_place l x0 x1 x2 D A (zX μ, zC μ, zS μ) H.size K μ) q1754 q1755 q126 q1756 (by decide +kernel) rfl h.1 hst4 hR rfl hdg) k
set_option maxHeartbeats 4000000 in
theorem k_X9_countAt (l : Launch) (h0 : Nat) (x1 : Int32) (x2 : Int32) (x3 : Int32) : ZCi l yX9_countAt (ws_ yX9_countAt cX9_countAt 7 (some .int)) 1 22 0 0 false [zv h0, .int x1, .int x2, .int x3] (f_X9_countAt h0 x1 x2 x3) := by
  refine Z.metI (by decide +kernel) (fun h => ⟨rfl, rfl⟩) (L0 := [(0, zv h0), (1, .int x1), (2, .int x2), (3, .int x3)]) (by first | (rw [zla_v, zla_i, zla_i, zla_i, zla_0]; done) | (rw [zla_v, zla_i, zla_i, zla_i, zla_0]; rfl)) (by rw [zsl_v, zsl_i, zsl_i, zsl_i, zsl_0]; exact Nat.le_of_ble_eq_true rfl) ?_
  intro p e R s m args below meth c D A n0 sz k F
  have F : ZF p R s m args meth c cX9_countAt 7 "SafeBucketsModel" "countAt" (some .int) D A false sz 0 0 1 22 := F
  unfold f_X9_countAt
  refine Z.iconst F (v := (0 : Int32)) (by decide) dX9_countAt_0 ?_
  refine Z.istore F (L0 := [(0, zv h0), (1, .int x1), (2, .int x2), (3, .int x3)]) [0, 1, 2, 3] rfl (zkR rfl (zkI rfl (zkI rfl (zkI rfl zkN)))) (by decide) dX9_countAt_1 ?_
  refine Z.iconst F (v := (0 : Int32)) (by decide) dX9_countAt_3 ?_
  refine Z.istore F (L0 := [(4, .int (0 : Int32)), (0, zv h0), (1, .int x1), (2, .int x2), (3, .int x3)]) [0, 1, 2, 3, 4] rfl (zkI rfl (zkR rfl (zkI rfl (zkI rfl (zkI rfl zkN))))) (by decide) dX9_countAt_4 ?_
  refine Z.sub [2, 3, 4, 5, 1, 0] rfl ?_
  refine Z.w2 (Lf := fun p6l4 p6l5 => [(0, zv h0), (1, .int x1), (2, .int x2), (3, .int x3), (4, .int p6l4), (5, .int p6l5)]) (sf := fun p6l4 p6l5 => []) (fun r6 hr6 p6l4 p6l5 => ?_) (0 : Int32) (0 : Int32)
  refine Z.iload F 5 rfl dX9_countAt_6 ?_
  refine Z.bipush F (v := (17 : Int32)) (by decide) dX9_countAt_8 ?_
  refine Z.icmp_ge F (tgt := 65) dX9_countAt_10 (by decide) ?_ ?_
  · refine Z.iload F 4 rfl dX9_countAt_65 ?_
    exact Z.iret F dX9_countAt_67
  refine Z.iload F 5 rfl dX9_countAt_13 ?_
  refine Z.bipush F (v := (16 : Int32)) (by decide) dX9_countAt_15 ?_
  refine Z.jn1 (J := _) (fun p26s0 => [(0, zv h0), (1, .int x1), (2, .int x2), (3, .int x3), (4, .int p6l4), (5, .int p6l5)]) (fun p26s0 => [.int p26s0]) 26 (fun p26s0 => ?_) (fun j26 hj26 => ?_)
  · refine Z.istore F (L0 := [(0, zv h0), (1, .int x1), (2, .int x2), (3, .int x3), (4, .int p6l4), (5, .int p6l5)]) [0, 1, 2, 3, 4, 5] rfl (zkR rfl (zkI rfl (zkI rfl (zkI rfl (zkI rfl (zkI rfl zkN)))))) (by decide) dX9_countAt_26 ?_
    refine Z.iload F 5 rfl dX9_countAt_28 ?_
    refine Z.aload_n F 1 rfl dX9_countAt_30 ?_
    refine gfX9_34 F dX9_countAt_31 (fun g31 => ?_)
    refine Z.iload_n F 3 rfl dX9_countAt_34 ?_
    refine Z.jn1 (J := _) (fun p55s2 => [(0, zv h0), (1, .int x1), (2, .int x2), (3, .int x3), (5, .int p6l5)]) (fun p55s2 => [.int p55s2, zv g31, .int p6l4]) 55 (fun p55s2 => ?_) (fun j55 hj55 => ?_)
    · refine Z.iald F dX9_countAt_55 (fun g55 => ?_)
      refine Z.iadd F dX9_countAt_56 ?_
      refine Z.istore F (L0 := [(0, zv h0), (1, .int x1), (2, .int x2), (3, .int x3), (5, .int p6l5)]) [0, 1, 2, 3, 4] rfl (zkR rfl (zkI rfl (zkI rfl (zkI rfl (zkI rfl zkN))))) (by decide) dX9_countAt_57 ?_
      refine Z.iinc F (L0 := [(4, .int (p6l4 + g55)), (0, zv h0), (1, .int x1), (2, .int x2), (3, .int x3)]) (k0 := 5) (v := (1 : Int32)) rfl (by decide) [0, 1, 2, 3, 4] rfl (zkI rfl (zkR rfl (zkI rfl (zkI rfl (zkI rfl zkN))))) (by decide) dX9_countAt_59 ?_
      refine Z.goto F (tgt := 6) dX9_countAt_62 (by decide) ?_
      exact Z.sub [2, 3, 4, 5, 1, 0] rfl (hr6 (p6l4 + g55) (p6l5 + (1 : Int32)))
    refine Z.if_ne F (tgt := 48) dX9_countAt_35 (by decide) ?_ ?_
    · refine Z.iload_n F 2 rfl dX9_countAt_48 ?_
      refine Z.iload F 0 rfl dX9_countAt_49 ?_
      refine Z.iload_n F 4 rfl dX9_countAt_51 ?_
      refine clX9_158 F ⟨Nat.le_of_ble_eq_true rfl, Nat.le_of_ble_eq_true rfl⟩ (zlw4 (Nat.le_of_ble_eq_true rfl)) dX9_countAt_52 (fun r52 => ?_)
      exact Z.sub [1, 2, 3, 4, 6] rfl (hj55 r52)
    refine Z.iload_n F 2 rfl dX9_countAt_38 ?_
    refine Z.iload_n F 4 rfl dX9_countAt_39 ?_
    refine Z.iload F 0 rfl dX9_countAt_40 ?_
    refine clX9_158 F ⟨Nat.le_of_ble_eq_true rfl, Nat.le_of_ble_eq_true rfl⟩ (zlw4 (Nat.le_of_ble_eq_true rfl)) dX9_countAt_42 (fun r42 => ?_)
    refine Z.goto F (tgt := 55) dX9_countAt_45 (by decide) ?_
    exact Z.sub [1, 2, 3, 4, 6] rfl (hj55 r42)
  refine Z.icmp_ne F (tgt := 24) dX9_countAt_17 (by decide) ?_ ?_
  · refine Z.iload F 5 rfl dX9_countAt_24 ?_
    exact Z.sub [0, 1, 2, 3, 4, 5] rfl (hj26 p6l5)
  refine Z.iconst F (v := (-1 : Int32)) (by decide) dX9_countAt_20 ?_
  refine Z.goto F (tgt := 26) dX9_countAt_21 (by decide) ?_
  exact Z.sub [0, 1, 2, 3, 4, 5] rfl (hj26 (-1 : Int32))
theorem gfX9_25 (F : ZF p R s m args meth c cc nL "SafeBucketsModel" nm ret D A al sz mc ms fr lo) {z : Nat} {K : Nat → ZM → Prop} (hdg : decode cc pc = .ok (.getfield 25, 3)) (k : ∀ u, ZW p l e R s m args below meth c Q nL D A al n0 (K u) (pc + 3) L (zv u :: st)) : ZW p l e R s m args below meth c Q nL D A al n0 (zgR 7 z 11 K) pc L (zv z :: st) :=
  Z.getR F (ref := "SafeBucketsModel") in_X9 (ci := 6) rfl (by decide) (kf := 11) (by decide) q1581 (fun _ h => h) rfl hdg k
theorem pfX9_164 (F : ZF p R s m args meth c cc nL "SafeBucketsModel" nm ret D A al sz mc ms fr lo) {z : Nat} {u : Int32} (hdg : decode cc pc = .ok (.putfield 164, 3)) (k : ZW p l e R s m args below meth c Q nL D A al n0 P (pc + 3) L st) : ZW p l e R s m args below meth c Q nL D A al n0 (zpI 7 z 19 u P) pc L (.int u :: zv z :: st) :=
  Z.putI F (ref := "SafeBucketsModel") in_X9 (ci := 6) rfl (by decide) (kf := 19) (by decide) q1589 (fun _ h => h) tyX9 tyX9_ok nmX9 rfl rfl rfl hdg k
theorem gfX9_164 (F : ZF p R s m args meth c cc nL "SafeBucketsModel" nm ret D A al sz mc ms fr lo) {z : Nat} {K : Int32 → ZM → Prop} (hdg : decode cc pc = .ok (.getfield 164, 3)) (k : ∀ u, ZW p l e R s m args below meth c Q nL D A al n0 (K u) (pc + 3) L (.int u :: st)) : ZW p l e R s m args below meth c Q nL D A al n0 (zgI 7 z 19 K) pc L (zv z :: st) :=
  Z.getI F (ref := "SafeBucketsModel") in_X9 (ci := 6) rfl (by decide) (kf := 19) (by decide) q1589 (fun _ h => h) rfl hdg k
theorem gfX9_40 (F : ZF p R s m args meth c cc nL "SafeBucketsModel" nm ret D A al sz mc ms fr lo) {z : Nat} {K : Nat → ZM → Prop} (hdg : decode cc pc = .ok (.getfield 40, 3)) (k : ∀ u, ZW p l e R s m args below meth c Q nL D A al n0 (K u) (pc + 3) L (zv u :: st)) : ZW p l e R s m args below meth c Q nL D A al n0 (zgR 7 z 18 K) pc L (zv z :: st) :=
  Z.getR F (ref := "SafeBucketsModel") in_X9 (ci := 6) rfl (by decide) (kf := 18) (by decide) q1588 (fun _ h => h) rfl hdg k
theorem clX9_167 (F : ZF p R s m args meth c cc nL "SafeBucketsModel" nm ret D A al sz mc ms fr lo) {h0 : Nat} {x1 : Int32} {x2 : Int32} {x3 : Int32} {K : Int32 → ZM → Prop} (hR : 1 + 1 ≤ fr ∧ 8 + (7 + 11) + 22 ≤ lo) (hst4 : zlw st) (hdg : decode cc pc = .ok (.invokevirtual 167, 3)) (k : ∀ r, ZW p l e R s m args below meth c Q nL D A al n0 (K r) (pc + 3) L (.int r :: st)) : ZW p l e R s m args below meth c Q nL D A al n0 (zat 7 h0 (f_X9_countAt h0 x1 x2 x3 K)) pc L (.int x3 :: .int x2 :: .int x1 :: zv h0 :: st) :=
  Z.ri0 _ (fun μ H locs cells slots ls hI h hP => Z.V0 F hI (n := 3) (ci := 6) rfl (by decide) hP.1 hP.2 (k_X9_countAt l h0 x1 x2 x3 D A (zX μ, zC μ, zS μ) H.size K μ) q1765 q1767 qs60 q126 q1768 (by decide +kernel) rfl h.1 hst4 hR rfl hdg) k
set_option maxHeartbeats 4000000 in
theorem k_X9_layCounts (l : Launch) (h0 : Nat) (x1 : Int32) (x2 : Int32) : ZCv l yX9_layCounts (ws_ yX9_layCounts cX9_layCounts 4 none) 2 48 0 0 false [zv h0, .int x1, .int x2] (f_X9_layCounts h0 x1 x2) := by
  refine Z.metV (by decide +kernel) (fun h => ⟨rfl, rfl⟩) (L0 := [(0, zv h0), (1, .int x1), (2, .int x2)]) (by first | (rw [zla_v, zla_i, zla_i, zla_0]; done) | (rw [zla_v, zla_i, zla_i, zla_0]; rfl)) (by rw [zsl_v, zsl_i, zsl_i, zsl_0]; exact Nat.le_of_ble_eq_true rfl) ?_
  intro p e R s m args below meth c D A n0 sz k F
  have F : ZF p R s m args meth c cX9_layCounts 4 "SafeBucketsModel" "layCounts" none D A false sz 0 0 2 48 := F
  unfold f_X9_layCounts
  refine Z.aload_n F 0 rfl dX9_layCounts_0 ?_
  refine Z.aload_n F 0 rfl dX9_layCounts_1 ?_
  refine gfX9_25 F dX9_layCounts_2 (fun g2 => ?_)
  refine Z.iload_n F 1 rfl dX9_layCounts_5 ?_
  refine Z.iald F dX9_layCounts_6 (fun g6 => ?_)
  refine pfX9_164 F dX9_layCounts_7 ?_
  refine Z.iconst F (v := (0 : Int32)) (by decide) dX9_layCounts_10 ?_
  refine Z.istore_n F (L0 := [(0, zv h0), (1, .int x1), (2, .int x2)]) [0, 1, 2] rfl (zkR rfl (zkI rfl (zkI rfl zkN))) (by decide) dX9_layCounts_11 ?_
  refine Z.sub [1, 2, 3, 0] rfl ?_
  refine Z.w1 (Lf := fun p12l3 => [(0, zv h0), (1, .int x1), (2, .int x2), (3, .int p12l3)]) (sf := fun p12l3 => []) (fun r12 hr12 p12l3 => ?_) (0 : Int32)
  refine Z.iload_n F 3 rfl dX9_layCounts_12 ?_
  refine Z.aload_n F 0 rfl dX9_layCounts_13 ?_
  refine gfX9_164 F dX9_layCounts_14 (fun g14 => ?_)
  refine Z.icmp_ge F (tgt := 39) dX9_layCounts_17 (by decide) ?_ ?_
  · exact Z.vret F dX9_layCounts_39
  refine Z.aload_n F 0 rfl dX9_layCounts_20 ?_
  refine gfX9_40 F dX9_layCounts_21 (fun g21 => ?_)
  refine Z.iload_n F 3 rfl dX9_layCounts_24 ?_
  refine Z.aload_n F 0 rfl dX9_layCounts_25 ?_
  refine Z.iload_n F 1 rfl dX9_layCounts_26 ?_
  refine Z.iload_n F 2 rfl dX9_layCounts_27 ?_
  refine Z.iload_n F 3 rfl dX9_layCounts_28 ?_
  refine clX9_167 F ⟨Nat.le_of_ble_eq_true rfl, Nat.le_of_ble_eq_true rfl⟩ (zlw4 (Nat.le_of_ble_eq_true rfl)) dX9_layCounts_29 (fun r29 => ?_)
  refine Z.iast F dX9_layCounts_32 ?_
  refine Z.iinc F (L0 := [(0, zv h0), (1, .int x1), (2, .int x2)]) (k0 := 3) (v := (1 : Int32)) rfl (by decide) [0, 1, 2] rfl (zkR rfl (zkI rfl (zkI rfl zkN))) (by decide) dX9_layCounts_33 ?_
  refine Z.goto F (tgt := 12) dX9_layCounts_36 (by decide) ?_
  exact Z.sub [1, 2, 3, 0] rfl (hr12 (p12l3 + (1 : Int32)))
set_option maxHeartbeats 4000000 in
theorem k_X9_leastAt (l : Launch) (x0 : Int32) (x1 : Int32) : ZCi l yX9_leastAt (ws_ yX9_leastAt cX9_leastAt 2 (some .int)) 0 0 0 0 false [.int x0, .int x1] (f_X9_leastAt x0 x1) := by
  refine Z.metI (by decide +kernel) (fun h => ⟨rfl, rfl⟩) (L0 := [(0, .int x0), (1, .int x1)]) (by first | (rw [zla_i, zla_i, zla_0]; done) | (rw [zla_i, zla_i, zla_0]; rfl)) (by rw [zsl_i, zsl_i, zsl_0]; exact Nat.le_of_ble_eq_true rfl) ?_
  intro p e R s m args below meth c D A n0 sz k F
  have F : ZF p R s m args meth c cX9_leastAt 2 "SafeBucketsModel" "leastAt" (some .int) D A false sz 0 0 0 0 := F
  unfold f_X9_leastAt
  refine Z.bipush F (v := (18 : Int32)) (by decide) dX9_leastAt_0 ?_
  refine Z.iload_n F 0 rfl dX9_leastAt_2 ?_
  refine Z.imul F dX9_leastAt_3 ?_
  refine Z.iload_n F 1 rfl dX9_leastAt_4 ?_
  refine Z.iadd F dX9_leastAt_5 ?_
  exact Z.iret F dX9_leastAt_6
set_option maxHeartbeats 4000000 in
theorem k_X9_errorOf (l : Launch) (h0 : Nat) (x1 : Int32) (x2 : Int32) : ZCl l yX9_errorOf (ws_ yX9_errorOf cX9_errorOf 8 (some .long)) 0 0 0 0 false [zv h0, .int x1, .int x2] (f_X9_errorOf h0 x1 x2) := by
  refine Z.metL (by decide +kernel) (fun h => ⟨rfl, rfl⟩) (L0 := [(0, zv h0), (1, .int x1), (2, .int x2)]) (by first | (rw [zla_v, zla_i, zla_i, zla_0]; done) | (rw [zla_v, zla_i, zla_i, zla_0]; rfl)) (by rw [zsl_v, zsl_i, zsl_i, zsl_0]; exact Nat.le_of_ble_eq_true rfl) ?_
  intro p e R s m args below meth c D A n0 sz k F
  have F : ZF p R s m args meth c cX9_errorOf 8 "SafeBucketsModel" "errorOf" (some .long) D A false sz 0 0 0 0 := F
  unfold f_X9_errorOf
  refine Z.lconst F (w := (0 : Int64)) (by decide) dX9_errorOf_0 ?_
  refine Z.lstore_n F (L0 := [(0, zv h0), (1, .int x1), (2, .int x2)]) [0, 1, 2] rfl (zmR rfl rfl  (zmI rfl rfl  (zmI rfl rfl  zmN))) (by decide) dX9_errorOf_1 ?_
  refine Z.lconst F (w := (0 : Int64)) (by decide) dX9_errorOf_2 ?_
  refine Z.lstore F (L0 := [(3, .long (0 : Int64)), (0, zv h0), (1, .int x1), (2, .int x2)]) [0, 1, 2, 3] rfl (zmL rfl rfl rfl  (zmR rfl rfl  (zmI rfl rfl  (zmI rfl rfl  zmN)))) (by decide) dX9_errorOf_3 ?_
  refine Z.iload_n F 3 rfl dX9_errorOf_5 ?_
  refine Z.istore F (L0 := [(5, .long (0 : Int64)), (3, .long (0 : Int64)), (0, zv h0), (1, .int x1), (2, .int x2)]) [0, 1, 2, 3, 4] rfl (zkL rfl rfl (zkL rfl rfl (zkR rfl (zkI rfl (zkI rfl zkN))))) (by decide) dX9_errorOf_6 ?_
  refine Z.jn2 (J := _) (fun p53l3 p53l5 => [(1, .int x1), (2, .int x2), (3, .long p53l3), (5, .long p53l5)]) (fun p53l3 p53l5 => []) 53 (fun p53l3 p53l5 => ?_) (fun j53 hj53 => ?_)
  · refine Z.ldc2 F q1786 dX9_errorOf_53 ?_
    refine Z.lload_n F 2 rfl dX9_errorOf_56 ?_
    refine Z.lmul F dX9_errorOf_57 ?_
    refine Z.ldc2 F q1786 dX9_errorOf_58 ?_
    refine Z.iload_n F 1 rfl dX9_errorOf_61 ?_
    refine Z.iload_n F 0 rfl dX9_errorOf_62 ?_
    refine Z.isub F dX9_errorOf_63 ?_
    refine Z.i2l F dX9_errorOf_64 ?_
    refine Z.ldiv F dX9_errorOf_65 ?_
    refine Z.lload F 3 rfl dX9_errorOf_66 ?_
    refine Z.lmul F dX9_errorOf_68 ?_
    refine Z.lload F 3 rfl dX9_errorOf_69 ?_
    refine Z.lmul F dX9_errorOf_71 ?_
    refine Z.lsub F dX9_errorOf_72 ?_
    refine Z.nmJ (fun v72 => ?_)
    exact Z.lret F dX9_errorOf_73
  refine Z.sub [3, 4, 5, 2, 1, 0] rfl ?_
  refine Z.w3 (Lf := fun p8l3 p8l5 p8l7 => [(0, zv h0), (1, .int x1), (2, .int x2), (3, .long p8l3), (5, .long p8l5), (7, .int p8l7)]) (sf := fun p8l3 p8l5 p8l7 => []) (fun r8 hr8 p8l3 p8l5 p8l7 => ?_) (0 : Int64) (0 : Int64) x1
  refine Z.iload F 5 rfl dX9_errorOf_8 ?_
  refine Z.iload_n F 2 rfl dX9_errorOf_10 ?_
  refine Z.icmp_ge F (tgt := 53) dX9_errorOf_11 (by decide) ?_ ?_
  · exact Z.sub [1, 2, 3, 4] rfl (hj53 p8l3 p8l5)
  refine Z.lload_n F 3 rfl dX9_errorOf_14 ?_
  refine Z.aload_n F 0 rfl dX9_errorOf_15 ?_
  refine gfX9_40 F dX9_errorOf_16 (fun g16 => ?_)
  refine Z.iload F 5 rfl dX9_errorOf_19 ?_
  refine Z.iald F dX9_errorOf_21 (fun g21 => ?_)
  refine Z.i2l F dX9_errorOf_22 ?_
  refine Z.aload_n F 0 rfl dX9_errorOf_23 ?_
  refine gfX9_40 F dX9_errorOf_24 (fun g24 => ?_)
  refine Z.iload F 5 rfl dX9_errorOf_27 ?_
  refine Z.iald F dX9_errorOf_29 (fun g29 => ?_)
  refine Z.i2l F dX9_errorOf_30 ?_
  refine Z.lmul F dX9_errorOf_31 ?_
  refine Z.ladd F dX9_errorOf_32 ?_
  refine Z.lstore_n F (L0 := [(0, zv h0), (1, .int x1), (2, .int x2), (5, .long p8l5), (7, .int p8l7)]) [0, 1, 2, 4, 5] rfl (zmR rfl rfl  (zmI rfl rfl  (zmI rfl rfl  (zmL rfl rfl rfl  (zmI rfl rfl  zmN))))) (by decide) dX9_errorOf_33 ?_
  refine Z.lload F 4 rfl dX9_errorOf_34 ?_
  refine Z.aload_n F 1 rfl dX9_errorOf_36 ?_
  refine gfX9_40 F dX9_errorOf_37 (fun g37 => ?_)
  refine Z.iload F 5 rfl dX9_errorOf_40 ?_
  refine Z.iald F dX9_errorOf_42 (fun g42 => ?_)
  refine Z.i2l F dX9_errorOf_43 ?_
  refine Z.ladd F dX9_errorOf_44 ?_
  refine Z.lstore F (L0 := [(3, .long (p8l3 + (g21.toInt64 * g29.toInt64))), (0, zv h0), (1, .int x1), (2, .int x2), (7, .int p8l7)]) [0, 1, 2, 3, 5] rfl (zmL rfl rfl rfl  (zmR rfl rfl  (zmI rfl rfl  (zmI rfl rfl  (zmI rfl rfl  zmN))))) (by decide) dX9_errorOf_45 ?_
  refine Z.iinc F (L0 := [(5, .long (p8l5 + g42.toInt64)), (3, .long (p8l3 + (g21.toInt64 * g29.toInt64))), (0, zv h0), (1, .int x1), (2, .int x2)]) (k0 := 5) (v := (1 : Int32)) rfl (by decide) [0, 1, 2, 3, 4] rfl (zkL rfl rfl (zkL rfl rfl (zkR rfl (zkI rfl (zkI rfl zkN))))) (by decide) dX9_errorOf_47 ?_
  refine Z.goto F (tgt := 8) dX9_errorOf_50 (by decide) ?_
  exact Z.sub [3, 4, 5, 2, 1, 0] rfl (hr8 (p8l3 + (g21.toInt64 * g29.toInt64)) (p8l5 + g42.toInt64) (p8l7 + (1 : Int32)))
theorem gfX9_43 (F : ZF p R s m args meth c cc nL "SafeBucketsModel" nm ret D A al sz mc ms fr lo) {z : Nat} {K : Nat → ZM → Prop} (hdg : decode cc pc = .ok (.getfield 43, 3)) (k : ∀ u, ZW p l e R s m args below meth c Q nL D A al n0 (K u) (pc + 3) L (zv u :: st)) : ZW p l e R s m args below meth c Q nL D A al n0 (zgR 7 z 20 K) pc L (zv z :: st) :=
  Z.getR F (ref := "SafeBucketsModel") in_X9 (ci := 6) rfl (by decide) (kf := 20) (by decide) q1590 (fun _ h => h) rfl hdg k
theorem clX9_174 (F : ZF p R s m args meth c cc nL "SafeBucketsModel" nm ret D A al sz mc ms fr lo) {x0 : Int32} {x1 : Int32} {K : Int32 → ZM → Prop} (hR : 0 + 1 ≤ fr ∧ 8 + (2 + 11) + 0 ≤ lo) (hst4 : zlw st) (hdg : decode cc pc = .ok (.invokestatic 174, 3)) (k : ∀ r, ZW p l e R s m args below meth c Q nL D A al n0 (K r) (pc + 3) L (.int r :: st)) : ZW p l e R s m args below meth c Q nL D A al n0 (f_X9_leastAt x0 x1 K) pc L (.int x1 :: .int x0 :: st) :=
  Z.ri0 _ (fun μ H locs cells slots ls hI h hP => Z.S0 F hI (n := 2) hP (k_X9_leastAt l x0 x1 D A (zX μ, zC μ, zS μ) H.size K μ) q1779 q1780 q126 q1781 (by decide +kernel) rfl h.1 hst4 hR rfl hdg) k
theorem clX9_177 (F : ZF p R s m args meth c cc nL "SafeBucketsModel" nm ret D A al sz mc ms fr lo) {h0 : Nat} {x1 : Int32} {x2 : Int32} {K : Int64 → ZM → Prop} (hR : 0 + 1 ≤ fr ∧ 8 + (8 + 11) + 0 ≤ lo) (hst4 : zlw st) (hdg : decode cc pc = .ok (.invokevirtual 177, 3)) (k : ∀ r, ZW p l e R s m args below meth c Q nL D A al n0 (K r) (pc + 3) L (.long r :: st)) : ZW p l e R s m args below meth c Q nL D A al n0 (zat 7 h0 (f_X9_errorOf h0 x1 x2 K)) pc L (.int x2 :: .int x1 :: zv h0 :: st) :=
  Z.rl0 _ (fun μ H locs cells slots ls hI h hP => Z.V0 F hI (n := 2) (ci := 6) rfl (by decide) hP.1 hP.2 (k_X9_errorOf l h0 x1 x2 D A (zX μ, zC μ, zS μ) H.size K μ) q1782 q1784 qs63 q126 q1785 (by decide +kernel) rfl h.1 hst4 hR rfl hdg) k
set_option maxHeartbeats 4000000 in
theorem k_X9_layLeast (l : Launch) (h0 : Nat) (x1 : Int32) : ZCv l yX9_layLeast (ws_ yX9_layLeast cX9_layLeast 9 none) 1 27 0 0 false [zv h0, .int x1] (f_X9_layLeast h0 x1) := by
  refine Z.metV (by decide +kernel) (fun h => ⟨rfl, rfl⟩) (L0 := [(0, zv h0), (1, .int x1)]) (by first | (rw [zla_v, zla_i, zla_0]; done) | (rw [zla_v, zla_i, zla_0]; rfl)) (by rw [zsl_v, zsl_i, zsl_0]; exact Nat.le_of_ble_eq_true rfl) ?_
  intro p e R s m args below meth c D A n0 sz k F
  have F : ZF p R s m args meth c cX9_layLeast 9 "SafeBucketsModel" "layLeast" none D A false sz 0 0 1 27 := F
  unfold f_X9_layLeast
  refine Z.iconst F (v := (0 : Int32)) (by decide) dX9_layLeast_0 ?_
  refine Z.istore_n F (L0 := [(0, zv h0), (1, .int x1)]) [0, 1] rfl (zkR rfl (zkI rfl zkN)) (by decide) dX9_layLeast_1 ?_
  refine Z.sub [1, 2, 0] rfl ?_
  refine Z.w1 (Lf := fun p2l2 => [(0, zv h0), (1, .int x1), (2, .int p2l2)]) (sf := fun p2l2 => []) (fun r2 hr2 p2l2 => ?_) (0 : Int32)
  refine Z.iload_n F 2 rfl dX9_layLeast_2 ?_
  refine Z.iload_n F 1 rfl dX9_layLeast_3 ?_
  refine Z.icmp_gt F (tgt := 131) dX9_layLeast_4 (by decide) ?_ ?_
  · exact Z.vret F dX9_layLeast_131
  refine Z.aload_n F 0 rfl dX9_layLeast_7 ?_
  refine gfX9_164 F dX9_layLeast_8 (fun g8 => ?_)
  refine Z.istore_n F (L0 := [(0, zv h0), (1, .int x1), (2, .int p2l2)]) [0, 1, 2] rfl (zkR rfl (zkI rfl (zkI rfl zkN))) (by decide) dX9_layLeast_11 ?_
  refine Z.jn1 (J := _) (fun p125l2 => [(0, zv h0), (1, .int x1), (2, .int p125l2)]) (fun p125l2 => []) 125 (fun p125l2 => ?_) (fun j125 hj125 => ?_)
  · refine Z.iinc F (L0 := [(0, zv h0), (1, .int x1)]) (k0 := 2) (v := (1 : Int32)) rfl (by decide) [0, 1] rfl (zkR rfl (zkI rfl zkN)) (by decide) dX9_layLeast_125 ?_
    refine Z.goto F (tgt := 2) dX9_layLeast_128 (by decide) ?_
    exact Z.sub [1, 2, 0] rfl (hr2 (p125l2 + (1 : Int32)))
  refine Z.sub [1, 2, 3, 0] rfl ?_
  refine Z.w2 (Lf := fun p12l2 p12l3 => [(0, zv h0), (1, .int x1), (2, .int p12l2), (3, .int p12l3)]) (sf := fun p12l2 p12l3 => []) (fun r12 hr12 p12l2 p12l3 => ?_) p2l2 g8
  refine Z.iload_n F 3 rfl dX9_layLeast_12 ?_
  refine Z.if_lt F (tgt := 125) dX9_layLeast_13 (by decide) ?_ ?_
  · exact Z.sub [0, 1, 2] rfl (hj125 p12l2)
  refine Z.iload_n F 2 rfl dX9_layLeast_16 ?_
  refine Z.jn1 (J := _) (fun p35s0 => [(0, zv h0), (1, .int x1), (2, .int p12l2), (3, .int p12l3)]) (fun p35s0 => [.long p35s0]) 35 (fun p35s0 => ?_) (fun j35 hj35 => ?_)
  · refine Z.lstore F (L0 := [(0, zv h0), (1, .int x1), (2, .int p12l2), (3, .int p12l3)]) [0, 1, 2, 3] rfl (zmR rfl rfl  (zmI rfl rfl  (zmI rfl rfl  (zmI rfl rfl  zmN)))) (by decide) dX9_layLeast_35 ?_
    refine Z.iload_n F 4 rfl dX9_layLeast_37 ?_
    refine Z.iconst F (v := (1 : Int32)) (by decide) dX9_layLeast_38 ?_
    refine Z.iadd F dX9_layLeast_39 ?_
    refine Z.istore F (L0 := [(4, .long p35s0), (0, zv h0), (1, .int x1), (2, .int p12l2), (3, .int p12l3)]) [0, 1, 2, 3, 4] rfl (zkL rfl rfl (zkR rfl (zkI rfl (zkI rfl (zkI rfl zkN))))) (by decide) dX9_layLeast_40 ?_
    refine Z.jn3 (J := _) (fun p107l2 p107l3 p107l4 => [(0, zv h0), (1, .int x1), (2, .int p107l2), (3, .int p107l3), (4, .long p107l4)]) (fun p107l2 p107l3 p107l4 => []) 107 (fun p107l2 p107l3 p107l4 => ?_) (fun j107 hj107 => ?_)
    · refine Z.aload_n F 0 rfl dX9_layLeast_107 ?_
      refine gfX9_43 F dX9_layLeast_108 (fun g108 => ?_)
      refine Z.iload_n F 2 rfl dX9_layLeast_111 ?_
      refine Z.iload_n F 3 rfl dX9_layLeast_112 ?_
      refine clX9_174 F ⟨Nat.le_of_ble_eq_true rfl, Nat.le_of_ble_eq_true rfl⟩ (zlw4 (Nat.le_of_ble_eq_true rfl)) dX9_layLeast_113 (fun r113 => ?_)
      refine Z.lload F 4 rfl dX9_layLeast_116 ?_
      refine Z.last F dX9_layLeast_118 ?_
      refine Z.iinc F (L0 := [(0, zv h0), (1, .int x1), (2, .int p107l2), (4, .long p107l4)]) (k0 := 3) (v := (-1 : Int32)) rfl (by decide) [0, 1, 2, 4] rfl (zkR rfl (zkI rfl (zkI rfl (zkL rfl rfl zkN)))) (by decide) dX9_layLeast_119 ?_
      refine Z.goto F (tgt := 12) dX9_layLeast_122 (by decide) ?_
      exact Z.sub [1, 2, 3, 0] rfl (hr12 p107l2 (p107l3 + (-1 : Int32)))
    refine Z.sub [2, 3, 4, 5, 1, 0] rfl ?_
    refine Z.w4 (Lf := fun p42l2 p42l3 p42l4 p42l6 => [(0, zv h0), (1, .int x1), (2, .int p42l2), (3, .int p42l3), (4, .long p42l4), (6, .int p42l6)]) (sf := fun p42l2 p42l3 p42l4 p42l6 => []) (fun r42 hr42 p42l2 p42l3 p42l4 p42l6 => ?_) p12l2 p12l3 p35s0 (p12l3 + (1 : Int32))
    refine Z.iload F 5 rfl dX9_layLeast_42 ?_
    refine Z.aload_n F 0 rfl dX9_layLeast_44 ?_
    refine gfX9_164 F dX9_layLeast_45 (fun g45 => ?_)
    refine Z.icmp_gt F (tgt := 107) dX9_layLeast_48 (by decide) ?_ ?_
    · exact Z.sub [0, 1, 2, 3, 4] rfl (hj107 p42l2 p42l3 p42l4)
    refine Z.iload_n F 2 rfl dX9_layLeast_51 ?_
    refine Z.if_le F (tgt := 107) dX9_layLeast_52 (by decide) ?_ ?_
    · exact Z.sub [0, 1, 2, 3, 4] rfl (hj107 p42l2 p42l3 p42l4)
    refine Z.aload_n F 0 rfl dX9_layLeast_55 ?_
    refine gfX9_43 F dX9_layLeast_56 (fun g56 => ?_)
    refine Z.iload_n F 2 rfl dX9_layLeast_59 ?_
    refine Z.iconst F (v := (1 : Int32)) (by decide) dX9_layLeast_60 ?_
    refine Z.isub F dX9_layLeast_61 ?_
    refine Z.iload F 5 rfl dX9_layLeast_62 ?_
    refine clX9_174 F ⟨Nat.le_of_ble_eq_true rfl, Nat.le_of_ble_eq_true rfl⟩ (zlw4 (Nat.le_of_ble_eq_true rfl)) dX9_layLeast_64 (fun r64 => ?_)
    refine Z.lald F dX9_layLeast_67 (fun g67 => ?_)
    refine Z.lstore F (L0 := [(0, zv h0), (1, .int x1), (2, .int p42l2), (3, .int p42l3), (4, .long p42l4), (6, .int p42l6)]) [0, 1, 2, 3, 4, 5] rfl (zmR rfl rfl  (zmI rfl rfl  (zmI rfl rfl  (zmI rfl rfl  (zmL rfl rfl rfl  (zmI rfl rfl  zmN)))))) (by decide) dX9_layLeast_68 ?_
    refine Z.lload F 0 rfl dX9_layLeast_70 ?_
    refine Z.ldc2 F q1778 dX9_layLeast_72 ?_
    refine Z.lcmp F dX9_layLeast_75 ?_
    refine Z.jn1 (J := _) (fun p99s0 => [(0, zv h0), (1, .int x1), (2, .int p42l2), (3, .int p42l3), (6, .int p42l6)]) (fun p99s0 => [.long p99s0]) 99 (fun p99s0 => ?_) (fun j99 hj99 => ?_)
    · refine Z.lstore F (L0 := [(0, zv h0), (1, .int x1), (2, .int p42l2), (3, .int p42l3), (6, .int p42l6)]) [0, 1, 2, 3, 4] rfl (zmR rfl rfl  (zmI rfl rfl  (zmI rfl rfl  (zmI rfl rfl  (zmI rfl rfl  zmN))))) (by decide) dX9_layLeast_99 ?_
      refine Z.iinc F (L0 := [(4, .long p99s0), (0, zv h0), (1, .int x1), (2, .int p42l2), (3, .int p42l3)]) (k0 := 5) (v := (1 : Int32)) rfl (by decide) [0, 1, 2, 3, 4] rfl (zkL rfl rfl (zkR rfl (zkI rfl (zkI rfl (zkI rfl zkN))))) (by decide) dX9_layLeast_101 ?_
      refine Z.goto F (tgt := 42) dX9_layLeast_104 (by decide) ?_
      exact Z.sub [2, 3, 4, 5, 1, 0] rfl (hr42 p42l2 p42l3 p99s0 (p42l6 + (1 : Int32)))
    refine Z.if_ne F (tgt := 84) dX9_layLeast_76 (by decide) ?_ ?_
    · refine Z.lload F 5 rfl dX9_layLeast_84 ?_
      refine Z.aload_n F 1 rfl dX9_layLeast_86 ?_
      refine Z.iload_n F 4 rfl dX9_layLeast_87 ?_
      refine Z.iload F 6 rfl dX9_layLeast_88 ?_
      refine clX9_177 F ⟨Nat.le_of_ble_eq_true rfl, Nat.le_of_ble_eq_true rfl⟩ (zlw4 (Nat.le_of_ble_eq_true rfl)) dX9_layLeast_90 (fun r90 => ?_)
      refine Z.lload F 0 rfl dX9_layLeast_93 ?_
      refine Z.ladd F dX9_layLeast_95 ?_
      refine Z.lmin F q1787 (Nat.le_of_ble_eq_true rfl) (Nat.le_of_ble_eq_true rfl) (zlw4 (Nat.le_of_ble_eq_true rfl)) dX9_layLeast_96 ?_
      exact Z.sub [1, 2, 3, 4, 6] rfl (hj99 (if (r90 + g67) < p42l4 then (r90 + g67) else p42l4))
    refine Z.lload F 5 rfl dX9_layLeast_79 ?_
    refine Z.goto F (tgt := 99) dX9_layLeast_81 (by decide) ?_
    exact Z.sub [1, 2, 3, 4, 6] rfl (hj99 p42l4)
  refine Z.jn0 (J := _) ([(0, zv h0), (1, .int x1), (2, .int p12l2), (3, .int p12l3)]) ([]) 32 (?_) (fun j32 hj32 => ?_)
  · refine Z.ldc2 F q1778 dX9_layLeast_32 ?_
    exact Z.sub [0, 1, 2, 3] rfl (hj35 (1000000000000000 : Int64))
  refine Z.if_ne F (tgt := 32) dX9_layLeast_17 (by decide) ?_ ?_
  · exact Z.sub [0, 1, 2, 3] rfl (hj32)
  refine Z.iload_n F 3 rfl dX9_layLeast_20 ?_
  refine Z.aload_n F 0 rfl dX9_layLeast_21 ?_
  refine gfX9_164 F dX9_layLeast_22 (fun g22 => ?_)
  refine Z.icmp_ne F (tgt := 32) dX9_layLeast_25 (by decide) ?_ ?_
  · exact Z.sub [0, 1, 2, 3] rfl (hj32)
  refine Z.lconst F (w := (0 : Int64)) (by decide) dX9_layLeast_28 ?_
  refine Z.goto F (tgt := 35) dX9_layLeast_29 (by decide) ?_
  exact Z.sub [0, 1, 2, 3] rfl (hj35 (0 : Int64))
theorem clX9_187 (F : ZF p R s m args meth c cc nL "SafeBucketsModel" nm ret D A al sz mc ms fr lo) {h0 : Nat} {x1 : Int32} {K : ZM → Prop} (hR : 1 + 1 ≤ fr ∧ 8 + (9 + 11) + 27 ≤ lo) (hst4 : zlw st) (hdg : decode cc pc = .ok (.invokevirtual 187, 3)) (k : ZW p l e R s m args below meth c Q nL D A al n0 K (pc + 3) L st) : ZW p l e R s m args below meth c Q nL D A al n0 (zat 7 h0 (f_X9_layLeast h0 x1 K)) pc L (.int x1 :: zv h0 :: st) :=
  Z.rv0 _ (fun μ H locs cells slots ls hI h hP => Z.V0 F hI (n := 1) (ci := 6) rfl (by decide) hP.1 hP.2 (k_X9_layLeast l h0 x1 D A (zX μ, zC μ, zS μ) H.size K μ) q1774 q1776 qs62 q126 q1777 (by decide +kernel) rfl h.1 hst4 hR rfl hdg) k
theorem gfX9_47 (F : ZF p R s m args meth c cc nL "SafeBucketsModel" nm ret D A al sz mc ms fr lo) {z : Nat} {K : Nat → ZM → Prop} (hdg : decode cc pc = .ok (.getfield 47, 3)) (k : ∀ u, ZW p l e R s m args below meth c Q nL D A al n0 (K u) (pc + 3) L (zv u :: st)) : ZW p l e R s m args below meth c Q nL D A al n0 (zgR 7 z 21 K) pc L (zv z :: st) :=
  Z.getR F (ref := "SafeBucketsModel") in_X9 (ci := 6) rfl (by decide) (kf := 21) (by decide) q1591 (fun _ h => h) rfl hdg k
set_option maxHeartbeats 4000000 in
theorem k_X9_layBorders (l : Launch) (h0 : Nat) (x1 : Int32) : ZCv l yX9_layBorders (ws_ yX9_layBorders cX9_layBorders 5 none) 2 55 0 0 false [zv h0, .int x1] (f_X9_layBorders h0 x1) := by
  refine Z.metV (by decide +kernel) (fun h => ⟨rfl, rfl⟩) (L0 := [(0, zv h0), (1, .int x1)]) (by first | (rw [zla_v, zla_i, zla_0]; done) | (rw [zla_v, zla_i, zla_0]; rfl)) (by rw [zsl_v, zsl_i, zsl_0]; exact Nat.le_of_ble_eq_true rfl) ?_
  intro p e R s m args below meth c D A n0 sz k F
  have F : ZF p R s m args meth c cX9_layBorders 5 "SafeBucketsModel" "layBorders" none D A false sz 0 0 2 55 := F
  unfold f_X9_layBorders
  refine Z.aload_n F 0 rfl dX9_layBorders_0 ?_
  refine Z.iload_n F 1 rfl dX9_layBorders_1 ?_
  refine clX9_187 F ⟨Nat.le_of_ble_eq_true rfl, Nat.le_of_ble_eq_true rfl⟩ (zlw4 (Nat.le_of_ble_eq_true rfl)) dX9_layBorders_2 ?_
  refine Z.aload_n F 0 rfl dX9_layBorders_5 ?_
  refine gfX9_47 F dX9_layBorders_6 (fun g6 => ?_)
  refine Z.iconst F (v := (0 : Int32)) (by decide) dX9_layBorders_9 ?_
  refine Z.iconst F (v := (0 : Int32)) (by decide) dX9_layBorders_10 ?_
  refine Z.iast F dX9_layBorders_11 ?_
  refine Z.iconst F (v := (1 : Int32)) (by decide) dX9_layBorders_12 ?_
  refine Z.istore_n F (L0 := [(0, zv h0), (1, .int x1)]) [0, 1] rfl (zkR rfl (zkI rfl zkN)) (by decide) dX9_layBorders_13 ?_
  refine Z.jn0 (J := _) ([(0, zv h0), (1, .int x1)]) ([]) 112 (?_) (fun j112 hj112 => ?_)
  · refine Z.aload_n F 0 rfl dX9_layBorders_112 ?_
    refine gfX9_47 F dX9_layBorders_113 (fun g113 => ?_)
    refine Z.iload_n F 1 rfl dX9_layBorders_116 ?_
    refine Z.aload_n F 0 rfl dX9_layBorders_117 ?_
    refine gfX9_164 F dX9_layBorders_118 (fun g118 => ?_)
    refine Z.iast F dX9_layBorders_121 ?_
    exact Z.vret F dX9_layBorders_122
  refine Z.sub [1, 2, 0] rfl ?_
  refine Z.w1 (Lf := fun p14l2 => [(0, zv h0), (1, .int x1), (2, .int p14l2)]) (sf := fun p14l2 => []) (fun r14 hr14 p14l2 => ?_) (1 : Int32)
  refine Z.iload_n F 2 rfl dX9_layBorders_14 ?_
  refine Z.iload_n F 1 rfl dX9_layBorders_15 ?_
  refine Z.icmp_ge F (tgt := 112) dX9_layBorders_16 (by decide) ?_ ?_
  · exact Z.sub [0, 1] rfl (hj112)
  refine Z.aload_n F 0 rfl dX9_layBorders_19 ?_
  refine gfX9_47 F dX9_layBorders_20 (fun g20 => ?_)
  refine Z.iload_n F 2 rfl dX9_layBorders_23 ?_
  refine Z.iconst F (v := (1 : Int32)) (by decide) dX9_layBorders_24 ?_
  refine Z.isub F dX9_layBorders_25 ?_
  refine Z.iald F dX9_layBorders_26 (fun g26 => ?_)
  refine Z.istore_n F (L0 := [(0, zv h0), (1, .int x1), (2, .int p14l2)]) [0, 1, 2] rfl (zkR rfl (zkI rfl (zkI rfl zkN))) (by decide) dX9_layBorders_27 ?_
  refine Z.iload_n F 0 rfl dX9_layBorders_28 ?_
  refine Z.iconst F (v := (1 : Int32)) (by decide) dX9_layBorders_29 ?_
  refine Z.iadd F dX9_layBorders_30 ?_
  refine Z.istore F (L0 := [(3, .int g26), (0, zv h0), (1, .int x1), (2, .int p14l2)]) [0, 1, 2, 3] rfl (zkI rfl (zkR rfl (zkI rfl (zkI rfl zkN)))) (by decide) dX9_layBorders_31 ?_
  refine Z.jn2 (J := _) (fun p98l2 p98l4 => [(0, zv h0), (1, .int x1), (2, .int p98l2), (4, .int p98l4)]) (fun p98l2 p98l4 => []) 98 (fun p98l2 p98l4 => ?_) (fun j98 hj98 => ?_)
  · refine Z.aload_n F 0 rfl dX9_layBorders_98 ?_
    refine gfX9_47 F dX9_layBorders_99 (fun g99 => ?_)
    refine Z.iload_n F 2 rfl dX9_layBorders_102 ?_
    refine Z.iload F 3 rfl dX9_layBorders_103 ?_
    refine Z.iast F dX9_layBorders_105 ?_
    refine Z.iinc F (L0 := [(0, zv h0), (1, .int x1), (4, .int p98l4)]) (k0 := 2) (v := (1 : Int32)) rfl (by decide) [0, 1, 3] rfl (zkR rfl (zkI rfl (zkI rfl zkN))) (by decide) dX9_layBorders_106 ?_
    refine Z.goto F (tgt := 14) dX9_layBorders_109 (by decide) ?_
    exact Z.sub [1, 2, 0] rfl (hr14 (p98l2 + (1 : Int32)))
  refine Z.sub [2, 3, 4, 1, 0] rfl ?_
  refine Z.w2 (Lf := fun p33l2 p33l4 => [(0, zv h0), (1, .int x1), (2, .int p33l2), (3, .int g26), (4, .int p33l4)]) (sf := fun p33l2 p33l4 => []) (fun r33 hr33 p33l2 p33l4 => ?_) p14l2 (g26 + (1 : Int32))
  refine Z.aload_n F 0 rfl dX9_layBorders_33 ?_
  refine gfX9_43 F dX9_layBorders_34 (fun g34 => ?_)
  refine Z.iload_n F 1 rfl dX9_layBorders_37 ?_
  refine Z.iload_n F 2 rfl dX9_layBorders_38 ?_
  refine Z.isub F dX9_layBorders_39 ?_
  refine Z.iload F 4 rfl dX9_layBorders_40 ?_
  refine clX9_174 F ⟨Nat.le_of_ble_eq_true rfl, Nat.le_of_ble_eq_true rfl⟩ (zlw4 (Nat.le_of_ble_eq_true rfl)) dX9_layBorders_42 (fun r42 => ?_)
  refine Z.lald F dX9_layBorders_45 (fun g45 => ?_)
  refine Z.ldc2 F q1778 dX9_layBorders_46 ?_
  refine Z.lcmp F dX9_layBorders_49 ?_
  refine Z.jn0 (J := _) ([(0, zv h0), (1, .int x1), (2, .int p33l2), (3, .int g26), (4, .int p33l4)]) ([]) 92 (?_) (fun j92 hj92 => ?_)
  · refine Z.iinc F (L0 := [(0, zv h0), (1, .int x1), (2, .int p33l2), (3, .int g26)]) (k0 := 4) (v := (1 : Int32)) rfl (by decide) [0, 1, 2, 3] rfl (zkR rfl (zkI rfl (zkI rfl (zkI rfl zkN)))) (by decide) dX9_layBorders_92 ?_
    refine Z.goto F (tgt := 33) dX9_layBorders_95 (by decide) ?_
    exact Z.sub [1, 2, 3, 4, 0] rfl (hr33 p33l2 (p33l4 + (1 : Int32)))
  refine Z.if_eq F (tgt := 92) dX9_layBorders_50 (by decide) ?_ ?_
  · exact Z.sub [0, 1, 2, 3, 4] rfl (hj92)
  refine Z.aload_n F 0 rfl dX9_layBorders_53 ?_
  refine Z.iload_n F 3 rfl dX9_layBorders_54 ?_
  refine Z.iload F 4 rfl dX9_layBorders_55 ?_
  refine clX9_177 F ⟨Nat.le_of_ble_eq_true rfl, Nat.le_of_ble_eq_true rfl⟩ (zlw4 (Nat.le_of_ble_eq_true rfl)) dX9_layBorders_57 (fun r57 => ?_)
  refine Z.aload_n F 0 rfl dX9_layBorders_60 ?_
  refine gfX9_43 F dX9_layBorders_61 (fun g61 => ?_)
  refine Z.iload_n F 1 rfl dX9_layBorders_64 ?_
  refine Z.iload_n F 2 rfl dX9_layBorders_65 ?_
  refine Z.isub F dX9_layBorders_66 ?_
  refine Z.iload F 4 rfl dX9_layBorders_67 ?_
  refine clX9_174 F ⟨Nat.le_of_ble_eq_true rfl, Nat.le_of_ble_eq_true rfl⟩ (zlw4 (Nat.le_of_ble_eq_true rfl)) dX9_layBorders_69 (fun r69 => ?_)
  refine Z.lald F dX9_layBorders_72 (fun g72 => ?_)
  refine Z.ladd F dX9_layBorders_73 ?_
  refine Z.aload_n F 0 rfl dX9_layBorders_74 ?_
  refine gfX9_43 F dX9_layBorders_75 (fun g75 => ?_)
  refine Z.iload_n F 1 rfl dX9_layBorders_78 ?_
  refine Z.iload_n F 2 rfl dX9_layBorders_79 ?_
  refine Z.isub F dX9_layBorders_80 ?_
  refine Z.iconst F (v := (1 : Int32)) (by decide) dX9_layBorders_81 ?_
  refine Z.iadd F dX9_layBorders_82 ?_
  refine Z.iload_n F 3 rfl dX9_layBorders_83 ?_
  refine clX9_174 F ⟨Nat.le_of_ble_eq_true rfl, Nat.le_of_ble_eq_true rfl⟩ (zlw4 (Nat.le_of_ble_eq_true rfl)) dX9_layBorders_84 (fun r84 => ?_)
  refine Z.lald F dX9_layBorders_87 (fun g87 => ?_)
  refine Z.lcmp F dX9_layBorders_88 ?_
  refine Z.if_eq F (tgt := 98) dX9_layBorders_89 (by decide) ?_ ?_
  · exact Z.sub [0, 1, 2, 4] rfl (hj98 p33l2 p33l4)
  exact Z.sub [0, 1, 2, 3, 4] rfl (hj92)
set_option maxHeartbeats 4000000 in
theorem k_X9_column (l : Launch) (x0 : Int32) (x1 : Int32) : ZCi l yX9_column (ws_ yX9_column cX9_column 2 (some .int)) 0 0 0 0 false [.int x0, .int x1] (f_X9_column x0 x1) := by
  refine Z.metI (by decide +kernel) (fun h => ⟨rfl, rfl⟩) (L0 := [(0, .int x0), (1, .int x1)]) (by first | (rw [zla_i, zla_i, zla_0]; done) | (rw [zla_i, zla_i, zla_0]; rfl)) (by rw [zsl_i, zsl_i, zsl_0]; exact Nat.le_of_ble_eq_true rfl) ?_
  intro p e R s m args below meth c D A n0 sz k F
  have F : ZF p R s m args meth c cX9_column 2 "SafeBucketsModel" "column" (some .int) D A false sz 0 0 0 0 := F
  unfold f_X9_column
  refine Z.sipush F (v := (357 : Int32)) (by decide) dX9_column_0 ?_
  refine Z.iload_n F 0 rfl dX9_column_3 ?_
  refine Z.imul F dX9_column_4 ?_
  refine Z.sipush F (v := (289 : Int32)) (by decide) dX9_column_5 ?_
  refine Z.iadd F dX9_column_8 ?_
  refine Z.bipush F (v := (34 : Int32)) (by decide) dX9_column_9 ?_
  refine Z.iload_n F 1 rfl dX9_column_11 ?_
  refine Z.imul F dX9_column_12 ?_
  refine Z.iadd F dX9_column_13 ?_
  exact Z.iret F dX9_column_14
theorem clX9_147 (F : ZF p R s m args meth c cc nL "SafeBucketsModel" nm ret D A al sz mc ms fr lo) {x0 : Int32} {x1 : Int32} {K : Int32 → ZM → Prop} (hR : 0 + 1 ≤ fr ∧ 8 + (2 + 11) + 0 ≤ lo) (hst4 : zlw st) (hdg : decode cc pc = .ok (.invokestatic 147, 3)) (k : ∀ r, ZW p l e R s m args below meth c Q nL D A al n0 (K r) (pc + 3) L (.int r :: st)) : ZW p l e R s m args below meth c Q nL D A al n0 (f_X9_column x0 x1 K) pc L (.int x1 :: .int x0 :: st) :=
  Z.ri0 _ (fun μ H locs cells slots ls hI h hP => Z.S0 F hI (n := 2) hP (k_X9_column l x0 x1 D A (zX μ, zC μ, zS μ) H.size K μ) q1788 q1789 q126 q1790 (by decide +kernel) rfl h.1 hst4 hR rfl hdg) k
set_option maxHeartbeats 4000000 in
theorem k_X9_drift (l : Launch) (x0 : Int32) (x1 : Int32) : ZCi l yX9_drift (ws_ yX9_drift cX9_drift 2 (some .int)) 1 21 0 0 false [.int x0, .int x1] (f_X9_drift x0 x1) := by
  refine Z.metI (by decide +kernel) (fun h => ⟨rfl, rfl⟩) (L0 := [(0, .int x0), (1, .int x1)]) (by first | (rw [zla_i, zla_i, zla_0]; done) | (rw [zla_i, zla_i, zla_0]; rfl)) (by rw [zsl_i, zsl_i, zsl_0]; exact Nat.le_of_ble_eq_true rfl) ?_
  intro p e R s m args below meth c D A n0 sz k F
  have F : ZF p R s m args meth c cX9_drift 2 "SafeBucketsModel" "drift" (some .int) D A false sz 0 0 1 21 := F
  unfold f_X9_drift
  refine Z.iload_n F 0 rfl dX9_drift_0 ?_
  refine Z.iload_n F 1 rfl dX9_drift_1 ?_
  refine clX9_147 F ⟨Nat.le_of_ble_eq_true rfl, Nat.le_of_ble_eq_true rfl⟩ (zlw4 (Nat.le_of_ble_eq_true rfl)) dX9_drift_2 (fun r2 => ?_)
  refine Z.bipush F (v := (34 : Int32)) (by decide) dX9_drift_5 ?_
  refine Z.iadd F dX9_drift_7 ?_
  refine Z.iconst F (v := (1 : Int32)) (by decide) dX9_drift_8 ?_
  refine Z.isub F dX9_drift_9 ?_
  exact Z.iret F dX9_drift_10
set_option maxHeartbeats 4000000 in
theorem k_X9_put (l : Launch) (h0 : Nat) (x1 : Int32) (x2 : Int32) (x3 : Int32) (x4 : Int32) (x5 : Int32) : ZCv l yX9_put (ws_ yX9_put cX9_put 6 none) 1 21 0 0 false [zv h0, .int x1, .int x2, .int x3, .int x4, .int x5] (f_X9_put h0 x1 x2 x3 x4 x5) := by
  refine Z.metV (by decide +kernel) (fun h => ⟨rfl, rfl⟩) (L0 := [(0, zv h0), (1, .int x1), (2, .int x2), (3, .int x3), (4, .int x4), (5, .int x5)]) (by first | (rw [zla_v, zla_i, zla_i, zla_i, zla_i, zla_i, zla_0]; done) | (rw [zla_v, zla_i, zla_i, zla_i, zla_i, zla_i, zla_0]; rfl)) (by rw [zsl_v, zsl_i, zsl_i, zsl_i, zsl_i, zsl_i, zsl_0]; exact Nat.le_of_ble_eq_true rfl) ?_
  intro p e R s m args below meth c D A n0 sz k F
  have F : ZF p R s m args meth c cX9_put 6 "SafeBucketsModel" "put" none D A false sz 0 0 1 21 := F
  unfold f_X9_put
  refine Z.aload_n F 0 rfl dX9_put_0 ?_
  refine gfX9_34 F dX9_put_1 (fun g1 => ?_)
  refine Z.iload_n F 1 rfl dX9_put_4 ?_
  refine Z.iload_n F 2 rfl dX9_put_5 ?_
  refine clX9_147 F ⟨Nat.le_of_ble_eq_true rfl, Nat.le_of_ble_eq_true rfl⟩ (zlw4 (Nat.le_of_ble_eq_true rfl)) dX9_put_6 (fun r6 => ?_)
  refine Z.iconst F (v := (1 : Int32)) (by decide) dX9_put_9 ?_
  refine Z.iadd F dX9_put_10 ?_
  refine Z.iconst F (v := (4 : Int32)) (by decide) dX9_put_11 ?_
  refine Z.iload_n F 3 rfl dX9_put_12 ?_
  refine Z.imul F dX9_put_13 ?_
  refine Z.iadd F dX9_put_14 ?_
  refine Z.iload F 4 rfl dX9_put_15 ?_
  refine Z.iadd F dX9_put_17 ?_
  refine Z.iload F 5 rfl dX9_put_18 ?_
  refine Z.iast F dX9_put_20 ?_
  exact Z.vret F dX9_put_21
theorem clX9_191 (F : ZF p R s m args meth c cc nL "SafeBucketsModel" nm ret D A al sz mc ms fr lo) {h0 : Nat} {x1 : Int32} {x2 : Int32} {K : ZM → Prop} (hR : 2 + 1 ≤ fr ∧ 8 + (4 + 11) + 48 ≤ lo) (hst4 : zlw st) (hdg : decode cc pc = .ok (.invokevirtual 191, 3)) (k : ZW p l e R s m args below meth c Q nL D A al n0 K (pc + 3) L st) : ZW p l e R s m args below meth c Q nL D A al n0 (zat 7 h0 (f_X9_layCounts h0 x1 x2 K)) pc L (.int x2 :: .int x1 :: zv h0 :: st) :=
  Z.rv0 _ (fun μ H locs cells slots ls hI h hP => Z.V0 F hI (n := 2) (ci := 6) rfl (by decide) hP.1 hP.2 (k_X9_layCounts l h0 x1 x2 D A (zX μ, zC μ, zS μ) H.size K μ) q1761 q1763 qs59 q126 q1764 (by decide +kernel) rfl h.1 hst4 hR rfl hdg) k
theorem gfX9_22 (F : ZF p R s m args meth c cc nL "SafeBucketsModel" nm ret D A al sz mc ms fr lo) {z : Nat} {K : Nat → ZM → Prop} (hdg : decode cc pc = .ok (.getfield 22, 3)) (k : ∀ u, ZW p l e R s m args below meth c Q nL D A al n0 (K u) (pc + 3) L (zv u :: st)) : ZW p l e R s m args below meth c Q nL D A al n0 (zgR 7 z 10 K) pc L (zv z :: st) :=
  Z.getR F (ref := "SafeBucketsModel") in_X9 (ci := 6) rfl (by decide) (kf := 10) (by decide) q1580 (fun _ h => h) rfl hdg k
theorem clX9_196 (F : ZF p R s m args meth c cc nL "SafeBucketsModel" nm ret D A al sz mc ms fr lo) {h0 : Nat} {x1 : Int32} {K : ZM → Prop} (hR : 2 + 1 ≤ fr ∧ 8 + (5 + 11) + 55 ≤ lo) (hst4 : zlw st) (hdg : decode cc pc = .ok (.invokevirtual 196, 3)) (k : ZW p l e R s m args below meth c Q nL D A al n0 K (pc + 3) L st) : ZW p l e R s m args below meth c Q nL D A al n0 (zat 7 h0 (f_X9_layBorders h0 x1 K)) pc L (.int x1 :: zv h0 :: st) :=
  Z.rv0 _ (fun μ H locs cells slots ls hI h hP => Z.V0 F hI (n := 1) (ci := 6) rfl (by decide) hP.1 hP.2 (k_X9_layBorders l h0 x1 D A (zX μ, zC μ, zS μ) H.size K μ) q1770 q1772 qs61 q126 q1773 (by decide +kernel) rfl h.1 hst4 hR rfl hdg) k
theorem clX9_199 (F : ZF p R s m args meth c cc nL "SafeBucketsModel" nm ret D A al sz mc ms fr lo) {x0 : Int32} {x1 : Int32} {K : Int32 → ZM → Prop} (hR : 1 + 1 ≤ fr ∧ 8 + (2 + 11) + 21 ≤ lo) (hst4 : zlw st) (hdg : decode cc pc = .ok (.invokestatic 199, 3)) (k : ∀ r, ZW p l e R s m args below meth c Q nL D A al n0 (K r) (pc + 3) L (.int r :: st)) : ZW p l e R s m args below meth c Q nL D A al n0 (f_X9_drift x0 x1 K) pc L (.int x1 :: .int x0 :: st) :=
  Z.ri0 _ (fun μ H locs cells slots ls hI h hP => Z.S0 F hI (n := 2) hP (k_X9_drift l x0 x1 D A (zX μ, zC μ, zS μ) H.size K μ) q1791 q1792 q126 q1793 (by decide +kernel) rfl h.1 hst4 hR rfl hdg) k
theorem clX9_205 (F : ZF p R s m args meth c cc nL "SafeBucketsModel" nm ret D A al sz mc ms fr lo) {h0 : Nat} {x1 : Int32} {x2 : Int32} {x3 : Int32} {x4 : Int32} {x5 : Int32} {K : ZM → Prop} (hR : 1 + 1 ≤ fr ∧ 8 + (6 + 11) + 21 ≤ lo) (hst4 : zlw st) (hdg : decode cc pc = .ok (.invokevirtual 205, 3)) (k : ZW p l e R s m args below meth c Q nL D A al n0 K (pc + 3) L st) : ZW p l e R s m args below meth c Q nL D A al n0 (zat 7 h0 (f_X9_put h0 x1 x2 x3 x4 x5 K)) pc L (.int x5 :: .int x4 :: .int x3 :: .int x2 :: .int x1 :: zv h0 :: st) :=
  Z.rv0 _ (fun μ H locs cells slots ls hI h hP => Z.V0 F hI (n := 5) (ci := 6) rfl (by decide) hP.1 hP.2 (k_X9_put l h0 x1 x2 x3 x4 x5 D A (zX μ, zC μ, zS μ) H.size K μ) q1795 q1797 qs64 q126 q1798 (by decide +kernel) rfl h.1 hst4 hR rfl hdg) k
set_option maxHeartbeats 4000000 in
theorem k_X9_buildNow (l : Launch) (h0 : Nat) (x1 : Int32) (x2 : Int32) : ZCv l yX9_buildNow (ws_ yX9_buildNow cX9_buildNow 8 none) 3 79 0 0 false [zv h0, .int x1, .int x2] (f_X9_buildNow h0 x1 x2) := by
  refine Z.metV (by decide +kernel) (fun h => ⟨rfl, rfl⟩) (L0 := [(0, zv h0), (1, .int x1), (2, .int x2)]) (by first | (rw [zla_v, zla_i, zla_i, zla_0]; done) | (rw [zla_v, zla_i, zla_i, zla_0]; rfl)) (by rw [zsl_v, zsl_i, zsl_i, zsl_0]; exact Nat.le_of_ble_eq_true rfl) ?_
  intro p e R s m args below meth c D A n0 sz k F
  have F : ZF p R s m args meth c cX9_buildNow 8 "SafeBucketsModel" "buildNow" none D A false sz 0 0 3 79 := F
  unfold f_X9_buildNow
  refine Z.aload_n F 0 rfl dX9_buildNow_0 ?_
  refine Z.iload_n F 1 rfl dX9_buildNow_1 ?_
  refine Z.iload_n F 2 rfl dX9_buildNow_2 ?_
  refine clX9_191 F ⟨Nat.le_of_ble_eq_true rfl, Nat.le_of_ble_eq_true rfl⟩ (zlw4 (Nat.le_of_ble_eq_true rfl)) dX9_buildNow_3 ?_
  refine Z.aload_n F 0 rfl dX9_buildNow_6 ?_
  refine gfX9_22 F dX9_buildNow_7 (fun g7 => ?_)
  refine Z.iconst F (v := (0 : Int32)) (by decide) dX9_buildNow_10 ?_
  refine Z.iald F dX9_buildNow_11 (fun g11 => ?_)
  refine Z.aload_n F 0 rfl dX9_buildNow_12 ?_
  refine gfX9_25 F dX9_buildNow_13 (fun g13 => ?_)
  refine Z.iload_n F 1 rfl dX9_buildNow_16 ?_
  refine Z.iald F dX9_buildNow_17 (fun g17 => ?_)
  refine Z.mmin F q1769 (Nat.le_of_ble_eq_true rfl) (Nat.le_of_ble_eq_true rfl) (zlw4 (Nat.le_of_ble_eq_true rfl)) dX9_buildNow_18 ?_
  refine Z.istore_n F (L0 := [(0, zv h0), (1, .int x1), (2, .int x2)]) [0, 1, 2] rfl (zkR rfl (zkI rfl (zkI rfl zkN))) (by decide) dX9_buildNow_21 ?_
  refine Z.aload_n F 1 rfl dX9_buildNow_22 ?_
  refine Z.iload_n F 0 rfl dX9_buildNow_23 ?_
  refine clX9_196 F ⟨Nat.le_of_ble_eq_true rfl, Nat.le_of_ble_eq_true rfl⟩ (zlw4 (Nat.le_of_ble_eq_true rfl)) dX9_buildNow_24 ?_
  refine Z.aload_n F 1 rfl dX9_buildNow_27 ?_
  refine gfX9_34 F dX9_buildNow_28 (fun g28 => ?_)
  refine Z.iload_n F 2 rfl dX9_buildNow_31 ?_
  refine Z.iload_n F 3 rfl dX9_buildNow_32 ?_
  refine clX9_147 F ⟨Nat.le_of_ble_eq_true rfl, Nat.le_of_ble_eq_true rfl⟩ (zlw4 (Nat.le_of_ble_eq_true rfl)) dX9_buildNow_33 (fun r33 => ?_)
  refine Z.iload_n F 0 rfl dX9_buildNow_36 ?_
  refine Z.iast F dX9_buildNow_37 ?_
  refine Z.aload_n F 1 rfl dX9_buildNow_38 ?_
  refine gfX9_34 F dX9_buildNow_39 (fun g39 => ?_)
  refine Z.iload_n F 2 rfl dX9_buildNow_42 ?_
  refine Z.iload_n F 3 rfl dX9_buildNow_43 ?_
  refine clX9_199 F ⟨Nat.le_of_ble_eq_true rfl, Nat.le_of_ble_eq_true rfl⟩ (zlw4 (Nat.le_of_ble_eq_true rfl)) dX9_buildNow_44 (fun r44 => ?_)
  refine Z.iconst F (v := (0 : Int32)) (by decide) dX9_buildNow_47 ?_
  refine Z.iast F dX9_buildNow_48 ?_
  refine Z.iconst F (v := (0 : Int32)) (by decide) dX9_buildNow_49 ?_
  refine Z.istore F (L0 := [(3, .int (if g17 < g11 then g17 else g11)), (0, zv h0), (1, .int x1), (2, .int x2)]) [0, 1, 2, 3] rfl (zkI rfl (zkR rfl (zkI rfl (zkI rfl zkN)))) (by decide) dX9_buildNow_50 ?_
  refine Z.sub [2, 3, 4, 1, 0] rfl ?_
  refine Z.w1 (Lf := fun p52l4 => [(0, zv h0), (1, .int x1), (2, .int x2), (3, .int (if g17 < g11 then g17 else g11)), (4, .int p52l4)]) (sf := fun p52l4 => []) (fun r52 hr52 p52l4 => ?_) (0 : Int32)
  refine Z.iload F 4 rfl dX9_buildNow_52 ?_
  refine Z.iload_n F 3 rfl dX9_buildNow_54 ?_
  refine Z.icmp_ge F (tgt := 183) dX9_buildNow_55 (by decide) ?_ ?_
  · exact Z.vret F dX9_buildNow_183
  refine Z.iconst F (v := (0 : Int32)) (by decide) dX9_buildNow_58 ?_
  refine Z.istore F (L0 := [(0, zv h0), (1, .int x1), (2, .int x2), (3, .int (if g17 < g11 then g17 else g11)), (4, .int p52l4)]) [0, 1, 2, 3, 4] rfl (zkR rfl (zkI rfl (zkI rfl (zkI rfl (zkI rfl zkN))))) (by decide) dX9_buildNow_59 ?_
  refine Z.iconst F (v := (0 : Int32)) (by decide) dX9_buildNow_61 ?_
  refine Z.istore F (L0 := [(5, .int (0 : Int32)), (0, zv h0), (1, .int x1), (2, .int x2), (3, .int (if g17 < g11 then g17 else g11)), (4, .int p52l4)]) [0, 1, 2, 3, 4, 5] rfl (zkI rfl (zkR rfl (zkI rfl (zkI rfl (zkI rfl (zkI rfl zkN)))))) (by decide) dX9_buildNow_62 ?_
  refine Z.aload_n F 2 rfl dX9_buildNow_64 ?_
  refine gfX9_47 F dX9_buildNow_65 (fun g65 => ?_)
  refine Z.iload F 6 rfl dX9_buildNow_68 ?_
  refine Z.iald F dX9_buildNow_70 (fun g70 => ?_)
  refine Z.istore F (L0 := [(6, .int (0 : Int32)), (5, .int (0 : Int32)), (0, zv h0), (1, .int x1), (2, .int x2), (3, .int (if g17 < g11 then g17 else g11)), (4, .int p52l4)]) [0, 1, 2, 3, 4, 5, 6] rfl (zkI rfl (zkI rfl (zkR rfl (zkI rfl (zkI rfl (zkI rfl (zkI rfl zkN))))))) (by decide) dX9_buildNow_71 ?_
  refine Z.jn3 (J := _) (fun p119l4 p119l5 p119l6 => [(0, zv h0), (1, .int x1), (2, .int x2), (3, .int (if g17 < g11 then g17 else g11)), (4, .int p119l4), (5, .int p119l5), (6, .int p119l6)]) (fun p119l4 p119l5 p119l6 => []) 119 (fun p119l4 p119l5 p119l6 => ?_) (fun j119 hj119 => ?_)
  · refine Z.aload_n F 0 rfl dX9_buildNow_119 ?_
    refine Z.iload_n F 1 rfl dX9_buildNow_120 ?_
    refine Z.iload_n F 2 rfl dX9_buildNow_121 ?_
    refine Z.iload F 4 rfl dX9_buildNow_122 ?_
    refine Z.iconst F (v := (0 : Int32)) (by decide) dX9_buildNow_124 ?_
    refine Z.aload_n F 0 rfl dX9_buildNow_125 ?_
    refine gfX9_47 F dX9_buildNow_126 (fun g126 => ?_)
    refine Z.iload F 4 rfl dX9_buildNow_129 ?_
    refine Z.iald F dX9_buildNow_131 (fun g131 => ?_)
    refine clX9_205 F ⟨Nat.le_of_ble_eq_true rfl, Nat.le_of_ble_eq_true rfl⟩ (zlw4 (Nat.le_of_ble_eq_true rfl)) dX9_buildNow_132 ?_
    refine Z.aload_n F 0 rfl dX9_buildNow_135 ?_
    refine Z.iload_n F 1 rfl dX9_buildNow_136 ?_
    refine Z.iload_n F 2 rfl dX9_buildNow_137 ?_
    refine Z.iload F 4 rfl dX9_buildNow_138 ?_
    refine Z.iconst F (v := (1 : Int32)) (by decide) dX9_buildNow_140 ?_
    refine Z.aload_n F 0 rfl dX9_buildNow_141 ?_
    refine gfX9_47 F dX9_buildNow_142 (fun g142 => ?_)
    refine Z.iload F 4 rfl dX9_buildNow_145 ?_
    refine Z.iconst F (v := (1 : Int32)) (by decide) dX9_buildNow_147 ?_
    refine Z.iadd F dX9_buildNow_148 ?_
    refine Z.iald F dX9_buildNow_149 (fun g149 => ?_)
    refine Z.iconst F (v := (1 : Int32)) (by decide) dX9_buildNow_150 ?_
    refine Z.isub F dX9_buildNow_151 ?_
    refine clX9_205 F ⟨Nat.le_of_ble_eq_true rfl, Nat.le_of_ble_eq_true rfl⟩ (zlw4 (Nat.le_of_ble_eq_true rfl)) dX9_buildNow_152 ?_
    refine Z.aload_n F 0 rfl dX9_buildNow_155 ?_
    refine Z.iload_n F 1 rfl dX9_buildNow_156 ?_
    refine Z.iload_n F 2 rfl dX9_buildNow_157 ?_
    refine Z.iload F 4 rfl dX9_buildNow_158 ?_
    refine Z.iconst F (v := (2 : Int32)) (by decide) dX9_buildNow_160 ?_
    refine Z.iload F 5 rfl dX9_buildNow_161 ?_
    refine clX9_205 F ⟨Nat.le_of_ble_eq_true rfl, Nat.le_of_ble_eq_true rfl⟩ (zlw4 (Nat.le_of_ble_eq_true rfl)) dX9_buildNow_163 ?_
    refine Z.aload_n F 0 rfl dX9_buildNow_166 ?_
    refine Z.iload_n F 1 rfl dX9_buildNow_167 ?_
    refine Z.iload_n F 2 rfl dX9_buildNow_168 ?_
    refine Z.iload F 4 rfl dX9_buildNow_169 ?_
    refine Z.iconst F (v := (3 : Int32)) (by decide) dX9_buildNow_171 ?_
    refine Z.iload F 6 rfl dX9_buildNow_172 ?_
    refine clX9_205 F ⟨Nat.le_of_ble_eq_true rfl, Nat.le_of_ble_eq_true rfl⟩ (zlw4 (Nat.le_of_ble_eq_true rfl)) dX9_buildNow_174 ?_
    refine Z.iinc F (L0 := [(0, zv h0), (1, .int x1), (2, .int x2), (3, .int (if g17 < g11 then g17 else g11)), (5, .int p119l5), (6, .int p119l6)]) (k0 := 4) (v := (1 : Int32)) rfl (by decide) [0, 1, 2, 3, 5, 6] rfl (zkR rfl (zkI rfl (zkI rfl (zkI rfl (zkI rfl (zkI rfl zkN)))))) (by decide) dX9_buildNow_177 ?_
    refine Z.goto F (tgt := 52) dX9_buildNow_180 (by decide) ?_
    exact Z.sub [1, 2, 3, 4, 0] rfl (hr52 (p119l4 + (1 : Int32)))
  refine Z.sub [3, 4, 5, 6, 7, 2, 1, 0] rfl ?_
  refine Z.w4 (Lf := fun p73l4 p73l5 p73l6 p73l7 => [(0, zv h0), (1, .int x1), (2, .int x2), (3, .int (if g17 < g11 then g17 else g11)), (4, .int p73l4), (5, .int p73l5), (6, .int p73l6), (7, .int p73l7)]) (sf := fun p73l4 p73l5 p73l6 p73l7 => []) (fun r73 hr73 p73l4 p73l5 p73l6 p73l7 => ?_) p52l4 (0 : Int32) (0 : Int32) g70
  refine Z.iload F 7 rfl dX9_buildNow_73 ?_
  refine Z.aload_n F 0 rfl dX9_buildNow_75 ?_
  refine gfX9_47 F dX9_buildNow_76 (fun g76 => ?_)
  refine Z.iload F 4 rfl dX9_buildNow_79 ?_
  refine Z.iconst F (v := (1 : Int32)) (by decide) dX9_buildNow_81 ?_
  refine Z.iadd F dX9_buildNow_82 ?_
  refine Z.iald F dX9_buildNow_83 (fun g83 => ?_)
  refine Z.icmp_ge F (tgt := 119) dX9_buildNow_84 (by decide) ?_ ?_
  · exact Z.sub [0, 1, 2, 3, 4, 5, 6] rfl (hj119 p73l4 p73l5 p73l6)
  refine Z.iload F 5 rfl dX9_buildNow_87 ?_
  refine Z.aload_n F 0 rfl dX9_buildNow_89 ?_
  refine gfX9_40 F dX9_buildNow_90 (fun g90 => ?_)
  refine Z.iload F 7 rfl dX9_buildNow_93 ?_
  refine Z.iald F dX9_buildNow_95 (fun g95 => ?_)
  refine Z.iadd F dX9_buildNow_96 ?_
  refine Z.istore F (L0 := [(0, zv h0), (1, .int x1), (2, .int x2), (3, .int (if g17 < g11 then g17 else g11)), (4, .int p73l4), (6, .int p73l6), (7, .int p73l7)]) [0, 1, 2, 3, 4, 6, 7] rfl (zkR rfl (zkI rfl (zkI rfl (zkI rfl (zkI rfl (zkI rfl (zkI rfl zkN))))))) (by decide) dX9_buildNow_97 ?_
  refine Z.iload F 6 rfl dX9_buildNow_99 ?_
  refine Z.aload_n F 1 rfl dX9_buildNow_101 ?_
  refine gfX9_40 F dX9_buildNow_102 (fun g102 => ?_)
  refine Z.iload F 7 rfl dX9_buildNow_105 ?_
  refine Z.iald F dX9_buildNow_107 (fun g107 => ?_)
  refine Z.mmax F q1794 (Nat.le_of_ble_eq_true rfl) (Nat.le_of_ble_eq_true rfl) (zlw4 (Nat.le_of_ble_eq_true rfl)) dX9_buildNow_108 ?_
  refine Z.istore F (L0 := [(5, .int (p73l5 + g95)), (0, zv h0), (1, .int x1), (2, .int x2), (3, .int (if g17 < g11 then g17 else g11)), (4, .int p73l4), (7, .int p73l7)]) [0, 1, 2, 3, 4, 5, 7] rfl (zkI rfl (zkR rfl (zkI rfl (zkI rfl (zkI rfl (zkI rfl (zkI rfl zkN))))))) (by decide) dX9_buildNow_111 ?_
  refine Z.iinc F (L0 := [(6, .int (if p73l6 < g107 then g107 else p73l6)), (5, .int (p73l5 + g95)), (0, zv h0), (1, .int x1), (2, .int x2), (3, .int (if g17 < g11 then g17 else g11)), (4, .int p73l4)]) (k0 := 7) (v := (1 : Int32)) rfl (by decide) [0, 1, 2, 3, 4, 5, 6] rfl (zkI rfl (zkI rfl (zkR rfl (zkI rfl (zkI rfl (zkI rfl (zkI rfl zkN))))))) (by decide) dX9_buildNow_113 ?_
  refine Z.goto F (tgt := 73) dX9_buildNow_116 (by decide) ?_
  exact Z.sub [3, 4, 5, 6, 7, 2, 1, 0] rfl (hr73 p73l4 (p73l5 + g95) (if p73l6 < g107 then g107 else p73l6) (p73l7 + (1 : Int32)))
end ZWalk
