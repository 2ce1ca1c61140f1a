section ZWalk
variable {p : Program} {l : Launch} {e : Env} {R : Room} {s : State} {m : MethodId} {args : Array Value} {below : List Frame} {meth : Method} {c : Code} {Q : State → Prop} {nL : Nat} {D : ZD} {A : Nat → Prop} {al : Bool} {n0 : Nat × Nat × Nat} {cc : ByteArray} {nm : String} {ret : Option FieldType} {sz mc ms fr lo : Nat}
variable {P : ZM → Prop} {pc : Nat} {L : List (Nat × Value)} {st : List Value}
theorem clX9_105 (F : ZF p R s m args meth c cc nL "SafeBucketsModel" nm ret D A al sz mc ms fr lo) {x0 : Int32} {x1 : Int32} {K : Int32 → ZM → Prop} (hR : 0 + 1 ≤ fr ∧ 8 + (2 + 11) + 0 ≤ lo) (hst4 : zlw st) (hdg : decode cc pc = .ok (.invokestatic 105, 3)) (k : ∀ r, ZW p l e R s m args below meth c Q nL D A al n0 (K r) (pc + 3) L (.int r :: st)) : ZW p l e R s m args below meth c Q nL D A al n0 (f_X9_itemOf x0 x1 K) pc L (.int x1 :: .int x0 :: st) :=
  Z.ri0 _ (fun μ H locs cells slots ls hI h hP => Z.S0 F hI (n := 2) hP (k_X9_itemOf l x0 x1 D A (zX μ, zC μ, zS μ) H.size K μ) q1711 q1712 q126 q1713 (by decide +kernel) rfl h.1 hst4 hR rfl hdg) k
theorem clX9_108 (F : ZF p R s m args meth c cc nL "SafeBucketsModel" nm ret D A al sz mc ms fr lo) {x0 : Int32} {x1 : Int32} {K : Int32 → ZM → Prop} (hR : 0 + 1 ≤ fr ∧ 8 + (2 + 11) + 0 ≤ lo) (hst4 : zlw st) (hdg : decode cc pc = .ok (.invokestatic 108, 3)) (k : ∀ r, ZW p l e R s m args below meth c Q nL D A al n0 (K r) (pc + 3) L (.int r :: st)) : ZW p l e R s m args below meth c Q nL D A al n0 (f_X9_has x0 x1 K) pc L (.int x1 :: .int x0 :: st) :=
  Z.ri0 _ (fun μ H locs cells slots ls hI h hP => Z.S0 F hI (n := 2) hP (k_X9_has l x0 x1 D A (zX μ, zC μ, zS μ) H.size K μ) q1714 q1715 q126 q1716 (by decide +kernel) rfl h.1 hst4 hR rfl hdg) k
theorem clX9_112 (F : ZF p R s m args meth c cc nL "SafeBucketsModel" nm ret D A al sz mc ms fr lo) {x0 : Int32} {x1 : Int32} {K : Int32 → ZM → Prop} (hR : 0 + 1 ≤ fr ∧ 8 + (2 + 11) + 0 ≤ lo) (hst4 : zlw st) (hdg : decode cc pc = .ok (.invokestatic 112, 3)) (k : ∀ r, ZW p l e R s m args below meth c Q nL D A al n0 (K r) (pc + 3) L (.int r :: st)) : ZW p l e R s m args below meth c Q nL D A al n0 (f_X9_lowest x0 x1 K) pc L (.int x1 :: .int x0 :: st) :=
  Z.ri0 _ (fun μ H locs cells slots ls hI h hP => Z.S0 F hI (n := 2) hP (k_X9_lowest l x0 x1 D A (zX μ, zC μ, zS μ) H.size K μ) q1717 q1718 q126 q1719 (by decide +kernel) rfl h.1 hst4 hR rfl hdg) k
theorem clX9_115 (F : ZF p R s m args meth c cc nL "SafeBucketsModel" nm ret D A al sz mc ms fr lo) {x0 : Int32} {x1 : Int32} {K : Int32 → ZM → Prop} (hR : 0 + 1 ≤ fr ∧ 8 + (2 + 11) + 0 ≤ lo) (hst4 : zlw st) (hdg : decode cc pc = .ok (.invokestatic 115, 3)) (k : ∀ r, ZW p l e R s m args below meth c Q nL D A al n0 (K r) (pc + 3) L (.int r :: st)) : ZW p l e R s m args below meth c Q nL D A al n0 (f_X9_highest x0 x1 K) pc L (.int x1 :: .int x0 :: st) :=
  Z.ri0 _ (fun μ H locs cells slots ls hI h hP => Z.S0 F hI (n := 2) hP (k_X9_highest l x0 x1 D A (zX μ, zC μ, zS μ) H.size K μ) q1720 q1721 q126 q1722 (by decide +kernel) rfl h.1 hst4 hR rfl hdg) k
theorem clX9_118 (F : ZF p R s m args meth c cc nL "SafeBucketsModel" nm ret D A al sz mc ms fr lo) {h0 : Nat} {x1 : Int32} {x2 : Int32} {x3 : Int32} {K : Int32 → ZM → Prop} (hR : 2 + 1 ≤ fr ∧ 8 + (6 + 11) + 40 ≤ lo) (hst4 : zlw st) (hdg : decode cc pc = .ok (.invokevirtual 118, 3)) (k : ∀ r, ZW p l e R s m args below meth c Q nL D A al n0 (K r) (pc + 3) L (.int r :: st)) : ZW p l e R s m args below meth c Q nL D A al n0 (zat 7 h0 (f_X9_number h0 x1 x2 x3 K)) pc L (.int x3 :: .int x2 :: .int x1 :: zv h0 :: st) :=
  Z.ri0 _ (fun μ H locs cells slots ls hI h hP => Z.V0 F hI (n := 3) (ci := 6) rfl (by decide) hP.1 hP.2 (k_X9_number l h0 x1 x2 x3 D A (zX μ, zC μ, zS μ) H.size K μ) q1723 q1725 qs52 q126 q1726 (by decide +kernel) rfl h.1 hst4 hR rfl hdg) k
theorem clX9_101 (F : ZF p R s m args meth c cc nL "SafeBucketsModel" nm ret D A al sz mc ms fr lo) {x0 : Int32} {x1 : Int32} {K : Int32 → ZM → Prop} (hR : 0 + 1 ≤ fr ∧ 8 + (2 + 11) + 0 ≤ lo) (hst4 : zlw st) (hdg : decode cc pc = .ok (.invokestatic 101, 3)) (k : ∀ r, ZW p l e R s m args below meth c Q nL D A al n0 (K r) (pc + 3) L (.int r :: st)) : ZW p l e R s m args below meth c Q nL D A al n0 (f_X9_usual x0 x1 K) pc L (.int x1 :: .int x0 :: st) :=
  Z.ri0 _ (fun μ H locs cells slots ls hI h hP => Z.S0 F hI (n := 2) hP (k_X9_usual l x0 x1 D A (zX μ, zC μ, zS μ) H.size K μ) q1696 q1697 q126 q1698 (by decide +kernel) rfl h.1 hst4 hR rfl hdg) k
set_option maxHeartbeats 4000000 in
theorem k_X9_items (l : Launch) (h0 : Nat) (x1 : Int32) (h2 : Nat) (x3 : Int32) (x4 : Int32) : ZCv l yX9_items (ws_ yX9_items cX9_items 7 none) 3 65 0 0 false [zv h0, .int x1, zv h2, .int x3, .int x4] (f_X9_items h0 x1 h2 x3 x4) := by
  refine Z.metV (by decide +kernel) (fun h => ⟨rfl, rfl⟩) (L0 := [(0, zv h0), (1, .int x1), (2, zv h2), (3, .int x3), (4, .int x4)]) (by first | (rw [zla_v, zla_i, zla_v, zla_i, zla_i, zla_0]; done) | (rw [zla_v, zla_i, zla_v, zla_i, zla_i, zla_0]; rfl)) (by rw [zsl_v, zsl_i, zsl_v, zsl_i, zsl_i, zsl_0]; exact Nat.le_of_ble_eq_true rfl) ?_
  intro p e R s m args below meth c D A n0 sz k F
  have F : ZF p R s m args meth c cX9_items 7 "SafeBucketsModel" "items" none D A false sz 0 0 3 65 := F
  unfold f_X9_items
  refine Z.iconst F (v := (0 : Int32)) (by decide) dX9_items_0 ?_
  refine Z.istore F (L0 := [(0, zv h0), (1, .int x1), (2, zv h2), (3, .int x3), (4, .int x4)]) [0, 1, 2, 3, 4] rfl (zkR rfl (zkI rfl (zkR rfl (zkI rfl (zkI rfl zkN))))) (by decide) dX9_items_1 ?_
  refine Z.jn0 (J := _) ([(0, zv h0), (1, .int x1), (2, zv h2), (3, .int x3)]) ([]) 28 (?_) (fun j28 hj28 => ?_)
  · refine Z.iconst F (v := (0 : Int32)) (by decide) dX9_items_28 ?_
    refine Z.istore F (L0 := [(0, zv h0), (1, .int x1), (2, zv h2), (3, .int x3)]) [0, 1, 2, 3] rfl (zkR rfl (zkI rfl (zkR rfl (zkI rfl zkN)))) (by decide) dX9_items_29 ?_
    refine Z.iload_n F 2 rfl dX9_items_31 ?_
    refine Z.aload_n F 1 rfl dX9_items_32 ?_
    refine clX9_91 F ⟨Nat.le_of_ble_eq_true rfl, Nat.le_of_ble_eq_true rfl⟩ (zlw4 (Nat.le_of_ble_eq_true rfl)) dX9_items_33 (fun r33 => ?_)
    refine clX9_105 F ⟨Nat.le_of_ble_eq_true rfl, Nat.le_of_ble_eq_true rfl⟩ (zlw4 (Nat.le_of_ble_eq_true rfl)) dX9_items_36 (fun r36 => ?_)
    refine Z.istore F (L0 := [(5, .int (0 : Int32)), (0, zv h0), (1, .int x1), (2, zv h2), (3, .int x3)]) [0, 1, 2, 3, 4] rfl (zkI rfl (zkR rfl (zkI rfl (zkR rfl (zkI rfl zkN))))) (by decide) dX9_items_39 ?_
    refine Z.jn0 (J := _) ([]) ([]) 132 (?_) (fun j132 hj132 => ?_)
    · exact Z.vret F dX9_items_132
    refine Z.sub [2, 3, 4, 5, 1, 0] rfl ?_
    refine Z.w2 (Lf := fun p41l5 p41l6 => [(0, zv h0), (1, .int x1), (2, zv h2), (3, .int x3), (5, .int p41l5), (6, .int p41l6)]) (sf := fun p41l5 p41l6 => []) (fun r41 hr41 p41l5 p41l6 => ?_) (0 : Int32) r36
    refine Z.aload_n F 0 rfl dX9_items_41 ?_
    refine gfX9_88 F dX9_items_42 (fun g42 => ?_)
    refine Z.iconst F (v := (-1 : Int32)) (by decide) dX9_items_45 ?_
    refine Z.icmp_ne F (tgt := 132) dX9_items_46 (by decide) ?_ ?_
    · exact Z.sub [] rfl (hj132)
    refine Z.iload F 5 rfl dX9_items_49 ?_
    refine Z.iconst F (v := (-1 : Int32)) (by decide) dX9_items_51 ?_
    refine Z.icmp_eq F (tgt := 132) dX9_items_52 (by decide) ?_ ?_
    · exact Z.sub [] rfl (hj132)
    refine Z.iload F 4 rfl dX9_items_55 ?_
    refine Z.iload F 5 rfl dX9_items_57 ?_
    refine clX9_108 F ⟨Nat.le_of_ble_eq_true rfl, Nat.le_of_ble_eq_true rfl⟩ (zlw4 (Nat.le_of_ble_eq_true rfl)) dX9_items_59 (fun r59 => ?_)
    refine Z.if_ne F (tgt := 132) dX9_items_62 (by decide) ?_ ?_
    · exact Z.sub [] rfl (hj132)
    refine Z.iload F 4 rfl dX9_items_65 ?_
    refine Z.iconst F (v := (1 : Int32)) (by decide) dX9_items_67 ?_
    refine Z.iload F 5 rfl dX9_items_68 ?_
    refine Z.ishl F dX9_items_70 ?_
    refine Z.ior F dX9_items_71 ?_
    refine Z.istore F (L0 := [(0, zv h0), (1, .int x1), (2, zv h2), (3, .int x3), (6, .int p41l6)]) [0, 1, 2, 3, 5] rfl (zkR rfl (zkI rfl (zkR rfl (zkI rfl (zkI rfl zkN))))) (by decide) dX9_items_72 ?_
    refine Z.aload_n F 1 rfl dX9_items_74 ?_
    refine Z.dup F dX9_items_75 ?_
    refine gfX9_81 F dX9_items_76 (fun g76 => ?_)
    refine Z.iconst F (v := (1 : Int32)) (by decide) dX9_items_79 ?_
    refine Z.iadd F dX9_items_80 ?_
    refine pfX9_81 F dX9_items_81 ?_
    refine Z.aload_n F 3 rfl dX9_items_84 ?_
    refine Z.iload_n F 4 rfl dX9_items_85 ?_
    refine Z.iload F 5 rfl dX9_items_86 ?_
    refine Z.iadd F dX9_items_88 ?_
    refine Z.aload_n F 1 rfl dX9_items_89 ?_
    refine Z.iconst F (v := (3 : Int32)) (by decide) dX9_items_90 ?_
    refine Z.iload_n F 2 rfl dX9_items_91 ?_
    refine Z.iload F 5 rfl dX9_items_92 ?_
    refine clX9_112 F ⟨Nat.le_of_ble_eq_true rfl, Nat.le_of_ble_eq_true rfl⟩ (by simp [zlw, zvcat, zicat, zlcat]) dX9_items_94 (fun r94 => ?_)
    refine Z.iload_n F 2 rfl dX9_items_97 ?_
    refine Z.iload F 5 rfl dX9_items_98 ?_
    refine clX9_115 F ⟨Nat.le_of_ble_eq_true rfl, Nat.le_of_ble_eq_true rfl⟩ (by simp [zlw, zvcat, zicat, zlcat]) dX9_items_100 (fun r100 => ?_)
    refine clX9_118 F ⟨Nat.le_of_ble_eq_true rfl, Nat.le_of_ble_eq_true rfl⟩ (zlw4 (Nat.le_of_ble_eq_true rfl)) dX9_items_103 (fun r103 => ?_)
    refine Z.iast F dX9_items_106 ?_
    refine Z.aload_n F 1 rfl dX9_items_107 ?_
    refine gfX9_88 F dX9_items_108 (fun g108 => ?_)
    refine Z.iconst F (v := (-1 : Int32)) (by decide) dX9_items_111 ?_
    refine Z.jn1 (J := _) (fun p127s0 => [(0, zv h0), (1, .int x1), (2, zv h2), (3, .int x3), (5, .int (p41l5 ||| ((1 : Int32) <<< (p41l6 &&& 31))))]) (fun p127s0 => [.int p127s0]) 127 (fun p127s0 => ?_) (fun j127 hj127 => ?_)
    · refine Z.istore F (L0 := [(0, zv h0), (1, .int x1), (2, zv h2), (3, .int x3), (5, .int (p41l5 ||| ((1 : Int32) <<< (p41l6 &&& 31))))]) [0, 1, 2, 3, 4] rfl (zkR rfl (zkI rfl (zkR rfl (zkI rfl (zkI rfl zkN))))) (by decide) dX9_items_127 ?_
      refine Z.goto F (tgt := 41) dX9_items_129 (by decide) ?_
      exact Z.sub [1, 2, 3, 4, 5, 0] rfl (hr41 (p41l5 ||| ((1 : Int32) <<< (p41l6 &&& 31))) p127s0)
    refine Z.icmp_ne F (tgt := 126) dX9_items_112 (by decide) ?_ ?_
    · refine Z.iconst F (v := (-1 : Int32)) (by decide) dX9_items_126 ?_
      exact Z.sub [1, 2, 3, 4, 0] rfl (hj127 (-1 : Int32))
    refine Z.iload_n F 2 rfl dX9_items_115 ?_
    refine Z.aload_n F 1 rfl dX9_items_116 ?_
    refine clX9_91 F ⟨Nat.le_of_ble_eq_true rfl, Nat.le_of_ble_eq_true rfl⟩ (zlw4 (Nat.le_of_ble_eq_true rfl)) dX9_items_117 (fun r117 => ?_)
    refine clX9_105 F ⟨Nat.le_of_ble_eq_true rfl, Nat.le_of_ble_eq_true rfl⟩ (zlw4 (Nat.le_of_ble_eq_true rfl)) dX9_items_120 (fun r120 => ?_)
    refine Z.goto F (tgt := 127) dX9_items_123 (by decide) ?_
    exact Z.sub [1, 2, 3, 4, 0] rfl (hj127 r120)
  refine Z.sub [1, 2, 3, 4, 5, 0] rfl ?_
  refine Z.w1 (Lf := fun p3l5 => [(0, zv h0), (1, .int x1), (2, zv h2), (3, .int x3), (4, .int x4), (5, .int p3l5)]) (sf := fun p3l5 => []) (fun r3 hr3 p3l5 => ?_) (0 : Int32)
  refine Z.iload F 5 rfl dX9_items_3 ?_
  refine Z.iload F 4 rfl dX9_items_5 ?_
  refine Z.icmp_ge F (tgt := 28) dX9_items_7 (by decide) ?_ ?_
  · exact Z.sub [0, 1, 2, 3] rfl (hj28)
  refine Z.aload_n F 2 rfl dX9_items_10 ?_
  refine Z.iload_n F 3 rfl dX9_items_11 ?_
  refine Z.iload F 5 rfl dX9_items_12 ?_
  refine Z.iadd F dX9_items_14 ?_
  refine Z.iload_n F 1 rfl dX9_items_15 ?_
  refine Z.iload F 5 rfl dX9_items_16 ?_
  refine clX9_101 F ⟨Nat.le_of_ble_eq_true rfl, Nat.le_of_ble_eq_true rfl⟩ (zlw4 (Nat.le_of_ble_eq_true rfl)) dX9_items_18 (fun r18 => ?_)
  refine Z.iast F dX9_items_21 ?_
  refine Z.iinc F (L0 := [(0, zv h0), (1, .int x1), (2, zv h2), (3, .int x3), (4, .int x4)]) (k0 := 5) (v := (1 : Int32)) rfl (by decide) [0, 1, 2, 3, 4] rfl (zkR rfl (zkI rfl (zkR rfl (zkI rfl (zkI rfl zkN))))) (by decide) dX9_items_22 ?_
  refine Z.goto F (tgt := 3) dX9_items_25 (by decide) ?_
  exact Z.sub [1, 2, 3, 4, 5, 0] rfl (hr3 (p3l5 + (1 : Int32)))
theorem gfX9_122 (F : ZF p R s m args meth c cc nL "SafeBucketsModel" nm ret D A al sz mc ms fr lo) {z : Nat} {K : Int32 → ZM → Prop} (hdg : decode cc pc = .ok (.getfield 122, 3)) (k : ∀ u, ZW p l e R s m args below meth c Q nL D A al n0 (K u) (pc + 3) L (.int u :: st)) : ZW p l e R s m args below meth c Q nL D A al n0 (zgI 7 z 8 K) pc L (zv z :: st) :=
  Z.getI F (ref := "SafeBucketsModel") in_X9 (ci := 6) rfl (by decide) (kf := 8) (by decide) q1578 (fun _ h => h) rfl hdg k
theorem gfX9_125 (F : ZF p R s m args meth c cc nL "SafeBucketsModel" nm ret D A al sz mc ms fr lo) {z : Nat} {K : Int32 → ZM → Prop} (hdg : decode cc pc = .ok (.getfield 125, 3)) (k : ∀ u, ZW p l e R s m args below meth c Q nL D A al n0 (K u) (pc + 3) L (.int u :: st)) : ZW p l e R s m args below meth c Q nL D A al n0 (zgI 7 z 9 K) pc L (zv z :: st) :=
  Z.getI F (ref := "SafeBucketsModel") in_X9 (ci := 6) rfl (by decide) (kf := 9) (by decide) q1579 (fun _ h => h) rfl hdg k
theorem gfX9_19 (F : ZF p R s m args meth c cc nL "SafeBucketsModel" nm ret D A al sz mc ms fr lo) {z : Nat} {K : Nat → ZM → Prop} (hdg : decode cc pc = .ok (.getfield 19, 3)) (k : ∀ u, ZW p l e R s m args below meth c Q nL D A al n0 (K u) (pc + 3) L (zv u :: st)) : ZW p l e R s m args below meth c Q nL D A al n0 (zgR 7 z 7 K) pc L (zv z :: st) :=
  Z.getR F (ref := "SafeBucketsModel") in_X9 (ci := 6) rfl (by decide) (kf := 7) (by decide) q1577 (fun _ h => h) rfl hdg k
theorem gfX9_16 (F : ZF p R s m args meth c cc nL "SafeBucketsModel" nm ret D A al sz mc ms fr lo) {z : Nat} {K : Nat → ZM → Prop} (hdg : decode cc pc = .ok (.getfield 16, 3)) (k : ∀ u, ZW p l e R s m args below meth c Q nL D A al n0 (K u) (pc + 3) L (zv u :: st)) : ZW p l e R s m args below meth c Q nL D A al n0 (zgR 7 z 6 K) pc L (zv z :: st) :=
  Z.getR F (ref := "SafeBucketsModel") in_X9 (ci := 6) rfl (by decide) (kf := 6) (by decide) q1576 (fun _ h => h) rfl hdg k
set_option maxHeartbeats 4000000 in
theorem k_X9_isWhole (l : Launch) (h0 : Nat) : ZCi l yX9_isWhole (ws_ yX9_isWhole cX9_isWhole 4 (some .boolean)) 0 0 0 0 false [zv h0] (f_X9_isWhole h0) := by
  refine Z.metZ (by decide +kernel) (fun h => ⟨rfl, rfl⟩) (L0 := [(0, zv h0)]) (by first | (rw [zla_v, zla_0]; done) | (rw [zla_v, zla_0]; rfl)) (by rw [zsl_v, zsl_0]; exact Nat.le_of_ble_eq_true rfl) ?_
  intro p e R s m args below meth c D A n0 sz k F
  have F : ZF p R s m args meth c cX9_isWhole 4 "SafeBucketsModel" "isWhole" (some .boolean) D A false sz 0 0 0 0 := F
  unfold f_X9_isWhole
  refine Z.aload_n F 0 rfl dX9_isWhole_0 ?_
  refine gfX9_122 F dX9_isWhole_1 (fun g1 => ?_)
  refine Z.jn1 (J := _) (fun p12s0 => [(0, zv h0)]) (fun p12s0 => [.int p12s0]) 12 (fun p12s0 => ?_) (fun j12 hj12 => ?_)
  · refine Z.istore_n F (L0 := [(0, zv h0)]) [0] rfl (zkR rfl zkN) (by decide) dX9_isWhole_12 ?_
    refine Z.iconst F (v := (0 : Int32)) (by decide) dX9_isWhole_13 ?_
    refine Z.istore_n F (L0 := [(1, .int p12s0), (0, zv h0)]) [0, 1] rfl (zkI rfl (zkR rfl zkN)) (by decide) dX9_isWhole_14 ?_
    refine Z.jn1 (J := _) (fun p96l1 => [(1, .int p96l1)]) (fun p96l1 => []) 96 (fun p96l1 => ?_) (fun j96 hj96 => ?_)
    · refine Z.iload_n F 0 rfl dX9_isWhole_96 ?_
      exact Z.zret F dX9_isWhole_97
    refine Z.sub [2, 1, 0] rfl ?_
    refine Z.w2 (Lf := fun p15l1 p15l2 => [(0, zv h0), (1, .int p15l1), (2, .int p15l2)]) (sf := fun p15l1 p15l2 => []) (fun r15 hr15 p15l1 p15l2 => ?_) p12s0 (0 : Int32)
    refine Z.iload_n F 2 rfl dX9_isWhole_15 ?_
    refine Z.aload_n F 0 rfl dX9_isWhole_16 ?_
    refine gfX9_125 F dX9_isWhole_17 (fun g17 => ?_)
    refine Z.icmp_ge F (tgt := 96) dX9_isWhole_20 (by decide) ?_ ?_
    · exact Z.sub [1] rfl (hj96 p15l1)
    refine Z.iload_n F 1 rfl dX9_isWhole_23 ?_
    refine Z.if_eq F (tgt := 96) dX9_isWhole_24 (by decide) ?_ ?_
    · exact Z.sub [1] rfl (hj96 p15l1)
    refine Z.aload_n F 0 rfl dX9_isWhole_27 ?_
    refine gfX9_19 F dX9_isWhole_28 (fun g28 => ?_)
    refine Z.iconst F (v := (4 : Int32)) (by decide) dX9_isWhole_31 ?_
    refine Z.iload_n F 2 rfl dX9_isWhole_32 ?_
    refine Z.imul F dX9_isWhole_33 ?_
    refine Z.iconst F (v := (0 : Int32)) (by decide) dX9_isWhole_34 ?_
    refine Z.iadd F dX9_isWhole_35 ?_
    refine Z.iald F dX9_isWhole_36 (fun g36 => ?_)
    refine Z.istore_n F (L0 := [(0, zv h0), (1, .int p15l1), (2, .int p15l2)]) [0, 1, 2] rfl (zkR rfl (zkI rfl (zkI rfl zkN))) (by decide) dX9_isWhole_37 ?_
    refine Z.iload_n F 0 rfl dX9_isWhole_38 ?_
    refine Z.aload_n F 1 rfl dX9_isWhole_39 ?_
    refine gfX9_122 F dX9_isWhole_40 (fun g40 => ?_)
    refine Z.jn1 (J := _) (fun p89s0 => [(0, zv h0), (2, .int p15l2)]) (fun p89s0 => [.int p89s0]) 89 (fun p89s0 => ?_) (fun j89 hj89 => ?_)
    · refine Z.istore_n F (L0 := [(0, zv h0), (2, .int p15l2)]) [0, 1] rfl (zkR rfl (zkI rfl zkN)) (by decide) dX9_isWhole_89 ?_
      refine Z.iinc F (L0 := [(1, .int p89s0), (0, zv h0)]) (k0 := 2) (v := (1 : Int32)) rfl (by decide) [0, 1] rfl (zkI rfl (zkR rfl zkN)) (by decide) dX9_isWhole_90 ?_
      refine Z.goto F (tgt := 15) dX9_isWhole_93 (by decide) ?_
      exact Z.sub [2, 1, 0] rfl (hr15 p89s0 (p15l2 + (1 : Int32)))
    refine Z.jn0 (J := _) ([(0, zv h0), (2, .int p15l2)]) ([]) 88 (?_) (fun j88 hj88 => ?_)
    · refine Z.iconst F (v := (0 : Int32)) (by decide) dX9_isWhole_88 ?_
      exact Z.sub [0, 1] rfl (hj89 (0 : Int32))
    refine Z.icmp_ge F (tgt := 88) dX9_isWhole_43 (by decide) ?_ ?_
    · exact Z.sub [1, 3] rfl (hj88)
    refine Z.aload_n F 1 rfl dX9_isWhole_46 ?_
    refine gfX9_19 F dX9_isWhole_47 (fun g47 => ?_)
    refine Z.iconst F (v := (4 : Int32)) (by decide) dX9_isWhole_50 ?_
    refine Z.iload_n F 3 rfl dX9_isWhole_51 ?_
    refine Z.imul F dX9_isWhole_52 ?_
    refine Z.iconst F (v := (1 : Int32)) (by decide) dX9_isWhole_53 ?_
    refine Z.iadd F dX9_isWhole_54 ?_
    refine Z.iald F dX9_isWhole_55 (fun g55 => ?_)
    refine Z.aload_n F 1 rfl dX9_isWhole_56 ?_
    refine gfX9_16 F dX9_isWhole_57 (fun g57 => ?_)
    refine Z.iload_n F 0 rfl dX9_isWhole_60 ?_
    refine Z.iald F dX9_isWhole_61 (fun g61 => ?_)
    refine Z.icmp_ge F (tgt := 88) dX9_isWhole_62 (by decide) ?_ ?_
    · exact Z.sub [1, 3] rfl (hj88)
    refine Z.aload_n F 1 rfl dX9_isWhole_65 ?_
    refine gfX9_19 F dX9_isWhole_66 (fun g66 => ?_)
    refine Z.iconst F (v := (4 : Int32)) (by decide) dX9_isWhole_69 ?_
    refine Z.iload_n F 3 rfl dX9_isWhole_70 ?_
    refine Z.imul F dX9_isWhole_71 ?_
    refine Z.iconst F (v := (2 : Int32)) (by decide) dX9_isWhole_72 ?_
    refine Z.iadd F dX9_isWhole_73 ?_
    refine Z.iald F dX9_isWhole_74 (fun g74 => ?_)
    refine Z.aload_n F 1 rfl dX9_isWhole_75 ?_
    refine gfX9_16 F dX9_isWhole_76 (fun g76 => ?_)
    refine Z.iload_n F 0 rfl dX9_isWhole_79 ?_
    refine Z.iald F dX9_isWhole_80 (fun g80 => ?_)
    refine Z.icmp_ge F (tgt := 88) dX9_isWhole_81 (by decide) ?_ ?_
    · exact Z.sub [1, 3] rfl (hj88)
    refine Z.iconst F (v := (1 : Int32)) (by decide) dX9_isWhole_84 ?_
    refine Z.goto F (tgt := 89) dX9_isWhole_85 (by decide) ?_
    exact Z.sub [1, 3] rfl (hj89 (1 : Int32))
  refine Z.if_le F (tgt := 11) dX9_isWhole_4 (by decide) ?_ ?_
  · refine Z.iconst F (v := (0 : Int32)) (by decide) dX9_isWhole_11 ?_
    exact Z.sub [0] rfl (hj12 (0 : Int32))
  refine Z.iconst F (v := (1 : Int32)) (by decide) dX9_isWhole_7 ?_
  refine Z.goto F (tgt := 12) dX9_isWhole_8 (by decide) ?_
  exact Z.sub [0] rfl (hj12 (1 : Int32))
theorem pfX9_122 (F : ZF p R s m args meth c cc nL "SafeBucketsModel" nm ret D A al sz mc ms fr lo) {z : Nat} {u : Int32} (hdg : decode cc pc = .ok (.putfield 122, 3)) (k : ZW p l e R s m args below meth c Q nL D A al n0 P (pc + 3) L st) : ZW p l e R s m args below meth c Q nL D A al n0 (zpI 7 z 8 u P) pc L (.int u :: zv z :: st) :=
  Z.putI F (ref := "SafeBucketsModel") in_X9 (ci := 6) rfl (by decide) (kf := 8) (by decide) q1578 (fun _ h => h) tyX9 tyX9_ok nmX9 rfl rfl rfl hdg k
theorem pfX9_125 (F : ZF p R s m args meth c cc nL "SafeBucketsModel" nm ret D A al sz mc ms fr lo) {z : Nat} {u : Int32} (hdg : decode cc pc = .ok (.putfield 125, 3)) (k : ZW p l e R s m args below meth c Q nL D A al n0 P (pc + 3) L st) : ZW p l e R s m args below meth c Q nL D A al n0 (zpI 7 z 9 u P) pc L (.int u :: zv z :: st) :=
  Z.putI F (ref := "SafeBucketsModel") in_X9 (ci := 6) rfl (by decide) (kf := 9) (by decide) q1579 (fun _ h => h) tyX9 tyX9_ok nmX9 rfl rfl rfl hdg k
theorem clX9_132 (F : ZF p R s m args meth c cc nL "SafeBucketsModel" nm ret D A al sz mc ms fr lo) {h0 : Nat} {K : Int32 → ZM → Prop} (hR : 0 + 1 ≤ fr ∧ 8 + (4 + 11) + 0 ≤ lo) (hst4 : zlw st) (hdg : decode cc pc = .ok (.invokevirtual 132, 3)) (k : ∀ r, ZW p l e R s m args below meth c Q nL D A al n0 (K r) (pc + 3) L (.int r :: st)) : ZW p l e R s m args below meth c Q nL D A al n0 (zat 7 h0 (f_X9_isWhole h0 K)) pc L (zv h0 :: st) :=
  Z.ri0 _ (fun μ H locs cells slots ls hI h hP => Z.V0 F hI (n := 0) (ci := 6) rfl (by decide) hP.1 hP.2 (k_X9_isWhole l h0 D A (zX μ, zC μ, zS μ) H.size K μ) q1734 q1736 qs54 q126 q1737 (by decide +kernel) rfl h.1 hst4 hR rfl hdg) k
theorem clX9_128 (F : ZF p R s m args meth c cc nL "SafeBucketsModel" nm ret D A al sz mc ms fr lo) {h0 : Nat} {x1 : Int32} {h2 : Nat} {x3 : Int32} {x4 : Int32} {K : ZM → Prop} (hR : 3 + 1 ≤ fr ∧ 8 + (7 + 11) + 65 ≤ lo) (hst4 : zlw st) (hdg : decode cc pc = .ok (.invokevirtual 128, 3)) (k : ZW p l e R s m args below meth c Q nL D A al n0 K (pc + 3) L st) : ZW p l e R s m args below meth c Q nL D A al n0 (zat 7 h0 (f_X9_items h0 x1 h2 x3 x4 K)) pc L (.int x4 :: .int x3 :: zv h2 :: .int x1 :: zv h0 :: st) :=
  Z.rv0 _ (fun μ H locs cells slots ls hI h hP => Z.V0 F hI (n := 4) (ci := 6) rfl (by decide) hP.1 hP.2 (k_X9_items l h0 x1 h2 x3 x4 D A (zX μ, zC μ, zS μ) H.size K μ) q1707 q1709 qs51 q126 q1710 (by decide +kernel) rfl h.1 hst4 hR rfl hdg) k
theorem gfX9_13 (F : ZF p R s m args meth c cc nL "SafeBucketsModel" nm ret D A al sz mc ms fr lo) {z : Nat} {K : Nat → ZM → Prop} (hdg : decode cc pc = .ok (.getfield 13, 3)) (k : ∀ u, ZW p l e R s m args below meth c Q nL D A al n0 (K u) (pc + 3) L (zv u :: st)) : ZW p l e R s m args below meth c Q nL D A al n0 (zgR 7 z 5 K) pc L (zv z :: st) :=
  Z.getR F (ref := "SafeBucketsModel") in_X9 (ci := 6) rfl (by decide) (kf := 5) (by decide) q1575 (fun _ h => h) rfl hdg k
set_option maxHeartbeats 4000000 in
theorem k_X9_readBook (l : Launch) (h0 : Nat) : ZCi l yX9_readBook (ws_ yX9_readBook cX9_readBook 4 (some .int)) 4 91 0 0 false [zv h0] (f_X9_readBook h0) := by
  refine Z.metI (by decide +kernel) (fun h => ⟨rfl, rfl⟩) (L0 := [(0, zv h0)]) (by first | (rw [zla_v, zla_0]; done) | (rw [zla_v, zla_0]; rfl)) (by rw [zsl_v, zsl_0]; exact Nat.le_of_ble_eq_true rfl) ?_
  intro p e R s m args below meth c D A n0 sz k F
  have F : ZF p R s m args meth c cX9_readBook 4 "SafeBucketsModel" "readBook" (some .int) D A false sz 0 0 4 91 := F
  unfold f_X9_readBook
  refine Z.aload_n F 0 rfl dX9_readBook_0 ?_
  refine Z.iconst F (v := (0 : Int32)) (by decide) dX9_readBook_1 ?_
  refine pfX9_81 F dX9_readBook_2 ?_
  refine Z.aload_n F 0 rfl dX9_readBook_5 ?_
  refine Z.iconst F (v := (-1 : Int32)) (by decide) dX9_readBook_6 ?_
  refine pfX9_88 F dX9_readBook_7 ?_
  refine Z.aload_n F 0 rfl dX9_readBook_10 ?_
  refine Z.iconst F (v := (0 : Int32)) (by decide) dX9_readBook_11 ?_
  refine pfX9_122 F dX9_readBook_12 ?_
  refine Z.aload_n F 0 rfl dX9_readBook_15 ?_
  refine Z.iconst F (v := (0 : Int32)) (by decide) dX9_readBook_16 ?_
  refine pfX9_125 F dX9_readBook_17 ?_
  refine Z.iconst F (v := (0 : Int32)) (by decide) dX9_readBook_20 ?_
  refine Z.istore_n F (L0 := [(0, zv h0)]) [0] rfl (zkR rfl zkN) (by decide) dX9_readBook_21 ?_
  refine Z.iconst F (v := (0 : Int32)) (by decide) dX9_readBook_22 ?_
  refine Z.istore_n F (L0 := [(1, .int (0 : Int32)), (0, zv h0)]) [0, 1] rfl (zkI rfl (zkR rfl zkN)) (by decide) dX9_readBook_23 ?_
  refine Z.jn0 (J := _) ([(0, zv h0), (1, .int (0 : Int32))]) ([]) 47 (?_) (fun j47 hj47 => ?_)
  · refine Z.iconst F (v := (1 : Int32)) (by decide) dX9_readBook_47 ?_
    refine Z.istore_n F (L0 := [(0, zv h0), (1, .int (0 : Int32))]) [0, 1] rfl (zkR rfl (zkI rfl zkN)) (by decide) dX9_readBook_48 ?_
    refine Z.jn0 (J := _) ([(0, zv h0)]) ([]) 255 (?_) (fun j255 hj255 => ?_)
    · refine Z.aload_n F 0 rfl dX9_readBook_255 ?_
      refine gfX9_88 F dX9_readBook_256 (fun g256 => ?_)
      refine Z.iconst F (v := (-1 : Int32)) (by decide) dX9_readBook_259 ?_
      refine Z.jn0 (J := _) ([(0, zv h0)]) ([]) 282 (?_) (fun j282 hj282 => ?_)
      · refine Z.aload_n F 0 rfl dX9_readBook_282 ?_
        refine gfX9_88 F dX9_readBook_283 (fun g283 => ?_)
        exact Z.iret F dX9_readBook_286
      refine Z.icmp_ne F (tgt := 282) dX9_readBook_260 (by decide) ?_ ?_
      · exact Z.sub [0] rfl (hj282)
      refine Z.aload_n F 0 rfl dX9_readBook_263 ?_
      refine clX9_91 F ⟨Nat.le_of_ble_eq_true rfl, Nat.le_of_ble_eq_true rfl⟩ (zlw4 (Nat.le_of_ble_eq_true rfl)) dX9_readBook_264 (fun r264 => ?_)
      refine Z.iconst F (v := (-1 : Int32)) (by decide) dX9_readBook_267 ?_
      refine Z.jn0 (J := _) ([(0, zv h0)]) ([]) 278 (?_) (fun j278 hj278 => ?_)
      · refine Z.aload_n F 0 rfl dX9_readBook_278 ?_
        refine clX9_98 F ⟨Nat.le_of_ble_eq_true rfl, Nat.le_of_ble_eq_true rfl⟩ (zlw4 (Nat.le_of_ble_eq_true rfl)) dX9_readBook_279 ?_
        exact Z.sub [0] rfl (hj282)
      refine Z.icmp_ne F (tgt := 278) dX9_readBook_268 (by decide) ?_ ?_
      · exact Z.sub [0] rfl (hj278)
      refine Z.aload_n F 0 rfl dX9_readBook_271 ?_
      refine clX9_132 F ⟨Nat.le_of_ble_eq_true rfl, Nat.le_of_ble_eq_true rfl⟩ (zlw4 (Nat.le_of_ble_eq_true rfl)) dX9_readBook_272 (fun r272 => ?_)
      refine Z.if_ne F (tgt := 282) dX9_readBook_275 (by decide) ?_ ?_
      · exact Z.sub [0] rfl (hj282)
      exact Z.sub [0] rfl (hj278)
    refine Z.sub [1, 2, 0] rfl ?_
    refine Z.w2 (Lf := fun p49l1 p49l2 => [(0, zv h0), (1, .int p49l1), (2, .int p49l2)]) (sf := fun p49l1 p49l2 => []) (fun r49 hr49 p49l1 p49l2 => ?_) (0 : Int32) (1 : Int32)
    refine Z.iload_n F 2 rfl dX9_readBook_49 ?_
    refine Z.if_eq F (tgt := 255) dX9_readBook_50 (by decide) ?_ ?_
    · exact Z.sub [0] rfl (hj255)
    refine Z.aload_n F 0 rfl dX9_readBook_53 ?_
    refine gfX9_88 F dX9_readBook_54 (fun g54 => ?_)
    refine Z.iconst F (v := (-1 : Int32)) (by decide) dX9_readBook_57 ?_
    refine Z.icmp_ne F (tgt := 255) dX9_readBook_58 (by decide) ?_ ?_
    · exact Z.sub [0] rfl (hj255)
    refine Z.aload_n F 0 rfl dX9_readBook_61 ?_
    refine clX9_91 F ⟨Nat.le_of_ble_eq_true rfl, Nat.le_of_ble_eq_true rfl⟩ (zlw4 (Nat.le_of_ble_eq_true rfl)) dX9_readBook_62 (fun r62 => ?_)
    refine Z.istore_n F (L0 := [(0, zv h0), (1, .int p49l1), (2, .int p49l2)]) [0, 1, 2] rfl (zkR rfl (zkI rfl (zkI rfl zkN))) (by decide) dX9_readBook_65 ?_
    refine Z.iload_n F 0 rfl dX9_readBook_66 ?_
    refine Z.bipush F (v := (115 : Int32)) (by decide) dX9_readBook_67 ?_
    refine Z.jn1 (J := _) (fun p211l1 => [(0, zv h0), (1, .int p211l1)]) (fun p211l1 => []) 211 (fun p211l1 => ?_) (fun j211 hj211 => ?_)
    · refine Z.aload_n F 0 rfl dX9_readBook_211 ?_
      refine gfX9_88 F dX9_readBook_212 (fun g212 => ?_)
      refine Z.iconst F (v := (-1 : Int32)) (by decide) dX9_readBook_215 ?_
      refine Z.jn1 (J := _) (fun p233s0 => [(0, zv h0), (1, .int p211l1)]) (fun p233s0 => [.int p233s0]) 233 (fun p233s0 => ?_) (fun j233 hj233 => ?_)
      · refine Z.istore_n F (L0 := [(0, zv h0), (1, .int p211l1)]) [0, 1] rfl (zkR rfl (zkI rfl zkN)) (by decide) dX9_readBook_233 ?_
        refine Z.aload_n F 1 rfl dX9_readBook_234 ?_
        refine Z.dup F dX9_readBook_235 ?_
        refine gfX9_81 F dX9_readBook_236 (fun g236 => ?_)
        refine Z.iload_n F 0 rfl dX9_readBook_239 ?_
        refine Z.jn1 (J := _) (fun p248s2 => [(0, zv h0), (1, .int p211l1), (2, .int p233s0)]) (fun p248s2 => [.int p248s2, .int g236, zv h0]) 248 (fun p248s2 => ?_) (fun j248 hj248 => ?_)
        · refine Z.iadd F dX9_readBook_248 ?_
          refine pfX9_81 F dX9_readBook_249 ?_
          refine Z.goto F (tgt := 49) dX9_readBook_252 (by decide) ?_
          exact Z.sub [0, 1, 2] rfl (hr49 p211l1 p233s0)
        refine Z.if_eq F (tgt := 247) dX9_readBook_240 (by decide) ?_ ?_
        · refine Z.iconst F (v := (0 : Int32)) (by decide) dX9_readBook_247 ?_
          exact Z.sub [1, 2, 0] rfl (hj248 (0 : Int32))
        refine Z.iconst F (v := (1 : Int32)) (by decide) dX9_readBook_243 ?_
        refine Z.goto F (tgt := 248) dX9_readBook_244 (by decide) ?_
        exact Z.sub [1, 2, 0] rfl (hj248 (1 : Int32))
      refine Z.jn0 (J := _) ([(0, zv h0), (1, .int p211l1)]) ([]) 232 (?_) (fun j232 hj232 => ?_)
      · refine Z.iconst F (v := (0 : Int32)) (by decide) dX9_readBook_232 ?_
        exact Z.sub [0, 1] rfl (hj233 (0 : Int32))
      refine Z.icmp_ne F (tgt := 232) dX9_readBook_216 (by decide) ?_ ?_
      · exact Z.sub [0, 1] rfl (hj232)
      refine Z.aload_n F 0 rfl dX9_readBook_219 ?_
      refine clX9_91 F ⟨Nat.le_of_ble_eq_true rfl, Nat.le_of_ble_eq_true rfl⟩ (zlw4 (Nat.le_of_ble_eq_true rfl)) dX9_readBook_220 (fun r220 => ?_)
      refine Z.bipush F (v := (59 : Int32)) (by decide) dX9_readBook_223 ?_
      refine Z.icmp_ne F (tgt := 232) dX9_readBook_225 (by decide) ?_ ?_
      · exact Z.sub [0, 1] rfl (hj232)
      refine Z.iconst F (v := (1 : Int32)) (by decide) dX9_readBook_228 ?_
      refine Z.goto F (tgt := 233) dX9_readBook_229 (by decide) ?_
      exact Z.sub [0, 1] rfl (hj233 (1 : Int32))
    refine Z.jn0 (J := _) ([(0, zv h0), (1, .int p49l1), (3, .int r62)]) ([]) 102 (?_) (fun j102 hj102 => ?_)
    · refine Z.iload_n F 2 rfl dX9_readBook_102 ?_
      refine Z.bipush F (v := (116 : Int32)) (by decide) dX9_readBook_103 ?_
      refine Z.jn0 (J := _) ([(0, zv h0), (1, .int p49l1), (3, .int r62)]) ([]) 153 (?_) (fun j153 hj153 => ?_)
      · refine Z.iload_n F 2 rfl dX9_readBook_153 ?_
        refine Z.bipush F (v := (114 : Int32)) (by decide) dX9_readBook_154 ?_
        refine Z.jn0 (J := _) ([(0, zv h0), (1, .int p49l1)]) ([]) 207 (?_) (fun j207 hj207 => ?_)
        · refine Z.aload_n F 0 rfl dX9_readBook_207 ?_
          refine clX9_98 F ⟨Nat.le_of_ble_eq_true rfl, Nat.le_of_ble_eq_true rfl⟩ (zlw4 (Nat.le_of_ble_eq_true rfl)) dX9_readBook_208 ?_
          exact Z.sub [0, 1] rfl (hj211 p49l1)
        refine Z.icmp_ne F (tgt := 207) dX9_readBook_156 (by decide) ?_ ?_
        · exact Z.sub [0, 1] rfl (hj207)
        refine Z.aload_n F 0 rfl dX9_readBook_159 ?_
        refine gfX9_125 F dX9_readBook_160 (fun g160 => ?_)
        refine Z.bipush F (v := (20 : Int32)) (by decide) dX9_readBook_163 ?_
        refine Z.icmp_ge F (tgt := 207) dX9_readBook_165 (by decide) ?_ ?_
        · exact Z.sub [0, 1] rfl (hj207)
        refine Z.aload_n F 0 rfl dX9_readBook_168 ?_
        refine Z.dup F dX9_readBook_169 ?_
        refine gfX9_81 F dX9_readBook_170 (fun g170 => ?_)
        refine Z.iconst F (v := (1 : Int32)) (by decide) dX9_readBook_173 ?_
        refine Z.iadd F dX9_readBook_174 ?_
        refine pfX9_81 F dX9_readBook_175 ?_
        refine Z.aload_n F 0 rfl dX9_readBook_178 ?_
        refine Z.iload_n F 2 rfl dX9_readBook_179 ?_
        refine Z.aload_n F 0 rfl dX9_readBook_180 ?_
        refine gfX9_19 F dX9_readBook_181 (fun g181 => ?_)
        refine Z.iconst F (v := (4 : Int32)) (by decide) dX9_readBook_184 ?_
        refine Z.aload_n F 0 rfl dX9_readBook_185 ?_
        refine gfX9_125 F dX9_readBook_186 (fun g186 => ?_)
        refine Z.imul F dX9_readBook_189 ?_
        refine Z.iconst F (v := (4 : Int32)) (by decide) dX9_readBook_190 ?_
        refine clX9_128 F ⟨Nat.le_of_ble_eq_true rfl, Nat.le_of_ble_eq_true rfl⟩ (zlw4 (Nat.le_of_ble_eq_true rfl)) dX9_readBook_191 ?_
        refine Z.aload_n F 0 rfl dX9_readBook_194 ?_
        refine Z.dup F dX9_readBook_195 ?_
        refine gfX9_125 F dX9_readBook_196 (fun g196 => ?_)
        refine Z.iconst F (v := (1 : Int32)) (by decide) dX9_readBook_199 ?_
        refine Z.iadd F dX9_readBook_200 ?_
        refine pfX9_125 F dX9_readBook_201 ?_
        refine Z.goto F (tgt := 211) dX9_readBook_204 (by decide) ?_
        exact Z.sub [0, 1] rfl (hj211 p49l1)
      refine Z.icmp_ne F (tgt := 153) dX9_readBook_105 (by decide) ?_ ?_
      · exact Z.sub [0, 1, 2] rfl (hj153)
      refine Z.aload_n F 0 rfl dX9_readBook_108 ?_
      refine gfX9_122 F dX9_readBook_109 (fun g109 => ?_)
      refine Z.iconst F (v := (3 : Int32)) (by decide) dX9_readBook_112 ?_
      refine Z.icmp_ge F (tgt := 153) dX9_readBook_113 (by decide) ?_ ?_
      · exact Z.sub [0, 1, 2] rfl (hj153)
      refine Z.aload_n F 0 rfl dX9_readBook_116 ?_
      refine Z.dup F dX9_readBook_117 ?_
      refine gfX9_81 F dX9_readBook_118 (fun g118 => ?_)
      refine Z.iconst F (v := (1 : Int32)) (by decide) dX9_readBook_121 ?_
      refine Z.iadd F dX9_readBook_122 ?_
      refine pfX9_81 F dX9_readBook_123 ?_
      refine Z.aload_n F 0 rfl dX9_readBook_126 ?_
      refine Z.iload_n F 2 rfl dX9_readBook_127 ?_
      refine Z.aload_n F 0 rfl dX9_readBook_128 ?_
      refine gfX9_16 F dX9_readBook_129 (fun g129 => ?_)
      refine Z.aload_n F 0 rfl dX9_readBook_132 ?_
      refine gfX9_122 F dX9_readBook_133 (fun g133 => ?_)
      refine Z.iconst F (v := (1 : Int32)) (by decide) dX9_readBook_136 ?_
      refine clX9_128 F ⟨Nat.le_of_ble_eq_true rfl, Nat.le_of_ble_eq_true rfl⟩ (zlw4 (Nat.le_of_ble_eq_true rfl)) dX9_readBook_137 ?_
      refine Z.aload_n F 0 rfl dX9_readBook_140 ?_
      refine Z.dup F dX9_readBook_141 ?_
      refine gfX9_122 F dX9_readBook_142 (fun g142 => ?_)
      refine Z.iconst F (v := (1 : Int32)) (by decide) dX9_readBook_145 ?_
      refine Z.iadd F dX9_readBook_146 ?_
      refine pfX9_122 F dX9_readBook_147 ?_
      refine Z.goto F (tgt := 211) dX9_readBook_150 (by decide) ?_
      exact Z.sub [0, 1] rfl (hj211 p49l1)
    refine Z.icmp_ne F (tgt := 102) dX9_readBook_69 (by decide) ?_ ?_
    · exact Z.sub [1, 2, 0] rfl (hj102)
    refine Z.iload_n F 2 rfl dX9_readBook_72 ?_
    refine Z.if_ne F (tgt := 102) dX9_readBook_73 (by decide) ?_ ?_
    · exact Z.sub [1, 2, 0] rfl (hj102)
    refine Z.iconst F (v := (1 : Int32)) (by decide) dX9_readBook_76 ?_
    refine Z.istore_n F (L0 := [(3, .int r62), (0, zv h0), (2, .int p49l2)]) [0, 1, 3] rfl (zkI rfl (zkR rfl (zkI rfl zkN))) (by decide) dX9_readBook_77 ?_
    refine Z.aload_n F 2 rfl dX9_readBook_78 ?_
    refine Z.dup F dX9_readBook_79 ?_
    refine gfX9_81 F dX9_readBook_80 (fun g80 => ?_)
    refine Z.iconst F (v := (1 : Int32)) (by decide) dX9_readBook_83 ?_
    refine Z.iadd F dX9_readBook_84 ?_
    refine pfX9_81 F dX9_readBook_85 ?_
    refine Z.aload_n F 2 rfl dX9_readBook_88 ?_
    refine Z.iload_n F 1 rfl dX9_readBook_89 ?_
    refine Z.aload_n F 2 rfl dX9_readBook_90 ?_
    refine gfX9_13 F dX9_readBook_91 (fun g91 => ?_)
    refine Z.iconst F (v := (0 : Int32)) (by decide) dX9_readBook_94 ?_
    refine Z.iconst F (v := (3 : Int32)) (by decide) dX9_readBook_95 ?_
    refine clX9_128 F ⟨Nat.le_of_ble_eq_true rfl, Nat.le_of_ble_eq_true rfl⟩ (zlw4 (Nat.le_of_ble_eq_true rfl)) dX9_readBook_96 ?_
    refine Z.goto F (tgt := 211) dX9_readBook_99 (by decide) ?_
    exact Z.sub [2, 0] rfl (hj211 (1 : Int32))
  refine Z.sub [2, 1, 0] rfl ?_
  refine Z.w1 (Lf := fun p24l2 => [(0, zv h0), (1, .int (0 : Int32)), (2, .int p24l2)]) (sf := fun p24l2 => []) (fun r24 hr24 p24l2 => ?_) (0 : Int32)
  refine Z.iload_n F 2 rfl dX9_readBook_24 ?_
  refine Z.iconst F (v := (3 : Int32)) (by decide) dX9_readBook_25 ?_
  refine Z.icmp_ge F (tgt := 47) dX9_readBook_26 (by decide) ?_ ?_
  · exact Z.sub [0, 1] rfl (hj47)
  refine Z.aload_n F 0 rfl dX9_readBook_29 ?_
  refine gfX9_13 F dX9_readBook_30 (fun g30 => ?_)
  refine Z.iload_n F 2 rfl dX9_readBook_33 ?_
  refine Z.bipush F (v := (115 : Int32)) (by decide) dX9_readBook_34 ?_
  refine Z.iload_n F 2 rfl dX9_readBook_36 ?_
  refine clX9_101 F ⟨Nat.le_of_ble_eq_true rfl, Nat.le_of_ble_eq_true rfl⟩ (zlw4 (Nat.le_of_ble_eq_true rfl)) dX9_readBook_37 (fun r37 => ?_)
  refine Z.iast F dX9_readBook_40 ?_
  refine Z.iinc F (L0 := [(0, zv h0), (1, .int (0 : Int32))]) (k0 := 2) (v := (1 : Int32)) rfl (by decide) [0, 1] rfl (zkR rfl (zkI rfl zkN)) (by decide) dX9_readBook_41 ?_
  refine Z.goto F (tgt := 24) dX9_readBook_44 (by decide) ?_
  exact Z.sub [1, 2, 0] rfl (hr24 (p24l2 + (1 : Int32)))
theorem gfX9_31 (F : ZF p R s m args meth c cc nL "SafeBucketsModel" nm ret D A al sz mc ms fr lo) {z : Nat} {K : Nat → ZM → Prop} (hdg : decode cc pc = .ok (.getfield 31, 3)) (k : ∀ u, ZW p l e R s m args below meth c Q nL D A al n0 (K u) (pc + 3) L (zv u :: st)) : ZW p l e R s m args below meth c Q nL D A al n0 (zgR 7 z 14 K) pc L (zv z :: st) :=
  Z.getR F (ref := "SafeBucketsModel") in_X9 (ci := 6) rfl (by decide) (kf := 14) (by decide) q1584 (fun _ h => h) rfl hdg k
theorem gfX9_28 (F : ZF p R s m args meth c cc nL "SafeBucketsModel" nm ret D A al sz mc ms fr lo) {z : Nat} {K : Nat → ZM → Prop} (hdg : decode cc pc = .ok (.getfield 28, 3)) (k : ∀ u, ZW p l e R s m args below meth c Q nL D A al n0 (K u) (pc + 3) L (zv u :: st)) : ZW p l e R s m args below meth c Q nL D A al n0 (zgR 7 z 13 K) pc L (zv z :: st) :=
  Z.getR F (ref := "SafeBucketsModel") in_X9 (ci := 6) rfl (by decide) (kf := 13) (by decide) q1583 (fun _ h => h) rfl hdg k
set_option maxHeartbeats 4000000 in
theorem k_X9_readUnit (l : Launch) (h0 : Nat) (x1 : Int32) (x2 : Int32) : ZCv l yX9_readUnit (ws_ yX9_readUnit cX9_readUnit 6 none) 3 65 0 0 false [zv h0, .int x1, .int x2] (f_X9_readUnit h0 x1 x2) := by
  refine Z.metV (by decide +kernel) (fun h => ⟨rfl, rfl⟩) (L0 := [(0, zv h0), (1, .int x1), (2, .int x2)]) (by first | (rw [zla_v, zla_i, zla_i, zla_0]; done) | (rw [zla_v, zla_i, zla_i, zla_0]; rfl)) (by rw [zsl_v, zsl_i, zsl_i, zsl_0]; exact Nat.le_of_ble_eq_true rfl) ?_
  intro p e R s m args below meth c D A n0 sz k F
  have F : ZF p R s m args meth c cX9_readUnit 6 "SafeBucketsModel" "readUnit" none D A false sz 0 0 3 65 := F
  unfold f_X9_readUnit
  refine Z.aload_n F 0 rfl dX9_readUnit_0 ?_
  refine clX9_91 F ⟨Nat.le_of_ble_eq_true rfl, Nat.le_of_ble_eq_true rfl⟩ (zlw4 (Nat.le_of_ble_eq_true rfl)) dX9_readUnit_1 (fun r1 => ?_)
  refine Z.istore_n F (L0 := [(0, zv h0), (1, .int x1), (2, .int x2)]) [0, 1, 2] rfl (zkR rfl (zkI rfl (zkI rfl zkN))) (by decide) dX9_readUnit_4 ?_
  refine Z.iload_n F 0 rfl dX9_readUnit_5 ?_
  refine Z.bipush F (v := (97 : Int32)) (by decide) dX9_readUnit_6 ?_
  refine Z.jn0 (J := _) ([(0, zv h0)]) ([]) 28 (?_) (fun j28 hj28 => ?_)
  · refine Z.aload_n F 0 rfl dX9_readUnit_28 ?_
    refine clX9_98 F ⟨Nat.le_of_ble_eq_true rfl, Nat.le_of_ble_eq_true rfl⟩ (zlw4 (Nat.le_of_ble_eq_true rfl)) dX9_readUnit_29 ?_
    exact Z.vret F dX9_readUnit_32
  refine Z.jn0 (J := _) ([(0, zv h0), (1, .int x1), (2, .int x2), (3, .int r1)]) ([]) 17 (?_) (fun j17 hj17 => ?_)
  · refine Z.aload_n F 0 rfl dX9_readUnit_17 ?_
    refine gfX9_31 F dX9_readUnit_18 (fun g18 => ?_)
    refine Z.iload_n F 1 rfl dX9_readUnit_21 ?_
    refine Z.iald F dX9_readUnit_22 (fun g22 => ?_)
    refine Z.bipush F (v := (6 : Int32)) (by decide) dX9_readUnit_23 ?_
    refine Z.icmp_ne F (tgt := 33) dX9_readUnit_25 (by decide) ?_ ?_
    · refine Z.iconst F (v := (4 : Int32)) (by decide) dX9_readUnit_33 ?_
      refine Z.bipush F (v := (6 : Int32)) (by decide) dX9_readUnit_34 ?_
      refine Z.iload_n F 1 rfl dX9_readUnit_36 ?_
      refine Z.imul F dX9_readUnit_37 ?_
      refine Z.aload_n F 0 rfl dX9_readUnit_38 ?_
      refine gfX9_31 F dX9_readUnit_39 (fun g39 => ?_)
      refine Z.iload_n F 1 rfl dX9_readUnit_42 ?_
      refine Z.iald F dX9_readUnit_43 (fun g43 => ?_)
      refine Z.iadd F dX9_readUnit_44 ?_
      refine Z.imul F dX9_readUnit_45 ?_
      refine Z.istore F (L0 := [(0, zv h0), (1, .int x1), (2, .int x2), (3, .int r1)]) [0, 1, 2, 3] rfl (zkR rfl (zkI rfl (zkI rfl (zkI rfl zkN)))) (by decide) dX9_readUnit_46 ?_
      refine Z.aload_n F 1 rfl dX9_readUnit_48 ?_
      refine gfX9_28 F dX9_readUnit_49 (fun g49 => ?_)
      refine Z.iload F 0 rfl dX9_readUnit_52 ?_
      refine Z.iload_n F 3 rfl dX9_readUnit_54 ?_
      refine Z.iast F dX9_readUnit_55 ?_
      refine Z.aload_n F 1 rfl dX9_readUnit_56 ?_
      refine gfX9_28 F dX9_readUnit_57 (fun g57 => ?_)
      refine Z.iload F 0 rfl dX9_readUnit_60 ?_
      refine Z.iconst F (v := (1 : Int32)) (by decide) dX9_readUnit_62 ?_
      refine Z.iadd F dX9_readUnit_63 ?_
      refine Z.iload_n F 4 rfl dX9_readUnit_64 ?_
      refine Z.bipush F (v := (97 : Int32)) (by decide) dX9_readUnit_65 ?_
      refine Z.isub F dX9_readUnit_67 ?_
      refine Z.iast F dX9_readUnit_68 ?_
      refine Z.aload_n F 1 rfl dX9_readUnit_69 ?_
      refine gfX9_28 F dX9_readUnit_70 (fun g70 => ?_)
      refine Z.iload F 0 rfl dX9_readUnit_73 ?_
      refine Z.iconst F (v := (3 : Int32)) (by decide) dX9_readUnit_75 ?_
      refine Z.iadd F dX9_readUnit_76 ?_
      refine Z.iconst F (v := (-1 : Int32)) (by decide) dX9_readUnit_77 ?_
      refine Z.iast F dX9_readUnit_78 ?_
      refine Z.aload_n F 1 rfl dX9_readUnit_79 ?_
      refine Z.dup F dX9_readUnit_80 ?_
      refine gfX9_81 F dX9_readUnit_81 (fun g81 => ?_)
      refine Z.iconst F (v := (1 : Int32)) (by decide) dX9_readUnit_84 ?_
      refine Z.iadd F dX9_readUnit_85 ?_
      refine pfX9_81 F dX9_readUnit_86 ?_
      refine Z.aload_n F 1 rfl dX9_readUnit_89 ?_
      refine clX9_91 F ⟨Nat.le_of_ble_eq_true rfl, Nat.le_of_ble_eq_true rfl⟩ (zlw4 (Nat.le_of_ble_eq_true rfl)) dX9_readUnit_90 (fun r90 => ?_)
      refine Z.istore F (L0 := [(4, .int ((4 : Int32) * (((6 : Int32) * x1) + g43))), (0, zv h0), (1, .int x1), (2, .int x2), (3, .int r1)]) [0, 1, 2, 3, 4] rfl (zkI rfl (zkR rfl (zkI rfl (zkI rfl (zkI rfl zkN))))) (by decide) dX9_readUnit_93 ?_
      refine Z.aload_n F 2 rfl dX9_readUnit_95 ?_
      refine gfX9_28 F dX9_readUnit_96 (fun g96 => ?_)
      refine Z.iload F 1 rfl dX9_readUnit_99 ?_
      refine Z.iconst F (v := (2 : Int32)) (by decide) dX9_readUnit_101 ?_
      refine Z.iadd F dX9_readUnit_102 ?_
      refine Z.iload F 0 rfl dX9_readUnit_103 ?_
      refine Z.bipush F (v := (61 : Int32)) (by decide) dX9_readUnit_105 ?_
      refine Z.jn1 (J := _) (fun p148s2 => [(0, zv h0), (1, .int x1), (4, .int ((4 : Int32) * (((6 : Int32) * x1) + g43))), (5, .int r90)]) (fun p148s2 => [.int p148s2, .int (((4 : Int32) * (((6 : Int32) * x1) + g43)) + (2 : Int32)), zv g96]) 148 (fun p148s2 => ?_) (fun j148 hj148 => ?_)
      · refine Z.iast F dX9_readUnit_148 ?_
        refine Z.aload_n F 0 rfl dX9_readUnit_149 ?_
        refine gfX9_28 F dX9_readUnit_150 (fun g150 => ?_)
        refine Z.iload F 2 rfl dX9_readUnit_153 ?_
        refine Z.iconst F (v := (2 : Int32)) (by decide) dX9_readUnit_155 ?_
        refine Z.iadd F dX9_readUnit_156 ?_
        refine Z.iald F dX9_readUnit_157 (fun g157 => ?_)
        refine Z.iconst F (v := (-1 : Int32)) (by decide) dX9_readUnit_158 ?_
        refine Z.icmp_ne F (tgt := 167) dX9_readUnit_159 (by decide) ?_ ?_
        · refine Z.aload_n F 0 rfl dX9_readUnit_167 ?_
          refine Z.dup F dX9_readUnit_168 ?_
          refine gfX9_81 F dX9_readUnit_169 (fun g169 => ?_)
          refine Z.iconst F (v := (1 : Int32)) (by decide) dX9_readUnit_172 ?_
          refine Z.iadd F dX9_readUnit_173 ?_
          refine pfX9_81 F dX9_readUnit_174 ?_
          refine Z.iload F 3 rfl dX9_readUnit_177 ?_
          refine Z.bipush F (v := (63 : Int32)) (by decide) dX9_readUnit_179 ?_
          refine Z.jn0 (J := _) ([(0, zv h0), (1, .int x1)]) ([]) 201 (?_) (fun j201 hj201 => ?_)
          · refine Z.aload_n F 0 rfl dX9_readUnit_201 ?_
            refine gfX9_31 F dX9_readUnit_202 (fun g202 => ?_)
            refine Z.iload_n F 1 rfl dX9_readUnit_205 ?_
            refine Z.dup2 F dX9_readUnit_206 ?_
            refine Z.iald F dX9_readUnit_207 (fun g207 => ?_)
            refine Z.iconst F (v := (1 : Int32)) (by decide) dX9_readUnit_208 ?_
            refine Z.iadd F dX9_readUnit_209 ?_
            refine Z.iast F dX9_readUnit_210 ?_
            exact Z.vret F dX9_readUnit_211
          refine Z.icmp_eq F (tgt := 201) dX9_readUnit_181 (by decide) ?_ ?_
          · exact Z.sub [0, 1] rfl (hj201)
          refine Z.aload_n F 0 rfl dX9_readUnit_184 ?_
          refine gfX9_28 F dX9_readUnit_185 (fun g185 => ?_)
          refine Z.iload F 2 rfl dX9_readUnit_188 ?_
          refine Z.iconst F (v := (3 : Int32)) (by decide) dX9_readUnit_190 ?_
          refine Z.iadd F dX9_readUnit_191 ?_
          refine Z.aload_n F 0 rfl dX9_readUnit_192 ?_
          refine Z.iconst F (v := (2 : Int32)) (by decide) dX9_readUnit_193 ?_
          refine Z.iconst F (v := (0 : Int32)) (by decide) dX9_readUnit_194 ?_
          refine Z.bipush F (v := (99 : Int32)) (by decide) dX9_readUnit_195 ?_
          refine clX9_118 F ⟨Nat.le_of_ble_eq_true rfl, Nat.le_of_ble_eq_true rfl⟩ (zlw4 (Nat.le_of_ble_eq_true rfl)) dX9_readUnit_197 (fun r197 => ?_)
          refine Z.iast F dX9_readUnit_200 ?_
          exact Z.sub [0, 1] rfl (hj201)
        refine Z.aload_n F 0 rfl dX9_readUnit_162 ?_
        refine clX9_98 F ⟨Nat.le_of_ble_eq_true rfl, Nat.le_of_ble_eq_true rfl⟩ (zlw4 (Nat.le_of_ble_eq_true rfl)) dX9_readUnit_163 ?_
        exact Z.vret F dX9_readUnit_166
      refine Z.icmp_ne F (tgt := 114) dX9_readUnit_107 (by decide) ?_ ?_
      · refine Z.iload F 0 rfl dX9_readUnit_114 ?_
        refine Z.bipush F (v := (60 : Int32)) (by decide) dX9_readUnit_116 ?_
        refine Z.icmp_ne F (tgt := 125) dX9_readUnit_118 (by decide) ?_ ?_
        · refine Z.iload F 0 rfl dX9_readUnit_125 ?_
          refine Z.bipush F (v := (62 : Int32)) (by decide) dX9_readUnit_127 ?_
          refine Z.icmp_ne F (tgt := 136) dX9_readUnit_129 (by decide) ?_ ?_
          · refine Z.iload F 0 rfl dX9_readUnit_136 ?_
            refine Z.bipush F (v := (63 : Int32)) (by decide) dX9_readUnit_138 ?_
            refine Z.icmp_ne F (tgt := 147) dX9_readUnit_140 (by decide) ?_ ?_
            · refine Z.iconst F (v := (-1 : Int32)) (by decide) dX9_readUnit_147 ?_
              exact Z.sub [2, 3, 1, 0] rfl (hj148 (-1 : Int32))
            refine Z.iconst F (v := (3 : Int32)) (by decide) dX9_readUnit_143 ?_
            refine Z.goto F (tgt := 148) dX9_readUnit_144 (by decide) ?_
            exact Z.sub [2, 3, 1, 0] rfl (hj148 (3 : Int32))
          refine Z.iconst F (v := (2 : Int32)) (by decide) dX9_readUnit_132 ?_
          refine Z.goto F (tgt := 148) dX9_readUnit_133 (by decide) ?_
          exact Z.sub [2, 3, 1, 0] rfl (hj148 (2 : Int32))
        refine Z.iconst F (v := (1 : Int32)) (by decide) dX9_readUnit_121 ?_
        refine Z.goto F (tgt := 148) dX9_readUnit_122 (by decide) ?_
        exact Z.sub [2, 3, 1, 0] rfl (hj148 (1 : Int32))
      refine Z.iconst F (v := (0 : Int32)) (by decide) dX9_readUnit_110 ?_
      refine Z.goto F (tgt := 148) dX9_readUnit_111 (by decide) ?_
      exact Z.sub [2, 3, 1, 0] rfl (hj148 (0 : Int32))
    exact Z.sub [0] rfl (hj28)
  refine Z.icmp_eq F (tgt := 17) dX9_readUnit_8 (by decide) ?_ ?_
  · exact Z.sub [1, 2, 3, 0] rfl (hj17)
  refine Z.iload_n F 0 rfl dX9_readUnit_11 ?_
  refine Z.bipush F (v := (98 : Int32)) (by decide) dX9_readUnit_12 ?_
  refine Z.icmp_ne F (tgt := 28) dX9_readUnit_14 (by decide) ?_ ?_
  · exact Z.sub [1] rfl (hj28)
  exact Z.sub [1, 2, 3, 0] rfl (hj17)
end ZWalk
