section ZWalk
variable {p : Program} {l : Launch} {e : Env} {R : Room} {s : State} {m : MethodId} {args : Array Value} {below : List Frame} {meth : Method} {c : Code} {Q : State → Prop} {nL : Nat} {D : ZD} {A : Nat → Prop} {al : Bool} {n0 : Nat × Nat × Nat} {cc : ByteArray} {nm : String} {ret : Option FieldType} {sz mc ms fr lo : Nat}
variable {P : ZM → Prop} {pc : Nat} {L : List (Nat × Value)} {st : List Value}
theorem clX9_341 (F : ZF p R s m args meth c cc nL "SafeBucketsModel" nm ret D A al sz mc ms fr lo) {h0 : Nat} {x1 : Int32} {K : Int32 → ZM → Prop} (hR : 1 + 1 ≤ fr ∧ 8 + (2 + 11) + 23 ≤ lo) (hst4 : zlw st) (hdg : decode cc pc = .ok (.invokevirtual 341, 3)) (k : ∀ r, ZW p l e R s m args below meth c Q nL D A al n0 (K r) (pc + 3) L (.int r :: st)) : ZW p l e R s m args below meth c Q nL D A al n0 (zat 7 h0 (f_X9_terms h0 x1 K)) pc L (.int x1 :: zv h0 :: st) :=
  Z.ri0 _ (fun μ H locs cells slots ls hI h hP => Z.V0 F hI (n := 1) (ci := 6) rfl (by decide) hP.1 hP.2 (k_X9_terms l h0 x1 D A (zX μ, zC μ, zS μ) H.size K μ) q1996 q1998 qs90 q126 q1999 (by decide +kernel) rfl h.1 hst4 hR rfl hdg) k
theorem clX9_356 (F : ZF p R s m args meth c cc nL "SafeBucketsModel" nm ret D A al sz mc ms fr lo) {h0 : Nat} {x1 : Int32} {x2 : Int32} {x3 : Int32} {x4 : Int32} {K : Int32 → ZM → Prop} (hR : 3 + 1 ≤ fr ∧ 8 + (10 + 11) + 80 ≤ lo) (hst4 : zlw st) (hdg : decode cc pc = .ok (.invokevirtual 356, 3)) (k : ∀ r, ZW p l e R s m args below meth c Q nL D A al n0 (K r) (pc + 3) L (.int r :: st)) : ZW p l e R s m args below meth c Q nL D A al n0 (zat 7 h0 (f_X9_termBy h0 x1 x2 x3 x4 K)) pc L (.int x4 :: .int x3 :: .int x2 :: .int x1 :: zv h0 :: st) :=
  Z.ri0 _ (fun μ H locs cells slots ls hI h hP => Z.V0 F hI (n := 4) (ci := 6) rfl (by decide) hP.1 hP.2 (k_X9_termBy l h0 x1 x2 x3 x4 D A (zX μ, zC μ, zS μ) H.size K μ) q2004 q2006 qs92 q126 q2007 (by decide +kernel) rfl h.1 hst4 hR rfl hdg) k
set_option maxHeartbeats 4000000 in
theorem k_X9_whereBy (l : Launch) (h0 : Nat) (x1 : Int32) (x2 : Int32) (x3 : Int32) : ZCi l yX9_whereBy (ws_ yX9_whereBy cX9_whereBy 8 (some .int)) 4 109 0 0 false [zv h0, .int x1, .int x2, .int x3] (f_X9_whereBy h0 x1 x2 x3) := by
  refine Z.metI (by decide +kernel) (fun h => ⟨rfl, rfl⟩) (L0 := [(0, zv h0), (1, .int x1), (2, .int x2), (3, .int x3)]) (by first | (rw [zla_v, zla_i, zla_i, zla_i, zla_0]; done) | (rw [zla_v, zla_i, zla_i, zla_i, zla_0]; rfl)) (by rw [zsl_v, zsl_i, zsl_i, zsl_i, zsl_0]; exact Nat.le_of_ble_eq_true rfl) ?_
  intro p e R s m args below meth c D A n0 sz k F
  have F : ZF p R s m args meth c cX9_whereBy 8 "SafeBucketsModel" "whereBy" (some .int) D A false sz 0 0 4 109 := F
  unfold f_X9_whereBy
  refine Z.iconst F (v := (0 : Int32)) (by decide) dX9_whereBy_0 ?_
  refine Z.istore F (L0 := [(0, zv h0), (1, .int x1), (2, .int x2), (3, .int x3)]) [0, 1, 2, 3] rfl (zkR rfl (zkI rfl (zkI rfl (zkI rfl zkN)))) (by decide) dX9_whereBy_1 ?_
  refine Z.iconst F (v := (0 : Int32)) (by decide) dX9_whereBy_3 ?_
  refine Z.istore F (L0 := [(4, .int (0 : Int32)), (0, zv h0), (1, .int x1), (2, .int x2), (3, .int x3)]) [0, 1, 2, 3, 4] rfl (zkI rfl (zkR rfl (zkI rfl (zkI rfl (zkI rfl zkN))))) (by decide) dX9_whereBy_4 ?_
  refine Z.iconst F (v := (0 : Int32)) (by decide) dX9_whereBy_6 ?_
  refine Z.istore F (L0 := [(5, .int (0 : Int32)), (4, .int (0 : Int32)), (0, zv h0), (1, .int x1), (2, .int x2), (3, .int x3)]) [0, 1, 2, 3, 4, 5] rfl (zkI rfl (zkI rfl (zkR rfl (zkI rfl (zkI rfl (zkI rfl zkN)))))) (by decide) dX9_whereBy_7 ?_
  refine Z.jn2 (J := _) (fun p52l4 p52l5 => [(0, zv h0), (1, .int x1), (3, .int x3), (4, .int p52l4), (5, .int p52l5)]) (fun p52l4 p52l5 => []) 52 (fun p52l4 p52l5 => ?_) (fun j52 hj52 => ?_)
  · refine Z.iload_n F 2 rfl dX9_whereBy_52 ?_
    refine Z.iconst F (v := (1 : Int32)) (by decide) dX9_whereBy_53 ?_
    refine Z.jn1 (J := _) (fun p72s0 => []) (fun p72s0 => [.int p72s0]) 72 (fun p72s0 => ?_) (fun j72 hj72 => ?_)
    · exact Z.iret F dX9_whereBy_72
    refine Z.icmp_ne F (tgt := 62) dX9_whereBy_54 (by decide) ?_ ?_
    · refine Z.iload F 3 rfl dX9_whereBy_62 ?_
      refine Z.aload_n F 0 rfl dX9_whereBy_64 ?_
      refine Z.iload_n F 1 rfl dX9_whereBy_65 ?_
      refine clX9_161 F ⟨Nat.le_of_ble_eq_true rfl, Nat.le_of_ble_eq_true rfl⟩ (zlw4 (Nat.le_of_ble_eq_true rfl)) dX9_whereBy_66 (fun r66 => ?_)
      refine Z.mmin F q1769 (Nat.le_of_ble_eq_true rfl) (Nat.le_of_ble_eq_true rfl) (zlw4 (Nat.le_of_ble_eq_true rfl)) dX9_whereBy_69 ?_
      exact Z.sub [] rfl (hj72 (if r66 < p52l4 then r66 else p52l4))
    refine Z.iload F 4 rfl dX9_whereBy_57 ?_
    refine Z.goto F (tgt := 72) dX9_whereBy_59 (by decide) ?_
    exact Z.sub [] rfl (hj72 p52l5)
  refine Z.sub [3, 4, 5, 6, 2, 1, 0] rfl ?_
  refine Z.w3 (Lf := fun p9l4 p9l5 p9l6 => [(0, zv h0), (1, .int x1), (2, .int x2), (3, .int x3), (4, .int p9l4), (5, .int p9l5), (6, .int p9l6)]) (sf := fun p9l4 p9l5 p9l6 => []) (fun r9 hr9 p9l4 p9l5 p9l6 => ?_) (0 : Int32) (0 : Int32) (0 : Int32)
  refine Z.iload F 6 rfl dX9_whereBy_9 ?_
  refine Z.aload_n F 0 rfl dX9_whereBy_11 ?_
  refine Z.iload_n F 2 rfl dX9_whereBy_12 ?_
  refine clX9_341 F ⟨Nat.le_of_ble_eq_true rfl, Nat.le_of_ble_eq_true rfl⟩ (zlw4 (Nat.le_of_ble_eq_true rfl)) dX9_whereBy_13 (fun r13 => ?_)
  refine Z.icmp_ge F (tgt := 52) dX9_whereBy_16 (by decide) ?_ ?_
  · exact Z.sub [0, 1, 3, 4, 5] rfl (hj52 p9l4 p9l5)
  refine Z.aload_n F 0 rfl dX9_whereBy_19 ?_
  refine Z.iload_n F 1 rfl dX9_whereBy_20 ?_
  refine Z.iload_n F 2 rfl dX9_whereBy_21 ?_
  refine Z.iload F 6 rfl dX9_whereBy_22 ?_
  refine Z.iload_n F 3 rfl dX9_whereBy_24 ?_
  refine clX9_356 F ⟨Nat.le_of_ble_eq_true rfl, Nat.le_of_ble_eq_true rfl⟩ (zlw4 (Nat.le_of_ble_eq_true rfl)) dX9_whereBy_25 (fun r25 => ?_)
  refine Z.istore F (L0 := [(0, zv h0), (1, .int x1), (2, .int x2), (3, .int x3), (4, .int p9l4), (5, .int p9l5), (6, .int p9l6)]) [0, 1, 2, 3, 4, 5, 6] rfl (zkR rfl (zkI rfl (zkI rfl (zkI rfl (zkI rfl (zkI rfl (zkI rfl zkN))))))) (by decide) dX9_whereBy_28 ?_
  refine Z.iload F 5 rfl dX9_whereBy_30 ?_
  refine Z.iload F 0 rfl dX9_whereBy_32 ?_
  refine Z.iadd F dX9_whereBy_34 ?_
  refine Z.istore F (L0 := [(7, .int r25), (0, zv h0), (1, .int x1), (2, .int x2), (3, .int x3), (5, .int p9l5), (6, .int p9l6)]) [0, 1, 2, 3, 4, 6, 7] rfl (zkI rfl (zkR rfl (zkI rfl (zkI rfl (zkI rfl (zkI rfl (zkI rfl zkN))))))) (by decide) dX9_whereBy_35 ?_
  refine Z.iload F 6 rfl dX9_whereBy_37 ?_
  refine Z.iload F 1 rfl dX9_whereBy_39 ?_
  refine Z.mmax F q1794 (Nat.le_of_ble_eq_true rfl) (Nat.le_of_ble_eq_true rfl) (zlw4 (Nat.le_of_ble_eq_true rfl)) dX9_whereBy_41 ?_
  refine Z.istore F (L0 := [(4, .int (p9l4 + r25)), (7, .int r25), (0, zv h0), (1, .int x1), (2, .int x2), (3, .int x3), (6, .int p9l6)]) [0, 1, 2, 3, 4, 5, 7] rfl (zkI rfl (zkI rfl (zkR rfl (zkI rfl (zkI rfl (zkI rfl (zkI rfl zkN))))))) (by decide) dX9_whereBy_44 ?_
  refine Z.iinc F (L0 := [(5, .int (if p9l5 < r25 then r25 else p9l5)), (4, .int (p9l4 + r25)), (7, .int r25), (0, zv h0), (1, .int x1), (2, .int x2), (3, .int x3)]) (k0 := 7) (v := (1 : Int32)) rfl (by decide) [0, 1, 2, 3, 4, 5, 6] rfl (zkI rfl (zkI rfl (zkI rfl (zkR rfl (zkI rfl (zkI rfl (zkI rfl zkN))))))) (by decide) dX9_whereBy_46 ?_
  refine Z.goto F (tgt := 9) dX9_whereBy_49 (by decide) ?_
  exact Z.sub [4, 5, 6, 7, 2, 1, 0] rfl (hr9 (p9l4 + r25) (if p9l5 < r25 then r25 else p9l5) (p9l6 + (1 : Int32)))
theorem pfX9_323 (F : ZF p R s m args meth c cc nL "SafeBucketsModel" nm ret D A al sz mc ms fr lo) {z : Nat} {u : Int32} (hdg : decode cc pc = .ok (.putfield 323, 3)) (k : ZW p l e R s m args below meth c Q nL D A al n0 P (pc + 3) L st) : ZW p l e R s m args below meth c Q nL D A al n0 (zpI 7 z 26 u P) pc L (.int u :: zv z :: st) :=
  Z.putI F (ref := "SafeBucketsModel") in_X9 (ci := 6) rfl (by decide) (kf := 26) (by decide) q1596 (fun _ h => h) tyX9 tyX9_ok nmX9 rfl rfl rfl hdg k
theorem pfX9_326 (F : ZF p R s m args meth c cc nL "SafeBucketsModel" nm ret D A al sz mc ms fr lo) {z : Nat} {u : Int32} (hdg : decode cc pc = .ok (.putfield 326, 3)) (k : ZW p l e R s m args below meth c Q nL D A al n0 P (pc + 3) L st) : ZW p l e R s m args below meth c Q nL D A al n0 (zpI 7 z 27 u P) pc L (.int u :: zv z :: st) :=
  Z.putI F (ref := "SafeBucketsModel") in_X9 (ci := 6) rfl (by decide) (kf := 27) (by decide) q1597 (fun _ h => h) tyX9 tyX9_ok nmX9 rfl rfl rfl hdg k
theorem pfX9_329 (F : ZF p R s m args meth c cc nL "SafeBucketsModel" nm ret D A al sz mc ms fr lo) {z : Nat} {u : Int32} (hdg : decode cc pc = .ok (.putfield 329, 3)) (k : ZW p l e R s m args below meth c Q nL D A al n0 P (pc + 3) L st) : ZW p l e R s m args below meth c Q nL D A al n0 (zpZ 7 z 28 u P) pc L (.int u :: zv z :: st) :=
  Z.putZ F (ref := "SafeBucketsModel") in_X9 (ci := 6) rfl (by decide) (kf := 28) (by decide) q1598 (fun _ h => h) tyX9 tyX9_ok nmX9 rfl rfl rfl hdg k
set_option maxHeartbeats 4000000 in
theorem k_X9_begin (l : Launch) (h0 : Nat) : ZCv l yX9_begin (ws_ yX9_begin cX9_begin 1 none) 0 0 0 0 false [zv h0] (f_X9_begin h0) := by
  refine Z.metV (by decide +kernel) (fun h => ⟨rfl, rfl⟩) (L0 := [(0, zv h0)]) (by first | (rw [zla_v, zla_0]; done) | (rw [zla_v, zla_0]; rfl)) (by rw [zsl_v, zsl_0]; exact Nat.le_of_ble_eq_true rfl) ?_
  intro p e R s m args below meth c D A n0 sz k F
  have F : ZF p R s m args meth c cX9_begin 1 "SafeBucketsModel" "begin" none D A false sz 0 0 0 0 := F
  unfold f_X9_begin
  refine Z.aload_n F 0 rfl dX9_begin_0 ?_
  refine Z.iconst F (v := (0 : Int32)) (by decide) dX9_begin_1 ?_
  refine pfX9_323 F dX9_begin_2 ?_
  refine Z.aload_n F 0 rfl dX9_begin_5 ?_
  refine Z.aload_n F 0 rfl dX9_begin_6 ?_
  refine gfX9_34 F dX9_begin_7 (fun g7 => ?_)
  refine Z.sipush F (v := (1071 : Int32)) (by decide) dX9_begin_10 ?_
  refine Z.iald F dX9_begin_13 (fun g13 => ?_)
  refine pfX9_326 F dX9_begin_14 ?_
  refine Z.aload_n F 0 rfl dX9_begin_17 ?_
  refine Z.iconst F (v := (0 : Int32)) (by decide) dX9_begin_18 ?_
  refine pfX9_329 F dX9_begin_19 ?_
  exact Z.vret F dX9_begin_22
set_option maxHeartbeats 4000000 in
theorem k_X9_take (l : Launch) (h0 : Nat) (x1 : Int32) : ZCv l yX9_take (ws_ yX9_take cX9_take 2 none) 0 0 0 0 false [zv h0, .int x1] (f_X9_take h0 x1) := by
  refine Z.metV (by decide +kernel) (fun h => ⟨rfl, rfl⟩) (L0 := [(0, zv h0), (1, .int x1)]) (by first | (rw [zla_v, zla_i, zla_0]; done) | (rw [zla_v, zla_i, zla_0]; rfl)) (by rw [zsl_v, zsl_i, zsl_0]; exact Nat.le_of_ble_eq_true rfl) ?_
  intro p e R s m args below meth c D A n0 sz k F
  have F : ZF p R s m args meth c cX9_take 2 "SafeBucketsModel" "take" none D A false sz 0 0 0 0 := F
  unfold f_X9_take
  refine Z.aload_n F 0 rfl dX9_take_0 ?_
  refine gfX9_54 F dX9_take_1 (fun g1 => ?_)
  refine Z.aload_n F 0 rfl dX9_take_4 ?_
  refine gfX9_323 F dX9_take_5 (fun g5 => ?_)
  refine Z.iload_n F 1 rfl dX9_take_8 ?_
  refine Z.iast F dX9_take_9 ?_
  refine Z.aload_n F 0 rfl dX9_take_10 ?_
  refine Z.dup F dX9_take_11 ?_
  refine gfX9_323 F dX9_take_12 (fun g12 => ?_)
  refine Z.iconst F (v := (1 : Int32)) (by decide) dX9_take_15 ?_
  refine Z.iadd F dX9_take_16 ?_
  refine pfX9_323 F dX9_take_17 ?_
  exact Z.vret F dX9_take_20
theorem gfX9_326 (F : ZF p R s m args meth c cc nL "SafeBucketsModel" nm ret D A al sz mc ms fr lo) {z : Nat} {K : Int32 → ZM → Prop} (hdg : decode cc pc = .ok (.getfield 326, 3)) (k : ∀ u, ZW p l e R s m args below meth c Q nL D A al n0 (K u) (pc + 3) L (.int u :: st)) : ZW p l e R s m args below meth c Q nL D A al n0 (zgI 7 z 27 K) pc L (zv z :: st) :=
  Z.getI F (ref := "SafeBucketsModel") in_X9 (ci := 6) rfl (by decide) (kf := 27) (by decide) q1597 (fun _ h => h) rfl hdg k
theorem gfX9_329 (F : ZF p R s m args meth c cc nL "SafeBucketsModel" nm ret D A al sz mc ms fr lo) {z : Nat} {K : Int32 → ZM → Prop} (hdg : decode cc pc = .ok (.getfield 329, 3)) (k : ∀ u, ZW p l e R s m args below meth c Q nL D A al n0 (K u) (pc + 3) L (.int u :: st)) : ZW p l e R s m args below meth c Q nL D A al n0 (zgI 7 z 28 K) pc L (zv z :: st) :=
  Z.getI F (ref := "SafeBucketsModel") in_X9 (ci := 6) rfl (by decide) (kf := 28) (by decide) q1598 (fun _ h => h) rfl hdg k
set_option maxHeartbeats 4000000 in
theorem k_X9_isOver (l : Launch) (h0 : Nat) : ZCi l yX9_isOver (ws_ yX9_isOver cX9_isOver 1 (some .boolean)) 0 0 0 0 false [zv h0] (f_X9_isOver h0) := by
  refine Z.metZ (by decide +kernel) (fun h => ⟨rfl, rfl⟩) (L0 := [(0, zv h0)]) (by first | (rw [zla_v, zla_0]; done) | (rw [zla_v, zla_0]; rfl)) (by rw [zsl_v, zsl_0]; exact Nat.le_of_ble_eq_true rfl) ?_
  intro p e R s m args below meth c D A n0 sz k F
  have F : ZF p R s m args meth c cX9_isOver 1 "SafeBucketsModel" "isOver" (some .boolean) D A false sz 0 0 0 0 := F
  unfold f_X9_isOver
  refine Z.aload_n F 0 rfl dX9_isOver_0 ?_
  refine Z.aload_n F 0 rfl dX9_isOver_1 ?_
  refine gfX9_326 F dX9_isOver_2 (fun g2 => ?_)
  refine Z.jn1 (J := _) (fun p13s1 => [(0, zv h0)]) (fun p13s1 => [.int p13s1, zv h0]) 13 (fun p13s1 => ?_) (fun j13 hj13 => ?_)
  · refine pfX9_329 F dX9_isOver_13 ?_
    refine Z.aload_n F 0 rfl dX9_isOver_16 ?_
    refine Z.dup F dX9_isOver_17 ?_
    refine gfX9_326 F dX9_isOver_18 (fun g18 => ?_)
    refine Z.iconst F (v := (1 : Int32)) (by decide) dX9_isOver_21 ?_
    refine Z.isub F dX9_isOver_22 ?_
    refine pfX9_326 F dX9_isOver_23 ?_
    refine Z.aload_n F 0 rfl dX9_isOver_26 ?_
    refine gfX9_329 F dX9_isOver_27 (fun g27 => ?_)
    exact Z.zret F dX9_isOver_30
  refine Z.if_ne F (tgt := 12) dX9_isOver_5 (by decide) ?_ ?_
  · refine Z.iconst F (v := (0 : Int32)) (by decide) dX9_isOver_12 ?_
    exact Z.sub [0] rfl (hj13 (0 : Int32))
  refine Z.iconst F (v := (1 : Int32)) (by decide) dX9_isOver_8 ?_
  refine Z.goto F (tgt := 13) dX9_isOver_9 (by decide) ?_
  exact Z.sub [0] rfl (hj13 (1 : Int32))
set_option maxHeartbeats 4000000 in
theorem k_X9_isTermOf (l : Launch) (h0 : Nat) (x1 : Int32) (x2 : Int32) (x3 : Int32) (x4 : Int32) : ZCi l yX9_isTermOf (ws_ yX9_isTermOf cX9_isTermOf 7 (some .boolean)) 2 47 0 0 false [zv h0, .int x1, .int x2, .int x3, .int x4] (f_X9_isTermOf h0 x1 x2 x3 x4) := by
  refine Z.metZ (by decide +kernel) (fun h => ⟨rfl, rfl⟩) (L0 := [(0, zv h0), (1, .int x1), (2, .int x2), (3, .int x3), (4, .int x4)]) (by first | (rw [zla_v, zla_i, zla_i, zla_i, zla_i, zla_0]; done) | (rw [zla_v, zla_i, zla_i, zla_i, zla_i, zla_0]; rfl)) (by rw [zsl_v, zsl_i, zsl_i, zsl_i, zsl_i, zsl_0]; exact Nat.le_of_ble_eq_true rfl) ?_
  intro p e R s m args below meth c D A n0 sz k F
  have F : ZF p R s m args meth c cX9_isTermOf 7 "SafeBucketsModel" "isTermOf" (some .boolean) D A false sz 0 0 2 47 := F
  unfold f_X9_isTermOf
  refine Z.iconst F (v := (1 : Int32)) (by decide) dX9_isTermOf_0 ?_
  refine Z.istore F (L0 := [(0, zv h0), (1, .int x1), (2, .int x2), (3, .int x3), (4, .int x4)]) [0, 1, 2, 3, 4] rfl (zkR rfl (zkI rfl (zkI rfl (zkI rfl (zkI rfl zkN))))) (by decide) dX9_isTermOf_1 ?_
  refine Z.iconst F (v := (0 : Int32)) (by decide) dX9_isTermOf_3 ?_
  refine Z.istore F (L0 := [(5, .int (1 : Int32)), (0, zv h0), (1, .int x1), (2, .int x2), (3, .int x3), (4, .int x4)]) [0, 1, 2, 3, 4, 5] rfl (zkI rfl (zkR rfl (zkI rfl (zkI rfl (zkI rfl (zkI rfl zkN)))))) (by decide) dX9_isTermOf_4 ?_
  refine Z.sub [2, 3, 4, 5, 6, 1, 0] rfl ?_
  refine Z.w2 (Lf := fun p6l5 p6l6 => [(0, zv h0), (1, .int x1), (2, .int x2), (3, .int x3), (4, .int x4), (5, .int p6l5), (6, .int p6l6)]) (sf := fun p6l5 p6l6 => []) (fun r6 hr6 p6l5 p6l6 => ?_) (1 : Int32) (0 : Int32)
  refine Z.iload F 6 rfl dX9_isTermOf_6 ?_
  refine Z.aload_n F 0 rfl dX9_isTermOf_8 ?_
  refine gfX9_31 F dX9_isTermOf_9 (fun g9 => ?_)
  refine Z.iload_n F 1 rfl dX9_isTermOf_12 ?_
  refine Z.iald F dX9_isTermOf_13 (fun g13 => ?_)
  refine Z.icmp_ge F (tgt := 74) dX9_isTermOf_14 (by decide) ?_ ?_
  · refine Z.iload F 5 rfl dX9_isTermOf_74 ?_
    exact Z.zret F dX9_isTermOf_76
  refine Z.iload F 5 rfl dX9_isTermOf_17 ?_
  refine Z.jn1 (J := _) (fun p66s0 => [(0, zv h0), (1, .int x1), (2, .int x2), (3, .int x3), (4, .int x4), (6, .int p6l6)]) (fun p66s0 => [.int p66s0]) 66 (fun p66s0 => ?_) (fun j66 hj66 => ?_)
  · refine Z.istore F (L0 := [(0, zv h0), (1, .int x1), (2, .int x2), (3, .int x3), (4, .int x4), (6, .int p6l6)]) [0, 1, 2, 3, 4, 5] rfl (zkR rfl (zkI rfl (zkI rfl (zkI rfl (zkI rfl (zkI rfl zkN)))))) (by decide) dX9_isTermOf_66 ?_
    refine Z.iinc F (L0 := [(5, .int p66s0), (0, zv h0), (1, .int x1), (2, .int x2), (3, .int x3), (4, .int x4)]) (k0 := 6) (v := (1 : Int32)) rfl (by decide) [0, 1, 2, 3, 4, 5] rfl (zkI rfl (zkR rfl (zkI rfl (zkI rfl (zkI rfl (zkI rfl zkN)))))) (by decide) dX9_isTermOf_68 ?_
    refine Z.goto F (tgt := 6) dX9_isTermOf_71 (by decide) ?_
    exact Z.sub [2, 3, 4, 5, 6, 1, 0] rfl (hr6 p66s0 (p6l6 + (1 : Int32)))
  refine Z.jn0 (J := _) ([(0, zv h0), (1, .int x1), (2, .int x2), (3, .int x3), (4, .int x4), (6, .int p6l6)]) ([]) 65 (?_) (fun j65 hj65 => ?_)
  · refine Z.iconst F (v := (0 : Int32)) (by decide) dX9_isTermOf_65 ?_
    exact Z.sub [0, 1, 2, 3, 4, 5] rfl (hj66 (0 : Int32))
  refine Z.if_eq F (tgt := 65) dX9_isTermOf_19 (by decide) ?_ ?_
  · exact Z.sub [0, 1, 2, 3, 4, 6] rfl (hj65)
  refine Z.aload_n F 0 rfl dX9_isTermOf_22 ?_
  refine Z.iload_n F 1 rfl dX9_isTermOf_23 ?_
  refine Z.iload F 6 rfl dX9_isTermOf_24 ?_
  refine Z.iconst F (v := (0 : Int32)) (by decide) dX9_isTermOf_26 ?_
  refine clX9_335 F ⟨Nat.le_of_ble_eq_true rfl, Nat.le_of_ble_eq_true rfl⟩ (zlw4 (Nat.le_of_ble_eq_true rfl)) dX9_isTermOf_27 (fun r27 => ?_)
  refine Z.iload_n F 2 rfl dX9_isTermOf_30 ?_
  refine Z.jn0 (J := _) ([(0, zv h0), (1, .int x1), (2, .int x2), (3, .int x3), (4, .int x4), (6, .int p6l6)]) ([]) 61 (?_) (fun j61 hj61 => ?_)
  · refine Z.iconst F (v := (1 : Int32)) (by decide) dX9_isTermOf_61 ?_
    refine Z.goto F (tgt := 66) dX9_isTermOf_62 (by decide) ?_
    exact Z.sub [0, 1, 2, 3, 4, 5] rfl (hj66 (1 : Int32))
  refine Z.icmp_ne F (tgt := 61) dX9_isTermOf_31 (by decide) ?_ ?_
  · exact Z.sub [0, 1, 2, 3, 4, 6] rfl (hj61)
  refine Z.aload_n F 0 rfl dX9_isTermOf_34 ?_
  refine Z.iload_n F 1 rfl dX9_isTermOf_35 ?_
  refine Z.iload F 6 rfl dX9_isTermOf_36 ?_
  refine Z.aload_n F 0 rfl dX9_isTermOf_38 ?_
  refine Z.iload_n F 1 rfl dX9_isTermOf_39 ?_
  refine Z.iload F 6 rfl dX9_isTermOf_40 ?_
  refine Z.iconst F (v := (1 : Int32)) (by decide) dX9_isTermOf_42 ?_
  refine clX9_335 F ⟨Nat.le_of_ble_eq_true rfl, Nat.le_of_ble_eq_true rfl⟩ (zlw4 (Nat.le_of_ble_eq_true rfl)) dX9_isTermOf_43 (fun r43 => ?_)
  refine Z.jn1 (J := _) (fun p55s3 => [(0, zv h0), (1, .int x1), (2, .int x2), (3, .int x3), (4, .int x4), (6, .int p6l6)]) (fun p55s3 => [.int p55s3, .int p6l6, .int x1, zv h0]) 55 (fun p55s3 => ?_) (fun j55 hj55 => ?_)
  · refine clX9_338 F ⟨Nat.le_of_ble_eq_true rfl, Nat.le_of_ble_eq_true rfl⟩ (zlw4 (Nat.le_of_ble_eq_true rfl)) dX9_isTermOf_55 (fun r55 => ?_)
    refine Z.if_eq F (tgt := 65) dX9_isTermOf_58 (by decide) ?_ ?_
    · exact Z.sub [0, 1, 2, 3, 4, 5] rfl (hj65)
    exact Z.sub [0, 1, 2, 3, 4, 5] rfl (hj61)
  refine Z.if_ne F (tgt := 53) dX9_isTermOf_46 (by decide) ?_ ?_
  · refine Z.iload F 4 rfl dX9_isTermOf_53 ?_
    exact Z.sub [0, 1, 2, 3, 4, 6] rfl (hj55 x4)
  refine Z.iload_n F 3 rfl dX9_isTermOf_49 ?_
  refine Z.goto F (tgt := 55) dX9_isTermOf_50 (by decide) ?_
  exact Z.sub [0, 1, 2, 3, 4, 6] rfl (hj55 x3)
theorem clX9_344 (F : ZF p R s m args meth c cc nL "SafeBucketsModel" nm ret D A al sz mc ms fr lo) {h0 : Nat} {x1 : Int32} {x2 : Int32} {x3 : Int32} {x4 : Int32} {K : Int32 → ZM → Prop} (hR : 2 + 1 ≤ fr ∧ 8 + (7 + 11) + 47 ≤ lo) (hst4 : zlw st) (hdg : decode cc pc = .ok (.invokevirtual 344, 3)) (k : ∀ r, ZW p l e R s m args below meth c Q nL D A al n0 (K r) (pc + 3) L (.int r :: st)) : ZW p l e R s m args below meth c Q nL D A al n0 (zat 7 h0 (f_X9_isTermOf h0 x1 x2 x3 x4 K)) pc L (.int x4 :: .int x3 :: .int x2 :: .int x1 :: zv h0 :: st) :=
  Z.ri0 _ (fun μ H locs cells slots ls hI h hP => Z.V0 F hI (n := 4) (ci := 6) rfl (by decide) hP.1 hP.2 (k_X9_isTermOf l h0 x1 x2 x3 x4 D A (zX μ, zC μ, zS μ) H.size K μ) q2036 q2038 qs100 q126 q2039 (by decide +kernel) rfl h.1 hst4 hR rfl hdg) k
set_option maxHeartbeats 4000000 in
theorem k_X9_holds (l : Launch) (h0 : Nat) (x1 : Int32) (x2 : Int32) (x3 : Int32) : ZCi l yX9_holds (ws_ yX9_holds cX9_holds 6 (some .boolean)) 3 73 0 0 false [zv h0, .int x1, .int x2, .int x3] (f_X9_holds h0 x1 x2 x3) := by
  refine Z.metZ (by decide +kernel) (fun h => ⟨rfl, rfl⟩) (L0 := [(0, zv h0), (1, .int x1), (2, .int x2), (3, .int x3)]) (by first | (rw [zla_v, zla_i, zla_i, zla_i, zla_0]; done) | (rw [zla_v, zla_i, zla_i, zla_i, zla_0]; rfl)) (by rw [zsl_v, zsl_i, zsl_i, zsl_i, zsl_0]; exact Nat.le_of_ble_eq_true rfl) ?_
  intro p e R s m args below meth c D A n0 sz k F
  have F : ZF p R s m args meth c cX9_holds 6 "SafeBucketsModel" "holds" (some .boolean) D A false sz 0 0 3 73 := F
  unfold f_X9_holds
  refine Z.iconst F (v := (0 : Int32)) (by decide) dX9_holds_0 ?_
  refine Z.istore F (L0 := [(0, zv h0), (1, .int x1), (2, .int x2), (3, .int x3)]) [0, 1, 2, 3] rfl (zkR rfl (zkI rfl (zkI rfl (zkI rfl zkN)))) (by decide) dX9_holds_1 ?_
  refine Z.iconst F (v := (0 : Int32)) (by decide) dX9_holds_3 ?_
  refine Z.istore F (L0 := [(4, .int (0 : Int32)), (0, zv h0), (1, .int x1), (2, .int x2), (3, .int x3)]) [0, 1, 2, 3, 4] rfl (zkI rfl (zkR rfl (zkI rfl (zkI rfl (zkI rfl zkN))))) (by decide) dX9_holds_4 ?_
  refine Z.sub [2, 3, 4, 5, 1, 0] rfl ?_
  refine Z.w2 (Lf := fun p6l4 p6l5 => [(0, zv h0), (1, .int x1), (2, .int x2), (3, .int x3), (4, .int p6l4), (5, .int p6l5)]) (sf := fun p6l4 p6l5 => []) (fun r6 hr6 p6l4 p6l5 => ?_) (0 : Int32) (0 : Int32)
  refine Z.iload F 5 rfl dX9_holds_6 ?_
  refine Z.aload_n F 0 rfl dX9_holds_8 ?_
  refine Z.iload_n F 1 rfl dX9_holds_9 ?_
  refine clX9_341 F ⟨Nat.le_of_ble_eq_true rfl, Nat.le_of_ble_eq_true rfl⟩ (zlw4 (Nat.le_of_ble_eq_true rfl)) dX9_holds_10 (fun r10 => ?_)
  refine Z.icmp_ge F (tgt := 46) dX9_holds_13 (by decide) ?_ ?_
  · refine Z.iload F 4 rfl dX9_holds_46 ?_
    exact Z.zret F dX9_holds_48
  refine Z.iload F 4 rfl dX9_holds_16 ?_
  refine Z.jn1 (J := _) (fun p38s0 => [(0, zv h0), (1, .int x1), (2, .int x2), (3, .int x3), (5, .int p6l5)]) (fun p38s0 => [.int p38s0]) 38 (fun p38s0 => ?_) (fun j38 hj38 => ?_)
  · refine Z.istore F (L0 := [(0, zv h0), (1, .int x1), (2, .int x2), (3, .int x3), (5, .int p6l5)]) [0, 1, 2, 3, 4] rfl (zkR rfl (zkI rfl (zkI rfl (zkI rfl (zkI rfl zkN))))) (by decide) dX9_holds_38 ?_
    refine Z.iinc F (L0 := [(4, .int p38s0), (0, zv h0), (1, .int x1), (2, .int x2), (3, .int x3)]) (k0 := 5) (v := (1 : Int32)) rfl (by decide) [0, 1, 2, 3, 4] rfl (zkI rfl (zkR rfl (zkI rfl (zkI rfl (zkI rfl zkN))))) (by decide) dX9_holds_40 ?_
    refine Z.goto F (tgt := 6) dX9_holds_43 (by decide) ?_
    exact Z.sub [2, 3, 4, 5, 1, 0] rfl (hr6 p38s0 (p6l5 + (1 : Int32)))
  refine Z.jn0 (J := _) ([(0, zv h0), (1, .int x1), (2, .int x2), (3, .int x3), (5, .int p6l5)]) ([]) 33 (?_) (fun j33 hj33 => ?_)
  · refine Z.iconst F (v := (1 : Int32)) (by decide) dX9_holds_33 ?_
    refine Z.goto F (tgt := 38) dX9_holds_34 (by decide) ?_
    exact Z.sub [0, 1, 2, 3, 4] rfl (hj38 (1 : Int32))
  refine Z.if_ne F (tgt := 33) dX9_holds_18 (by decide) ?_ ?_
  · exact Z.sub [0, 1, 2, 3, 5] rfl (hj33)
  refine Z.aload_n F 0 rfl dX9_holds_21 ?_
  refine Z.iload_n F 1 rfl dX9_holds_22 ?_
  refine Z.iload F 5 rfl dX9_holds_23 ?_
  refine Z.iload_n F 2 rfl dX9_holds_25 ?_
  refine Z.iload_n F 3 rfl dX9_holds_26 ?_
  refine clX9_344 F ⟨Nat.le_of_ble_eq_true rfl, Nat.le_of_ble_eq_true rfl⟩ (zlw4 (Nat.le_of_ble_eq_true rfl)) dX9_holds_27 (fun r27 => ?_)
  refine Z.if_eq F (tgt := 37) dX9_holds_30 (by decide) ?_ ?_
  · refine Z.iconst F (v := (0 : Int32)) (by decide) dX9_holds_37 ?_
    exact Z.sub [0, 1, 2, 3, 5] rfl (hj38 (0 : Int32))
  exact Z.sub [0, 1, 2, 3, 5] rfl (hj33)
theorem clX9_350 (F : ZF p R s m args meth c cc nL "SafeBucketsModel" nm ret D A al sz mc ms fr lo) {h0 : Nat} {x1 : Int32} {x2 : Int32} {x3 : Int32} {K : Int32 → ZM → Prop} (hR : 3 + 1 ≤ fr ∧ 8 + (6 + 11) + 73 ≤ lo) (hst4 : zlw st) (hdg : decode cc pc = .ok (.invokevirtual 350, 3)) (k : ∀ r, ZW p l e R s m args below meth c Q nL D A al n0 (K r) (pc + 3) L (.int r :: st)) : ZW p l e R s m args below meth c Q nL D A al n0 (zat 7 h0 (f_X9_holds h0 x1 x2 x3 K)) pc L (.int x3 :: .int x2 :: .int x1 :: zv h0 :: st) :=
  Z.ri0 _ (fun μ H locs cells slots ls hI h hP => Z.V0 F hI (n := 3) (ci := 6) rfl (by decide) hP.1 hP.2 (k_X9_holds l h0 x1 x2 x3 D A (zX μ, zC μ, zS μ) H.size K μ) q2032 q2034 qs99 q126 q2035 (by decide +kernel) rfl h.1 hst4 hR rfl hdg) k
theorem clX9_347 (F : ZF p R s m args meth c cc nL "SafeBucketsModel" nm ret D A al sz mc ms fr lo) {h0 : Nat} {K : Int32 → ZM → Prop} (hR : 0 + 1 ≤ fr ∧ 8 + (1 + 11) + 0 ≤ lo) (hst4 : zlw st) (hdg : decode cc pc = .ok (.invokevirtual 347, 3)) (k : ∀ r, ZW p l e R s m args below meth c Q nL D A al n0 (K r) (pc + 3) L (.int r :: st)) : ZW p l e R s m args below meth c Q nL D A al n0 (zat 7 h0 (f_X9_isOver h0 K)) pc L (zv h0 :: st) :=
  Z.ri0 _ (fun μ H locs cells slots ls hI h hP => Z.V0 F hI (n := 0) (ci := 6) rfl (by decide) hP.1 hP.2 (k_X9_isOver l h0 D A (zX μ, zC μ, zS μ) H.size K μ) q2028 q2030 qs98 q126 q2031 (by decide +kernel) rfl h.1 hst4 hR rfl hdg) k
set_option maxHeartbeats 4000000 in
theorem k_X9_truth (l : Launch) (h0 : Nat) (x1 : Int32) (x2 : Int32) (x3 : Int32) : ZCi l yX9_truth (ws_ yX9_truth cX9_truth 8 (some .int)) 4 98 0 0 false [zv h0, .int x1, .int x2, .int x3] (f_X9_truth h0 x1 x2 x3) := by
  refine Z.metI (by decide +kernel) (fun h => ⟨rfl, rfl⟩) (L0 := [(0, zv h0), (1, .int x1), (2, .int x2), (3, .int x3)]) (by first | (rw [zla_v, zla_i, zla_i, zla_i, zla_0]; done) | (rw [zla_v, zla_i, zla_i, zla_i, zla_0]; rfl)) (by rw [zsl_v, zsl_i, zsl_i, zsl_i, zsl_0]; exact Nat.le_of_ble_eq_true rfl) ?_
  intro p e R s m args below meth c D A n0 sz k F
  have F : ZF p R s m args meth c cX9_truth 8 "SafeBucketsModel" "truth" (some .int) D A false sz 0 0 4 98 := F
  unfold f_X9_truth
  refine Z.iconst F (v := (0 : Int32)) (by decide) dX9_truth_0 ?_
  refine Z.istore F (L0 := [(0, zv h0), (1, .int x1), (2, .int x2), (3, .int x3)]) [0, 1, 2, 3] rfl (zkR rfl (zkI rfl (zkI rfl (zkI rfl zkN)))) (by decide) dX9_truth_1 ?_
  refine Z.iconst F (v := (0 : Int32)) (by decide) dX9_truth_3 ?_
  refine Z.istore F (L0 := [(4, .int (0 : Int32)), (0, zv h0), (1, .int x1), (2, .int x2), (3, .int x3)]) [0, 1, 2, 3, 4] rfl (zkI rfl (zkR rfl (zkI rfl (zkI rfl (zkI rfl zkN))))) (by decide) dX9_truth_4 ?_
  refine Z.sub [2, 3, 4, 5, 1, 0] rfl ?_
  refine Z.w2 (Lf := fun p6l4 p6l5 => [(0, zv h0), (1, .int x1), (2, .int x2), (3, .int x3), (4, .int p6l4), (5, .int p6l5)]) (sf := fun p6l4 p6l5 => []) (fun r6 hr6 p6l4 p6l5 => ?_) (0 : Int32) (0 : Int32)
  refine Z.iload F 5 rfl dX9_truth_6 ?_
  refine Z.sipush F (v := (289 : Int32)) (by decide) dX9_truth_8 ?_
  refine Z.icmp_ge F (tgt := 125) dX9_truth_11 (by decide) ?_ ?_
  · refine Z.iload F 4 rfl dX9_truth_125 ?_
    exact Z.iret F dX9_truth_127
  refine Z.iload F 5 rfl dX9_truth_14 ?_
  refine Z.bipush F (v := (17 : Int32)) (by decide) dX9_truth_16 ?_
  refine Z.idiv F dX9_truth_18 ?_
  refine Z.bipush F (v := (16 : Int32)) (by decide) dX9_truth_19 ?_
  refine Z.jn1 (J := _) (fun p33s0 => [(0, zv h0), (1, .int x1), (2, .int x2), (3, .int x3), (4, .int p6l4), (5, .int p6l5)]) (fun p33s0 => [.int p33s0]) 33 (fun p33s0 => ?_) (fun j33 hj33 => ?_)
  · refine Z.istore F (L0 := [(0, zv h0), (1, .int x1), (2, .int x2), (3, .int x3), (4, .int p6l4), (5, .int p6l5)]) [0, 1, 2, 3, 4, 5] rfl (zkR rfl (zkI rfl (zkI rfl (zkI rfl (zkI rfl (zkI rfl zkN)))))) (by decide) dX9_truth_33 ?_
    refine Z.iload F 6 rfl dX9_truth_35 ?_
    refine Z.bipush F (v := (17 : Int32)) (by decide) dX9_truth_37 ?_
    refine Z.irem F dX9_truth_39 ?_
    refine Z.bipush F (v := (16 : Int32)) (by decide) dX9_truth_40 ?_
    refine Z.jn1 (J := _) (fun p54s0 => [(0, zv h0), (1, .int x1), (2, .int x2), (3, .int x3), (4, .int p6l4), (5, .int p6l5), (6, .int p33s0)]) (fun p54s0 => [.int p54s0]) 54 (fun p54s0 => ?_) (fun j54 hj54 => ?_)
    · refine Z.istore F (L0 := [(0, zv h0), (1, .int x1), (2, .int x2), (3, .int x3), (4, .int p6l4), (5, .int p6l5), (6, .int p33s0)]) [0, 1, 2, 3, 4, 5, 6] rfl (zkR rfl (zkI rfl (zkI rfl (zkI rfl (zkI rfl (zkI rfl (zkI rfl zkN))))))) (by decide) dX9_truth_54 ?_
      refine Z.aload_n F 1 rfl dX9_truth_56 ?_
      refine gfX9_34 F dX9_truth_57 (fun g57 => ?_)
      refine Z.sipush F (v := (357 : Int32)) (by decide) dX9_truth_60 ?_
      refine Z.iload_n F 2 rfl dX9_truth_63 ?_
      refine Z.imul F dX9_truth_64 ?_
      refine Z.iload F 6 rfl dX9_truth_65 ?_
      refine Z.iadd F dX9_truth_67 ?_
      refine Z.iald F dX9_truth_68 (fun g68 => ?_)
      refine Z.jn1 (J := _) (fun p119l4 => [(0, zv h0), (1, .int x1), (2, .int x2), (3, .int x3), (4, .int p119l4), (5, .int p6l5)]) (fun p119l4 => []) 119 (fun p119l4 => ?_) (fun j119 hj119 => ?_)
      · refine Z.iinc F (L0 := [(0, zv h0), (1, .int x1), (2, .int x2), (3, .int x3), (4, .int p119l4)]) (k0 := 5) (v := (1 : Int32)) rfl (by decide) [0, 1, 2, 3, 4] rfl (zkR rfl (zkI rfl (zkI rfl (zkI rfl (zkI rfl zkN))))) (by decide) dX9_truth_119 ?_
        refine Z.goto F (tgt := 6) dX9_truth_122 (by decide) ?_
        exact Z.sub [1, 2, 3, 4, 5, 0] rfl (hr6 p119l4 (p6l5 + (1 : Int32)))
      refine Z.if_le F (tgt := 119) dX9_truth_69 (by decide) ?_ ?_
      · exact Z.sub [1, 2, 3, 4, 5, 6] rfl (hj119 p6l4)
      refine Z.iload_n F 4 rfl dX9_truth_72 ?_
      refine Z.jn0 (J := _) ([(0, zv h0), (1, .int x1), (2, .int x2), (3, .int x3), (4, .int p6l4), (5, .int p6l5), (6, .int p33s0), (7, .int p54s0)]) ([]) 85 (?_) (fun j85 hj85 => ?_)
      · refine Z.iload F 4 rfl dX9_truth_85 ?_
        refine Z.aload_n F 0 rfl dX9_truth_87 ?_
        refine Z.iload_n F 2 rfl dX9_truth_88 ?_
        refine Z.iload F 6 rfl dX9_truth_89 ?_
        refine Z.iload F 7 rfl dX9_truth_91 ?_
        refine clX9_350 F ⟨Nat.le_of_ble_eq_true rfl, Nat.le_of_ble_eq_true rfl⟩ (zlw4 (Nat.le_of_ble_eq_true rfl)) dX9_truth_93 (fun r93 => ?_)
        refine Z.jn1 (J := _) (fun p116s1 => [(0, zv h0), (1, .int x1), (2, .int x2), (3, .int x3), (5, .int p6l5)]) (fun p116s1 => [.int p116s1, .int p6l4]) 116 (fun p116s1 => ?_) (fun j116 hj116 => ?_)
        · refine Z.iadd F dX9_truth_116 ?_
          refine Z.istore F (L0 := [(0, zv h0), (1, .int x1), (2, .int x2), (3, .int x3), (5, .int p6l5)]) [0, 1, 2, 3, 4] rfl (zkR rfl (zkI rfl (zkI rfl (zkI rfl (zkI rfl zkN))))) (by decide) dX9_truth_117 ?_
          exact Z.sub [1, 2, 3, 4, 0, 5] rfl (hj119 (p6l4 + p116s1))
        refine Z.if_eq F (tgt := 115) dX9_truth_96 (by decide) ?_ ?_
        · refine Z.iconst F (v := (0 : Int32)) (by decide) dX9_truth_115 ?_
          exact Z.sub [0, 1, 2, 3, 5] rfl (hj116 (0 : Int32))
        refine Z.aload_n F 0 rfl dX9_truth_99 ?_
        refine gfX9_34 F dX9_truth_100 (fun g100 => ?_)
        refine Z.sipush F (v := (357 : Int32)) (by decide) dX9_truth_103 ?_
        refine Z.iload_n F 1 rfl dX9_truth_106 ?_
        refine Z.imul F dX9_truth_107 ?_
        refine Z.iload F 5 rfl dX9_truth_108 ?_
        refine Z.iadd F dX9_truth_110 ?_
        refine Z.iald F dX9_truth_111 (fun g111 => ?_)
        refine Z.goto F (tgt := 116) dX9_truth_112 (by decide) ?_
        exact Z.sub [0, 1, 2, 3, 5] rfl (hj116 g111)
      refine Z.if_eq F (tgt := 85) dX9_truth_73 (by decide) ?_ ?_
      · exact Z.sub [1, 2, 3, 4, 5, 6, 7, 0] rfl (hj85)
      refine Z.aload_n F 1 rfl dX9_truth_76 ?_
      refine clX9_347 F ⟨Nat.le_of_ble_eq_true rfl, Nat.le_of_ble_eq_true rfl⟩ (zlw4 (Nat.le_of_ble_eq_true rfl)) dX9_truth_77 (fun r77 => ?_)
      refine Z.if_eq F (tgt := 85) dX9_truth_80 (by decide) ?_ ?_
      · exact Z.sub [1, 2, 3, 4, 5, 6, 7, 0] rfl (hj85)
      refine Z.iconst F (v := (-1 : Int32)) (by decide) dX9_truth_83 ?_
      exact Z.iret F dX9_truth_84
    refine Z.icmp_ne F (tgt := 49) dX9_truth_42 (by decide) ?_ ?_
    · refine Z.iload F 6 rfl dX9_truth_49 ?_
      refine Z.bipush F (v := (17 : Int32)) (by decide) dX9_truth_51 ?_
      refine Z.irem F dX9_truth_53 ?_
      exact Z.sub [1, 2, 3, 4, 5, 6, 0] rfl (hj54 (p6l5 - p6l5 / (17 : Int32) * (17 : Int32)))
    refine Z.iconst F (v := (-1 : Int32)) (by decide) dX9_truth_45 ?_
    refine Z.goto F (tgt := 54) dX9_truth_46 (by decide) ?_
    exact Z.sub [1, 2, 3, 4, 5, 6, 0] rfl (hj54 (-1 : Int32))
  refine Z.icmp_ne F (tgt := 28) dX9_truth_21 (by decide) ?_ ?_
  · refine Z.iload F 5 rfl dX9_truth_28 ?_
    refine Z.bipush F (v := (17 : Int32)) (by decide) dX9_truth_30 ?_
    refine Z.idiv F dX9_truth_32 ?_
    exact Z.sub [0, 1, 2, 3, 4, 5] rfl (hj33 (p6l5 / (17 : Int32)))
  refine Z.iconst F (v := (-1 : Int32)) (by decide) dX9_truth_24 ?_
  refine Z.goto F (tgt := 33) dX9_truth_25 (by decide) ?_
  exact Z.sub [0, 1, 2, 3, 4, 5] rfl (hj33 (-1 : Int32))
theorem clX9_332 (F : ZF p R s m args meth c cc nL "SafeBucketsModel" nm ret D A al sz mc ms fr lo) {h0 : Nat} {x1 : Int32} {K : ZM → Prop} (hR : 0 + 1 ≤ fr ∧ 8 + (2 + 11) + 0 ≤ lo) (hst4 : zlw st) (hdg : decode cc pc = .ok (.invokevirtual 332, 3)) (k : ZW p l e R s m args below meth c Q nL D A al n0 K (pc + 3) L st) : ZW p l e R s m args below meth c Q nL D A al n0 (zat 7 h0 (f_X9_take h0 x1 K)) pc L (.int x1 :: zv h0 :: st) :=
  Z.rv0 _ (fun μ H locs cells slots ls hI h hP => Z.V0 F hI (n := 1) (ci := 6) rfl (by decide) hP.1 hP.2 (k_X9_take l h0 x1 D A (zX μ, zC μ, zS μ) H.size K μ) q2020 q2022 qs96 q126 q2023 (by decide +kernel) rfl h.1 hst4 hR rfl hdg) k
set_option maxHeartbeats 4000000 in
theorem k_X9_finish (l : Launch) (h0 : Nat) (x1 : Int64) : ZCl l yX9_finish (ws_ yX9_finish cX9_finish 5 (some .long)) 1 21 0 0 false [zv h0, .long x1] (f_X9_finish h0 x1) := by
  refine Z.metL (by decide +kernel) (fun h => ⟨rfl, rfl⟩) (L0 := [(0, zv h0), (1, .long x1)]) (by first | (rw [zla_v, zla_l, zla_0]; done) | (rw [zla_v, zla_l, zla_0]; rfl)) (by rw [zsl_v, zsl_l, zsl_0]; exact Nat.le_of_ble_eq_true rfl) ?_
  intro p e R s m args below meth c D A n0 sz k F
  have F : ZF p R s m args meth c cX9_finish 5 "SafeBucketsModel" "finish" (some .long) D A false sz 0 0 1 21 := F
  unfold f_X9_finish
  refine Z.aload_n F 0 rfl dX9_finish_0 ?_
  refine gfX9_323 F dX9_finish_1 (fun g1 => ?_)
  refine Z.istore_n F (L0 := [(0, zv h0), (1, .long x1)]) [0, 1] rfl (zkR rfl (zkL rfl rfl zkN)) (by decide) dX9_finish_4 ?_
  refine Z.iload_n F 0 rfl dX9_finish_5 ?_
  refine Z.iconst F (v := (1 : Int32)) (by decide) dX9_finish_6 ?_
  refine Z.isub F dX9_finish_7 ?_
  refine Z.istore F (L0 := [(3, .int g1), (0, zv h0), (1, .long x1)]) [0, 1, 2] rfl (zkI rfl (zkR rfl (zkL rfl rfl zkN))) (by decide) dX9_finish_8 ?_
  refine Z.jn0 (J := _) ([(0, zv h0), (1, .long x1)]) ([]) 35 (?_) (fun j35 hj35 => ?_)
  · refine Z.aload_n F 0 rfl dX9_finish_35 ?_
    refine gfX9_329 F dX9_finish_36 (fun g36 => ?_)
    refine Z.jn0 (J := _) ([(0, zv h0), (1, .long x1)]) ([]) 52 (?_) (fun j52 hj52 => ?_)
    · refine Z.aload_n F 0 rfl dX9_finish_52 ?_
      refine gfX9_329 F dX9_finish_53 (fun g53 => ?_)
      refine Z.jn1 (J := _) (fun p66s0 => []) (fun p66s0 => [.long p66s0]) 66 (fun p66s0 => ?_) (fun j66 hj66 => ?_)
      · exact Z.lret F dX9_finish_66
      refine Z.if_eq F (tgt := 65) dX9_finish_56 (by decide) ?_ ?_
      · refine Z.lload_n F 1 rfl dX9_finish_65 ?_
        exact Z.sub [] rfl (hj66 x1)
      refine Z.ldc2 F q1829 dX9_finish_59 ?_
      refine Z.goto F (tgt := 66) dX9_finish_62 (by decide) ?_
      exact Z.sub [] rfl (hj66 (-1 : Int64))
    refine Z.if_eq F (tgt := 52) dX9_finish_39 (by decide) ?_ ?_
    · exact Z.sub [0, 1] rfl (hj52)
    refine Z.aload_n F 0 rfl dX9_finish_42 ?_
    refine gfX9_37 F dX9_finish_43 (fun g43 => ?_)
    refine Z.iconst F (v := (4 : Int32)) (by decide) dX9_finish_46 ?_
    refine Z.dup2 F dX9_finish_47 ?_
    refine Z.iald F dX9_finish_48 (fun g48 => ?_)
    refine Z.iconst F (v := (1 : Int32)) (by decide) dX9_finish_49 ?_
    refine Z.iadd F dX9_finish_50 ?_
    refine Z.iast F dX9_finish_51 ?_
    exact Z.sub [0, 1] rfl (hj52)
  refine Z.sub [2, 3, 0] rfl ?_
  refine Z.w1 (Lf := fun p10l4 => [(0, zv h0), (1, .long x1), (4, .int p10l4)]) (sf := fun p10l4 => []) (fun r10 hr10 p10l4 => ?_) (g1 - (1 : Int32))
  refine Z.iload F 2 rfl dX9_finish_10 ?_
  refine Z.if_lt F (tgt := 35) dX9_finish_12 (by decide) ?_ ?_
  · exact Z.sub [0, 1] rfl (hj35)
  refine Z.aload_n F 0 rfl dX9_finish_15 ?_
  refine Z.bipush F (v := (10 : Int32)) (by decide) dX9_finish_16 ?_
  refine Z.aload_n F 0 rfl dX9_finish_18 ?_
  refine gfX9_54 F dX9_finish_19 (fun g19 => ?_)
  refine Z.iload F 2 rfl dX9_finish_22 ?_
  refine Z.iald F dX9_finish_24 (fun g24 => ?_)
  refine Z.iadd F dX9_finish_25 ?_
  refine clX9_332 F ⟨Nat.le_of_ble_eq_true rfl, Nat.le_of_ble_eq_true rfl⟩ (zlw4 (Nat.le_of_ble_eq_true rfl)) dX9_finish_26 ?_
  refine Z.iinc F (L0 := [(0, zv h0), (1, .long x1)]) (k0 := 2) (v := (-1 : Int32)) rfl (by decide) [0, 1] rfl (zkR rfl (zkL rfl rfl zkN)) (by decide) dX9_finish_29 ?_
  refine Z.goto F (tgt := 10) dX9_finish_32 (by decide) ?_
  exact Z.sub [1, 2, 0] rfl (hr10 (p10l4 + (-1 : Int32)))
theorem clX9_359 (F : ZF p R s m args meth c cc nL "SafeBucketsModel" nm ret D A al sz mc ms fr lo) {h0 : Nat} {x1 : Int32} {K : Int32 → ZM → Prop} (hR : 1 + 1 ≤ fr ∧ 8 + (2 + 11) + 25 ≤ lo) (hst4 : zlw st) (hdg : decode cc pc = .ok (.invokevirtual 359, 3)) (k : ∀ r, ZW p l e R s m args below meth c Q nL D A al n0 (K r) (pc + 3) L (.int r :: st)) : ZW p l e R s m args below meth c Q nL D A al n0 (zat 7 h0 (f_X9_isWhere h0 x1 K)) pc L (.int x1 :: zv h0 :: st) :=
  Z.ri0 _ (fun μ H locs cells slots ls hI h hP => Z.V0 F hI (n := 1) (ci := 6) rfl (by decide) hP.1 hP.2 (k_X9_isWhere l h0 x1 D A (zX μ, zC μ, zS μ) H.size K μ) q1988 q1990 qs88 q126 q1991 (by decide +kernel) rfl h.1 hst4 hR rfl hdg) k
theorem clX9_365 (F : ZF p R s m args meth c cc nL "SafeBucketsModel" nm ret D A al sz mc ms fr lo) {h0 : Nat} {K : ZM → Prop} (hR : 0 + 1 ≤ fr ∧ 8 + (1 + 11) + 0 ≤ lo) (hst4 : zlw st) (hdg : decode cc pc = .ok (.invokevirtual 365, 3)) (k : ZW p l e R s m args below meth c Q nL D A al n0 K (pc + 3) L st) : ZW p l e R s m args below meth c Q nL D A al n0 (zat 7 h0 (f_X9_begin h0 K)) pc L (zv h0 :: st) :=
  Z.rv0 _ (fun μ H locs cells slots ls hI h hP => Z.V0 F hI (n := 0) (ci := 6) rfl (by decide) hP.1 hP.2 (k_X9_begin l h0 D A (zX μ, zC μ, zS μ) H.size K μ) q2016 q2018 qs95 q126 q2019 (by decide +kernel) rfl h.1 hst4 hR rfl hdg) k
theorem clX9_368 (F : ZF p R s m args meth c cc nL "SafeBucketsModel" nm ret D A al sz mc ms fr lo) {h0 : Nat} {x1 : Int32} {x2 : Int32} {x3 : Int32} {K : Int32 → ZM → Prop} (hR : 4 + 1 ≤ fr ∧ 8 + (8 + 11) + 98 ≤ lo) (hst4 : zlw st) (hdg : decode cc pc = .ok (.invokevirtual 368, 3)) (k : ∀ r, ZW p l e R s m args below meth c Q nL D A al n0 (K r) (pc + 3) L (.int r :: st)) : ZW p l e R s m args below meth c Q nL D A al n0 (zat 7 h0 (f_X9_truth h0 x1 x2 x3 K)) pc L (.int x3 :: .int x2 :: .int x1 :: zv h0 :: st) :=
  Z.ri0 _ (fun μ H locs cells slots ls hI h hP => Z.V0 F hI (n := 3) (ci := 6) rfl (by decide) hP.1 hP.2 (k_X9_truth l h0 x1 x2 x3 D A (zX μ, zC μ, zS μ) H.size K μ) q2024 q2026 qs97 q126 q2027 (by decide +kernel) rfl h.1 hst4 hR rfl hdg) k
theorem clX9_371 (F : ZF p R s m args meth c cc nL "SafeBucketsModel" nm ret D A al sz mc ms fr lo) {h0 : Nat} {x1 : Int64} {K : Int64 → ZM → Prop} (hR : 1 + 1 ≤ fr ∧ 8 + (5 + 11) + 21 ≤ lo) (hst4 : zlw st) (hdg : decode cc pc = .ok (.invokevirtual 371, 3)) (k : ∀ r, ZW p l e R s m args below meth c Q nL D A al n0 (K r) (pc + 3) L (.long r :: st)) : ZW p l e R s m args below meth c Q nL D A al n0 (zat 7 h0 (f_X9_finish h0 x1 K)) pc L (.long x1 :: zv h0 :: st) :=
  Z.rl0 _ (fun μ H locs cells slots ls hI h hP => Z.V0 F hI (n := 1) (ci := 6) rfl (by decide) hP.1 hP.2 (k_X9_finish l h0 x1 D A (zX μ, zC μ, zS μ) H.size K μ) q2040 q2042 qs101 q126 q2043 (by decide +kernel) rfl h.1 hst4 hR rfl hdg) k
theorem clX9_362 (F : ZF p R s m args meth c cc nL "SafeBucketsModel" nm ret D A al sz mc ms fr lo) {h0 : Nat} {x1 : Int32} {x2 : Int32} {x3 : Int32} {K : Int32 → ZM → Prop} (hR : 4 + 1 ≤ fr ∧ 8 + (8 + 11) + 109 ≤ lo) (hst4 : zlw st) (hdg : decode cc pc = .ok (.invokevirtual 362, 3)) (k : ∀ r, ZW p l e R s m args below meth c Q nL D A al n0 (K r) (pc + 3) L (.int r :: st)) : ZW p l e R s m args below meth c Q nL D A al n0 (zat 7 h0 (f_X9_whereBy h0 x1 x2 x3 K)) pc L (.int x3 :: .int x2 :: .int x1 :: zv h0 :: st) :=
  Z.ri0 _ (fun μ H locs cells slots ls hI h hP => Z.V0 F hI (n := 3) (ci := 6) rfl (by decide) hP.1 hP.2 (k_X9_whereBy l h0 x1 x2 x3 D A (zX μ, zC μ, zS μ) H.size K μ) q1992 q1994 qs89 q126 q1995 (by decide +kernel) rfl h.1 hst4 hR rfl hdg) k
set_option maxHeartbeats 4000000 in
theorem k_X9_where (l : Launch) (h0 : Nat) (x1 : Int32) (x2 : Int32) (x3 : Int32) : ZCi l yX9_where (ws_ yX9_where cX9_where 4 (some .int)) 5 136 0 0 false [zv h0, .int x1, .int x2, .int x3] (f_X9_where h0 x1 x2 x3) := by
  refine Z.metI (by decide +kernel) (fun h => ⟨rfl, rfl⟩) (L0 := [(0, zv h0), (1, .int x1), (2, .int x2), (3, .int x3)]) (by first | (rw [zla_v, zla_i, zla_i, zla_i, zla_0]; done) | (rw [zla_v, zla_i, zla_i, zla_i, zla_0]; rfl)) (by rw [zsl_v, zsl_i, zsl_i, zsl_i, zsl_0]; exact Nat.le_of_ble_eq_true rfl) ?_
  intro p e R s m args below meth c D A n0 sz k F
  have F : ZF p R s m args meth c cX9_where 4 "SafeBucketsModel" "where" (some .int) D A false sz 0 0 5 136 := F
  unfold f_X9_where
  refine Z.aload_n F 0 rfl dX9_where_0 ?_
  refine Z.iload_n F 1 rfl dX9_where_1 ?_
  refine clX9_153 F ⟨Nat.le_of_ble_eq_true rfl, Nat.le_of_ble_eq_true rfl⟩ (zlw4 (Nat.le_of_ble_eq_true rfl)) dX9_where_2 (fun r2 => ?_)
  refine Z.jn0 (J := _) ([]) ([]) 28 (?_) (fun j28 hj28 => ?_)
  · refine Z.iconst F (v := (-1 : Int32)) (by decide) dX9_where_28 ?_
    exact Z.iret F dX9_where_29
  refine Z.if_eq F (tgt := 28) dX9_where_5 (by decide) ?_ ?_
  · exact Z.sub [] rfl (hj28)
  refine Z.aload_n F 0 rfl dX9_where_8 ?_
  refine Z.iload_n F 2 rfl dX9_where_9 ?_
  refine clX9_359 F ⟨Nat.le_of_ble_eq_true rfl, Nat.le_of_ble_eq_true rfl⟩ (zlw4 (Nat.le_of_ble_eq_true rfl)) dX9_where_10 (fun r10 => ?_)
  refine Z.if_eq F (tgt := 28) dX9_where_13 (by decide) ?_ ?_
  · exact Z.sub [] rfl (hj28)
  refine Z.iload_n F 3 rfl dX9_where_16 ?_
  refine Z.i2l F dX9_where_17 ?_
  refine Z.lconst F (w := (0 : Int64)) (by decide) dX9_where_18 ?_
  refine Z.ldc2 F q1816 dX9_where_19 ?_
  refine clX9_77 F ⟨Nat.le_of_ble_eq_true rfl, Nat.le_of_ble_eq_true rfl⟩ (zlw4 (Nat.le_of_ble_eq_true rfl)) dX9_where_22 (fun r22 => ?_)
  refine Z.if_ne F (tgt := 30) dX9_where_25 (by decide) ?_ ?_
  · refine Z.iload_n F 3 rfl dX9_where_30 ?_
    refine Z.if_le F (tgt := 42) dX9_where_31 (by decide) ?_ ?_
    · refine Z.aload_n F 0 rfl dX9_where_42 ?_
      refine clX9_365 F ⟨Nat.le_of_ble_eq_true rfl, Nat.le_of_ble_eq_true rfl⟩ (zlw4 (Nat.le_of_ble_eq_true rfl)) dX9_where_43 ?_
      refine Z.aload_n F 0 rfl dX9_where_46 ?_
      refine Z.iload_n F 1 rfl dX9_where_47 ?_
      refine clX9_332 F ⟨Nat.le_of_ble_eq_true rfl, Nat.le_of_ble_eq_true rfl⟩ (zlw4 (Nat.le_of_ble_eq_true rfl)) dX9_where_48 ?_
      refine Z.aload_n F 0 rfl dX9_where_51 ?_
      refine Z.aload_n F 0 rfl dX9_where_52 ?_
      refine Z.iload_n F 1 rfl dX9_where_53 ?_
      refine Z.iload_n F 2 rfl dX9_where_54 ?_
      refine Z.iconst F (v := (1 : Int32)) (by decide) dX9_where_55 ?_
      refine clX9_368 F ⟨Nat.le_of_ble_eq_true rfl, Nat.le_of_ble_eq_true rfl⟩ (zlw4 (Nat.le_of_ble_eq_true rfl)) dX9_where_56 (fun r56 => ?_)
      refine Z.i2l F dX9_where_59 ?_
      refine clX9_371 F ⟨Nat.le_of_ble_eq_true rfl, Nat.le_of_ble_eq_true rfl⟩ (zlw4 (Nat.le_of_ble_eq_true rfl)) dX9_where_60 (fun r60 => ?_)
      refine Z.l2i F dX9_where_63 ?_
      exact Z.iret F dX9_where_64
    refine Z.aload_n F 0 rfl dX9_where_34 ?_
    refine Z.iload_n F 1 rfl dX9_where_35 ?_
    refine Z.iload_n F 2 rfl dX9_where_36 ?_
    refine Z.iload_n F 3 rfl dX9_where_37 ?_
    refine clX9_362 F ⟨Nat.le_of_ble_eq_true rfl, Nat.le_of_ble_eq_true rfl⟩ (zlw4 (Nat.le_of_ble_eq_true rfl)) dX9_where_38 (fun r38 => ?_)
    exact Z.iret F dX9_where_41
  exact Z.sub [] rfl (hj28)
set_option maxHeartbeats 4000000 in
theorem k_X9_countIn (l : Launch) (h0 : Nat) (x1 : Int32) (x2 : Int32) (x3 : Int32) : ZCi l yX9_countIn (ws_ yX9_countIn cX9_countIn 4 (some .int)) 2 48 0 0 false [zv h0, .int x1, .int x2, .int x3] (f_X9_countIn h0 x1 x2 x3) := by
  refine Z.metI (by decide +kernel) (fun h => ⟨rfl, rfl⟩) (L0 := [(0, zv h0), (1, .int x1), (2, .int x2), (3, .int x3)]) (by first | (rw [zla_v, zla_i, zla_i, zla_i, zla_0]; done) | (rw [zla_v, zla_i, zla_i, zla_i, zla_0]; rfl)) (by rw [zsl_v, zsl_i, zsl_i, zsl_i, zsl_0]; exact Nat.le_of_ble_eq_true rfl) ?_
  intro p e R s m args below meth c D A n0 sz k F
  have F : ZF p R s m args meth c cX9_countIn 4 "SafeBucketsModel" "countIn" (some .int) D A false sz 0 0 2 48 := F
  unfold f_X9_countIn
  refine Z.iload_n F 3 rfl dX9_countIn_0 ?_
  refine Z.aload_n F 0 rfl dX9_countIn_1 ?_
  refine gfX9_25 F dX9_countIn_2 (fun g2 => ?_)
  refine Z.iload_n F 1 rfl dX9_countIn_5 ?_
  refine Z.iald F dX9_countIn_6 (fun g6 => ?_)
  refine Z.jn1 (J := _) (fun p21s0 => []) (fun p21s0 => [.int p21s0]) 21 (fun p21s0 => ?_) (fun j21 hj21 => ?_)
  · exact Z.iret F dX9_countIn_21
  refine Z.icmp_ge F (tgt := 20) dX9_countIn_7 (by decide) ?_ ?_
  · refine Z.iconst F (v := (0 : Int32)) (by decide) dX9_countIn_20 ?_
    exact Z.sub [] rfl (hj21 (0 : Int32))
  refine Z.aload_n F 0 rfl dX9_countIn_10 ?_
  refine Z.iload_n F 1 rfl dX9_countIn_11 ?_
  refine Z.iload_n F 2 rfl dX9_countIn_12 ?_
  refine Z.iload_n F 3 rfl dX9_countIn_13 ?_
  refine clX9_167 F ⟨Nat.le_of_ble_eq_true rfl, Nat.le_of_ble_eq_true rfl⟩ (zlw4 (Nat.le_of_ble_eq_true rfl)) dX9_countIn_14 (fun r14 => ?_)
  refine Z.goto F (tgt := 21) dX9_countIn_17 (by decide) ?_
  exact Z.sub [] rfl (hj21 r14)
theorem clX9_375 (F : ZF p R s m args meth c cc nL "SafeBucketsModel" nm ret D A al sz mc ms fr lo) {h0 : Nat} {x1 : Int32} {x2 : Int32} {x3 : Int32} {K : Int32 → ZM → Prop} (hR : 2 + 1 ≤ fr ∧ 8 + (4 + 11) + 48 ≤ lo) (hst4 : zlw st) (hdg : decode cc pc = .ok (.invokevirtual 375, 3)) (k : ∀ r, ZW p l e R s m args below meth c Q nL D A al n0 (K r) (pc + 3) L (.int r :: st)) : ZW p l e R s m args below meth c Q nL D A al n0 (zat 7 h0 (f_X9_countIn h0 x1 x2 x3 K)) pc L (.int x3 :: .int x2 :: .int x1 :: zv h0 :: st) :=
  Z.ri0 _ (fun μ H locs cells slots ls hI h hP => Z.V0 F hI (n := 3) (ci := 6) rfl (by decide) hP.1 hP.2 (k_X9_countIn l h0 x1 x2 x3 D A (zX μ, zC μ, zS μ) H.size K μ) q2056 q2058 qs104 q126 q2059 (by decide +kernel) rfl h.1 hst4 hR rfl hdg) k
theorem gfX9_57 (F : ZF p R s m args meth c cc nL "SafeBucketsModel" nm ret D A al sz mc ms fr lo) {z : Nat} {K : Nat → ZM → Prop} (hdg : decode cc pc = .ok (.getfield 57, 3)) (k : ∀ u, ZW p l e R s m args below meth c Q nL D A al n0 (K u) (pc + 3) L (zv u :: st)) : ZW p l e R s m args below meth c Q nL D A al n0 (zgR 7 z 29 K) pc L (zv z :: st) :=
  Z.getR F (ref := "SafeBucketsModel") in_X9 (ci := 6) rfl (by decide) (kf := 29) (by decide) q1599 (fun _ h => h) rfl hdg k
set_option maxHeartbeats 4000000 in
theorem k_X9_sortCounts (l : Launch) (h0 : Nat) (x1 : Int32) (x2 : Int32) (x3 : Int32) : ZCv l yX9_sortCounts (ws_ yX9_sortCounts cX9_sortCounts 7 none) 3 71 0 0 false [zv h0, .int x1, .int x2, .int x3] (f_X9_sortCounts h0 x1 x2 x3) := by
  refine Z.metV (by decide +kernel) (fun h => ⟨rfl, rfl⟩) (L0 := [(0, zv h0), (1, .int x1), (2, .int x2), (3, .int x3)]) (by first | (rw [zla_v, zla_i, zla_i, zla_i, zla_0]; done) | (rw [zla_v, zla_i, zla_i, zla_i, zla_0]; rfl)) (by rw [zsl_v, zsl_i, zsl_i, zsl_i, zsl_0]; exact Nat.le_of_ble_eq_true rfl) ?_
  intro p e R s m args below meth c D A n0 sz k F
  have F : ZF p R s m args meth c cX9_sortCounts 7 "SafeBucketsModel" "sortCounts" none D A false sz 0 0 3 71 := F
  unfold f_X9_sortCounts
  refine Z.iconst F (v := (0 : Int32)) (by decide) dX9_sortCounts_0 ?_
  refine Z.istore F (L0 := [(0, zv h0), (1, .int x1), (2, .int x2), (3, .int x3)]) [0, 1, 2, 3] rfl (zkR rfl (zkI rfl (zkI rfl (zkI rfl zkN)))) (by decide) dX9_sortCounts_1 ?_
  refine Z.sub [1, 2, 3, 4, 0] rfl ?_
  refine Z.w1 (Lf := fun p3l4 => [(0, zv h0), (1, .int x1), (2, .int x2), (3, .int x3), (4, .int p3l4)]) (sf := fun p3l4 => []) (fun r3 hr3 p3l4 => ?_) (0 : Int32)
  refine Z.iload F 4 rfl dX9_sortCounts_3 ?_
  refine Z.bipush F (v := (16 : Int32)) (by decide) dX9_sortCounts_5 ?_
  refine Z.icmp_ge F (tgt := 88) dX9_sortCounts_7 (by decide) ?_ ?_
  · exact Z.vret F dX9_sortCounts_88
  refine Z.aload_n F 0 rfl dX9_sortCounts_10 ?_
  refine Z.iload_n F 1 rfl dX9_sortCounts_11 ?_
  refine Z.iload_n F 2 rfl dX9_sortCounts_12 ?_
  refine Z.iload F 4 rfl dX9_sortCounts_13 ?_
  refine clX9_375 F ⟨Nat.le_of_ble_eq_true rfl, Nat.le_of_ble_eq_true rfl⟩ (zlw4 (Nat.le_of_ble_eq_true rfl)) dX9_sortCounts_15 (fun r15 => ?_)
  refine Z.istore F (L0 := [(0, zv h0), (1, .int x1), (2, .int x2), (3, .int x3), (4, .int p3l4)]) [0, 1, 2, 3, 4] rfl (zkR rfl (zkI rfl (zkI rfl (zkI rfl (zkI rfl zkN))))) (by decide) dX9_sortCounts_18 ?_
  refine Z.iload F 5 rfl dX9_sortCounts_20 ?_
  refine Z.istore F (L0 := [(5, .int r15), (0, zv h0), (1, .int x1), (2, .int x2), (3, .int x3), (4, .int p3l4)]) [0, 1, 2, 3, 4, 5] rfl (zkI rfl (zkR rfl (zkI rfl (zkI rfl (zkI rfl (zkI rfl zkN)))))) (by decide) dX9_sortCounts_22 ?_
  refine Z.jn2 (J := _) (fun p71l4 p71l6 => [(0, zv h0), (1, .int x1), (2, .int x2), (3, .int x3), (4, .int p71l4), (5, .int r15), (6, .int p71l6)]) (fun p71l4 p71l6 => []) 71 (fun p71l4 p71l6 => ?_) (fun j71 hj71 => ?_)
  · refine Z.aload_n F 0 rfl dX9_sortCounts_71 ?_
    refine gfX9_57 F dX9_sortCounts_72 (fun g72 => ?_)
    refine Z.iload_n F 3 rfl dX9_sortCounts_75 ?_
    refine Z.iload F 6 rfl dX9_sortCounts_76 ?_
    refine Z.iadd F dX9_sortCounts_78 ?_
    refine Z.iload F 5 rfl dX9_sortCounts_79 ?_
    refine Z.iast F dX9_sortCounts_81 ?_
    refine Z.iinc F (L0 := [(0, zv h0), (1, .int x1), (2, .int x2), (3, .int x3), (5, .int r15), (6, .int p71l6)]) (k0 := 4) (v := (1 : Int32)) rfl (by decide) [0, 1, 2, 3, 5, 6] rfl (zkR rfl (zkI rfl (zkI rfl (zkI rfl (zkI rfl (zkI rfl zkN)))))) (by decide) dX9_sortCounts_82 ?_
    refine Z.goto F (tgt := 3) dX9_sortCounts_85 (by decide) ?_
    exact Z.sub [1, 2, 3, 4, 0] rfl (hr3 (p71l4 + (1 : Int32)))
  refine Z.sub [2, 3, 4, 5, 6, 1, 0] rfl ?_
  refine Z.w2 (Lf := fun p24l4 p24l6 => [(0, zv h0), (1, .int x1), (2, .int x2), (3, .int x3), (4, .int p24l4), (5, .int r15), (6, .int p24l6)]) (sf := fun p24l4 p24l6 => []) (fun r24 hr24 p24l4 p24l6 => ?_) p3l4 p3l4
  refine Z.iload F 6 rfl dX9_sortCounts_24 ?_
  refine Z.if_le F (tgt := 71) dX9_sortCounts_26 (by decide) ?_ ?_
  · exact Z.sub [0, 1, 2, 3, 4, 5, 6] rfl (hj71 p24l4 p24l6)
  refine Z.aload_n F 0 rfl dX9_sortCounts_29 ?_
  refine gfX9_57 F dX9_sortCounts_30 (fun g30 => ?_)
  refine Z.iload_n F 3 rfl dX9_sortCounts_33 ?_
  refine Z.iload F 6 rfl dX9_sortCounts_34 ?_
  refine Z.iadd F dX9_sortCounts_36 ?_
  refine Z.iconst F (v := (1 : Int32)) (by decide) dX9_sortCounts_37 ?_
  refine Z.isub F dX9_sortCounts_38 ?_
  refine Z.iald F dX9_sortCounts_39 (fun g39 => ?_)
  refine Z.iload F 5 rfl dX9_sortCounts_40 ?_
  refine Z.icmp_ge F (tgt := 71) dX9_sortCounts_42 (by decide) ?_ ?_
  · exact Z.sub [0, 1, 2, 3, 4, 5, 6] rfl (hj71 p24l4 p24l6)
  refine Z.aload_n F 0 rfl dX9_sortCounts_45 ?_
  refine gfX9_57 F dX9_sortCounts_46 (fun g46 => ?_)
  refine Z.iload_n F 3 rfl dX9_sortCounts_49 ?_
  refine Z.iload F 6 rfl dX9_sortCounts_50 ?_
  refine Z.iadd F dX9_sortCounts_52 ?_
  refine Z.aload_n F 0 rfl dX9_sortCounts_53 ?_
  refine gfX9_57 F dX9_sortCounts_54 (fun g54 => ?_)
  refine Z.iload_n F 3 rfl dX9_sortCounts_57 ?_
  refine Z.iload F 6 rfl dX9_sortCounts_58 ?_
  refine Z.iadd F dX9_sortCounts_60 ?_
  refine Z.iconst F (v := (1 : Int32)) (by decide) dX9_sortCounts_61 ?_
  refine Z.isub F dX9_sortCounts_62 ?_
  refine Z.iald F dX9_sortCounts_63 (fun g63 => ?_)
  refine Z.iast F dX9_sortCounts_64 ?_
  refine Z.iinc F (L0 := [(0, zv h0), (1, .int x1), (2, .int x2), (3, .int x3), (4, .int p24l4), (5, .int r15)]) (k0 := 6) (v := (-1 : Int32)) rfl (by decide) [0, 1, 2, 3, 4, 5] rfl (zkR rfl (zkI rfl (zkI rfl (zkI rfl (zkI rfl (zkI rfl zkN)))))) (by decide) dX9_sortCounts_65 ?_
  refine Z.goto F (tgt := 24) dX9_sortCounts_68 (by decide) ?_
  exact Z.sub [1, 2, 3, 4, 5, 6, 0] rfl (hr24 p24l4 (p24l6 + (-1 : Int32)))
theorem clX9_378 (F : ZF p R s m args meth c cc nL "SafeBucketsModel" nm ret D A al sz mc ms fr lo) {h0 : Nat} {x1 : Int32} {x2 : Int32} {x3 : Int32} {K : ZM → Prop} (hR : 3 + 1 ≤ fr ∧ 8 + (7 + 11) + 71 ≤ lo) (hst4 : zlw st) (hdg : decode cc pc = .ok (.invokevirtual 378, 3)) (k : ZW p l e R s m args below meth c Q nL D A al n0 K (pc + 3) L st) : ZW p l e R s m args below meth c Q nL D A al n0 (zat 7 h0 (f_X9_sortCounts h0 x1 x2 x3 K)) pc L (.int x3 :: .int x2 :: .int x1 :: zv h0 :: st) :=
  Z.rv0 _ (fun μ H locs cells slots ls hI h hP => Z.V0 F hI (n := 3) (ci := 6) rfl (by decide) hP.1 hP.2 (k_X9_sortCounts l h0 x1 x2 x3 D A (zX μ, zC μ, zS μ) H.size K μ) q2052 q2054 qs103 q126 q2055 (by decide +kernel) rfl h.1 hst4 hR rfl hdg) k
set_option maxHeartbeats 4000000 in
theorem k_X9_degrees (l : Launch) (h0 : Nat) (x1 : Int32) (x2 : Int32) (x3 : Int32) (x4 : Int32) : ZCl l yX9_degrees (ws_ yX9_degrees cX9_degrees 8 (some .long)) 4 97 0 0 false [zv h0, .int x1, .int x2, .int x3, .int x4] (f_X9_degrees h0 x1 x2 x3 x4) := by
  refine Z.metL (by decide +kernel) (fun h => ⟨rfl, rfl⟩) (L0 := [(0, zv h0), (1, .int x1), (2, .int x2), (3, .int x3), (4, .int x4)]) (by first | (rw [zla_v, zla_i, zla_i, zla_i, zla_i, zla_0]; done) | (rw [zla_v, zla_i, zla_i, zla_i, zla_i, zla_0]; rfl)) (by rw [zsl_v, zsl_i, zsl_i, zsl_i, zsl_i, zsl_0]; exact Nat.le_of_ble_eq_true rfl) ?_
  intro p e R s m args below meth c D A n0 sz k F
  have F : ZF p R s m args meth c cX9_degrees 8 "SafeBucketsModel" "degrees" (some .long) D A false sz 0 0 4 97 := F
  unfold f_X9_degrees
  refine Z.aload_n F 0 rfl dX9_degrees_0 ?_
  refine Z.iload_n F 1 rfl dX9_degrees_1 ?_
  refine Z.iload_n F 2 rfl dX9_degrees_2 ?_
  refine Z.iconst F (v := (0 : Int32)) (by decide) dX9_degrees_3 ?_
  refine clX9_378 F ⟨Nat.le_of_ble_eq_true rfl, Nat.le_of_ble_eq_true rfl⟩ (zlw4 (Nat.le_of_ble_eq_true rfl)) dX9_degrees_4 ?_
  refine Z.aload_n F 0 rfl dX9_degrees_7 ?_
  refine Z.iload_n F 3 rfl dX9_degrees_8 ?_
  refine Z.iload F 4 rfl dX9_degrees_9 ?_
  refine Z.bipush F (v := (16 : Int32)) (by decide) dX9_degrees_11 ?_
  refine clX9_378 F ⟨Nat.le_of_ble_eq_true rfl, Nat.le_of_ble_eq_true rfl⟩ (zlw4 (Nat.le_of_ble_eq_true rfl)) dX9_degrees_13 ?_
  refine Z.lconst F (w := (0 : Int64)) (by decide) dX9_degrees_16 ?_
  refine Z.lstore F (L0 := [(0, zv h0), (1, .int x1), (2, .int x2), (3, .int x3), (4, .int x4)]) [0, 1, 2, 3, 4] rfl (zmR rfl rfl  (zmI rfl rfl  (zmI rfl rfl  (zmI rfl rfl  (zmI rfl rfl  zmN))))) (by decide) dX9_degrees_17 ?_
  refine Z.iconst F (v := (0 : Int32)) (by decide) dX9_degrees_19 ?_
  refine Z.istore F (L0 := [(5, .long (0 : Int64)), (0, zv h0), (1, .int x1), (2, .int x2), (3, .int x3), (4, .int x4)]) [0, 1, 2, 3, 4, 5] rfl (zkL rfl rfl (zkR rfl (zkI rfl (zkI rfl (zkI rfl (zkI rfl zkN)))))) (by decide) dX9_degrees_20 ?_
  refine Z.sub [2, 1, 0] rfl ?_
  refine Z.w2 (Lf := fun p22l5 p22l7 => [(0, zv h0), (5, .long p22l5), (7, .int p22l7)]) (sf := fun p22l5 p22l7 => []) (fun r22 hr22 p22l5 p22l7 => ?_) (0 : Int64) (0 : Int32)
  refine Z.iload F 2 rfl dX9_degrees_22 ?_
  refine Z.bipush F (v := (16 : Int32)) (by decide) dX9_degrees_24 ?_
  refine Z.icmp_ge F (tgt := 60) dX9_degrees_26 (by decide) ?_ ?_
  · refine Z.lload F 1 rfl dX9_degrees_60 ?_
    exact Z.lret F dX9_degrees_62
  refine Z.lload F 1 rfl dX9_degrees_29 ?_
  refine Z.aload_n F 0 rfl dX9_degrees_31 ?_
  refine gfX9_57 F dX9_degrees_32 (fun g32 => ?_)
  refine Z.iload F 2 rfl dX9_degrees_35 ?_
  refine Z.iald F dX9_degrees_37 (fun g37 => ?_)
  refine Z.i2l F dX9_degrees_38 ?_
  refine Z.aload_n F 0 rfl dX9_degrees_39 ?_
  refine gfX9_57 F dX9_degrees_40 (fun g40 => ?_)
  refine Z.bipush F (v := (16 : Int32)) (by decide) dX9_degrees_43 ?_
  refine Z.iload F 2 rfl dX9_degrees_45 ?_
  refine Z.iadd F dX9_degrees_47 ?_
  refine Z.iald F dX9_degrees_48 (fun g48 => ?_)
  refine Z.i2l F dX9_degrees_49 ?_
  refine Z.lmul F dX9_degrees_50 ?_
  refine Z.ladd F dX9_degrees_51 ?_
  refine Z.lstore F (L0 := [(0, zv h0), (7, .int p22l7)]) [0, 2] rfl (zmR rfl rfl  (zmI rfl rfl  zmN)) (by decide) dX9_degrees_52 ?_
  refine Z.iinc F (L0 := [(5, .long (p22l5 + (g37.toInt64 * g48.toInt64))), (0, zv h0)]) (k0 := 2) (v := (1 : Int32)) rfl (by decide) [0, 1] rfl (zkL rfl rfl (zkR rfl zkN)) (by decide) dX9_degrees_54 ?_
  refine Z.goto F (tgt := 22) dX9_degrees_57 (by decide) ?_
  exact Z.sub [2, 1, 0] rfl (hr22 (p22l5 + (g37.toInt64 * g48.toInt64)) (p22l7 + (1 : Int32)))
end ZWalk
