section ZWalk
variable {p : Program} {l : Launch} {e : Env} {R : Room} {s : State} {m : MethodId} {args : Array Value} {below : List Frame} {meth : Method} {c : Code} {Q : State → Prop} {nL : Nat} {D : ZD} {A : Nat → Prop} {al : Bool} {n0 : Nat × Nat × Nat} {cc : ByteArray} {nm : String} {ret : Option FieldType} {sz mc ms fr lo : Nat}
variable {P : ZM → Prop} {pc : Nat} {L : List (Nat × Value)} {st : List Value}
set_option maxHeartbeats 4000000 in
theorem k_X9_rowsOfAll (l : Launch) (h0 : Nat) : ZCi l yX9_rowsOfAll (ws_ yX9_rowsOfAll cX9_rowsOfAll 3 (some .int)) 1 23 0 0 false [zv h0] (f_X9_rowsOfAll h0) := by
  refine Z.metI (by decide +kernel) (fun h => ⟨rfl, rfl⟩) (L0 := [(0, zv h0)]) (by first | (rw [zla_v, zla_0]; done) | (rw [zla_v, zla_0]; rfl)) (by rw [zsl_v, zsl_0]; exact Nat.le_of_ble_eq_true rfl) ?_
  intro p e R s m args below meth c D A n0 sz k F
  have F : ZF p R s m args meth c cX9_rowsOfAll 3 "SafeBucketsModel" "rowsOfAll" (some .int) D A false sz 0 0 1 23 := F
  unfold f_X9_rowsOfAll
  refine Z.iconst F (v := (0 : Int32)) (by decide) dX9_rowsOfAll_0 ?_
  refine Z.istore_n F (L0 := [(0, zv h0)]) [0] rfl (zkR rfl zkN) (by decide) dX9_rowsOfAll_1 ?_
  refine Z.iconst F (v := (0 : Int32)) (by decide) dX9_rowsOfAll_2 ?_
  refine Z.istore_n F (L0 := [(1, .int (0 : Int32)), (0, zv h0)]) [0, 1] rfl (zkI rfl (zkR rfl zkN)) (by decide) dX9_rowsOfAll_3 ?_
  refine Z.sub [2, 1, 0] rfl ?_
  refine Z.w2 (Lf := fun p4l1 p4l2 => [(0, zv h0), (1, .int p4l1), (2, .int p4l2)]) (sf := fun p4l1 p4l2 => []) (fun r4 hr4 p4l1 p4l2 => ?_) (0 : Int32) (0 : Int32)
  refine Z.iload_n F 2 rfl dX9_rowsOfAll_4 ?_
  refine Z.aload_n F 0 rfl dX9_rowsOfAll_5 ?_
  refine gfX9_150 F dX9_rowsOfAll_6 (fun g6 => ?_)
  refine Z.icmp_ge F (tgt := 26) dX9_rowsOfAll_9 (by decide) ?_ ?_
  · refine Z.iload_n F 1 rfl dX9_rowsOfAll_26 ?_
    exact Z.iret F dX9_rowsOfAll_27
  refine Z.iload_n F 1 rfl dX9_rowsOfAll_12 ?_
  refine Z.aload_n F 0 rfl dX9_rowsOfAll_13 ?_
  refine Z.iload_n F 2 rfl dX9_rowsOfAll_14 ?_
  refine clX9_161 F ⟨Nat.le_of_ble_eq_true rfl, Nat.le_of_ble_eq_true rfl⟩ (zlw4 (Nat.le_of_ble_eq_true rfl)) dX9_rowsOfAll_15 (fun r15 => ?_)
  refine Z.iadd F dX9_rowsOfAll_18 ?_
  refine Z.istore_n F (L0 := [(0, zv h0), (2, .int p4l2)]) [0, 2] rfl (zkR rfl (zkI rfl zkN)) (by decide) dX9_rowsOfAll_19 ?_
  refine Z.iinc F (L0 := [(1, .int (p4l1 + r15)), (0, zv h0)]) (k0 := 2) (v := (1 : Int32)) rfl (by decide) [0, 1] rfl (zkI rfl (zkR rfl zkN)) (by decide) dX9_rowsOfAll_20 ?_
  refine Z.goto F (tgt := 4) dX9_rowsOfAll_23 (by decide) ?_
  exact Z.sub [2, 1, 0] rfl (hr4 (p4l1 + r15) (p4l2 + (1 : Int32)))
theorem clX9_318 (F : ZF p R s m args meth c cc nL "SafeBucketsModel" nm ret D A al sz mc ms fr lo) {h0 : Nat} {K : Int32 → ZM → Prop} (hR : 1 + 1 ≤ fr ∧ 8 + (3 + 11) + 23 ≤ lo) (hst4 : zlw st) (hdg : decode cc pc = .ok (.invokevirtual 318, 3)) (k : ∀ r, ZW p l e R s m args below meth c Q nL D A al n0 (K r) (pc + 3) L (.int r :: st)) : ZW p l e R s m args below meth c Q nL D A al n0 (zat 7 h0 (f_X9_rowsOfAll h0 K)) pc L (zv h0 :: st) :=
  Z.ri0 _ (fun μ H locs cells slots ls hI h hP => Z.V0 F hI (n := 0) (ci := 6) rfl (by decide) hP.1 hP.2 (k_X9_rowsOfAll l h0 D A (zX μ, zC μ, zS μ) H.size K μ) q1963 q1965 qs87 q126 q1966 (by decide +kernel) rfl h.1 hst4 hR rfl hdg) k
theorem clX9_315 (F : ZF p R s m args meth c cc nL "SafeBucketsModel" nm ret D A al sz mc ms fr lo) {h0 : Nat} {K : ZM → Prop} (hR : 6 + 1 ≤ fr ∧ 8 + (6 + 11) + 155 ≤ lo) (hst4 : zlw st) (hdg : decode cc pc = .ok (.invokevirtual 315, 3)) (k : ZW p l e R s m args below meth c Q nL D A al n0 K (pc + 3) L st) : ZW p l e R s m args below meth c Q nL D A al n0 (zat 7 h0 (f_X9_drawYear h0 K)) pc L (zv h0 :: st) :=
  Z.rv0 _ (fun μ H locs cells slots ls hI h hP => Z.V0 F hI (n := 0) (ci := 6) rfl (by decide) hP.1 hP.2 (k_X9_drawYear l h0 D A (zX μ, zC μ, zS μ) H.size K μ) q1946 q1948 qs84 q126 q1949 (by decide +kernel) rfl h.1 hst4 hR rfl hdg) k
set_option maxHeartbeats 4000000 in
theorem k_X9_years (l : Launch) (h0 : Nat) (x1 : Int32) (x2 : Int64) : ZCi l yX9_years (ws_ yX9_years cX9_years 5 (some .int)) 7 180 0 0 false [zv h0, .int x1, .long x2] (f_X9_years h0 x1 x2) := by
  refine Z.metI (by decide +kernel) (fun h => ⟨rfl, rfl⟩) (L0 := [(0, zv h0), (1, .int x1), (2, .long x2)]) (by first | (rw [zla_v, zla_i, zla_l, zla_0]; done) | (rw [zla_v, zla_i, zla_l, zla_0]; rfl)) (by rw [zsl_v, zsl_i, zsl_l, zsl_0]; exact Nat.le_of_ble_eq_true rfl) ?_
  intro p e R s m args below meth c D A n0 sz k F
  have F : ZF p R s m args meth c cX9_years 5 "SafeBucketsModel" "years" (some .int) D A false sz 0 0 7 180 := F
  unfold f_X9_years
  refine Z.aload_n F 0 rfl dX9_years_0 ?_
  refine clX9_225 F ⟨Nat.le_of_ble_eq_true rfl, Nat.le_of_ble_eq_true rfl⟩ (zlw4 (Nat.le_of_ble_eq_true rfl)) dX9_years_1 (fun r1 => ?_)
  refine Z.jn0 (J := _) ([]) ([]) 19 (?_) (fun j19 hj19 => ?_)
  · refine Z.iconst F (v := (-1 : Int32)) (by decide) dX9_years_19 ?_
    exact Z.iret F dX9_years_20
  refine Z.if_eq F (tgt := 19) dX9_years_4 (by decide) ?_ ?_
  · exact Z.sub [] rfl (hj19)
  refine Z.iload_n F 1 rfl dX9_years_7 ?_
  refine Z.i2l F dX9_years_8 ?_
  refine Z.lconst F (w := (1 : Int64)) (by decide) dX9_years_9 ?_
  refine Z.ldc2 F q1945 dX9_years_10 ?_
  refine clX9_77 F ⟨Nat.le_of_ble_eq_true rfl, Nat.le_of_ble_eq_true rfl⟩ (zlw4 (Nat.le_of_ble_eq_true rfl)) dX9_years_13 (fun r13 => ?_)
  refine Z.if_ne F (tgt := 21) dX9_years_16 (by decide) ?_ ?_
  · refine Z.aload_n F 0 rfl dX9_years_21 ?_
    refine Z.lload_n F 2 rfl dX9_years_22 ?_
    refine pfX9_290 F dX9_years_23 ?_
    refine Z.iconst F (v := (0 : Int32)) (by decide) dX9_years_26 ?_
    refine Z.istore F (L0 := [(0, zv h0), (1, .int x1), (2, .long x2)]) [0, 1, 2] rfl (zkR rfl (zkI rfl (zkL rfl rfl zkN))) (by decide) dX9_years_27 ?_
    refine Z.jn0 (J := _) ([(0, zv h0)]) ([]) 45 (?_) (fun j45 hj45 => ?_)
    · refine Z.aload_n F 0 rfl dX9_years_45 ?_
      refine clX9_318 F ⟨Nat.le_of_ble_eq_true rfl, Nat.le_of_ble_eq_true rfl⟩ (zlw4 (Nat.le_of_ble_eq_true rfl)) dX9_years_46 (fun r46 => ?_)
      exact Z.iret F dX9_years_49
    refine Z.sub [1, 2, 0] rfl ?_
    refine Z.w1 (Lf := fun p29l4 => [(0, zv h0), (1, .int x1), (4, .int p29l4)]) (sf := fun p29l4 => []) (fun r29 hr29 p29l4 => ?_) (0 : Int32)
    refine Z.iload F 2 rfl dX9_years_29 ?_
    refine Z.iload_n F 1 rfl dX9_years_31 ?_
    refine Z.icmp_ge F (tgt := 45) dX9_years_32 (by decide) ?_ ?_
    · exact Z.sub [0] rfl (hj45)
    refine Z.aload_n F 0 rfl dX9_years_35 ?_
    refine clX9_315 F ⟨Nat.le_of_ble_eq_true rfl, Nat.le_of_ble_eq_true rfl⟩ (zlw4 (Nat.le_of_ble_eq_true rfl)) dX9_years_36 ?_
    refine Z.iinc F (L0 := [(0, zv h0), (1, .int x1)]) (k0 := 2) (v := (1 : Int32)) rfl (by decide) [0, 1] rfl (zkR rfl (zkI rfl zkN)) (by decide) dX9_years_39 ?_
    refine Z.goto F (tgt := 29) dX9_years_42 (by decide) ?_
    exact Z.sub [1, 2, 0] rfl (hr29 (p29l4 + (1 : Int32)))
  exact Z.sub [] rfl (hj19)
set_option maxHeartbeats 4000000 in
theorem k_X9_status (l : Launch) (h0 : Nat) (x1 : Int32) : ZCi l yX9_status (ws_ yX9_status cX9_status 2 (some .int)) 1 25 0 0 false [zv h0, .int x1] (f_X9_status h0 x1) := by
  refine Z.metI (by decide +kernel) (fun h => ⟨rfl, rfl⟩) (L0 := [(0, zv h0), (1, .int x1)]) (by first | (rw [zla_v, zla_i, zla_0]; done) | (rw [zla_v, zla_i, zla_0]; rfl)) (by rw [zsl_v, zsl_i, zsl_0]; exact Nat.le_of_ble_eq_true rfl) ?_
  intro p e R s m args below meth c D A n0 sz k F
  have F : ZF p R s m args meth c cX9_status 2 "SafeBucketsModel" "status" (some .int) D A false sz 0 0 1 25 := F
  unfold f_X9_status
  refine Z.iload_n F 1 rfl dX9_status_0 ?_
  refine Z.i2l F dX9_status_1 ?_
  refine Z.lconst F (w := (0 : Int64)) (by decide) dX9_status_2 ?_
  refine Z.ldc2 F q1971 dX9_status_3 ?_
  refine clX9_77 F ⟨Nat.le_of_ble_eq_true rfl, Nat.le_of_ble_eq_true rfl⟩ (zlw4 (Nat.le_of_ble_eq_true rfl)) dX9_status_6 (fun r6 => ?_)
  refine Z.jn1 (J := _) (fun p22s0 => []) (fun p22s0 => [.int p22s0]) 22 (fun p22s0 => ?_) (fun j22 hj22 => ?_)
  · exact Z.iret F dX9_status_22
  refine Z.if_eq F (tgt := 21) dX9_status_9 (by decide) ?_ ?_
  · refine Z.iconst F (v := (-1 : Int32)) (by decide) dX9_status_21 ?_
    exact Z.sub [] rfl (hj22 (-1 : Int32))
  refine Z.aload_n F 0 rfl dX9_status_12 ?_
  refine gfX9_37 F dX9_status_13 (fun g13 => ?_)
  refine Z.iload_n F 1 rfl dX9_status_16 ?_
  refine Z.iald F dX9_status_17 (fun g17 => ?_)
  refine Z.goto F (tgt := 22) dX9_status_18 (by decide) ?_
  exact Z.sub [] rfl (hj22 g17)
set_option maxHeartbeats 4000000 in
theorem k_X9_undo (l : Launch) (h0 : Nat) : ZCi l yX9_undo (ws_ yX9_undo cX9_undo 2 (some .int)) 0 0 0 0 false [zv h0] (f_X9_undo h0) := by
  refine Z.metI (by decide +kernel) (fun h => ⟨rfl, rfl⟩) (L0 := [(0, zv h0)]) (by first | (rw [zla_v, zla_0]; done) | (rw [zla_v, zla_0]; rfl)) (by rw [zsl_v, zsl_0]; exact Nat.le_of_ble_eq_true rfl) ?_
  intro p e R s m args below meth c D A n0 sz k F
  have F : ZF p R s m args meth c cX9_undo 2 "SafeBucketsModel" "undo" (some .int) D A false sz 0 0 0 0 := F
  unfold f_X9_undo
  refine Z.aload_n F 0 rfl dX9_undo_0 ?_
  refine gfX9_212 F dX9_undo_1 (fun g1 => ?_)
  refine Z.if_ne F (tgt := 9) dX9_undo_4 (by decide) ?_ ?_
  · refine Z.aload_n F 0 rfl dX9_undo_9 ?_
    refine Z.dup F dX9_undo_10 ?_
    refine gfX9_212 F dX9_undo_11 (fun g11 => ?_)
    refine Z.iconst F (v := (1 : Int32)) (by decide) dX9_undo_14 ?_
    refine Z.isub F dX9_undo_15 ?_
    refine pfX9_212 F dX9_undo_16 ?_
    refine Z.iconst F (v := (0 : Int32)) (by decide) dX9_undo_19 ?_
    refine Z.istore_n F (L0 := [(0, zv h0)]) [0] rfl (zkR rfl zkN) (by decide) dX9_undo_20 ?_
    refine Z.sub [1, 0] rfl ?_
    refine Z.w1 (Lf := fun p21l1 => [(0, zv h0), (1, .int p21l1)]) (sf := fun p21l1 => []) (fun r21 hr21 p21l1 => ?_) (0 : Int32)
    refine Z.iload_n F 1 rfl dX9_undo_21 ?_
    refine Z.sipush F (v := (1253 : Int32)) (by decide) dX9_undo_22 ?_
    refine Z.icmp_ge F (tgt := 55) dX9_undo_25 (by decide) ?_ ?_
    · refine Z.aload_n F 0 rfl dX9_undo_55 ?_
      refine gfX9_212 F dX9_undo_56 (fun g56 => ?_)
      exact Z.iret F dX9_undo_59
    refine Z.aload_n F 0 rfl dX9_undo_28 ?_
    refine gfX9_34 F dX9_undo_29 (fun g29 => ?_)
    refine Z.iload_n F 1 rfl dX9_undo_32 ?_
    refine Z.aload_n F 0 rfl dX9_undo_33 ?_
    refine gfX9_51 F dX9_undo_34 (fun g34 => ?_)
    refine Z.sipush F (v := (1253 : Int32)) (by decide) dX9_undo_37 ?_
    refine Z.aload_n F 0 rfl dX9_undo_40 ?_
    refine gfX9_212 F dX9_undo_41 (fun g41 => ?_)
    refine Z.imul F dX9_undo_44 ?_
    refine Z.iload_n F 1 rfl dX9_undo_45 ?_
    refine Z.iadd F dX9_undo_46 ?_
    refine Z.iald F dX9_undo_47 (fun g47 => ?_)
    refine Z.iast F dX9_undo_48 ?_
    refine Z.iinc F (L0 := [(0, zv h0)]) (k0 := 1) (v := (1 : Int32)) rfl (by decide) [0] rfl (zkR rfl zkN) (by decide) dX9_undo_49 ?_
    refine Z.goto F (tgt := 21) dX9_undo_52 (by decide) ?_
    exact Z.sub [1, 0] rfl (hr21 (p21l1 + (1 : Int32)))
  refine Z.iconst F (v := (-1 : Int32)) (by decide) dX9_undo_7 ?_
  exact Z.iret F dX9_undo_8
set_option maxHeartbeats 4000000 in
theorem k_X9_log (l : Launch) (h0 : Nat) (x1 : Int32) (x2 : Int32) : ZCi l yX9_log (ws_ yX9_log cX9_log 3 (some .int)) 1 25 0 0 false [zv h0, .int x1, .int x2] (f_X9_log h0 x1 x2) := by
  refine Z.metI (by decide +kernel) (fun h => ⟨rfl, rfl⟩) (L0 := [(0, zv h0), (1, .int x1), (2, .int x2)]) (by first | (rw [zla_v, zla_i, zla_i, zla_0]; done) | (rw [zla_v, zla_i, zla_i, zla_0]; rfl)) (by rw [zsl_v, zsl_i, zsl_i, zsl_0]; exact Nat.le_of_ble_eq_true rfl) ?_
  intro p e R s m args below meth c D A n0 sz k F
  have F : ZF p R s m args meth c cX9_log 3 "SafeBucketsModel" "log" (some .int) D A false sz 0 0 1 25 := F
  unfold f_X9_log
  refine Z.iload_n F 1 rfl dX9_log_0 ?_
  refine Z.i2l F dX9_log_1 ?_
  refine Z.lconst F (w := (0 : Int64)) (by decide) dX9_log_2 ?_
  refine Z.aload_n F 0 rfl dX9_log_3 ?_
  refine gfX9_34 F dX9_log_4 (fun g4 => ?_)
  refine Z.sipush F (v := (1072 : Int32)) (by decide) dX9_log_7 ?_
  refine Z.iald F dX9_log_10 (fun g10 => ?_)
  refine Z.iconst F (v := (1 : Int32)) (by decide) dX9_log_11 ?_
  refine Z.isub F dX9_log_12 ?_
  refine Z.i2l F dX9_log_13 ?_
  refine clX9_77 F ⟨Nat.le_of_ble_eq_true rfl, Nat.le_of_ble_eq_true rfl⟩ (zlw4 (Nat.le_of_ble_eq_true rfl)) dX9_log_14 (fun r14 => ?_)
  refine Z.jn1 (J := _) (fun p62s0 => []) (fun p62s0 => [.int p62s0]) 62 (fun p62s0 => ?_) (fun j62 hj62 => ?_)
  · exact Z.iret F dX9_log_62
  refine Z.jn0 (J := _) ([]) ([]) 60 (?_) (fun j60 hj60 => ?_)
  · refine Z.ldcI F q1850 dX9_log_60 ?_
    exact Z.sub [] rfl (hj62 (-1000000 : Int32))
  refine Z.if_eq F (tgt := 60) dX9_log_17 (by decide) ?_ ?_
  · exact Z.sub [] rfl (hj60)
  refine Z.iload_n F 2 rfl dX9_log_20 ?_
  refine Z.i2l F dX9_log_21 ?_
  refine Z.lconst F (w := (0 : Int64)) (by decide) dX9_log_22 ?_
  refine Z.ldc2 F q1807 dX9_log_23 ?_
  refine clX9_77 F ⟨Nat.le_of_ble_eq_true rfl, Nat.le_of_ble_eq_true rfl⟩ (zlw4 (Nat.le_of_ble_eq_true rfl)) dX9_log_26 (fun r26 => ?_)
  refine Z.if_eq F (tgt := 60) dX9_log_29 (by decide) ?_ ?_
  · exact Z.sub [] rfl (hj60)
  refine Z.aload_n F 0 rfl dX9_log_32 ?_
  refine gfX9_34 F dX9_log_33 (fun g33 => ?_)
  refine Z.sipush F (v := (1073 : Int32)) (by decide) dX9_log_36 ?_
  refine Z.iconst F (v := (3 : Int32)) (by decide) dX9_log_39 ?_
  refine Z.aload_n F 0 rfl dX9_log_40 ?_
  refine gfX9_34 F dX9_log_41 (fun g41 => ?_)
  refine Z.sipush F (v := (1072 : Int32)) (by decide) dX9_log_44 ?_
  refine Z.iald F dX9_log_47 (fun g47 => ?_)
  refine Z.iconst F (v := (1 : Int32)) (by decide) dX9_log_48 ?_
  refine Z.isub F dX9_log_49 ?_
  refine Z.iload_n F 1 rfl dX9_log_50 ?_
  refine Z.isub F dX9_log_51 ?_
  refine Z.imul F dX9_log_52 ?_
  refine Z.iadd F dX9_log_53 ?_
  refine Z.iload_n F 2 rfl dX9_log_54 ?_
  refine Z.iadd F dX9_log_55 ?_
  refine Z.iald F dX9_log_56 (fun g56 => ?_)
  refine Z.goto F (tgt := 62) dX9_log_57 (by decide) ?_
  exact Z.sub [] rfl (hj62 g56)
theorem gfX9_323 (F : ZF p R s m args meth c cc nL "SafeBucketsModel" nm ret D A al sz mc ms fr lo) {z : Nat} {K : Int32 → ZM → Prop} (hdg : decode cc pc = .ok (.getfield 323, 3)) (k : ∀ u, ZW p l e R s m args below meth c Q nL D A al n0 (K u) (pc + 3) L (.int u :: st)) : ZW p l e R s m args below meth c Q nL D A al n0 (zgI 7 z 26 K) pc L (zv z :: st) :=
  Z.getI F (ref := "SafeBucketsModel") in_X9 (ci := 6) rfl (by decide) (kf := 26) (by decide) q1596 (fun _ h => h) rfl hdg k
theorem gfX9_54 (F : ZF p R s m args meth c cc nL "SafeBucketsModel" nm ret D A al sz mc ms fr lo) {z : Nat} {K : Nat → ZM → Prop} (hdg : decode cc pc = .ok (.getfield 54, 3)) (k : ∀ u, ZW p l e R s m args below meth c Q nL D A al n0 (K u) (pc + 3) L (zv u :: st)) : ZW p l e R s m args below meth c Q nL D A al n0 (zgR 7 z 25 K) pc L (zv z :: st) :=
  Z.getR F (ref := "SafeBucketsModel") in_X9 (ci := 6) rfl (by decide) (kf := 25) (by decide) q1595 (fun _ h => h) rfl hdg k
set_option maxHeartbeats 4000000 in
theorem k_X9_trace (l : Launch) (h0 : Nat) (x1 : Int32) : ZCi l yX9_trace (ws_ yX9_trace cX9_trace 2 (some .int)) 1 25 0 0 false [zv h0, .int x1] (f_X9_trace h0 x1) := by
  refine Z.metI (by decide +kernel) (fun h => ⟨rfl, rfl⟩) (L0 := [(0, zv h0), (1, .int x1)]) (by first | (rw [zla_v, zla_i, zla_0]; done) | (rw [zla_v, zla_i, zla_0]; rfl)) (by rw [zsl_v, zsl_i, zsl_0]; exact Nat.le_of_ble_eq_true rfl) ?_
  intro p e R s m args below meth c D A n0 sz k F
  have F : ZF p R s m args meth c cX9_trace 2 "SafeBucketsModel" "trace" (some .int) D A false sz 0 0 1 25 := F
  unfold f_X9_trace
  refine Z.iload_n F 1 rfl dX9_trace_0 ?_
  refine Z.i2l F dX9_trace_1 ?_
  refine Z.lconst F (w := (0 : Int64)) (by decide) dX9_trace_2 ?_
  refine Z.aload_n F 0 rfl dX9_trace_3 ?_
  refine gfX9_323 F dX9_trace_4 (fun g4 => ?_)
  refine Z.iconst F (v := (1 : Int32)) (by decide) dX9_trace_7 ?_
  refine Z.isub F dX9_trace_8 ?_
  refine Z.i2l F dX9_trace_9 ?_
  refine clX9_77 F ⟨Nat.le_of_ble_eq_true rfl, Nat.le_of_ble_eq_true rfl⟩ (zlw4 (Nat.le_of_ble_eq_true rfl)) dX9_trace_10 (fun r10 => ?_)
  refine Z.jn1 (J := _) (fun p26s0 => []) (fun p26s0 => [.int p26s0]) 26 (fun p26s0 => ?_) (fun j26 hj26 => ?_)
  · exact Z.iret F dX9_trace_26
  refine Z.if_eq F (tgt := 25) dX9_trace_13 (by decide) ?_ ?_
  · refine Z.iconst F (v := (-1 : Int32)) (by decide) dX9_trace_25 ?_
    exact Z.sub [] rfl (hj26 (-1 : Int32))
  refine Z.aload_n F 0 rfl dX9_trace_16 ?_
  refine gfX9_54 F dX9_trace_17 (fun g17 => ?_)
  refine Z.iload_n F 1 rfl dX9_trace_20 ?_
  refine Z.iald F dX9_trace_21 (fun g21 => ?_)
  refine Z.goto F (tgt := 26) dX9_trace_22 (by decide) ?_
  exact Z.sub [] rfl (hj26 g21)
set_option maxHeartbeats 4000000 in
theorem k_X9_isWhere (l : Launch) (h0 : Nat) (x1 : Int32) : ZCi l yX9_isWhere (ws_ yX9_isWhere cX9_isWhere 2 (some .boolean)) 1 25 0 0 false [zv h0, .int x1] (f_X9_isWhere h0 x1) := by
  refine Z.metZ (by decide +kernel) (fun h => ⟨rfl, rfl⟩) (L0 := [(0, zv h0), (1, .int x1)]) (by first | (rw [zla_v, zla_i, zla_0]; done) | (rw [zla_v, zla_i, zla_0]; rfl)) (by rw [zsl_v, zsl_i, zsl_0]; exact Nat.le_of_ble_eq_true rfl) ?_
  intro p e R s m args below meth c D A n0 sz k F
  have F : ZF p R s m args meth c cX9_isWhere 2 "SafeBucketsModel" "isWhere" (some .boolean) D A false sz 0 0 1 25 := F
  unfold f_X9_isWhere
  refine Z.iload_n F 1 rfl dX9_isWhere_0 ?_
  refine Z.i2l F dX9_isWhere_1 ?_
  refine Z.lconst F (w := (0 : Int64)) (by decide) dX9_isWhere_2 ?_
  refine Z.aload_n F 0 rfl dX9_isWhere_3 ?_
  refine gfX9_222 F dX9_isWhere_4 (fun g4 => ?_)
  refine Z.iconst F (v := (1 : Int32)) (by decide) dX9_isWhere_7 ?_
  refine Z.isub F dX9_isWhere_8 ?_
  refine Z.i2l F dX9_isWhere_9 ?_
  refine clX9_77 F ⟨Nat.le_of_ble_eq_true rfl, Nat.le_of_ble_eq_true rfl⟩ (zlw4 (Nat.le_of_ble_eq_true rfl)) dX9_isWhere_10 (fun r10 => ?_)
  exact Z.zret F dX9_isWhere_13
set_option maxHeartbeats 4000000 in
theorem k_X9_unitAt (l : Launch) (h0 : Nat) (x1 : Int32) (x2 : Int32) (x3 : Int32) : ZCi l yX9_unitAt (ws_ yX9_unitAt cX9_unitAt 4 (some .int)) 0 0 0 0 false [zv h0, .int x1, .int x2, .int x3] (f_X9_unitAt h0 x1 x2 x3) := by
  refine Z.metI (by decide +kernel) (fun h => ⟨rfl, rfl⟩) (L0 := [(0, zv h0), (1, .int x1), (2, .int x2), (3, .int x3)]) (by first | (rw [zla_v, zla_i, zla_i, zla_i, zla_0]; done) | (rw [zla_v, zla_i, zla_i, zla_i, zla_0]; rfl)) (by rw [zsl_v, zsl_i, zsl_i, zsl_i, zsl_0]; exact Nat.le_of_ble_eq_true rfl) ?_
  intro p e R s m args below meth c D A n0 sz k F
  have F : ZF p R s m args meth c cX9_unitAt 4 "SafeBucketsModel" "unitAt" (some .int) D A false sz 0 0 0 0 := F
  unfold f_X9_unitAt
  refine Z.aload_n F 0 rfl dX9_unitAt_0 ?_
  refine gfX9_28 F dX9_unitAt_1 (fun g1 => ?_)
  refine Z.iconst F (v := (4 : Int32)) (by decide) dX9_unitAt_4 ?_
  refine Z.bipush F (v := (6 : Int32)) (by decide) dX9_unitAt_5 ?_
  refine Z.iload_n F 1 rfl dX9_unitAt_7 ?_
  refine Z.imul F dX9_unitAt_8 ?_
  refine Z.iload_n F 2 rfl dX9_unitAt_9 ?_
  refine Z.iadd F dX9_unitAt_10 ?_
  refine Z.imul F dX9_unitAt_11 ?_
  refine Z.iload_n F 3 rfl dX9_unitAt_12 ?_
  refine Z.iadd F dX9_unitAt_13 ?_
  refine Z.iald F dX9_unitAt_14 (fun g14 => ?_)
  exact Z.iret F dX9_unitAt_15
theorem clX9_335 (F : ZF p R s m args meth c cc nL "SafeBucketsModel" nm ret D A al sz mc ms fr lo) {h0 : Nat} {x1 : Int32} {x2 : Int32} {x3 : Int32} {K : Int32 → ZM → Prop} (hR : 0 + 1 ≤ fr ∧ 8 + (4 + 11) + 0 ≤ lo) (hst4 : zlw st) (hdg : decode cc pc = .ok (.invokevirtual 335, 3)) (k : ∀ r, ZW p l e R s m args below meth c Q nL D A al n0 (K r) (pc + 3) L (.int r :: st)) : ZW p l e R s m args below meth c Q nL D A al n0 (zat 7 h0 (f_X9_unitAt h0 x1 x2 x3 K)) pc L (.int x3 :: .int x2 :: .int x1 :: zv h0 :: st) :=
  Z.ri0 _ (fun μ H locs cells slots ls hI h hP => Z.V0 F hI (n := 3) (ci := 6) rfl (by decide) hP.1 hP.2 (k_X9_unitAt l h0 x1 x2 x3 D A (zX μ, zC μ, zS μ) H.size K μ) q2000 q2002 qs91 q126 q2003 (by decide +kernel) rfl h.1 hst4 hR rfl hdg) k
set_option maxHeartbeats 4000000 in
theorem k_X9_terms (l : Launch) (h0 : Nat) (x1 : Int32) : ZCi l yX9_terms (ws_ yX9_terms cX9_terms 2 (some .int)) 1 23 0 0 false [zv h0, .int x1] (f_X9_terms h0 x1) := by
  refine Z.metI (by decide +kernel) (fun h => ⟨rfl, rfl⟩) (L0 := [(0, zv h0), (1, .int x1)]) (by first | (rw [zla_v, zla_i, zla_0]; done) | (rw [zla_v, zla_i, zla_0]; rfl)) (by rw [zsl_v, zsl_i, zsl_0]; exact Nat.le_of_ble_eq_true rfl) ?_
  intro p e R s m args below meth c D A n0 sz k F
  have F : ZF p R s m args meth c cX9_terms 2 "SafeBucketsModel" "terms" (some .int) D A false sz 0 0 1 23 := F
  unfold f_X9_terms
  refine Z.aload_n F 0 rfl dX9_terms_0 ?_
  refine Z.iload_n F 1 rfl dX9_terms_1 ?_
  refine Z.aload_n F 0 rfl dX9_terms_2 ?_
  refine gfX9_31 F dX9_terms_3 (fun g3 => ?_)
  refine Z.iload_n F 1 rfl dX9_terms_6 ?_
  refine Z.iald F dX9_terms_7 (fun g7 => ?_)
  refine Z.iconst F (v := (1 : Int32)) (by decide) dX9_terms_8 ?_
  refine Z.isub F dX9_terms_9 ?_
  refine Z.iconst F (v := (0 : Int32)) (by decide) dX9_terms_10 ?_
  refine clX9_335 F ⟨Nat.le_of_ble_eq_true rfl, Nat.le_of_ble_eq_true rfl⟩ (zlw4 (Nat.le_of_ble_eq_true rfl)) dX9_terms_11 (fun r11 => ?_)
  refine Z.iconst F (v := (1 : Int32)) (by decide) dX9_terms_14 ?_
  refine Z.iadd F dX9_terms_15 ?_
  exact Z.iret F dX9_terms_16
set_option maxHeartbeats 4000000 in
theorem k_X9_isUnitOf (l : Launch) (h0 : Nat) (x1 : Int32) (x2 : Int32) (x3 : Int32) : ZCi l yX9_isUnitOf (ws_ yX9_isUnitOf cX9_isUnitOf 5 (some .boolean)) 1 23 0 0 false [zv h0, .int x1, .int x2, .int x3] (f_X9_isUnitOf h0 x1 x2 x3) := by
  refine Z.metZ (by decide +kernel) (fun h => ⟨rfl, rfl⟩) (L0 := [(0, zv h0), (1, .int x1), (2, .int x2), (3, .int x3)]) (by first | (rw [zla_v, zla_i, zla_i, zla_i, zla_0]; done) | (rw [zla_v, zla_i, zla_i, zla_i, zla_0]; rfl)) (by rw [zsl_v, zsl_i, zsl_i, zsl_i, zsl_0]; exact Nat.le_of_ble_eq_true rfl) ?_
  intro p e R s m args below meth c D A n0 sz k F
  have F : ZF p R s m args meth c cX9_isUnitOf 5 "SafeBucketsModel" "isUnitOf" (some .boolean) D A false sz 0 0 1 23 := F
  unfold f_X9_isUnitOf
  refine Z.aload_n F 0 rfl dX9_isUnitOf_0 ?_
  refine Z.iload_n F 1 rfl dX9_isUnitOf_1 ?_
  refine Z.iload_n F 2 rfl dX9_isUnitOf_2 ?_
  refine Z.iconst F (v := (3 : Int32)) (by decide) dX9_isUnitOf_3 ?_
  refine clX9_335 F ⟨Nat.le_of_ble_eq_true rfl, Nat.le_of_ble_eq_true rfl⟩ (zlw4 (Nat.le_of_ble_eq_true rfl)) dX9_isUnitOf_4 (fun r4 => ?_)
  refine Z.istore F (L0 := [(0, zv h0), (1, .int x1), (2, .int x2), (3, .int x3)]) [0, 1, 2, 3] rfl (zkR rfl (zkI rfl (zkI rfl (zkI rfl zkN)))) (by decide) dX9_isUnitOf_7 ?_
  refine Z.aload_n F 1 rfl dX9_isUnitOf_9 ?_
  refine Z.iload_n F 2 rfl dX9_isUnitOf_10 ?_
  refine Z.iload_n F 3 rfl dX9_isUnitOf_11 ?_
  refine Z.iconst F (v := (2 : Int32)) (by decide) dX9_isUnitOf_12 ?_
  refine clX9_335 F ⟨Nat.le_of_ble_eq_true rfl, Nat.le_of_ble_eq_true rfl⟩ (zlw4 (Nat.le_of_ble_eq_true rfl)) dX9_isUnitOf_13 (fun r13 => ?_)
  refine Z.table F (tgts := [44, 61, 78]) (tgt := 95) dX9_isUnitOf_16 rfl (by decide) (by decide) (by decide) ?_ ?_
  · refine Z.iload_n F 4 rfl dX9_isUnitOf_95 ?_
    refine Z.iconst F (v := (-1 : Int32)) (by decide) dX9_isUnitOf_96 ?_
    refine Z.jn1 (J := _) (fun p105s0 => []) (fun p105s0 => [.int p105s0]) 105 (fun p105s0 => ?_) (fun j105 hj105 => ?_)
    · exact Z.zret F dX9_isUnitOf_105
    refine Z.icmp_ne F (tgt := 104) dX9_isUnitOf_97 (by decide) ?_ ?_
    · refine Z.iconst F (v := (0 : Int32)) (by decide) dX9_isUnitOf_104 ?_
      exact Z.sub [] rfl (hj105 (0 : Int32))
    refine Z.iconst F (v := (1 : Int32)) (by decide) dX9_isUnitOf_100 ?_
    refine Z.goto F (tgt := 105) dX9_isUnitOf_101 (by decide) ?_
    exact Z.sub [] rfl (hj105 (1 : Int32))
  intro i9 P9 t9 e9 e8
  match i9, e9, e8 with
  | 0, e9, e8 =>
    cases e9; cases e8
    refine Z.iload_n F 4 rfl dX9_isUnitOf_44 ?_
    refine Z.iconst F (v := (-1 : Int32)) (by decide) dX9_isUnitOf_45 ?_
    refine Z.jn1 (J := _) (fun p60s0 => []) (fun p60s0 => [.int p60s0]) 60 (fun p60s0 => ?_) (fun j60 hj60 => ?_)
    · exact Z.zret F dX9_isUnitOf_60
    refine Z.jn0 (J := _) ([]) ([]) 59 (?_) (fun j59 hj59 => ?_)
    · refine Z.iconst F (v := (0 : Int32)) (by decide) dX9_isUnitOf_59 ?_
      exact Z.sub [] rfl (hj60 (0 : Int32))
    refine Z.icmp_eq F (tgt := 59) dX9_isUnitOf_46 (by decide) ?_ ?_
    · exact Z.sub [] rfl (hj59)
    refine Z.iload_n F 4 rfl dX9_isUnitOf_49 ?_
    refine Z.iload F 0 rfl dX9_isUnitOf_50 ?_
    refine Z.icmp_ne F (tgt := 59) dX9_isUnitOf_52 (by decide) ?_ ?_
    · exact Z.sub [] rfl (hj59)
    refine Z.iconst F (v := (1 : Int32)) (by decide) dX9_isUnitOf_55 ?_
    refine Z.goto F (tgt := 60) dX9_isUnitOf_56 (by decide) ?_
    exact Z.sub [] rfl (hj60 (1 : Int32))
  | 1, e9, e8 =>
    cases e9; cases e8
    refine Z.iload_n F 4 rfl dX9_isUnitOf_61 ?_
    refine Z.iconst F (v := (-1 : Int32)) (by decide) dX9_isUnitOf_62 ?_
    refine Z.jn1 (J := _) (fun p77s0 => []) (fun p77s0 => [.int p77s0]) 77 (fun p77s0 => ?_) (fun j77 hj77 => ?_)
    · exact Z.zret F dX9_isUnitOf_77
    refine Z.jn0 (J := _) ([]) ([]) 76 (?_) (fun j76 hj76 => ?_)
    · refine Z.iconst F (v := (0 : Int32)) (by decide) dX9_isUnitOf_76 ?_
      exact Z.sub [] rfl (hj77 (0 : Int32))
    refine Z.icmp_eq F (tgt := 76) dX9_isUnitOf_63 (by decide) ?_ ?_
    · exact Z.sub [] rfl (hj76)
    refine Z.iload_n F 4 rfl dX9_isUnitOf_66 ?_
    refine Z.iload F 0 rfl dX9_isUnitOf_67 ?_
    refine Z.icmp_ge F (tgt := 76) dX9_isUnitOf_69 (by decide) ?_ ?_
    · exact Z.sub [] rfl (hj76)
    refine Z.iconst F (v := (1 : Int32)) (by decide) dX9_isUnitOf_72 ?_
    refine Z.goto F (tgt := 77) dX9_isUnitOf_73 (by decide) ?_
    exact Z.sub [] rfl (hj77 (1 : Int32))
  | 2, e9, e8 =>
    cases e9; cases e8
    refine Z.iload_n F 4 rfl dX9_isUnitOf_78 ?_
    refine Z.iconst F (v := (-1 : Int32)) (by decide) dX9_isUnitOf_79 ?_
    refine Z.jn1 (J := _) (fun p94s0 => []) (fun p94s0 => [.int p94s0]) 94 (fun p94s0 => ?_) (fun j94 hj94 => ?_)
    · exact Z.zret F dX9_isUnitOf_94
    refine Z.jn0 (J := _) ([]) ([]) 93 (?_) (fun j93 hj93 => ?_)
    · refine Z.iconst F (v := (0 : Int32)) (by decide) dX9_isUnitOf_93 ?_
      exact Z.sub [] rfl (hj94 (0 : Int32))
    refine Z.icmp_eq F (tgt := 93) dX9_isUnitOf_80 (by decide) ?_ ?_
    · exact Z.sub [] rfl (hj93)
    refine Z.iload_n F 4 rfl dX9_isUnitOf_83 ?_
    refine Z.iload F 0 rfl dX9_isUnitOf_84 ?_
    refine Z.icmp_le F (tgt := 93) dX9_isUnitOf_86 (by decide) ?_ ?_
    · exact Z.sub [] rfl (hj93)
    refine Z.iconst F (v := (1 : Int32)) (by decide) dX9_isUnitOf_89 ?_
    refine Z.goto F (tgt := 94) dX9_isUnitOf_90 (by decide) ?_
    exact Z.sub [] rfl (hj94 (1 : Int32))
  | n + 3, e9, e8 => simp at e9
theorem clX9_338 (F : ZF p R s m args meth c cc nL "SafeBucketsModel" nm ret D A al sz mc ms fr lo) {h0 : Nat} {x1 : Int32} {x2 : Int32} {x3 : Int32} {K : Int32 → ZM → Prop} (hR : 1 + 1 ≤ fr ∧ 8 + (5 + 11) + 23 ≤ lo) (hst4 : zlw st) (hdg : decode cc pc = .ok (.invokevirtual 338, 3)) (k : ∀ r, ZW p l e R s m args below meth c Q nL D A al n0 (K r) (pc + 3) L (.int r :: st)) : ZW p l e R s m args below meth c Q nL D A al n0 (zat 7 h0 (f_X9_isUnitOf h0 x1 x2 x3 K)) pc L (.int x3 :: .int x2 :: .int x1 :: zv h0 :: st) :=
  Z.ri0 _ (fun μ H locs cells slots ls hI h hP => Z.V0 F hI (n := 3) (ci := 6) rfl (by decide) hP.1 hP.2 (k_X9_isUnitOf l h0 x1 x2 x3 D A (zX μ, zC μ, zS μ) H.size K μ) q2012 q2014 qs94 q126 q2015 (by decide +kernel) rfl h.1 hst4 hR rfl hdg) k
set_option maxHeartbeats 4000000 in
theorem k_X9_unitBy (l : Launch) (h0 : Nat) (x1 : Int32) (x2 : Int32) (x3 : Int32) (x4 : Int32) : ZCi l yX9_unitBy (ws_ yX9_unitBy cX9_unitBy 13 (some .int)) 2 48 0 0 false [zv h0, .int x1, .int x2, .int x3, .int x4] (f_X9_unitBy h0 x1 x2 x3 x4) := by
  refine Z.metI (by decide +kernel) (fun h => ⟨rfl, rfl⟩) (L0 := [(0, zv h0), (1, .int x1), (2, .int x2), (3, .int x3), (4, .int x4)]) (by first | (rw [zla_v, zla_i, zla_i, zla_i, zla_i, zla_0]; done) | (rw [zla_v, zla_i, zla_i, zla_i, zla_i, zla_0]; rfl)) (by rw [zsl_v, zsl_i, zsl_i, zsl_i, zsl_i, zsl_0]; exact Nat.le_of_ble_eq_true rfl) ?_
  intro p e R s m args below meth c D A n0 sz k F
  have F : ZF p R s m args meth c cX9_unitBy 13 "SafeBucketsModel" "unitBy" (some .int) D A false sz 0 0 2 48 := F
  unfold f_X9_unitBy
  refine Z.aload_n F 0 rfl dX9_unitBy_0 ?_
  refine Z.iload_n F 2 rfl dX9_unitBy_1 ?_
  refine Z.iload_n F 3 rfl dX9_unitBy_2 ?_
  refine Z.iconst F (v := (1 : Int32)) (by decide) dX9_unitBy_3 ?_
  refine clX9_335 F ⟨Nat.le_of_ble_eq_true rfl, Nat.le_of_ble_eq_true rfl⟩ (zlw4 (Nat.le_of_ble_eq_true rfl)) dX9_unitBy_4 (fun r4 => ?_)
  refine Z.istore F (L0 := [(0, zv h0), (1, .int x1), (2, .int x2), (3, .int x3), (4, .int x4)]) [0, 1, 2, 3, 4] rfl (zkR rfl (zkI rfl (zkI rfl (zkI rfl (zkI rfl zkN))))) (by decide) dX9_unitBy_7 ?_
  refine Z.aload_n F 1 rfl dX9_unitBy_9 ?_
  refine Z.iload_n F 3 rfl dX9_unitBy_10 ?_
  refine Z.iload_n F 4 rfl dX9_unitBy_11 ?_
  refine Z.iconst F (v := (2 : Int32)) (by decide) dX9_unitBy_12 ?_
  refine clX9_335 F ⟨Nat.le_of_ble_eq_true rfl, Nat.le_of_ble_eq_true rfl⟩ (zlw4 (Nat.le_of_ble_eq_true rfl)) dX9_unitBy_13 (fun r13 => ?_)
  refine Z.iconst F (v := (3 : Int32)) (by decide) dX9_unitBy_16 ?_
  refine Z.icmp_ne F (tgt := 29) dX9_unitBy_17 (by decide) ?_ ?_
  · refine Z.iconst F (v := (0 : Int32)) (by decide) dX9_unitBy_29 ?_
    refine Z.istore F (L0 := [(5, .int r4), (0, zv h0), (1, .int x1), (2, .int x2), (3, .int x3), (4, .int x4)]) [0, 1, 2, 3, 4, 5] rfl (zkI rfl (zkR rfl (zkI rfl (zkI rfl (zkI rfl (zkI rfl zkN)))))) (by decide) dX9_unitBy_30 ?_
    refine Z.iconst F (v := (0 : Int32)) (by decide) dX9_unitBy_32 ?_
    refine Z.istore F (L0 := [(6, .int (0 : Int32)), (5, .int r4), (0, zv h0), (1, .int x1), (2, .int x2), (3, .int x3), (4, .int x4)]) [0, 1, 2, 3, 4, 5, 6] rfl (zkI rfl (zkI rfl (zkR rfl (zkI rfl (zkI rfl (zkI rfl (zkI rfl zkN))))))) (by decide) dX9_unitBy_33 ?_
    refine Z.sub [3, 4, 5, 6, 7, 2, 1, 0] rfl ?_
    refine Z.w2 (Lf := fun p35l6 p35l7 => [(0, zv h0), (1, .int x1), (2, .int x2), (3, .int x3), (4, .int x4), (5, .int r4), (6, .int p35l6), (7, .int p35l7)]) (sf := fun p35l6 p35l7 => []) (fun r35 hr35 p35l6 p35l7 => ?_) (0 : Int32) (0 : Int32)
    refine Z.iload F 7 rfl dX9_unitBy_35 ?_
    refine Z.aload_n F 0 rfl dX9_unitBy_37 ?_
    refine Z.iload_n F 1 rfl dX9_unitBy_38 ?_
    refine Z.iload F 5 rfl dX9_unitBy_39 ?_
    refine clX9_238 F ⟨Nat.le_of_ble_eq_true rfl, Nat.le_of_ble_eq_true rfl⟩ (zlw4 (Nat.le_of_ble_eq_true rfl)) dX9_unitBy_41 (fun r41 => ?_)
    refine Z.icmp_ge F (tgt := 236) dX9_unitBy_44 (by decide) ?_ ?_
    · refine Z.iload F 6 rfl dX9_unitBy_236 ?_
      exact Z.iret F dX9_unitBy_238
    refine Z.aload_n F 0 rfl dX9_unitBy_47 ?_
    refine Z.iload_n F 1 rfl dX9_unitBy_48 ?_
    refine Z.iload F 5 rfl dX9_unitBy_49 ?_
    refine Z.iload F 7 rfl dX9_unitBy_51 ?_
    refine Z.iconst F (v := (1 : Int32)) (by decide) dX9_unitBy_53 ?_
    refine clX9_241 F ⟨Nat.le_of_ble_eq_true rfl, Nat.le_of_ble_eq_true rfl⟩ (zlw4 (Nat.le_of_ble_eq_true rfl)) dX9_unitBy_54 (fun r54 => ?_)
    refine Z.aload_n F 0 rfl dX9_unitBy_57 ?_
    refine Z.iload_n F 1 rfl dX9_unitBy_58 ?_
    refine Z.iload F 5 rfl dX9_unitBy_59 ?_
    refine Z.iload F 7 rfl dX9_unitBy_61 ?_
    refine Z.iconst F (v := (0 : Int32)) (by decide) dX9_unitBy_63 ?_
    refine clX9_241 F ⟨Nat.le_of_ble_eq_true rfl, Nat.le_of_ble_eq_true rfl⟩ (zlw4 (Nat.le_of_ble_eq_true rfl)) dX9_unitBy_64 (fun r64 => ?_)
    refine Z.isub F dX9_unitBy_67 ?_
    refine Z.iconst F (v := (1 : Int32)) (by decide) dX9_unitBy_68 ?_
    refine Z.iadd F dX9_unitBy_69 ?_
    refine Z.istore F (L0 := [(0, zv h0), (1, .int x1), (2, .int x2), (3, .int x3), (4, .int x4), (5, .int r4), (6, .int p35l6), (7, .int p35l7)]) [0, 1, 2, 3, 4, 5, 6, 7] rfl (zkR rfl (zkI rfl (zkI rfl (zkI rfl (zkI rfl (zkI rfl (zkI rfl (zkI rfl zkN)))))))) (by decide) dX9_unitBy_70 ?_
    refine Z.iconst F (v := (0 : Int32)) (by decide) dX9_unitBy_72 ?_
    refine Z.istore F (L0 := [(8, .int ((r54 - r64) + (1 : Int32))), (0, zv h0), (1, .int x1), (2, .int x2), (3, .int x3), (4, .int x4), (5, .int r4), (6, .int p35l6), (7, .int p35l7)]) [0, 1, 2, 3, 4, 5, 6, 7, 8] rfl (zkI rfl (zkR rfl (zkI rfl (zkI rfl (zkI rfl (zkI rfl (zkI rfl (zkI rfl (zkI rfl zkN))))))))) (by decide) dX9_unitBy_73 ?_
    refine Z.aload_n F 2 rfl dX9_unitBy_75 ?_
    refine Z.iload_n F 3 rfl dX9_unitBy_76 ?_
    refine Z.iload F 7 rfl dX9_unitBy_77 ?_
    refine Z.iload F 9 rfl dX9_unitBy_79 ?_
    refine Z.iconst F (v := (0 : Int32)) (by decide) dX9_unitBy_81 ?_
    refine clX9_241 F ⟨Nat.le_of_ble_eq_true rfl, Nat.le_of_ble_eq_true rfl⟩ (zlw4 (Nat.le_of_ble_eq_true rfl)) dX9_unitBy_82 (fun r82 => ?_)
    refine Z.istore F (L0 := [(9, .int (0 : Int32)), (8, .int ((r54 - r64) + (1 : Int32))), (0, zv h0), (1, .int x1), (2, .int x2), (3, .int x3), (4, .int x4), (5, .int r4), (6, .int p35l6), (7, .int p35l7)]) [0, 1, 2, 3, 4, 5, 6, 7, 8, 9] rfl (zkI rfl (zkI rfl (zkR rfl (zkI rfl (zkI rfl (zkI rfl (zkI rfl (zkI rfl (zkI rfl (zkI rfl zkN)))))))))) (by decide) dX9_unitBy_85 ?_
    refine Z.jn3 (J := _) (fun p129l6 p129l7 p129l9 => [(0, zv h0), (1, .int x1), (2, .int x2), (3, .int x3), (4, .int x4), (5, .int r4), (6, .int p129l6), (7, .int p129l7), (8, .int ((r54 - r64) + (1 : Int32))), (9, .int p129l9)]) (fun p129l6 p129l7 p129l9 => []) 129 (fun p129l6 p129l7 p129l9 => ?_) (fun j129 hj129 => ?_)
    · refine Z.aload_n F 0 rfl dX9_unitBy_129 ?_
      refine Z.iload_n F 1 rfl dX9_unitBy_130 ?_
      refine Z.iload F 5 rfl dX9_unitBy_131 ?_
      refine Z.iload F 7 rfl dX9_unitBy_133 ?_
      refine Z.iconst F (v := (2 : Int32)) (by decide) dX9_unitBy_135 ?_
      refine clX9_241 F ⟨Nat.le_of_ble_eq_true rfl, Nat.le_of_ble_eq_true rfl⟩ (zlw4 (Nat.le_of_ble_eq_true rfl)) dX9_unitBy_136 (fun r136 => ?_)
      refine Z.istore F (L0 := [(0, zv h0), (1, .int x1), (2, .int x2), (3, .int x3), (4, .int x4), (5, .int r4), (6, .int p129l6), (7, .int p129l7), (8, .int ((r54 - r64) + (1 : Int32))), (9, .int p129l9)]) [0, 1, 2, 3, 4, 5, 6, 7, 8, 9] rfl (zkR rfl (zkI rfl (zkI rfl (zkI rfl (zkI rfl (zkI rfl (zkI rfl (zkI rfl (zkI rfl (zkI rfl zkN)))))))))) (by decide) dX9_unitBy_139 ?_
      refine Z.aload_n F 1 rfl dX9_unitBy_141 ?_
      refine Z.iload_n F 2 rfl dX9_unitBy_142 ?_
      refine Z.iload F 6 rfl dX9_unitBy_143 ?_
      refine Z.iload F 8 rfl dX9_unitBy_145 ?_
      refine Z.iconst F (v := (3 : Int32)) (by decide) dX9_unitBy_147 ?_
      refine clX9_241 F ⟨Nat.le_of_ble_eq_true rfl, Nat.le_of_ble_eq_true rfl⟩ (zlw4 (Nat.le_of_ble_eq_true rfl)) dX9_unitBy_148 (fun r148 => ?_)
      refine Z.istore F (L0 := [(10, .int r136), (0, zv h0), (1, .int x1), (2, .int x2), (3, .int x3), (4, .int x4), (5, .int r4), (6, .int p129l6), (7, .int p129l7), (8, .int ((r54 - r64) + (1 : Int32))), (9, .int p129l9)]) [0, 1, 2, 3, 4, 5, 6, 7, 8, 9, 10] rfl (zkI rfl (zkR rfl (zkI rfl (zkI rfl (zkI rfl (zkI rfl (zkI rfl (zkI rfl (zkI rfl (zkI rfl (zkI rfl zkN))))))))))) (by decide) dX9_unitBy_151 ?_
      refine Z.iload F 11 rfl dX9_unitBy_153 ?_
      refine Z.jn1 (J := _) (fun p230l6 => [(0, zv h0), (1, .int x1), (2, .int x2), (3, .int x3), (4, .int x4), (5, .int r4), (6, .int p230l6), (7, .int p129l7)]) (fun p230l6 => []) 230 (fun p230l6 => ?_) (fun j230 hj230 => ?_)
      · refine Z.iinc F (L0 := [(0, zv h0), (1, .int x1), (2, .int x2), (3, .int x3), (4, .int x4), (5, .int r4), (6, .int p230l6)]) (k0 := 7) (v := (1 : Int32)) rfl (by decide) [0, 1, 2, 3, 4, 5, 6] rfl (zkR rfl (zkI rfl (zkI rfl (zkI rfl (zkI rfl (zkI rfl (zkI rfl zkN))))))) (by decide) dX9_unitBy_230 ?_
        refine Z.goto F (tgt := 35) dX9_unitBy_233 (by decide) ?_
        exact Z.sub [1, 2, 3, 4, 5, 6, 7, 0] rfl (hr35 p230l6 (p129l7 + (1 : Int32)))
      refine Z.if_le F (tgt := 230) dX9_unitBy_155 (by decide) ?_ ?_
      · exact Z.sub [2, 3, 4, 5, 6, 7, 8, 9] rfl (hj230 p129l6)
      refine Z.iload F 11 rfl dX9_unitBy_158 ?_
      refine Z.iload F 10 rfl dX9_unitBy_160 ?_
      refine Z.jn1 (J := _) (fun p185s0 => [(0, zv h0), (1, .int x1), (2, .int x2), (3, .int x3), (4, .int x4), (5, .int r4), (6, .int p129l6), (7, .int p129l7), (8, .int ((r54 - r64) + (1 : Int32))), (9, .int p129l9), (10, .int r136), (11, .int r148)]) (fun p185s0 => [.int p185s0]) 185 (fun p185s0 => ?_) (fun j185 hj185 => ?_)
      · refine Z.istore F (L0 := [(0, zv h0), (1, .int x1), (2, .int x2), (3, .int x3), (4, .int x4), (5, .int r4), (6, .int p129l6), (7, .int p129l7), (8, .int ((r54 - r64) + (1 : Int32))), (9, .int p129l9), (10, .int r136), (11, .int r148)]) [0, 1, 2, 3, 4, 5, 6, 7, 8, 9, 10, 11] rfl (zkR rfl (zkI rfl (zkI rfl (zkI rfl (zkI rfl (zkI rfl (zkI rfl (zkI rfl (zkI rfl (zkI rfl (zkI rfl (zkI rfl zkN)))))))))))) (by decide) dX9_unitBy_185 ?_
        refine Z.iload F 7 rfl dX9_unitBy_187 ?_
        refine Z.iload F 5 rfl dX9_unitBy_189 ?_
        refine Z.iconst F (v := (1 : Int32)) (by decide) dX9_unitBy_191 ?_
        refine Z.jn1 (J := _) (fun p227s1 => [(0, zv h0), (1, .int x1), (2, .int x2), (3, .int x3), (4, .int x4), (5, .int r4), (7, .int p129l7)]) (fun p227s1 => [.int p227s1, .int p129l6]) 227 (fun p227s1 => ?_) (fun j227 hj227 => ?_)
        · refine Z.iadd F dX9_unitBy_227 ?_
          refine Z.istore F (L0 := [(0, zv h0), (1, .int x1), (2, .int x2), (3, .int x3), (4, .int x4), (5, .int r4), (7, .int p129l7)]) [0, 1, 2, 3, 4, 5, 6] rfl (zkR rfl (zkI rfl (zkI rfl (zkI rfl (zkI rfl (zkI rfl (zkI rfl zkN))))))) (by decide) dX9_unitBy_228 ?_
          exact Z.sub [1, 2, 3, 4, 5, 6, 0, 7] rfl (hj230 (p129l6 + p227s1))
        refine Z.icmp_ne F (tgt := 200) dX9_unitBy_192 (by decide) ?_ ?_
        · refine Z.iload F 5 rfl dX9_unitBy_200 ?_
          refine Z.iconst F (v := (2 : Int32)) (by decide) dX9_unitBy_202 ?_
          refine Z.icmp_ne F (tgt := 219) dX9_unitBy_203 (by decide) ?_ ?_
          · refine Z.iload F 11 rfl dX9_unitBy_219 ?_
            refine Z.iload F 10 rfl dX9_unitBy_221 ?_
            refine Z.imul F dX9_unitBy_223 ?_
            refine Z.iload F 9 rfl dX9_unitBy_224 ?_
            refine Z.idiv F dX9_unitBy_226 ?_
            exact Z.sub [1, 2, 3, 4, 5, 6, 8] rfl (hj227 ((r136 * p129l9) / ((r54 - r64) + (1 : Int32))))
          refine Z.iload F 11 rfl dX9_unitBy_206 ?_
          refine Z.iload F 12 rfl dX9_unitBy_208 ?_
          refine Z.iload F 10 rfl dX9_unitBy_210 ?_
          refine Z.imul F dX9_unitBy_212 ?_
          refine Z.mmin F q1769 (Nat.le_of_ble_eq_true rfl) (Nat.le_of_ble_eq_true rfl) (zlw4 (Nat.le_of_ble_eq_true rfl)) dX9_unitBy_213 ?_
          refine Z.goto F (tgt := 227) dX9_unitBy_216 (by decide) ?_
          exact Z.sub [1, 2, 3, 4, 5, 6, 8] rfl (hj227 (if (r148 * p129l9) < r136 then (r148 * p129l9) else r136))
        refine Z.iload F 0 rfl dX9_unitBy_195 ?_
        refine Z.goto F (tgt := 227) dX9_unitBy_197 (by decide) ?_
        exact Z.sub [1, 2, 3, 4, 5, 6, 8] rfl (hj227 p185s0)
      refine Z.icmp_ne F (tgt := 170) dX9_unitBy_162 (by decide) ?_ ?_
      · refine Z.iconst F (v := (0 : Int32)) (by decide) dX9_unitBy_170 ?_
        refine Z.iload F 1 rfl dX9_unitBy_171 ?_
        refine Z.iload F 0 rfl dX9_unitBy_173 ?_
        refine Z.iload F 10 rfl dX9_unitBy_175 ?_
        refine Z.iload F 11 rfl dX9_unitBy_177 ?_
        refine Z.isub F dX9_unitBy_179 ?_
        refine Z.imul F dX9_unitBy_180 ?_
        refine Z.isub F dX9_unitBy_181 ?_
        refine Z.mmax F q1794 (Nat.le_of_ble_eq_true rfl) (Nat.le_of_ble_eq_true rfl) (zlw4 (Nat.le_of_ble_eq_true rfl)) dX9_unitBy_182 ?_
        refine Z.nmI (fun v182 => ?_)
        exact Z.sub [2, 3, 4, 5, 6, 7, 8, 9, 10, 11, 1, 0] rfl (hj185 v182)
      refine Z.iload F 1 rfl dX9_unitBy_165 ?_
      refine Z.goto F (tgt := 185) dX9_unitBy_167 (by decide) ?_
      exact Z.sub [2, 3, 4, 5, 6, 7, 8, 9, 10, 11, 1, 0] rfl (hj185 r136)
    refine Z.sub [3, 4, 5, 6, 7, 8, 9, 10, 2, 1, 0] rfl ?_
    refine Z.w4 (Lf := fun p87l6 p87l7 p87l9 p87l10 => [(0, zv h0), (1, .int x1), (2, .int x2), (3, .int x3), (4, .int x4), (5, .int r4), (6, .int p87l6), (7, .int p87l7), (8, .int ((r54 - r64) + (1 : Int32))), (9, .int p87l9), (10, .int p87l10)]) (sf := fun p87l6 p87l7 p87l9 p87l10 => []) (fun r87 hr87 p87l6 p87l7 p87l9 p87l10 => ?_) p35l6 p35l7 (0 : Int32) r82
    refine Z.iload F 10 rfl dX9_unitBy_87 ?_
    refine Z.aload_n F 0 rfl dX9_unitBy_89 ?_
    refine Z.iload_n F 1 rfl dX9_unitBy_90 ?_
    refine Z.iload F 5 rfl dX9_unitBy_91 ?_
    refine Z.iload F 7 rfl dX9_unitBy_93 ?_
    refine Z.iconst F (v := (1 : Int32)) (by decide) dX9_unitBy_95 ?_
    refine clX9_241 F ⟨Nat.le_of_ble_eq_true rfl, Nat.le_of_ble_eq_true rfl⟩ (zlw4 (Nat.le_of_ble_eq_true rfl)) dX9_unitBy_96 (fun r96 => ?_)
    refine Z.icmp_gt F (tgt := 129) dX9_unitBy_99 (by decide) ?_ ?_
    · exact Z.sub [0, 1, 2, 3, 4, 5, 6, 7, 8, 9] rfl (hj129 p87l6 p87l7 p87l9)
    refine Z.iload F 9 rfl dX9_unitBy_102 ?_
    refine Z.aload_n F 0 rfl dX9_unitBy_104 ?_
    refine Z.iload_n F 2 rfl dX9_unitBy_105 ?_
    refine Z.iload_n F 3 rfl dX9_unitBy_106 ?_
    refine Z.iload F 10 rfl dX9_unitBy_107 ?_
    refine clX9_338 F ⟨Nat.le_of_ble_eq_true rfl, Nat.le_of_ble_eq_true rfl⟩ (zlw4 (Nat.le_of_ble_eq_true rfl)) dX9_unitBy_109 (fun r109 => ?_)
    refine Z.jn1 (J := _) (fun p120s1 => [(0, zv h0), (1, .int x1), (2, .int x2), (3, .int x3), (4, .int x4), (5, .int r4), (6, .int p87l6), (7, .int p87l7), (8, .int ((r54 - r64) + (1 : Int32))), (10, .int p87l10)]) (fun p120s1 => [.int p120s1, .int p87l9]) 120 (fun p120s1 => ?_) (fun j120 hj120 => ?_)
    · refine Z.iadd F dX9_unitBy_120 ?_
      refine Z.istore F (L0 := [(0, zv h0), (1, .int x1), (2, .int x2), (3, .int x3), (4, .int x4), (5, .int r4), (6, .int p87l6), (7, .int p87l7), (8, .int ((r54 - r64) + (1 : Int32))), (10, .int p87l10)]) [0, 1, 2, 3, 4, 5, 6, 7, 8, 9] rfl (zkR rfl (zkI rfl (zkI rfl (zkI rfl (zkI rfl (zkI rfl (zkI rfl (zkI rfl (zkI rfl (zkI rfl zkN)))))))))) (by decide) dX9_unitBy_121 ?_
      refine Z.iinc F (L0 := [(9, .int (p87l9 + p120s1)), (0, zv h0), (1, .int x1), (2, .int x2), (3, .int x3), (4, .int x4), (5, .int r4), (6, .int p87l6), (7, .int p87l7), (8, .int ((r54 - r64) + (1 : Int32)))]) (k0 := 10) (v := (1 : Int32)) rfl (by decide) [0, 1, 2, 3, 4, 5, 6, 7, 8, 9] rfl (zkI rfl (zkR rfl (zkI rfl (zkI rfl (zkI rfl (zkI rfl (zkI rfl (zkI rfl (zkI rfl (zkI rfl zkN)))))))))) (by decide) dX9_unitBy_123 ?_
      refine Z.goto F (tgt := 87) dX9_unitBy_126 (by decide) ?_
      exact Z.sub [2, 3, 4, 5, 6, 7, 8, 9, 10, 1, 0] rfl (hr87 p87l6 p87l7 (p87l9 + p120s1) (p87l10 + (1 : Int32)))
    refine Z.if_eq F (tgt := 119) dX9_unitBy_112 (by decide) ?_ ?_
    · refine Z.iconst F (v := (0 : Int32)) (by decide) dX9_unitBy_119 ?_
      exact Z.sub [0, 1, 2, 3, 4, 5, 6, 7, 8, 10] rfl (hj120 (0 : Int32))
    refine Z.iconst F (v := (1 : Int32)) (by decide) dX9_unitBy_115 ?_
    refine Z.goto F (tgt := 120) dX9_unitBy_116 (by decide) ?_
    exact Z.sub [0, 1, 2, 3, 4, 5, 6, 7, 8, 10] rfl (hj120 (1 : Int32))
  refine Z.aload_n F 1 rfl dX9_unitBy_20 ?_
  refine Z.iload_n F 2 rfl dX9_unitBy_21 ?_
  refine Z.iload F 0 rfl dX9_unitBy_22 ?_
  refine Z.iconst F (v := (-1 : Int32)) (by decide) dX9_unitBy_24 ?_
  refine clX9_167 F ⟨Nat.le_of_ble_eq_true rfl, Nat.le_of_ble_eq_true rfl⟩ (zlw4 (Nat.le_of_ble_eq_true rfl)) dX9_unitBy_25 (fun r25 => ?_)
  exact Z.iret F dX9_unitBy_28
theorem clX9_353 (F : ZF p R s m args meth c cc nL "SafeBucketsModel" nm ret D A al sz mc ms fr lo) {h0 : Nat} {x1 : Int32} {x2 : Int32} {x3 : Int32} {x4 : Int32} {K : Int32 → ZM → Prop} (hR : 2 + 1 ≤ fr ∧ 8 + (13 + 11) + 48 ≤ lo) (hst4 : zlw st) (hdg : decode cc pc = .ok (.invokevirtual 353, 3)) (k : ∀ r, ZW p l e R s m args below meth c Q nL D A al n0 (K r) (pc + 3) L (.int r :: st)) : ZW p l e R s m args below meth c Q nL D A al n0 (zat 7 h0 (f_X9_unitBy h0 x1 x2 x3 x4 K)) pc L (.int x4 :: .int x3 :: .int x2 :: .int x1 :: zv h0 :: st) :=
  Z.ri0 _ (fun μ H locs cells slots ls hI h hP => Z.V0 F hI (n := 4) (ci := 6) rfl (by decide) hP.1 hP.2 (k_X9_unitBy l h0 x1 x2 x3 x4 D A (zX μ, zC μ, zS μ) H.size K μ) q2008 q2010 qs93 q126 q2011 (by decide +kernel) rfl h.1 hst4 hR rfl hdg) k
set_option maxHeartbeats 4000000 in
theorem k_X9_termBy (l : Launch) (h0 : Nat) (x1 : Int32) (x2 : Int32) (x3 : Int32) (x4 : Int32) : ZCi l yX9_termBy (ws_ yX9_termBy cX9_termBy 10 (some .int)) 3 80 0 0 false [zv h0, .int x1, .int x2, .int x3, .int x4] (f_X9_termBy h0 x1 x2 x3 x4) := by
  refine Z.metI (by decide +kernel) (fun h => ⟨rfl, rfl⟩) (L0 := [(0, zv h0), (1, .int x1), (2, .int x2), (3, .int x3), (4, .int x4)]) (by first | (rw [zla_v, zla_i, zla_i, zla_i, zla_i, zla_0]; done) | (rw [zla_v, zla_i, zla_i, zla_i, zla_i, zla_0]; rfl)) (by rw [zsl_v, zsl_i, zsl_i, zsl_i, zsl_i, zsl_0]; exact Nat.le_of_ble_eq_true rfl) ?_
  intro p e R s m args below meth c D A n0 sz k F
  have F : ZF p R s m args meth c cX9_termBy 10 "SafeBucketsModel" "termBy" (some .int) D A false sz 0 0 3 80 := F
  unfold f_X9_termBy
  refine Z.iconst F (v := (0 : Int32)) (by decide) dX9_termBy_0 ?_
  refine Z.istore F (L0 := [(0, zv h0), (1, .int x1), (2, .int x2), (3, .int x3), (4, .int x4)]) [0, 1, 2, 3, 4] rfl (zkR rfl (zkI rfl (zkI rfl (zkI rfl (zkI rfl zkN))))) (by decide) dX9_termBy_1 ?_
  refine Z.iconst F (v := (0 : Int32)) (by decide) dX9_termBy_3 ?_
  refine Z.istore F (L0 := [(5, .int (0 : Int32)), (0, zv h0), (1, .int x1), (2, .int x2), (3, .int x3), (4, .int x4)]) [0, 1, 2, 3, 4, 5] rfl (zkI rfl (zkR rfl (zkI rfl (zkI rfl (zkI rfl (zkI rfl zkN)))))) (by decide) dX9_termBy_4 ?_
  refine Z.iconst F (v := (-1 : Int32)) (by decide) dX9_termBy_6 ?_
  refine Z.istore F (L0 := [(6, .int (0 : Int32)), (5, .int (0 : Int32)), (0, zv h0), (1, .int x1), (2, .int x2), (3, .int x3), (4, .int x4)]) [0, 1, 2, 3, 4, 5, 6] rfl (zkI rfl (zkI rfl (zkR rfl (zkI rfl (zkI rfl (zkI rfl (zkI rfl zkN))))))) (by decide) dX9_termBy_7 ?_
  refine Z.iconst F (v := (0 : Int32)) (by decide) dX9_termBy_9 ?_
  refine Z.istore F (L0 := [(7, .int (-1 : Int32)), (6, .int (0 : Int32)), (5, .int (0 : Int32)), (0, zv h0), (1, .int x1), (2, .int x2), (3, .int x3), (4, .int x4)]) [0, 1, 2, 3, 4, 5, 6, 7] rfl (zkI rfl (zkI rfl (zkI rfl (zkR rfl (zkI rfl (zkI rfl (zkI rfl (zkI rfl zkN)))))))) (by decide) dX9_termBy_10 ?_
  refine Z.jn3 (J := _) (fun p83l5 p83l6 p83l7 => [(0, zv h0), (1, .int x1), (4, .int x4), (5, .int p83l5), (6, .int p83l6), (7, .int p83l7)]) (fun p83l5 p83l6 p83l7 => []) 83 (fun p83l5 p83l6 p83l7 => ?_) (fun j83 hj83 => ?_)
  · refine Z.iload F 2 rfl dX9_termBy_83 ?_
    refine Z.iconst F (v := (1 : Int32)) (by decide) dX9_termBy_85 ?_
    refine Z.jn1 (J := _) (fun p111s0 => []) (fun p111s0 => [.int p111s0]) 111 (fun p111s0 => ?_) (fun j111 hj111 => ?_)
    · exact Z.iret F dX9_termBy_111
    refine Z.icmp_ne F (tgt := 109) dX9_termBy_86 (by decide) ?_ ?_
    · refine Z.iload F 5 rfl dX9_termBy_109 ?_
      exact Z.sub [] rfl (hj111 p83l7)
    refine Z.iconst F (v := (0 : Int32)) (by decide) dX9_termBy_89 ?_
    refine Z.iload F 4 rfl dX9_termBy_90 ?_
    refine Z.iload F 3 rfl dX9_termBy_92 ?_
    refine Z.iconst F (v := (1 : Int32)) (by decide) dX9_termBy_94 ?_
    refine Z.isub F dX9_termBy_95 ?_
    refine Z.aload_n F 0 rfl dX9_termBy_96 ?_
    refine Z.iload_n F 1 rfl dX9_termBy_97 ?_
    refine clX9_161 F ⟨Nat.le_of_ble_eq_true rfl, Nat.le_of_ble_eq_true rfl⟩ (zlw4 (Nat.le_of_ble_eq_true rfl)) dX9_termBy_98 (fun r98 => ?_)
    refine Z.imul F dX9_termBy_101 ?_
    refine Z.isub F dX9_termBy_102 ?_
    refine Z.mmax F q1794 (Nat.le_of_ble_eq_true rfl) (Nat.le_of_ble_eq_true rfl) (zlw4 (Nat.le_of_ble_eq_true rfl)) dX9_termBy_103 ?_
    refine Z.nmI (fun v103 => ?_)
    refine Z.goto F (tgt := 111) dX9_termBy_106 (by decide) ?_
    exact Z.sub [] rfl (hj111 v103)
  refine Z.sub [4, 5, 6, 7, 8, 3, 2, 1, 0] rfl ?_
  refine Z.w4 (Lf := fun p12l5 p12l6 p12l7 p12l8 => [(0, zv h0), (1, .int x1), (2, .int x2), (3, .int x3), (4, .int x4), (5, .int p12l5), (6, .int p12l6), (7, .int p12l7), (8, .int p12l8)]) (sf := fun p12l5 p12l6 p12l7 p12l8 => []) (fun r12 hr12 p12l5 p12l6 p12l7 p12l8 => ?_) (0 : Int32) (0 : Int32) (-1 : Int32) (0 : Int32)
  refine Z.iload F 8 rfl dX9_termBy_12 ?_
  refine Z.aload_n F 0 rfl dX9_termBy_14 ?_
  refine gfX9_31 F dX9_termBy_15 (fun g15 => ?_)
  refine Z.iload_n F 2 rfl dX9_termBy_18 ?_
  refine Z.iald F dX9_termBy_19 (fun g19 => ?_)
  refine Z.icmp_ge F (tgt := 83) dX9_termBy_20 (by decide) ?_ ?_
  · exact Z.sub [0, 1, 4, 5, 6, 7] rfl (hj83 p12l5 p12l6 p12l7)
  refine Z.aload_n F 0 rfl dX9_termBy_23 ?_
  refine Z.iload_n F 2 rfl dX9_termBy_24 ?_
  refine Z.iload F 8 rfl dX9_termBy_25 ?_
  refine Z.iconst F (v := (0 : Int32)) (by decide) dX9_termBy_27 ?_
  refine clX9_335 F ⟨Nat.le_of_ble_eq_true rfl, Nat.le_of_ble_eq_true rfl⟩ (zlw4 (Nat.le_of_ble_eq_true rfl)) dX9_termBy_28 (fun r28 => ?_)
  refine Z.iload_n F 3 rfl dX9_termBy_31 ?_
  refine Z.jn3 (J := _) (fun p77l5 p77l6 p77l7 => [(0, zv h0), (1, .int x1), (2, .int x2), (3, .int x3), (4, .int x4), (5, .int p77l5), (6, .int p77l6), (7, .int p77l7), (8, .int p12l8)]) (fun p77l5 p77l6 p77l7 => []) 77 (fun p77l5 p77l6 p77l7 => ?_) (fun j77 hj77 => ?_)
  · refine Z.iinc F (L0 := [(0, zv h0), (1, .int x1), (2, .int x2), (3, .int x3), (4, .int x4), (5, .int p77l5), (6, .int p77l6), (7, .int p77l7)]) (k0 := 8) (v := (1 : Int32)) rfl (by decide) [0, 1, 2, 3, 4, 5, 6, 7] rfl (zkR rfl (zkI rfl (zkI rfl (zkI rfl (zkI rfl (zkI rfl (zkI rfl (zkI rfl zkN)))))))) (by decide) dX9_termBy_77 ?_
    refine Z.goto F (tgt := 12) dX9_termBy_80 (by decide) ?_
    exact Z.sub [1, 2, 3, 4, 5, 6, 7, 8, 0] rfl (hr12 p77l5 p77l6 p77l7 (p12l8 + (1 : Int32)))
  refine Z.icmp_ne F (tgt := 77) dX9_termBy_32 (by decide) ?_ ?_
  · exact Z.sub [0, 1, 2, 3, 4, 5, 6, 7, 8] rfl (hj77 p12l5 p12l6 p12l7)
  refine Z.aload_n F 0 rfl dX9_termBy_35 ?_
  refine Z.iload_n F 1 rfl dX9_termBy_36 ?_
  refine Z.iload_n F 2 rfl dX9_termBy_37 ?_
  refine Z.iload F 8 rfl dX9_termBy_38 ?_
  refine Z.iload F 4 rfl dX9_termBy_40 ?_
  refine clX9_353 F ⟨Nat.le_of_ble_eq_true rfl, Nat.le_of_ble_eq_true rfl⟩ (zlw4 (Nat.le_of_ble_eq_true rfl)) dX9_termBy_42 (fun r42 => ?_)
  refine Z.istore F (L0 := [(0, zv h0), (1, .int x1), (2, .int x2), (3, .int x3), (4, .int x4), (5, .int p12l5), (6, .int p12l6), (7, .int p12l7), (8, .int p12l8)]) [0, 1, 2, 3, 4, 5, 6, 7, 8] rfl (zkR rfl (zkI rfl (zkI rfl (zkI rfl (zkI rfl (zkI rfl (zkI rfl (zkI rfl (zkI rfl zkN))))))))) (by decide) dX9_termBy_45 ?_
  refine Z.iinc F (L0 := [(9, .int r42), (0, zv h0), (1, .int x1), (2, .int x2), (3, .int x3), (4, .int x4), (6, .int p12l6), (7, .int p12l7), (8, .int p12l8)]) (k0 := 6) (v := (1 : Int32)) rfl (by decide) [0, 1, 2, 3, 4, 5, 7, 8, 9] rfl (zkI rfl (zkR rfl (zkI rfl (zkI rfl (zkI rfl (zkI rfl (zkI rfl (zkI rfl (zkI rfl zkN))))))))) (by decide) dX9_termBy_47 ?_
  refine Z.iload F 7 rfl dX9_termBy_50 ?_
  refine Z.iload F 1 rfl dX9_termBy_52 ?_
  refine Z.iadd F dX9_termBy_54 ?_
  refine Z.istore F (L0 := [(5, .int (p12l5 + (1 : Int32))), (9, .int r42), (0, zv h0), (1, .int x1), (2, .int x2), (3, .int x3), (4, .int x4), (7, .int p12l7), (8, .int p12l8)]) [0, 1, 2, 3, 4, 5, 6, 8, 9] rfl (zkI rfl (zkI rfl (zkR rfl (zkI rfl (zkI rfl (zkI rfl (zkI rfl (zkI rfl (zkI rfl zkN))))))))) (by decide) dX9_termBy_55 ?_
  refine Z.iload F 8 rfl dX9_termBy_57 ?_
  refine Z.iconst F (v := (-1 : Int32)) (by decide) dX9_termBy_59 ?_
  refine Z.jn1 (J := _) (fun p75s0 => [(0, zv h0), (1, .int x1), (2, .int x2), (3, .int x3), (4, .int x4), (5, .int (p12l5 + (1 : Int32))), (6, .int (p12l6 + r42)), (8, .int p12l8)]) (fun p75s0 => [.int p75s0]) 75 (fun p75s0 => ?_) (fun j75 hj75 => ?_)
  · refine Z.istore F (L0 := [(0, zv h0), (1, .int x1), (2, .int x2), (3, .int x3), (4, .int x4), (5, .int (p12l5 + (1 : Int32))), (6, .int (p12l6 + r42)), (8, .int p12l8)]) [0, 1, 2, 3, 4, 5, 6, 7] rfl (zkR rfl (zkI rfl (zkI rfl (zkI rfl (zkI rfl (zkI rfl (zkI rfl (zkI rfl zkN)))))))) (by decide) dX9_termBy_75 ?_
    exact Z.sub [1, 2, 3, 4, 5, 6, 7, 0, 8] rfl (hj77 (p12l5 + (1 : Int32)) (p12l6 + r42) p75s0)
  refine Z.icmp_ne F (tgt := 68) dX9_termBy_60 (by decide) ?_ ?_
  · refine Z.iload F 8 rfl dX9_termBy_68 ?_
    refine Z.iload F 2 rfl dX9_termBy_70 ?_
    refine Z.mmin F q1769 (Nat.le_of_ble_eq_true rfl) (Nat.le_of_ble_eq_true rfl) (zlw4 (Nat.le_of_ble_eq_true rfl)) dX9_termBy_72 ?_
    exact Z.sub [3, 4, 5, 6, 7, 1, 0, 9] rfl (hj75 (if r42 < p12l7 then r42 else p12l7))
  refine Z.iload F 2 rfl dX9_termBy_63 ?_
  refine Z.goto F (tgt := 75) dX9_termBy_65 (by decide) ?_
  exact Z.sub [3, 4, 5, 6, 7, 1, 0, 9] rfl (hj75 r42)
end ZWalk
