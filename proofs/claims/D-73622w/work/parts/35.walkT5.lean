section ZWalk
variable {p : Program} {l : Launch} {e : Env} {R : Room} {s : State} {m : MethodId} {args : Array Value} {below : List Frame} {meth : Method} {c : Code} {Q : State → Prop} {nL : Nat} {D : ZD} {A : Nat → Prop} {al : Bool} {n0 : Nat × Nat × Nat} {cc : ByteArray} {nm : String} {ret : Option FieldType} {sz mc ms fr lo : Nat}
variable {P : ZM → Prop} {pc : Nat} {L : List (Nat × Value)} {st : List Value}
theorem clX9_246 (F : ZF p R s m args meth c cc nL "SafeBucketsModel" nm ret D A al sz mc ms fr lo) {h0 : Nat} {x1 : Int32} {x2 : Int32} {K : Int32 → ZM → Prop} (hR : 3 + 1 ≤ fr ∧ 8 + (5 + 11) + 71 ≤ lo) (hst4 : zlw st) (hdg : decode cc pc = .ok (.invokevirtual 246, 3)) (k : ∀ r, ZW p l e R s m args below meth c Q nL D A al n0 (K r) (pc + 3) L (.int r :: st)) : ZW p l e R s m args below meth c Q nL D A al n0 (zat 7 h0 (f_X9_worst h0 x1 x2 K)) pc L (.int x2 :: .int x1 :: zv h0 :: st) :=
  Z.ri0 _ (fun μ H locs cells slots ls hI h hP => Z.V0 F hI (n := 2) (ci := 6) rfl (by decide) hP.1 hP.2 (k_X9_worst l h0 x1 x2 D A (zX μ, zC μ, zS μ) H.size K μ) q1855 q1857 qs72 q126 q1858 (by decide +kernel) rfl h.1 hst4 hR rfl hdg) k
set_option maxHeartbeats 4000000 in
theorem k_X9_column_2 (l : Launch) (h0 : Nat) (x1 : Int32) (x2 : Int32) (x3 : Int32) : ZCi l yX9_column_2 (ws_ yX9_column_2 cX9_column_2 4 (some .int)) 4 95 0 0 false [zv h0, .int x1, .int x2, .int x3] (f_X9_column_2 h0 x1 x2 x3) := by
  refine Z.metI (by decide +kernel) (fun h => ⟨rfl, rfl⟩) (L0 := [(0, zv h0), (1, .int x1), (2, .int x2), (3, .int x3)]) (by first | (rw [zla_v, zla_i, zla_i, zla_i, zla_0]; done) | (rw [zla_v, zla_i, zla_i, zla_i, zla_0]; rfl)) (by rw [zsl_v, zsl_i, zsl_i, zsl_i, zsl_0]; exact Nat.le_of_ble_eq_true rfl) ?_
  intro p e R s m args below meth c D A n0 sz k F
  have F : ZF p R s m args meth c cX9_column_2 4 "SafeBucketsModel" "column" (some .int) D A false sz 0 0 4 95 := F
  unfold f_X9_column_2
  refine Z.aload_n F 0 rfl dX9_column_2_0 ?_
  refine Z.iload_n F 1 rfl dX9_column_2_1 ?_
  refine Z.iload_n F 2 rfl dX9_column_2_2 ?_
  refine clX9_235 F ⟨Nat.le_of_ble_eq_true rfl, Nat.le_of_ble_eq_true rfl⟩ (zlw4 (Nat.le_of_ble_eq_true rfl)) dX9_column_2_3 (fun r3 => ?_)
  refine Z.jn0 (J := _) ([]) ([]) 21 (?_) (fun j21 hj21 => ?_)
  · refine Z.iconst F (v := (-1 : Int32)) (by decide) dX9_column_2_21 ?_
    exact Z.iret F dX9_column_2_22
  refine Z.if_eq F (tgt := 21) dX9_column_2_6 (by decide) ?_ ?_
  · exact Z.sub [] rfl (hj21)
  refine Z.iload_n F 3 rfl dX9_column_2_9 ?_
  refine Z.i2l F dX9_column_2_10 ?_
  refine Z.lconst F (w := (0 : Int64)) (by decide) dX9_column_2_11 ?_
  refine Z.ldc2 F q1816 dX9_column_2_12 ?_
  refine clX9_77 F ⟨Nat.le_of_ble_eq_true rfl, Nat.le_of_ble_eq_true rfl⟩ (zlw4 (Nat.le_of_ble_eq_true rfl)) dX9_column_2_15 (fun r15 => ?_)
  refine Z.if_ne F (tgt := 23) dX9_column_2_18 (by decide) ?_ ?_
  · refine Z.iload_n F 3 rfl dX9_column_2_23 ?_
    refine Z.table F (tgts := [52, 59, 70]) (tgt := 77) dX9_column_2_24 rfl (by decide) (by decide) (by decide) ?_ ?_
    · refine Z.aload_n F 0 rfl dX9_column_2_77 ?_
      refine gfX9_22 F dX9_column_2_78 (fun g78 => ?_)
      refine Z.iconst F (v := (1 : Int32)) (by decide) dX9_column_2_81 ?_
      refine Z.iald F dX9_column_2_82 (fun g82 => ?_)
      refine Z.aload_n F 0 rfl dX9_column_2_83 ?_
      refine gfX9_34 F dX9_column_2_84 (fun g84 => ?_)
      refine Z.iload_n F 1 rfl dX9_column_2_87 ?_
      refine Z.iload_n F 2 rfl dX9_column_2_88 ?_
      refine clX9_199 F ⟨Nat.le_of_ble_eq_true rfl, Nat.le_of_ble_eq_true rfl⟩ (zlw4 (Nat.le_of_ble_eq_true rfl)) dX9_column_2_89 (fun r89 => ?_)
      refine Z.iald F dX9_column_2_92 (fun g92 => ?_)
      refine Z.isub F dX9_column_2_93 ?_
      exact Z.iret F dX9_column_2_94
    intro i9 P9 t9 e9 e8
    match i9, e9, e8 with
    | 0, e9, e8 =>
      cases e9; cases e8
      refine Z.aload_n F 0 rfl dX9_column_2_52 ?_
      refine Z.iload_n F 1 rfl dX9_column_2_53 ?_
      refine Z.iload_n F 2 rfl dX9_column_2_54 ?_
      refine clX9_238 F ⟨Nat.le_of_ble_eq_true rfl, Nat.le_of_ble_eq_true rfl⟩ (zlw4 (Nat.le_of_ble_eq_true rfl)) dX9_column_2_55 (fun r55 => ?_)
      exact Z.iret F dX9_column_2_58
    | 1, e9, e8 =>
      cases e9; cases e8
      refine Z.aload_n F 0 rfl dX9_column_2_59 ?_
      refine gfX9_34 F dX9_column_2_60 (fun g60 => ?_)
      refine Z.iload_n F 1 rfl dX9_column_2_63 ?_
      refine Z.iload_n F 2 rfl dX9_column_2_64 ?_
      refine clX9_199 F ⟨Nat.le_of_ble_eq_true rfl, Nat.le_of_ble_eq_true rfl⟩ (zlw4 (Nat.le_of_ble_eq_true rfl)) dX9_column_2_65 (fun r65 => ?_)
      refine Z.iald F dX9_column_2_68 (fun g68 => ?_)
      exact Z.iret F dX9_column_2_69
    | 2, e9, e8 =>
      cases e9; cases e8
      refine Z.aload_n F 0 rfl dX9_column_2_70 ?_
      refine Z.iload_n F 1 rfl dX9_column_2_71 ?_
      refine Z.iload_n F 2 rfl dX9_column_2_72 ?_
      refine clX9_246 F ⟨Nat.le_of_ble_eq_true rfl, Nat.le_of_ble_eq_true rfl⟩ (zlw4 (Nat.le_of_ble_eq_true rfl)) dX9_column_2_73 (fun r73 => ?_)
      exact Z.iret F dX9_column_2_76
    | n + 3, e9, e8 => simp at e9
  exact Z.sub [] rfl (hj21)
set_option maxHeartbeats 4000000 in
theorem k_X9_isBuilding (l : Launch) (h0 : Nat) (x1 : Int32) (x2 : Int32) (x3 : Int32) : ZCi l yX9_isBuilding (ws_ yX9_isBuilding cX9_isBuilding 4 (some .boolean)) 3 68 0 0 false [zv h0, .int x1, .int x2, .int x3] (f_X9_isBuilding h0 x1 x2 x3) := by
  refine Z.metZ (by decide +kernel) (fun h => ⟨rfl, rfl⟩) (L0 := [(0, zv h0), (1, .int x1), (2, .int x2), (3, .int x3)]) (by first | (rw [zla_v, zla_i, zla_i, zla_i, zla_0]; done) | (rw [zla_v, zla_i, zla_i, zla_i, zla_0]; rfl)) (by rw [zsl_v, zsl_i, zsl_i, zsl_i, zsl_0]; exact Nat.le_of_ble_eq_true rfl) ?_
  intro p e R s m args below meth c D A n0 sz k F
  have F : ZF p R s m args meth c cX9_isBuilding 4 "SafeBucketsModel" "isBuilding" (some .boolean) D A false sz 0 0 3 68 := F
  unfold f_X9_isBuilding
  refine Z.aload_n F 0 rfl dX9_isBuilding_0 ?_
  refine Z.iload_n F 1 rfl dX9_isBuilding_1 ?_
  refine Z.iload_n F 2 rfl dX9_isBuilding_2 ?_
  refine clX9_235 F ⟨Nat.le_of_ble_eq_true rfl, Nat.le_of_ble_eq_true rfl⟩ (zlw4 (Nat.le_of_ble_eq_true rfl)) dX9_isBuilding_3 (fun r3 => ?_)
  refine Z.jn1 (J := _) (fun p30s0 => []) (fun p30s0 => [.int p30s0]) 30 (fun p30s0 => ?_) (fun j30 hj30 => ?_)
  · exact Z.zret F dX9_isBuilding_30
  refine Z.jn0 (J := _) ([]) ([]) 29 (?_) (fun j29 hj29 => ?_)
  · refine Z.iconst F (v := (0 : Int32)) (by decide) dX9_isBuilding_29 ?_
    exact Z.sub [] rfl (hj30 (0 : Int32))
  refine Z.if_eq F (tgt := 29) dX9_isBuilding_6 (by decide) ?_ ?_
  · exact Z.sub [] rfl (hj29)
  refine Z.iload_n F 3 rfl dX9_isBuilding_9 ?_
  refine Z.i2l F dX9_isBuilding_10 ?_
  refine Z.lconst F (w := (1 : Int64)) (by decide) dX9_isBuilding_11 ?_
  refine Z.aload_n F 0 rfl dX9_isBuilding_12 ?_
  refine gfX9_25 F dX9_isBuilding_13 (fun g13 => ?_)
  refine Z.iload_n F 1 rfl dX9_isBuilding_16 ?_
  refine Z.iald F dX9_isBuilding_17 (fun g17 => ?_)
  refine Z.i2l F dX9_isBuilding_18 ?_
  refine clX9_77 F ⟨Nat.le_of_ble_eq_true rfl, Nat.le_of_ble_eq_true rfl⟩ (zlw4 (Nat.le_of_ble_eq_true rfl)) dX9_isBuilding_19 (fun r19 => ?_)
  refine Z.if_eq F (tgt := 29) dX9_isBuilding_22 (by decide) ?_ ?_
  · exact Z.sub [] rfl (hj29)
  refine Z.iconst F (v := (1 : Int32)) (by decide) dX9_isBuilding_25 ?_
  refine Z.goto F (tgt := 30) dX9_isBuilding_26 (by decide) ?_
  exact Z.sub [] rfl (hj30 (1 : Int32))
theorem clX9_249 (F : ZF p R s m args meth c cc nL "SafeBucketsModel" nm ret D A al sz mc ms fr lo) {h0 : Nat} {x1 : Int32} {x2 : Int32} {x3 : Int32} {K : Int32 → ZM → Prop} (hR : 3 + 1 ≤ fr ∧ 8 + (4 + 11) + 68 ≤ lo) (hst4 : zlw st) (hdg : decode cc pc = .ok (.invokevirtual 249, 3)) (k : ∀ r, ZW p l e R s m args below meth c Q nL D A al n0 (K r) (pc + 3) L (.int r :: st)) : ZW p l e R s m args below meth c Q nL D A al n0 (zat 7 h0 (f_X9_isBuilding h0 x1 x2 x3 K)) pc L (.int x3 :: .int x2 :: .int x1 :: zv h0 :: st) :=
  Z.ri0 _ (fun μ H locs cells slots ls hI h hP => Z.V0 F hI (n := 3) (ci := 6) rfl (by decide) hP.1 hP.2 (k_X9_isBuilding l h0 x1 x2 x3 D A (zX μ, zC μ, zS μ) H.size K μ) q1863 q1865 qs73 q126 q1866 (by decide +kernel) rfl h.1 hst4 hR rfl hdg) k
set_option maxHeartbeats 4000000 in
theorem k_X9_error (l : Launch) (h0 : Nat) (x1 : Int32) (x2 : Int32) (x3 : Int32) : ZCl l yX9_error (ws_ yX9_error cX9_error 4 (some .long)) 4 91 0 0 false [zv h0, .int x1, .int x2, .int x3] (f_X9_error h0 x1 x2 x3) := by
  refine Z.metL (by decide +kernel) (fun h => ⟨rfl, rfl⟩) (L0 := [(0, zv h0), (1, .int x1), (2, .int x2), (3, .int x3)]) (by first | (rw [zla_v, zla_i, zla_i, zla_i, zla_0]; done) | (rw [zla_v, zla_i, zla_i, zla_i, zla_0]; rfl)) (by rw [zsl_v, zsl_i, zsl_i, zsl_i, zsl_0]; exact Nat.le_of_ble_eq_true rfl) ?_
  intro p e R s m args below meth c D A n0 sz k F
  have F : ZF p R s m args meth c cX9_error 4 "SafeBucketsModel" "error" (some .long) D A false sz 0 0 4 91 := F
  unfold f_X9_error
  refine Z.aload_n F 0 rfl dX9_error_0 ?_
  refine Z.iload_n F 1 rfl dX9_error_1 ?_
  refine Z.iload_n F 2 rfl dX9_error_2 ?_
  refine Z.iload_n F 3 rfl dX9_error_3 ?_
  refine clX9_249 F ⟨Nat.le_of_ble_eq_true rfl, Nat.le_of_ble_eq_true rfl⟩ (zlw4 (Nat.le_of_ble_eq_true rfl)) dX9_error_4 (fun r4 => ?_)
  refine Z.if_ne F (tgt := 14) dX9_error_7 (by decide) ?_ ?_
  · refine Z.aload_n F 0 rfl dX9_error_14 ?_
    refine Z.iload_n F 1 rfl dX9_error_15 ?_
    refine Z.iload_n F 2 rfl dX9_error_16 ?_
    refine clX9_191 F ⟨Nat.le_of_ble_eq_true rfl, Nat.le_of_ble_eq_true rfl⟩ (zlw4 (Nat.le_of_ble_eq_true rfl)) dX9_error_17 ?_
    refine Z.aload_n F 0 rfl dX9_error_20 ?_
    refine Z.iload_n F 3 rfl dX9_error_21 ?_
    refine clX9_187 F ⟨Nat.le_of_ble_eq_true rfl, Nat.le_of_ble_eq_true rfl⟩ (zlw4 (Nat.le_of_ble_eq_true rfl)) dX9_error_22 ?_
    refine Z.aload_n F 0 rfl dX9_error_25 ?_
    refine gfX9_43 F dX9_error_26 (fun g26 => ?_)
    refine Z.iload_n F 3 rfl dX9_error_29 ?_
    refine Z.iconst F (v := (0 : Int32)) (by decide) dX9_error_30 ?_
    refine clX9_174 F ⟨Nat.le_of_ble_eq_true rfl, Nat.le_of_ble_eq_true rfl⟩ (zlw4 (Nat.le_of_ble_eq_true rfl)) dX9_error_31 (fun r31 => ?_)
    refine Z.lald F dX9_error_34 (fun g34 => ?_)
    exact Z.lret F dX9_error_35
  refine Z.ldc2 F q1829 dX9_error_10 ?_
  exact Z.lret F dX9_error_13
set_option maxHeartbeats 4000000 in
theorem k_X9_border (l : Launch) (h0 : Nat) (x1 : Int32) (x2 : Int32) (x3 : Int32) (x4 : Int32) : ZCi l yX9_border (ws_ yX9_border cX9_border 5 (some .int)) 4 91 0 0 false [zv h0, .int x1, .int x2, .int x3, .int x4] (f_X9_border h0 x1 x2 x3 x4) := by
  refine Z.metI (by decide +kernel) (fun h => ⟨rfl, rfl⟩) (L0 := [(0, zv h0), (1, .int x1), (2, .int x2), (3, .int x3), (4, .int x4)]) (by first | (rw [zla_v, zla_i, zla_i, zla_i, zla_i, zla_0]; done) | (rw [zla_v, zla_i, zla_i, zla_i, zla_i, zla_0]; rfl)) (by rw [zsl_v, zsl_i, zsl_i, zsl_i, zsl_i, zsl_0]; exact Nat.le_of_ble_eq_true rfl) ?_
  intro p e R s m args below meth c D A n0 sz k F
  have F : ZF p R s m args meth c cX9_border 5 "SafeBucketsModel" "border" (some .int) D A false sz 0 0 4 91 := F
  unfold f_X9_border
  refine Z.aload_n F 0 rfl dX9_border_0 ?_
  refine Z.iload_n F 1 rfl dX9_border_1 ?_
  refine Z.iload_n F 2 rfl dX9_border_2 ?_
  refine Z.iload_n F 3 rfl dX9_border_3 ?_
  refine clX9_249 F ⟨Nat.le_of_ble_eq_true rfl, Nat.le_of_ble_eq_true rfl⟩ (zlw4 (Nat.le_of_ble_eq_true rfl)) dX9_border_4 (fun r4 => ?_)
  refine Z.jn0 (J := _) ([]) ([]) 24 (?_) (fun j24 hj24 => ?_)
  · refine Z.iconst F (v := (-1 : Int32)) (by decide) dX9_border_24 ?_
    exact Z.iret F dX9_border_25
  refine Z.if_eq F (tgt := 24) dX9_border_7 (by decide) ?_ ?_
  · exact Z.sub [] rfl (hj24)
  refine Z.iload F 4 rfl dX9_border_10 ?_
  refine Z.i2l F dX9_border_12 ?_
  refine Z.lconst F (w := (0 : Int64)) (by decide) dX9_border_13 ?_
  refine Z.iload_n F 3 rfl dX9_border_14 ?_
  refine Z.iconst F (v := (1 : Int32)) (by decide) dX9_border_15 ?_
  refine Z.isub F dX9_border_16 ?_
  refine Z.i2l F dX9_border_17 ?_
  refine clX9_77 F ⟨Nat.le_of_ble_eq_true rfl, Nat.le_of_ble_eq_true rfl⟩ (zlw4 (Nat.le_of_ble_eq_true rfl)) dX9_border_18 (fun r18 => ?_)
  refine Z.if_ne F (tgt := 26) dX9_border_21 (by decide) ?_ ?_
  · refine Z.aload_n F 0 rfl dX9_border_26 ?_
    refine Z.iload_n F 1 rfl dX9_border_27 ?_
    refine Z.iload_n F 2 rfl dX9_border_28 ?_
    refine clX9_191 F ⟨Nat.le_of_ble_eq_true rfl, Nat.le_of_ble_eq_true rfl⟩ (zlw4 (Nat.le_of_ble_eq_true rfl)) dX9_border_29 ?_
    refine Z.aload_n F 0 rfl dX9_border_32 ?_
    refine Z.iload_n F 3 rfl dX9_border_33 ?_
    refine clX9_196 F ⟨Nat.le_of_ble_eq_true rfl, Nat.le_of_ble_eq_true rfl⟩ (zlw4 (Nat.le_of_ble_eq_true rfl)) dX9_border_34 ?_
    refine Z.aload_n F 0 rfl dX9_border_37 ?_
    refine gfX9_47 F dX9_border_38 (fun g38 => ?_)
    refine Z.iload F 4 rfl dX9_border_41 ?_
    refine Z.iald F dX9_border_43 (fun g43 => ?_)
    exact Z.iret F dX9_border_44
  exact Z.sub [] rfl (hj24)
set_option maxHeartbeats 4000000 in
theorem k_X9_triedFrom (l : Launch) (h0 : Nat) (x1 : Int32) (x2 : Int32) (x3 : Int32) : ZCi l yX9_triedFrom (ws_ yX9_triedFrom cX9_triedFrom 9 (some .int)) 1 27 0 0 false [zv h0, .int x1, .int x2, .int x3] (f_X9_triedFrom h0 x1 x2 x3) := by
  refine Z.metI (by decide +kernel) (fun h => ⟨rfl, rfl⟩) (L0 := [(0, zv h0), (1, .int x1), (2, .int x2), (3, .int x3)]) (by first | (rw [zla_v, zla_i, zla_i, zla_i, zla_0]; done) | (rw [zla_v, zla_i, zla_i, zla_i, zla_0]; rfl)) (by rw [zsl_v, zsl_i, zsl_i, zsl_i, zsl_0]; exact Nat.le_of_ble_eq_true rfl) ?_
  intro p e R s m args below meth c D A n0 sz k F
  have F : ZF p R s m args meth c cX9_triedFrom 9 "SafeBucketsModel" "triedFrom" (some .int) D A false sz 0 0 1 27 := F
  unfold f_X9_triedFrom
  refine Z.iload_n F 2 rfl dX9_triedFrom_0 ?_
  refine Z.iconst F (v := (1 : Int32)) (by decide) dX9_triedFrom_1 ?_
  refine Z.icmp_ne F (tgt := 7) dX9_triedFrom_2 (by decide) ?_ ?_
  · refine Z.iconst F (v := (0 : Int32)) (by decide) dX9_triedFrom_7 ?_
    refine Z.istore F (L0 := [(0, zv h0), (1, .int x1), (2, .int x2), (3, .int x3)]) [0, 1, 2, 3] rfl (zkR rfl (zkI rfl (zkI rfl (zkI rfl zkN)))) (by decide) dX9_triedFrom_8 ?_
    refine Z.ldc2 F q1778 dX9_triedFrom_10 ?_
    refine Z.lstore F (L0 := [(4, .int (0 : Int32)), (0, zv h0), (1, .int x1), (2, .int x2), (3, .int x3)]) [0, 1, 2, 3, 4] rfl (zmI rfl rfl  (zmR rfl rfl  (zmI rfl rfl  (zmI rfl rfl  (zmI rfl rfl  zmN))))) (by decide) dX9_triedFrom_13 ?_
    refine Z.iconst F (v := (1 : Int32)) (by decide) dX9_triedFrom_15 ?_
    refine Z.istore F (L0 := [(5, .long (1000000000000000 : Int64)), (4, .int (0 : Int32)), (0, zv h0), (1, .int x1), (2, .int x2), (3, .int x3)]) [0, 1, 2, 3, 4, 5] rfl (zkL rfl rfl (zkI rfl (zkR rfl (zkI rfl (zkI rfl (zkI rfl zkN)))))) (by decide) dX9_triedFrom_16 ?_
    refine Z.iload_n F 4 rfl dX9_triedFrom_18 ?_
    refine Z.iconst F (v := (1 : Int32)) (by decide) dX9_triedFrom_19 ?_
    refine Z.iadd F dX9_triedFrom_20 ?_
    refine Z.istore F (L0 := [(7, .int (1 : Int32)), (5, .long (1000000000000000 : Int64)), (4, .int (0 : Int32)), (0, zv h0), (1, .int x1), (2, .int x2), (3, .int x3)]) [0, 1, 2, 3, 4, 5, 6] rfl (zkI rfl (zkL rfl rfl (zkI rfl (zkR rfl (zkI rfl (zkI rfl (zkI rfl zkN))))))) (by decide) dX9_triedFrom_21 ?_
    refine Z.jn1 (J := _) (fun p102l4 => [(4, .int p102l4)]) (fun p102l4 => []) 102 (fun p102l4 => ?_) (fun j102 hj102 => ?_)
    · refine Z.iload F 0 rfl dX9_triedFrom_102 ?_
      exact Z.iret F dX9_triedFrom_104
    refine Z.sub [4, 5, 6, 7, 3, 2, 1, 0] rfl ?_
    refine Z.w4 (Lf := fun p23l4 p23l5 p23l7 p23l8 => [(0, zv h0), (1, .int x1), (2, .int x2), (3, .int x3), (4, .int p23l4), (5, .long p23l5), (7, .int p23l7), (8, .int p23l8)]) (sf := fun p23l4 p23l5 p23l7 p23l8 => []) (fun r23 hr23 p23l4 p23l5 p23l7 p23l8 => ?_) (0 : Int32) (1000000000000000 : Int64) (1 : Int32) (x1 + (1 : Int32))
    refine Z.iload F 7 rfl dX9_triedFrom_23 ?_
    refine Z.aload_n F 0 rfl dX9_triedFrom_25 ?_
    refine gfX9_164 F dX9_triedFrom_26 (fun g26 => ?_)
    refine Z.iload_n F 2 rfl dX9_triedFrom_29 ?_
    refine Z.isub F dX9_triedFrom_30 ?_
    refine Z.iconst F (v := (1 : Int32)) (by decide) dX9_triedFrom_31 ?_
    refine Z.iadd F dX9_triedFrom_32 ?_
    refine Z.icmp_gt F (tgt := 102) dX9_triedFrom_33 (by decide) ?_ ?_
    · exact Z.sub [4] rfl (hj102 p23l4)
    refine Z.iload F 6 rfl dX9_triedFrom_36 ?_
    refine Z.if_eq F (tgt := 102) dX9_triedFrom_38 (by decide) ?_ ?_
    · exact Z.sub [4] rfl (hj102 p23l4)
    refine Z.iinc F (L0 := [(0, zv h0), (1, .int x1), (2, .int x2), (3, .int x3), (5, .long p23l5), (7, .int p23l7), (8, .int p23l8)]) (k0 := 4) (v := (1 : Int32)) rfl (by decide) [0, 1, 2, 3, 5, 6, 7] rfl (zkR rfl (zkI rfl (zkI rfl (zkI rfl (zkL rfl rfl (zkI rfl (zkI rfl zkN))))))) (by decide) dX9_triedFrom_41 ?_
    refine Z.lload F 5 rfl dX9_triedFrom_44 ?_
    refine Z.aload_n F 1 rfl dX9_triedFrom_46 ?_
    refine Z.iload_n F 2 rfl dX9_triedFrom_47 ?_
    refine Z.iload F 7 rfl dX9_triedFrom_48 ?_
    refine clX9_177 F ⟨Nat.le_of_ble_eq_true rfl, Nat.le_of_ble_eq_true rfl⟩ (zlw4 (Nat.le_of_ble_eq_true rfl)) dX9_triedFrom_50 (fun r50 => ?_)
    refine Z.aload_n F 1 rfl dX9_triedFrom_53 ?_
    refine gfX9_43 F dX9_triedFrom_54 (fun g54 => ?_)
    refine Z.iload_n F 3 rfl dX9_triedFrom_57 ?_
    refine Z.iconst F (v := (1 : Int32)) (by decide) dX9_triedFrom_58 ?_
    refine Z.isub F dX9_triedFrom_59 ?_
    refine Z.iload F 7 rfl dX9_triedFrom_60 ?_
    refine clX9_174 F ⟨Nat.le_of_ble_eq_true rfl, Nat.le_of_ble_eq_true rfl⟩ (zlw4 (Nat.le_of_ble_eq_true rfl)) dX9_triedFrom_62 (fun r62 => ?_)
    refine Z.lald F dX9_triedFrom_65 (fun g65 => ?_)
    refine Z.ladd F dX9_triedFrom_66 ?_
    refine Z.lmin F q1787 (Nat.le_of_ble_eq_true rfl) (Nat.le_of_ble_eq_true rfl) (zlw4 (Nat.le_of_ble_eq_true rfl)) dX9_triedFrom_67 ?_
    refine Z.lstore F (L0 := [(4, .int (p23l4 + (1 : Int32))), (0, zv h0), (1, .int x1), (2, .int x2), (3, .int x3), (7, .int p23l7), (8, .int p23l8)]) [0, 1, 2, 3, 4, 6, 7] rfl (zmI rfl rfl  (zmR rfl rfl  (zmI rfl rfl  (zmI rfl rfl  (zmI rfl rfl  (zmI rfl rfl  (zmI rfl rfl  zmN))))))) (by decide) dX9_triedFrom_70 ?_
    refine Z.iload_n F 5 rfl dX9_triedFrom_72 ?_
    refine Z.jn1 (J := _) (fun p94s0 => [(0, zv h0), (1, .int x1), (2, .int x2), (3, .int x3), (4, .int (p23l4 + (1 : Int32))), (5, .long (if (r50 + g65) < p23l5 then (r50 + g65) else p23l5)), (8, .int p23l8)]) (fun p94s0 => [.int p94s0]) 94 (fun p94s0 => ?_) (fun j94 hj94 => ?_)
    · refine Z.istore F (L0 := [(0, zv h0), (1, .int x1), (2, .int x2), (3, .int x3), (4, .int (p23l4 + (1 : Int32))), (5, .long (if (r50 + g65) < p23l5 then (r50 + g65) else p23l5)), (8, .int p23l8)]) [0, 1, 2, 3, 4, 5, 6] rfl (zkR rfl (zkI rfl (zkI rfl (zkI rfl (zkI rfl (zkL rfl rfl (zkI rfl zkN))))))) (by decide) dX9_triedFrom_94 ?_
      refine Z.iinc F (L0 := [(7, .int p94s0), (0, zv h0), (1, .int x1), (2, .int x2), (3, .int x3), (4, .int (p23l4 + (1 : Int32))), (5, .long (if (r50 + g65) < p23l5 then (r50 + g65) else p23l5))]) (k0 := 7) (v := (1 : Int32)) rfl (by decide) [0, 1, 2, 3, 4, 5, 6] rfl (zkI rfl (zkR rfl (zkI rfl (zkI rfl (zkI rfl (zkI rfl (zkL rfl rfl zkN))))))) (by decide) dX9_triedFrom_96 ?_
      refine Z.goto F (tgt := 23) dX9_triedFrom_99 (by decide) ?_
      exact Z.sub [2, 3, 4, 5, 6, 7, 1, 0] rfl (hr23 (p23l4 + (1 : Int32)) (if (r50 + g65) < p23l5 then (r50 + g65) else p23l5) p94s0 (p23l8 + (1 : Int32)))
    refine Z.jn0 (J := _) ([(0, zv h0), (1, .int x1), (2, .int x2), (3, .int x3), (4, .int (p23l4 + (1 : Int32))), (5, .long (if (r50 + g65) < p23l5 then (r50 + g65) else p23l5)), (8, .int p23l8)]) ([]) 89 (?_) (fun j89 hj89 => ?_)
    · refine Z.iconst F (v := (1 : Int32)) (by decide) dX9_triedFrom_89 ?_
      refine Z.goto F (tgt := 94) dX9_triedFrom_90 (by decide) ?_
      exact Z.sub [0, 1, 2, 3, 4, 5, 6] rfl (hj94 (1 : Int32))
    refine Z.if_eq F (tgt := 89) dX9_triedFrom_73 (by decide) ?_ ?_
    · exact Z.sub [2, 3, 4, 5, 1, 0, 7] rfl (hj89)
    refine Z.aload_n F 2 rfl dX9_triedFrom_76 ?_
    refine Z.iload_n F 3 rfl dX9_triedFrom_77 ?_
    refine Z.iload F 7 rfl dX9_triedFrom_78 ?_
    refine clX9_177 F ⟨Nat.le_of_ble_eq_true rfl, Nat.le_of_ble_eq_true rfl⟩ (zlw4 (Nat.le_of_ble_eq_true rfl)) dX9_triedFrom_80 (fun r80 => ?_)
    refine Z.lload F 0 rfl dX9_triedFrom_83 ?_
    refine Z.lcmp F dX9_triedFrom_85 ?_
    refine Z.if_ge F (tgt := 93) dX9_triedFrom_86 (by decide) ?_ ?_
    · refine Z.iconst F (v := (0 : Int32)) (by decide) dX9_triedFrom_93 ?_
      exact Z.sub [2, 3, 4, 5, 1, 0, 7] rfl (hj94 (0 : Int32))
    exact Z.sub [2, 3, 4, 5, 1, 0, 7] rfl (hj89)
  refine Z.iconst F (v := (1 : Int32)) (by decide) dX9_triedFrom_5 ?_
  exact Z.iret F dX9_triedFrom_6
theorem clX9_253 (F : ZF p R s m args meth c cc nL "SafeBucketsModel" nm ret D A al sz mc ms fr lo) {h0 : Nat} {x1 : Int32} {x2 : Int32} {x3 : Int32} {K : Int32 → ZM → Prop} (hR : 1 + 1 ≤ fr ∧ 8 + (9 + 11) + 27 ≤ lo) (hst4 : zlw st) (hdg : decode cc pc = .ok (.invokevirtual 253, 3)) (k : ∀ r, ZW p l e R s m args below meth c Q nL D A al n0 (K r) (pc + 3) L (.int r :: st)) : ZW p l e R s m args below meth c Q nL D A al n0 (zat 7 h0 (f_X9_triedFrom h0 x1 x2 x3 K)) pc L (.int x3 :: .int x2 :: .int x1 :: zv h0 :: st) :=
  Z.ri0 _ (fun μ H locs cells slots ls hI h hP => Z.V0 F hI (n := 3) (ci := 6) rfl (by decide) hP.1 hP.2 (k_X9_triedFrom l h0 x1 x2 x3 D A (zX μ, zC μ, zS μ) H.size K μ) q1875 q1877 qs74 q126 q1878 (by decide +kernel) rfl h.1 hst4 hR rfl hdg) k
set_option maxHeartbeats 4000000 in
theorem k_X9_tried (l : Launch) (h0 : Nat) (x1 : Int32) (x2 : Int32) (x3 : Int32) (x4 : Int32) : ZCi l yX9_tried (ws_ yX9_tried cX9_tried 8 (some .int)) 4 91 0 0 false [zv h0, .int x1, .int x2, .int x3, .int x4] (f_X9_tried h0 x1 x2 x3 x4) := by
  refine Z.metI (by decide +kernel) (fun h => ⟨rfl, rfl⟩) (L0 := [(0, zv h0), (1, .int x1), (2, .int x2), (3, .int x3), (4, .int x4)]) (by first | (rw [zla_v, zla_i, zla_i, zla_i, zla_i, zla_0]; done) | (rw [zla_v, zla_i, zla_i, zla_i, zla_i, zla_0]; rfl)) (by rw [zsl_v, zsl_i, zsl_i, zsl_i, zsl_i, zsl_0]; exact Nat.le_of_ble_eq_true rfl) ?_
  intro p e R s m args below meth c D A n0 sz k F
  have F : ZF p R s m args meth c cX9_tried 8 "SafeBucketsModel" "tried" (some .int) D A false sz 0 0 4 91 := F
  unfold f_X9_tried
  refine Z.aload_n F 0 rfl dX9_tried_0 ?_
  refine Z.iload_n F 1 rfl dX9_tried_1 ?_
  refine Z.iload_n F 2 rfl dX9_tried_2 ?_
  refine Z.iload_n F 3 rfl dX9_tried_3 ?_
  refine clX9_249 F ⟨Nat.le_of_ble_eq_true rfl, Nat.le_of_ble_eq_true rfl⟩ (zlw4 (Nat.le_of_ble_eq_true rfl)) dX9_tried_4 (fun r4 => ?_)
  refine Z.jn0 (J := _) ([]) ([]) 21 (?_) (fun j21 hj21 => ?_)
  · refine Z.iconst F (v := (-1 : Int32)) (by decide) dX9_tried_21 ?_
    exact Z.iret F dX9_tried_22
  refine Z.if_eq F (tgt := 21) dX9_tried_7 (by decide) ?_ ?_
  · exact Z.sub [] rfl (hj21)
  refine Z.iload F 4 rfl dX9_tried_10 ?_
  refine Z.i2l F dX9_tried_12 ?_
  refine Z.lconst F (w := (0 : Int64)) (by decide) dX9_tried_13 ?_
  refine Z.lconst F (w := (1 : Int64)) (by decide) dX9_tried_14 ?_
  refine clX9_77 F ⟨Nat.le_of_ble_eq_true rfl, Nat.le_of_ble_eq_true rfl⟩ (zlw4 (Nat.le_of_ble_eq_true rfl)) dX9_tried_15 (fun r15 => ?_)
  refine Z.if_ne F (tgt := 23) dX9_tried_18 (by decide) ?_ ?_
  · refine Z.aload_n F 0 rfl dX9_tried_23 ?_
    refine Z.iload_n F 1 rfl dX9_tried_24 ?_
    refine Z.iload_n F 2 rfl dX9_tried_25 ?_
    refine clX9_191 F ⟨Nat.le_of_ble_eq_true rfl, Nat.le_of_ble_eq_true rfl⟩ (zlw4 (Nat.le_of_ble_eq_true rfl)) dX9_tried_26 ?_
    refine Z.aload_n F 0 rfl dX9_tried_29 ?_
    refine Z.iload_n F 3 rfl dX9_tried_30 ?_
    refine clX9_187 F ⟨Nat.le_of_ble_eq_true rfl, Nat.le_of_ble_eq_true rfl⟩ (zlw4 (Nat.le_of_ble_eq_true rfl)) dX9_tried_31 ?_
    refine Z.iconst F (v := (0 : Int32)) (by decide) dX9_tried_34 ?_
    refine Z.istore F (L0 := [(0, zv h0), (1, .int x1), (2, .int x2), (3, .int x3), (4, .int x4)]) [0, 1, 2, 3, 4] rfl (zkR rfl (zkI rfl (zkI rfl (zkI rfl (zkI rfl zkN))))) (by decide) dX9_tried_35 ?_
    refine Z.iconst F (v := (1 : Int32)) (by decide) dX9_tried_37 ?_
    refine Z.istore F (L0 := [(5, .int (0 : Int32)), (0, zv h0), (1, .int x1), (2, .int x2), (3, .int x3), (4, .int x4)]) [0, 1, 2, 3, 4, 5] rfl (zkI rfl (zkR rfl (zkI rfl (zkI rfl (zkI rfl (zkI rfl zkN)))))) (by decide) dX9_tried_38 ?_
    refine Z.sub [2, 5, 6, 1, 0] rfl ?_
    refine Z.w2 (Lf := fun p40l5 p40l6 => [(0, zv h0), (3, .int x3), (4, .int x4), (5, .int p40l5), (6, .int p40l6)]) (sf := fun p40l5 p40l6 => []) (fun r40 hr40 p40l5 p40l6 => ?_) (0 : Int32) (1 : Int32)
    refine Z.iload F 4 rfl dX9_tried_40 ?_
    refine Z.iload_n F 1 rfl dX9_tried_42 ?_
    refine Z.icmp_gt F (tgt := 96) dX9_tried_43 (by decide) ?_ ?_
    · refine Z.iload F 3 rfl dX9_tried_96 ?_
      exact Z.iret F dX9_tried_98
    refine Z.iconst F (v := (0 : Int32)) (by decide) dX9_tried_46 ?_
    refine Z.istore F (L0 := [(0, zv h0), (3, .int x3), (4, .int x4), (5, .int p40l5), (6, .int p40l6)]) [0, 1, 2, 3, 4] rfl (zkR rfl (zkI rfl (zkI rfl (zkI rfl (zkI rfl zkN))))) (by decide) dX9_tried_47 ?_
    refine Z.jn2 (J := _) (fun p90l5 p90l6 => [(0, zv h0), (3, .int x3), (4, .int x4), (5, .int p90l5), (6, .int p90l6)]) (fun p90l5 p90l6 => []) 90 (fun p90l5 p90l6 => ?_) (fun j90 hj90 => ?_)
    · refine Z.iinc F (L0 := [(0, zv h0), (3, .int x3), (4, .int x4), (5, .int p90l5)]) (k0 := 4) (v := (1 : Int32)) rfl (by decide) [0, 1, 2, 3] rfl (zkR rfl (zkI rfl (zkI rfl (zkI rfl zkN)))) (by decide) dX9_tried_90 ?_
      refine Z.goto F (tgt := 40) dX9_tried_93 (by decide) ?_
      exact Z.sub [1, 2, 3, 4, 0] rfl (hr40 p90l5 (p90l6 + (1 : Int32)))
    refine Z.sub [1, 2, 3, 4, 5, 0] rfl ?_
    refine Z.w3 (Lf := fun p49l5 p49l6 p49l7 => [(0, zv h0), (3, .int x3), (4, .int x4), (5, .int p49l5), (6, .int p49l6), (7, .int p49l7)]) (sf := fun p49l5 p49l6 p49l7 => []) (fun r49 hr49 p49l5 p49l6 p49l7 => ?_) p40l5 p40l6 (0 : Int32)
    refine Z.iload F 5 rfl dX9_tried_49 ?_
    refine Z.aload_n F 0 rfl dX9_tried_51 ?_
    refine gfX9_164 F dX9_tried_52 (fun g52 => ?_)
    refine Z.iload F 4 rfl dX9_tried_55 ?_
    refine Z.isub F dX9_tried_57 ?_
    refine Z.icmp_gt F (tgt := 90) dX9_tried_58 (by decide) ?_ ?_
    · exact Z.sub [0, 1, 2, 3, 4] rfl (hj90 p49l5 p49l6)
    refine Z.iload F 3 rfl dX9_tried_61 ?_
    refine Z.aload_n F 0 rfl dX9_tried_63 ?_
    refine Z.iload F 5 rfl dX9_tried_64 ?_
    refine Z.iload F 4 rfl dX9_tried_66 ?_
    refine Z.iload F 2 rfl dX9_tried_68 ?_
    refine Z.jn1 (J := _) (fun p78s4 => [(0, zv h0), (3, .int x3), (4, .int x4), (6, .int p49l6), (7, .int p49l7)]) (fun p78s4 => [.int p78s4, .int p49l6, .int p49l7, zv h0, .int p49l5]) 78 (fun p78s4 => ?_) (fun j78 hj78 => ?_)
    · refine clX9_253 F ⟨Nat.le_of_ble_eq_true rfl, Nat.le_of_ble_eq_true rfl⟩ (zlw4 (Nat.le_of_ble_eq_true rfl)) dX9_tried_78 (fun r78 => ?_)
      refine Z.iadd F dX9_tried_81 ?_
      refine Z.istore F (L0 := [(0, zv h0), (3, .int x3), (4, .int x4), (6, .int p49l6), (7, .int p49l7)]) [0, 1, 2, 3, 4] rfl (zkR rfl (zkI rfl (zkI rfl (zkI rfl (zkI rfl zkN))))) (by decide) dX9_tried_82 ?_
      refine Z.iinc F (L0 := [(5, .int (p49l5 + r78)), (0, zv h0), (3, .int x3), (4, .int x4), (6, .int p49l6)]) (k0 := 5) (v := (1 : Int32)) rfl (by decide) [0, 1, 2, 3, 4] rfl (zkI rfl (zkR rfl (zkI rfl (zkI rfl (zkI rfl zkN))))) (by decide) dX9_tried_84 ?_
      refine Z.goto F (tgt := 49) dX9_tried_87 (by decide) ?_
      exact Z.sub [2, 3, 4, 1, 5, 0] rfl (hr49 (p49l5 + r78) p49l6 (p49l7 + (1 : Int32)))
    refine Z.if_ne F (tgt := 77) dX9_tried_70 (by decide) ?_ ?_
    · refine Z.iconst F (v := (0 : Int32)) (by decide) dX9_tried_77 ?_
      exact Z.sub [0, 1, 2, 4, 5] rfl (hj78 (0 : Int32))
    refine Z.iconst F (v := (1 : Int32)) (by decide) dX9_tried_73 ?_
    refine Z.goto F (tgt := 78) dX9_tried_74 (by decide) ?_
    exact Z.sub [0, 1, 2, 4, 5] rfl (hj78 (1 : Int32))
  exact Z.sub [] rfl (hj21)
set_option maxHeartbeats 4000000 in
theorem k_X9_fewest (l : Launch) (h0 : Nat) (x1 : Int32) (x2 : Int32) (x3 : Int64) : ZCi l yX9_fewest (ws_ yX9_fewest cX9_fewest 6 (some .int)) 3 71 0 0 false [zv h0, .int x1, .int x2, .long x3] (f_X9_fewest h0 x1 x2 x3) := by
  refine Z.metI (by decide +kernel) (fun h => ⟨rfl, rfl⟩) (L0 := [(0, zv h0), (1, .int x1), (2, .int x2), (3, .long x3)]) (by first | (rw [zla_v, zla_i, zla_i, zla_l, zla_0]; done) | (rw [zla_v, zla_i, zla_i, zla_l, zla_0]; rfl)) (by rw [zsl_v, zsl_i, zsl_i, zsl_l, zsl_0]; exact Nat.le_of_ble_eq_true rfl) ?_
  intro p e R s m args below meth c D A n0 sz k F
  have F : ZF p R s m args meth c cX9_fewest 6 "SafeBucketsModel" "fewest" (some .int) D A false sz 0 0 3 71 := F
  unfold f_X9_fewest
  refine Z.aload_n F 0 rfl dX9_fewest_0 ?_
  refine Z.iload_n F 1 rfl dX9_fewest_1 ?_
  refine Z.iload_n F 2 rfl dX9_fewest_2 ?_
  refine clX9_235 F ⟨Nat.le_of_ble_eq_true rfl, Nat.le_of_ble_eq_true rfl⟩ (zlw4 (Nat.le_of_ble_eq_true rfl)) dX9_fewest_3 (fun r3 => ?_)
  refine Z.jn0 (J := _) ([]) ([]) 15 (?_) (fun j15 hj15 => ?_)
  · refine Z.iconst F (v := (-1 : Int32)) (by decide) dX9_fewest_15 ?_
    exact Z.iret F dX9_fewest_16
  refine Z.if_eq F (tgt := 15) dX9_fewest_6 (by decide) ?_ ?_
  · exact Z.sub [] rfl (hj15)
  refine Z.lload_n F 3 rfl dX9_fewest_9 ?_
  refine Z.lconst F (w := (0 : Int64)) (by decide) dX9_fewest_10 ?_
  refine Z.lcmp F dX9_fewest_11 ?_
  refine Z.if_ge F (tgt := 17) dX9_fewest_12 (by decide) ?_ ?_
  · refine Z.aload_n F 0 rfl dX9_fewest_17 ?_
    refine Z.iload_n F 1 rfl dX9_fewest_18 ?_
    refine Z.iload_n F 2 rfl dX9_fewest_19 ?_
    refine clX9_191 F ⟨Nat.le_of_ble_eq_true rfl, Nat.le_of_ble_eq_true rfl⟩ (zlw4 (Nat.le_of_ble_eq_true rfl)) dX9_fewest_20 ?_
    refine Z.aload_n F 0 rfl dX9_fewest_23 ?_
    refine Z.aload_n F 0 rfl dX9_fewest_24 ?_
    refine gfX9_164 F dX9_fewest_25 (fun g25 => ?_)
    refine clX9_187 F ⟨Nat.le_of_ble_eq_true rfl, Nat.le_of_ble_eq_true rfl⟩ (zlw4 (Nat.le_of_ble_eq_true rfl)) dX9_fewest_28 ?_
    refine Z.iconst F (v := (1 : Int32)) (by decide) dX9_fewest_31 ?_
    refine Z.istore F (L0 := [(0, zv h0), (1, .int x1), (2, .int x2), (3, .long x3)]) [0, 1, 2, 3] rfl (zkR rfl (zkI rfl (zkI rfl (zkL rfl rfl zkN)))) (by decide) dX9_fewest_32 ?_
    refine Z.sub [1, 4, 0] rfl ?_
    refine Z.w1 (Lf := fun p34l5 => [(0, zv h0), (3, .long x3), (5, .int p34l5)]) (sf := fun p34l5 => []) (fun r34 hr34 p34l5 => ?_) (1 : Int32)
    refine Z.aload_n F 0 rfl dX9_fewest_34 ?_
    refine gfX9_43 F dX9_fewest_35 (fun g35 => ?_)
    refine Z.iload F 2 rfl dX9_fewest_38 ?_
    refine Z.iconst F (v := (0 : Int32)) (by decide) dX9_fewest_40 ?_
    refine clX9_174 F ⟨Nat.le_of_ble_eq_true rfl, Nat.le_of_ble_eq_true rfl⟩ (zlw4 (Nat.le_of_ble_eq_true rfl)) dX9_fewest_41 (fun r41 => ?_)
    refine Z.lald F dX9_fewest_44 (fun g44 => ?_)
    refine Z.lload_n F 1 rfl dX9_fewest_45 ?_
    refine Z.lcmp F dX9_fewest_46 ?_
    refine Z.if_le F (tgt := 56) dX9_fewest_47 (by decide) ?_ ?_
    · refine Z.iload F 2 rfl dX9_fewest_56 ?_
      exact Z.iret F dX9_fewest_58
    refine Z.iinc F (L0 := [(0, zv h0), (3, .long x3)]) (k0 := 2) (v := (1 : Int32)) rfl (by decide) [0, 1] rfl (zkR rfl (zkL rfl rfl zkN)) (by decide) dX9_fewest_50 ?_
    refine Z.goto F (tgt := 34) dX9_fewest_53 (by decide) ?_
    exact Z.sub [1, 2, 0] rfl (hr34 (p34l5 + (1 : Int32)))
  exact Z.sub [] rfl (hj15)
set_option maxHeartbeats 4000000 in
theorem k_X9_areThere (l : Launch) (h0 : Nat) (x1 : Int32) (x2 : Int32) (x3 : Int32) : ZCi l yX9_areThere (ws_ yX9_areThere cX9_areThere 4 (some .boolean)) 2 47 0 0 false [zv h0, .int x1, .int x2, .int x3] (f_X9_areThere h0 x1 x2 x3) := by
  refine Z.metZ (by decide +kernel) (fun h => ⟨rfl, rfl⟩) (L0 := [(0, zv h0), (1, .int x1), (2, .int x2), (3, .int x3)]) (by first | (rw [zla_v, zla_i, zla_i, zla_i, zla_0]; done) | (rw [zla_v, zla_i, zla_i, zla_i, zla_0]; rfl)) (by rw [zsl_v, zsl_i, zsl_i, zsl_i, zsl_0]; exact Nat.le_of_ble_eq_true rfl) ?_
  intro p e R s m args below meth c D A n0 sz k F
  have F : ZF p R s m args meth c cX9_areThere 4 "SafeBucketsModel" "areThere" (some .boolean) D A false sz 0 0 2 47 := F
  unfold f_X9_areThere
  refine Z.aload_n F 0 rfl dX9_areThere_0 ?_
  refine Z.iload_n F 1 rfl dX9_areThere_1 ?_
  refine clX9_153 F ⟨Nat.le_of_ble_eq_true rfl, Nat.le_of_ble_eq_true rfl⟩ (zlw4 (Nat.le_of_ble_eq_true rfl)) dX9_areThere_2 (fun r2 => ?_)
  refine Z.jn1 (J := _) (fun p31s0 => []) (fun p31s0 => [.int p31s0]) 31 (fun p31s0 => ?_) (fun j31 hj31 => ?_)
  · exact Z.zret F dX9_areThere_31
  refine Z.jn0 (J := _) ([]) ([]) 30 (?_) (fun j30 hj30 => ?_)
  · refine Z.iconst F (v := (0 : Int32)) (by decide) dX9_areThere_30 ?_
    exact Z.sub [] rfl (hj31 (0 : Int32))
  refine Z.if_eq F (tgt := 30) dX9_areThere_5 (by decide) ?_ ?_
  · exact Z.sub [] rfl (hj30)
  refine Z.aload_n F 0 rfl dX9_areThere_8 ?_
  refine Z.iload_n F 1 rfl dX9_areThere_9 ?_
  refine Z.iload_n F 2 rfl dX9_areThere_10 ?_
  refine clX9_232 F ⟨Nat.le_of_ble_eq_true rfl, Nat.le_of_ble_eq_true rfl⟩ (zlw4 (Nat.le_of_ble_eq_true rfl)) dX9_areThere_11 (fun r11 => ?_)
  refine Z.if_eq F (tgt := 30) dX9_areThere_14 (by decide) ?_ ?_
  · exact Z.sub [] rfl (hj30)
  refine Z.aload_n F 0 rfl dX9_areThere_17 ?_
  refine Z.iload_n F 1 rfl dX9_areThere_18 ?_
  refine Z.iload_n F 3 rfl dX9_areThere_19 ?_
  refine clX9_232 F ⟨Nat.le_of_ble_eq_true rfl, Nat.le_of_ble_eq_true rfl⟩ (zlw4 (Nat.le_of_ble_eq_true rfl)) dX9_areThere_20 (fun r20 => ?_)
  refine Z.if_eq F (tgt := 30) dX9_areThere_23 (by decide) ?_ ?_
  · exact Z.sub [] rfl (hj30)
  refine Z.iconst F (v := (1 : Int32)) (by decide) dX9_areThere_26 ?_
  refine Z.goto F (tgt := 31) dX9_areThere_27 (by decide) ?_
  exact Z.sub [] rfl (hj31 (1 : Int32))
theorem clX9_267 (F : ZF p R s m args meth c cc nL "SafeBucketsModel" nm ret D A al sz mc ms fr lo) {h0 : Nat} {x1 : Int32} {x2 : Int32} {x3 : Int32} {K : Int32 → ZM → Prop} (hR : 2 + 1 ≤ fr ∧ 8 + (4 + 11) + 47 ≤ lo) (hst4 : zlw st) (hdg : decode cc pc = .ok (.invokevirtual 267, 3)) (k : ∀ r, ZW p l e R s m args below meth c Q nL D A al n0 (K r) (pc + 3) L (.int r :: st)) : ZW p l e R s m args below meth c Q nL D A al n0 (zat 7 h0 (f_X9_areThere h0 x1 x2 x3 K)) pc L (.int x3 :: .int x2 :: .int x1 :: zv h0 :: st) :=
  Z.ri0 _ (fun μ H locs cells slots ls hI h hP => Z.V0 F hI (n := 3) (ci := 6) rfl (by decide) hP.1 hP.2 (k_X9_areThere l h0 x1 x2 x3 D A (zX μ, zC μ, zS μ) H.size K μ) q1891 q1893 qs76 q126 q1894 (by decide +kernel) rfl h.1 hst4 hR rfl hdg) k
set_option maxHeartbeats 4000000 in
theorem k_X9_whyAdd (l : Launch) (h0 : Nat) (x1 : Int32) (x2 : Int32) (x3 : Int32) (x4 : Int32) : ZCi l yX9_whyAdd (ws_ yX9_whyAdd cX9_whyAdd 5 (some .int)) 3 70 0 0 false [zv h0, .int x1, .int x2, .int x3, .int x4] (f_X9_whyAdd h0 x1 x2 x3 x4) := by
  refine Z.metI (by decide +kernel) (fun h => ⟨rfl, rfl⟩) (L0 := [(0, zv h0), (1, .int x1), (2, .int x2), (3, .int x3), (4, .int x4)]) (by first | (rw [zla_v, zla_i, zla_i, zla_i, zla_i, zla_0]; done) | (rw [zla_v, zla_i, zla_i, zla_i, zla_i, zla_0]; rfl)) (by rw [zsl_v, zsl_i, zsl_i, zsl_i, zsl_i, zsl_0]; exact Nat.le_of_ble_eq_true rfl) ?_
  intro p e R s m args below meth c D A n0 sz k F
  have F : ZF p R s m args meth c cX9_whyAdd 5 "SafeBucketsModel" "whyAdd" (some .int) D A false sz 0 0 3 70 := F
  unfold f_X9_whyAdd
  refine Z.aload_n F 0 rfl dX9_whyAdd_0 ?_
  refine Z.iload_n F 1 rfl dX9_whyAdd_1 ?_
  refine Z.iload_n F 2 rfl dX9_whyAdd_2 ?_
  refine Z.iload_n F 3 rfl dX9_whyAdd_3 ?_
  refine clX9_267 F ⟨Nat.le_of_ble_eq_true rfl, Nat.le_of_ble_eq_true rfl⟩ (zlw4 (Nat.le_of_ble_eq_true rfl)) dX9_whyAdd_4 (fun r4 => ?_)
  refine Z.jn1 (J := _) (fun p50s0 => []) (fun p50s0 => [.int p50s0]) 50 (fun p50s0 => ?_) (fun j50 hj50 => ?_)
  · exact Z.iret F dX9_whyAdd_50
  refine Z.if_ne F (tgt := 14) dX9_whyAdd_7 (by decide) ?_ ?_
  · refine Z.iload F 4 rfl dX9_whyAdd_14 ?_
    refine Z.i2l F dX9_whyAdd_16 ?_
    refine Z.lconst F (w := (1 : Int64)) (by decide) dX9_whyAdd_17 ?_
    refine Z.ldc2 F q1895 dX9_whyAdd_18 ?_
    refine clX9_77 F ⟨Nat.le_of_ble_eq_true rfl, Nat.le_of_ble_eq_true rfl⟩ (zlw4 (Nat.le_of_ble_eq_true rfl)) dX9_whyAdd_21 (fun r21 => ?_)
    refine Z.if_ne F (tgt := 31) dX9_whyAdd_24 (by decide) ?_ ?_
    · refine Z.aload_n F 0 rfl dX9_whyAdd_31 ?_
      refine Z.iload_n F 1 rfl dX9_whyAdd_32 ?_
      refine clX9_161 F ⟨Nat.le_of_ble_eq_true rfl, Nat.le_of_ble_eq_true rfl⟩ (zlw4 (Nat.le_of_ble_eq_true rfl)) dX9_whyAdd_33 (fun r33 => ?_)
      refine Z.iload F 4 rfl dX9_whyAdd_36 ?_
      refine Z.iadd F dX9_whyAdd_38 ?_
      refine Z.sipush F (v := (999 : Int32)) (by decide) dX9_whyAdd_39 ?_
      refine Z.icmp_le F (tgt := 49) dX9_whyAdd_42 (by decide) ?_ ?_
      · refine Z.iconst F (v := (-1 : Int32)) (by decide) dX9_whyAdd_49 ?_
        exact Z.sub [] rfl (hj50 (-1 : Int32))
      refine Z.iconst F (v := (3 : Int32)) (by decide) dX9_whyAdd_45 ?_
      refine Z.goto F (tgt := 50) dX9_whyAdd_46 (by decide) ?_
      exact Z.sub [] rfl (hj50 (3 : Int32))
    refine Z.iconst F (v := (1 : Int32)) (by decide) dX9_whyAdd_27 ?_
    refine Z.goto F (tgt := 50) dX9_whyAdd_28 (by decide) ?_
    exact Z.sub [] rfl (hj50 (1 : Int32))
  refine Z.iconst F (v := (0 : Int32)) (by decide) dX9_whyAdd_10 ?_
  refine Z.goto F (tgt := 50) dX9_whyAdd_11 (by decide) ?_
  exact Z.sub [] rfl (hj50 (0 : Int32))
theorem gfX9_212 (F : ZF p R s m args meth c cc nL "SafeBucketsModel" nm ret D A al sz mc ms fr lo) {z : Nat} {K : Int32 → ZM → Prop} (hdg : decode cc pc = .ok (.getfield 212, 3)) (k : ∀ u, ZW p l e R s m args below meth c Q nL D A al n0 (K u) (pc + 3) L (.int u :: st)) : ZW p l e R s m args below meth c Q nL D A al n0 (zgI 7 z 23 K) pc L (zv z :: st) :=
  Z.getI F (ref := "SafeBucketsModel") in_X9 (ci := 6) rfl (by decide) (kf := 23) (by decide) q1593 (fun _ h => h) rfl hdg k
theorem gfX9_51 (F : ZF p R s m args meth c cc nL "SafeBucketsModel" nm ret D A al sz mc ms fr lo) {z : Nat} {K : Nat → ZM → Prop} (hdg : decode cc pc = .ok (.getfield 51, 3)) (k : ∀ u, ZW p l e R s m args below meth c Q nL D A al n0 (K u) (pc + 3) L (zv u :: st)) : ZW p l e R s m args below meth c Q nL D A al n0 (zgR 7 z 22 K) pc L (zv z :: st) :=
  Z.getR F (ref := "SafeBucketsModel") in_X9 (ci := 6) rfl (by decide) (kf := 22) (by decide) q1592 (fun _ h => h) rfl hdg k
set_option maxHeartbeats 4000000 in
theorem k_X9_keep (l : Launch) (h0 : Nat) : ZCv l yX9_keep (ws_ yX9_keep cX9_keep 2 none) 0 0 0 0 false [zv h0] (f_X9_keep h0) := by
  refine Z.metV (by decide +kernel) (fun h => ⟨rfl, rfl⟩) (L0 := [(0, zv h0)]) (by first | (rw [zla_v, zla_0]; done) | (rw [zla_v, zla_0]; rfl)) (by rw [zsl_v, zsl_0]; exact Nat.le_of_ble_eq_true rfl) ?_
  intro p e R s m args below meth c D A n0 sz k F
  have F : ZF p R s m args meth c cX9_keep 2 "SafeBucketsModel" "keep" none D A false sz 0 0 0 0 := F
  unfold f_X9_keep
  refine Z.aload_n F 0 rfl dX9_keep_0 ?_
  refine gfX9_212 F dX9_keep_1 (fun g1 => ?_)
  refine Z.bipush F (v := (40 : Int32)) (by decide) dX9_keep_4 ?_
  refine Z.jn0 (J := _) ([(0, zv h0)]) ([]) 51 (?_) (fun j51 hj51 => ?_)
  · refine Z.iconst F (v := (0 : Int32)) (by decide) dX9_keep_51 ?_
    refine Z.istore_n F (L0 := [(0, zv h0)]) [0] rfl (zkR rfl zkN) (by decide) dX9_keep_52 ?_
    refine Z.jn0 (J := _) ([(0, zv h0)]) ([]) 87 (?_) (fun j87 hj87 => ?_)
    · refine Z.aload_n F 0 rfl dX9_keep_87 ?_
      refine Z.dup F dX9_keep_88 ?_
      refine gfX9_212 F dX9_keep_89 (fun g89 => ?_)
      refine Z.iconst F (v := (1 : Int32)) (by decide) dX9_keep_92 ?_
      refine Z.iadd F dX9_keep_93 ?_
      refine pfX9_212 F dX9_keep_94 ?_
      exact Z.vret F dX9_keep_97
    refine Z.sub [1, 0] rfl ?_
    refine Z.w1 (Lf := fun p53l1 => [(0, zv h0), (1, .int p53l1)]) (sf := fun p53l1 => []) (fun r53 hr53 p53l1 => ?_) (0 : Int32)
    refine Z.iload_n F 1 rfl dX9_keep_53 ?_
    refine Z.sipush F (v := (1253 : Int32)) (by decide) dX9_keep_54 ?_
    refine Z.icmp_ge F (tgt := 87) dX9_keep_57 (by decide) ?_ ?_
    · exact Z.sub [0] rfl (hj87)
    refine Z.aload_n F 0 rfl dX9_keep_60 ?_
    refine gfX9_51 F dX9_keep_61 (fun g61 => ?_)
    refine Z.sipush F (v := (1253 : Int32)) (by decide) dX9_keep_64 ?_
    refine Z.aload_n F 0 rfl dX9_keep_67 ?_
    refine gfX9_212 F dX9_keep_68 (fun g68 => ?_)
    refine Z.imul F dX9_keep_71 ?_
    refine Z.iload_n F 1 rfl dX9_keep_72 ?_
    refine Z.iadd F dX9_keep_73 ?_
    refine Z.aload_n F 0 rfl dX9_keep_74 ?_
    refine gfX9_34 F dX9_keep_75 (fun g75 => ?_)
    refine Z.iload_n F 1 rfl dX9_keep_78 ?_
    refine Z.iald F dX9_keep_79 (fun g79 => ?_)
    refine Z.iast F dX9_keep_80 ?_
    refine Z.iinc F (L0 := [(0, zv h0)]) (k0 := 1) (v := (1 : Int32)) rfl (by decide) [0] rfl (zkR rfl zkN) (by decide) dX9_keep_81 ?_
    refine Z.goto F (tgt := 53) dX9_keep_84 (by decide) ?_
    exact Z.sub [1, 0] rfl (hr53 (p53l1 + (1 : Int32)))
  refine Z.icmp_ne F (tgt := 51) dX9_keep_6 (by decide) ?_ ?_
  · exact Z.sub [0] rfl (hj51)
  refine Z.sipush F (v := (1253 : Int32)) (by decide) dX9_keep_9 ?_
  refine Z.istore_n F (L0 := [(0, zv h0)]) [0] rfl (zkR rfl zkN) (by decide) dX9_keep_12 ?_
  refine Z.jn0 (J := _) ([(0, zv h0)]) ([]) 41 (?_) (fun j41 hj41 => ?_)
  · refine Z.aload_n F 0 rfl dX9_keep_41 ?_
    refine Z.dup F dX9_keep_42 ?_
    refine gfX9_212 F dX9_keep_43 (fun g43 => ?_)
    refine Z.iconst F (v := (1 : Int32)) (by decide) dX9_keep_46 ?_
    refine Z.isub F dX9_keep_47 ?_
    refine pfX9_212 F dX9_keep_48 ?_
    exact Z.sub [0] rfl (hj51)
  refine Z.sub [1, 0] rfl ?_
  refine Z.w1 (Lf := fun p13l1 => [(0, zv h0), (1, .int p13l1)]) (sf := fun p13l1 => []) (fun r13 hr13 p13l1 => ?_) (1253 : Int32)
  refine Z.iload_n F 1 rfl dX9_keep_13 ?_
  refine Z.ldcI F q1569 dX9_keep_14 ?_
  refine Z.icmp_ge F (tgt := 41) dX9_keep_16 (by decide) ?_ ?_
  · exact Z.sub [0] rfl (hj41)
  refine Z.aload_n F 0 rfl dX9_keep_19 ?_
  refine gfX9_51 F dX9_keep_20 (fun g20 => ?_)
  refine Z.iload_n F 1 rfl dX9_keep_23 ?_
  refine Z.sipush F (v := (1253 : Int32)) (by decide) dX9_keep_24 ?_
  refine Z.isub F dX9_keep_27 ?_
  refine Z.aload_n F 0 rfl dX9_keep_28 ?_
  refine gfX9_51 F dX9_keep_29 (fun g29 => ?_)
  refine Z.iload_n F 1 rfl dX9_keep_32 ?_
  refine Z.iald F dX9_keep_33 (fun g33 => ?_)
  refine Z.iast F dX9_keep_34 ?_
  refine Z.iinc F (L0 := [(0, zv h0)]) (k0 := 1) (v := (1 : Int32)) rfl (by decide) [0] rfl (zkR rfl zkN) (by decide) dX9_keep_35 ?_
  refine Z.goto F (tgt := 13) dX9_keep_38 (by decide) ?_
  exact Z.sub [1, 0] rfl (hr13 (p13l1 + (1 : Int32)))
theorem clX9_257 (F : ZF p R s m args meth c cc nL "SafeBucketsModel" nm ret D A al sz mc ms fr lo) {h0 : Nat} {K : ZM → Prop} (hR : 0 + 1 ≤ fr ∧ 8 + (2 + 11) + 0 ≤ lo) (hst4 : zlw st) (hdg : decode cc pc = .ok (.invokevirtual 257, 3)) (k : ZW p l e R s m args below meth c Q nL D A al n0 K (pc + 3) L st) : ZW p l e R s m args below meth c Q nL D A al n0 (zat 7 h0 (f_X9_keep h0 K)) pc L (zv h0 :: st) :=
  Z.rv0 _ (fun μ H locs cells slots ls hI h hP => Z.V0 F hI (n := 0) (ci := 6) rfl (by decide) hP.1 hP.2 (k_X9_keep l h0 D A (zX μ, zC μ, zS μ) H.size K μ) q1900 q1902 qs78 q126 q1903 (by decide +kernel) rfl h.1 hst4 hR rfl hdg) k
theorem gfX9_37 (F : ZF p R s m args meth c cc nL "SafeBucketsModel" nm ret D A al sz mc ms fr lo) {z : Nat} {K : Nat → ZM → Prop} (hdg : decode cc pc = .ok (.getfield 37, 3)) (k : ∀ u, ZW p l e R s m args below meth c Q nL D A al n0 (K u) (pc + 3) L (zv u :: st)) : ZW p l e R s m args below meth c Q nL D A al n0 (zgR 7 z 17 K) pc L (zv z :: st) :=
  Z.getR F (ref := "SafeBucketsModel") in_X9 (ci := 6) rfl (by decide) (kf := 17) (by decide) q1587 (fun _ h => h) rfl hdg k
set_option maxHeartbeats 4000000 in
theorem k_X9_isRefused (l : Launch) (h0 : Nat) (x1 : Int32) (x2 : Int32) (x3 : Int32) (x4 : Int32) : ZCi l yX9_isRefused (ws_ yX9_isRefused cX9_isRefused 6 (some .boolean)) 1 21 0 0 false [zv h0, .int x1, .int x2, .int x3, .int x4] (f_X9_isRefused h0 x1 x2 x3 x4) := by
  refine Z.metZ (by decide +kernel) (fun h => ⟨rfl, rfl⟩) (L0 := [(0, zv h0), (1, .int x1), (2, .int x2), (3, .int x3), (4, .int x4)]) (by first | (rw [zla_v, zla_i, zla_i, zla_i, zla_i, zla_0]; done) | (rw [zla_v, zla_i, zla_i, zla_i, zla_i, zla_0]; rfl)) (by rw [zsl_v, zsl_i, zsl_i, zsl_i, zsl_i, zsl_0]; exact Nat.le_of_ble_eq_true rfl) ?_
  intro p e R s m args below meth c D A n0 sz k F
  have F : ZF p R s m args meth c cX9_isRefused 6 "SafeBucketsModel" "isRefused" (some .boolean) D A false sz 0 0 1 21 := F
  unfold f_X9_isRefused
  refine Z.iload_n F 1 rfl dX9_isRefused_0 ?_
  refine Z.iconst F (v := (-1 : Int32)) (by decide) dX9_isRefused_1 ?_
  refine Z.icmp_eq F (tgt := 17) dX9_isRefused_2 (by decide) ?_ ?_
  · refine Z.aload_n F 0 rfl dX9_isRefused_17 ?_
    refine clX9_257 F ⟨Nat.le_of_ble_eq_true rfl, Nat.le_of_ble_eq_true rfl⟩ (zlw4 (Nat.le_of_ble_eq_true rfl)) dX9_isRefused_18 ?_
    refine Z.aload_n F 0 rfl dX9_isRefused_21 ?_
    refine gfX9_34 F dX9_isRefused_22 (fun g22 => ?_)
    refine Z.sipush F (v := (1072 : Int32)) (by decide) dX9_isRefused_25 ?_
    refine Z.iald F dX9_isRefused_28 (fun g28 => ?_)
    refine Z.bipush F (v := (60 : Int32)) (by decide) dX9_isRefused_29 ?_
    refine Z.jn0 (J := _) ([(0, zv h0), (2, .int x2), (3, .int x3), (4, .int x4)]) ([]) 87 (?_) (fun j87 hj87 => ?_)
    · refine Z.sipush F (v := (1073 : Int32)) (by decide) dX9_isRefused_87 ?_
      refine Z.iconst F (v := (3 : Int32)) (by decide) dX9_isRefused_90 ?_
      refine Z.aload_n F 0 rfl dX9_isRefused_91 ?_
      refine gfX9_34 F dX9_isRefused_92 (fun g92 => ?_)
      refine Z.sipush F (v := (1072 : Int32)) (by decide) dX9_isRefused_95 ?_
      refine Z.iald F dX9_isRefused_98 (fun g98 => ?_)
      refine Z.imul F dX9_isRefused_99 ?_
      refine Z.iadd F dX9_isRefused_100 ?_
      refine Z.istore F (L0 := [(0, zv h0), (2, .int x2), (3, .int x3), (4, .int x4)]) [0, 1, 2, 3] rfl (zkR rfl (zkI rfl (zkI rfl (zkI rfl zkN)))) (by decide) dX9_isRefused_101 ?_
      refine Z.aload_n F 1 rfl dX9_isRefused_103 ?_
      refine gfX9_34 F dX9_isRefused_104 (fun g104 => ?_)
      refine Z.iload F 0 rfl dX9_isRefused_107 ?_
      refine Z.iload_n F 2 rfl dX9_isRefused_109 ?_
      refine Z.iast F dX9_isRefused_110 ?_
      refine Z.aload_n F 1 rfl dX9_isRefused_111 ?_
      refine gfX9_34 F dX9_isRefused_112 (fun g112 => ?_)
      refine Z.iload F 0 rfl dX9_isRefused_115 ?_
      refine Z.iconst F (v := (1 : Int32)) (by decide) dX9_isRefused_117 ?_
      refine Z.iadd F dX9_isRefused_118 ?_
      refine Z.iload_n F 3 rfl dX9_isRefused_119 ?_
      refine Z.iast F dX9_isRefused_120 ?_
      refine Z.aload_n F 1 rfl dX9_isRefused_121 ?_
      refine gfX9_34 F dX9_isRefused_122 (fun g122 => ?_)
      refine Z.iload F 0 rfl dX9_isRefused_125 ?_
      refine Z.iconst F (v := (2 : Int32)) (by decide) dX9_isRefused_127 ?_
      refine Z.iadd F dX9_isRefused_128 ?_
      refine Z.iload F 4 rfl dX9_isRefused_129 ?_
      refine Z.iast F dX9_isRefused_131 ?_
      refine Z.aload_n F 1 rfl dX9_isRefused_132 ?_
      refine gfX9_34 F dX9_isRefused_133 (fun g133 => ?_)
      refine Z.sipush F (v := (1072 : Int32)) (by decide) dX9_isRefused_136 ?_
      refine Z.dup2 F dX9_isRefused_139 ?_
      refine Z.iald F dX9_isRefused_140 (fun g140 => ?_)
      refine Z.iconst F (v := (1 : Int32)) (by decide) dX9_isRefused_141 ?_
      refine Z.iadd F dX9_isRefused_142 ?_
      refine Z.iast F dX9_isRefused_143 ?_
      refine Z.iconst F (v := (0 : Int32)) (by decide) dX9_isRefused_144 ?_
      exact Z.zret F dX9_isRefused_145
    refine Z.icmp_ne F (tgt := 87) dX9_isRefused_31 (by decide) ?_ ?_
    · exact Z.sub [0, 2, 3, 4] rfl (hj87)
    refine Z.iconst F (v := (3 : Int32)) (by decide) dX9_isRefused_34 ?_
    refine Z.istore F (L0 := [(0, zv h0), (1, .int x1), (2, .int x2), (3, .int x3), (4, .int x4)]) [0, 1, 2, 3, 4] rfl (zkR rfl (zkI rfl (zkI rfl (zkI rfl (zkI rfl zkN))))) (by decide) dX9_isRefused_35 ?_
    refine Z.jn0 (J := _) ([(0, zv h0), (2, .int x2), (3, .int x3), (4, .int x4)]) ([]) 75 (?_) (fun j75 hj75 => ?_)
    · refine Z.aload_n F 0 rfl dX9_isRefused_75 ?_
      refine gfX9_34 F dX9_isRefused_76 (fun g76 => ?_)
      refine Z.sipush F (v := (1072 : Int32)) (by decide) dX9_isRefused_79 ?_
      refine Z.dup2 F dX9_isRefused_82 ?_
      refine Z.iald F dX9_isRefused_83 (fun g83 => ?_)
      refine Z.iconst F (v := (1 : Int32)) (by decide) dX9_isRefused_84 ?_
      refine Z.isub F dX9_isRefused_85 ?_
      refine Z.iast F dX9_isRefused_86 ?_
      exact Z.sub [0, 1, 2, 3] rfl (hj87)
    refine Z.sub [1, 3, 4, 5, 0] rfl ?_
    refine Z.w1 (Lf := fun p37l5 => [(0, zv h0), (2, .int x2), (3, .int x3), (4, .int x4), (5, .int p37l5)]) (sf := fun p37l5 => []) (fun r37 hr37 p37l5 => ?_) (3 : Int32)
    refine Z.iload F 4 rfl dX9_isRefused_37 ?_
    refine Z.sipush F (v := (180 : Int32)) (by decide) dX9_isRefused_39 ?_
    refine Z.icmp_ge F (tgt := 75) dX9_isRefused_42 (by decide) ?_ ?_
    · exact Z.sub [0, 1, 2, 3] rfl (hj75)
    refine Z.aload_n F 0 rfl dX9_isRefused_45 ?_
    refine gfX9_34 F dX9_isRefused_46 (fun g46 => ?_)
    refine Z.sipush F (v := (1073 : Int32)) (by decide) dX9_isRefused_49 ?_
    refine Z.iload F 4 rfl dX9_isRefused_52 ?_
    refine Z.iadd F dX9_isRefused_54 ?_
    refine Z.iconst F (v := (3 : Int32)) (by decide) dX9_isRefused_55 ?_
    refine Z.isub F dX9_isRefused_56 ?_
    refine Z.aload_n F 0 rfl dX9_isRefused_57 ?_
    refine gfX9_34 F dX9_isRefused_58 (fun g58 => ?_)
    refine Z.sipush F (v := (1073 : Int32)) (by decide) dX9_isRefused_61 ?_
    refine Z.iload F 4 rfl dX9_isRefused_64 ?_
    refine Z.iadd F dX9_isRefused_66 ?_
    refine Z.iald F dX9_isRefused_67 (fun g67 => ?_)
    refine Z.iast F dX9_isRefused_68 ?_
    refine Z.iinc F (L0 := [(0, zv h0), (2, .int x2), (3, .int x3), (4, .int x4)]) (k0 := 4) (v := (1 : Int32)) rfl (by decide) [0, 1, 2, 3] rfl (zkR rfl (zkI rfl (zkI rfl (zkI rfl zkN)))) (by decide) dX9_isRefused_69 ?_
    refine Z.goto F (tgt := 37) dX9_isRefused_72 (by decide) ?_
    exact Z.sub [1, 2, 3, 4, 0] rfl (hr37 (p37l5 + (1 : Int32)))
  refine Z.aload_n F 0 rfl dX9_isRefused_5 ?_
  refine gfX9_37 F dX9_isRefused_6 (fun g6 => ?_)
  refine Z.iload_n F 1 rfl dX9_isRefused_9 ?_
  refine Z.dup2 F dX9_isRefused_10 ?_
  refine Z.iald F dX9_isRefused_11 (fun g11 => ?_)
  refine Z.iconst F (v := (1 : Int32)) (by decide) dX9_isRefused_12 ?_
  refine Z.iadd F dX9_isRefused_13 ?_
  refine Z.iast F dX9_isRefused_14 ?_
  refine Z.iconst F (v := (1 : Int32)) (by decide) dX9_isRefused_15 ?_
  exact Z.zret F dX9_isRefused_16
end ZWalk
