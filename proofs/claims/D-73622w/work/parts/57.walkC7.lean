section ZWalk
variable {p : Program} {l : Launch} {e : Env} {R : Room} {s : State} {m : MethodId} {args : Array Value} {below : List Frame} {meth : Method} {c : Code} {Q : State → Prop} {nL : Nat} {D : ZD} {A : Nat → Prop} {al : Bool} {n0 : Nat × Nat × Nat} {cc : ByteArray} {nm : String} {ret : Option FieldType} {sz mc ms fr lo : Nat}
variable {P : ZM → Prop} {pc : Nat} {L : List (Nat × Value)} {st : List Value}
set_option maxHeartbeats 4000000 in
theorem k_X2_notes (l : Launch) (h0 : Nat) (x1 : Int32) (x2 : Int32) (x3 : Int32) : ZCv l yX2_notes (ws_ yX2_notes cX2_notes 4 none) 1 60 0 0 false [zv h0, .int x1, .int x2, .int x3] (f_X2_notes h0 x1 x2 x3) := by
  refine Z.metV (by decide +kernel) (fun h => ⟨rfl, rfl⟩) (L0 := [(0, zv h0), (1, .int x1), (2, .int x2), (3, .int x3)]) (by first | (rw [zla_v, zla_i, zla_i, zla_i, zla_0]; done) | (rw [zla_v, zla_i, zla_i, zla_i, zla_0]; rfl)) (by rw [zsl_v, zsl_i, zsl_i, zsl_i, zsl_0]; exact Nat.le_of_ble_eq_true rfl) ?_
  intro p e R s m args below meth c D A n0 sz k F
  have F : ZF p R s m args meth c cX2_notes 4 "SafeBuckets$State" "notes" none D A false sz 0 0 1 60 := F
  unfold f_X2_notes
  refine Z.aload_n F 0 rfl dX2_notes_0 ?_
  refine gfX2_75 F dX2_notes_1 (fun g1 => ?_)
  refine Z.bipush F (v := (60 : Int32)) (by decide) dX2_notes_4 ?_
  refine Z.jn0 (J := _) ([(0, zv h0), (1, .int x1), (2, .int x2), (3, .int x3)]) ([]) 35 (?_) (fun j35 hj35 => ?_)
  · refine Z.aload_n F 0 rfl dX2_notes_35 ?_
    refine gfX2_24 F dX2_notes_36 (fun g36 => ?_)
    refine Z.iconst F (v := (3 : Int32)) (by decide) dX2_notes_39 ?_
    refine Z.aload_n F 0 rfl dX2_notes_40 ?_
    refine gfX2_75 F dX2_notes_41 (fun g41 => ?_)
    refine Z.imul F dX2_notes_44 ?_
    refine Z.iload_n F 1 rfl dX2_notes_45 ?_
    refine Z.iast F dX2_notes_46 ?_
    refine Z.aload_n F 0 rfl dX2_notes_47 ?_
    refine gfX2_24 F dX2_notes_48 (fun g48 => ?_)
    refine Z.iconst F (v := (3 : Int32)) (by decide) dX2_notes_51 ?_
    refine Z.aload_n F 0 rfl dX2_notes_52 ?_
    refine gfX2_75 F dX2_notes_53 (fun g53 => ?_)
    refine Z.imul F dX2_notes_56 ?_
    refine Z.iconst F (v := (1 : Int32)) (by decide) dX2_notes_57 ?_
    refine Z.iadd F dX2_notes_58 ?_
    refine Z.iload_n F 2 rfl dX2_notes_59 ?_
    refine Z.iast F dX2_notes_60 ?_
    refine Z.aload_n F 0 rfl dX2_notes_61 ?_
    refine gfX2_24 F dX2_notes_62 (fun g62 => ?_)
    refine Z.iconst F (v := (3 : Int32)) (by decide) dX2_notes_65 ?_
    refine Z.aload_n F 0 rfl dX2_notes_66 ?_
    refine gfX2_75 F dX2_notes_67 (fun g67 => ?_)
    refine Z.imul F dX2_notes_70 ?_
    refine Z.iconst F (v := (2 : Int32)) (by decide) dX2_notes_71 ?_
    refine Z.iadd F dX2_notes_72 ?_
    refine Z.iload_n F 3 rfl dX2_notes_73 ?_
    refine Z.iast F dX2_notes_74 ?_
    refine Z.aload_n F 0 rfl dX2_notes_75 ?_
    refine Z.dup F dX2_notes_76 ?_
    refine gfX2_75 F dX2_notes_77 (fun g77 => ?_)
    refine Z.iconst F (v := (1 : Int32)) (by decide) dX2_notes_80 ?_
    refine Z.iadd F dX2_notes_81 ?_
    refine pfX2_75 F dX2_notes_82 ?_
    exact Z.vret F dX2_notes_85
  refine Z.icmp_ne F (tgt := 35) dX2_notes_6 (by decide) ?_ ?_
  · exact Z.sub [0, 1, 2, 3] rfl (hj35)
  refine Z.aload_n F 0 rfl dX2_notes_9 ?_
  refine gfX2_24 F dX2_notes_10 (fun g10 => ?_)
  refine Z.iconst F (v := (3 : Int32)) (by decide) dX2_notes_13 ?_
  refine Z.aload_n F 0 rfl dX2_notes_14 ?_
  refine gfX2_24 F dX2_notes_15 (fun g15 => ?_)
  refine Z.iconst F (v := (0 : Int32)) (by decide) dX2_notes_18 ?_
  refine Z.sipush F (v := (177 : Int32)) (by decide) dX2_notes_19 ?_
  refine Z.cpy F q1038 (Nat.le_of_ble_eq_true rfl) (by decide) (zlw4 (Nat.le_of_ble_eq_true rfl)) dX2_notes_22 ?_
  refine Z.aload_n F 0 rfl dX2_notes_25 ?_
  refine Z.dup F dX2_notes_26 ?_
  refine gfX2_75 F dX2_notes_27 (fun g27 => ?_)
  refine Z.iconst F (v := (1 : Int32)) (by decide) dX2_notes_30 ?_
  refine Z.isub F dX2_notes_31 ?_
  refine pfX2_75 F dX2_notes_32 ?_
  exact Z.sub [0, 1, 2, 3] rfl (hj35)
theorem clX1_292 (F : ZF p R s m args meth c cc nL "SafeBuckets" nm ret D A true sz mc ms fr lo) {h0 : Nat} {K : ZM → Prop} (hR : 7 + 1 ≤ fr ∧ 8 + (1 + 11) + 143 ≤ lo) (hst4 : zlw st) (hdg : decode cc pc = .ok (.invokevirtual 292, 3)) (k : ZW p l e R s m args below meth c Q nL D A true n0 K (pc + 3) L st) : ZW p l e R s m args below meth c Q nL D A true n0 (zat 1 h0 (zclv 72 1334 (f_X1_remember h0) K)) pc L (zv h0 :: st) :=
  Z.rv1 _ (fun μ H locs cells slots ls hI h hP => ⟨hP.2.1, hP.2.2.1, Z.V1 F hI (n := 0) (ci := 0) rfl (by decide) hP.1 hP.2.1 hP.2.2.1 hP.2.2.2 (k_X1_remember l h0 D A (0, 0, 0) 0 (fun μ' => K (zcs μ' (zC μ - 72) (zS μ - 1334))) (zcs μ 72 1334)) q1015 q1017 qs26 q116 q1018 (by decide +kernel) rfl h.1 hst4 hR rfl hdg⟩) k
theorem clX1_295 (F : ZF p R s m args meth c cc nL "SafeBuckets" nm ret D A al sz mc ms fr lo) {h0 : Nat} {x1 : Int32} {x2 : Int32} {x3 : Int32} {K : ZM → Prop} (hR : 6 + 1 ≤ fr ∧ 8 + (7 + 11) + 144 ≤ lo) (hst4 : zlw st) (hdg : decode cc pc = .ok (.invokevirtual 295, 3)) (k : ZW p l e R s m args below meth c Q nL D A al n0 K (pc + 3) L st) : ZW p l e R s m args below meth c Q nL D A al n0 (zat 3 h0 (f_X3_comes h0 x1 x2 x3 K)) pc L (.int x3 :: .int x2 :: .int x1 :: zv h0 :: st) :=
  Z.rv0 _ (fun μ H locs cells slots ls hI h hP => Z.V0 F hI (n := 3) (ci := 2) rfl (by decide) hP.1 hP.2 (k_X3_comes l h0 x1 x2 x3 D A (zX μ, zC μ, zS μ) H.size K μ) q1040 q1041 q1042 q118 q1043 (by decide +kernel) rfl h.1 hst4 hR rfl hdg) k
theorem clX1_298 (F : ZF p R s m args meth c cc nL "SafeBuckets" nm ret D A al sz mc ms fr lo) {h0 : Nat} {x1 : Int32} {x2 : Int32} {x3 : Int32} {K : ZM → Prop} (hR : 1 + 1 ≤ fr ∧ 8 + (4 + 11) + 60 ≤ lo) (hst4 : zlw st) (hdg : decode cc pc = .ok (.invokevirtual 298, 3)) (k : ZW p l e R s m args below meth c Q nL D A al n0 K (pc + 3) L st) : ZW p l e R s m args below meth c Q nL D A al n0 (zat 2 h0 (f_X2_notes h0 x1 x2 x3 K)) pc L (.int x3 :: .int x2 :: .int x1 :: zv h0 :: st) :=
  Z.rv0 _ (fun μ H locs cells slots ls hI h hP => Z.V0 F hI (n := 3) (ci := 1) rfl (by decide) hP.1 hP.2 (k_X2_notes l h0 x1 x2 x3 D A (zX μ, zC μ, zS μ) H.size K μ) q1066 q1067 q1068 q117 q1069 (by decide +kernel) rfl h.1 hst4 hR rfl hdg) k
set_option maxHeartbeats 4000000 in
theorem k_X1_comes (l : Launch) (h0 : Nat) (x1 : Int32) (x2 : Int32) (x3 : Int32) (x4 : Int32) (x5 : Int32) : ZCv l yX1_comes (ws_ yX1_comes cX1_comes 6 none) 8 170 72 1334 true [zv h0, .int x1, .int x2, .int x3, .int x4, .int x5] (f_X1_comes h0 x1 x2 x3 x4 x5) := by
  refine Z.metV (by decide +kernel) (fun h => by cases h) (L0 := [(0, zv h0), (1, .int x1), (2, .int x2), (3, .int x3), (4, .int x4), (5, .int x5)]) (by first | (rw [zla_v, zla_i, zla_i, zla_i, zla_i, zla_i, zla_0]; done) | (rw [zla_v, zla_i, zla_i, zla_i, zla_i, zla_i, zla_0]; rfl)) (by rw [zsl_v, zsl_i, zsl_i, zsl_i, zsl_i, zsl_i, zsl_0]; exact Nat.le_of_ble_eq_true rfl) ?_
  intro p e R s m args below meth c D A n0 sz k F
  have F : ZF p R s m args meth c cX1_comes 6 "SafeBuckets" "comes" none D A true sz 72 1334 8 170 := F
  unfold f_X1_comes
  refine Z.aload_n F 0 rfl dX1_comes_0 ?_
  refine clX1_292 F ⟨Nat.le_of_ble_eq_true rfl, Nat.le_of_ble_eq_true rfl⟩ (zlw4 (Nat.le_of_ble_eq_true rfl)) dX1_comes_1 ?_
  refine Z.aload_n F 0 rfl dX1_comes_4 ?_
  refine Z.iload_n F 2 rfl dX1_comes_5 ?_
  refine clX1_218 F ⟨Nat.le_of_ble_eq_true rfl, Nat.le_of_ble_eq_true rfl⟩ (zlw4 (Nat.le_of_ble_eq_true rfl)) dX1_comes_6 (fun r6 => ?_)
  refine Z.iload_n F 3 rfl dX1_comes_9 ?_
  refine Z.iload F 4 rfl dX1_comes_10 ?_
  refine Z.iload_n F 1 rfl dX1_comes_12 ?_
  refine Z.jn1 (J := _) (fun p24s3 => [(0, zv h0), (1, .int x1), (2, .int x2), (5, .int x5)]) (fun p24s3 => [.int p24s3, .int x4, .int x3, zv r6]) 24 (fun p24s3 => ?_) (fun j24 hj24 => ?_)
  · refine clX1_295 F ⟨Nat.le_of_ble_eq_true rfl, Nat.le_of_ble_eq_true rfl⟩ (zlw4 (Nat.le_of_ble_eq_true rfl)) dX1_comes_24 ?_
    refine Z.aload_n F 0 rfl dX1_comes_27 ?_
    refine gfX1_59 F dX1_comes_28 (fun g28 => ?_)
    refine Z.iload_n F 1 rfl dX1_comes_31 ?_
    refine Z.iload_n F 2 rfl dX1_comes_32 ?_
    refine Z.iload F 3 rfl dX1_comes_33 ?_
    refine clX1_298 F ⟨Nat.le_of_ble_eq_true rfl, Nat.le_of_ble_eq_true rfl⟩ (zlw4 (Nat.le_of_ble_eq_true rfl)) dX1_comes_35 ?_
    exact Z.vret F dX1_comes_38
  refine Z.if_ne F (tgt := 21) dX1_comes_13 (by decide) ?_ ?_
  · refine Z.iload F 5 rfl dX1_comes_21 ?_
    refine Z.ineg F dX1_comes_23 ?_
    exact Z.sub [0, 1, 2, 5] rfl (hj24 (-x5))
  refine Z.iload F 5 rfl dX1_comes_16 ?_
  refine Z.goto F (tgt := 24) dX1_comes_18 (by decide) ?_
  exact Z.sub [0, 1, 2, 5] rfl (hj24 x5)
theorem clX1_301 (F : ZF p R s m args meth c cc nL "SafeBuckets" nm ret D A al sz mc ms fr lo) {h0 : Nat} {x1 : Int32} {x2 : Int32} {x3 : Int32} {x4 : Int32} {x5 : Int32} {K : Int32 → ZM → Prop} (hR : 3 + 1 ≤ fr ∧ 8 + (7 + 11) + 69 ≤ lo) (hst4 : zlw st) (hdg : decode cc pc = .ok (.invokevirtual 301, 3)) (k : ∀ r, ZW p l e R s m args below meth c Q nL D A al n0 (K r) (pc + 3) L (.int r :: st)) : ZW p l e R s m args below meth c Q nL D A al n0 (zat 1 h0 (f_X1_stops h0 x1 x2 x3 x4 x5 K)) pc L (.int x5 :: .int x4 :: .int x3 :: .int x2 :: .int x1 :: zv h0 :: st) :=
  Z.ri0 _ (fun μ H locs cells slots ls hI h hP => Z.V0 F hI (n := 5) (ci := 0) rfl (by decide) hP.1 hP.2 (k_X1_stops l h0 x1 x2 x3 x4 x5 D A (zX μ, zC μ, zS μ) H.size K μ) q1002 q1004 qs23 q116 q1005 (by decide +kernel) rfl h.1 hst4 hR rfl hdg) k
theorem clX1_308 (F : ZF p R s m args meth c cc nL "SafeBuckets" nm ret D A true sz mc ms fr lo) {h0 : Nat} {x1 : Int32} {x2 : Int32} {x3 : Int32} {x4 : Int32} {x5 : Int32} {K : ZM → Prop} (hR : 8 + 1 ≤ fr ∧ 8 + (6 + 11) + 170 ≤ lo) (hst4 : zlw st) (hdg : decode cc pc = .ok (.invokevirtual 308, 3)) (k : ZW p l e R s m args below meth c Q nL D A true n0 K (pc + 3) L st) : ZW p l e R s m args below meth c Q nL D A true n0 (zat 1 h0 (zclv 72 1334 (f_X1_comes h0 x1 x2 x3 x4 x5) K)) pc L (.int x5 :: .int x4 :: .int x3 :: .int x2 :: .int x1 :: zv h0 :: st) :=
  Z.rv1 _ (fun μ H locs cells slots ls hI h hP => ⟨hP.2.1, hP.2.2.1, Z.V1 F hI (n := 5) (ci := 0) rfl (by decide) hP.1 hP.2.1 hP.2.2.1 hP.2.2.2 (k_X1_comes l h0 x1 x2 x3 x4 x5 D A (0, 0, 0) 0 (fun μ' => K (zcs μ' (zC μ - 72) (zS μ - 1334))) (zcs μ 72 1334)) q1011 q1013 qs25 q116 q1014 (by decide +kernel) rfl h.1 hst4 hR rfl hdg⟩) k
theorem clX1_305 (F : ZF p R s m args meth c cc nL "SafeBuckets" nm ret D A al sz mc ms fr lo) {h0 : Nat} {x1 : Int32} {K : Int32 → ZM → Prop} (hR : 0 + 1 ≤ fr ∧ 8 + (2 + 11) + 0 ≤ lo) (hst4 : zlw st) (hdg : decode cc pc = .ok (.invokevirtual 305, 3)) (k : ∀ r, ZW p l e R s m args below meth c Q nL D A al n0 (K r) (pc + 3) L (.int r :: st)) : ZW p l e R s m args below meth c Q nL D A al n0 (zat 1 h0 (f_X1_refuse h0 x1 K)) pc L (.int x1 :: zv h0 :: st) :=
  Z.ri0 _ (fun μ H locs cells slots ls hI h hP => Z.V0 F hI (n := 1) (ci := 0) rfl (by decide) hP.1 hP.2 (k_X1_refuse l h0 x1 D A (zX μ, zC μ, zS μ) H.size K μ) q1007 q1009 qs24 q116 q1010 (by decide +kernel) rfl h.1 hst4 hR rfl hdg) k
set_option maxHeartbeats 4000000 in
theorem k_X1_add (l : Launch) (h0 : Nat) (x1 : Int32) (x2 : Int32) (x3 : Int32) (x4 : Int32) : ZCi l yX1_add (ws_ yX1_add cX1_add 6 (some .int)) 9 195 72 1334 true [zv h0, .int x1, .int x2, .int x3, .int x4] (f_X1_add h0 x1 x2 x3 x4) := by
  refine Z.metI (by decide +kernel) (fun h => by cases h) (L0 := [(0, zv h0), (1, .int x1), (2, .int x2), (3, .int x3), (4, .int x4)]) (by first | (rw [zla_v, zla_i, zla_i, zla_i, zla_i, zla_0]; done) | (rw [zla_v, zla_i, zla_i, zla_i, zla_i, zla_0]; rfl)) (by rw [zsl_v, zsl_i, zsl_i, zsl_i, zsl_i, zsl_0]; exact Nat.le_of_ble_eq_true rfl) ?_
  intro p e R s m args below meth c D A n0 sz k F
  have F : ZF p R s m args meth c cX1_add 6 "SafeBuckets" "add" (some .int) D A true sz 72 1334 9 195 := F
  unfold f_X1_add
  refine Z.aload_n F 0 rfl dX1_add_0 ?_
  refine Z.iload_n F 1 rfl dX1_add_1 ?_
  refine Z.iload_n F 2 rfl dX1_add_2 ?_
  refine Z.iload_n F 3 rfl dX1_add_3 ?_
  refine Z.iload F 4 rfl dX1_add_4 ?_
  refine Z.iconst F (v := (1 : Int32)) (by decide) dX1_add_6 ?_
  refine clX1_301 F ⟨Nat.le_of_ble_eq_true rfl, Nat.le_of_ble_eq_true rfl⟩ (zlw4 (Nat.le_of_ble_eq_true rfl)) dX1_add_7 (fun r7 => ?_)
  refine Z.istore F (L0 := [(0, zv h0), (1, .int x1), (2, .int x2), (3, .int x3), (4, .int x4)]) [0, 1, 2, 3, 4] rfl (zkR rfl (zkI rfl (zkI rfl (zkI rfl (zkI rfl zkN))))) (by decide) dX1_add_10 ?_
  refine Z.iload F 0 rfl dX1_add_12 ?_
  refine Z.iconst F (v := (-1 : Int32)) (by decide) dX1_add_14 ?_
  refine Z.icmp_eq F (tgt := 25) dX1_add_15 (by decide) ?_ ?_
  · refine Z.aload_n F 1 rfl dX1_add_25 ?_
    refine Z.iconst F (v := (0 : Int32)) (by decide) dX1_add_26 ?_
    refine Z.iload_n F 2 rfl dX1_add_27 ?_
    refine Z.iload_n F 3 rfl dX1_add_28 ?_
    refine Z.iload_n F 4 rfl dX1_add_29 ?_
    refine Z.iload F 5 rfl dX1_add_30 ?_
    refine clX1_308 F ⟨Nat.le_of_ble_eq_true rfl, Nat.le_of_ble_eq_true rfl⟩ (zlw4 (Nat.le_of_ble_eq_true rfl)) dX1_add_32 ?_
    refine Z.aload_n F 1 rfl dX1_add_35 ?_
    refine Z.iload_n F 2 rfl dX1_add_36 ?_
    refine clX1_218 F ⟨Nat.le_of_ble_eq_true rfl, Nat.le_of_ble_eq_true rfl⟩ (zlw4 (Nat.le_of_ble_eq_true rfl)) dX1_add_37 (fun r37 => ?_)
    refine gfX1_222 F dX1_add_40 (fun g40 => ?_)
    exact Z.iret F dX1_add_43
  refine Z.aload_n F 1 rfl dX1_add_18 ?_
  refine Z.iload F 0 rfl dX1_add_19 ?_
  refine clX1_305 F ⟨Nat.le_of_ble_eq_true rfl, Nat.le_of_ble_eq_true rfl⟩ (zlw4 (Nat.le_of_ble_eq_true rfl)) dX1_add_21 (fun r21 => ?_)
  exact Z.iret F dX1_add_24
set_option maxHeartbeats 4000000 in
theorem k_X1_drop (l : Launch) (h0 : Nat) (x1 : Int32) (x2 : Int32) (x3 : Int32) (x4 : Int32) : ZCi l yX1_drop (ws_ yX1_drop cX1_drop 6 (some .int)) 9 195 72 1334 true [zv h0, .int x1, .int x2, .int x3, .int x4] (f_X1_drop h0 x1 x2 x3 x4) := by
  refine Z.metI (by decide +kernel) (fun h => by cases h) (L0 := [(0, zv h0), (1, .int x1), (2, .int x2), (3, .int x3), (4, .int x4)]) (by first | (rw [zla_v, zla_i, zla_i, zla_i, zla_i, zla_0]; done) | (rw [zla_v, zla_i, zla_i, zla_i, zla_i, zla_0]; rfl)) (by rw [zsl_v, zsl_i, zsl_i, zsl_i, zsl_i, zsl_0]; exact Nat.le_of_ble_eq_true rfl) ?_
  intro p e R s m args below meth c D A n0 sz k F
  have F : ZF p R s m args meth c cX1_drop 6 "SafeBuckets" "drop" (some .int) D A true sz 72 1334 9 195 := F
  unfold f_X1_drop
  refine Z.aload_n F 0 rfl dX1_drop_0 ?_
  refine Z.iload_n F 1 rfl dX1_drop_1 ?_
  refine Z.iload_n F 2 rfl dX1_drop_2 ?_
  refine Z.iload_n F 3 rfl dX1_drop_3 ?_
  refine Z.iload F 4 rfl dX1_drop_4 ?_
  refine Z.iconst F (v := (0 : Int32)) (by decide) dX1_drop_6 ?_
  refine clX1_301 F ⟨Nat.le_of_ble_eq_true rfl, Nat.le_of_ble_eq_true rfl⟩ (zlw4 (Nat.le_of_ble_eq_true rfl)) dX1_drop_7 (fun r7 => ?_)
  refine Z.istore F (L0 := [(0, zv h0), (1, .int x1), (2, .int x2), (3, .int x3), (4, .int x4)]) [0, 1, 2, 3, 4] rfl (zkR rfl (zkI rfl (zkI rfl (zkI rfl (zkI rfl zkN))))) (by decide) dX1_drop_10 ?_
  refine Z.iload F 0 rfl dX1_drop_12 ?_
  refine Z.iconst F (v := (-1 : Int32)) (by decide) dX1_drop_14 ?_
  refine Z.icmp_eq F (tgt := 25) dX1_drop_15 (by decide) ?_ ?_
  · refine Z.aload_n F 1 rfl dX1_drop_25 ?_
    refine Z.iconst F (v := (1 : Int32)) (by decide) dX1_drop_26 ?_
    refine Z.iload_n F 2 rfl dX1_drop_27 ?_
    refine Z.iload_n F 3 rfl dX1_drop_28 ?_
    refine Z.iload_n F 4 rfl dX1_drop_29 ?_
    refine Z.iload F 5 rfl dX1_drop_30 ?_
    refine clX1_308 F ⟨Nat.le_of_ble_eq_true rfl, Nat.le_of_ble_eq_true rfl⟩ (zlw4 (Nat.le_of_ble_eq_true rfl)) dX1_drop_32 ?_
    refine Z.aload_n F 1 rfl dX1_drop_35 ?_
    refine Z.iload_n F 2 rfl dX1_drop_36 ?_
    refine clX1_218 F ⟨Nat.le_of_ble_eq_true rfl, Nat.le_of_ble_eq_true rfl⟩ (zlw4 (Nat.le_of_ble_eq_true rfl)) dX1_drop_37 (fun r37 => ?_)
    refine gfX1_222 F dX1_drop_40 (fun g40 => ?_)
    exact Z.iret F dX1_drop_43
  refine Z.aload_n F 1 rfl dX1_drop_18 ?_
  refine Z.iload F 0 rfl dX1_drop_19 ?_
  refine clX1_305 F ⟨Nat.le_of_ble_eq_true rfl, Nat.le_of_ble_eq_true rfl⟩ (zlw4 (Nat.le_of_ble_eq_true rfl)) dX1_drop_21 (fun r21 => ?_)
  exact Z.iret F dX1_drop_24
set_option maxHeartbeats 4000000 in
theorem k_X1_move (l : Launch) (h0 : Nat) (x1 : Int32) (x2 : Int32) (x3 : Int32) (x4 : Int32) (x5 : Int32) : ZCi l yX1_move (ws_ yX1_move cX1_move 7 (some .int)) 8 170 72 1334 true [zv h0, .int x1, .int x2, .int x3, .int x4, .int x5] (f_X1_move h0 x1 x2 x3 x4 x5) := by
  refine Z.metI (by decide +kernel) (fun h => by cases h) (L0 := [(0, zv h0), (1, .int x1), (2, .int x2), (3, .int x3), (4, .int x4), (5, .int x5)]) (by first | (rw [zla_v, zla_i, zla_i, zla_i, zla_i, zla_i, zla_0]; done) | (rw [zla_v, zla_i, zla_i, zla_i, zla_i, zla_i, zla_0]; rfl)) (by rw [zsl_v, zsl_i, zsl_i, zsl_i, zsl_i, zsl_i, zsl_0]; exact Nat.le_of_ble_eq_true rfl) ?_
  intro p e R s m args below meth c D A n0 sz k F
  have F : ZF p R s m args meth c cX1_move 7 "SafeBuckets" "move" (some .int) D A true sz 72 1334 8 170 := F
  unfold f_X1_move
  refine Z.aload_n F 0 rfl dX1_move_0 ?_
  refine Z.iload_n F 1 rfl dX1_move_1 ?_
  refine Z.iload_n F 2 rfl dX1_move_2 ?_
  refine Z.iload_n F 3 rfl dX1_move_3 ?_
  refine clX1_231 F ⟨Nat.le_of_ble_eq_true rfl, Nat.le_of_ble_eq_true rfl⟩ (zlw4 (Nat.le_of_ble_eq_true rfl)) dX1_move_4 (fun r4 => ?_)
  refine Z.jn0 (J := _) ([(0, zv h0)]) ([]) 22 (?_) (fun j22 hj22 => ?_)
  · refine Z.aload_n F 0 rfl dX1_move_22 ?_
    refine Z.iconst F (v := (0 : Int32)) (by decide) dX1_move_23 ?_
    refine clX1_305 F ⟨Nat.le_of_ble_eq_true rfl, Nat.le_of_ble_eq_true rfl⟩ (zlw4 (Nat.le_of_ble_eq_true rfl)) dX1_move_24 (fun r24 => ?_)
    exact Z.iret F dX1_move_27
  refine Z.if_eq F (tgt := 22) dX1_move_7 (by decide) ?_ ?_
  · exact Z.sub [0] rfl (hj22)
  refine Z.aload_n F 0 rfl dX1_move_10 ?_
  refine Z.iload_n F 1 rfl dX1_move_11 ?_
  refine Z.iload F 4 rfl dX1_move_12 ?_
  refine Z.iload F 5 rfl dX1_move_14 ?_
  refine clX1_231 F ⟨Nat.le_of_ble_eq_true rfl, Nat.le_of_ble_eq_true rfl⟩ (zlw4 (Nat.le_of_ble_eq_true rfl)) dX1_move_16 (fun r16 => ?_)
  refine Z.if_ne F (tgt := 28) dX1_move_19 (by decide) ?_ ?_
  · refine Z.iload_n F 2 rfl dX1_move_28 ?_
    refine Z.iload F 4 rfl dX1_move_29 ?_
    refine Z.jn0 (J := _) ([(0, zv h0), (1, .int x1), (2, .int x2), (3, .int x3), (4, .int x4), (5, .int x5)]) ([]) 46 (?_) (fun j46 hj46 => ?_)
    · refine Z.aload_n F 0 rfl dX1_move_46 ?_
      refine Z.iload_n F 1 rfl dX1_move_47 ?_
      refine clX1_218 F ⟨Nat.le_of_ble_eq_true rfl, Nat.le_of_ble_eq_true rfl⟩ (zlw4 (Nat.le_of_ble_eq_true rfl)) dX1_move_48 (fun r48 => ?_)
      refine Z.astore F (L0 := [(0, zv h0), (1, .int x1), (2, .int x2), (3, .int x3), (4, .int x4), (5, .int x5)]) [0, 1, 2, 3, 4, 5] rfl (zkR rfl (zkI rfl (zkI rfl (zkI rfl (zkI rfl (zkI rfl zkN)))))) (by decide) dX1_move_51 ?_
      refine Z.aload F 0 rfl dX1_move_53 ?_
      refine Z.iload_n F 3 rfl dX1_move_55 ?_
      refine Z.iload_n F 4 rfl dX1_move_56 ?_
      refine clX1_235 F ⟨Nat.le_of_ble_eq_true rfl, Nat.le_of_ble_eq_true rfl⟩ (zlw4 (Nat.le_of_ble_eq_true rfl)) dX1_move_57 (fun r57 => ?_)
      refine Z.if_ne F (tgt := 69) dX1_move_60 (by decide) ?_ ?_
      · refine Z.aload_n F 1 rfl dX1_move_69 ?_
        refine clX1_292 F ⟨Nat.le_of_ble_eq_true rfl, Nat.le_of_ble_eq_true rfl⟩ (zlw4 (Nat.le_of_ble_eq_true rfl)) dX1_move_70 ?_
        refine Z.aload F 0 rfl dX1_move_73 ?_
        refine Z.iload_n F 3 rfl dX1_move_75 ?_
        refine Z.iload_n F 4 rfl dX1_move_76 ?_
        refine Z.iconst F (v := (-1 : Int32)) (by decide) dX1_move_77 ?_
        refine clX1_295 F ⟨Nat.le_of_ble_eq_true rfl, Nat.le_of_ble_eq_true rfl⟩ (zlw4 (Nat.le_of_ble_eq_true rfl)) dX1_move_78 ?_
        refine Z.aload F 0 rfl dX1_move_81 ?_
        refine Z.iload F 5 rfl dX1_move_83 ?_
        refine Z.iload F 6 rfl dX1_move_85 ?_
        refine Z.iconst F (v := (1 : Int32)) (by decide) dX1_move_87 ?_
        refine clX1_295 F ⟨Nat.le_of_ble_eq_true rfl, Nat.le_of_ble_eq_true rfl⟩ (zlw4 (Nat.le_of_ble_eq_true rfl)) dX1_move_88 ?_
        refine Z.aload_n F 1 rfl dX1_move_91 ?_
        refine gfX1_59 F dX1_move_92 (fun g92 => ?_)
        refine Z.iconst F (v := (2 : Int32)) (by decide) dX1_move_95 ?_
        refine Z.iload_n F 2 rfl dX1_move_96 ?_
        refine Z.iconst F (v := (1 : Int32)) (by decide) dX1_move_97 ?_
        refine clX1_298 F ⟨Nat.le_of_ble_eq_true rfl, Nat.le_of_ble_eq_true rfl⟩ (zlw4 (Nat.le_of_ble_eq_true rfl)) dX1_move_98 ?_
        refine Z.aload F 0 rfl dX1_move_101 ?_
        refine Z.iload F 5 rfl dX1_move_103 ?_
        refine Z.iload F 6 rfl dX1_move_105 ?_
        refine clX1_235 F ⟨Nat.le_of_ble_eq_true rfl, Nat.le_of_ble_eq_true rfl⟩ (zlw4 (Nat.le_of_ble_eq_true rfl)) dX1_move_107 (fun r107 => ?_)
        exact Z.iret F dX1_move_110
      refine Z.aload_n F 1 rfl dX1_move_63 ?_
      refine Z.iconst F (v := (3 : Int32)) (by decide) dX1_move_64 ?_
      refine clX1_305 F ⟨Nat.le_of_ble_eq_true rfl, Nat.le_of_ble_eq_true rfl⟩ (zlw4 (Nat.le_of_ble_eq_true rfl)) dX1_move_65 (fun r65 => ?_)
      exact Z.iret F dX1_move_68
    refine Z.icmp_ne F (tgt := 46) dX1_move_31 (by decide) ?_ ?_
    · exact Z.sub [0, 1, 2, 3, 4, 5] rfl (hj46)
    refine Z.iload_n F 3 rfl dX1_move_34 ?_
    refine Z.iload F 5 rfl dX1_move_35 ?_
    refine Z.icmp_ne F (tgt := 46) dX1_move_37 (by decide) ?_ ?_
    · exact Z.sub [0, 1, 2, 3, 4, 5] rfl (hj46)
    refine Z.aload_n F 0 rfl dX1_move_40 ?_
    refine Z.iconst F (v := (2 : Int32)) (by decide) dX1_move_41 ?_
    refine clX1_305 F ⟨Nat.le_of_ble_eq_true rfl, Nat.le_of_ble_eq_true rfl⟩ (zlw4 (Nat.le_of_ble_eq_true rfl)) dX1_move_42 (fun r42 => ?_)
    exact Z.iret F dX1_move_45
  exact Z.sub [0] rfl (hj22)
theorem clX1_311 (F : ZF p R s m args meth c cc nL "SafeBuckets" nm ret D A al sz mc ms fr lo) {h0 : Nat} {x1 : Int32} {K : ZM → Prop} (hR : 5 + 1 ≤ fr ∧ 8 + (8 + 11) + 117 ≤ lo) (hst4 : zlw st) (hdg : decode cc pc = .ok (.invokevirtual 311, 3)) (k : ZW p l e R s m args below meth c Q nL D A al n0 K (pc + 3) L st) : ZW p l e R s m args below meth c Q nL D A al n0 (zat 3 h0 (f_X3_builds h0 x1 K)) pc L (.int x1 :: zv h0 :: st) :=
  Z.rv0 _ (fun μ H locs cells slots ls hI h hP => Z.V0 F hI (n := 1) (ci := 2) rfl (by decide) hP.1 hP.2 (k_X3_builds l h0 x1 D A (zX μ, zC μ, zS μ) H.size K μ) q1086 q880 q881 q118 q882 (by decide +kernel) rfl h.1 hst4 hR rfl hdg) k
set_option maxHeartbeats 4000000 in
theorem k_X1_buildsNow (l : Launch) (h0 : Nat) (x1 : Int32) (x2 : Int32) : ZCv l yX1_buildsNow (ws_ yX1_buildsNow cX1_buildsNow 3 none) 8 163 72 1334 true [zv h0, .int x1, .int x2] (f_X1_buildsNow h0 x1 x2) := by
  refine Z.metV (by decide +kernel) (fun h => by cases h) (L0 := [(0, zv h0), (1, .int x1), (2, .int x2)]) (by first | (rw [zla_v, zla_i, zla_i, zla_0]; done) | (rw [zla_v, zla_i, zla_i, zla_0]; rfl)) (by rw [zsl_v, zsl_i, zsl_i, zsl_0]; exact Nat.le_of_ble_eq_true rfl) ?_
  intro p e R s m args below meth c D A n0 sz k F
  have F : ZF p R s m args meth c cX1_buildsNow 3 "SafeBuckets" "buildsNow" none D A true sz 72 1334 8 163 := F
  unfold f_X1_buildsNow
  refine Z.aload_n F 0 rfl dX1_buildsNow_0 ?_
  refine clX1_292 F ⟨Nat.le_of_ble_eq_true rfl, Nat.le_of_ble_eq_true rfl⟩ (zlw4 (Nat.le_of_ble_eq_true rfl)) dX1_buildsNow_1 ?_
  refine Z.aload_n F 0 rfl dX1_buildsNow_4 ?_
  refine Z.iload_n F 1 rfl dX1_buildsNow_5 ?_
  refine clX1_218 F ⟨Nat.le_of_ble_eq_true rfl, Nat.le_of_ble_eq_true rfl⟩ (zlw4 (Nat.le_of_ble_eq_true rfl)) dX1_buildsNow_6 (fun r6 => ?_)
  refine Z.iload_n F 2 rfl dX1_buildsNow_9 ?_
  refine clX1_311 F ⟨Nat.le_of_ble_eq_true rfl, Nat.le_of_ble_eq_true rfl⟩ (zlw4 (Nat.le_of_ble_eq_true rfl)) dX1_buildsNow_10 ?_
  refine Z.aload_n F 0 rfl dX1_buildsNow_13 ?_
  refine gfX1_59 F dX1_buildsNow_14 (fun g14 => ?_)
  refine Z.iconst F (v := (3 : Int32)) (by decide) dX1_buildsNow_17 ?_
  refine Z.iload_n F 1 rfl dX1_buildsNow_18 ?_
  refine Z.iload_n F 2 rfl dX1_buildsNow_19 ?_
  refine clX1_298 F ⟨Nat.le_of_ble_eq_true rfl, Nat.le_of_ble_eq_true rfl⟩ (zlw4 (Nat.le_of_ble_eq_true rfl)) dX1_buildsNow_20 ?_
  exact Z.vret F dX1_buildsNow_23
theorem clX1_314 (F : ZF p R s m args meth c cc nL "SafeBuckets" nm ret D A true sz mc ms fr lo) {h0 : Nat} {x1 : Int32} {x2 : Int32} {K : ZM → Prop} (hR : 8 + 1 ≤ fr ∧ 8 + (3 + 11) + 163 ≤ lo) (hst4 : zlw st) (hdg : decode cc pc = .ok (.invokevirtual 314, 3)) (k : ZW p l e R s m args below meth c Q nL D A true n0 K (pc + 3) L st) : ZW p l e R s m args below meth c Q nL D A true n0 (zat 1 h0 (zclv 72 1334 (f_X1_buildsNow h0 x1 x2) K)) pc L (.int x2 :: .int x1 :: zv h0 :: st) :=
  Z.rv1 _ (fun μ H locs cells slots ls hI h hP => ⟨hP.2.1, hP.2.2.1, Z.V1 F hI (n := 2) (ci := 0) rfl (by decide) hP.1 hP.2.1 hP.2.2.1 hP.2.2.2 (k_X1_buildsNow l h0 x1 x2 D A (0, 0, 0) 0 (fun μ' => K (zcs μ' (zC μ - 72) (zS μ - 1334))) (zcs μ 72 1334)) q1082 q1084 qs27 q116 q1085 (by decide +kernel) rfl h.1 hst4 hR rfl hdg⟩) k
set_option maxHeartbeats 4000000 in
theorem k_X1_build (l : Launch) (h0 : Nat) (x1 : Int32) (x2 : Int32) : ZCi l yX1_build (ws_ yX1_build cX1_build 3 (some .int)) 9 185 72 1334 true [zv h0, .int x1, .int x2] (f_X1_build h0 x1 x2) := by
  refine Z.metI (by decide +kernel) (fun h => by cases h) (L0 := [(0, zv h0), (1, .int x1), (2, .int x2)]) (by first | (rw [zla_v, zla_i, zla_i, zla_0]; done) | (rw [zla_v, zla_i, zla_i, zla_0]; rfl)) (by rw [zsl_v, zsl_i, zsl_i, zsl_0]; exact Nat.le_of_ble_eq_true rfl) ?_
  intro p e R s m args below meth c D A n0 sz k F
  have F : ZF p R s m args meth c cX1_build 3 "SafeBuckets" "build" (some .int) D A true sz 72 1334 9 185 := F
  unfold f_X1_build
  refine Z.aload_n F 0 rfl dX1_build_0 ?_
  refine Z.iload_n F 1 rfl dX1_build_1 ?_
  refine Z.iload_n F 2 rfl dX1_build_2 ?_
  refine clX1_238 F ⟨Nat.le_of_ble_eq_true rfl, Nat.le_of_ble_eq_true rfl⟩ (zlw4 (Nat.le_of_ble_eq_true rfl)) dX1_build_3 (fun r3 => ?_)
  refine Z.if_ne F (tgt := 15) dX1_build_6 (by decide) ?_ ?_
  · refine Z.aload_n F 0 rfl dX1_build_15 ?_
    refine Z.iload_n F 1 rfl dX1_build_16 ?_
    refine clX1_218 F ⟨Nat.le_of_ble_eq_true rfl, Nat.le_of_ble_eq_true rfl⟩ (zlw4 (Nat.le_of_ble_eq_true rfl)) dX1_build_17 (fun r17 => ?_)
    refine gfX1_242 F dX1_build_20 (fun g20 => ?_)
    refine Z.iload_n F 2 rfl dX1_build_23 ?_
    refine Z.aald F (t := 7) (by decide) rfl rfl dX1_build_24 (fun g24 => ?_)
    refine gfX1_262 F dX1_build_25 (fun g25 => ?_)
    refine Z.if_ne F (tgt := 37) dX1_build_28 (by decide) ?_ ?_
    · refine Z.aload_n F 0 rfl dX1_build_37 ?_
      refine Z.iload_n F 1 rfl dX1_build_38 ?_
      refine Z.iload_n F 2 rfl dX1_build_39 ?_
      refine clX1_314 F ⟨Nat.le_of_ble_eq_true rfl, Nat.le_of_ble_eq_true rfl⟩ (zlw4 (Nat.le_of_ble_eq_true rfl)) dX1_build_40 ?_
      refine Z.aload_n F 0 rfl dX1_build_43 ?_
      refine Z.iload_n F 1 rfl dX1_build_44 ?_
      refine clX1_218 F ⟨Nat.le_of_ble_eq_true rfl, Nat.le_of_ble_eq_true rfl⟩ (zlw4 (Nat.le_of_ble_eq_true rfl)) dX1_build_45 (fun r45 => ?_)
      refine gfX1_242 F dX1_build_48 (fun g48 => ?_)
      refine Z.iload_n F 2 rfl dX1_build_51 ?_
      refine Z.aald F (t := 7) (by decide) rfl rfl dX1_build_52 (fun g52 => ?_)
      refine gfX1_246 F dX1_build_53 (fun g53 => ?_)
      exact Z.iret F dX1_build_56
    refine Z.aload_n F 0 rfl dX1_build_31 ?_
    refine Z.iconst F (v := (2 : Int32)) (by decide) dX1_build_32 ?_
    refine clX1_305 F ⟨Nat.le_of_ble_eq_true rfl, Nat.le_of_ble_eq_true rfl⟩ (zlw4 (Nat.le_of_ble_eq_true rfl)) dX1_build_33 (fun r33 => ?_)
    exact Z.iret F dX1_build_36
  refine Z.aload_n F 0 rfl dX1_build_9 ?_
  refine Z.iconst F (v := (0 : Int32)) (by decide) dX1_build_10 ?_
  refine clX1_305 F ⟨Nat.le_of_ble_eq_true rfl, Nat.le_of_ble_eq_true rfl⟩ (zlw4 (Nat.le_of_ble_eq_true rfl)) dX1_build_11 (fun r11 => ?_)
  exact Z.iret F dX1_build_14
theorem pfX1_204 (F : ZF p R s m args meth c cc nL "SafeBuckets" nm ret D A al sz mc ms fr lo) {z : Nat} {u : Int32} (hdg : decode cc pc = .ok (.putfield 204, 3)) (k : ZW p l e R s m args below meth c Q nL D A al n0 P (pc + 3) L st) : ZW p l e R s m args below meth c Q nL D A al n0 (zpI 2 z 2 u P) pc L (.int u :: zv z :: st) :=
  Z.putIN F (ref := "SafeBuckets$State") in_X2 (ci := 1) rfl (by decide) (kf := 2) (by decide) (host := "SafeBuckets") (List.mem_of_getElem? (i := 8) rfl) (fun _ h => h) tyX2 tyX2_ok nmX2 rfl rfl rfl hdg k
set_option maxHeartbeats 4000000 in
theorem k_X1_budget (l : Launch) (h0 : Nat) (x1 : Int32) : ZCi l yX1_budget (ws_ yX1_budget cX1_budget 3 (some .int)) 8 163 72 1334 true [zv h0, .int x1] (f_X1_budget h0 x1) := by
  refine Z.metI (by decide +kernel) (fun h => by cases h) (L0 := [(0, zv h0), (1, .int x1)]) (by first | (rw [zla_v, zla_i, zla_0]; done) | (rw [zla_v, zla_i, zla_0]; rfl)) (by rw [zsl_v, zsl_i, zsl_0]; exact Nat.le_of_ble_eq_true rfl) ?_
  intro p e R s m args below meth c D A n0 sz k F
  have F : ZF p R s m args meth c cX1_budget 3 "SafeBuckets" "budget" (some .int) D A true sz 72 1334 8 163 := F
  unfold f_X1_budget
  refine Z.aload_n F 0 rfl dX1_budget_0 ?_
  refine gfX1_93 F dX1_budget_1 (fun g1 => ?_)
  refine Z.ifnonnull F (tgt := 13) dX1_budget_4 (by decide) ?_ ?_
  · refine Z.iload_n F 1 rfl dX1_budget_13 ?_
    refine Z.i2l F dX1_budget_14 ?_
    refine Z.lconst F (w := (1 : Int64)) (by decide) dX1_budget_15 ?_
    refine Z.ldc2 F q1091 dX1_budget_16 ?_
    refine clX1_97 F ⟨Nat.le_of_ble_eq_true rfl, Nat.le_of_ble_eq_true rfl⟩ (zlw4 (Nat.le_of_ble_eq_true rfl)) dX1_budget_19 (fun r19 => ?_)
    refine Z.if_ne F (tgt := 31) dX1_budget_22 (by decide) ?_ ?_
    · refine Z.iload_n F 1 rfl dX1_budget_31 ?_
      refine Z.aload_n F 0 rfl dX1_budget_32 ?_
      refine gfX1_59 F dX1_budget_33 (fun g33 => ?_)
      refine gfX1_204 F dX1_budget_36 (fun g36 => ?_)
      refine Z.icmp_ne F (tgt := 48) dX1_budget_39 (by decide) ?_ ?_
      · refine Z.aload_n F 0 rfl dX1_budget_48 ?_
        refine gfX1_59 F dX1_budget_49 (fun g49 => ?_)
        refine gfX1_204 F dX1_budget_52 (fun g52 => ?_)
        refine Z.istore_n F (L0 := [(0, zv h0), (1, .int x1)]) [0, 1] rfl (zkR rfl (zkI rfl zkN)) (by decide) dX1_budget_55 ?_
        refine Z.aload_n F 1 rfl dX1_budget_56 ?_
        refine clX1_292 F ⟨Nat.le_of_ble_eq_true rfl, Nat.le_of_ble_eq_true rfl⟩ (zlw4 (Nat.le_of_ble_eq_true rfl)) dX1_budget_57 ?_
        refine Z.aload_n F 1 rfl dX1_budget_60 ?_
        refine gfX1_59 F dX1_budget_61 (fun g61 => ?_)
        refine Z.iload_n F 2 rfl dX1_budget_64 ?_
        refine pfX1_204 F dX1_budget_65 ?_
        refine Z.aload_n F 1 rfl dX1_budget_68 ?_
        refine gfX1_59 F dX1_budget_69 (fun g69 => ?_)
        refine Z.iconst F (v := (4 : Int32)) (by decide) dX1_budget_72 ?_
        refine Z.iconst F (v := (-1 : Int32)) (by decide) dX1_budget_73 ?_
        refine Z.iload_n F 2 rfl dX1_budget_74 ?_
        refine clX1_298 F ⟨Nat.le_of_ble_eq_true rfl, Nat.le_of_ble_eq_true rfl⟩ (zlw4 (Nat.le_of_ble_eq_true rfl)) dX1_budget_75 ?_
        refine Z.iload_n F 0 rfl dX1_budget_78 ?_
        exact Z.iret F dX1_budget_79
      refine Z.aload_n F 0 rfl dX1_budget_42 ?_
      refine Z.iconst F (v := (2 : Int32)) (by decide) dX1_budget_43 ?_
      refine clX1_305 F ⟨Nat.le_of_ble_eq_true rfl, Nat.le_of_ble_eq_true rfl⟩ (zlw4 (Nat.le_of_ble_eq_true rfl)) dX1_budget_44 (fun r44 => ?_)
      exact Z.iret F dX1_budget_47
    refine Z.aload_n F 0 rfl dX1_budget_25 ?_
    refine Z.iconst F (v := (1 : Int32)) (by decide) dX1_budget_26 ?_
    refine clX1_305 F ⟨Nat.le_of_ble_eq_true rfl, Nat.le_of_ble_eq_true rfl⟩ (zlw4 (Nat.le_of_ble_eq_true rfl)) dX1_budget_27 (fun r27 => ?_)
    exact Z.iret F dX1_budget_30
  refine Z.aload_n F 0 rfl dX1_budget_7 ?_
  refine Z.iconst F (v := (0 : Int32)) (by decide) dX1_budget_8 ?_
  refine clX1_305 F ⟨Nat.le_of_ble_eq_true rfl, Nat.le_of_ble_eq_true rfl⟩ (zlw4 (Nat.le_of_ble_eq_true rfl)) dX1_budget_9 (fun r9 => ?_)
  exact Z.iret F dX1_budget_12
theorem gfX1_320 (F : ZF p R s m args meth c cc nL "SafeBuckets" nm ret D A al sz mc ms fr lo) {z : Nat} {K : Int64 → ZM → Prop} (hdg : decode cc pc = .ok (.getfield 320, 3)) (k : ∀ u, ZW p l e R s m args below meth c Q nL D A al n0 (K u) (pc + 3) L (.long u :: st)) : ZW p l e R s m args below meth c Q nL D A al n0 (zgL 1 z 21 K) pc L (zv z :: st) :=
  Z.getL F (ref := "SafeBuckets") in_X1 (ci := 0) rfl (by decide) (kf := 21) (by decide) q410 (fun _ h => h) rfl hdg k
theorem pfX1_320 (F : ZF p R s m args meth c cc nL "SafeBuckets" nm ret D A al sz mc ms fr lo) {z : Nat} {u : Int64} (hdg : decode cc pc = .ok (.putfield 320, 3)) (k : ZW p l e R s m args below meth c Q nL D A al n0 P (pc + 3) L st) : ZW p l e R s m args below meth c Q nL D A al n0 (zpL 1 z 21 u P) pc L (.long u :: zv z :: st) :=
  Z.putL F (ref := "SafeBuckets") in_X1 (ci := 0) rfl (by decide) (kf := 21) (by decide) q410 (fun _ h => h) tyX1 tyX1_ok nmX1 rfl rfl rfl hdg k
set_option maxHeartbeats 4000000 in
theorem k_X1_draw (l : Launch) (h0 : Nat) (x1 : Int32) : ZCi l yX1_draw (ws_ yX1_draw cX1_draw 2 (some .int)) 0 0 0 0 false [zv h0, .int x1] (f_X1_draw h0 x1) := by
  refine Z.metI (by decide +kernel) (fun h => ⟨rfl, rfl⟩) (L0 := [(0, zv h0), (1, .int x1)]) (by first | (rw [zla_v, zla_i, zla_0]; done) | (rw [zla_v, zla_i, zla_0]; rfl)) (by rw [zsl_v, zsl_i, zsl_0]; exact Nat.le_of_ble_eq_true rfl) ?_
  intro p e R s m args below meth c D A n0 sz k F
  have F : ZF p R s m args meth c cX1_draw 2 "SafeBuckets" "draw" (some .int) D A false sz 0 0 0 0 := F
  unfold f_X1_draw
  refine Z.aload_n F 0 rfl dX1_draw_0 ?_
  refine Z.aload_n F 0 rfl dX1_draw_1 ?_
  refine gfX1_320 F dX1_draw_2 (fun g2 => ?_)
  refine Z.ldc2 F q1105 dX1_draw_5 ?_
  refine Z.lmul F dX1_draw_8 ?_
  refine Z.ldc2 F q1106 dX1_draw_9 ?_
  refine Z.ladd F dX1_draw_12 ?_
  refine pfX1_320 F dX1_draw_13 ?_
  refine Z.aload_n F 0 rfl dX1_draw_16 ?_
  refine gfX1_320 F dX1_draw_17 (fun g17 => ?_)
  refine Z.bipush F (v := (33 : Int32)) (by decide) dX1_draw_20 ?_
  refine Z.lushr F dX1_draw_22 ?_
  refine Z.nmJ (fun v22 => ?_)
  refine Z.iload_n F 1 rfl dX1_draw_23 ?_
  refine Z.i2l F dX1_draw_24 ?_
  refine Z.lrem F dX1_draw_25 ?_
  refine Z.l2i F dX1_draw_26 ?_
  exact Z.iret F dX1_draw_27
set_option maxHeartbeats 4000000 in
theorem k_X1_valueOf (l : Launch) (x0 : Int32) (x1 : Int32) : ZCi l yX1_valueOf (ws_ yX1_valueOf cX1_valueOf 2 (some .int)) 0 0 0 0 false [.int x0, .int x1] (f_X1_valueOf x0 x1) := by
  refine Z.metI (by decide +kernel) (fun h => ⟨rfl, rfl⟩) (L0 := [(0, .int x0), (1, .int x1)]) (by first | (rw [zla_i, zla_i, zla_0]; done) | (rw [zla_i, zla_i, zla_0]; rfl)) (by rw [zsl_i, zsl_i, zsl_0]; exact Nat.le_of_ble_eq_true rfl) ?_
  intro p e R s m args below meth c D A n0 sz k F
  have F : ZF p R s m args meth c cX1_valueOf 2 "SafeBuckets" "valueOf" (some .int) D A false sz 0 0 0 0 := F
  unfold f_X1_valueOf
  refine Z.iload_n F 0 rfl dX1_valueOf_0 ?_
  refine Z.iload_n F 1 rfl dX1_valueOf_1 ?_
  refine Z.jn1 (J := _) (fun p10s0 => []) (fun p10s0 => [.int p10s0]) 10 (fun p10s0 => ?_) (fun j10 hj10 => ?_)
  · exact Z.iret F dX1_valueOf_10
  refine Z.icmp_ne F (tgt := 9) dX1_valueOf_2 (by decide) ?_ ?_
  · refine Z.iload_n F 0 rfl dX1_valueOf_9 ?_
    exact Z.sub [] rfl (hj10 x0)
  refine Z.iconst F (v := (-1 : Int32)) (by decide) dX1_valueOf_5 ?_
  refine Z.goto F (tgt := 10) dX1_valueOf_6 (by decide) ?_
  exact Z.sub [] rfl (hj10 (-1 : Int32))
theorem clX1_328 (F : ZF p R s m args meth c cc nL "SafeBuckets" nm ret D A al sz mc ms fr lo) {h0 : Nat} {x1 : Int32} {K : Int32 → ZM → Prop} (hR : 0 + 1 ≤ fr ∧ 8 + (2 + 11) + 0 ≤ lo) (hst4 : zlw st) (hdg : decode cc pc = .ok (.invokevirtual 328, 3)) (k : ∀ r, ZW p l e R s m args below meth c Q nL D A al n0 (K r) (pc + 3) L (.int r :: st)) : ZW p l e R s m args below meth c Q nL D A al n0 (zat 1 h0 (f_X1_draw h0 x1 K)) pc L (.int x1 :: zv h0 :: st) :=
  Z.ri0 _ (fun μ H locs cells slots ls hI h hP => Z.V0 F hI (n := 1) (ci := 0) rfl (by decide) hP.1 hP.2 (k_X1_draw l h0 x1 D A (zX μ, zC μ, zS μ) H.size K μ) q1101 q1103 qs29 q116 q1104 (by decide +kernel) rfl h.1 hst4 hR rfl hdg) k
theorem clX1_331 (F : ZF p R s m args meth c cc nL "SafeBuckets" nm ret D A al sz mc ms fr lo) {x0 : Int32} {x1 : Int32} {K : Int32 → ZM → Prop} (hR : 0 + 1 ≤ fr ∧ 8 + (2 + 11) + 0 ≤ lo) (hst4 : zlw st) (hdg : decode cc pc = .ok (.invokestatic 331, 3)) (k : ∀ r, ZW p l e R s m args below meth c Q nL D A al n0 (K r) (pc + 3) L (.int r :: st)) : ZW p l e R s m args below meth c Q nL D A al n0 (f_X1_valueOf x0 x1 K) pc L (.int x1 :: .int x0 :: st) :=
  Z.ri0 _ (fun μ H locs cells slots ls hI h hP => Z.S0 F hI (n := 2) hP (k_X1_valueOf l x0 x1 D A (zX μ, zC μ, zS μ) H.size K μ) q1107 q1108 q116 q1109 (by decide +kernel) rfl h.1 hst4 hR rfl hdg) k
set_option maxHeartbeats 4000000 in
theorem k_X1_happens (l : Launch) (h0 : Nat) : ZCv l yX1_happens (ws_ yX1_happens cX1_happens 7 none) 9 195 72 1334 true [zv h0] (f_X1_happens h0) := by
  refine Z.metV (by decide +kernel) (fun h => by cases h) (L0 := [(0, zv h0)]) (by first | (rw [zla_v, zla_0]; done) | (rw [zla_v, zla_0]; rfl)) (by rw [zsl_v, zsl_0]; exact Nat.le_of_ble_eq_true rfl) ?_
  intro p e R s m args below meth c D A n0 sz k F
  have F : ZF p R s m args meth c cX1_happens 7 "SafeBuckets" "happens" none D A true sz 72 1334 9 195 := F
  unfold f_X1_happens
  refine Z.aload_n F 0 rfl dX1_happens_0 ?_
  refine Z.iconst F (v := (4 : Int32)) (by decide) dX1_happens_1 ?_
  refine clX1_328 F ⟨Nat.le_of_ble_eq_true rfl, Nat.le_of_ble_eq_true rfl⟩ (zlw4 (Nat.le_of_ble_eq_true rfl)) dX1_happens_2 (fun r2 => ?_)
  refine Z.istore_n F (L0 := [(0, zv h0)]) [0] rfl (zkR rfl zkN) (by decide) dX1_happens_5 ?_
  refine Z.aload_n F 1 rfl dX1_happens_6 ?_
  refine Z.aload_n F 1 rfl dX1_happens_7 ?_
  refine gfX1_93 F dX1_happens_8 (fun g8 => ?_)
  refine gfX1_139 F dX1_happens_11 (fun g11 => ?_)
  refine clX1_328 F ⟨Nat.le_of_ble_eq_true rfl, Nat.le_of_ble_eq_true rfl⟩ (zlw4 (Nat.le_of_ble_eq_true rfl)) dX1_happens_14 (fun r14 => ?_)
  refine Z.istore_n F (L0 := [(1, .int r2), (0, zv h0)]) [0, 1] rfl (zkI rfl (zkR rfl zkN)) (by decide) dX1_happens_17 ?_
  refine Z.iload_n F 1 rfl dX1_happens_18 ?_
  refine Z.iconst F (v := (3 : Int32)) (by decide) dX1_happens_19 ?_
  refine Z.icmp_ne F (tgt := 52) dX1_happens_20 (by decide) ?_ ?_
  · refine Z.aload_n F 2 rfl dX1_happens_52 ?_
    refine Z.iload_n F 0 rfl dX1_happens_53 ?_
    refine clX1_218 F ⟨Nat.le_of_ble_eq_true rfl, Nat.le_of_ble_eq_true rfl⟩ (zlw4 (Nat.le_of_ble_eq_true rfl)) dX1_happens_54 (fun r54 => ?_)
    refine gfX1_164 F dX1_happens_57 (fun g57 => ?_)
    refine Z.istore_n F (L0 := [(2, .int r14), (1, .int r2), (0, zv h0)]) [0, 1, 2] rfl (zkI rfl (zkI rfl (zkR rfl zkN))) (by decide) dX1_happens_60 ?_
    refine Z.aload_n F 3 rfl dX1_happens_61 ?_
    refine Z.iload_n F 0 rfl dX1_happens_62 ?_
    refine Z.iconst F (v := (1 : Int32)) (by decide) dX1_happens_63 ?_
    refine Z.iadd F dX1_happens_64 ?_
    refine clX1_328 F ⟨Nat.le_of_ble_eq_true rfl, Nat.le_of_ble_eq_true rfl⟩ (zlw4 (Nat.le_of_ble_eq_true rfl)) dX1_happens_65 (fun r65 => ?_)
    refine Z.iload_n F 0 rfl dX1_happens_68 ?_
    refine clX1_331 F ⟨Nat.le_of_ble_eq_true rfl, Nat.le_of_ble_eq_true rfl⟩ (zlw4 (Nat.le_of_ble_eq_true rfl)) dX1_happens_69 (fun r69 => ?_)
    refine Z.istore F (L0 := [(3, .int g57), (2, .int r14), (1, .int r2), (0, zv h0)]) [0, 1, 2, 3] rfl (zkI rfl (zkI rfl (zkI rfl (zkR rfl zkN)))) (by decide) dX1_happens_72 ?_
    refine Z.aload_n F 4 rfl dX1_happens_74 ?_
    refine Z.iload_n F 1 rfl dX1_happens_75 ?_
    refine Z.iconst F (v := (1 : Int32)) (by decide) dX1_happens_76 ?_
    refine Z.iadd F dX1_happens_77 ?_
    refine clX1_328 F ⟨Nat.le_of_ble_eq_true rfl, Nat.le_of_ble_eq_true rfl⟩ (zlw4 (Nat.le_of_ble_eq_true rfl)) dX1_happens_78 (fun r78 => ?_)
    refine Z.iload_n F 1 rfl dX1_happens_81 ?_
    refine clX1_331 F ⟨Nat.le_of_ble_eq_true rfl, Nat.le_of_ble_eq_true rfl⟩ (zlw4 (Nat.le_of_ble_eq_true rfl)) dX1_happens_82 (fun r82 => ?_)
    refine Z.istore F (L0 := [(4, .int r69), (3, .int g57), (2, .int r14), (1, .int r2), (0, zv h0)]) [0, 1, 2, 3, 4] rfl (zkI rfl (zkI rfl (zkI rfl (zkI rfl (zkR rfl zkN))))) (by decide) dX1_happens_85 ?_
    refine Z.aload_n F 5 rfl dX1_happens_87 ?_
    refine Z.iconst F (v := (5 : Int32)) (by decide) dX1_happens_88 ?_
    refine clX1_328 F ⟨Nat.le_of_ble_eq_true rfl, Nat.le_of_ble_eq_true rfl⟩ (zlw4 (Nat.le_of_ble_eq_true rfl)) dX1_happens_89 (fun r89 => ?_)
    refine Z.iconst F (v := (1 : Int32)) (by decide) dX1_happens_92 ?_
    refine Z.iadd F dX1_happens_93 ?_
    refine Z.istore F (L0 := [(5, .int r82), (4, .int r69), (3, .int g57), (2, .int r14), (1, .int r2), (0, zv h0)]) [0, 1, 2, 3, 4, 5] rfl (zkI rfl (zkI rfl (zkI rfl (zkI rfl (zkI rfl (zkR rfl zkN)))))) (by decide) dX1_happens_94 ?_
    refine Z.aload_n F 6 rfl dX1_happens_96 ?_
    refine Z.iload_n F 4 rfl dX1_happens_97 ?_
    refine Z.iload F 2 rfl dX1_happens_98 ?_
    refine Z.iload F 1 rfl dX1_happens_100 ?_
    refine Z.iload F 0 rfl dX1_happens_102 ?_
    refine Z.iload_n F 5 rfl dX1_happens_104 ?_
    refine Z.iconst F (v := (2 : Int32)) (by decide) dX1_happens_105 ?_
    refine Z.jn1 (J := _) (fun p114s5 => [(0, zv h0), (1, .int r2), (2, .int r14), (4, .int r69), (5, .int r82), (6, .int (r89 + (1 : Int32)))]) (fun p114s5 => [.int p114s5, .int (r89 + (1 : Int32)), .int r82, .int r69, .int r14, zv h0]) 114 (fun p114s5 => ?_) (fun j114 hj114 => ?_)
    · refine clX1_301 F ⟨Nat.le_of_ble_eq_true rfl, Nat.le_of_ble_eq_true rfl⟩ (zlw4 (Nat.le_of_ble_eq_true rfl)) dX1_happens_114 (fun r114 => ?_)
      refine Z.iconst F (v := (-1 : Int32)) (by decide) dX1_happens_117 ?_
      refine Z.jn0 (J := _) ([]) ([]) 142 (?_) (fun j142 hj142 => ?_)
      · exact Z.vret F dX1_happens_142
      refine Z.icmp_ne F (tgt := 142) dX1_happens_118 (by decide) ?_ ?_
      · exact Z.sub [] rfl (hj142)
      refine Z.aload_n F 0 rfl dX1_happens_121 ?_
      refine Z.iload_n F 1 rfl dX1_happens_122 ?_
      refine Z.iconst F (v := (2 : Int32)) (by decide) dX1_happens_123 ?_
      refine Z.jn1 (J := _) (fun p132s1 => [(2, .int r14), (4, .int r69), (5, .int r82), (6, .int (r89 + (1 : Int32)))]) (fun p132s1 => [.int p132s1, zv h0]) 132 (fun p132s1 => ?_) (fun j132 hj132 => ?_)
      · refine Z.iload_n F 0 rfl dX1_happens_132 ?_
        refine Z.iload F 1 rfl dX1_happens_133 ?_
        refine Z.iload F 2 rfl dX1_happens_135 ?_
        refine Z.iload F 3 rfl dX1_happens_137 ?_
        refine clX1_308 F ⟨Nat.le_of_ble_eq_true rfl, Nat.le_of_ble_eq_true rfl⟩ (zlw4 (Nat.le_of_ble_eq_true rfl)) dX1_happens_139 ?_
        exact Z.sub [] rfl (hj142)
      refine Z.icmp_ge F (tgt := 131) dX1_happens_124 (by decide) ?_ ?_
      · refine Z.iconst F (v := (1 : Int32)) (by decide) dX1_happens_131 ?_
        exact Z.sub [2, 3, 4, 5] rfl (hj132 (1 : Int32))
      refine Z.iconst F (v := (0 : Int32)) (by decide) dX1_happens_127 ?_
      refine Z.goto F (tgt := 132) dX1_happens_128 (by decide) ?_
      exact Z.sub [2, 3, 4, 5] rfl (hj132 (0 : Int32))
    refine Z.icmp_ge F (tgt := 113) dX1_happens_106 (by decide) ?_ ?_
    · refine Z.iconst F (v := (0 : Int32)) (by decide) dX1_happens_113 ?_
      exact Z.sub [6, 5, 4, 2, 1, 0] rfl (hj114 (0 : Int32))
    refine Z.iconst F (v := (1 : Int32)) (by decide) dX1_happens_109 ?_
    refine Z.goto F (tgt := 114) dX1_happens_110 (by decide) ?_
    exact Z.sub [6, 5, 4, 2, 1, 0] rfl (hj114 (1 : Int32))
  refine Z.aload_n F 2 rfl dX1_happens_23 ?_
  refine Z.iconst F (v := (2 : Int32)) (by decide) dX1_happens_24 ?_
  refine clX1_328 F ⟨Nat.le_of_ble_eq_true rfl, Nat.le_of_ble_eq_true rfl⟩ (zlw4 (Nat.le_of_ble_eq_true rfl)) dX1_happens_25 (fun r25 => ?_)
  refine Z.istore_n F (L0 := [(2, .int r14), (1, .int r2), (0, zv h0)]) [0, 1, 2] rfl (zkI rfl (zkI rfl (zkR rfl zkN))) (by decide) dX1_happens_28 ?_
  refine Z.aload_n F 3 rfl dX1_happens_29 ?_
  refine Z.iload_n F 1 rfl dX1_happens_30 ?_
  refine clX1_218 F ⟨Nat.le_of_ble_eq_true rfl, Nat.le_of_ble_eq_true rfl⟩ (zlw4 (Nat.le_of_ble_eq_true rfl)) dX1_happens_31 (fun r31 => ?_)
  refine gfX1_242 F dX1_happens_34 (fun g34 => ?_)
  refine Z.iload_n F 0 rfl dX1_happens_37 ?_
  refine Z.aald F (t := 7) (by decide) rfl rfl dX1_happens_38 (fun g38 => ?_)
  refine gfX1_262 F dX1_happens_39 (fun g39 => ?_)
  refine Z.jn0 (J := _) ([]) ([]) 51 (?_) (fun j51 hj51 => ?_)
  · exact Z.vret F dX1_happens_51
  refine Z.if_le F (tgt := 51) dX1_happens_42 (by decide) ?_ ?_
  · exact Z.sub [] rfl (hj51)
  refine Z.aload_n F 3 rfl dX1_happens_45 ?_
  refine Z.iload_n F 1 rfl dX1_happens_46 ?_
  refine Z.iload_n F 0 rfl dX1_happens_47 ?_
  refine clX1_314 F ⟨Nat.le_of_ble_eq_true rfl, Nat.le_of_ble_eq_true rfl⟩ (zlw4 (Nat.le_of_ble_eq_true rfl)) dX1_happens_48 ?_
  exact Z.sub [] rfl (hj51)
theorem gfX2_88 (F : ZF p R s m args meth c cc nL "SafeBuckets$State" nm ret D A al sz mc ms fr lo) {z : Nat} {K : Int32 → ZM → Prop} (hdg : decode cc pc = .ok (.getfield 88, 3)) (k : ∀ u, ZW p l e R s m args below meth c Q nL D A al n0 (K u) (pc + 3) L (.int u :: st)) : ZW p l e R s m args below meth c Q nL D A al n0 (zgI 3 z 2 K) pc L (zv z :: st) :=
  Z.getIN F (ref := "SafeBuckets$Sheet") in_X3 (ci := 2) rfl (by decide) (kf := 2) (by decide) (host := "SafeBuckets") (List.mem_of_getElem? (i := 44) rfl) (fun _ h => h) rfl hdg k
set_option maxHeartbeats 4000000 in
theorem k_X2_rows (l : Launch) (h0 : Nat) : ZCi l yX2_rows (ws_ yX2_rows cX2_rows 3 (some .int)) 0 0 0 0 false [zv h0] (f_X2_rows h0) := by
  refine Z.metI (by decide +kernel) (fun h => ⟨rfl, rfl⟩) (L0 := [(0, zv h0)]) (by first | (rw [zla_v, zla_0]; done) | (rw [zla_v, zla_0]; rfl)) (by rw [zsl_v, zsl_0]; exact Nat.le_of_ble_eq_true rfl) ?_
  intro p e R s m args below meth c D A n0 sz k F
  have F : ZF p R s m args meth c cX2_rows 3 "SafeBuckets$State" "rows" (some .int) D A false sz 0 0 0 0 := F
  unfold f_X2_rows
  refine Z.iconst F (v := (0 : Int32)) (by decide) dX2_rows_0 ?_
  refine Z.istore_n F (L0 := [(0, zv h0)]) [0] rfl (zkR rfl zkN) (by decide) dX2_rows_1 ?_
  refine Z.iconst F (v := (0 : Int32)) (by decide) dX2_rows_2 ?_
  refine Z.istore_n F (L0 := [(1, .int (0 : Int32)), (0, zv h0)]) [0, 1] rfl (zkI rfl (zkR rfl zkN)) (by decide) dX2_rows_3 ?_
  refine Z.sub [2, 1, 0] rfl ?_
  refine Z.w2 (Lf := fun p4l1 p4l2 => [(0, zv h0), (1, .int p4l1), (2, .int p4l2)]) (sf := fun p4l1 p4l2 => []) (fun r4 hr4 p4l1 p4l2 => ?_) (0 : Int32) (0 : Int32)
  refine Z.iload_n F 2 rfl dX2_rows_4 ?_
  refine Z.aload_n F 0 rfl dX2_rows_5 ?_
  refine gfX2_3 F dX2_rows_6 (fun g6 => ?_)
  refine gfX2_28 F dX2_rows_9 (fun g9 => ?_)
  refine gfX2_32 F dX2_rows_12 (fun g12 => ?_)
  refine Z.icmp_ge F (tgt := 36) dX2_rows_15 (by decide) ?_ ?_
  · refine Z.iload_n F 1 rfl dX2_rows_36 ?_
    exact Z.iret F dX2_rows_37
  refine Z.iload_n F 1 rfl dX2_rows_18 ?_
  refine Z.aload_n F 0 rfl dX2_rows_19 ?_
  refine gfX2_20 F dX2_rows_20 (fun g20 => ?_)
  refine Z.iload_n F 2 rfl dX2_rows_23 ?_
  refine Z.aald F (t := 6) (by decide) rfl rfl dX2_rows_24 (fun g24 => ?_)
  refine gfX2_88 F dX2_rows_25 (fun g25 => ?_)
  refine Z.iadd F dX2_rows_28 ?_
  refine Z.istore_n F (L0 := [(0, zv h0), (2, .int p4l2)]) [0, 2] rfl (zkR rfl (zkI rfl zkN)) (by decide) dX2_rows_29 ?_
  refine Z.iinc F (L0 := [(1, .int (p4l1 + g25)), (0, zv h0)]) (k0 := 2) (v := (1 : Int32)) rfl (by decide) [0, 1] rfl (zkI rfl (zkR rfl zkN)) (by decide) dX2_rows_30 ?_
  refine Z.goto F (tgt := 4) dX2_rows_33 (by decide) ?_
  exact Z.sub [2, 1, 0] rfl (hr4 (p4l1 + g25) (p4l2 + (1 : Int32)))
theorem clX1_339 (F : ZF p R s m args meth c cc nL "SafeBuckets" nm ret D A al sz mc ms fr lo) {h0 : Nat} {K : Int32 → ZM → Prop} (hR : 0 + 1 ≤ fr ∧ 8 + (3 + 11) + 0 ≤ lo) (hst4 : zlw st) (hdg : decode cc pc = .ok (.invokevirtual 339, 3)) (k : ∀ r, ZW p l e R s m args below meth c Q nL D A al n0 (K r) (pc + 3) L (.int r :: st)) : ZW p l e R s m args below meth c Q nL D A al n0 (zat 2 h0 (f_X2_rows h0 K)) pc L (zv h0 :: st) :=
  Z.ri0 _ (fun μ H locs cells slots ls hI h hP => Z.V0 F hI (n := 0) (ci := 1) rfl (by decide) hP.1 hP.2 (k_X2_rows l h0 D A (zX μ, zC μ, zS μ) H.size K μ) q1110 q1111 q1112 q117 q1113 (by decide +kernel) rfl h.1 hst4 hR rfl hdg) k
theorem clX1_336 (F : ZF p R s m args meth c cc nL "SafeBuckets" nm ret D A true sz mc ms fr lo) {h0 : Nat} {K : ZM → Prop} (hR : 9 + 1 ≤ fr ∧ 8 + (7 + 11) + 195 ≤ lo) (hst4 : zlw st) (hdg : decode cc pc = .ok (.invokevirtual 336, 3)) (k : ZW p l e R s m args below meth c Q nL D A true n0 K (pc + 3) L st) : ZW p l e R s m args below meth c Q nL D A true n0 (zat 1 h0 (zclv 72 1334 (f_X1_happens h0) K)) pc L (zv h0 :: st) :=
  Z.rv1 _ (fun μ H locs cells slots ls hI h hP => ⟨hP.2.1, hP.2.2.1, Z.V1 F hI (n := 0) (ci := 0) rfl (by decide) hP.1 hP.2.1 hP.2.2.1 hP.2.2.2 (k_X1_happens l h0 D A (0, 0, 0) 0 (fun μ' => K (zcs μ' (zC μ - 72) (zS μ - 1334))) (zcs μ 72 1334)) q1097 q1099 qs28 q116 q1100 (by decide +kernel) rfl h.1 hst4 hR rfl hdg⟩) k
set_option maxHeartbeats 4000000 in
theorem k_X1_years (l : Launch) (h0 : Nat) (x1 : Int32) (x2 : Int64) : ZCi l yX1_years (ws_ yX1_years cX1_years 5 (some .int)) 10 221 2880 53360 true [zv h0, .int x1, .long x2] (f_X1_years h0 x1 x2) := by
  refine Z.metI (by decide +kernel) (fun h => by cases h) (L0 := [(0, zv h0), (1, .int x1), (2, .long x2)]) (by first | (rw [zla_v, zla_i, zla_l, zla_0]; done) | (rw [zla_v, zla_i, zla_l, zla_0]; rfl)) (by rw [zsl_v, zsl_i, zsl_l, zsl_0]; exact Nat.le_of_ble_eq_true rfl) ?_
  intro p e R s m args below meth c D A n0 sz k F
  have F : ZF p R s m args meth c cX1_years 5 "SafeBuckets" "years" (some .int) D A true sz 2880 53360 10 221 := F
  unfold f_X1_years
  refine Z.aload_n F 0 rfl dX1_years_0 ?_
  refine gfX1_93 F dX1_years_1 (fun g1 => ?_)
  refine Z.jn0 (J := _) ([]) ([]) 19 (?_) (fun j19 hj19 => ?_)
  · refine Z.iconst F (v := (-1 : Int32)) (by decide) dX1_years_19 ?_
    exact Z.iret F dX1_years_20
  refine Z.ifnull F (tgt := 19) dX1_years_4 (by decide) ?_ ?_
  · exact Z.sub [] rfl (hj19)
  refine Z.iload_n F 1 rfl dX1_years_7 ?_
  refine Z.i2l F dX1_years_8 ?_
  refine Z.lconst F (w := (1 : Int64)) (by decide) dX1_years_9 ?_
  refine Z.ldc2 F q1096 dX1_years_10 ?_
  refine clX1_97 F ⟨Nat.le_of_ble_eq_true rfl, Nat.le_of_ble_eq_true rfl⟩ (zlw4 (Nat.le_of_ble_eq_true rfl)) dX1_years_13 (fun r13 => ?_)
  refine Z.if_ne F (tgt := 21) dX1_years_16 (by decide) ?_ ?_
  · refine Z.aload_n F 0 rfl dX1_years_21 ?_
    refine Z.lload_n F 2 rfl dX1_years_22 ?_
    refine pfX1_320 F dX1_years_23 ?_
    refine Z.iconst F (v := (0 : Int32)) (by decide) dX1_years_26 ?_
    refine Z.istore F (L0 := [(0, zv h0), (1, .int x1), (2, .long x2)]) [0, 1, 2] rfl (zkR rfl (zkI rfl (zkL rfl rfl zkN))) (by decide) dX1_years_27 ?_
    refine Z.jn0 (J := _) ([(0, zv h0)]) ([]) 45 (?_) (fun j45 hj45 => ?_)
    · refine Z.aload_n F 0 rfl dX1_years_45 ?_
      refine gfX1_59 F dX1_years_46 (fun g46 => ?_)
      refine clX1_339 F ⟨Nat.le_of_ble_eq_true rfl, Nat.le_of_ble_eq_true rfl⟩ (zlw4 (Nat.le_of_ble_eq_true rfl)) dX1_years_49 (fun r49 => ?_)
      exact Z.iret F dX1_years_52
    refine Z.sub [1, 2, 0] rfl ?_
    refine Z.w1 (Lf := fun p29l4 => [(0, zv h0), (1, .int x1), (4, .int p29l4)]) (sf := fun p29l4 => []) (fun r29 hr29 p29l4 => ?_) (0 : Int32)
    refine Z.iload F 2 rfl dX1_years_29 ?_
    refine Z.iload_n F 1 rfl dX1_years_31 ?_
    refine Z.icmp_ge F (tgt := 45) dX1_years_32 (by decide) ?_ ?_
    · exact Z.sub [0] rfl (hj45)
    refine Z.aload_n F 0 rfl dX1_years_35 ?_
    refine clX1_336 F ⟨Nat.le_of_ble_eq_true rfl, Nat.le_of_ble_eq_true rfl⟩ (zlw4 (Nat.le_of_ble_eq_true rfl)) dX1_years_36 ?_
    refine Z.iinc F (L0 := [(0, zv h0), (1, .int x1)]) (k0 := 2) (v := (1 : Int32)) rfl (by decide) [0, 1] rfl (zkR rfl (zkI rfl zkN)) (by decide) dX1_years_39 ?_
    refine Z.goto F (tgt := 29) dX1_years_42 (by decide) ?_
    exact Z.sub [1, 2, 0] rfl (hr29 (p29l4 + (1 : Int32)))
  exact Z.sub [] rfl (hj19)
set_option maxHeartbeats 4000000 in
theorem k_X1_status (l : Launch) (h0 : Nat) (x1 : Int32) : ZCi l yX1_status (ws_ yX1_status cX1_status 2 (some .int)) 1 25 0 0 false [zv h0, .int x1] (f_X1_status h0 x1) := by
  refine Z.metI (by decide +kernel) (fun h => ⟨rfl, rfl⟩) (L0 := [(0, zv h0), (1, .int x1)]) (by first | (rw [zla_v, zla_i, zla_0]; done) | (rw [zla_v, zla_i, zla_0]; rfl)) (by rw [zsl_v, zsl_i, zsl_0]; exact Nat.le_of_ble_eq_true rfl) ?_
  intro p e R s m args below meth c D A n0 sz k F
  have F : ZF p R s m args meth c cX1_status 2 "SafeBuckets" "status" (some .int) D A false sz 0 0 1 25 := F
  unfold f_X1_status
  refine Z.iload_n F 1 rfl dX1_status_0 ?_
  refine Z.i2l F dX1_status_1 ?_
  refine Z.lconst F (w := (0 : Int64)) (by decide) dX1_status_2 ?_
  refine Z.ldc2 F q1118 dX1_status_3 ?_
  refine clX1_97 F ⟨Nat.le_of_ble_eq_true rfl, Nat.le_of_ble_eq_true rfl⟩ (zlw4 (Nat.le_of_ble_eq_true rfl)) dX1_status_6 (fun r6 => ?_)
  refine Z.jn1 (J := _) (fun p22s0 => []) (fun p22s0 => [.int p22s0]) 22 (fun p22s0 => ?_) (fun j22 hj22 => ?_)
  · exact Z.iret F dX1_status_22
  refine Z.if_eq F (tgt := 21) dX1_status_9 (by decide) ?_ ?_
  · refine Z.iconst F (v := (-1 : Int32)) (by decide) dX1_status_21 ?_
    exact Z.sub [] rfl (hj22 (-1 : Int32))
  refine Z.aload_n F 0 rfl dX1_status_12 ?_
  refine gfX1_31 F dX1_status_13 (fun g13 => ?_)
  refine Z.iload_n F 1 rfl dX1_status_16 ?_
  refine Z.iald F dX1_status_17 (fun g17 => ?_)
  refine Z.goto F (tgt := 22) dX1_status_18 (by decide) ?_
  exact Z.sub [] rfl (hj22 g17)
set_option maxHeartbeats 4000000 in
theorem k_X1_undo (l : Launch) (h0 : Nat) : ZCi l yX1_undo (ws_ yX1_undo cX1_undo 1 (some .int)) 4 104 0 0 false [zv h0] (f_X1_undo h0) := by
  refine Z.metI (by decide +kernel) (fun h => ⟨rfl, rfl⟩) (L0 := [(0, zv h0)]) (by first | (rw [zla_v, zla_0]; done) | (rw [zla_v, zla_0]; rfl)) (by rw [zsl_v, zsl_0]; exact Nat.le_of_ble_eq_true rfl) ?_
  intro p e R s m args below meth c D A n0 sz k F
  have F : ZF p R s m args meth c cX1_undo 1 "SafeBuckets" "undo" (some .int) D A false sz 0 0 4 104 := F
  unfold f_X1_undo
  refine Z.aload_n F 0 rfl dX1_undo_0 ?_
  refine gfX1_132 F dX1_undo_1 (fun g1 => ?_)
  refine Z.if_ne F (tgt := 9) dX1_undo_4 (by decide) ?_ ?_
  · refine Z.aload_n F 0 rfl dX1_undo_9 ?_
    refine Z.dup F dX1_undo_10 ?_
    refine gfX1_132 F dX1_undo_11 (fun g11 => ?_)
    refine Z.iconst F (v := (1 : Int32)) (by decide) dX1_undo_14 ?_
    refine Z.isub F dX1_undo_15 ?_
    refine pfX1_132 F dX1_undo_16 ?_
    refine Z.aload_n F 0 rfl dX1_undo_19 ?_
    refine Z.aload_n F 0 rfl dX1_undo_20 ?_
    refine gfX1_278 F dX1_undo_21 (fun g21 => ?_)
    refine Z.bipush F (v := (40 : Int32)) (by decide) dX1_undo_24 ?_
    refine Z.iadd F dX1_undo_26 ?_
    refine Z.iconst F (v := (1 : Int32)) (by decide) dX1_undo_27 ?_
    refine Z.isub F dX1_undo_28 ?_
    refine Z.bipush F (v := (40 : Int32)) (by decide) dX1_undo_29 ?_
    refine Z.irem F dX1_undo_31 ?_
    refine Z.nmI (fun v31 => ?_)
    refine pfX1_278 F dX1_undo_32 ?_
    refine Z.aload_n F 0 rfl dX1_undo_35 ?_
    refine gfX1_59 F dX1_undo_36 (fun g36 => ?_)
    refine Z.aload_n F 0 rfl dX1_undo_39 ?_
    refine gfX1_73 F dX1_undo_40 (fun g40 => ?_)
    refine Z.aload_n F 0 rfl dX1_undo_43 ?_
    refine gfX1_278 F dX1_undo_44 (fun g44 => ?_)
    refine Z.aald F (t := 9) (by decide) rfl rfl dX1_undo_47 (fun g47 => ?_)
    refine clX1_281 F ⟨Nat.le_of_ble_eq_true rfl, Nat.le_of_ble_eq_true rfl⟩ (zlw4 (Nat.le_of_ble_eq_true rfl)) dX1_undo_48 ?_
    refine Z.aload_n F 0 rfl dX1_undo_51 ?_
    refine gfX1_132 F dX1_undo_52 (fun g52 => ?_)
    exact Z.iret F dX1_undo_55
  refine Z.iconst F (v := (-1 : Int32)) (by decide) dX1_undo_7 ?_
  exact Z.iret F dX1_undo_8
end ZWalk
