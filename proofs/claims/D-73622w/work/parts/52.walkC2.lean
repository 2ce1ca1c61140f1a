section ZWalk
variable {p : Program} {l : Launch} {e : Env} {R : Room} {s : State} {m : MethodId} {args : Array Value} {below : List Frame} {meth : Method} {c : Code} {Q : State → Prop} {nL : Nat} {D : ZD} {A : Nat → Prop} {al : Bool} {n0 : Nat × Nat × Nat} {cc : ByteArray} {nm : String} {ret : Option FieldType} {sz mc ms fr lo : Nat}
variable {P : ZM → Prop} {pc : Nat} {L : List (Nat × Value)} {st : List Value}
theorem pfX13_7_11 (F : ZF p R s m args meth c cc nL "SafeBuckets$Told" "<init>" ret D A al sz mc ms fr lo) {z : Nat} {u : Nat} (hdg : decode cc pc = .ok (.putfield 7, 3)) (k : ZW p l e R s m args below meth c Q nL D A al n0 P (pc + 3) L st) : ZW p l e R s m args below meth c Q nL D A al n0 (zpR 11 z 0 u P) pc L (zv u :: zv z :: st) :=
  Z.putRF F (ref := "SafeBuckets$Told") in_X15 (ci := 10) rfl (by decide) (kf := 0) (by decide) q583 (fun _ h => h) tyX15 tyX15_ok nmX15 rfl rfl rfl (ty := .array _) (fun u => zv_narA u) (fun u => zv_fitA u) rfl rfl hdg k
set_option maxHeartbeats 4000000 in
theorem k_X13_init_11 (l : Launch) (h0 : Nat) (h1 : Nat) : ZCv l yX13_init (ws_ yX13_init cX13_init 2 none) 1 20 0 0 false [zv h0, zv h1] (f_X13_init_11 h0 h1) := by
  refine Z.metV (by decide +kernel) (fun h => ⟨rfl, rfl⟩) (L0 := [(0, zv h0), (1, zv h1)]) (by first | (rw [zla_v, zla_v, zla_0]; done) | (rw [zla_v, zla_v, zla_0]; rfl)) (by rw [zsl_v, zsl_v, zsl_0]; exact Nat.le_of_ble_eq_true rfl) ?_
  intro p e R s m args below meth c D A n0 sz k F
  have F : ZF p R s m args meth c cX13_init 2 "SafeBuckets$Told" "<init>" none D A false sz 0 0 1 20 := F
  unfold f_X13_init_11
  refine Z.aload_n F 0 rfl dX13_init_0 ?_
  refine Z.objI F q582 (Nat.le_of_ble_eq_true rfl) (Nat.le_of_ble_eq_true rfl) (zlw4 (Nat.le_of_ble_eq_true rfl)) dX13_init_1 ?_
  refine Z.aload_n F 0 rfl dX13_init_4 ?_
  refine Z.aload_n F 1 rfl dX13_init_5 ?_
  refine pfX13_7_11 F dX13_init_6 ?_
  exact Z.vret F dX13_init_9
theorem pfX13_7_12 (F : ZF p R s m args meth c cc nL "SafeBuckets$Told" "<init>" ret D A al sz mc ms fr lo) {z : Nat} {u : Nat} (hdg : decode cc pc = .ok (.putfield 7, 3)) (k : ZW p l e R s m args below meth c Q nL D A al n0 P (pc + 3) L st) : ZW p l e R s m args below meth c Q nL D A al n0 (zpR 12 z 0 u P) pc L (zv u :: zv z :: st) :=
  Z.putRF F (ref := "SafeBuckets$Told") in_X16 (ci := 11) rfl (by decide) (kf := 0) (by decide) q583 (fun _ h => h) tyX16 tyX16_ok nmX16 rfl rfl rfl (ty := .array _) (fun u => zv_narA u) (fun u => zv_fitA u) rfl rfl hdg k
set_option maxHeartbeats 4000000 in
theorem k_X13_init_12 (l : Launch) (h0 : Nat) (h1 : Nat) : ZCv l yX13_init (ws_ yX13_init cX13_init 2 none) 1 20 0 0 false [zv h0, zv h1] (f_X13_init_12 h0 h1) := by
  refine Z.metV (by decide +kernel) (fun h => ⟨rfl, rfl⟩) (L0 := [(0, zv h0), (1, zv h1)]) (by first | (rw [zla_v, zla_v, zla_0]; done) | (rw [zla_v, zla_v, zla_0]; rfl)) (by rw [zsl_v, zsl_v, zsl_0]; exact Nat.le_of_ble_eq_true rfl) ?_
  intro p e R s m args below meth c D A n0 sz k F
  have F : ZF p R s m args meth c cX13_init 2 "SafeBuckets$Told" "<init>" none D A false sz 0 0 1 20 := F
  unfold f_X13_init_12
  refine Z.aload_n F 0 rfl dX13_init_0 ?_
  refine Z.objI F q582 (Nat.le_of_ble_eq_true rfl) (Nat.le_of_ble_eq_true rfl) (zlw4 (Nat.le_of_ble_eq_true rfl)) dX13_init_1 ?_
  refine Z.aload_n F 0 rfl dX13_init_4 ?_
  refine Z.aload_n F 1 rfl dX13_init_5 ?_
  refine pfX13_7_12 F dX13_init_6 ?_
  exact Z.vret F dX13_init_9
theorem pfX13_7_13 (F : ZF p R s m args meth c cc nL "SafeBuckets$Told" "<init>" ret D A al sz mc ms fr lo) {z : Nat} {u : Nat} (hdg : decode cc pc = .ok (.putfield 7, 3)) (k : ZW p l e R s m args below meth c Q nL D A al n0 P (pc + 3) L st) : ZW p l e R s m args below meth c Q nL D A al n0 (zpR 13 z 0 u P) pc L (zv u :: zv z :: st) :=
  Z.putRF F (ref := "SafeBuckets$Told") in_X17 (ci := 12) rfl (by decide) (kf := 0) (by decide) q583 (fun _ h => h) tyX17 tyX17_ok nmX17 rfl rfl rfl (ty := .array _) (fun u => zv_narA u) (fun u => zv_fitA u) rfl rfl hdg k
set_option maxHeartbeats 4000000 in
theorem k_X13_init_13 (l : Launch) (h0 : Nat) (h1 : Nat) : ZCv l yX13_init (ws_ yX13_init cX13_init 2 none) 1 20 0 0 false [zv h0, zv h1] (f_X13_init_13 h0 h1) := by
  refine Z.metV (by decide +kernel) (fun h => ⟨rfl, rfl⟩) (L0 := [(0, zv h0), (1, zv h1)]) (by first | (rw [zla_v, zla_v, zla_0]; done) | (rw [zla_v, zla_v, zla_0]; rfl)) (by rw [zsl_v, zsl_v, zsl_0]; exact Nat.le_of_ble_eq_true rfl) ?_
  intro p e R s m args below meth c D A n0 sz k F
  have F : ZF p R s m args meth c cX13_init 2 "SafeBuckets$Told" "<init>" none D A false sz 0 0 1 20 := F
  unfold f_X13_init_13
  refine Z.aload_n F 0 rfl dX13_init_0 ?_
  refine Z.objI F q582 (Nat.le_of_ble_eq_true rfl) (Nat.le_of_ble_eq_true rfl) (zlw4 (Nat.le_of_ble_eq_true rfl)) dX13_init_1 ?_
  refine Z.aload_n F 0 rfl dX13_init_4 ?_
  refine Z.aload_n F 1 rfl dX13_init_5 ?_
  refine pfX13_7_13 F dX13_init_6 ?_
  exact Z.vret F dX13_init_9
theorem clX14_1_X13_init_11_11 (F : ZF p R s m args meth c cc nL "SafeBuckets$Clause" nm ret D A al sz mc ms fr lo) {h0 : Nat} {h1 : Nat} {K : ZM → Prop} (hR : 1 + 1 ≤ fr ∧ 8 + (2 + 11) + 20 ≤ lo) (hst4 : zlw st) (hdg : decode cc pc = .ok (.invokespecial 1, 3)) (k : ZW p l e R s m args below meth c Q nL D A al n0 K (pc + 3) L st) : ZW p l e R s m args below meth c Q nL D A al n0 (zat 11 h0 (f_X13_init_11 h0 h1 K)) pc L (zv h1 :: zv h0 :: st) :=
  Z.rv0 _ (fun μ H locs cells slots ls hI h hP => Z.I0 F hI (n := 1) (ci := 10) rfl (by decide) hP.1 hP.2 (k_X13_init_11 l h0 h1 D A (zX μ, zC μ, zS μ) H.size K μ) rfl q579 q580 q130 q581 (by decide +kernel) rfl h.1 hst4 hR rfl hdg) k
set_option maxHeartbeats 4000000 in
theorem k_X14_init_11 (l : Launch) (h0 : Nat) (h1 : Nat) : ZCv l yX14_init (ws_ yX14_init cX14_init 2 none) 2 41 0 0 false [zv h0, zv h1] (f_X14_init_11 h0 h1) := by
  refine Z.metV (by decide +kernel) (fun h => ⟨rfl, rfl⟩) (L0 := [(0, zv h0), (1, zv h1)]) (by first | (rw [zla_v, zla_v, zla_0]; done) | (rw [zla_v, zla_v, zla_0]; rfl)) (by rw [zsl_v, zsl_v, zsl_0]; exact Nat.le_of_ble_eq_true rfl) ?_
  intro p e R s m args below meth c D A n0 sz k F
  have F : ZF p R s m args meth c cX14_init 2 "SafeBuckets$Clause" "<init>" none D A false sz 0 0 2 41 := F
  unfold f_X14_init_11
  refine Z.aload_n F 0 rfl dX14_init_0 ?_
  refine Z.aload_n F 1 rfl dX14_init_1 ?_
  refine clX14_1_X13_init_11_11 F ⟨Nat.le_of_ble_eq_true rfl, Nat.le_of_ble_eq_true rfl⟩ (zlw4 (Nat.le_of_ble_eq_true rfl)) dX14_init_2 ?_
  exact Z.vret F dX14_init_5
theorem clX14_1_X13_init_12_12 (F : ZF p R s m args meth c cc nL "SafeBuckets$Clause" nm ret D A al sz mc ms fr lo) {h0 : Nat} {h1 : Nat} {K : ZM → Prop} (hR : 1 + 1 ≤ fr ∧ 8 + (2 + 11) + 20 ≤ lo) (hst4 : zlw st) (hdg : decode cc pc = .ok (.invokespecial 1, 3)) (k : ZW p l e R s m args below meth c Q nL D A al n0 K (pc + 3) L st) : ZW p l e R s m args below meth c Q nL D A al n0 (zat 12 h0 (f_X13_init_12 h0 h1 K)) pc L (zv h1 :: zv h0 :: st) :=
  Z.rv0 _ (fun μ H locs cells slots ls hI h hP => Z.I0 F hI (n := 1) (ci := 11) rfl (by decide) hP.1 hP.2 (k_X13_init_12 l h0 h1 D A (zX μ, zC μ, zS μ) H.size K μ) rfl q579 q580 q130 q581 (by decide +kernel) rfl h.1 hst4 hR rfl hdg) k
set_option maxHeartbeats 4000000 in
theorem k_X14_init_12 (l : Launch) (h0 : Nat) (h1 : Nat) : ZCv l yX14_init (ws_ yX14_init cX14_init 2 none) 2 41 0 0 false [zv h0, zv h1] (f_X14_init_12 h0 h1) := by
  refine Z.metV (by decide +kernel) (fun h => ⟨rfl, rfl⟩) (L0 := [(0, zv h0), (1, zv h1)]) (by first | (rw [zla_v, zla_v, zla_0]; done) | (rw [zla_v, zla_v, zla_0]; rfl)) (by rw [zsl_v, zsl_v, zsl_0]; exact Nat.le_of_ble_eq_true rfl) ?_
  intro p e R s m args below meth c D A n0 sz k F
  have F : ZF p R s m args meth c cX14_init 2 "SafeBuckets$Clause" "<init>" none D A false sz 0 0 2 41 := F
  unfold f_X14_init_12
  refine Z.aload_n F 0 rfl dX14_init_0 ?_
  refine Z.aload_n F 1 rfl dX14_init_1 ?_
  refine clX14_1_X13_init_12_12 F ⟨Nat.le_of_ble_eq_true rfl, Nat.le_of_ble_eq_true rfl⟩ (zlw4 (Nat.le_of_ble_eq_true rfl)) dX14_init_2 ?_
  exact Z.vret F dX14_init_5
theorem clX14_1_X13_init_13_13 (F : ZF p R s m args meth c cc nL "SafeBuckets$Clause" nm ret D A al sz mc ms fr lo) {h0 : Nat} {h1 : Nat} {K : ZM → Prop} (hR : 1 + 1 ≤ fr ∧ 8 + (2 + 11) + 20 ≤ lo) (hst4 : zlw st) (hdg : decode cc pc = .ok (.invokespecial 1, 3)) (k : ZW p l e R s m args below meth c Q nL D A al n0 K (pc + 3) L st) : ZW p l e R s m args below meth c Q nL D A al n0 (zat 13 h0 (f_X13_init_13 h0 h1 K)) pc L (zv h1 :: zv h0 :: st) :=
  Z.rv0 _ (fun μ H locs cells slots ls hI h hP => Z.I0 F hI (n := 1) (ci := 12) rfl (by decide) hP.1 hP.2 (k_X13_init_13 l h0 h1 D A (zX μ, zC μ, zS μ) H.size K μ) rfl q579 q580 q130 q581 (by decide +kernel) rfl h.1 hst4 hR rfl hdg) k
set_option maxHeartbeats 4000000 in
theorem k_X14_init_13 (l : Launch) (h0 : Nat) (h1 : Nat) : ZCv l yX14_init (ws_ yX14_init cX14_init 2 none) 2 41 0 0 false [zv h0, zv h1] (f_X14_init_13 h0 h1) := by
  refine Z.metV (by decide +kernel) (fun h => ⟨rfl, rfl⟩) (L0 := [(0, zv h0), (1, zv h1)]) (by first | (rw [zla_v, zla_v, zla_0]; done) | (rw [zla_v, zla_v, zla_0]; rfl)) (by rw [zsl_v, zsl_v, zsl_0]; exact Nat.le_of_ble_eq_true rfl) ?_
  intro p e R s m args below meth c D A n0 sz k F
  have F : ZF p R s m args meth c cX14_init 2 "SafeBuckets$Clause" "<init>" none D A false sz 0 0 2 41 := F
  unfold f_X14_init_13
  refine Z.aload_n F 0 rfl dX14_init_0 ?_
  refine Z.aload_n F 1 rfl dX14_init_1 ?_
  refine clX14_1_X13_init_13_13 F ⟨Nat.le_of_ble_eq_true rfl, Nat.le_of_ble_eq_true rfl⟩ (zlw4 (Nat.le_of_ble_eq_true rfl)) dX14_init_2 ?_
  exact Z.vret F dX14_init_5
theorem clX15_3_X14_init_11_11 (F : ZF p R s m args meth c cc nL "SafeBuckets$Rules" nm ret D A al sz mc ms fr lo) {h0 : Nat} {h1 : Nat} {K : ZM → Prop} (hR : 2 + 1 ≤ fr ∧ 8 + (2 + 11) + 41 ≤ lo) (hst4 : zlw st) (hdg : decode cc pc = .ok (.invokespecial 3, 3)) (k : ZW p l e R s m args below meth c Q nL D A al n0 K (pc + 3) L st) : ZW p l e R s m args below meth c Q nL D A al n0 (zat 11 h0 (f_X14_init_11 h0 h1 K)) pc L (zv h1 :: zv h0 :: st) :=
  Z.rv0 _ (fun μ H locs cells slots ls hI h hP => Z.I0 F hI (n := 1) (ci := 10) rfl (by decide) hP.1 hP.2 (k_X14_init_11 l h0 h1 D A (zX μ, zC μ, zS μ) H.size K μ) rfl q576 q577 q131 q578 (by decide +kernel) rfl h.1 hst4 hR rfl hdg) k
set_option maxHeartbeats 4000000 in
theorem k_X15_init (l : Launch) (h0 : Nat) : ZCv l yX15_init (ws_ yX15_init cX15_init 1 none) 3 62 1 3 true [zv h0] (f_X15_init h0) := by
  refine Z.metV (by decide +kernel) (fun h => by cases h) (L0 := [(0, zv h0)]) (by first | (rw [zla_v, zla_0]; done) | (rw [zla_v, zla_0]; rfl)) (by rw [zsl_v, zsl_0]; exact Nat.le_of_ble_eq_true rfl) ?_
  intro p e R s m args below meth c D A n0 sz k F
  have F : ZF p R s m args meth c cX15_init 1 "SafeBuckets$Rules" "<init>" none D A true sz 1 3 3 62 := F
  unfold f_X15_init
  refine Z.aload_n F 0 rfl dX15_init_0 ?_
  refine Z.iconst F (v := (3 : Int32)) (by decide) dX15_init_1 ?_
  refine Z.newA50 F dX15_init_2 (fun n2 => ?_)
  refine Z.dup F dX15_init_4 ?_
  refine Z.iconst F (v := (0 : Int32)) (by decide) dX15_init_5 ?_
  refine Z.iconst F (v := (3 : Int32)) (by decide) dX15_init_6 ?_
  refine Z.iast F dX15_init_7 ?_
  refine Z.dup F dX15_init_8 ?_
  refine Z.iconst F (v := (1 : Int32)) (by decide) dX15_init_9 ?_
  refine Z.bipush F (v := (20 : Int32)) (by decide) dX15_init_10 ?_
  refine Z.iast F dX15_init_12 ?_
  refine Z.dup F dX15_init_13 ?_
  refine Z.iconst F (v := (2 : Int32)) (by decide) dX15_init_14 ?_
  refine Z.sipush F (v := (999 : Int32)) (by decide) dX15_init_15 ?_
  refine Z.iast F dX15_init_18 ?_
  refine clX15_3_X14_init_11_11 F ⟨Nat.le_of_ble_eq_true rfl, Nat.le_of_ble_eq_true rfl⟩ (zlw4 (Nat.le_of_ble_eq_true rfl)) dX15_init_19 ?_
  exact Z.vret F dX15_init_22
theorem clX16_3_X14_init_12_12 (F : ZF p R s m args meth c cc nL "SafeBuckets$ToldTable" nm ret D A al sz mc ms fr lo) {h0 : Nat} {h1 : Nat} {K : ZM → Prop} (hR : 2 + 1 ≤ fr ∧ 8 + (2 + 11) + 41 ≤ lo) (hst4 : zlw st) (hdg : decode cc pc = .ok (.invokespecial 3, 3)) (k : ZW p l e R s m args below meth c Q nL D A al n0 K (pc + 3) L st) : ZW p l e R s m args below meth c Q nL D A al n0 (zat 12 h0 (f_X14_init_12 h0 h1 K)) pc L (zv h1 :: zv h0 :: st) :=
  Z.rv0 _ (fun μ H locs cells slots ls hI h hP => Z.I0 F hI (n := 1) (ci := 11) rfl (by decide) hP.1 hP.2 (k_X14_init_12 l h0 h1 D A (zX μ, zC μ, zS μ) H.size K μ) rfl q603 q577 q131 q578 (by decide +kernel) rfl h.1 hst4 hR rfl hdg) k
set_option maxHeartbeats 4000000 in
theorem k_X16_init (l : Launch) (h0 : Nat) : ZCv l yX16_init (ws_ yX16_init cX16_init 1 none) 3 62 1 1 true [zv h0] (f_X16_init h0) := by
  refine Z.metV (by decide +kernel) (fun h => by cases h) (L0 := [(0, zv h0)]) (by first | (rw [zla_v, zla_0]; done) | (rw [zla_v, zla_0]; rfl)) (by rw [zsl_v, zsl_0]; exact Nat.le_of_ble_eq_true rfl) ?_
  intro p e R s m args below meth c D A n0 sz k F
  have F : ZF p R s m args meth c cX16_init 1 "SafeBuckets$ToldTable" "<init>" none D A true sz 1 1 3 62 := F
  unfold f_X16_init
  refine Z.aload_n F 0 rfl dX16_init_0 ?_
  refine Z.iconst F (v := (1 : Int32)) (by decide) dX16_init_1 ?_
  refine Z.newA50 F dX16_init_2 (fun n2 => ?_)
  refine Z.dup F dX16_init_4 ?_
  refine Z.iconst F (v := (0 : Int32)) (by decide) dX16_init_5 ?_
  refine Z.bipush F (v := (8 : Int32)) (by decide) dX16_init_6 ?_
  refine Z.iast F dX16_init_8 ?_
  refine clX16_3_X14_init_12_12 F ⟨Nat.le_of_ble_eq_true rfl, Nat.le_of_ble_eq_true rfl⟩ (zlw4 (Nat.le_of_ble_eq_true rfl)) dX16_init_9 ?_
  exact Z.vret F dX16_init_12
theorem clX17_3_X14_init_13_13 (F : ZF p R s m args meth c cc nL "SafeBuckets$Line" nm ret D A al sz mc ms fr lo) {h0 : Nat} {h1 : Nat} {K : ZM → Prop} (hR : 2 + 1 ≤ fr ∧ 8 + (2 + 11) + 41 ≤ lo) (hst4 : zlw st) (hdg : decode cc pc = .ok (.invokespecial 3, 3)) (k : ZW p l e R s m args below meth c Q nL D A al n0 K (pc + 3) L st) : ZW p l e R s m args below meth c Q nL D A al n0 (zat 13 h0 (f_X14_init_13 h0 h1 K)) pc L (zv h1 :: zv h0 :: st) :=
  Z.rv0 _ (fun μ H locs cells slots ls hI h hP => Z.I0 F hI (n := 1) (ci := 12) rfl (by decide) hP.1 hP.2 (k_X14_init_13 l h0 h1 D A (zX μ, zC μ, zS μ) H.size K μ) rfl q611 q577 q131 q578 (by decide +kernel) rfl h.1 hst4 hR rfl hdg) k
set_option maxHeartbeats 4000000 in
theorem k_X17_init (l : Launch) (h0 : Nat) : ZCv l yX17_init (ws_ yX17_init cX17_init 1 none) 3 62 1 4 true [zv h0] (f_X17_init h0) := by
  refine Z.metV (by decide +kernel) (fun h => by cases h) (L0 := [(0, zv h0)]) (by first | (rw [zla_v, zla_0]; done) | (rw [zla_v, zla_0]; rfl)) (by rw [zsl_v, zsl_0]; exact Nat.le_of_ble_eq_true rfl) ?_
  intro p e R s m args below meth c D A n0 sz k F
  have F : ZF p R s m args meth c cX17_init 1 "SafeBuckets$Line" "<init>" none D A true sz 1 4 3 62 := F
  unfold f_X17_init
  refine Z.aload_n F 0 rfl dX17_init_0 ?_
  refine Z.iconst F (v := (4 : Int32)) (by decide) dX17_init_1 ?_
  refine Z.newA50 F dX17_init_2 (fun n2 => ?_)
  refine Z.dup F dX17_init_4 ?_
  refine Z.iconst F (v := (0 : Int32)) (by decide) dX17_init_5 ?_
  refine Z.iconst F (v := (0 : Int32)) (by decide) dX17_init_6 ?_
  refine Z.iast F dX17_init_7 ?_
  refine Z.dup F dX17_init_8 ?_
  refine Z.iconst F (v := (1 : Int32)) (by decide) dX17_init_9 ?_
  refine Z.iconst F (v := (-1 : Int32)) (by decide) dX17_init_10 ?_
  refine Z.iast F dX17_init_11 ?_
  refine Z.dup F dX17_init_12 ?_
  refine Z.iconst F (v := (2 : Int32)) (by decide) dX17_init_13 ?_
  refine Z.iconst F (v := (-1 : Int32)) (by decide) dX17_init_14 ?_
  refine Z.iast F dX17_init_15 ?_
  refine Z.dup F dX17_init_16 ?_
  refine Z.iconst F (v := (3 : Int32)) (by decide) dX17_init_17 ?_
  refine Z.iconst F (v := (1 : Int32)) (by decide) dX17_init_18 ?_
  refine Z.iast F dX17_init_19 ?_
  refine clX17_3_X14_init_13_13 F ⟨Nat.le_of_ble_eq_true rfl, Nat.le_of_ble_eq_true rfl⟩ (zlw4 (Nat.le_of_ble_eq_true rfl)) dX17_init_20 ?_
  exact Z.vret F dX17_init_23
set_option maxHeartbeats 4000000 in
theorem k_X17_items (l : Launch) (h0 : Nat) : ZCr' l yX17_items (ws_ yX17_items cX17_items 1 (some (.object "java/lang/String"))) 0 0 0 0 false [zv h0] (f_X17_items h0) := by
  refine Z.metQ (by decide +kernel) (fun h => ⟨rfl, rfl⟩) (L0 := [(0, zv h0)]) (by first | (rw [zla_v, zla_0]; done) | (rw [zla_v, zla_0]; rfl)) (by rw [zsl_v, zsl_0]; exact Nat.le_of_ble_eq_true rfl) ?_
  intro p e R s m args below meth c D A n0 sz k F
  have F : ZF p R s m args meth c cX17_items 1 "SafeBuckets$Line" "items" (some (.object "java/lang/String")) D A false sz 0 0 0 0 := F
  unfold f_X17_items
  refine Z.lstr6 F dX17_items_0 (fun g0 => ?_)
  exact Z.aret F (Or.inl ⟨_, rfl⟩) dX17_items_2
set_option maxHeartbeats 4000000 in
theorem k_X15_items (l : Launch) (h0 : Nat) : ZCr' l yX15_items (ws_ yX15_items cX15_items 1 (some (.object "java/lang/String"))) 0 0 0 0 false [zv h0] (f_X15_items h0) := by
  refine Z.metQ (by decide +kernel) (fun h => ⟨rfl, rfl⟩) (L0 := [(0, zv h0)]) (by first | (rw [zla_v, zla_0]; done) | (rw [zla_v, zla_0]; rfl)) (by rw [zsl_v, zsl_0]; exact Nat.le_of_ble_eq_true rfl) ?_
  intro p e R s m args below meth c D A n0 sz k F
  have F : ZF p R s m args meth c cX15_items 1 "SafeBuckets$Rules" "items" (some (.object "java/lang/String")) D A false sz 0 0 0 0 := F
  unfold f_X15_items
  refine Z.lstr4 F dX15_items_0 (fun g0 => ?_)
  exact Z.aret F (Or.inl ⟨_, rfl⟩) dX15_items_2
set_option maxHeartbeats 4000000 in
theorem k_X16_items (l : Launch) (h0 : Nat) : ZCr' l yX16_items (ws_ yX16_items cX16_items 1 (some (.object "java/lang/String"))) 0 0 0 0 false [zv h0] (f_X16_items h0) := by
  refine Z.metQ (by decide +kernel) (fun h => ⟨rfl, rfl⟩) (L0 := [(0, zv h0)]) (by first | (rw [zla_v, zla_0]; done) | (rw [zla_v, zla_0]; rfl)) (by rw [zsl_v, zsl_0]; exact Nat.le_of_ble_eq_true rfl) ?_
  intro p e R s m args below meth c D A n0 sz k F
  have F : ZF p R s m args meth c cX16_items 1 "SafeBuckets$ToldTable" "items" (some (.object "java/lang/String")) D A false sz 0 0 0 0 := F
  unfold f_X16_items
  refine Z.lstr5 F dX16_items_0 (fun g0 => ?_)
  exact Z.aret F (Or.inl ⟨_, rfl⟩) dX16_items_2
set_option maxHeartbeats 4000000 in
theorem k_X1_has (l : Launch) (x0 : Int32) (x1 : Int32) : ZCi l yX1_has (ws_ yX1_has cX1_has 2 (some .boolean)) 0 0 0 0 false [.int x0, .int x1] (f_X1_has x0 x1) := by
  refine Z.metZ (by decide +kernel) (fun h => ⟨rfl, rfl⟩) (L0 := [(0, .int x0), (1, .int x1)]) (by first | (rw [zla_i, zla_i, zla_0]; done) | (rw [zla_i, zla_i, zla_0]; rfl)) (by rw [zsl_i, zsl_i, zsl_0]; exact Nat.le_of_ble_eq_true rfl) ?_
  intro p e R s m args below meth c D A n0 sz k F
  have F : ZF p R s m args meth c cX1_has 2 "SafeBuckets" "has" (some .boolean) D A false sz 0 0 0 0 := F
  unfold f_X1_has
  refine Z.iload_n F 0 rfl dX1_has_0 ?_
  refine Z.iload_n F 1 rfl dX1_has_1 ?_
  refine Z.ishr F dX1_has_2 ?_
  refine Z.iconst F (v := (1 : Int32)) (by decide) dX1_has_3 ?_
  refine Z.iand F dX1_has_4 ?_
  refine Z.iconst F (v := (1 : Int32)) (by decide) dX1_has_5 ?_
  refine Z.jn1 (J := _) (fun p14s0 => []) (fun p14s0 => [.int p14s0]) 14 (fun p14s0 => ?_) (fun j14 hj14 => ?_)
  · exact Z.zret F dX1_has_14
  refine Z.icmp_ne F (tgt := 13) dX1_has_6 (by decide) ?_ ?_
  · refine Z.iconst F (v := (0 : Int32)) (by decide) dX1_has_13 ?_
    exact Z.sub [] rfl (hj14 (0 : Int32))
  refine Z.iconst F (v := (1 : Int32)) (by decide) dX1_has_9 ?_
  refine Z.goto F (tgt := 14) dX1_has_10 (by decide) ?_
  exact Z.sub [] rfl (hj14 (1 : Int32))
set_option maxHeartbeats 4000000 in
theorem k_X10_isDigit (l : Launch) (h0 : Nat) : ZCi l yX10_isDigit (ws_ yX10_isDigit cX10_isDigit 1 (some .boolean)) 0 0 0 0 false [zv h0] (f_X10_isDigit h0) := by
  refine Z.metZ (by decide +kernel) (fun h => ⟨rfl, rfl⟩) (L0 := [(0, zv h0)]) (by first | (rw [zla_v, zla_0]; done) | (rw [zla_v, zla_0]; rfl)) (by rw [zsl_v, zsl_0]; exact Nat.le_of_ble_eq_true rfl) ?_
  intro p e R s m args below meth c D A n0 sz k F
  have F : ZF p R s m args meth c cX10_isDigit 1 "SafeBuckets$Reader" "isDigit" (some .boolean) D A false sz 0 0 0 0 := F
  unfold f_X10_isDigit
  refine Z.aload_n F 0 rfl dX10_isDigit_0 ?_
  refine gfX10_15 F dX10_isDigit_1 (fun g1 => ?_)
  refine Z.aload_n F 0 rfl dX10_isDigit_4 ?_
  refine gfX10_3 F dX10_isDigit_5 (fun g5 => ?_)
  refine gfX10_19 F dX10_isDigit_8 (fun g8 => ?_)
  refine Z.jn1 (J := _) (fun p53s0 => []) (fun p53s0 => [.int p53s0]) 53 (fun p53s0 => ?_) (fun j53 hj53 => ?_)
  · exact Z.zret F dX10_isDigit_53
  refine Z.jn0 (J := _) ([]) ([]) 52 (?_) (fun j52 hj52 => ?_)
  · refine Z.iconst F (v := (0 : Int32)) (by decide) dX10_isDigit_52 ?_
    exact Z.sub [] rfl (hj53 (0 : Int32))
  refine Z.icmp_ge F (tgt := 52) dX10_isDigit_11 (by decide) ?_ ?_
  · exact Z.sub [] rfl (hj52)
  refine Z.aload_n F 0 rfl dX10_isDigit_14 ?_
  refine gfX10_3 F dX10_isDigit_15 (fun g15 => ?_)
  refine gfX10_22 F dX10_isDigit_18 (fun g18 => ?_)
  refine Z.aload_n F 0 rfl dX10_isDigit_21 ?_
  refine gfX10_15 F dX10_isDigit_22 (fun g22 => ?_)
  refine Z.bald F dX10_isDigit_25 (fun g25 => ?_)
  refine Z.bipush F (v := (48 : Int32)) (by decide) dX10_isDigit_26 ?_
  refine Z.icmp_lt F (tgt := 52) dX10_isDigit_28 (by decide) ?_ ?_
  · exact Z.sub [] rfl (hj52)
  refine Z.aload_n F 0 rfl dX10_isDigit_31 ?_
  refine gfX10_3 F dX10_isDigit_32 (fun g32 => ?_)
  refine gfX10_22 F dX10_isDigit_35 (fun g35 => ?_)
  refine Z.aload_n F 0 rfl dX10_isDigit_38 ?_
  refine gfX10_15 F dX10_isDigit_39 (fun g39 => ?_)
  refine Z.bald F dX10_isDigit_42 (fun g42 => ?_)
  refine Z.bipush F (v := (57 : Int32)) (by decide) dX10_isDigit_43 ?_
  refine Z.icmp_gt F (tgt := 52) dX10_isDigit_45 (by decide) ?_ ?_
  · exact Z.sub [] rfl (hj52)
  refine Z.iconst F (v := (1 : Int32)) (by decide) dX10_isDigit_48 ?_
  refine Z.goto F (tgt := 53) dX10_isDigit_49 (by decide) ?_
  exact Z.sub [] rfl (hj53 (1 : Int32))
theorem clX10_31 (F : ZF p R s m args meth c cc nL "SafeBuckets$Reader" nm ret D A al sz mc ms fr lo) {h0 : Nat} {K : Int32 → ZM → Prop} (hR : 0 + 1 ≤ fr ∧ 8 + (1 + 11) + 0 ≤ lo) (hst4 : zlw st) (hdg : decode cc pc = .ok (.invokevirtual 31, 3)) (k : ∀ r, ZW p l e R s m args below meth c Q nL D A al n0 (K r) (pc + 3) L (.int r :: st)) : ZW p l e R s m args below meth c Q nL D A al n0 (zat 8 h0 (f_X10_peek h0 K)) pc L (zv h0 :: st) :=
  Z.ri0 _ (fun μ H locs cells slots ls hI h hP => Z.V0 F hI (n := 0) (ci := 7) rfl (by decide) hP.1 hP.2 (k_X10_peek l h0 D A (zX μ, zC μ, zS μ) H.size K μ) q544 q546 qs3 q127 q547 (by decide +kernel) rfl h.1 hst4 hR rfl hdg) k
theorem clX10_35 (F : ZF p R s m args meth c cc nL "SafeBuckets$Reader" nm ret D A al sz mc ms fr lo) {h0 : Nat} {K : Int32 → ZM → Prop} (hR : 0 + 1 ≤ fr ∧ 8 + (1 + 11) + 0 ≤ lo) (hst4 : zlw st) (hdg : decode cc pc = .ok (.invokevirtual 35, 3)) (k : ∀ r, ZW p l e R s m args below meth c Q nL D A al n0 (K r) (pc + 3) L (.int r :: st)) : ZW p l e R s m args below meth c Q nL D A al n0 (zat 8 h0 (f_X10_isDigit h0 K)) pc L (zv h0 :: st) :=
  Z.ri0 _ (fun μ H locs cells slots ls hI h hP => Z.V0 F hI (n := 0) (ci := 7) rfl (by decide) hP.1 hP.2 (k_X10_isDigit l h0 D A (zX μ, zC μ, zS μ) H.size K μ) q726 q728 qs7 q127 q729 (by decide +kernel) rfl h.1 hst4 hR rfl hdg) k
theorem clX10_39 (F : ZF p R s m args meth c cc nL "SafeBuckets$Reader" nm ret D A true sz mc ms fr lo) {h0 : Nat} {x1 : Int32} {K : Int32 → ZM → Prop} {Kx : Nat → ZM → Prop} (hR : 4 + 1 ≤ fr ∧ 8 + (2 + 11) + 89 ≤ lo) (hst4 : zlw st) (hdg : decode cc pc = .ok (.invokevirtual 39, 3)) (kx : ZX p l e R s m args below meth c Q nL D A true n0 "SafeBuckets$Wrong" Kx pc L) (k : ∀ r, ZW p l e R s m args below meth c Q nL D A true n0 (K r) (pc + 3) L (.int r :: st)) : ZW p l e R s m args below meth c Q nL D A true n0 (zat 8 h0 (zclx' 1 7 (fun k kx => f_X10_take h0 x1 kx k) Kx K)) pc L (.int x1 :: zv h0 :: st) :=
  Z.xi1 (fun μ H locs cells slots ls hI h hP => ⟨hP.2.1, hP.2.2.1, Z.Vx1 F hI (n := 1) (ci := 7) rfl (by decide) hP.1 hP.2.1 hP.2.2.1 hP.2.2.2 (k_X10_take l h0 x1 D A (0, 0, 0) 0 (fun r μ' => K r (zcs μ' (zC μ - 1) (zS μ - 7))) (fun r μ' => Kx r (zcs μ' (zC μ - 1) (zS μ - 7))) (zcs μ 1 7)) q548 q550 qs4 q127 q551 (by decide +kernel) rfl h.1 hst4 hR rfl hdg⟩) kx k
set_option maxHeartbeats 4000000 in
theorem k_X10_number (l : Launch) (h0 : Nat) (x1 : Int32) : ZCix l yX10_number (ws_ yX10_number cX10_number 5 (some .int)) 5 110 8 56 true "SafeBuckets$Wrong" [zv h0, .int x1] (fun k kx => f_X10_number h0 x1 kx k) := by
  refine Z.metIx (by decide +kernel) (fun h => by cases h) (L0 := [(0, zv h0), (1, .int x1)]) (by first | (rw [zla_v, zla_i, zla_0]; done) | (rw [zla_v, zla_i, zla_0]; rfl)) (by rw [zsl_v, zsl_i, zsl_0]; exact Nat.le_of_ble_eq_true rfl) ?_
  intro p e R s m args below meth c D A n0 sz k kx F htb
  have F : ZF p R s m args meth c cX10_number 5 "SafeBuckets$Reader" "number" (some .int) D A true sz 8 56 5 110 := F
  show ZW p l e R s m args below meth c _ _ D A _ _ (f_X10_number h0 x1 kx k) _ _ _
  unfold f_X10_number
  refine Z.aload_n F 0 rfl dX10_number_0 ?_
  refine clX10_31 F ⟨Nat.le_of_ble_eq_true rfl, Nat.le_of_ble_eq_true rfl⟩ (zlw4 (Nat.le_of_ble_eq_true rfl)) dX10_number_1 (fun r1 => ?_)
  refine Z.istore_n F (L0 := [(0, zv h0), (1, .int x1)]) [0, 1] rfl (zkR rfl (zkI rfl zkN)) (by decide) dX10_number_4 ?_
  refine Z.aload_n F 1 rfl dX10_number_5 ?_
  refine Z.aload_n F 1 rfl dX10_number_6 ?_
  refine clX10_35 F ⟨Nat.le_of_ble_eq_true rfl, Nat.le_of_ble_eq_true rfl⟩ (zlw4 (Nat.le_of_ble_eq_true rfl)) dX10_number_7 (fun r7 => ?_)
  refine clX10_39 F ⟨Nat.le_of_ble_eq_true rfl, Nat.le_of_ble_eq_true rfl⟩ (zlw4 (Nat.le_of_ble_eq_true rfl)) dX10_number_10 (Z.out F (by rw [htb]; exact fun _ h => by cases h)) (fun r10 => ?_)
  refine Z.bipush F (v := (48 : Int32)) (by decide) dX10_number_13 ?_
  refine Z.isub F dX10_number_15 ?_
  refine Z.istore_n F (L0 := [(2, .int r1), (0, zv h0), (1, .int x1)]) [0, 1, 2] rfl (zkI rfl (zkR rfl (zkI rfl zkN))) (by decide) dX10_number_16 ?_
  refine Z.iconst F (v := (1 : Int32)) (by decide) dX10_number_17 ?_
  refine Z.istore F (L0 := [(3, .int (r10 - (48 : Int32))), (2, .int r1), (0, zv h0), (1, .int x1)]) [0, 1, 2, 3] rfl (zkI rfl (zkI rfl (zkR rfl (zkI rfl zkN)))) (by decide) dX10_number_18 ?_
  refine Z.jn1 (J := _) (fun p53l3 => [(0, zv h0), (3, .int p53l3)]) (fun p53l3 => []) 53 (fun p53l3 => ?_) (fun j53 hj53 => ?_)
  · refine Z.aload_n F 0 rfl dX10_number_53 ?_
    refine clX10_35 F ⟨Nat.le_of_ble_eq_true rfl, Nat.le_of_ble_eq_true rfl⟩ (zlw4 (Nat.le_of_ble_eq_true rfl)) dX10_number_54 (fun r54 => ?_)
    refine Z.if_eq F (tgt := 72) dX10_number_57 (by decide) ?_ ?_
    · refine Z.iload_n F 1 rfl dX10_number_72 ?_
      exact Z.retx (Z.iret F dX10_number_73)
    refine Z.newO F in_X12 tyX12 tyX12_ok (ci := 9) rfl (by decide) q552 q553 q129 df_X12 dX10_number_60 (fun n60 => ?_)
    refine Z.dup F dX10_number_63 ?_
    refine Z.aload_n F 0 rfl dX10_number_64 ?_
    refine gfX10_15 F dX10_number_65 (fun g65 => ?_)
    refine clX10_28 F ⟨Nat.le_of_ble_eq_true rfl, Nat.le_of_ble_eq_true rfl⟩ (zlw4 (Nat.le_of_ble_eq_true rfl)) dX10_number_68 ?_
    exact Z.athrow F (ci := 9) rfl (by decide) dX10_number_71 (Z.out F (by rw [htb]; exact fun _ h => by cases h))
  refine Z.sub [3, 4, 1, 0] rfl ?_
  refine Z.w2 (Lf := fun p20l3 p20l4 => [(0, zv h0), (1, .int x1), (3, .int p20l3), (4, .int p20l4)]) (sf := fun p20l3 p20l4 => []) (fun r20 hr20 p20l3 p20l4 => ?_) (r10 - (48 : Int32)) (1 : Int32)
  refine Z.iload F 3 rfl dX10_number_20 ?_
  refine Z.iload_n F 1 rfl dX10_number_22 ?_
  refine Z.icmp_ge F (tgt := 53) dX10_number_23 (by decide) ?_ ?_
  · exact Z.sub [0, 2] rfl (hj53 p20l3)
  refine Z.aload_n F 0 rfl dX10_number_26 ?_
  refine clX10_35 F ⟨Nat.le_of_ble_eq_true rfl, Nat.le_of_ble_eq_true rfl⟩ (zlw4 (Nat.le_of_ble_eq_true rfl)) dX10_number_27 (fun r27 => ?_)
  refine Z.if_eq F (tgt := 53) dX10_number_30 (by decide) ?_ ?_
  · exact Z.sub [0, 2] rfl (hj53 p20l3)
  refine Z.bipush F (v := (10 : Int32)) (by decide) dX10_number_33 ?_
  refine Z.iload_n F 2 rfl dX10_number_35 ?_
  refine Z.imul F dX10_number_36 ?_
  refine Z.aload_n F 0 rfl dX10_number_37 ?_
  refine Z.iconst F (v := (1 : Int32)) (by decide) dX10_number_38 ?_
  refine clX10_39 F ⟨Nat.le_of_ble_eq_true rfl, Nat.le_of_ble_eq_true rfl⟩ (zlw4 (Nat.le_of_ble_eq_true rfl)) dX10_number_39 (Z.out F (by rw [htb]; exact fun _ h => by cases h)) (fun r39 => ?_)
  refine Z.iadd F dX10_number_42 ?_
  refine Z.bipush F (v := (48 : Int32)) (by decide) dX10_number_43 ?_
  refine Z.isub F dX10_number_45 ?_
  refine Z.istore_n F (L0 := [(0, zv h0), (1, .int x1), (4, .int p20l4)]) [0, 1, 3] rfl (zkR rfl (zkI rfl (zkI rfl zkN))) (by decide) dX10_number_46 ?_
  refine Z.iinc F (L0 := [(3, .int ((((10 : Int32) * p20l3) + r39) - (48 : Int32))), (0, zv h0), (1, .int x1)]) (k0 := 3) (v := (1 : Int32)) rfl (by decide) [0, 1, 2] rfl (zkI rfl (zkR rfl (zkI rfl zkN))) (by decide) dX10_number_47 ?_
  refine Z.goto F (tgt := 20) dX10_number_50 (by decide) ?_
  exact Z.sub [2, 3, 1, 0] rfl (hr20 ((((10 : Int32) * p20l3) + r39) - (48 : Int32)) (p20l4 + (1 : Int32)))
set_option maxHeartbeats 4000000 in
theorem k_X13_isWell (l : Launch) (h0 : Nat) (x1 : Int32) (x2 : Int32) : ZCi l yX13_isWell (ws_ yX13_isWell cX13_isWell 3 (some .boolean)) 0 0 0 0 false [zv h0, .int x1, .int x2] (f_X13_isWell h0 x1 x2) := by
  refine Z.metZ (by decide +kernel) (fun h => ⟨rfl, rfl⟩) (L0 := [(0, zv h0), (1, .int x1), (2, .int x2)]) (by first | (rw [zla_v, zla_i, zla_i, zla_0]; done) | (rw [zla_v, zla_i, zla_i, zla_0]; rfl)) (by rw [zsl_v, zsl_i, zsl_i, zsl_0]; exact Nat.le_of_ble_eq_true rfl) ?_
  intro p e R s m args below meth c D A n0 sz k F
  have F : ZF p R s m args meth c cX13_isWell 3 "SafeBuckets$Told" "isWell" (some .boolean) D A false sz 0 0 0 0 := F
  unfold f_X13_isWell
  refine Z.iload_n F 2 rfl dX13_isWell_0 ?_
  refine Z.jn1 (J := _) (fun p9s0 => []) (fun p9s0 => [.int p9s0]) 9 (fun p9s0 => ?_) (fun j9 hj9 => ?_)
  · exact Z.zret F dX13_isWell_9
  refine Z.if_lt F (tgt := 8) dX13_isWell_1 (by decide) ?_ ?_
  · refine Z.iconst F (v := (0 : Int32)) (by decide) dX13_isWell_8 ?_
    exact Z.sub [] rfl (hj9 (0 : Int32))
  refine Z.iconst F (v := (1 : Int32)) (by decide) dX13_isWell_4 ?_
  refine Z.goto F (tgt := 9) dX13_isWell_5 (by decide) ?_
  exact Z.sub [] rfl (hj9 (1 : Int32))
theorem clX16_11 (F : ZF p R s m args meth c cc nL "SafeBuckets$ToldTable" nm ret D A al sz mc ms fr lo) {h0 : Nat} {x1 : Int32} {x2 : Int32} {K : Int32 → ZM → Prop} (hR : 0 + 1 ≤ fr ∧ 8 + (3 + 11) + 0 ≤ lo) (hst4 : zlw st) (hdg : decode cc pc = .ok (.invokespecial 11, 3)) (k : ∀ r, ZW p l e R s m args below meth c Q nL D A al n0 (K r) (pc + 3) L (.int r :: st)) : ZW p l e R s m args below meth c Q nL D A al n0 (zat 12 h0 (f_X13_isWell h0 x1 x2 K)) pc L (.int x2 :: .int x1 :: zv h0 :: st) :=
  Z.ri0 _ (fun μ H locs cells slots ls hI h hP => Z.SU0 F hI (n := 2) (ci := 11) rfl (by decide) hP.1 hP.2 (k_X13_isWell l h0 x1 x2 D A (zX μ, zC μ, zS μ) H.size K μ) q755 q731 q605 q737 q738 q130 q739 (by decide +kernel) rfl h.1 hst4 hR rfl hdg) k
theorem clX16_19 (F : ZF p R s m args meth c cc nL "SafeBuckets$ToldTable" nm ret D A al sz mc ms fr lo) {x0 : Int64} {x2 : Int64} {x4 : Int64} {K : Int32 → ZM → Prop} (hR : 0 + 1 ≤ fr ∧ 8 + (6 + 11) + 0 ≤ lo) (hst4 : zlw st) (hdg : decode cc pc = .ok (.invokestatic 19, 3)) (k : ∀ r, ZW p l e R s m args below meth c Q nL D A al n0 (K r) (pc + 3) L (.int r :: st)) : ZW p l e R s m args below meth c Q nL D A al n0 (f_X1_isIn x0 x2 x4 K) pc L (.long x4 :: .long x2 :: .long x0 :: st) :=
  Z.ri0 _ (fun μ H locs cells slots ls hI h hP => Z.SN0 F hI (n := 3) hP (k_X1_isIn l x0 x2 x4 D A (zX μ, zC μ, zS μ) H.size K μ) (List.mem_of_getElem? (i := 16) rfl) q483 q116 q484 (by decide +kernel) rfl h.1 hst4 hR rfl hdg) k
set_option maxHeartbeats 4000000 in
theorem k_X16_isWell (l : Launch) (h0 : Nat) (x1 : Int32) (x2 : Int32) : ZCi l yX16_isWell (ws_ yX16_isWell cX16_isWell 3 (some .boolean)) 1 25 0 0 false [zv h0, .int x1, .int x2] (f_X16_isWell h0 x1 x2) := by
  refine Z.metZ (by decide +kernel) (fun h => ⟨rfl, rfl⟩) (L0 := [(0, zv h0), (1, .int x1), (2, .int x2)]) (by first | (rw [zla_v, zla_i, zla_i, zla_0]; done) | (rw [zla_v, zla_i, zla_i, zla_0]; rfl)) (by rw [zsl_v, zsl_i, zsl_i, zsl_0]; exact Nat.le_of_ble_eq_true rfl) ?_
  intro p e R s m args below meth c D A n0 sz k F
  have F : ZF p R s m args meth c cX16_isWell 3 "SafeBuckets$ToldTable" "isWell" (some .boolean) D A false sz 0 0 1 25 := F
  unfold f_X16_isWell
  refine Z.aload_n F 0 rfl dX16_isWell_0 ?_
  refine Z.iload_n F 1 rfl dX16_isWell_1 ?_
  refine Z.iload_n F 2 rfl dX16_isWell_2 ?_
  refine clX16_11 F ⟨Nat.le_of_ble_eq_true rfl, Nat.le_of_ble_eq_true rfl⟩ (zlw4 (Nat.le_of_ble_eq_true rfl)) dX16_isWell_3 (fun r3 => ?_)
  refine Z.jn1 (J := _) (fun p28s0 => []) (fun p28s0 => [.int p28s0]) 28 (fun p28s0 => ?_) (fun j28 hj28 => ?_)
  · exact Z.zret F dX16_isWell_28
  refine Z.jn0 (J := _) ([]) ([]) 27 (?_) (fun j27 hj27 => ?_)
  · refine Z.iconst F (v := (0 : Int32)) (by decide) dX16_isWell_27 ?_
    exact Z.sub [] rfl (hj28 (0 : Int32))
  refine Z.if_eq F (tgt := 27) dX16_isWell_6 (by decide) ?_ ?_
  · exact Z.sub [] rfl (hj27)
  refine Z.iload_n F 2 rfl dX16_isWell_9 ?_
  refine Z.i2l F dX16_isWell_10 ?_
  refine Z.ldc2 F q756 dX16_isWell_11 ?_
  refine Z.ldc2 F q757 dX16_isWell_14 ?_
  refine clX16_19 F ⟨Nat.le_of_ble_eq_true rfl, Nat.le_of_ble_eq_true rfl⟩ (zlw4 (Nat.le_of_ble_eq_true rfl)) dX16_isWell_17 (fun r17 => ?_)
  refine Z.if_eq F (tgt := 27) dX16_isWell_20 (by decide) ?_ ?_
  · exact Z.sub [] rfl (hj27)
  refine Z.iconst F (v := (1 : Int32)) (by decide) dX16_isWell_23 ?_
  refine Z.goto F (tgt := 28) dX16_isWell_24 (by decide) ?_
  exact Z.sub [] rfl (hj28 (1 : Int32))
theorem clX15_11 (F : ZF p R s m args meth c cc nL "SafeBuckets$Rules" nm ret D A al sz mc ms fr lo) {h0 : Nat} {x1 : Int32} {x2 : Int32} {K : Int32 → ZM → Prop} (hR : 0 + 1 ≤ fr ∧ 8 + (3 + 11) + 0 ≤ lo) (hst4 : zlw st) (hdg : decode cc pc = .ok (.invokespecial 11, 3)) (k : ∀ r, ZW p l e R s m args below meth c Q nL D A al n0 (K r) (pc + 3) L (.int r :: st)) : ZW p l e R s m args below meth c Q nL D A al n0 (zat 11 h0 (f_X13_isWell h0 x1 x2 K)) pc L (.int x2 :: .int x1 :: zv h0 :: st) :=
  Z.ri0 _ (fun μ H locs cells slots ls hI h hP => Z.SU0 F hI (n := 2) (ci := 10) rfl (by decide) hP.1 hP.2 (k_X13_isWell l h0 x1 x2 D A (zX μ, zC μ, zS μ) H.size K μ) q747 q731 q597 q737 q738 q130 q739 (by decide +kernel) rfl h.1 hst4 hR rfl hdg) k
theorem clX15_21 (F : ZF p R s m args meth c cc nL "SafeBuckets$Rules" nm ret D A al sz mc ms fr lo) {x0 : Int64} {x2 : Int64} {x4 : Int64} {K : Int32 → ZM → Prop} (hR : 0 + 1 ≤ fr ∧ 8 + (6 + 11) + 0 ≤ lo) (hst4 : zlw st) (hdg : decode cc pc = .ok (.invokestatic 21, 3)) (k : ∀ r, ZW p l e R s m args below meth c Q nL D A al n0 (K r) (pc + 3) L (.int r :: st)) : ZW p l e R s m args below meth c Q nL D A al n0 (f_X1_isIn x0 x2 x4 K) pc L (.long x4 :: .long x2 :: .long x0 :: st) :=
  Z.ri0 _ (fun μ H locs cells slots ls hI h hP => Z.SN0 F hI (n := 3) hP (k_X1_isIn l x0 x2 x4 D A (zX μ, zC μ, zS μ) H.size K μ) (List.mem_of_getElem? (i := 12) rfl) q483 q116 q484 (by decide +kernel) rfl h.1 hst4 hR rfl hdg) k
set_option maxHeartbeats 4000000 in
theorem k_X15_isWell (l : Launch) (h0 : Nat) (x1 : Int32) (x2 : Int32) : ZCi l yX15_isWell (ws_ yX15_isWell cX15_isWell 3 (some .boolean)) 1 25 0 0 false [zv h0, .int x1, .int x2] (f_X15_isWell h0 x1 x2) := by
  refine Z.metZ (by decide +kernel) (fun h => ⟨rfl, rfl⟩) (L0 := [(0, zv h0), (1, .int x1), (2, .int x2)]) (by first | (rw [zla_v, zla_i, zla_i, zla_0]; done) | (rw [zla_v, zla_i, zla_i, zla_0]; rfl)) (by rw [zsl_v, zsl_i, zsl_i, zsl_0]; exact Nat.le_of_ble_eq_true rfl) ?_
  intro p e R s m args below meth c D A n0 sz k F
  have F : ZF p R s m args meth c cX15_isWell 3 "SafeBuckets$Rules" "isWell" (some .boolean) D A false sz 0 0 1 25 := F
  unfold f_X15_isWell
  refine Z.aload_n F 0 rfl dX15_isWell_0 ?_
  refine Z.iload_n F 1 rfl dX15_isWell_1 ?_
  refine Z.iload_n F 2 rfl dX15_isWell_2 ?_
  refine clX15_11 F ⟨Nat.le_of_ble_eq_true rfl, Nat.le_of_ble_eq_true rfl⟩ (zlw4 (Nat.le_of_ble_eq_true rfl)) dX15_isWell_3 (fun r3 => ?_)
  refine Z.jn1 (J := _) (fun p56s0 => []) (fun p56s0 => [.int p56s0]) 56 (fun p56s0 => ?_) (fun j56 hj56 => ?_)
  · exact Z.zret F dX15_isWell_56
  refine Z.jn0 (J := _) ([]) ([]) 55 (?_) (fun j55 hj55 => ?_)
  · refine Z.iconst F (v := (0 : Int32)) (by decide) dX15_isWell_55 ?_
    exact Z.sub [] rfl (hj56 (0 : Int32))
  refine Z.if_eq F (tgt := 55) dX15_isWell_6 (by decide) ?_ ?_
  · exact Z.sub [] rfl (hj55)
  refine Z.iload_n F 2 rfl dX15_isWell_9 ?_
  refine Z.i2l F dX15_isWell_10 ?_
  refine Z.iload_n F 1 rfl dX15_isWell_11 ?_
  refine Z.iconst F (v := (1 : Int32)) (by decide) dX15_isWell_12 ?_
  refine Z.jn1 (J := _) (fun p21s1 => [(1, .int x1)]) (fun p21s1 => [.long p21s1, .long x2.toInt64]) 21 (fun p21s1 => ?_) (fun j21 hj21 => ?_)
  · refine Z.iload_n F 0 rfl dX15_isWell_21 ?_
    refine Z.jn1 (J := _) (fun p45s2 => []) (fun p45s2 => [.long p45s2, .long p21s1, .long x2.toInt64]) 45 (fun p45s2 => ?_) (fun j45 hj45 => ?_)
    · refine clX15_21 F ⟨Nat.le_of_ble_eq_true rfl, Nat.le_of_ble_eq_true rfl⟩ (zlw4 (Nat.le_of_ble_eq_true rfl)) dX15_isWell_45 (fun r45 => ?_)
      refine Z.if_eq F (tgt := 55) dX15_isWell_48 (by decide) ?_ ?_
      · exact Z.sub [] rfl (hj55)
      refine Z.iconst F (v := (1 : Int32)) (by decide) dX15_isWell_51 ?_
      refine Z.goto F (tgt := 56) dX15_isWell_52 (by decide) ?_
      exact Z.sub [] rfl (hj56 (1 : Int32))
    refine Z.if_ne F (tgt := 31) dX15_isWell_22 (by decide) ?_ ?_
    · refine Z.iload_n F 0 rfl dX15_isWell_31 ?_
      refine Z.iconst F (v := (1 : Int32)) (by decide) dX15_isWell_32 ?_
      refine Z.icmp_ne F (tgt := 42) dX15_isWell_33 (by decide) ?_ ?_
      · refine Z.ldc2 F q750 dX15_isWell_42 ?_
        exact Z.sub [] rfl (hj45 (999 : Int64))
      refine Z.ldc2 F q749 dX15_isWell_36 ?_
      refine Z.goto F (tgt := 45) dX15_isWell_39 (by decide) ?_
      exact Z.sub [] rfl (hj45 (99 : Int64))
    refine Z.ldc2 F q748 dX15_isWell_25 ?_
    refine Z.goto F (tgt := 45) dX15_isWell_28 (by decide) ?_
    exact Z.sub [] rfl (hj45 (8 : Int64))
  refine Z.icmp_ne F (tgt := 20) dX15_isWell_13 (by decide) ?_ ?_
  · refine Z.lconst F (w := (1 : Int64)) (by decide) dX15_isWell_20 ?_
    exact Z.sub [1] rfl (hj21 (1 : Int64))
  refine Z.lconst F (w := (0 : Int64)) (by decide) dX15_isWell_16 ?_
  refine Z.goto F (tgt := 21) dX15_isWell_17 (by decide) ?_
  exact Z.sub [1] rfl (hj21 (0 : Int64))
theorem clX17_11 (F : ZF p R s m args meth c cc nL "SafeBuckets$Line" nm ret D A al sz mc ms fr lo) {h0 : Nat} {x1 : Int32} {x2 : Int32} {K : Int32 → ZM → Prop} (hR : 0 + 1 ≤ fr ∧ 8 + (3 + 11) + 0 ≤ lo) (hst4 : zlw st) (hdg : decode cc pc = .ok (.invokespecial 11, 3)) (k : ∀ r, ZW p l e R s m args below meth c Q nL D A al n0 (K r) (pc + 3) L (.int r :: st)) : ZW p l e R s m args below meth c Q nL D A al n0 (zat 13 h0 (f_X13_isWell h0 x1 x2 K)) pc L (.int x2 :: .int x1 :: zv h0 :: st) :=
  Z.ri0 _ (fun μ H locs cells slots ls hI h hP => Z.SU0 F hI (n := 2) (ci := 12) rfl (by decide) hP.1 hP.2 (k_X13_isWell l h0 x1 x2 D A (zX μ, zC μ, zS μ) H.size K μ) q736 q731 q613 q737 q738 q130 q739 (by decide +kernel) rfl h.1 hst4 hR rfl hdg) k
theorem clX17_21 (F : ZF p R s m args meth c cc nL "SafeBuckets$Line" nm ret D A al sz mc ms fr lo) {x0 : Int64} {x2 : Int64} {x4 : Int64} {K : Int32 → ZM → Prop} (hR : 0 + 1 ≤ fr ∧ 8 + (6 + 11) + 0 ≤ lo) (hst4 : zlw st) (hdg : decode cc pc = .ok (.invokestatic 21, 3)) (k : ∀ r, ZW p l e R s m args below meth c Q nL D A al n0 (K r) (pc + 3) L (.int r :: st)) : ZW p l e R s m args below meth c Q nL D A al n0 (f_X1_isIn x0 x2 x4 K) pc L (.long x4 :: .long x2 :: .long x0 :: st) :=
  Z.ri0 _ (fun μ H locs cells slots ls hI h hP => Z.SN0 F hI (n := 3) hP (k_X1_isIn l x0 x2 x4 D A (zX μ, zC μ, zS μ) H.size K μ) (List.mem_of_getElem? (i := 7) rfl) q483 q116 q484 (by decide +kernel) rfl h.1 hst4 hR rfl hdg) k
set_option maxHeartbeats 4000000 in
theorem k_X17_isWell (l : Launch) (h0 : Nat) (x1 : Int32) (x2 : Int32) : ZCi l yX17_isWell (ws_ yX17_isWell cX17_isWell 3 (some .boolean)) 1 25 0 0 false [zv h0, .int x1, .int x2] (f_X17_isWell h0 x1 x2) := by
  refine Z.metZ (by decide +kernel) (fun h => ⟨rfl, rfl⟩) (L0 := [(0, zv h0), (1, .int x1), (2, .int x2)]) (by first | (rw [zla_v, zla_i, zla_i, zla_0]; done) | (rw [zla_v, zla_i, zla_i, zla_0]; rfl)) (by rw [zsl_v, zsl_i, zsl_i, zsl_0]; exact Nat.le_of_ble_eq_true rfl) ?_
  intro p e R s m args below meth c D A n0 sz k F
  have F : ZF p R s m args meth c cX17_isWell 3 "SafeBuckets$Line" "isWell" (some .boolean) D A false sz 0 0 1 25 := F
  unfold f_X17_isWell
  refine Z.aload_n F 0 rfl dX17_isWell_0 ?_
  refine Z.iload_n F 1 rfl dX17_isWell_1 ?_
  refine Z.iload_n F 2 rfl dX17_isWell_2 ?_
  refine clX17_11 F ⟨Nat.le_of_ble_eq_true rfl, Nat.le_of_ble_eq_true rfl⟩ (zlw4 (Nat.le_of_ble_eq_true rfl)) dX17_isWell_3 (fun r3 => ?_)
  refine Z.jn1 (J := _) (fun p56s0 => []) (fun p56s0 => [.int p56s0]) 56 (fun p56s0 => ?_) (fun j56 hj56 => ?_)
  · exact Z.zret F dX17_isWell_56
  refine Z.jn0 (J := _) ([]) ([]) 55 (?_) (fun j55 hj55 => ?_)
  · refine Z.iconst F (v := (0 : Int32)) (by decide) dX17_isWell_55 ?_
    exact Z.sub [] rfl (hj56 (0 : Int32))
  refine Z.if_eq F (tgt := 55) dX17_isWell_6 (by decide) ?_ ?_
  · exact Z.sub [] rfl (hj55)
  refine Z.iload_n F 2 rfl dX17_isWell_9 ?_
  refine Z.i2l F dX17_isWell_10 ?_
  refine Z.iload_n F 1 rfl dX17_isWell_11 ?_
  refine Z.iconst F (v := (3 : Int32)) (by decide) dX17_isWell_12 ?_
  refine Z.jn1 (J := _) (fun p21s1 => [(1, .int x1)]) (fun p21s1 => [.long p21s1, .long x2.toInt64]) 21 (fun p21s1 => ?_) (fun j21 hj21 => ?_)
  · refine Z.iload_n F 0 rfl dX17_isWell_21 ?_
    refine Z.jn1 (J := _) (fun p45s2 => []) (fun p45s2 => [.long p45s2, .long p21s1, .long x2.toInt64]) 45 (fun p45s2 => ?_) (fun j45 hj45 => ?_)
    · refine clX17_21 F ⟨Nat.le_of_ble_eq_true rfl, Nat.le_of_ble_eq_true rfl⟩ (zlw4 (Nat.le_of_ble_eq_true rfl)) dX17_isWell_45 (fun r45 => ?_)
      refine Z.if_eq F (tgt := 55) dX17_isWell_48 (by decide) ?_ ?_
      · exact Z.sub [] rfl (hj55)
      refine Z.iconst F (v := (1 : Int32)) (by decide) dX17_isWell_51 ?_
      refine Z.goto F (tgt := 56) dX17_isWell_52 (by decide) ?_
      exact Z.sub [] rfl (hj56 (1 : Int32))
    refine Z.if_ne F (tgt := 31) dX17_isWell_22 (by decide) ?_ ?_
    · refine Z.iload_n F 0 rfl dX17_isWell_31 ?_
      refine Z.iconst F (v := (3 : Int32)) (by decide) dX17_isWell_32 ?_
      refine Z.icmp_ne F (tgt := 42) dX17_isWell_33 (by decide) ?_ ?_
      · refine Z.ldc2 F q742 dX17_isWell_42 ?_
        exact Z.sub [] rfl (hj45 (15 : Int64))
      refine Z.ldc2 F q741 dX17_isWell_36 ?_
      refine Z.goto F (tgt := 45) dX17_isWell_39 (by decide) ?_
      exact Z.sub [] rfl (hj45 (40 : Int64))
    refine Z.ldc2 F q740 dX17_isWell_25 ?_
    refine Z.goto F (tgt := 45) dX17_isWell_28 (by decide) ?_
    exact Z.sub [] rfl (hj45 (2 : Int64))
  refine Z.icmp_ne F (tgt := 20) dX17_isWell_13 (by decide) ?_ ?_
  · refine Z.lconst F (w := (0 : Int64)) (by decide) dX17_isWell_20 ?_
    exact Z.sub [1] rfl (hj21 (0 : Int64))
  refine Z.lconst F (w := (1 : Int64)) (by decide) dX17_isWell_16 ?_
  refine Z.goto F (tgt := 21) dX17_isWell_17 (by decide) ?_
  exact Z.sub [1] rfl (hj21 (1 : Int64))
theorem clX10_55 (F : ZF p R s m args meth c cc nL "SafeBuckets$Reader" nm ret D A al sz mc ms fr lo) {x0 : Int32} {x1 : Int32} {K : Int32 → ZM → Prop} (hR : 0 + 1 ≤ fr ∧ 8 + (2 + 11) + 0 ≤ lo) (hst4 : zlw st) (hdg : decode cc pc = .ok (.invokestatic 55, 3)) (k : ∀ r, ZW p l e R s m args below meth c Q nL D A al n0 (K r) (pc + 3) L (.int r :: st)) : ZW p l e R s m args below meth c Q nL D A al n0 (f_X1_has x0 x1 K) pc L (.int x1 :: .int x0 :: st) :=
  Z.ri0 _ (fun μ H locs cells slots ls hI h hP => Z.SN0 F hI (n := 2) hP (k_X1_has l x0 x1 D A (zX μ, zC μ, zS μ) H.size K μ) (List.mem_of_getElem? (i := 8) rfl) q720 q116 q721 (by decide +kernel) rfl h.1 hst4 hR rfl hdg) k
theorem gfX10_59_11 (F : ZF p R s m args meth c cc nL "SafeBuckets$Reader" nm ret D A al sz mc ms fr lo) {z : Nat} {K : Nat → ZM → Prop} (hdg : decode cc pc = .ok (.getfield 59, 3)) (k : ∀ u, ZW p l e R s m args below meth c Q nL D A al n0 (K u) (pc + 3) L (zv u :: st)) : ZW p l e R s m args below meth c Q nL D A al n0 (zgR 11 z 0 K) pc L (zv z :: st) :=
  Z.getR F (ref := "SafeBuckets$Clause") in_X15 (ci := 10) rfl (by decide) (kf := 0) (by decide) q591 (fun x h => u_same (F.hts _ q592) x h) rfl hdg k
theorem clX10_63 (F : ZF p R s m args meth c cc nL "SafeBuckets$Reader" nm ret D A true sz mc ms fr lo) {h0 : Nat} {x1 : Int32} {K : Int32 → ZM → Prop} {Kx : Nat → ZM → Prop} (hR : 5 + 1 ≤ fr ∧ 8 + (5 + 11) + 110 ≤ lo) (hst4 : zlw st) (hdg : decode cc pc = .ok (.invokevirtual 63, 3)) (kx : ZX p l e R s m args below meth c Q nL D A true n0 "SafeBuckets$Wrong" Kx pc L) (k : ∀ r, ZW p l e R s m args below meth c Q nL D A true n0 (K r) (pc + 3) L (.int r :: st)) : ZW p l e R s m args below meth c Q nL D A true n0 (zat 8 h0 (zclx' 8 56 (fun k kx => f_X10_number h0 x1 kx k) Kx K)) pc L (.int x1 :: zv h0 :: st) :=
  Z.xi1 (fun μ H locs cells slots ls hI h hP => ⟨hP.2.1, hP.2.2.1, Z.Vx1 F hI (n := 1) (ci := 7) rfl (by decide) hP.1 hP.2.1 hP.2.2.1 hP.2.2.2 (k_X10_number l h0 x1 D A (0, 0, 0) 0 (fun r μ' => K r (zcs μ' (zC μ - 8) (zS μ - 56))) (fun r μ' => Kx r (zcs μ' (zC μ - 8) (zS μ - 56))) (zcs μ 8 56)) q722 q724 qs6 q127 q725 (by decide +kernel) rfl h.1 hst4 hR rfl hdg⟩) kx k
theorem clX10_66_X15_isWell (F : ZF p R s m args meth c cc nL "SafeBuckets$Reader" nm ret D A al sz mc ms fr lo) {h0 : Nat} {x1 : Int32} {x2 : Int32} {K : Int32 → ZM → Prop} (hR : 1 + 1 ≤ fr ∧ 8 + (3 + 11) + 25 ≤ lo) (hst4 : zlw st) (hdg : decode cc pc = .ok (.invokevirtual 66, 3)) (k : ∀ r, ZW p l e R s m args below meth c Q nL D A al n0 (K r) (pc + 3) L (.int r :: st)) : ZW p l e R s m args below meth c Q nL D A al n0 (zat 11 h0 (f_X15_isWell h0 x1 x2 K)) pc L (.int x2 :: .int x1 :: zv h0 :: st) :=
  Z.ri0 _ (fun μ H locs cells slots ls hI h hP => Z.UO0 F hI (n := 2) (ci := 10) rfl (by decide) hP.1 hP.2 (k_X15_isWell l h0 x1 x2 D A (zX μ, zC μ, zS μ) H.size K μ) (owner := "SafeBuckets$Told") q730 q731 q738 q744 q745 q132 q739 q746 (by decide +kernel) rfl h.1 hst4 hR rfl hdg) k
theorem clX10_43_X15_items (F : ZF p R s m args meth c cc nL "SafeBuckets$Reader" nm ret D A al sz mc ms fr lo) {h0 : Nat} {K : Nat → ZM → Prop} (hR : 0 + 1 ≤ fr ∧ 8 + (1 + 11) + 0 ≤ lo) (hst4 : zlw st) (hdg : decode cc pc = .ok (.invokevirtual 43, 3)) (k : ∀ r, ZW p l e R s m args below meth c Q nL D A al n0 (K r) (pc + 3) L (zv r :: st)) : ZW p l e R s m args below meth c Q nL D A al n0 (zat 11 h0 (f_X15_items h0 K)) pc L (zv h0 :: st) :=
  Z.rq0 _ (fun μ H locs cells slots ls hI h hP => Z.UA0 F hI (n := 0) (ci := 10) rfl (by decide) hP.1 hP.2 (k_X15_items l h0 D A (zX μ, zC μ, zS μ) H.size K μ) (owner := "SafeBuckets$Clause") q618 q620 q625 q626 q132 q627 (List.mem_of_getElem? (i := 0) rfl) (by decide +kernel) rfl h.1 hst4 hR rfl hdg) k
set_option maxHeartbeats 4000000 in
theorem k_X10_items_11 (l : Launch) (h0 : Nat) (h1 : Nat) : ZCvx l yX10_items (ws_ yX10_items cX10_items 5 none) 20 400 60 420 true "SafeBuckets$Wrong" [zv h0, zv h1] (fun k kx => f_X10_items_11 h0 h1 kx k) := by
  refine Z.metVx (by decide +kernel) (fun h => by cases h) (L0 := [(0, zv h0), (1, zv h1)]) (by first | (rw [zla_v, zla_v, zla_0]; done) | (rw [zla_v, zla_v, zla_0]; rfl)) (by rw [zsl_v, zsl_v, zsl_0]; exact Nat.le_of_ble_eq_true rfl) ?_
  intro p e R s m args below meth c D A n0 sz k kx F htb
  have F : ZF p R s m args meth c cX10_items 5 "SafeBuckets$Reader" "items" none D A true sz 60 420 20 400 := F
  show ZW p l e R s m args below meth c _ _ D A _ _ (f_X10_items_11 h0 h1 kx k) _ _ _
  unfold f_X10_items_11
  refine Z.iconst F (v := (0 : Int32)) (by decide) dX10_items_0 ?_
  refine Z.istore_n F (L0 := [(0, zv h0), (1, zv h1)]) [0, 1] rfl (zkR rfl (zkR rfl zkN)) (by decide) dX10_items_1 ?_
  refine Z.aload_n F 1 rfl dX10_items_2 ?_
  refine clX10_31 F ⟨Nat.le_of_ble_eq_true rfl, Nat.le_of_ble_eq_true rfl⟩ (zlw4 (Nat.le_of_ble_eq_true rfl)) dX10_items_3 (fun r3 => ?_)
  refine Z.istore_n F (L0 := [(2, .int (0 : Int32)), (0, zv h0), (1, zv h1)]) [0, 1, 2] rfl (zkI rfl (zkR rfl (zkR rfl zkN))) (by decide) dX10_items_6 ?_
  refine Z.iload_n F 0 rfl dX10_items_7 ?_
  refine Z.iconst F (v := (-1 : Int32)) (by decide) dX10_items_8 ?_
  refine Z.jn1 (J := _) (fun p24s0 => [(0, zv h0), (1, zv h1), (2, .int (0 : Int32))]) (fun p24s0 => [.int p24s0]) 24 (fun p24s0 => ?_) (fun j24 hj24 => ?_)
  · refine Z.istore F (L0 := [(0, zv h0), (1, zv h1), (2, .int (0 : Int32))]) [0, 1, 2] rfl (zkR rfl (zkR rfl (zkI rfl zkN))) (by decide) dX10_items_24 ?_
    refine Z.sub [1, 2, 3, 0] rfl ?_
    refine Z.w2 (Lf := fun p26l2 p26l4 => [(0, zv h0), (1, zv h1), (2, .int p26l2), (4, .int p26l4)]) (sf := fun p26l2 p26l4 => []) (fun r26 hr26 p26l2 p26l4 => ?_) (0 : Int32) p24s0
    refine Z.iload F 3 rfl dX10_items_26 ?_
    refine Z.iconst F (v := (-1 : Int32)) (by decide) dX10_items_28 ?_
    refine Z.icmp_eq F (tgt := 127) dX10_items_29 (by decide) ?_ ?_
    · exact Z.retx (Z.vret F dX10_items_127)
    refine Z.aload_n F 0 rfl dX10_items_32 ?_
    refine Z.iload_n F 2 rfl dX10_items_33 ?_
    refine Z.iload F 3 rfl dX10_items_34 ?_
    refine clX10_55 F ⟨Nat.le_of_ble_eq_true rfl, Nat.le_of_ble_eq_true rfl⟩ (zlw4 (Nat.le_of_ble_eq_true rfl)) dX10_items_36 (fun r36 => ?_)
    refine Z.jn1 (J := _) (fun p47s1 => [(0, zv h0), (1, zv h1), (2, .int p26l2), (4, .int p26l4)]) (fun p47s1 => [.int p47s1, zv h0]) 47 (fun p47s1 => ?_) (fun j47 hj47 => ?_)
    · refine clX10_39 F ⟨Nat.le_of_ble_eq_true rfl, Nat.le_of_ble_eq_true rfl⟩ (zlw4 (Nat.le_of_ble_eq_true rfl)) dX10_items_47 (Z.out F (by rw [htb]; exact fun _ h => by cases h)) (fun r47 => ?_)
      refine Z.istore_n F (L0 := [(0, zv h0), (1, zv h1), (2, .int p26l2), (4, .int p26l4)]) [0, 1, 2, 3] rfl (zkR rfl (zkR rfl (zkI rfl (zkI rfl zkN)))) (by decide) dX10_items_50 ?_
      refine Z.iload_n F 3 rfl dX10_items_51 ?_
      refine Z.iconst F (v := (1 : Int32)) (by decide) dX10_items_52 ?_
      refine Z.iload F 4 rfl dX10_items_53 ?_
      refine Z.ishl F dX10_items_55 ?_
      refine Z.ior F dX10_items_56 ?_
      refine Z.istore_n F (L0 := [(3, .int r47), (0, zv h0), (1, zv h1), (4, .int p26l4)]) [0, 1, 2, 4] rfl (zkI rfl (zkR rfl (zkR rfl (zkI rfl zkN)))) (by decide) dX10_items_57 ?_
      refine Z.aload_n F 3 rfl dX10_items_58 ?_
      refine gfX10_59_11 F dX10_items_59 (fun g59 => ?_)
      refine Z.iload F 4 rfl dX10_items_62 ?_
      refine Z.aload_n F 2 rfl dX10_items_64 ?_
      refine Z.iconst F (v := (3 : Int32)) (by decide) dX10_items_65 ?_
      refine clX10_63 F ⟨Nat.le_of_ble_eq_true rfl, Nat.le_of_ble_eq_true rfl⟩ (zlw4 (Nat.le_of_ble_eq_true rfl)) dX10_items_66 (Z.out F (by rw [htb]; exact fun _ h => by cases h)) (fun r66 => ?_)
      refine Z.iast F dX10_items_69 ?_
      refine Z.aload_n F 3 rfl dX10_items_70 ?_
      refine Z.iload F 4 rfl dX10_items_71 ?_
      refine Z.aload_n F 3 rfl dX10_items_73 ?_
      refine gfX10_59_11 F dX10_items_74 (fun g74 => ?_)
      refine Z.iload F 4 rfl dX10_items_77 ?_
      refine Z.iald F dX10_items_79 (fun g79 => ?_)
      refine clX10_66_X15_isWell F ⟨Nat.le_of_ble_eq_true rfl, Nat.le_of_ble_eq_true rfl⟩ (zlw4 (Nat.le_of_ble_eq_true rfl)) dX10_items_80 (fun r80 => ?_)
      refine Z.if_ne F (tgt := 100) dX10_items_83 (by decide) ?_ ?_
      · refine Z.aload_n F 2 rfl dX10_items_100 ?_
        refine clX10_31 F ⟨Nat.le_of_ble_eq_true rfl, Nat.le_of_ble_eq_true rfl⟩ (zlw4 (Nat.le_of_ble_eq_true rfl)) dX10_items_101 (fun r101 => ?_)
        refine Z.istore_n F (L0 := [(2, .int (p26l2 ||| ((1 : Int32) <<< (p26l4 &&& 31)))), (0, zv h0), (1, zv h1), (4, .int p26l4)]) [0, 2, 3, 4] rfl (zkI rfl (zkR rfl (zkR rfl (zkI rfl zkN)))) (by decide) dX10_items_104 ?_
        refine Z.iload_n F 0 rfl dX10_items_105 ?_
        refine Z.iconst F (v := (-1 : Int32)) (by decide) dX10_items_106 ?_
        refine Z.jn1 (J := _) (fun p122s0 => [(0, zv h0), (1, zv h1), (2, .int (p26l2 ||| ((1 : Int32) <<< (p26l4 &&& 31))))]) (fun p122s0 => [.int p122s0]) 122 (fun p122s0 => ?_) (fun j122 hj122 => ?_)
        · refine Z.istore F (L0 := [(0, zv h0), (1, zv h1), (2, .int (p26l2 ||| ((1 : Int32) <<< (p26l4 &&& 31))))]) [0, 1, 2] rfl (zkR rfl (zkR rfl (zkI rfl zkN))) (by decide) dX10_items_122 ?_
          refine Z.goto F (tgt := 26) dX10_items_124 (by decide) ?_
          exact Z.sub [1, 2, 3, 0] rfl (hr26 (p26l2 ||| ((1 : Int32) <<< (p26l4 &&& 31))) p122s0)
        refine Z.icmp_ne F (tgt := 114) dX10_items_107 (by decide) ?_ ?_
        · refine Z.aload_n F 3 rfl dX10_items_114 ?_
          refine clX10_43_X15_items F ⟨Nat.le_of_ble_eq_true rfl, Nat.le_of_ble_eq_true rfl⟩ (zlw4 (Nat.le_of_ble_eq_true rfl)) dX10_items_115 (fun r115 => ?_)
          refine Z.iload_n F 0 rfl dX10_items_118 ?_
          refine Z.indexOf F q633 (Nat.le_of_ble_eq_true rfl) (Nat.le_of_ble_eq_true rfl) (zlw4 (Nat.le_of_ble_eq_true rfl)) dX10_items_119 (fun r119 => ?_)
          exact Z.sub [2, 3, 1] rfl (hj122 r119)
        refine Z.iconst F (v := (-1 : Int32)) (by decide) dX10_items_110 ?_
        refine Z.goto F (tgt := 122) dX10_items_111 (by decide) ?_
        exact Z.sub [2, 3, 1] rfl (hj122 (-1 : Int32))
      refine Z.newO F in_X12 tyX12 tyX12_ok (ci := 9) rfl (by decide) q552 q553 q129 df_X12 dX10_items_86 (fun n86 => ?_)
      refine Z.dup F dX10_items_89 ?_
      refine Z.aload_n F 2 rfl dX10_items_90 ?_
      refine gfX10_15 F dX10_items_91 (fun g91 => ?_)
      refine Z.iconst F (v := (1 : Int32)) (by decide) dX10_items_94 ?_
      refine Z.isub F dX10_items_95 ?_
      refine clX10_28 F ⟨Nat.le_of_ble_eq_true rfl, Nat.le_of_ble_eq_true rfl⟩ (zlw4 (Nat.le_of_ble_eq_true rfl)) dX10_items_96 ?_
      exact Z.athrow F (ci := 9) rfl (by decide) dX10_items_99 (Z.out F (by rw [htb]; exact fun _ h => by cases h))
    refine Z.if_ne F (tgt := 46) dX10_items_39 (by decide) ?_ ?_
    · refine Z.iconst F (v := (0 : Int32)) (by decide) dX10_items_46 ?_
      exact Z.sub [0, 1, 2, 3] rfl (hj47 (0 : Int32))
    refine Z.iconst F (v := (1 : Int32)) (by decide) dX10_items_42 ?_
    refine Z.goto F (tgt := 47) dX10_items_43 (by decide) ?_
    exact Z.sub [0, 1, 2, 3] rfl (hj47 (1 : Int32))
  refine Z.icmp_ne F (tgt := 16) dX10_items_9 (by decide) ?_ ?_
  · refine Z.aload_n F 3 rfl dX10_items_16 ?_
    refine clX10_43_X15_items F ⟨Nat.le_of_ble_eq_true rfl, Nat.le_of_ble_eq_true rfl⟩ (zlw4 (Nat.le_of_ble_eq_true rfl)) dX10_items_17 (fun r17 => ?_)
    refine Z.iload_n F 0 rfl dX10_items_20 ?_
    refine Z.indexOf F q633 (Nat.le_of_ble_eq_true rfl) (Nat.le_of_ble_eq_true rfl) (zlw4 (Nat.le_of_ble_eq_true rfl)) dX10_items_21 (fun r21 => ?_)
    exact Z.sub [2, 3, 1] rfl (hj24 r21)
  refine Z.iconst F (v := (-1 : Int32)) (by decide) dX10_items_12 ?_
  refine Z.goto F (tgt := 24) dX10_items_13 (by decide) ?_
  exact Z.sub [2, 3, 1] rfl (hj24 (-1 : Int32))
theorem gfX10_59_12 (F : ZF p R s m args meth c cc nL "SafeBuckets$Reader" nm ret D A al sz mc ms fr lo) {z : Nat} {K : Nat → ZM → Prop} (hdg : decode cc pc = .ok (.getfield 59, 3)) (k : ∀ u, ZW p l e R s m args below meth c Q nL D A al n0 (K u) (pc + 3) L (zv u :: st)) : ZW p l e R s m args below meth c Q nL D A al n0 (zgR 12 z 0 K) pc L (zv z :: st) :=
  Z.getR F (ref := "SafeBuckets$Clause") in_X16 (ci := 11) rfl (by decide) (kf := 0) (by decide) q591 (fun x h => u_same (F.hts _ q592) x h) rfl hdg k
theorem clX10_66_X16_isWell (F : ZF p R s m args meth c cc nL "SafeBuckets$Reader" nm ret D A al sz mc ms fr lo) {h0 : Nat} {x1 : Int32} {x2 : Int32} {K : Int32 → ZM → Prop} (hR : 1 + 1 ≤ fr ∧ 8 + (3 + 11) + 25 ≤ lo) (hst4 : zlw st) (hdg : decode cc pc = .ok (.invokevirtual 66, 3)) (k : ∀ r, ZW p l e R s m args below meth c Q nL D A al n0 (K r) (pc + 3) L (.int r :: st)) : ZW p l e R s m args below meth c Q nL D A al n0 (zat 12 h0 (f_X16_isWell h0 x1 x2 K)) pc L (.int x2 :: .int x1 :: zv h0 :: st) :=
  Z.ri0 _ (fun μ H locs cells slots ls hI h hP => Z.UO0 F hI (n := 2) (ci := 11) rfl (by decide) hP.1 hP.2 (k_X16_isWell l h0 x1 x2 D A (zX μ, zC μ, zS μ) H.size K μ) (owner := "SafeBuckets$Told") q730 q731 q738 q752 q753 q133 q739 q754 (by decide +kernel) rfl h.1 hst4 hR rfl hdg) k
theorem clX10_43_X16_items (F : ZF p R s m args meth c cc nL "SafeBuckets$Reader" nm ret D A al sz mc ms fr lo) {h0 : Nat} {K : Nat → ZM → Prop} (hR : 0 + 1 ≤ fr ∧ 8 + (1 + 11) + 0 ≤ lo) (hst4 : zlw st) (hdg : decode cc pc = .ok (.invokevirtual 43, 3)) (k : ∀ r, ZW p l e R s m args below meth c Q nL D A al n0 (K r) (pc + 3) L (zv r :: st)) : ZW p l e R s m args below meth c Q nL D A al n0 (zat 12 h0 (f_X16_items h0 K)) pc L (zv h0 :: st) :=
  Z.rq0 _ (fun μ H locs cells slots ls hI h hP => Z.UA0 F hI (n := 0) (ci := 11) rfl (by decide) hP.1 hP.2 (k_X16_items l h0 D A (zX μ, zC μ, zS μ) H.size K μ) (owner := "SafeBuckets$Clause") q618 q620 q629 q630 q133 q631 (List.mem_of_getElem? (i := 0) rfl) (by decide +kernel) rfl h.1 hst4 hR rfl hdg) k
set_option maxHeartbeats 4000000 in
theorem k_X10_items_12 (l : Launch) (h0 : Nat) (h1 : Nat) : ZCvx l yX10_items (ws_ yX10_items cX10_items 5 none) 20 400 60 420 true "SafeBuckets$Wrong" [zv h0, zv h1] (fun k kx => f_X10_items_12 h0 h1 kx k) := by
  refine Z.metVx (by decide +kernel) (fun h => by cases h) (L0 := [(0, zv h0), (1, zv h1)]) (by first | (rw [zla_v, zla_v, zla_0]; done) | (rw [zla_v, zla_v, zla_0]; rfl)) (by rw [zsl_v, zsl_v, zsl_0]; exact Nat.le_of_ble_eq_true rfl) ?_
  intro p e R s m args below meth c D A n0 sz k kx F htb
  have F : ZF p R s m args meth c cX10_items 5 "SafeBuckets$Reader" "items" none D A true sz 60 420 20 400 := F
  show ZW p l e R s m args below meth c _ _ D A _ _ (f_X10_items_12 h0 h1 kx k) _ _ _
  unfold f_X10_items_12
  refine Z.iconst F (v := (0 : Int32)) (by decide) dX10_items_0 ?_
  refine Z.istore_n F (L0 := [(0, zv h0), (1, zv h1)]) [0, 1] rfl (zkR rfl (zkR rfl zkN)) (by decide) dX10_items_1 ?_
  refine Z.aload_n F 1 rfl dX10_items_2 ?_
  refine clX10_31 F ⟨Nat.le_of_ble_eq_true rfl, Nat.le_of_ble_eq_true rfl⟩ (zlw4 (Nat.le_of_ble_eq_true rfl)) dX10_items_3 (fun r3 => ?_)
  refine Z.istore_n F (L0 := [(2, .int (0 : Int32)), (0, zv h0), (1, zv h1)]) [0, 1, 2] rfl (zkI rfl (zkR rfl (zkR rfl zkN))) (by decide) dX10_items_6 ?_
  refine Z.iload_n F 0 rfl dX10_items_7 ?_
  refine Z.iconst F (v := (-1 : Int32)) (by decide) dX10_items_8 ?_
  refine Z.jn1 (J := _) (fun p24s0 => [(0, zv h0), (1, zv h1), (2, .int (0 : Int32))]) (fun p24s0 => [.int p24s0]) 24 (fun p24s0 => ?_) (fun j24 hj24 => ?_)
  · refine Z.istore F (L0 := [(0, zv h0), (1, zv h1), (2, .int (0 : Int32))]) [0, 1, 2] rfl (zkR rfl (zkR rfl (zkI rfl zkN))) (by decide) dX10_items_24 ?_
    refine Z.sub [1, 2, 3, 0] rfl ?_
    refine Z.w2 (Lf := fun p26l2 p26l4 => [(0, zv h0), (1, zv h1), (2, .int p26l2), (4, .int p26l4)]) (sf := fun p26l2 p26l4 => []) (fun r26 hr26 p26l2 p26l4 => ?_) (0 : Int32) p24s0
    refine Z.iload F 3 rfl dX10_items_26 ?_
    refine Z.iconst F (v := (-1 : Int32)) (by decide) dX10_items_28 ?_
    refine Z.icmp_eq F (tgt := 127) dX10_items_29 (by decide) ?_ ?_
    · exact Z.retx (Z.vret F dX10_items_127)
    refine Z.aload_n F 0 rfl dX10_items_32 ?_
    refine Z.iload_n F 2 rfl dX10_items_33 ?_
    refine Z.iload F 3 rfl dX10_items_34 ?_
    refine clX10_55 F ⟨Nat.le_of_ble_eq_true rfl, Nat.le_of_ble_eq_true rfl⟩ (zlw4 (Nat.le_of_ble_eq_true rfl)) dX10_items_36 (fun r36 => ?_)
    refine Z.jn1 (J := _) (fun p47s1 => [(0, zv h0), (1, zv h1), (2, .int p26l2), (4, .int p26l4)]) (fun p47s1 => [.int p47s1, zv h0]) 47 (fun p47s1 => ?_) (fun j47 hj47 => ?_)
    · refine clX10_39 F ⟨Nat.le_of_ble_eq_true rfl, Nat.le_of_ble_eq_true rfl⟩ (zlw4 (Nat.le_of_ble_eq_true rfl)) dX10_items_47 (Z.out F (by rw [htb]; exact fun _ h => by cases h)) (fun r47 => ?_)
      refine Z.istore_n F (L0 := [(0, zv h0), (1, zv h1), (2, .int p26l2), (4, .int p26l4)]) [0, 1, 2, 3] rfl (zkR rfl (zkR rfl (zkI rfl (zkI rfl zkN)))) (by decide) dX10_items_50 ?_
      refine Z.iload_n F 3 rfl dX10_items_51 ?_
      refine Z.iconst F (v := (1 : Int32)) (by decide) dX10_items_52 ?_
      refine Z.iload F 4 rfl dX10_items_53 ?_
      refine Z.ishl F dX10_items_55 ?_
      refine Z.ior F dX10_items_56 ?_
      refine Z.istore_n F (L0 := [(3, .int r47), (0, zv h0), (1, zv h1), (4, .int p26l4)]) [0, 1, 2, 4] rfl (zkI rfl (zkR rfl (zkR rfl (zkI rfl zkN)))) (by decide) dX10_items_57 ?_
      refine Z.aload_n F 3 rfl dX10_items_58 ?_
      refine gfX10_59_12 F dX10_items_59 (fun g59 => ?_)
      refine Z.iload F 4 rfl dX10_items_62 ?_
      refine Z.aload_n F 2 rfl dX10_items_64 ?_
      refine Z.iconst F (v := (3 : Int32)) (by decide) dX10_items_65 ?_
      refine clX10_63 F ⟨Nat.le_of_ble_eq_true rfl, Nat.le_of_ble_eq_true rfl⟩ (zlw4 (Nat.le_of_ble_eq_true rfl)) dX10_items_66 (Z.out F (by rw [htb]; exact fun _ h => by cases h)) (fun r66 => ?_)
      refine Z.iast F dX10_items_69 ?_
      refine Z.aload_n F 3 rfl dX10_items_70 ?_
      refine Z.iload F 4 rfl dX10_items_71 ?_
      refine Z.aload_n F 3 rfl dX10_items_73 ?_
      refine gfX10_59_12 F dX10_items_74 (fun g74 => ?_)
      refine Z.iload F 4 rfl dX10_items_77 ?_
      refine Z.iald F dX10_items_79 (fun g79 => ?_)
      refine clX10_66_X16_isWell F ⟨Nat.le_of_ble_eq_true rfl, Nat.le_of_ble_eq_true rfl⟩ (zlw4 (Nat.le_of_ble_eq_true rfl)) dX10_items_80 (fun r80 => ?_)
      refine Z.if_ne F (tgt := 100) dX10_items_83 (by decide) ?_ ?_
      · refine Z.aload_n F 2 rfl dX10_items_100 ?_
        refine clX10_31 F ⟨Nat.le_of_ble_eq_true rfl, Nat.le_of_ble_eq_true rfl⟩ (zlw4 (Nat.le_of_ble_eq_true rfl)) dX10_items_101 (fun r101 => ?_)
        refine Z.istore_n F (L0 := [(2, .int (p26l2 ||| ((1 : Int32) <<< (p26l4 &&& 31)))), (0, zv h0), (1, zv h1), (4, .int p26l4)]) [0, 2, 3, 4] rfl (zkI rfl (zkR rfl (zkR rfl (zkI rfl zkN)))) (by decide) dX10_items_104 ?_
        refine Z.iload_n F 0 rfl dX10_items_105 ?_
        refine Z.iconst F (v := (-1 : Int32)) (by decide) dX10_items_106 ?_
        refine Z.jn1 (J := _) (fun p122s0 => [(0, zv h0), (1, zv h1), (2, .int (p26l2 ||| ((1 : Int32) <<< (p26l4 &&& 31))))]) (fun p122s0 => [.int p122s0]) 122 (fun p122s0 => ?_) (fun j122 hj122 => ?_)
        · refine Z.istore F (L0 := [(0, zv h0), (1, zv h1), (2, .int (p26l2 ||| ((1 : Int32) <<< (p26l4 &&& 31))))]) [0, 1, 2] rfl (zkR rfl (zkR rfl (zkI rfl zkN))) (by decide) dX10_items_122 ?_
          refine Z.goto F (tgt := 26) dX10_items_124 (by decide) ?_
          exact Z.sub [1, 2, 3, 0] rfl (hr26 (p26l2 ||| ((1 : Int32) <<< (p26l4 &&& 31))) p122s0)
        refine Z.icmp_ne F (tgt := 114) dX10_items_107 (by decide) ?_ ?_
        · refine Z.aload_n F 3 rfl dX10_items_114 ?_
          refine clX10_43_X16_items F ⟨Nat.le_of_ble_eq_true rfl, Nat.le_of_ble_eq_true rfl⟩ (zlw4 (Nat.le_of_ble_eq_true rfl)) dX10_items_115 (fun r115 => ?_)
          refine Z.iload_n F 0 rfl dX10_items_118 ?_
          refine Z.indexOf F q633 (Nat.le_of_ble_eq_true rfl) (Nat.le_of_ble_eq_true rfl) (zlw4 (Nat.le_of_ble_eq_true rfl)) dX10_items_119 (fun r119 => ?_)
          exact Z.sub [2, 3, 1] rfl (hj122 r119)
        refine Z.iconst F (v := (-1 : Int32)) (by decide) dX10_items_110 ?_
        refine Z.goto F (tgt := 122) dX10_items_111 (by decide) ?_
        exact Z.sub [2, 3, 1] rfl (hj122 (-1 : Int32))
      refine Z.newO F in_X12 tyX12 tyX12_ok (ci := 9) rfl (by decide) q552 q553 q129 df_X12 dX10_items_86 (fun n86 => ?_)
      refine Z.dup F dX10_items_89 ?_
      refine Z.aload_n F 2 rfl dX10_items_90 ?_
      refine gfX10_15 F dX10_items_91 (fun g91 => ?_)
      refine Z.iconst F (v := (1 : Int32)) (by decide) dX10_items_94 ?_
      refine Z.isub F dX10_items_95 ?_
      refine clX10_28 F ⟨Nat.le_of_ble_eq_true rfl, Nat.le_of_ble_eq_true rfl⟩ (zlw4 (Nat.le_of_ble_eq_true rfl)) dX10_items_96 ?_
      exact Z.athrow F (ci := 9) rfl (by decide) dX10_items_99 (Z.out F (by rw [htb]; exact fun _ h => by cases h))
    refine Z.if_ne F (tgt := 46) dX10_items_39 (by decide) ?_ ?_
    · refine Z.iconst F (v := (0 : Int32)) (by decide) dX10_items_46 ?_
      exact Z.sub [0, 1, 2, 3] rfl (hj47 (0 : Int32))
    refine Z.iconst F (v := (1 : Int32)) (by decide) dX10_items_42 ?_
    refine Z.goto F (tgt := 47) dX10_items_43 (by decide) ?_
    exact Z.sub [0, 1, 2, 3] rfl (hj47 (1 : Int32))
  refine Z.icmp_ne F (tgt := 16) dX10_items_9 (by decide) ?_ ?_
  · refine Z.aload_n F 3 rfl dX10_items_16 ?_
    refine clX10_43_X16_items F ⟨Nat.le_of_ble_eq_true rfl, Nat.le_of_ble_eq_true rfl⟩ (zlw4 (Nat.le_of_ble_eq_true rfl)) dX10_items_17 (fun r17 => ?_)
    refine Z.iload_n F 0 rfl dX10_items_20 ?_
    refine Z.indexOf F q633 (Nat.le_of_ble_eq_true rfl) (Nat.le_of_ble_eq_true rfl) (zlw4 (Nat.le_of_ble_eq_true rfl)) dX10_items_21 (fun r21 => ?_)
    exact Z.sub [2, 3, 1] rfl (hj24 r21)
  refine Z.iconst F (v := (-1 : Int32)) (by decide) dX10_items_12 ?_
  refine Z.goto F (tgt := 24) dX10_items_13 (by decide) ?_
  exact Z.sub [2, 3, 1] rfl (hj24 (-1 : Int32))
theorem gfX10_59_13 (F : ZF p R s m args meth c cc nL "SafeBuckets$Reader" nm ret D A al sz mc ms fr lo) {z : Nat} {K : Nat → ZM → Prop} (hdg : decode cc pc = .ok (.getfield 59, 3)) (k : ∀ u, ZW p l e R s m args below meth c Q nL D A al n0 (K u) (pc + 3) L (zv u :: st)) : ZW p l e R s m args below meth c Q nL D A al n0 (zgR 13 z 0 K) pc L (zv z :: st) :=
  Z.getR F (ref := "SafeBuckets$Clause") in_X17 (ci := 12) rfl (by decide) (kf := 0) (by decide) q591 (fun x h => u_same (F.hts _ q592) x h) rfl hdg k
theorem clX10_66_X17_isWell (F : ZF p R s m args meth c cc nL "SafeBuckets$Reader" nm ret D A al sz mc ms fr lo) {h0 : Nat} {x1 : Int32} {x2 : Int32} {K : Int32 → ZM → Prop} (hR : 1 + 1 ≤ fr ∧ 8 + (3 + 11) + 25 ≤ lo) (hst4 : zlw st) (hdg : decode cc pc = .ok (.invokevirtual 66, 3)) (k : ∀ r, ZW p l e R s m args below meth c Q nL D A al n0 (K r) (pc + 3) L (.int r :: st)) : ZW p l e R s m args below meth c Q nL D A al n0 (zat 13 h0 (f_X17_isWell h0 x1 x2 K)) pc L (.int x2 :: .int x1 :: zv h0 :: st) :=
  Z.ri0 _ (fun μ H locs cells slots ls hI h hP => Z.UO0 F hI (n := 2) (ci := 12) rfl (by decide) hP.1 hP.2 (k_X17_isWell l h0 x1 x2 D A (zX μ, zC μ, zS μ) H.size K μ) (owner := "SafeBuckets$Told") q730 q731 q738 q733 q734 q134 q739 q735 (by decide +kernel) rfl h.1 hst4 hR rfl hdg) k
theorem clX10_43_X17_items (F : ZF p R s m args meth c cc nL "SafeBuckets$Reader" nm ret D A al sz mc ms fr lo) {h0 : Nat} {K : Nat → ZM → Prop} (hR : 0 + 1 ≤ fr ∧ 8 + (1 + 11) + 0 ≤ lo) (hst4 : zlw st) (hdg : decode cc pc = .ok (.invokevirtual 43, 3)) (k : ∀ r, ZW p l e R s m args below meth c Q nL D A al n0 (K r) (pc + 3) L (zv r :: st)) : ZW p l e R s m args below meth c Q nL D A al n0 (zat 13 h0 (f_X17_items h0 K)) pc L (zv h0 :: st) :=
  Z.rq0 _ (fun μ H locs cells slots ls hI h hP => Z.UA0 F hI (n := 0) (ci := 12) rfl (by decide) hP.1 hP.2 (k_X17_items l h0 D A (zX μ, zC μ, zS μ) H.size K μ) (owner := "SafeBuckets$Clause") q618 q620 q621 q622 q134 q623 (List.mem_of_getElem? (i := 0) rfl) (by decide +kernel) rfl h.1 hst4 hR rfl hdg) k
set_option maxHeartbeats 4000000 in
theorem k_X10_items_13 (l : Launch) (h0 : Nat) (h1 : Nat) : ZCvx l yX10_items (ws_ yX10_items cX10_items 5 none) 20 400 60 420 true "SafeBuckets$Wrong" [zv h0, zv h1] (fun k kx => f_X10_items_13 h0 h1 kx k) := by
  refine Z.metVx (by decide +kernel) (fun h => by cases h) (L0 := [(0, zv h0), (1, zv h1)]) (by first | (rw [zla_v, zla_v, zla_0]; done) | (rw [zla_v, zla_v, zla_0]; rfl)) (by rw [zsl_v, zsl_v, zsl_0]; exact Nat.le_of_ble_eq_true rfl) ?_
  intro p e R s m args below meth c D A n0 sz k kx F htb
  have F : ZF p R s m args meth c cX10_items 5 "SafeBuckets$Reader" "items" none D A true sz 60 420 20 400 := F
  show ZW p l e R s m args below meth c _ _ D A _ _ (f_X10_items_13 h0 h1 kx k) _ _ _
  unfold f_X10_items_13
  refine Z.iconst F (v := (0 : Int32)) (by decide) dX10_items_0 ?_
  refine Z.istore_n F (L0 := [(0, zv h0), (1, zv h1)]) [0, 1] rfl (zkR rfl (zkR rfl zkN)) (by decide) dX10_items_1 ?_
  refine Z.aload_n F 1 rfl dX10_items_2 ?_
  refine clX10_31 F ⟨Nat.le_of_ble_eq_true rfl, Nat.le_of_ble_eq_true rfl⟩ (zlw4 (Nat.le_of_ble_eq_true rfl)) dX10_items_3 (fun r3 => ?_)
  refine Z.istore_n F (L0 := [(2, .int (0 : Int32)), (0, zv h0), (1, zv h1)]) [0, 1, 2] rfl (zkI rfl (zkR rfl (zkR rfl zkN))) (by decide) dX10_items_6 ?_
  refine Z.iload_n F 0 rfl dX10_items_7 ?_
  refine Z.iconst F (v := (-1 : Int32)) (by decide) dX10_items_8 ?_
  refine Z.jn1 (J := _) (fun p24s0 => [(0, zv h0), (1, zv h1), (2, .int (0 : Int32))]) (fun p24s0 => [.int p24s0]) 24 (fun p24s0 => ?_) (fun j24 hj24 => ?_)
  · refine Z.istore F (L0 := [(0, zv h0), (1, zv h1), (2, .int (0 : Int32))]) [0, 1, 2] rfl (zkR rfl (zkR rfl (zkI rfl zkN))) (by decide) dX10_items_24 ?_
    refine Z.sub [1, 2, 3, 0] rfl ?_
    refine Z.w2 (Lf := fun p26l2 p26l4 => [(0, zv h0), (1, zv h1), (2, .int p26l2), (4, .int p26l4)]) (sf := fun p26l2 p26l4 => []) (fun r26 hr26 p26l2 p26l4 => ?_) (0 : Int32) p24s0
    refine Z.iload F 3 rfl dX10_items_26 ?_
    refine Z.iconst F (v := (-1 : Int32)) (by decide) dX10_items_28 ?_
    refine Z.icmp_eq F (tgt := 127) dX10_items_29 (by decide) ?_ ?_
    · exact Z.retx (Z.vret F dX10_items_127)
    refine Z.aload_n F 0 rfl dX10_items_32 ?_
    refine Z.iload_n F 2 rfl dX10_items_33 ?_
    refine Z.iload F 3 rfl dX10_items_34 ?_
    refine clX10_55 F ⟨Nat.le_of_ble_eq_true rfl, Nat.le_of_ble_eq_true rfl⟩ (zlw4 (Nat.le_of_ble_eq_true rfl)) dX10_items_36 (fun r36 => ?_)
    refine Z.jn1 (J := _) (fun p47s1 => [(0, zv h0), (1, zv h1), (2, .int p26l2), (4, .int p26l4)]) (fun p47s1 => [.int p47s1, zv h0]) 47 (fun p47s1 => ?_) (fun j47 hj47 => ?_)
    · refine clX10_39 F ⟨Nat.le_of_ble_eq_true rfl, Nat.le_of_ble_eq_true rfl⟩ (zlw4 (Nat.le_of_ble_eq_true rfl)) dX10_items_47 (Z.out F (by rw [htb]; exact fun _ h => by cases h)) (fun r47 => ?_)
      refine Z.istore_n F (L0 := [(0, zv h0), (1, zv h1), (2, .int p26l2), (4, .int p26l4)]) [0, 1, 2, 3] rfl (zkR rfl (zkR rfl (zkI rfl (zkI rfl zkN)))) (by decide) dX10_items_50 ?_
      refine Z.iload_n F 3 rfl dX10_items_51 ?_
      refine Z.iconst F (v := (1 : Int32)) (by decide) dX10_items_52 ?_
      refine Z.iload F 4 rfl dX10_items_53 ?_
      refine Z.ishl F dX10_items_55 ?_
      refine Z.ior F dX10_items_56 ?_
      refine Z.istore_n F (L0 := [(3, .int r47), (0, zv h0), (1, zv h1), (4, .int p26l4)]) [0, 1, 2, 4] rfl (zkI rfl (zkR rfl (zkR rfl (zkI rfl zkN)))) (by decide) dX10_items_57 ?_
      refine Z.aload_n F 3 rfl dX10_items_58 ?_
      refine gfX10_59_13 F dX10_items_59 (fun g59 => ?_)
      refine Z.iload F 4 rfl dX10_items_62 ?_
      refine Z.aload_n F 2 rfl dX10_items_64 ?_
      refine Z.iconst F (v := (3 : Int32)) (by decide) dX10_items_65 ?_
      refine clX10_63 F ⟨Nat.le_of_ble_eq_true rfl, Nat.le_of_ble_eq_true rfl⟩ (zlw4 (Nat.le_of_ble_eq_true rfl)) dX10_items_66 (Z.out F (by rw [htb]; exact fun _ h => by cases h)) (fun r66 => ?_)
      refine Z.iast F dX10_items_69 ?_
      refine Z.aload_n F 3 rfl dX10_items_70 ?_
      refine Z.iload F 4 rfl dX10_items_71 ?_
      refine Z.aload_n F 3 rfl dX10_items_73 ?_
      refine gfX10_59_13 F dX10_items_74 (fun g74 => ?_)
      refine Z.iload F 4 rfl dX10_items_77 ?_
      refine Z.iald F dX10_items_79 (fun g79 => ?_)
      refine clX10_66_X17_isWell F ⟨Nat.le_of_ble_eq_true rfl, Nat.le_of_ble_eq_true rfl⟩ (zlw4 (Nat.le_of_ble_eq_true rfl)) dX10_items_80 (fun r80 => ?_)
      refine Z.if_ne F (tgt := 100) dX10_items_83 (by decide) ?_ ?_
      · refine Z.aload_n F 2 rfl dX10_items_100 ?_
        refine clX10_31 F ⟨Nat.le_of_ble_eq_true rfl, Nat.le_of_ble_eq_true rfl⟩ (zlw4 (Nat.le_of_ble_eq_true rfl)) dX10_items_101 (fun r101 => ?_)
        refine Z.istore_n F (L0 := [(2, .int (p26l2 ||| ((1 : Int32) <<< (p26l4 &&& 31)))), (0, zv h0), (1, zv h1), (4, .int p26l4)]) [0, 2, 3, 4] rfl (zkI rfl (zkR rfl (zkR rfl (zkI rfl zkN)))) (by decide) dX10_items_104 ?_
        refine Z.iload_n F 0 rfl dX10_items_105 ?_
        refine Z.iconst F (v := (-1 : Int32)) (by decide) dX10_items_106 ?_
        refine Z.jn1 (J := _) (fun p122s0 => [(0, zv h0), (1, zv h1), (2, .int (p26l2 ||| ((1 : Int32) <<< (p26l4 &&& 31))))]) (fun p122s0 => [.int p122s0]) 122 (fun p122s0 => ?_) (fun j122 hj122 => ?_)
        · refine Z.istore F (L0 := [(0, zv h0), (1, zv h1), (2, .int (p26l2 ||| ((1 : Int32) <<< (p26l4 &&& 31))))]) [0, 1, 2] rfl (zkR rfl (zkR rfl (zkI rfl zkN))) (by decide) dX10_items_122 ?_
          refine Z.goto F (tgt := 26) dX10_items_124 (by decide) ?_
          exact Z.sub [1, 2, 3, 0] rfl (hr26 (p26l2 ||| ((1 : Int32) <<< (p26l4 &&& 31))) p122s0)
        refine Z.icmp_ne F (tgt := 114) dX10_items_107 (by decide) ?_ ?_
        · refine Z.aload_n F 3 rfl dX10_items_114 ?_
          refine clX10_43_X17_items F ⟨Nat.le_of_ble_eq_true rfl, Nat.le_of_ble_eq_true rfl⟩ (zlw4 (Nat.le_of_ble_eq_true rfl)) dX10_items_115 (fun r115 => ?_)
          refine Z.iload_n F 0 rfl dX10_items_118 ?_
          refine Z.indexOf F q633 (Nat.le_of_ble_eq_true rfl) (Nat.le_of_ble_eq_true rfl) (zlw4 (Nat.le_of_ble_eq_true rfl)) dX10_items_119 (fun r119 => ?_)
          exact Z.sub [2, 3, 1] rfl (hj122 r119)
        refine Z.iconst F (v := (-1 : Int32)) (by decide) dX10_items_110 ?_
        refine Z.goto F (tgt := 122) dX10_items_111 (by decide) ?_
        exact Z.sub [2, 3, 1] rfl (hj122 (-1 : Int32))
      refine Z.newO F in_X12 tyX12 tyX12_ok (ci := 9) rfl (by decide) q552 q553 q129 df_X12 dX10_items_86 (fun n86 => ?_)
      refine Z.dup F dX10_items_89 ?_
      refine Z.aload_n F 2 rfl dX10_items_90 ?_
      refine gfX10_15 F dX10_items_91 (fun g91 => ?_)
      refine Z.iconst F (v := (1 : Int32)) (by decide) dX10_items_94 ?_
      refine Z.isub F dX10_items_95 ?_
      refine clX10_28 F ⟨Nat.le_of_ble_eq_true rfl, Nat.le_of_ble_eq_true rfl⟩ (zlw4 (Nat.le_of_ble_eq_true rfl)) dX10_items_96 ?_
      exact Z.athrow F (ci := 9) rfl (by decide) dX10_items_99 (Z.out F (by rw [htb]; exact fun _ h => by cases h))
    refine Z.if_ne F (tgt := 46) dX10_items_39 (by decide) ?_ ?_
    · refine Z.iconst F (v := (0 : Int32)) (by decide) dX10_items_46 ?_
      exact Z.sub [0, 1, 2, 3] rfl (hj47 (0 : Int32))
    refine Z.iconst F (v := (1 : Int32)) (by decide) dX10_items_42 ?_
    refine Z.goto F (tgt := 47) dX10_items_43 (by decide) ?_
    exact Z.sub [0, 1, 2, 3] rfl (hj47 (1 : Int32))
  refine Z.icmp_ne F (tgt := 16) dX10_items_9 (by decide) ?_ ?_
  · refine Z.aload_n F 3 rfl dX10_items_16 ?_
    refine clX10_43_X17_items F ⟨Nat.le_of_ble_eq_true rfl, Nat.le_of_ble_eq_true rfl⟩ (zlw4 (Nat.le_of_ble_eq_true rfl)) dX10_items_17 (fun r17 => ?_)
    refine Z.iload_n F 0 rfl dX10_items_20 ?_
    refine Z.indexOf F q633 (Nat.le_of_ble_eq_true rfl) (Nat.le_of_ble_eq_true rfl) (zlw4 (Nat.le_of_ble_eq_true rfl)) dX10_items_21 (fun r21 => ?_)
    exact Z.sub [2, 3, 1] rfl (hj24 r21)
  refine Z.iconst F (v := (-1 : Int32)) (by decide) dX10_items_12 ?_
  refine Z.goto F (tgt := 24) dX10_items_13 (by decide) ?_
  exact Z.sub [2, 3, 1] rfl (hj24 (-1 : Int32))
end ZWalk
