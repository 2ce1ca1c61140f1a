section ZWalk
variable {p : Program} {l : Launch} {e : Env} {R : Room} {s : State} {m : MethodId} {args : Array Value} {below : List Frame} {meth : Method} {c : Code} {Q : State → Prop} {nL : Nat} {D : ZD} {A : Nat → Prop} {al : Bool} {n0 : Nat × Nat × Nat} {cc : ByteArray} {nm : String} {ret : Option FieldType} {sz mc ms fr lo : Nat}
variable {P : ZM → Prop} {pc : Nat} {L : List (Nat × Value)} {st : List Value}
set_option maxHeartbeats 4000000 in
theorem k_X9_bucketOf (l : Launch) (h0 : Nat) (x1 : Int32) (x2 : Int32) (x3 : Int32) : ZCi l yX9_bucketOf (ws_ yX9_bucketOf cX9_bucketOf 5 (some .int)) 2 45 0 0 false [zv h0, .int x1, .int x2, .int x3] (f_X9_bucketOf h0 x1 x2 x3) := by
  refine Z.metI (by decide +kernel) (fun h => ⟨rfl, rfl⟩) (L0 := [(0, zv h0), (1, .int x1), (2, .int x2), (3, .int x3)]) (by first | (rw [zla_v, zla_i, zla_i, zla_i, zla_0]; done) | (rw [zla_v, zla_i, zla_i, zla_i, zla_0]; rfl)) (by rw [zsl_v, zsl_i, zsl_i, zsl_i, zsl_0]; exact Nat.le_of_ble_eq_true rfl) ?_
  intro p e R s m args below meth c D A n0 sz k F
  have F : ZF p R s m args meth c cX9_bucketOf 5 "SafeBucketsModel" "bucketOf" (some .int) D A false sz 0 0 2 45 := F
  unfold f_X9_bucketOf
  refine Z.iconst F (v := (0 : Int32)) (by decide) dX9_bucketOf_0 ?_
  refine Z.istore F (L0 := [(0, zv h0), (1, .int x1), (2, .int x2), (3, .int x3)]) [0, 1, 2, 3] rfl (zkR rfl (zkI rfl (zkI rfl (zkI rfl zkN)))) (by decide) dX9_bucketOf_1 ?_
  refine Z.sub [1, 2, 3, 4, 0] rfl ?_
  refine Z.w1 (Lf := fun p3l4 => [(0, zv h0), (1, .int x1), (2, .int x2), (3, .int x3), (4, .int p3l4)]) (sf := fun p3l4 => []) (fun r3 hr3 p3l4 => ?_) (0 : Int32)
  refine Z.aload_n F 0 rfl dX9_bucketOf_3 ?_
  refine Z.iload_n F 1 rfl dX9_bucketOf_4 ?_
  refine Z.iload_n F 2 rfl dX9_bucketOf_5 ?_
  refine Z.iload F 4 rfl dX9_bucketOf_6 ?_
  refine Z.iconst F (v := (1 : Int32)) (by decide) dX9_bucketOf_8 ?_
  refine clX9_241 F ⟨Nat.le_of_ble_eq_true rfl, Nat.le_of_ble_eq_true rfl⟩ (zlw4 (Nat.le_of_ble_eq_true rfl)) dX9_bucketOf_9 (fun r9 => ?_)
  refine Z.iload_n F 3 rfl dX9_bucketOf_12 ?_
  refine Z.icmp_ge F (tgt := 22) dX9_bucketOf_13 (by decide) ?_ ?_
  · refine Z.iload F 4 rfl dX9_bucketOf_22 ?_
    exact Z.iret F dX9_bucketOf_24
  refine Z.iinc F (L0 := [(0, zv h0), (1, .int x1), (2, .int x2), (3, .int x3)]) (k0 := 4) (v := (1 : Int32)) rfl (by decide) [0, 1, 2, 3] rfl (zkR rfl (zkI rfl (zkI rfl (zkI rfl zkN)))) (by decide) dX9_bucketOf_16 ?_
  refine Z.goto F (tgt := 3) dX9_bucketOf_19 (by decide) ?_
  exact Z.sub [1, 2, 3, 4, 0] rfl (hr3 (p3l4 + (1 : Int32)))
theorem clX9_260 (F : ZF p R s m args meth c cc nL "SafeBucketsModel" nm ret D A al sz mc ms fr lo) {h0 : Nat} {x1 : Int32} {x2 : Int32} {x3 : Int32} {K : Int32 → ZM → Prop} (hR : 2 + 1 ≤ fr ∧ 8 + (5 + 11) + 45 ≤ lo) (hst4 : zlw st) (hdg : decode cc pc = .ok (.invokevirtual 260, 3)) (k : ∀ r, ZW p l e R s m args below meth c Q nL D A al n0 (K r) (pc + 3) L (.int r :: st)) : ZW p l e R s m args below meth c Q nL D A al n0 (zat 7 h0 (f_X9_bucketOf h0 x1 x2 x3 K)) pc L (.int x3 :: .int x2 :: .int x1 :: zv h0 :: st) :=
  Z.ri0 _ (fun μ H locs cells slots ls hI h hP => Z.V0 F hI (n := 3) (ci := 6) rfl (by decide) hP.1 hP.2 (k_X9_bucketOf l h0 x1 x2 x3 D A (zX μ, zC μ, zS μ) H.size K μ) q1912 q1914 qs81 q126 q1915 (by decide +kernel) rfl h.1 hst4 hR rfl hdg) k
set_option maxHeartbeats 4000000 in
theorem k_X9_drifts (l : Launch) (h0 : Nat) (x1 : Int32) (x2 : Int32) (x3 : Int32) (x4 : Int32) : ZCv l yX9_drifts (ws_ yX9_drifts cX9_drifts 7 none) 3 69 0 0 false [zv h0, .int x1, .int x2, .int x3, .int x4] (f_X9_drifts h0 x1 x2 x3 x4) := by
  refine Z.metV (by decide +kernel) (fun h => ⟨rfl, rfl⟩) (L0 := [(0, zv h0), (1, .int x1), (2, .int x2), (3, .int x3), (4, .int x4)]) (by first | (rw [zla_v, zla_i, zla_i, zla_i, zla_i, zla_0]; done) | (rw [zla_v, zla_i, zla_i, zla_i, zla_i, zla_0]; rfl)) (by rw [zsl_v, zsl_i, zsl_i, zsl_i, zsl_i, zsl_0]; exact Nat.le_of_ble_eq_true rfl) ?_
  intro p e R s m args below meth c D A n0 sz k F
  have F : ZF p R s m args meth c cX9_drifts 7 "SafeBucketsModel" "drifts" none D A false sz 0 0 3 69 := F
  unfold f_X9_drifts
  refine Z.iload_n F 3 rfl dX9_drifts_0 ?_
  refine Z.iconst F (v := (-1 : Int32)) (by decide) dX9_drifts_1 ?_
  refine Z.icmp_ne F (tgt := 6) dX9_drifts_2 (by decide) ?_ ?_
  · refine Z.aload_n F 0 rfl dX9_drifts_6 ?_
    refine Z.iload_n F 1 rfl dX9_drifts_7 ?_
    refine Z.iload_n F 2 rfl dX9_drifts_8 ?_
    refine Z.iload_n F 3 rfl dX9_drifts_9 ?_
    refine clX9_260 F ⟨Nat.le_of_ble_eq_true rfl, Nat.le_of_ble_eq_true rfl⟩ (zlw4 (Nat.le_of_ble_eq_true rfl)) dX9_drifts_10 (fun r10 => ?_)
    refine Z.istore F (L0 := [(0, zv h0), (1, .int x1), (2, .int x2), (3, .int x3), (4, .int x4)]) [0, 1, 2, 3, 4] rfl (zkR rfl (zkI rfl (zkI rfl (zkI rfl (zkI rfl zkN))))) (by decide) dX9_drifts_13 ?_
    refine Z.aload_n F 1 rfl dX9_drifts_15 ?_
    refine Z.iload_n F 2 rfl dX9_drifts_16 ?_
    refine Z.iload_n F 3 rfl dX9_drifts_17 ?_
    refine Z.iload F 0 rfl dX9_drifts_18 ?_
    refine Z.iconst F (v := (2 : Int32)) (by decide) dX9_drifts_20 ?_
    refine clX9_241 F ⟨Nat.le_of_ble_eq_true rfl, Nat.le_of_ble_eq_true rfl⟩ (zlw4 (Nat.le_of_ble_eq_true rfl)) dX9_drifts_21 (fun r21 => ?_)
    refine Z.iload F 5 rfl dX9_drifts_24 ?_
    refine Z.iadd F dX9_drifts_26 ?_
    refine Z.istore F (L0 := [(5, .int r10), (0, zv h0), (1, .int x1), (2, .int x2), (3, .int x3), (4, .int x4)]) [0, 1, 2, 3, 4, 5] rfl (zkI rfl (zkR rfl (zkI rfl (zkI rfl (zkI rfl (zkI rfl zkN)))))) (by decide) dX9_drifts_27 ?_
    refine Z.aload_n F 2 rfl dX9_drifts_29 ?_
    refine Z.iload_n F 3 rfl dX9_drifts_30 ?_
    refine Z.iload_n F 4 rfl dX9_drifts_31 ?_
    refine Z.iload F 1 rfl dX9_drifts_32 ?_
    refine Z.iconst F (v := (2 : Int32)) (by decide) dX9_drifts_34 ?_
    refine Z.iload F 0 rfl dX9_drifts_35 ?_
    refine clX9_205 F ⟨Nat.le_of_ble_eq_true rfl, Nat.le_of_ble_eq_true rfl⟩ (zlw4 (Nat.le_of_ble_eq_true rfl)) dX9_drifts_37 ?_
    refine Z.aload_n F 2 rfl dX9_drifts_40 ?_
    refine Z.iload_n F 3 rfl dX9_drifts_41 ?_
    refine Z.iload_n F 4 rfl dX9_drifts_42 ?_
    refine Z.iload F 1 rfl dX9_drifts_43 ?_
    refine Z.iconst F (v := (3 : Int32)) (by decide) dX9_drifts_45 ?_
    refine Z.iload F 0 rfl dX9_drifts_46 ?_
    refine Z.aload_n F 2 rfl dX9_drifts_48 ?_
    refine Z.iload_n F 3 rfl dX9_drifts_49 ?_
    refine Z.iload_n F 4 rfl dX9_drifts_50 ?_
    refine Z.iload F 1 rfl dX9_drifts_51 ?_
    refine Z.iconst F (v := (3 : Int32)) (by decide) dX9_drifts_53 ?_
    refine clX9_241 F ⟨Nat.le_of_ble_eq_true rfl, Nat.le_of_ble_eq_true rfl⟩ (by simp [zlw, zvcat, zicat, zlcat]) dX9_drifts_54 (fun r54 => ?_)
    refine Z.iconst F (v := (0 : Int32)) (by decide) dX9_drifts_57 ?_
    refine Z.iload F 6 rfl dX9_drifts_58 ?_
    refine Z.mmax F q1794 (Nat.le_of_ble_eq_true rfl) (Nat.le_of_ble_eq_true rfl) (by simp [zlw, zvcat, zicat, zlcat]) dX9_drifts_60 ?_
    refine Z.iadd F dX9_drifts_63 ?_
    refine Z.mmin F q1769 (Nat.le_of_ble_eq_true rfl) (Nat.le_of_ble_eq_true rfl) (by simp [zlw, zvcat, zicat, zlcat]) dX9_drifts_64 ?_
    refine Z.nmI (fun v64 => ?_)
    refine clX9_205 F ⟨Nat.le_of_ble_eq_true rfl, Nat.le_of_ble_eq_true rfl⟩ (zlw4 (Nat.le_of_ble_eq_true rfl)) dX9_drifts_67 ?_
    refine Z.aload_n F 2 rfl dX9_drifts_70 ?_
    refine gfX9_34 F dX9_drifts_71 (fun g71 => ?_)
    refine Z.iload_n F 3 rfl dX9_drifts_74 ?_
    refine Z.iload_n F 4 rfl dX9_drifts_75 ?_
    refine clX9_199 F ⟨Nat.le_of_ble_eq_true rfl, Nat.le_of_ble_eq_true rfl⟩ (zlw4 (Nat.le_of_ble_eq_true rfl)) dX9_drifts_76 (fun r76 => ?_)
    refine Z.dup2 F dX9_drifts_79 ?_
    refine Z.iald F dX9_drifts_80 (fun g80 => ?_)
    refine Z.iload F 6 rfl dX9_drifts_81 ?_
    refine Z.jn1 (J := _) (fun p94s3 => []) (fun p94s3 => [.int p94s3, .int g80, .int r76, zv g71]) 94 (fun p94s3 => ?_) (fun j94 hj94 => ?_)
    · refine Z.iadd F dX9_drifts_94 ?_
      refine Z.iast F dX9_drifts_95 ?_
      exact Z.vret F dX9_drifts_96
    refine Z.if_ge F (tgt := 92) dX9_drifts_83 (by decide) ?_ ?_
    · refine Z.iload F 6 rfl dX9_drifts_92 ?_
      exact Z.sub [] rfl (hj94 x4)
    refine Z.iload F 6 rfl dX9_drifts_86 ?_
    refine Z.ineg F dX9_drifts_88 ?_
    refine Z.goto F (tgt := 94) dX9_drifts_89 (by decide) ?_
    exact Z.sub [] rfl (hj94 (-x4))
  exact Z.vret F dX9_drifts_5
theorem clX9_263 (F : ZF p R s m args meth c cc nL "SafeBucketsModel" nm ret D A al sz mc ms fr lo) {h0 : Nat} {x1 : Int32} {x2 : Int32} {x3 : Int32} {x4 : Int32} {K : ZM → Prop} (hR : 3 + 1 ≤ fr ∧ 8 + (7 + 11) + 69 ≤ lo) (hst4 : zlw st) (hdg : decode cc pc = .ok (.invokevirtual 263, 3)) (k : ZW p l e R s m args below meth c Q nL D A al n0 K (pc + 3) L st) : ZW p l e R s m args below meth c Q nL D A al n0 (zat 7 h0 (f_X9_drifts h0 x1 x2 x3 x4 K)) pc L (.int x4 :: .int x3 :: .int x2 :: .int x1 :: zv h0 :: st) :=
  Z.rv0 _ (fun μ H locs cells slots ls hI h hP => Z.V0 F hI (n := 4) (ci := 6) rfl (by decide) hP.1 hP.2 (k_X9_drifts l h0 x1 x2 x3 x4 D A (zX μ, zC μ, zS μ) H.size K μ) q1908 q1910 qs80 q126 q1911 (by decide +kernel) rfl h.1 hst4 hR rfl hdg) k
set_option maxHeartbeats 4000000 in
theorem k_X9_change (l : Launch) (h0 : Nat) (x1 : Int32) (x2 : Int32) (x3 : Int32) (x4 : Int32) : ZCv l yX9_change (ws_ yX9_change cX9_change 6 none) 4 106 0 0 false [zv h0, .int x1, .int x2, .int x3, .int x4] (f_X9_change h0 x1 x2 x3 x4) := by
  refine Z.metV (by decide +kernel) (fun h => ⟨rfl, rfl⟩) (L0 := [(0, zv h0), (1, .int x1), (2, .int x2), (3, .int x3), (4, .int x4)]) (by first | (rw [zla_v, zla_i, zla_i, zla_i, zla_i, zla_0]; done) | (rw [zla_v, zla_i, zla_i, zla_i, zla_i, zla_0]; rfl)) (by rw [zsl_v, zsl_i, zsl_i, zsl_i, zsl_i, zsl_0]; exact Nat.le_of_ble_eq_true rfl) ?_
  intro p e R s m args below meth c D A n0 sz k F
  have F : ZF p R s m args meth c cX9_change 6 "SafeBucketsModel" "change" none D A false sz 0 0 4 106 := F
  unfold f_X9_change
  refine Z.aload_n F 0 rfl dX9_change_0 ?_
  refine gfX9_34 F dX9_change_1 (fun g1 => ?_)
  refine Z.iload_n F 1 rfl dX9_change_4 ?_
  refine Z.iload_n F 2 rfl dX9_change_5 ?_
  refine Z.iload_n F 3 rfl dX9_change_6 ?_
  refine clX9_158 F ⟨Nat.le_of_ble_eq_true rfl, Nat.le_of_ble_eq_true rfl⟩ (zlw4 (Nat.le_of_ble_eq_true rfl)) dX9_change_7 (fun r7 => ?_)
  refine Z.dup2 F dX9_change_10 ?_
  refine Z.iald F dX9_change_11 (fun g11 => ?_)
  refine Z.iload F 4 rfl dX9_change_12 ?_
  refine Z.iadd F dX9_change_14 ?_
  refine Z.iast F dX9_change_15 ?_
  refine Z.aload_n F 0 rfl dX9_change_16 ?_
  refine Z.iload_n F 1 rfl dX9_change_17 ?_
  refine Z.iconst F (v := (0 : Int32)) (by decide) dX9_change_18 ?_
  refine Z.iload_n F 2 rfl dX9_change_19 ?_
  refine Z.iload F 4 rfl dX9_change_20 ?_
  refine clX9_263 F ⟨Nat.le_of_ble_eq_true rfl, Nat.le_of_ble_eq_true rfl⟩ (zlw4 (Nat.le_of_ble_eq_true rfl)) dX9_change_22 ?_
  refine Z.aload_n F 0 rfl dX9_change_25 ?_
  refine Z.iload_n F 1 rfl dX9_change_26 ?_
  refine Z.iconst F (v := (1 : Int32)) (by decide) dX9_change_27 ?_
  refine Z.iload_n F 3 rfl dX9_change_28 ?_
  refine Z.iload F 4 rfl dX9_change_29 ?_
  refine clX9_263 F ⟨Nat.le_of_ble_eq_true rfl, Nat.le_of_ble_eq_true rfl⟩ (zlw4 (Nat.le_of_ble_eq_true rfl)) dX9_change_31 ?_
  refine Z.iconst F (v := (0 : Int32)) (by decide) dX9_change_34 ?_
  refine Z.istore F (L0 := [(0, zv h0), (1, .int x1), (2, .int x2), (3, .int x3), (4, .int x4)]) [0, 1, 2, 3, 4] rfl (zkR rfl (zkI rfl (zkI rfl (zkI rfl (zkI rfl zkN))))) (by decide) dX9_change_35 ?_
  refine Z.sub [1, 2, 0] rfl ?_
  refine Z.w1 (Lf := fun p37l5 => [(0, zv h0), (1, .int x1), (5, .int p37l5)]) (sf := fun p37l5 => []) (fun r37 hr37 p37l5 => ?_) (0 : Int32)
  refine Z.iload F 2 rfl dX9_change_37 ?_
  refine Z.iconst F (v := (2 : Int32)) (by decide) dX9_change_39 ?_
  refine Z.icmp_ge F (tgt := 76) dX9_change_40 (by decide) ?_ ?_
  · exact Z.vret F dX9_change_76
  refine Z.aload_n F 0 rfl dX9_change_43 ?_
  refine gfX9_34 F dX9_change_44 (fun g44 => ?_)
  refine Z.iload_n F 1 rfl dX9_change_47 ?_
  refine Z.iload F 2 rfl dX9_change_48 ?_
  refine clX9_199 F ⟨Nat.le_of_ble_eq_true rfl, Nat.le_of_ble_eq_true rfl⟩ (zlw4 (Nat.le_of_ble_eq_true rfl)) dX9_change_50 (fun r50 => ?_)
  refine Z.iald F dX9_change_53 (fun g53 => ?_)
  refine Z.aload_n F 0 rfl dX9_change_54 ?_
  refine gfX9_22 F dX9_change_55 (fun g55 => ?_)
  refine Z.iconst F (v := (1 : Int32)) (by decide) dX9_change_58 ?_
  refine Z.iald F dX9_change_59 (fun g59 => ?_)
  refine Z.jn0 (J := _) ([(0, zv h0), (1, .int x1), (5, .int p37l5)]) ([]) 70 (?_) (fun j70 hj70 => ?_)
  · refine Z.iinc F (L0 := [(0, zv h0), (1, .int x1)]) (k0 := 2) (v := (1 : Int32)) rfl (by decide) [0, 1] rfl (zkR rfl (zkI rfl zkN)) (by decide) dX9_change_70 ?_
    refine Z.goto F (tgt := 37) dX9_change_73 (by decide) ?_
    exact Z.sub [1, 2, 0] rfl (hr37 (p37l5 + (1 : Int32)))
  refine Z.icmp_le F (tgt := 70) dX9_change_60 (by decide) ?_ ?_
  · exact Z.sub [0, 1, 2] rfl (hj70)
  refine Z.aload_n F 0 rfl dX9_change_63 ?_
  refine Z.iload_n F 1 rfl dX9_change_64 ?_
  refine Z.iload F 2 rfl dX9_change_65 ?_
  refine clX9_209 F ⟨Nat.le_of_ble_eq_true rfl, Nat.le_of_ble_eq_true rfl⟩ (zlw4 (Nat.le_of_ble_eq_true rfl)) dX9_change_67 ?_
  exact Z.sub [0, 1, 2] rfl (hj70)
theorem clX9_272 (F : ZF p R s m args meth c cc nL "SafeBucketsModel" nm ret D A al sz mc ms fr lo) {h0 : Nat} {x1 : Int32} {x2 : Int32} {x3 : Int32} {x4 : Int32} {K : Int32 → ZM → Prop} (hR : 3 + 1 ≤ fr ∧ 8 + (5 + 11) + 70 ≤ lo) (hst4 : zlw st) (hdg : decode cc pc = .ok (.invokevirtual 272, 3)) (k : ∀ r, ZW p l e R s m args below meth c Q nL D A al n0 (K r) (pc + 3) L (.int r :: st)) : ZW p l e R s m args below meth c Q nL D A al n0 (zat 7 h0 (f_X9_whyAdd h0 x1 x2 x3 x4 K)) pc L (.int x4 :: .int x3 :: .int x2 :: .int x1 :: zv h0 :: st) :=
  Z.ri0 _ (fun μ H locs cells slots ls hI h hP => Z.V0 F hI (n := 4) (ci := 6) rfl (by decide) hP.1 hP.2 (k_X9_whyAdd l h0 x1 x2 x3 x4 D A (zX μ, zC μ, zS μ) H.size K μ) q1887 q1889 qs75 q126 q1890 (by decide +kernel) rfl h.1 hst4 hR rfl hdg) k
theorem clX9_275 (F : ZF p R s m args meth c cc nL "SafeBucketsModel" nm ret D A al sz mc ms fr lo) {h0 : Nat} {x1 : Int32} {x2 : Int32} {x3 : Int32} {x4 : Int32} {K : Int32 → ZM → Prop} (hR : 1 + 1 ≤ fr ∧ 8 + (6 + 11) + 21 ≤ lo) (hst4 : zlw st) (hdg : decode cc pc = .ok (.invokevirtual 275, 3)) (k : ∀ r, ZW p l e R s m args below meth c Q nL D A al n0 (K r) (pc + 3) L (.int r :: st)) : ZW p l e R s m args below meth c Q nL D A al n0 (zat 7 h0 (f_X9_isRefused h0 x1 x2 x3 x4 K)) pc L (.int x4 :: .int x3 :: .int x2 :: .int x1 :: zv h0 :: st) :=
  Z.ri0 _ (fun μ H locs cells slots ls hI h hP => Z.V0 F hI (n := 4) (ci := 6) rfl (by decide) hP.1 hP.2 (k_X9_isRefused l h0 x1 x2 x3 x4 D A (zX μ, zC μ, zS μ) H.size K μ) q1896 q1898 qs77 q126 q1899 (by decide +kernel) rfl h.1 hst4 hR rfl hdg) k
theorem clX9_279 (F : ZF p R s m args meth c cc nL "SafeBucketsModel" nm ret D A al sz mc ms fr lo) {h0 : Nat} {x1 : Int32} {x2 : Int32} {x3 : Int32} {x4 : Int32} {K : ZM → Prop} (hR : 4 + 1 ≤ fr ∧ 8 + (6 + 11) + 106 ≤ lo) (hst4 : zlw st) (hdg : decode cc pc = .ok (.invokevirtual 279, 3)) (k : ZW p l e R s m args below meth c Q nL D A al n0 K (pc + 3) L st) : ZW p l e R s m args below meth c Q nL D A al n0 (zat 7 h0 (f_X9_change h0 x1 x2 x3 x4 K)) pc L (.int x4 :: .int x3 :: .int x2 :: .int x1 :: zv h0 :: st) :=
  Z.rv0 _ (fun μ H locs cells slots ls hI h hP => Z.V0 F hI (n := 4) (ci := 6) rfl (by decide) hP.1 hP.2 (k_X9_change l h0 x1 x2 x3 x4 D A (zX μ, zC μ, zS μ) H.size K μ) q1904 q1906 qs79 q126 q1907 (by decide +kernel) rfl h.1 hst4 hR rfl hdg) k
set_option maxHeartbeats 4000000 in
theorem k_X9_add (l : Launch) (h0 : Nat) (x1 : Int32) (x2 : Int32) (x3 : Int32) (x4 : Int32) : ZCi l yX9_add (ws_ yX9_add cX9_add 5 (some .int)) 5 131 0 0 false [zv h0, .int x1, .int x2, .int x3, .int x4] (f_X9_add h0 x1 x2 x3 x4) := by
  refine Z.metI (by decide +kernel) (fun h => ⟨rfl, rfl⟩) (L0 := [(0, zv h0), (1, .int x1), (2, .int x2), (3, .int x3), (4, .int x4)]) (by first | (rw [zla_v, zla_i, zla_i, zla_i, zla_i, zla_0]; done) | (rw [zla_v, zla_i, zla_i, zla_i, zla_i, zla_0]; rfl)) (by rw [zsl_v, zsl_i, zsl_i, zsl_i, zsl_i, zsl_0]; exact Nat.le_of_ble_eq_true rfl) ?_
  intro p e R s m args below meth c D A n0 sz k F
  have F : ZF p R s m args meth c cX9_add 5 "SafeBucketsModel" "add" (some .int) D A false sz 0 0 5 131 := F
  unfold f_X9_add
  refine Z.aload_n F 0 rfl dX9_add_0 ?_
  refine Z.aload_n F 0 rfl dX9_add_1 ?_
  refine Z.iload_n F 1 rfl dX9_add_2 ?_
  refine Z.iload_n F 2 rfl dX9_add_3 ?_
  refine Z.iload_n F 3 rfl dX9_add_4 ?_
  refine Z.iload F 4 rfl dX9_add_5 ?_
  refine clX9_272 F ⟨Nat.le_of_ble_eq_true rfl, Nat.le_of_ble_eq_true rfl⟩ (zlw4 (Nat.le_of_ble_eq_true rfl)) dX9_add_7 (fun r7 => ?_)
  refine Z.iconst F (v := (0 : Int32)) (by decide) dX9_add_10 ?_
  refine Z.iload_n F 1 rfl dX9_add_11 ?_
  refine Z.iload F 4 rfl dX9_add_12 ?_
  refine clX9_275 F ⟨Nat.le_of_ble_eq_true rfl, Nat.le_of_ble_eq_true rfl⟩ (zlw4 (Nat.le_of_ble_eq_true rfl)) dX9_add_14 (fun r14 => ?_)
  refine Z.if_eq F (tgt := 22) dX9_add_17 (by decide) ?_ ?_
  · refine Z.aload_n F 0 rfl dX9_add_22 ?_
    refine Z.iload_n F 1 rfl dX9_add_23 ?_
    refine Z.iload_n F 2 rfl dX9_add_24 ?_
    refine Z.iload_n F 3 rfl dX9_add_25 ?_
    refine Z.iload F 4 rfl dX9_add_26 ?_
    refine clX9_279 F ⟨Nat.le_of_ble_eq_true rfl, Nat.le_of_ble_eq_true rfl⟩ (zlw4 (Nat.le_of_ble_eq_true rfl)) dX9_add_28 ?_
    refine Z.aload_n F 0 rfl dX9_add_31 ?_
    refine Z.iload_n F 1 rfl dX9_add_32 ?_
    refine clX9_161 F ⟨Nat.le_of_ble_eq_true rfl, Nat.le_of_ble_eq_true rfl⟩ (zlw4 (Nat.le_of_ble_eq_true rfl)) dX9_add_33 (fun r33 => ?_)
    exact Z.iret F dX9_add_36
  refine Z.iconst F (v := (-1 : Int32)) (by decide) dX9_add_20 ?_
  exact Z.iret F dX9_add_21
set_option maxHeartbeats 4000000 in
theorem k_X9_whyDrop (l : Launch) (h0 : Nat) (x1 : Int32) (x2 : Int32) (x3 : Int32) (x4 : Int32) : ZCi l yX9_whyDrop (ws_ yX9_whyDrop cX9_whyDrop 5 (some .int)) 3 70 0 0 false [zv h0, .int x1, .int x2, .int x3, .int x4] (f_X9_whyDrop h0 x1 x2 x3 x4) := by
  refine Z.metI (by decide +kernel) (fun h => ⟨rfl, rfl⟩) (L0 := [(0, zv h0), (1, .int x1), (2, .int x2), (3, .int x3), (4, .int x4)]) (by first | (rw [zla_v, zla_i, zla_i, zla_i, zla_i, zla_0]; done) | (rw [zla_v, zla_i, zla_i, zla_i, zla_i, zla_0]; rfl)) (by rw [zsl_v, zsl_i, zsl_i, zsl_i, zsl_i, zsl_0]; exact Nat.le_of_ble_eq_true rfl) ?_
  intro p e R s m args below meth c D A n0 sz k F
  have F : ZF p R s m args meth c cX9_whyDrop 5 "SafeBucketsModel" "whyDrop" (some .int) D A false sz 0 0 3 70 := F
  unfold f_X9_whyDrop
  refine Z.aload_n F 0 rfl dX9_whyDrop_0 ?_
  refine Z.iload_n F 1 rfl dX9_whyDrop_1 ?_
  refine Z.iload_n F 2 rfl dX9_whyDrop_2 ?_
  refine Z.iload_n F 3 rfl dX9_whyDrop_3 ?_
  refine clX9_267 F ⟨Nat.le_of_ble_eq_true rfl, Nat.le_of_ble_eq_true rfl⟩ (zlw4 (Nat.le_of_ble_eq_true rfl)) dX9_whyDrop_4 (fun r4 => ?_)
  refine Z.jn1 (J := _) (fun p52s0 => []) (fun p52s0 => [.int p52s0]) 52 (fun p52s0 => ?_) (fun j52 hj52 => ?_)
  · exact Z.iret F dX9_whyDrop_52
  refine Z.if_ne F (tgt := 14) dX9_whyDrop_7 (by decide) ?_ ?_
  · refine Z.iload F 4 rfl dX9_whyDrop_14 ?_
    refine Z.i2l F dX9_whyDrop_16 ?_
    refine Z.lconst F (w := (1 : Int64)) (by decide) dX9_whyDrop_17 ?_
    refine Z.ldc2 F q1895 dX9_whyDrop_18 ?_
    refine clX9_77 F ⟨Nat.le_of_ble_eq_true rfl, Nat.le_of_ble_eq_true rfl⟩ (zlw4 (Nat.le_of_ble_eq_true rfl)) dX9_whyDrop_21 (fun r21 => ?_)
    refine Z.if_ne F (tgt := 31) dX9_whyDrop_24 (by decide) ?_ ?_
    · refine Z.aload_n F 0 rfl dX9_whyDrop_31 ?_
      refine gfX9_34 F dX9_whyDrop_32 (fun g32 => ?_)
      refine Z.iload_n F 1 rfl dX9_whyDrop_35 ?_
      refine Z.iload_n F 2 rfl dX9_whyDrop_36 ?_
      refine Z.iload_n F 3 rfl dX9_whyDrop_37 ?_
      refine clX9_158 F ⟨Nat.le_of_ble_eq_true rfl, Nat.le_of_ble_eq_true rfl⟩ (zlw4 (Nat.le_of_ble_eq_true rfl)) dX9_whyDrop_38 (fun r38 => ?_)
      refine Z.iald F dX9_whyDrop_41 (fun g41 => ?_)
      refine Z.iload F 4 rfl dX9_whyDrop_42 ?_
      refine Z.icmp_ge F (tgt := 51) dX9_whyDrop_44 (by decide) ?_ ?_
      · refine Z.iconst F (v := (-1 : Int32)) (by decide) dX9_whyDrop_51 ?_
        exact Z.sub [] rfl (hj52 (-1 : Int32))
      refine Z.iconst F (v := (3 : Int32)) (by decide) dX9_whyDrop_47 ?_
      refine Z.goto F (tgt := 52) dX9_whyDrop_48 (by decide) ?_
      exact Z.sub [] rfl (hj52 (3 : Int32))
    refine Z.iconst F (v := (1 : Int32)) (by decide) dX9_whyDrop_27 ?_
    refine Z.goto F (tgt := 52) dX9_whyDrop_28 (by decide) ?_
    exact Z.sub [] rfl (hj52 (1 : Int32))
  refine Z.iconst F (v := (0 : Int32)) (by decide) dX9_whyDrop_10 ?_
  refine Z.goto F (tgt := 52) dX9_whyDrop_11 (by decide) ?_
  exact Z.sub [] rfl (hj52 (0 : Int32))
theorem clX9_282 (F : ZF p R s m args meth c cc nL "SafeBucketsModel" nm ret D A al sz mc ms fr lo) {h0 : Nat} {x1 : Int32} {x2 : Int32} {x3 : Int32} {x4 : Int32} {K : Int32 → ZM → Prop} (hR : 3 + 1 ≤ fr ∧ 8 + (5 + 11) + 70 ≤ lo) (hst4 : zlw st) (hdg : decode cc pc = .ok (.invokevirtual 282, 3)) (k : ∀ r, ZW p l e R s m args below meth c Q nL D A al n0 (K r) (pc + 3) L (.int r :: st)) : ZW p l e R s m args below meth c Q nL D A al n0 (zat 7 h0 (f_X9_whyDrop h0 x1 x2 x3 x4 K)) pc L (.int x4 :: .int x3 :: .int x2 :: .int x1 :: zv h0 :: st) :=
  Z.ri0 _ (fun μ H locs cells slots ls hI h hP => Z.V0 F hI (n := 4) (ci := 6) rfl (by decide) hP.1 hP.2 (k_X9_whyDrop l h0 x1 x2 x3 x4 D A (zX μ, zC μ, zS μ) H.size K μ) q1920 q1922 qs82 q126 q1923 (by decide +kernel) rfl h.1 hst4 hR rfl hdg) k
set_option maxHeartbeats 4000000 in
theorem k_X9_drop (l : Launch) (h0 : Nat) (x1 : Int32) (x2 : Int32) (x3 : Int32) (x4 : Int32) : ZCi l yX9_drop (ws_ yX9_drop cX9_drop 5 (some .int)) 5 131 0 0 false [zv h0, .int x1, .int x2, .int x3, .int x4] (f_X9_drop h0 x1 x2 x3 x4) := by
  refine Z.metI (by decide +kernel) (fun h => ⟨rfl, rfl⟩) (L0 := [(0, zv h0), (1, .int x1), (2, .int x2), (3, .int x3), (4, .int x4)]) (by first | (rw [zla_v, zla_i, zla_i, zla_i, zla_i, zla_0]; done) | (rw [zla_v, zla_i, zla_i, zla_i, zla_i, zla_0]; rfl)) (by rw [zsl_v, zsl_i, zsl_i, zsl_i, zsl_i, zsl_0]; exact Nat.le_of_ble_eq_true rfl) ?_
  intro p e R s m args below meth c D A n0 sz k F
  have F : ZF p R s m args meth c cX9_drop 5 "SafeBucketsModel" "drop" (some .int) D A false sz 0 0 5 131 := F
  unfold f_X9_drop
  refine Z.aload_n F 0 rfl dX9_drop_0 ?_
  refine Z.aload_n F 0 rfl dX9_drop_1 ?_
  refine Z.iload_n F 1 rfl dX9_drop_2 ?_
  refine Z.iload_n F 2 rfl dX9_drop_3 ?_
  refine Z.iload_n F 3 rfl dX9_drop_4 ?_
  refine Z.iload F 4 rfl dX9_drop_5 ?_
  refine clX9_282 F ⟨Nat.le_of_ble_eq_true rfl, Nat.le_of_ble_eq_true rfl⟩ (zlw4 (Nat.le_of_ble_eq_true rfl)) dX9_drop_7 (fun r7 => ?_)
  refine Z.iconst F (v := (1 : Int32)) (by decide) dX9_drop_10 ?_
  refine Z.iload_n F 1 rfl dX9_drop_11 ?_
  refine Z.iload F 4 rfl dX9_drop_12 ?_
  refine clX9_275 F ⟨Nat.le_of_ble_eq_true rfl, Nat.le_of_ble_eq_true rfl⟩ (zlw4 (Nat.le_of_ble_eq_true rfl)) dX9_drop_14 (fun r14 => ?_)
  refine Z.if_eq F (tgt := 22) dX9_drop_17 (by decide) ?_ ?_
  · refine Z.aload_n F 0 rfl dX9_drop_22 ?_
    refine Z.iload_n F 1 rfl dX9_drop_23 ?_
    refine Z.iload_n F 2 rfl dX9_drop_24 ?_
    refine Z.iload_n F 3 rfl dX9_drop_25 ?_
    refine Z.iload F 4 rfl dX9_drop_26 ?_
    refine Z.ineg F dX9_drop_28 ?_
    refine clX9_279 F ⟨Nat.le_of_ble_eq_true rfl, Nat.le_of_ble_eq_true rfl⟩ (zlw4 (Nat.le_of_ble_eq_true rfl)) dX9_drop_29 ?_
    refine Z.aload_n F 0 rfl dX9_drop_32 ?_
    refine Z.iload_n F 1 rfl dX9_drop_33 ?_
    refine clX9_161 F ⟨Nat.le_of_ble_eq_true rfl, Nat.le_of_ble_eq_true rfl⟩ (zlw4 (Nat.le_of_ble_eq_true rfl)) dX9_drop_34 (fun r34 => ?_)
    exact Z.iret F dX9_drop_37
  refine Z.iconst F (v := (-1 : Int32)) (by decide) dX9_drop_20 ?_
  exact Z.iret F dX9_drop_21
set_option maxHeartbeats 4000000 in
theorem k_X9_move (l : Launch) (h0 : Nat) (x1 : Int32) (x2 : Int32) (x3 : Int32) (x4 : Int32) (x5 : Int32) : ZCi l yX9_move (ws_ yX9_move cX9_move 7 (some .int)) 5 131 0 0 false [zv h0, .int x1, .int x2, .int x3, .int x4, .int x5] (f_X9_move h0 x1 x2 x3 x4 x5) := by
  refine Z.metI (by decide +kernel) (fun h => ⟨rfl, rfl⟩) (L0 := [(0, zv h0), (1, .int x1), (2, .int x2), (3, .int x3), (4, .int x4), (5, .int x5)]) (by first | (rw [zla_v, zla_i, zla_i, zla_i, zla_i, zla_i, zla_0]; done) | (rw [zla_v, zla_i, zla_i, zla_i, zla_i, zla_i, zla_0]; rfl)) (by rw [zsl_v, zsl_i, zsl_i, zsl_i, zsl_i, zsl_i, zsl_0]; exact Nat.le_of_ble_eq_true rfl) ?_
  intro p e R s m args below meth c D A n0 sz k F
  have F : ZF p R s m args meth c cX9_move 7 "SafeBucketsModel" "move" (some .int) D A false sz 0 0 5 131 := F
  unfold f_X9_move
  refine Z.aload_n F 0 rfl dX9_move_0 ?_
  refine Z.iload_n F 1 rfl dX9_move_1 ?_
  refine Z.iload_n F 2 rfl dX9_move_2 ?_
  refine Z.iload_n F 3 rfl dX9_move_3 ?_
  refine clX9_267 F ⟨Nat.le_of_ble_eq_true rfl, Nat.le_of_ble_eq_true rfl⟩ (zlw4 (Nat.le_of_ble_eq_true rfl)) dX9_move_4 (fun r4 => ?_)
  refine Z.jn1 (J := _) (fun p27s0 => [(0, zv h0), (1, .int x1), (2, .int x2), (3, .int x3), (4, .int x4), (5, .int x5)]) (fun p27s0 => [.int p27s0]) 27 (fun p27s0 => ?_) (fun j27 hj27 => ?_)
  · refine Z.istore F (L0 := [(0, zv h0), (1, .int x1), (2, .int x2), (3, .int x3), (4, .int x4), (5, .int x5)]) [0, 1, 2, 3, 4, 5] rfl (zkR rfl (zkI rfl (zkI rfl (zkI rfl (zkI rfl (zkI rfl zkN)))))) (by decide) dX9_move_27 ?_
    refine Z.aload_n F 1 rfl dX9_move_29 ?_
    refine Z.iload F 0 rfl dX9_move_30 ?_
    refine Z.jn1 (J := _) (fun p74s1 => [(0, zv h0), (1, .int x1), (2, .int x2), (3, .int x3), (4, .int x4), (5, .int x5)]) (fun p74s1 => [.int p74s1, zv h0]) 74 (fun p74s1 => ?_) (fun j74 hj74 => ?_)
    · refine Z.iconst F (v := (2 : Int32)) (by decide) dX9_move_74 ?_
      refine Z.iload_n F 1 rfl dX9_move_75 ?_
      refine Z.iconst F (v := (1 : Int32)) (by decide) dX9_move_76 ?_
      refine clX9_275 F ⟨Nat.le_of_ble_eq_true rfl, Nat.le_of_ble_eq_true rfl⟩ (zlw4 (Nat.le_of_ble_eq_true rfl)) dX9_move_77 (fun r77 => ?_)
      refine Z.if_eq F (tgt := 85) dX9_move_80 (by decide) ?_ ?_
      · refine Z.aload_n F 0 rfl dX9_move_85 ?_
        refine Z.iload_n F 1 rfl dX9_move_86 ?_
        refine Z.iload_n F 2 rfl dX9_move_87 ?_
        refine Z.iload_n F 3 rfl dX9_move_88 ?_
        refine Z.iconst F (v := (-1 : Int32)) (by decide) dX9_move_89 ?_
        refine clX9_279 F ⟨Nat.le_of_ble_eq_true rfl, Nat.le_of_ble_eq_true rfl⟩ (zlw4 (Nat.le_of_ble_eq_true rfl)) dX9_move_90 ?_
        refine Z.aload_n F 0 rfl dX9_move_93 ?_
        refine Z.iload_n F 1 rfl dX9_move_94 ?_
        refine Z.iload F 4 rfl dX9_move_95 ?_
        refine Z.iload F 5 rfl dX9_move_97 ?_
        refine Z.iconst F (v := (1 : Int32)) (by decide) dX9_move_99 ?_
        refine clX9_279 F ⟨Nat.le_of_ble_eq_true rfl, Nat.le_of_ble_eq_true rfl⟩ (zlw4 (Nat.le_of_ble_eq_true rfl)) dX9_move_100 ?_
        refine Z.aload_n F 0 rfl dX9_move_103 ?_
        refine gfX9_34 F dX9_move_104 (fun g104 => ?_)
        refine Z.iload_n F 1 rfl dX9_move_107 ?_
        refine Z.iload F 4 rfl dX9_move_108 ?_
        refine Z.iload F 5 rfl dX9_move_110 ?_
        refine clX9_158 F ⟨Nat.le_of_ble_eq_true rfl, Nat.le_of_ble_eq_true rfl⟩ (zlw4 (Nat.le_of_ble_eq_true rfl)) dX9_move_112 (fun r112 => ?_)
        refine Z.iald F dX9_move_115 (fun g115 => ?_)
        exact Z.iret F dX9_move_116
      refine Z.iconst F (v := (-1 : Int32)) (by decide) dX9_move_83 ?_
      exact Z.iret F dX9_move_84
    refine Z.if_ne F (tgt := 39) dX9_move_32 (by decide) ?_ ?_
    · refine Z.iload_n F 3 rfl dX9_move_39 ?_
      refine Z.iload F 5 rfl dX9_move_40 ?_
      refine Z.jn0 (J := _) ([(0, zv h0), (1, .int x1), (2, .int x2), (3, .int x3), (4, .int x4), (5, .int x5)]) ([zv h0]) 55 (?_) (fun j55 hj55 => ?_)
      · refine Z.aload_n F 0 rfl dX9_move_55 ?_
        refine gfX9_34 F dX9_move_56 (fun g56 => ?_)
        refine Z.iload_n F 1 rfl dX9_move_59 ?_
        refine Z.iload_n F 2 rfl dX9_move_60 ?_
        refine Z.iload_n F 3 rfl dX9_move_61 ?_
        refine clX9_158 F ⟨Nat.le_of_ble_eq_true rfl, Nat.le_of_ble_eq_true rfl⟩ (zlw4 (Nat.le_of_ble_eq_true rfl)) dX9_move_62 (fun r62 => ?_)
        refine Z.iald F dX9_move_65 (fun g65 => ?_)
        refine Z.if_ne F (tgt := 73) dX9_move_66 (by decide) ?_ ?_
        · refine Z.iconst F (v := (-1 : Int32)) (by decide) dX9_move_73 ?_
          exact Z.sub [0, 1, 2, 3, 4, 5] rfl (hj74 (-1 : Int32))
        refine Z.iconst F (v := (3 : Int32)) (by decide) dX9_move_69 ?_
        refine Z.goto F (tgt := 74) dX9_move_70 (by decide) ?_
        exact Z.sub [0, 1, 2, 3, 4, 5] rfl (hj74 (3 : Int32))
      refine Z.icmp_ne F (tgt := 55) dX9_move_42 (by decide) ?_ ?_
      · exact Z.sub [1, 2, 3, 4, 5, 6] rfl (hj55)
      refine Z.iload_n F 4 rfl dX9_move_45 ?_
      refine Z.iload F 6 rfl dX9_move_46 ?_
      refine Z.icmp_ne F (tgt := 55) dX9_move_48 (by decide) ?_ ?_
      · exact Z.sub [1, 2, 3, 4, 5, 6] rfl (hj55)
      refine Z.iconst F (v := (2 : Int32)) (by decide) dX9_move_51 ?_
      refine Z.goto F (tgt := 74) dX9_move_52 (by decide) ?_
      exact Z.sub [1, 2, 3, 4, 5, 6] rfl (hj74 (2 : Int32))
    refine Z.iconst F (v := (0 : Int32)) (by decide) dX9_move_35 ?_
    refine Z.goto F (tgt := 74) dX9_move_36 (by decide) ?_
    exact Z.sub [1, 2, 3, 4, 5, 6] rfl (hj74 (0 : Int32))
  refine Z.jn0 (J := _) ([(0, zv h0), (1, .int x1), (2, .int x2), (3, .int x3), (4, .int x4), (5, .int x5)]) ([]) 26 (?_) (fun j26 hj26 => ?_)
  · refine Z.iconst F (v := (0 : Int32)) (by decide) dX9_move_26 ?_
    exact Z.sub [0, 1, 2, 3, 4, 5] rfl (hj27 (0 : Int32))
  refine Z.if_eq F (tgt := 26) dX9_move_7 (by decide) ?_ ?_
  · exact Z.sub [0, 1, 2, 3, 4, 5] rfl (hj26)
  refine Z.aload_n F 0 rfl dX9_move_10 ?_
  refine Z.iload_n F 1 rfl dX9_move_11 ?_
  refine Z.iload F 4 rfl dX9_move_12 ?_
  refine Z.iload F 5 rfl dX9_move_14 ?_
  refine clX9_267 F ⟨Nat.le_of_ble_eq_true rfl, Nat.le_of_ble_eq_true rfl⟩ (zlw4 (Nat.le_of_ble_eq_true rfl)) dX9_move_16 (fun r16 => ?_)
  refine Z.if_eq F (tgt := 26) dX9_move_19 (by decide) ?_ ?_
  · exact Z.sub [0, 1, 2, 3, 4, 5] rfl (hj26)
  refine Z.iconst F (v := (1 : Int32)) (by decide) dX9_move_22 ?_
  refine Z.goto F (tgt := 27) dX9_move_23 (by decide) ?_
  exact Z.sub [0, 1, 2, 3, 4, 5] rfl (hj27 (1 : Int32))
set_option maxHeartbeats 4000000 in
theorem k_X9_whyBuild (l : Launch) (h0 : Nat) (x1 : Int32) (x2 : Int32) : ZCi l yX9_whyBuild (ws_ yX9_whyBuild cX9_whyBuild 3 (some .int)) 3 68 0 0 false [zv h0, .int x1, .int x2] (f_X9_whyBuild h0 x1 x2) := by
  refine Z.metI (by decide +kernel) (fun h => ⟨rfl, rfl⟩) (L0 := [(0, zv h0), (1, .int x1), (2, .int x2)]) (by first | (rw [zla_v, zla_i, zla_i, zla_0]; done) | (rw [zla_v, zla_i, zla_i, zla_0]; rfl)) (by rw [zsl_v, zsl_i, zsl_i, zsl_0]; exact Nat.le_of_ble_eq_true rfl) ?_
  intro p e R s m args below meth c D A n0 sz k F
  have F : ZF p R s m args meth c cX9_whyBuild 3 "SafeBucketsModel" "whyBuild" (some .int) D A false sz 0 0 3 68 := F
  unfold f_X9_whyBuild
  refine Z.aload_n F 0 rfl dX9_whyBuild_0 ?_
  refine Z.iload_n F 1 rfl dX9_whyBuild_1 ?_
  refine Z.iload_n F 2 rfl dX9_whyBuild_2 ?_
  refine clX9_235 F ⟨Nat.le_of_ble_eq_true rfl, Nat.le_of_ble_eq_true rfl⟩ (zlw4 (Nat.le_of_ble_eq_true rfl)) dX9_whyBuild_3 (fun r3 => ?_)
  refine Z.jn1 (J := _) (fun p31s0 => []) (fun p31s0 => [.int p31s0]) 31 (fun p31s0 => ?_) (fun j31 hj31 => ?_)
  · exact Z.iret F dX9_whyBuild_31
  refine Z.if_ne F (tgt := 13) dX9_whyBuild_6 (by decide) ?_ ?_
  · refine Z.aload_n F 0 rfl dX9_whyBuild_13 ?_
    refine gfX9_34 F dX9_whyBuild_14 (fun g14 => ?_)
    refine Z.iload_n F 1 rfl dX9_whyBuild_17 ?_
    refine Z.iload_n F 2 rfl dX9_whyBuild_18 ?_
    refine clX9_199 F ⟨Nat.le_of_ble_eq_true rfl, Nat.le_of_ble_eq_true rfl⟩ (zlw4 (Nat.le_of_ble_eq_true rfl)) dX9_whyBuild_19 (fun r19 => ?_)
    refine Z.iald F dX9_whyBuild_22 (fun g22 => ?_)
    refine Z.if_ne F (tgt := 30) dX9_whyBuild_23 (by decide) ?_ ?_
    · refine Z.iconst F (v := (-1 : Int32)) (by decide) dX9_whyBuild_30 ?_
      exact Z.sub [] rfl (hj31 (-1 : Int32))
    refine Z.iconst F (v := (2 : Int32)) (by decide) dX9_whyBuild_26 ?_
    refine Z.goto F (tgt := 31) dX9_whyBuild_27 (by decide) ?_
    exact Z.sub [] rfl (hj31 (2 : Int32))
  refine Z.iconst F (v := (0 : Int32)) (by decide) dX9_whyBuild_9 ?_
  refine Z.goto F (tgt := 31) dX9_whyBuild_10 (by decide) ?_
  exact Z.sub [] rfl (hj31 (0 : Int32))
theorem clX9_285 (F : ZF p R s m args meth c cc nL "SafeBucketsModel" nm ret D A al sz mc ms fr lo) {h0 : Nat} {x1 : Int32} {x2 : Int32} {K : Int32 → ZM → Prop} (hR : 3 + 1 ≤ fr ∧ 8 + (3 + 11) + 68 ≤ lo) (hst4 : zlw st) (hdg : decode cc pc = .ok (.invokevirtual 285, 3)) (k : ∀ r, ZW p l e R s m args below meth c Q nL D A al n0 (K r) (pc + 3) L (.int r :: st)) : ZW p l e R s m args below meth c Q nL D A al n0 (zat 7 h0 (f_X9_whyBuild h0 x1 x2 K)) pc L (.int x2 :: .int x1 :: zv h0 :: st) :=
  Z.ri0 _ (fun μ H locs cells slots ls hI h hP => Z.V0 F hI (n := 2) (ci := 6) rfl (by decide) hP.1 hP.2 (k_X9_whyBuild l h0 x1 x2 D A (zX μ, zC μ, zS μ) H.size K μ) q1932 q1934 qs83 q126 q1935 (by decide +kernel) rfl h.1 hst4 hR rfl hdg) k
set_option maxHeartbeats 4000000 in
theorem k_X9_build (l : Launch) (h0 : Nat) (x1 : Int32) (x2 : Int32) : ZCi l yX9_build (ws_ yX9_build cX9_build 3 (some .int)) 4 106 0 0 false [zv h0, .int x1, .int x2] (f_X9_build h0 x1 x2) := by
  refine Z.metI (by decide +kernel) (fun h => ⟨rfl, rfl⟩) (L0 := [(0, zv h0), (1, .int x1), (2, .int x2)]) (by first | (rw [zla_v, zla_i, zla_i, zla_0]; done) | (rw [zla_v, zla_i, zla_i, zla_0]; rfl)) (by rw [zsl_v, zsl_i, zsl_i, zsl_0]; exact Nat.le_of_ble_eq_true rfl) ?_
  intro p e R s m args below meth c D A n0 sz k F
  have F : ZF p R s m args meth c cX9_build 3 "SafeBucketsModel" "build" (some .int) D A false sz 0 0 4 106 := F
  unfold f_X9_build
  refine Z.aload_n F 0 rfl dX9_build_0 ?_
  refine Z.aload_n F 0 rfl dX9_build_1 ?_
  refine Z.iload_n F 1 rfl dX9_build_2 ?_
  refine Z.iload_n F 2 rfl dX9_build_3 ?_
  refine clX9_285 F ⟨Nat.le_of_ble_eq_true rfl, Nat.le_of_ble_eq_true rfl⟩ (zlw4 (Nat.le_of_ble_eq_true rfl)) dX9_build_4 (fun r4 => ?_)
  refine Z.iconst F (v := (3 : Int32)) (by decide) dX9_build_7 ?_
  refine Z.iload_n F 1 rfl dX9_build_8 ?_
  refine Z.iload_n F 2 rfl dX9_build_9 ?_
  refine clX9_275 F ⟨Nat.le_of_ble_eq_true rfl, Nat.le_of_ble_eq_true rfl⟩ (zlw4 (Nat.le_of_ble_eq_true rfl)) dX9_build_10 (fun r10 => ?_)
  refine Z.if_eq F (tgt := 18) dX9_build_13 (by decide) ?_ ?_
  · refine Z.aload_n F 0 rfl dX9_build_18 ?_
    refine Z.iload_n F 1 rfl dX9_build_19 ?_
    refine Z.iload_n F 2 rfl dX9_build_20 ?_
    refine clX9_209 F ⟨Nat.le_of_ble_eq_true rfl, Nat.le_of_ble_eq_true rfl⟩ (zlw4 (Nat.le_of_ble_eq_true rfl)) dX9_build_21 ?_
    refine Z.aload_n F 0 rfl dX9_build_24 ?_
    refine Z.iload_n F 1 rfl dX9_build_25 ?_
    refine Z.iload_n F 2 rfl dX9_build_26 ?_
    refine clX9_238 F ⟨Nat.le_of_ble_eq_true rfl, Nat.le_of_ble_eq_true rfl⟩ (zlw4 (Nat.le_of_ble_eq_true rfl)) dX9_build_27 (fun r27 => ?_)
    exact Z.iret F dX9_build_30
  refine Z.iconst F (v := (-1 : Int32)) (by decide) dX9_build_16 ?_
  exact Z.iret F dX9_build_17
set_option maxHeartbeats 4000000 in
theorem k_X9_budget (l : Launch) (h0 : Nat) (x1 : Int32) : ZCi l yX9_budget (ws_ yX9_budget cX9_budget 3 (some .int)) 2 46 0 0 false [zv h0, .int x1] (f_X9_budget h0 x1) := by
  refine Z.metI (by decide +kernel) (fun h => ⟨rfl, rfl⟩) (L0 := [(0, zv h0), (1, .int x1)]) (by first | (rw [zla_v, zla_i, zla_0]; done) | (rw [zla_v, zla_i, zla_0]; rfl)) (by rw [zsl_v, zsl_i, zsl_0]; exact Nat.le_of_ble_eq_true rfl) ?_
  intro p e R s m args below meth c D A n0 sz k F
  have F : ZF p R s m args meth c cX9_budget 3 "SafeBucketsModel" "budget" (some .int) D A false sz 0 0 2 46 := F
  unfold f_X9_budget
  refine Z.aload_n F 0 rfl dX9_budget_0 ?_
  refine Z.aload_n F 0 rfl dX9_budget_1 ?_
  refine clX9_225 F ⟨Nat.le_of_ble_eq_true rfl, Nat.le_of_ble_eq_true rfl⟩ (zlw4 (Nat.le_of_ble_eq_true rfl)) dX9_budget_2 (fun r2 => ?_)
  refine Z.jn1 (J := _) (fun p45s1 => [(0, zv h0), (1, .int x1)]) (fun p45s1 => [.int p45s1, zv h0]) 45 (fun p45s1 => ?_) (fun j45 hj45 => ?_)
  · refine Z.iconst F (v := (4 : Int32)) (by decide) dX9_budget_45 ?_
    refine Z.iconst F (v := (-1 : Int32)) (by decide) dX9_budget_46 ?_
    refine Z.iload_n F 1 rfl dX9_budget_47 ?_
    refine clX9_275 F ⟨Nat.le_of_ble_eq_true rfl, Nat.le_of_ble_eq_true rfl⟩ (zlw4 (Nat.le_of_ble_eq_true rfl)) dX9_budget_48 (fun r48 => ?_)
    refine Z.if_eq F (tgt := 56) dX9_budget_51 (by decide) ?_ ?_
    · refine Z.aload_n F 0 rfl dX9_budget_56 ?_
      refine gfX9_34 F dX9_budget_57 (fun g57 => ?_)
      refine Z.sipush F (v := (1071 : Int32)) (by decide) dX9_budget_60 ?_
      refine Z.iald F dX9_budget_63 (fun g63 => ?_)
      refine Z.istore_n F (L0 := [(0, zv h0), (1, .int x1)]) [0, 1] rfl (zkR rfl (zkI rfl zkN)) (by decide) dX9_budget_64 ?_
      refine Z.aload_n F 1 rfl dX9_budget_65 ?_
      refine gfX9_34 F dX9_budget_66 (fun g66 => ?_)
      refine Z.sipush F (v := (1071 : Int32)) (by decide) dX9_budget_69 ?_
      refine Z.iload_n F 2 rfl dX9_budget_72 ?_
      refine Z.iast F dX9_budget_73 ?_
      refine Z.iload_n F 0 rfl dX9_budget_74 ?_
      exact Z.iret F dX9_budget_75
    refine Z.iconst F (v := (-1 : Int32)) (by decide) dX9_budget_54 ?_
    exact Z.iret F dX9_budget_55
  refine Z.if_ne F (tgt := 12) dX9_budget_5 (by decide) ?_ ?_
  · refine Z.iload_n F 1 rfl dX9_budget_12 ?_
    refine Z.i2l F dX9_budget_13 ?_
    refine Z.lconst F (w := (1 : Int64)) (by decide) dX9_budget_14 ?_
    refine Z.ldc2 F q1940 dX9_budget_15 ?_
    refine clX9_77 F ⟨Nat.le_of_ble_eq_true rfl, Nat.le_of_ble_eq_true rfl⟩ (zlw4 (Nat.le_of_ble_eq_true rfl)) dX9_budget_18 (fun r18 => ?_)
    refine Z.if_ne F (tgt := 28) dX9_budget_21 (by decide) ?_ ?_
    · refine Z.aload_n F 0 rfl dX9_budget_28 ?_
      refine gfX9_34 F dX9_budget_29 (fun g29 => ?_)
      refine Z.sipush F (v := (1071 : Int32)) (by decide) dX9_budget_32 ?_
      refine Z.iald F dX9_budget_35 (fun g35 => ?_)
      refine Z.iload_n F 1 rfl dX9_budget_36 ?_
      refine Z.icmp_ne F (tgt := 44) dX9_budget_37 (by decide) ?_ ?_
      · refine Z.iconst F (v := (-1 : Int32)) (by decide) dX9_budget_44 ?_
        exact Z.sub [0, 1] rfl (hj45 (-1 : Int32))
      refine Z.iconst F (v := (2 : Int32)) (by decide) dX9_budget_40 ?_
      refine Z.goto F (tgt := 45) dX9_budget_41 (by decide) ?_
      exact Z.sub [0, 1] rfl (hj45 (2 : Int32))
    refine Z.iconst F (v := (1 : Int32)) (by decide) dX9_budget_24 ?_
    refine Z.goto F (tgt := 45) dX9_budget_25 (by decide) ?_
    exact Z.sub [0, 1] rfl (hj45 (1 : Int32))
  refine Z.iconst F (v := (0 : Int32)) (by decide) dX9_budget_8 ?_
  refine Z.goto F (tgt := 45) dX9_budget_9 (by decide) ?_
  exact Z.sub [0, 1] rfl (hj45 (0 : Int32))
theorem gfX9_290 (F : ZF p R s m args meth c cc nL "SafeBucketsModel" nm ret D A al sz mc ms fr lo) {z : Nat} {K : Int64 → ZM → Prop} (hdg : decode cc pc = .ok (.getfield 290, 3)) (k : ∀ u, ZW p l e R s m args below meth c Q nL D A al n0 (K u) (pc + 3) L (.long u :: st)) : ZW p l e R s m args below meth c Q nL D A al n0 (zgL 7 z 24 K) pc L (zv z :: st) :=
  Z.getL F (ref := "SafeBucketsModel") in_X9 (ci := 6) rfl (by decide) (kf := 24) (by decide) q1594 (fun _ h => h) rfl hdg k
theorem pfX9_290 (F : ZF p R s m args meth c cc nL "SafeBucketsModel" nm ret D A al sz mc ms fr lo) {z : Nat} {u : Int64} (hdg : decode cc pc = .ok (.putfield 290, 3)) (k : ZW p l e R s m args below meth c Q nL D A al n0 P (pc + 3) L st) : ZW p l e R s m args below meth c Q nL D A al n0 (zpL 7 z 24 u P) pc L (.long u :: zv z :: st) :=
  Z.putL F (ref := "SafeBucketsModel") in_X9 (ci := 6) rfl (by decide) (kf := 24) (by decide) q1594 (fun _ h => h) tyX9 tyX9_ok nmX9 rfl rfl rfl hdg k
set_option maxHeartbeats 4000000 in
theorem k_X9_draw (l : Launch) (h0 : Nat) (x1 : Int32) : ZCi l yX9_draw (ws_ yX9_draw cX9_draw 2 (some .int)) 0 0 0 0 false [zv h0, .int x1] (f_X9_draw h0 x1) := by
  refine Z.metI (by decide +kernel) (fun h => ⟨rfl, rfl⟩) (L0 := [(0, zv h0), (1, .int x1)]) (by first | (rw [zla_v, zla_i, zla_0]; done) | (rw [zla_v, zla_i, zla_0]; rfl)) (by rw [zsl_v, zsl_i, zsl_0]; exact Nat.le_of_ble_eq_true rfl) ?_
  intro p e R s m args below meth c D A n0 sz k F
  have F : ZF p R s m args meth c cX9_draw 2 "SafeBucketsModel" "draw" (some .int) D A false sz 0 0 0 0 := F
  unfold f_X9_draw
  refine Z.aload_n F 0 rfl dX9_draw_0 ?_
  refine Z.aload_n F 0 rfl dX9_draw_1 ?_
  refine gfX9_290 F dX9_draw_2 (fun g2 => ?_)
  refine Z.ldc2 F q1954 dX9_draw_5 ?_
  refine Z.lmul F dX9_draw_8 ?_
  refine Z.ldc2 F q1955 dX9_draw_9 ?_
  refine Z.ladd F dX9_draw_12 ?_
  refine pfX9_290 F dX9_draw_13 ?_
  refine Z.aload_n F 0 rfl dX9_draw_16 ?_
  refine gfX9_290 F dX9_draw_17 (fun g17 => ?_)
  refine Z.bipush F (v := (33 : Int32)) (by decide) dX9_draw_20 ?_
  refine Z.lushr F dX9_draw_22 ?_
  refine Z.nmJ (fun v22 => ?_)
  refine Z.iload_n F 1 rfl dX9_draw_23 ?_
  refine Z.i2l F dX9_draw_24 ?_
  refine Z.lrem F dX9_draw_25 ?_
  refine Z.l2i F dX9_draw_26 ?_
  exact Z.iret F dX9_draw_27
theorem clX9_298 (F : ZF p R s m args meth c cc nL "SafeBucketsModel" nm ret D A al sz mc ms fr lo) {h0 : Nat} {x1 : Int32} {K : Int32 → ZM → Prop} (hR : 0 + 1 ≤ fr ∧ 8 + (2 + 11) + 0 ≤ lo) (hst4 : zlw st) (hdg : decode cc pc = .ok (.invokevirtual 298, 3)) (k : ∀ r, ZW p l e R s m args below meth c Q nL D A al n0 (K r) (pc + 3) L (.int r :: st)) : ZW p l e R s m args below meth c Q nL D A al n0 (zat 7 h0 (f_X9_draw h0 x1 K)) pc L (.int x1 :: zv h0 :: st) :=
  Z.ri0 _ (fun μ H locs cells slots ls hI h hP => Z.V0 F hI (n := 1) (ci := 6) rfl (by decide) hP.1 hP.2 (k_X9_draw l h0 x1 D A (zX μ, zC μ, zS μ) H.size K μ) q1950 q1952 qs85 q126 q1953 (by decide +kernel) rfl h.1 hst4 hR rfl hdg) k
set_option maxHeartbeats 4000000 in
theorem k_X9_drawValue (l : Launch) (h0 : Nat) (x1 : Int32) : ZCi l yX9_drawValue (ws_ yX9_drawValue cX9_drawValue 3 (some .int)) 1 21 0 0 false [zv h0, .int x1] (f_X9_drawValue h0 x1) := by
  refine Z.metI (by decide +kernel) (fun h => ⟨rfl, rfl⟩) (L0 := [(0, zv h0), (1, .int x1)]) (by first | (rw [zla_v, zla_i, zla_0]; done) | (rw [zla_v, zla_i, zla_0]; rfl)) (by rw [zsl_v, zsl_i, zsl_0]; exact Nat.le_of_ble_eq_true rfl) ?_
  intro p e R s m args below meth c D A n0 sz k F
  have F : ZF p R s m args meth c cX9_drawValue 3 "SafeBucketsModel" "drawValue" (some .int) D A false sz 0 0 1 21 := F
  unfold f_X9_drawValue
  refine Z.aload_n F 0 rfl dX9_drawValue_0 ?_
  refine Z.aload_n F 0 rfl dX9_drawValue_1 ?_
  refine gfX9_25 F dX9_drawValue_2 (fun g2 => ?_)
  refine Z.iload_n F 1 rfl dX9_drawValue_5 ?_
  refine Z.iald F dX9_drawValue_6 (fun g6 => ?_)
  refine Z.iconst F (v := (1 : Int32)) (by decide) dX9_drawValue_7 ?_
  refine Z.iadd F dX9_drawValue_8 ?_
  refine clX9_298 F ⟨Nat.le_of_ble_eq_true rfl, Nat.le_of_ble_eq_true rfl⟩ (zlw4 (Nat.le_of_ble_eq_true rfl)) dX9_drawValue_9 (fun r9 => ?_)
  refine Z.istore_n F (L0 := [(0, zv h0), (1, .int x1)]) [0, 1] rfl (zkR rfl (zkI rfl zkN)) (by decide) dX9_drawValue_12 ?_
  refine Z.iload_n F 0 rfl dX9_drawValue_13 ?_
  refine Z.aload_n F 1 rfl dX9_drawValue_14 ?_
  refine gfX9_25 F dX9_drawValue_15 (fun g15 => ?_)
  refine Z.iload_n F 2 rfl dX9_drawValue_18 ?_
  refine Z.iald F dX9_drawValue_19 (fun g19 => ?_)
  refine Z.jn1 (J := _) (fun p28s0 => []) (fun p28s0 => [.int p28s0]) 28 (fun p28s0 => ?_) (fun j28 hj28 => ?_)
  · exact Z.iret F dX9_drawValue_28
  refine Z.icmp_ne F (tgt := 27) dX9_drawValue_20 (by decide) ?_ ?_
  · refine Z.iload_n F 0 rfl dX9_drawValue_27 ?_
    exact Z.sub [] rfl (hj28 r9)
  refine Z.iconst F (v := (-1 : Int32)) (by decide) dX9_drawValue_23 ?_
  refine Z.goto F (tgt := 28) dX9_drawValue_24 (by decide) ?_
  exact Z.sub [] rfl (hj28 (-1 : Int32))
theorem clX9_304 (F : ZF p R s m args meth c cc nL "SafeBucketsModel" nm ret D A al sz mc ms fr lo) {h0 : Nat} {x1 : Int32} {K : Int32 → ZM → Prop} (hR : 1 + 1 ≤ fr ∧ 8 + (3 + 11) + 21 ≤ lo) (hst4 : zlw st) (hdg : decode cc pc = .ok (.invokevirtual 304, 3)) (k : ∀ r, ZW p l e R s m args below meth c Q nL D A al n0 (K r) (pc + 3) L (.int r :: st)) : ZW p l e R s m args below meth c Q nL D A al n0 (zat 7 h0 (f_X9_drawValue h0 x1 K)) pc L (.int x1 :: zv h0 :: st) :=
  Z.ri0 _ (fun μ H locs cells slots ls hI h hP => Z.V0 F hI (n := 1) (ci := 6) rfl (by decide) hP.1 hP.2 (k_X9_drawValue l h0 x1 D A (zX μ, zC μ, zS μ) H.size K μ) q1957 q1959 qs86 q126 q1960 (by decide +kernel) rfl h.1 hst4 hR rfl hdg) k
theorem clX9_310 (F : ZF p R s m args meth c cc nL "SafeBucketsModel" nm ret D A al sz mc ms fr lo) {h0 : Nat} {x1 : Int32} {x2 : Int32} {x3 : Int32} {x4 : Int32} {K : Int32 → ZM → Prop} (hR : 5 + 1 ≤ fr ∧ 8 + (5 + 11) + 131 ≤ lo) (hst4 : zlw st) (hdg : decode cc pc = .ok (.invokevirtual 310, 3)) (k : ∀ r, ZW p l e R s m args below meth c Q nL D A al n0 (K r) (pc + 3) L (.int r :: st)) : ZW p l e R s m args below meth c Q nL D A al n0 (zat 7 h0 (f_X9_drop h0 x1 x2 x3 x4 K)) pc L (.int x4 :: .int x3 :: .int x2 :: .int x1 :: zv h0 :: st) :=
  Z.ri0 _ (fun μ H locs cells slots ls hI h hP => Z.V0 F hI (n := 4) (ci := 6) rfl (by decide) hP.1 hP.2 (k_X9_drop l h0 x1 x2 x3 x4 D A (zX μ, zC μ, zS μ) H.size K μ) q1962 q1917 q1918 q126 q1919 (by decide +kernel) rfl h.1 hst4 hR rfl hdg) k
theorem clX9_307 (F : ZF p R s m args meth c cc nL "SafeBucketsModel" nm ret D A al sz mc ms fr lo) {h0 : Nat} {x1 : Int32} {x2 : Int32} {x3 : Int32} {x4 : Int32} {K : Int32 → ZM → Prop} (hR : 5 + 1 ≤ fr ∧ 8 + (5 + 11) + 131 ≤ lo) (hst4 : zlw st) (hdg : decode cc pc = .ok (.invokevirtual 307, 3)) (k : ∀ r, ZW p l e R s m args below meth c Q nL D A al n0 (K r) (pc + 3) L (.int r :: st)) : ZW p l e R s m args below meth c Q nL D A al n0 (zat 7 h0 (f_X9_add h0 x1 x2 x3 x4 K)) pc L (.int x4 :: .int x3 :: .int x2 :: .int x1 :: zv h0 :: st) :=
  Z.ri0 _ (fun μ H locs cells slots ls hI h hP => Z.V0 F hI (n := 4) (ci := 6) rfl (by decide) hP.1 hP.2 (k_X9_add l h0 x1 x2 x3 x4 D A (zX μ, zC μ, zS μ) H.size K μ) q1961 q1884 q1885 q126 q1886 (by decide +kernel) rfl h.1 hst4 hR rfl hdg) k
theorem clX9_301 (F : ZF p R s m args meth c cc nL "SafeBucketsModel" nm ret D A al sz mc ms fr lo) {h0 : Nat} {x1 : Int32} {x2 : Int32} {K : Int32 → ZM → Prop} (hR : 4 + 1 ≤ fr ∧ 8 + (3 + 11) + 106 ≤ lo) (hst4 : zlw st) (hdg : decode cc pc = .ok (.invokevirtual 301, 3)) (k : ∀ r, ZW p l e R s m args below meth c Q nL D A al n0 (K r) (pc + 3) L (.int r :: st)) : ZW p l e R s m args below meth c Q nL D A al n0 (zat 7 h0 (f_X9_build h0 x1 x2 K)) pc L (.int x2 :: .int x1 :: zv h0 :: st) :=
  Z.ri0 _ (fun μ H locs cells slots ls hI h hP => Z.V0 F hI (n := 2) (ci := 6) rfl (by decide) hP.1 hP.2 (k_X9_build l h0 x1 x2 D A (zX μ, zC μ, zS μ) H.size K μ) q1956 q1929 q1930 q126 q1931 (by decide +kernel) rfl h.1 hst4 hR rfl hdg) k
set_option maxHeartbeats 4000000 in
theorem k_X9_drawYear (l : Launch) (h0 : Nat) : ZCv l yX9_drawYear (ws_ yX9_drawYear cX9_drawYear 6 none) 6 155 0 0 false [zv h0] (f_X9_drawYear h0) := by
  refine Z.metV (by decide +kernel) (fun h => ⟨rfl, rfl⟩) (L0 := [(0, zv h0)]) (by first | (rw [zla_v, zla_0]; done) | (rw [zla_v, zla_0]; rfl)) (by rw [zsl_v, zsl_0]; exact Nat.le_of_ble_eq_true rfl) ?_
  intro p e R s m args below meth c D A n0 sz k F
  have F : ZF p R s m args meth c cX9_drawYear 6 "SafeBucketsModel" "drawYear" none D A false sz 0 0 6 155 := F
  unfold f_X9_drawYear
  refine Z.aload_n F 0 rfl dX9_drawYear_0 ?_
  refine Z.iconst F (v := (4 : Int32)) (by decide) dX9_drawYear_1 ?_
  refine clX9_298 F ⟨Nat.le_of_ble_eq_true rfl, Nat.le_of_ble_eq_true rfl⟩ (zlw4 (Nat.le_of_ble_eq_true rfl)) dX9_drawYear_2 (fun r2 => ?_)
  refine Z.istore_n F (L0 := [(0, zv h0)]) [0] rfl (zkR rfl zkN) (by decide) dX9_drawYear_5 ?_
  refine Z.aload_n F 1 rfl dX9_drawYear_6 ?_
  refine Z.aload_n F 1 rfl dX9_drawYear_7 ?_
  refine gfX9_150 F dX9_drawYear_8 (fun g8 => ?_)
  refine clX9_298 F ⟨Nat.le_of_ble_eq_true rfl, Nat.le_of_ble_eq_true rfl⟩ (zlw4 (Nat.le_of_ble_eq_true rfl)) dX9_drawYear_11 (fun r11 => ?_)
  refine Z.istore_n F (L0 := [(1, .int r2), (0, zv h0)]) [0, 1] rfl (zkI rfl (zkR rfl zkN)) (by decide) dX9_drawYear_14 ?_
  refine Z.iload_n F 1 rfl dX9_drawYear_15 ?_
  refine Z.iconst F (v := (3 : Int32)) (by decide) dX9_drawYear_16 ?_
  refine Z.icmp_ne F (tgt := 44) dX9_drawYear_17 (by decide) ?_ ?_
  · refine Z.aload_n F 2 rfl dX9_drawYear_44 ?_
    refine Z.iload_n F 0 rfl dX9_drawYear_45 ?_
    refine clX9_304 F ⟨Nat.le_of_ble_eq_true rfl, Nat.le_of_ble_eq_true rfl⟩ (zlw4 (Nat.le_of_ble_eq_true rfl)) dX9_drawYear_46 (fun r46 => ?_)
    refine Z.istore_n F (L0 := [(2, .int r11), (1, .int r2), (0, zv h0)]) [0, 1, 2] rfl (zkI rfl (zkI rfl (zkR rfl zkN))) (by decide) dX9_drawYear_49 ?_
    refine Z.aload_n F 3 rfl dX9_drawYear_50 ?_
    refine Z.iload_n F 1 rfl dX9_drawYear_51 ?_
    refine clX9_304 F ⟨Nat.le_of_ble_eq_true rfl, Nat.le_of_ble_eq_true rfl⟩ (zlw4 (Nat.le_of_ble_eq_true rfl)) dX9_drawYear_52 (fun r52 => ?_)
    refine Z.istore F (L0 := [(3, .int r46), (2, .int r11), (1, .int r2), (0, zv h0)]) [0, 1, 2, 3] rfl (zkI rfl (zkI rfl (zkI rfl (zkR rfl zkN)))) (by decide) dX9_drawYear_55 ?_
    refine Z.aload_n F 4 rfl dX9_drawYear_57 ?_
    refine Z.iconst F (v := (5 : Int32)) (by decide) dX9_drawYear_58 ?_
    refine clX9_298 F ⟨Nat.le_of_ble_eq_true rfl, Nat.le_of_ble_eq_true rfl⟩ (zlw4 (Nat.le_of_ble_eq_true rfl)) dX9_drawYear_59 (fun r59 => ?_)
    refine Z.iconst F (v := (1 : Int32)) (by decide) dX9_drawYear_62 ?_
    refine Z.iadd F dX9_drawYear_63 ?_
    refine Z.istore F (L0 := [(4, .int r52), (3, .int r46), (2, .int r11), (1, .int r2), (0, zv h0)]) [0, 1, 2, 3, 4] rfl (zkI rfl (zkI rfl (zkI rfl (zkI rfl (zkR rfl zkN))))) (by decide) dX9_drawYear_64 ?_
    refine Z.iload_n F 4 rfl dX9_drawYear_66 ?_
    refine Z.iconst F (v := (2 : Int32)) (by decide) dX9_drawYear_67 ?_
    refine Z.jn0 (J := _) ([(0, zv h0), (1, .int r2), (2, .int r11), (3, .int r46), (4, .int r52), (5, .int (r59 + (1 : Int32)))]) ([]) 96 (?_) (fun j96 hj96 => ?_)
    · refine Z.iload_n F 1 rfl dX9_drawYear_96 ?_
      refine Z.iconst F (v := (2 : Int32)) (by decide) dX9_drawYear_97 ?_
      refine Z.jn0 (J := _) ([]) ([]) 126 (?_) (fun j126 hj126 => ?_)
      · exact Z.vret F dX9_drawYear_126
      refine Z.icmp_ne F (tgt := 126) dX9_drawYear_98 (by decide) ?_ ?_
      · exact Z.sub [] rfl (hj126)
      refine Z.aload_n F 0 rfl dX9_drawYear_101 ?_
      refine Z.iload_n F 2 rfl dX9_drawYear_102 ?_
      refine Z.iload_n F 3 rfl dX9_drawYear_103 ?_
      refine Z.iload F 4 rfl dX9_drawYear_104 ?_
      refine Z.iload F 5 rfl dX9_drawYear_106 ?_
      refine clX9_282 F ⟨Nat.le_of_ble_eq_true rfl, Nat.le_of_ble_eq_true rfl⟩ (zlw4 (Nat.le_of_ble_eq_true rfl)) dX9_drawYear_108 (fun r108 => ?_)
      refine Z.iconst F (v := (-1 : Int32)) (by decide) dX9_drawYear_111 ?_
      refine Z.icmp_ne F (tgt := 126) dX9_drawYear_112 (by decide) ?_ ?_
      · exact Z.sub [] rfl (hj126)
      refine Z.aload_n F 0 rfl dX9_drawYear_115 ?_
      refine Z.iload_n F 2 rfl dX9_drawYear_116 ?_
      refine Z.iload_n F 3 rfl dX9_drawYear_117 ?_
      refine Z.iload F 4 rfl dX9_drawYear_118 ?_
      refine Z.iload F 5 rfl dX9_drawYear_120 ?_
      refine clX9_310 F ⟨Nat.le_of_ble_eq_true rfl, Nat.le_of_ble_eq_true rfl⟩ (zlw4 (Nat.le_of_ble_eq_true rfl)) dX9_drawYear_122 (fun r122 => ?_)
      refine Z.popI F dX9_drawYear_125 ?_
      exact Z.sub [] rfl (hj126)
    refine Z.icmp_ge F (tgt := 96) dX9_drawYear_68 (by decide) ?_ ?_
    · exact Z.sub [5, 4, 3, 2, 1, 0] rfl (hj96)
    refine Z.aload_n F 5 rfl dX9_drawYear_71 ?_
    refine Z.iload_n F 3 rfl dX9_drawYear_72 ?_
    refine Z.iload_n F 2 rfl dX9_drawYear_73 ?_
    refine Z.iload F 1 rfl dX9_drawYear_74 ?_
    refine Z.iload F 0 rfl dX9_drawYear_76 ?_
    refine clX9_272 F ⟨Nat.le_of_ble_eq_true rfl, Nat.le_of_ble_eq_true rfl⟩ (zlw4 (Nat.le_of_ble_eq_true rfl)) dX9_drawYear_78 (fun r78 => ?_)
    refine Z.iconst F (v := (-1 : Int32)) (by decide) dX9_drawYear_81 ?_
    refine Z.icmp_ne F (tgt := 96) dX9_drawYear_82 (by decide) ?_ ?_
    · exact Z.sub [5, 4, 3, 2, 1, 0] rfl (hj96)
    refine Z.aload_n F 5 rfl dX9_drawYear_85 ?_
    refine Z.iload_n F 3 rfl dX9_drawYear_86 ?_
    refine Z.iload_n F 2 rfl dX9_drawYear_87 ?_
    refine Z.iload F 1 rfl dX9_drawYear_88 ?_
    refine Z.iload F 0 rfl dX9_drawYear_90 ?_
    refine clX9_307 F ⟨Nat.le_of_ble_eq_true rfl, Nat.le_of_ble_eq_true rfl⟩ (zlw4 (Nat.le_of_ble_eq_true rfl)) dX9_drawYear_92 (fun r92 => ?_)
    refine Z.popI F dX9_drawYear_95 ?_
    exact Z.sub [5, 4, 3, 2, 1, 0] rfl (hj96)
  refine Z.aload_n F 2 rfl dX9_drawYear_20 ?_
  refine Z.iconst F (v := (2 : Int32)) (by decide) dX9_drawYear_21 ?_
  refine clX9_298 F ⟨Nat.le_of_ble_eq_true rfl, Nat.le_of_ble_eq_true rfl⟩ (zlw4 (Nat.le_of_ble_eq_true rfl)) dX9_drawYear_22 (fun r22 => ?_)
  refine Z.istore_n F (L0 := [(2, .int r11), (1, .int r2), (0, zv h0)]) [0, 1, 2] rfl (zkI rfl (zkI rfl (zkR rfl zkN))) (by decide) dX9_drawYear_25 ?_
  refine Z.aload_n F 3 rfl dX9_drawYear_26 ?_
  refine Z.iload_n F 1 rfl dX9_drawYear_27 ?_
  refine Z.iload_n F 0 rfl dX9_drawYear_28 ?_
  refine clX9_285 F ⟨Nat.le_of_ble_eq_true rfl, Nat.le_of_ble_eq_true rfl⟩ (zlw4 (Nat.le_of_ble_eq_true rfl)) dX9_drawYear_29 (fun r29 => ?_)
  refine Z.iconst F (v := (-1 : Int32)) (by decide) dX9_drawYear_32 ?_
  refine Z.jn0 (J := _) ([]) ([]) 43 (?_) (fun j43 hj43 => ?_)
  · exact Z.vret F dX9_drawYear_43
  refine Z.icmp_ne F (tgt := 43) dX9_drawYear_33 (by decide) ?_ ?_
  · exact Z.sub [] rfl (hj43)
  refine Z.aload_n F 3 rfl dX9_drawYear_36 ?_
  refine Z.iload_n F 1 rfl dX9_drawYear_37 ?_
  refine Z.iload_n F 0 rfl dX9_drawYear_38 ?_
  refine clX9_301 F ⟨Nat.le_of_ble_eq_true rfl, Nat.le_of_ble_eq_true rfl⟩ (zlw4 (Nat.le_of_ble_eq_true rfl)) dX9_drawYear_39 (fun r39 => ?_)
  refine Z.popI F dX9_drawYear_42 ?_
  exact Z.sub [] rfl (hj43)
end ZWalk
