section ZWalk
variable {p : Program} {l : Launch} {e : Env} {R : Room} {s : State} {m : MethodId} {args : Array Value} {below : List Frame} {meth : Method} {c : Code} {Q : State → Prop} {nL : Nat} {D : ZD} {A : Nat → Prop} {al : Bool} {n0 : Nat × Nat × Nat} {cc : ByteArray} {nm : String} {ret : Option FieldType} {sz mc ms fr lo : Nat}
variable {P : ZM → Prop} {pc : Nat} {L : List (Nat × Value)} {st : List Value}
set_option maxHeartbeats 4000000 in
theorem k_X11_valuesOf (l : Launch) (h0 : Nat) (x1 : Int32) : ZCi l yX11_valuesOf (ws_ yX11_valuesOf cX11_valuesOf 2 (some .int)) 0 0 0 0 false [zv h0, .int x1] (f_X11_valuesOf h0 x1) := by
  refine Z.metI (by decide +kernel) (fun h => ⟨rfl, rfl⟩) (L0 := [(0, zv h0), (1, .int x1)]) (by first | (rw [zla_v, zla_i, zla_0]; done) | (rw [zla_v, zla_i, zla_0]; rfl)) (by rw [zsl_v, zsl_i, zsl_0]; exact Nat.le_of_ble_eq_true rfl) ?_
  intro p e R s m args below meth c D A n0 sz k F
  have F : ZF p R s m args meth c cX11_valuesOf 2 "SafeBuckets$Book" "valuesOf" (some .int) D A false sz 0 0 0 0 := F
  unfold f_X11_valuesOf
  refine Z.aload_n F 0 rfl dX11_valuesOf_0 ?_
  refine gfX11_11 F dX11_valuesOf_1 (fun g1 => ?_)
  refine Z.iload_n F 1 rfl dX11_valuesOf_4 ?_
  refine Z.aald F (t := 10) (by decide) rfl rfl dX11_valuesOf_5 (fun g5 => ?_)
  refine gfX11_41 F dX11_valuesOf_6 (fun g6 => ?_)
  refine Z.iconst F (v := (0 : Int32)) (by decide) dX11_valuesOf_9 ?_
  refine Z.iald F dX11_valuesOf_10 (fun g10 => ?_)
  exact Z.iret F dX11_valuesOf_11
theorem pfX3_26 (F : ZF p R s m args meth c cc nL "SafeBuckets$Sheet" nm ret D A al sz mc ms fr lo) {z : Nat} {u : Int32} (hdg : decode cc pc = .ok (.putfield 26, 3)) (k : ZW p l e R s m args below meth c Q nL D A al n0 P (pc + 3) L st) : ZW p l e R s m args below meth c Q nL D A al n0 (zpI 3 z 2 u P) pc L (.int u :: zv z :: st) :=
  Z.putI F (ref := "SafeBuckets$Sheet") in_X3 (ci := 2) rfl (by decide) (kf := 2) (by decide) q279 (fun _ h => h) tyX3 tyX3_ok nmX3 rfl rfl rfl hdg k
theorem pfX3_30 (F : ZF p R s m args meth c cc nL "SafeBuckets$Sheet" nm ret D A al sz mc ms fr lo) {z : Nat} {u : Int32} (hdg : decode cc pc = .ok (.putfield 30, 3)) (k : ZW p l e R s m args below meth c Q nL D A al n0 P (pc + 3) L st) : ZW p l e R s m args below meth c Q nL D A al n0 (zpI 3 z 3 u P) pc L (.int u :: zv z :: st) :=
  Z.putI F (ref := "SafeBuckets$Sheet") in_X3 (ci := 2) rfl (by decide) (kf := 3) (by decide) q283 (fun _ h => h) tyX3 tyX3_ok nmX3 rfl rfl rfl hdg k
theorem gfX3_15 (F : ZF p R s m args meth c cc nL "SafeBuckets$Sheet" nm ret D A al sz mc ms fr lo) {z : Nat} {K : Nat → ZM → Prop} (hdg : decode cc pc = .ok (.getfield 15, 3)) (k : ∀ u, ZW p l e R s m args below meth c Q nL D A al n0 (K u) (pc + 3) L (zv u :: st)) : ZW p l e R s m args below meth c Q nL D A al n0 (zgR 3 z 0 K) pc L (zv z :: st) :=
  Z.getR F (ref := "SafeBuckets$Sheet") in_X3 (ci := 2) rfl (by decide) (kf := 0) (by decide) q273 (fun _ h => h) rfl hdg k
set_option maxHeartbeats 4000000 in
theorem k_X3_starts (l : Launch) (h0 : Nat) (x1 : Int32) : ZCv l yX3_starts (ws_ yX3_starts cX3_starts 3 none) 0 0 0 0 false [zv h0, .int x1] (f_X3_starts h0 x1) := by
  refine Z.metV (by decide +kernel) (fun h => ⟨rfl, rfl⟩) (L0 := [(0, zv h0), (1, .int x1)]) (by first | (rw [zla_v, zla_i, zla_0]; done) | (rw [zla_v, zla_i, zla_0]; rfl)) (by rw [zsl_v, zsl_i, zsl_0]; exact Nat.le_of_ble_eq_true rfl) ?_
  intro p e R s m args below meth c D A n0 sz k F
  have F : ZF p R s m args meth c cX3_starts 3 "SafeBuckets$Sheet" "starts" none D A false sz 0 0 0 0 := F
  unfold f_X3_starts
  refine Z.iconst F (v := (0 : Int32)) (by decide) dX3_starts_0 ?_
  refine Z.istore_n F (L0 := [(0, zv h0), (1, .int x1)]) [0, 1] rfl (zkR rfl (zkI rfl zkN)) (by decide) dX3_starts_1 ?_
  refine Z.jn0 (J := _) ([(0, zv h0), (1, .int x1)]) ([]) 22 (?_) (fun j22 hj22 => ?_)
  · refine Z.aload_n F 0 rfl dX3_starts_22 ?_
    refine Z.iconst F (v := (0 : Int32)) (by decide) dX3_starts_23 ?_
    refine pfX3_26 F dX3_starts_24 ?_
    refine Z.aload_n F 0 rfl dX3_starts_27 ?_
    refine Z.iload_n F 1 rfl dX3_starts_28 ?_
    refine pfX3_30 F dX3_starts_29 ?_
    exact Z.vret F dX3_starts_32
  refine Z.sub [1, 2, 0] rfl ?_
  refine Z.w1 (Lf := fun p2l2 => [(0, zv h0), (1, .int x1), (2, .int p2l2)]) (sf := fun p2l2 => []) (fun r2 hr2 p2l2 => ?_) (0 : Int32)
  refine Z.iload_n F 2 rfl dX3_starts_2 ?_
  refine Z.sipush F (v := (289 : Int32)) (by decide) dX3_starts_3 ?_
  refine Z.icmp_ge F (tgt := 22) dX3_starts_6 (by decide) ?_ ?_
  · exact Z.sub [0, 1] rfl (hj22)
  refine Z.aload_n F 0 rfl dX3_starts_9 ?_
  refine gfX3_15 F dX3_starts_10 (fun g10 => ?_)
  refine Z.iload_n F 2 rfl dX3_starts_13 ?_
  refine Z.iconst F (v := (0 : Int32)) (by decide) dX3_starts_14 ?_
  refine Z.iast F dX3_starts_15 ?_
  refine Z.iinc F (L0 := [(0, zv h0), (1, .int x1)]) (k0 := 2) (v := (1 : Int32)) rfl (by decide) [0, 1] rfl (zkR rfl (zkI rfl zkN)) (by decide) dX3_starts_16 ?_
  refine Z.goto F (tgt := 2) dX3_starts_19 (by decide) ?_
  exact Z.sub [1, 2, 0] rfl (hr2 (p2l2 + (1 : Int32)))
set_option maxHeartbeats 4000000 in
theorem k_X3_place (l : Launch) (h0 : Nat) (x1 : Int32) (x2 : Int32) : ZCi l yX3_place (ws_ yX3_place cX3_place 3 (some .int)) 0 0 0 0 false [zv h0, .int x1, .int x2] (f_X3_place h0 x1 x2) := by
  refine Z.metI (by decide +kernel) (fun h => ⟨rfl, rfl⟩) (L0 := [(0, zv h0), (1, .int x1), (2, .int x2)]) (by first | (rw [zla_v, zla_i, zla_i, zla_0]; done) | (rw [zla_v, zla_i, zla_i, zla_0]; rfl)) (by rw [zsl_v, zsl_i, zsl_i, zsl_0]; exact Nat.le_of_ble_eq_true rfl) ?_
  intro p e R s m args below meth c D A n0 sz k F
  have F : ZF p R s m args meth c cX3_place 3 "SafeBuckets$Sheet" "place" (some .int) D A false sz 0 0 0 0 := F
  unfold f_X3_place
  refine Z.bipush F (v := (17 : Int32)) (by decide) dX3_place_0 ?_
  refine Z.iload_n F 1 rfl dX3_place_2 ?_
  refine Z.iconst F (v := (-1 : Int32)) (by decide) dX3_place_3 ?_
  refine Z.jn1 (J := _) (fun p13s1 => [(2, .int x2)]) (fun p13s1 => [.int p13s1, .int (17 : Int32)]) 13 (fun p13s1 => ?_) (fun j13 hj13 => ?_)
  · refine Z.imul F dX3_place_13 ?_
    refine Z.iload_n F 0 rfl dX3_place_14 ?_
    refine Z.iconst F (v := (-1 : Int32)) (by decide) dX3_place_15 ?_
    refine Z.jn1 (J := _) (fun p25s1 => []) (fun p25s1 => [.int p25s1, .int ((17 : Int32) * p13s1)]) 25 (fun p25s1 => ?_) (fun j25 hj25 => ?_)
    · refine Z.iadd F dX3_place_25 ?_
      exact Z.iret F dX3_place_26
    refine Z.icmp_ne F (tgt := 24) dX3_place_16 (by decide) ?_ ?_
    · refine Z.iload_n F 0 rfl dX3_place_24 ?_
      exact Z.sub [] rfl (hj25 x2)
    refine Z.bipush F (v := (16 : Int32)) (by decide) dX3_place_19 ?_
    refine Z.goto F (tgt := 25) dX3_place_21 (by decide) ?_
    exact Z.sub [] rfl (hj25 (16 : Int32))
  refine Z.icmp_ne F (tgt := 12) dX3_place_4 (by decide) ?_ ?_
  · refine Z.iload_n F 1 rfl dX3_place_12 ?_
    exact Z.sub [2] rfl (hj13 x1)
  refine Z.bipush F (v := (16 : Int32)) (by decide) dX3_place_7 ?_
  refine Z.goto F (tgt := 13) dX3_place_9 (by decide) ?_
  exact Z.sub [2] rfl (hj13 (16 : Int32))
theorem clX3_47 (F : ZF p R s m args meth c cc nL "SafeBuckets$Sheet" nm ret D A al sz mc ms fr lo) {h0 : Nat} {x1 : Int32} {x2 : Int32} {K : Int32 → ZM → Prop} (hR : 0 + 1 ≤ fr ∧ 8 + (3 + 11) + 0 ≤ lo) (hst4 : zlw st) (hdg : decode cc pc = .ok (.invokevirtual 47, 3)) (k : ∀ r, ZW p l e R s m args below meth c Q nL D A al n0 (K r) (pc + 3) L (.int r :: st)) : ZW p l e R s m args below meth c Q nL D A al n0 (zat 3 h0 (f_X3_place h0 x1 x2 K)) pc L (.int x2 :: .int x1 :: zv h0 :: st) :=
  Z.ri0 _ (fun μ H locs cells slots ls hI h hP => Z.V0 F hI (n := 2) (ci := 2) rfl (by decide) hP.1 hP.2 (k_X3_place l h0 x1 x2 D A (zX μ, zC μ, zS μ) H.size K μ) q875 q877 qs11 q118 q878 (by decide +kernel) rfl h.1 hst4 hR rfl hdg) k
theorem gfX3_26 (F : ZF p R s m args meth c cc nL "SafeBuckets$Sheet" nm ret D A al sz mc ms fr lo) {z : Nat} {K : Int32 → ZM → Prop} (hdg : decode cc pc = .ok (.getfield 26, 3)) (k : ∀ u, ZW p l e R s m args below meth c Q nL D A al n0 (K u) (pc + 3) L (.int u :: st)) : ZW p l e R s m args below meth c Q nL D A al n0 (zgI 3 z 2 K) pc L (zv z :: st) :=
  Z.getI F (ref := "SafeBuckets$Sheet") in_X3 (ci := 2) rfl (by decide) (kf := 2) (by decide) q279 (fun _ h => h) rfl hdg k
set_option maxHeartbeats 4000000 in
theorem k_X3_tells (l : Launch) (h0 : Nat) (x1 : Int32) (x2 : Int32) (x3 : Int32) : ZCv l yX3_tells (ws_ yX3_tells cX3_tells 4 none) 1 22 0 0 false [zv h0, .int x1, .int x2, .int x3] (f_X3_tells h0 x1 x2 x3) := by
  refine Z.metV (by decide +kernel) (fun h => ⟨rfl, rfl⟩) (L0 := [(0, zv h0), (1, .int x1), (2, .int x2), (3, .int x3)]) (by first | (rw [zla_v, zla_i, zla_i, zla_i, zla_0]; done) | (rw [zla_v, zla_i, zla_i, zla_i, zla_0]; rfl)) (by rw [zsl_v, zsl_i, zsl_i, zsl_i, zsl_0]; exact Nat.le_of_ble_eq_true rfl) ?_
  intro p e R s m args below meth c D A n0 sz k F
  have F : ZF p R s m args meth c cX3_tells 4 "SafeBuckets$Sheet" "tells" none D A false sz 0 0 1 22 := F
  unfold f_X3_tells
  refine Z.aload_n F 0 rfl dX3_tells_0 ?_
  refine gfX3_15 F dX3_tells_1 (fun g1 => ?_)
  refine Z.aload_n F 0 rfl dX3_tells_4 ?_
  refine Z.iload_n F 1 rfl dX3_tells_5 ?_
  refine Z.iload_n F 2 rfl dX3_tells_6 ?_
  refine clX3_47 F ⟨Nat.le_of_ble_eq_true rfl, Nat.le_of_ble_eq_true rfl⟩ (zlw4 (Nat.le_of_ble_eq_true rfl)) dX3_tells_7 (fun r7 => ?_)
  refine Z.dup2 F dX3_tells_10 ?_
  refine Z.iald F dX3_tells_11 (fun g11 => ?_)
  refine Z.iload_n F 3 rfl dX3_tells_12 ?_
  refine Z.iadd F dX3_tells_13 ?_
  refine Z.iast F dX3_tells_14 ?_
  refine Z.aload_n F 0 rfl dX3_tells_15 ?_
  refine Z.dup F dX3_tells_16 ?_
  refine gfX3_26 F dX3_tells_17 (fun g17 => ?_)
  refine Z.iload_n F 3 rfl dX3_tells_20 ?_
  refine Z.iadd F dX3_tells_21 ?_
  refine pfX3_26 F dX3_tells_22 ?_
  exact Z.vret F dX3_tells_25
set_option maxHeartbeats 4000000 in
theorem k_X3_alike (l : Launch) (h0 : Nat) (x1 : Int32) (x2 : Int32) : ZCi l yX3_alike (ws_ yX3_alike cX3_alike 3 (some .int)) 1 22 0 0 false [zv h0, .int x1, .int x2] (f_X3_alike h0 x1 x2) := by
  refine Z.metI (by decide +kernel) (fun h => ⟨rfl, rfl⟩) (L0 := [(0, zv h0), (1, .int x1), (2, .int x2)]) (by first | (rw [zla_v, zla_i, zla_i, zla_0]; done) | (rw [zla_v, zla_i, zla_i, zla_0]; rfl)) (by rw [zsl_v, zsl_i, zsl_i, zsl_0]; exact Nat.le_of_ble_eq_true rfl) ?_
  intro p e R s m args below meth c D A n0 sz k F
  have F : ZF p R s m args meth c cX3_alike 3 "SafeBuckets$Sheet" "alike" (some .int) D A false sz 0 0 1 22 := F
  unfold f_X3_alike
  refine Z.aload_n F 0 rfl dX3_alike_0 ?_
  refine gfX3_15 F dX3_alike_1 (fun g1 => ?_)
  refine Z.aload_n F 0 rfl dX3_alike_4 ?_
  refine Z.iload_n F 1 rfl dX3_alike_5 ?_
  refine Z.iload_n F 2 rfl dX3_alike_6 ?_
  refine clX3_47 F ⟨Nat.le_of_ble_eq_true rfl, Nat.le_of_ble_eq_true rfl⟩ (zlw4 (Nat.le_of_ble_eq_true rfl)) dX3_alike_7 (fun r7 => ?_)
  refine Z.iald F dX3_alike_10 (fun g10 => ?_)
  exact Z.iret F dX3_alike_11
theorem gfX3_30 (F : ZF p R s m args meth c cc nL "SafeBuckets$Sheet" nm ret D A al sz mc ms fr lo) {z : Nat} {K : Int32 → ZM → Prop} (hdg : decode cc pc = .ok (.getfield 30, 3)) (k : ∀ u, ZW p l e R s m args below meth c Q nL D A al n0 (K u) (pc + 3) L (.int u :: st)) : ZW p l e R s m args below meth c Q nL D A al n0 (zgI 3 z 3 K) pc L (zv z :: st) :=
  Z.getI F (ref := "SafeBuckets$Sheet") in_X3 (ci := 2) rfl (by decide) (kf := 3) (by decide) q283 (fun _ h => h) rfl hdg k
theorem clX3_51 (F : ZF p R s m args meth c cc nL "SafeBuckets$Sheet" nm ret D A al sz mc ms fr lo) {h0 : Nat} {x1 : Int32} {x2 : Int32} {K : Int32 → ZM → Prop} (hR : 1 + 1 ≤ fr ∧ 8 + (3 + 11) + 22 ≤ lo) (hst4 : zlw st) (hdg : decode cc pc = .ok (.invokevirtual 51, 3)) (k : ∀ r, ZW p l e R s m args below meth c Q nL D A al n0 (K r) (pc + 3) L (.int r :: st)) : ZW p l e R s m args below meth c Q nL D A al n0 (zat 3 h0 (f_X3_alike h0 x1 x2 K)) pc L (.int x2 :: .int x1 :: zv h0 :: st) :=
  Z.ri0 _ (fun μ H locs cells slots ls hI h hP => Z.V0 F hI (n := 2) (ci := 2) rfl (by decide) hP.1 hP.2 (k_X3_alike l h0 x1 x2 D A (zX μ, zC μ, zS μ) H.size K μ) q896 q897 q898 q118 q899 (by decide +kernel) rfl h.1 hst4 hR rfl hdg) k
set_option maxHeartbeats 4000000 in
theorem k_X3_count (l : Launch) (h0 : Nat) (x1 : Int32) (x2 : Int32) : ZCi l yX3_count (ws_ yX3_count cX3_count 5 (some .int)) 2 44 0 0 false [zv h0, .int x1, .int x2] (f_X3_count h0 x1 x2) := by
  refine Z.metI (by decide +kernel) (fun h => ⟨rfl, rfl⟩) (L0 := [(0, zv h0), (1, .int x1), (2, .int x2)]) (by first | (rw [zla_v, zla_i, zla_i, zla_0]; done) | (rw [zla_v, zla_i, zla_i, zla_0]; rfl)) (by rw [zsl_v, zsl_i, zsl_i, zsl_0]; exact Nat.le_of_ble_eq_true rfl) ?_
  intro p e R s m args below meth c D A n0 sz k F
  have F : ZF p R s m args meth c cX3_count 5 "SafeBuckets$Sheet" "count" (some .int) D A false sz 0 0 2 44 := F
  unfold f_X3_count
  refine Z.iconst F (v := (0 : Int32)) (by decide) dX3_count_0 ?_
  refine Z.istore_n F (L0 := [(0, zv h0), (1, .int x1), (2, .int x2)]) [0, 1, 2] rfl (zkR rfl (zkI rfl (zkI rfl zkN))) (by decide) dX3_count_1 ?_
  refine Z.iconst F (v := (-1 : Int32)) (by decide) dX3_count_2 ?_
  refine Z.istore F (L0 := [(3, .int (0 : Int32)), (0, zv h0), (1, .int x1), (2, .int x2)]) [0, 1, 2, 3] rfl (zkI rfl (zkR rfl (zkI rfl (zkI rfl zkN)))) (by decide) dX3_count_3 ?_
  refine Z.sub [2, 3, 4, 1, 0] rfl ?_
  refine Z.w2 (Lf := fun p5l3 p5l4 => [(0, zv h0), (1, .int x1), (2, .int x2), (3, .int p5l3), (4, .int p5l4)]) (sf := fun p5l3 p5l4 => []) (fun r5 hr5 p5l3 p5l4 => ?_) (0 : Int32) (-1 : Int32)
  refine Z.iload F 4 rfl dX3_count_5 ?_
  refine Z.aload_n F 0 rfl dX3_count_7 ?_
  refine gfX3_30 F dX3_count_8 (fun g8 => ?_)
  refine Z.icmp_ge F (tgt := 44) dX3_count_11 (by decide) ?_ ?_
  · refine Z.iload_n F 3 rfl dX3_count_44 ?_
    exact Z.iret F dX3_count_45
  refine Z.iload_n F 3 rfl dX3_count_14 ?_
  refine Z.iload_n F 1 rfl dX3_count_15 ?_
  refine Z.jn1 (J := _) (fun p36s1 => [(0, zv h0), (1, .int x1), (2, .int x2), (4, .int p5l4)]) (fun p36s1 => [.int p36s1, .int p5l3]) 36 (fun p36s1 => ?_) (fun j36 hj36 => ?_)
  · refine Z.iadd F dX3_count_36 ?_
    refine Z.istore_n F (L0 := [(0, zv h0), (1, .int x1), (2, .int x2), (4, .int p5l4)]) [0, 1, 2, 3] rfl (zkR rfl (zkI rfl (zkI rfl (zkI rfl zkN)))) (by decide) dX3_count_37 ?_
    refine Z.iinc F (L0 := [(3, .int (p5l3 + p36s1)), (0, zv h0), (1, .int x1), (2, .int x2)]) (k0 := 4) (v := (1 : Int32)) rfl (by decide) [0, 1, 2, 3] rfl (zkI rfl (zkR rfl (zkI rfl (zkI rfl zkN)))) (by decide) dX3_count_38 ?_
    refine Z.goto F (tgt := 5) dX3_count_41 (by decide) ?_
    exact Z.sub [2, 3, 4, 1, 0] rfl (hr5 (p5l3 + p36s1) (p5l4 + (1 : Int32)))
  refine Z.if_ne F (tgt := 29) dX3_count_16 (by decide) ?_ ?_
  · refine Z.aload_n F 0 rfl dX3_count_29 ?_
    refine Z.iload F 4 rfl dX3_count_30 ?_
    refine Z.iload_n F 2 rfl dX3_count_32 ?_
    refine clX3_51 F ⟨Nat.le_of_ble_eq_true rfl, Nat.le_of_ble_eq_true rfl⟩ (zlw4 (Nat.le_of_ble_eq_true rfl)) dX3_count_33 (fun r33 => ?_)
    exact Z.sub [0, 1, 2, 4] rfl (hj36 r33)
  refine Z.aload_n F 0 rfl dX3_count_19 ?_
  refine Z.iload_n F 2 rfl dX3_count_20 ?_
  refine Z.iload F 4 rfl dX3_count_21 ?_
  refine clX3_51 F ⟨Nat.le_of_ble_eq_true rfl, Nat.le_of_ble_eq_true rfl⟩ (zlw4 (Nat.le_of_ble_eq_true rfl)) dX3_count_23 (fun r23 => ?_)
  refine Z.goto F (tgt := 36) dX3_count_26 (by decide) ?_
  exact Z.sub [0, 1, 2, 4] rfl (hj36 r23)
theorem gfX1_164 (F : ZF p R s m args meth c cc nL "SafeBuckets" nm ret D A al sz mc ms fr lo) {z : Nat} {K : Int32 → ZM → Prop} (hdg : decode cc pc = .ok (.getfield 164, 3)) (k : ∀ u, ZW p l e R s m args below meth c Q nL D A al n0 (K u) (pc + 3) L (.int u :: st)) : ZW p l e R s m args below meth c Q nL D A al n0 (zgI 3 z 3 K) pc L (zv z :: st) :=
  Z.getIN F (ref := "SafeBuckets$Sheet") in_X3 (ci := 2) rfl (by decide) (kf := 3) (by decide) (host := "SafeBuckets") (List.mem_of_getElem? (i := 6) rfl) (fun _ h => h) rfl hdg k
theorem gfX1_35 (F : ZF p R s m args meth c cc nL "SafeBuckets" nm ret D A al sz mc ms fr lo) {z : Nat} {K : Nat → ZM → Prop} (hdg : decode cc pc = .ok (.getfield 35, 3)) (k : ∀ u, ZW p l e R s m args below meth c Q nL D A al n0 (K u) (pc + 3) L (zv u :: st)) : ZW p l e R s m args below meth c Q nL D A al n0 (zgR 1 z 8 K) pc L (zv z :: st) :=
  Z.getR F (ref := "SafeBuckets") in_X1 (ci := 0) rfl (by decide) (kf := 8) (by decide) q394 (fun _ h => h) rfl hdg k
theorem clX1_167 (F : ZF p R s m args meth c cc nL "SafeBuckets" nm ret D A al sz mc ms fr lo) {h0 : Nat} {x1 : Int32} {x2 : Int32} {K : Int32 → ZM → Prop} (hR : 2 + 1 ≤ fr ∧ 8 + (5 + 11) + 44 ≤ lo) (hst4 : zlw st) (hdg : decode cc pc = .ok (.invokevirtual 167, 3)) (k : ∀ r, ZW p l e R s m args below meth c Q nL D A al n0 (K r) (pc + 3) L (.int r :: st)) : ZW p l e R s m args below meth c Q nL D A al n0 (zat 3 h0 (f_X3_count h0 x1 x2 K)) pc L (.int x2 :: .int x1 :: zv h0 :: st) :=
  Z.ri0 _ (fun μ H locs cells slots ls hI h hP => Z.V0 F hI (n := 2) (ci := 2) rfl (by decide) hP.1 hP.2 (k_X3_count l h0 x1 x2 D A (zX μ, zC μ, zS μ) H.size K μ) q892 q893 q894 q118 q895 (by decide +kernel) rfl h.1 hst4 hR rfl hdg) k
theorem gfX1_38 (F : ZF p R s m args meth c cc nL "SafeBuckets" nm ret D A al sz mc ms fr lo) {z : Nat} {K : Nat → ZM → Prop} (hdg : decode cc pc = .ok (.getfield 38, 3)) (k : ∀ u, ZW p l e R s m args below meth c Q nL D A al n0 (K u) (pc + 3) L (zv u :: st)) : ZW p l e R s m args below meth c Q nL D A al n0 (zgR 1 z 9 K) pc L (zv z :: st) :=
  Z.getR F (ref := "SafeBuckets") in_X1 (ci := 0) rfl (by decide) (kf := 9) (by decide) q396 (fun _ h => h) rfl hdg k
theorem gfX1_41 (F : ZF p R s m args meth c cc nL "SafeBuckets" nm ret D A al sz mc ms fr lo) {z : Nat} {K : Nat → ZM → Prop} (hdg : decode cc pc = .ok (.getfield 41, 3)) (k : ∀ u, ZW p l e R s m args below meth c Q nL D A al n0 (K u) (pc + 3) L (zv u :: st)) : ZW p l e R s m args below meth c Q nL D A al n0 (zgR 1 z 10 K) pc L (zv z :: st) :=
  Z.getR F (ref := "SafeBuckets") in_X1 (ci := 0) rfl (by decide) (kf := 10) (by decide) q397 (fun _ h => h) rfl hdg k
set_option maxHeartbeats 4000000 in
theorem k_X1_counts (l : Launch) (h0 : Nat) (h1 : Nat) (x2 : Int32) : ZCv l yX1_counts (ws_ yX1_counts cX1_counts 4 none) 3 68 0 0 false [zv h0, zv h1, .int x2] (f_X1_counts h0 h1 x2) := by
  refine Z.metV (by decide +kernel) (fun h => ⟨rfl, rfl⟩) (L0 := [(0, zv h0), (1, zv h1), (2, .int x2)]) (by first | (rw [zla_v, zla_v, zla_i, zla_0]; done) | (rw [zla_v, zla_v, zla_i, zla_0]; rfl)) (by rw [zsl_v, zsl_v, zsl_i, zsl_0]; exact Nat.le_of_ble_eq_true rfl) ?_
  intro p e R s m args below meth c D A n0 sz k F
  have F : ZF p R s m args meth c cX1_counts 4 "SafeBuckets" "counts" none D A false sz 0 0 3 68 := F
  unfold f_X1_counts
  refine Z.iconst F (v := (0 : Int32)) (by decide) dX1_counts_0 ?_
  refine Z.istore_n F (L0 := [(0, zv h0), (1, zv h1), (2, .int x2)]) [0, 1, 2] rfl (zkR rfl (zkR rfl (zkI rfl zkN))) (by decide) dX1_counts_1 ?_
  refine Z.sub [1, 2, 3, 0] rfl ?_
  refine Z.w1 (Lf := fun p2l3 => [(0, zv h0), (1, zv h1), (2, .int x2), (3, .int p2l3)]) (sf := fun p2l3 => []) (fun r2 hr2 p2l3 => ?_) (0 : Int32)
  refine Z.iload_n F 3 rfl dX1_counts_2 ?_
  refine Z.aload_n F 1 rfl dX1_counts_3 ?_
  refine gfX1_164 F dX1_counts_4 (fun g4 => ?_)
  refine Z.icmp_ge F (tgt := 77) dX1_counts_7 (by decide) ?_ ?_
  · exact Z.vret F dX1_counts_77
  refine Z.aload_n F 0 rfl dX1_counts_10 ?_
  refine gfX1_35 F dX1_counts_11 (fun g11 => ?_)
  refine Z.iload_n F 3 rfl dX1_counts_14 ?_
  refine Z.aload_n F 1 rfl dX1_counts_15 ?_
  refine Z.iload_n F 2 rfl dX1_counts_16 ?_
  refine Z.iload_n F 3 rfl dX1_counts_17 ?_
  refine clX1_167 F ⟨Nat.le_of_ble_eq_true rfl, Nat.le_of_ble_eq_true rfl⟩ (zlw4 (Nat.le_of_ble_eq_true rfl)) dX1_counts_18 (fun r18 => ?_)
  refine Z.iast F dX1_counts_21 ?_
  refine Z.aload_n F 0 rfl dX1_counts_22 ?_
  refine gfX1_38 F dX1_counts_23 (fun g23 => ?_)
  refine Z.iload_n F 3 rfl dX1_counts_26 ?_
  refine Z.iconst F (v := (1 : Int32)) (by decide) dX1_counts_27 ?_
  refine Z.iadd F dX1_counts_28 ?_
  refine Z.aload_n F 0 rfl dX1_counts_29 ?_
  refine gfX1_38 F dX1_counts_30 (fun g30 => ?_)
  refine Z.iload_n F 3 rfl dX1_counts_33 ?_
  refine Z.iald F dX1_counts_34 (fun g34 => ?_)
  refine Z.aload_n F 0 rfl dX1_counts_35 ?_
  refine gfX1_35 F dX1_counts_36 (fun g36 => ?_)
  refine Z.iload_n F 3 rfl dX1_counts_39 ?_
  refine Z.iald F dX1_counts_40 (fun g40 => ?_)
  refine Z.iadd F dX1_counts_41 ?_
  refine Z.iast F dX1_counts_42 ?_
  refine Z.aload_n F 0 rfl dX1_counts_43 ?_
  refine gfX1_41 F dX1_counts_44 (fun g44 => ?_)
  refine Z.iload_n F 3 rfl dX1_counts_47 ?_
  refine Z.iconst F (v := (1 : Int32)) (by decide) dX1_counts_48 ?_
  refine Z.iadd F dX1_counts_49 ?_
  refine Z.aload_n F 0 rfl dX1_counts_50 ?_
  refine gfX1_41 F dX1_counts_51 (fun g51 => ?_)
  refine Z.iload_n F 3 rfl dX1_counts_54 ?_
  refine Z.iald F dX1_counts_55 (fun g55 => ?_)
  refine Z.aload_n F 0 rfl dX1_counts_56 ?_
  refine gfX1_35 F dX1_counts_57 (fun g57 => ?_)
  refine Z.iload_n F 3 rfl dX1_counts_60 ?_
  refine Z.iald F dX1_counts_61 (fun g61 => ?_)
  refine Z.aload_n F 0 rfl dX1_counts_62 ?_
  refine gfX1_35 F dX1_counts_63 (fun g63 => ?_)
  refine Z.iload_n F 3 rfl dX1_counts_66 ?_
  refine Z.iald F dX1_counts_67 (fun g67 => ?_)
  refine Z.imul F dX1_counts_68 ?_
  refine Z.iadd F dX1_counts_69 ?_
  refine Z.iast F dX1_counts_70 ?_
  refine Z.iinc F (L0 := [(0, zv h0), (1, zv h1), (2, .int x2)]) (k0 := 3) (v := (1 : Int32)) rfl (by decide) [0, 1, 2] rfl (zkR rfl (zkR rfl (zkI rfl zkN))) (by decide) dX1_counts_71 ?_
  refine Z.goto F (tgt := 2) dX1_counts_74 (by decide) ?_
  exact Z.sub [1, 2, 3, 0] rfl (hr2 (p2l3 + (1 : Int32)))
set_option maxHeartbeats 4000000 in
theorem k_X1_errorOf (l : Launch) (h0 : Nat) (x1 : Int32) (x2 : Int32) : ZCl l yX1_errorOf (ws_ yX1_errorOf cX1_errorOf 5 (some .long)) 0 0 0 0 false [zv h0, .int x1, .int x2] (f_X1_errorOf h0 x1 x2) := by
  refine Z.metL (by decide +kernel) (fun h => ⟨rfl, rfl⟩) (L0 := [(0, zv h0), (1, .int x1), (2, .int x2)]) (by first | (rw [zla_v, zla_i, zla_i, zla_0]; done) | (rw [zla_v, zla_i, zla_i, zla_0]; rfl)) (by rw [zsl_v, zsl_i, zsl_i, zsl_0]; exact Nat.le_of_ble_eq_true rfl) ?_
  intro p e R s m args below meth c D A n0 sz k F
  have F : ZF p R s m args meth c cX1_errorOf 5 "SafeBuckets" "errorOf" (some .long) D A false sz 0 0 0 0 := F
  unfold f_X1_errorOf
  refine Z.aload_n F 0 rfl dX1_errorOf_0 ?_
  refine gfX1_38 F dX1_errorOf_1 (fun g1 => ?_)
  refine Z.iload_n F 2 rfl dX1_errorOf_4 ?_
  refine Z.iald F dX1_errorOf_5 (fun g5 => ?_)
  refine Z.aload_n F 0 rfl dX1_errorOf_6 ?_
  refine gfX1_38 F dX1_errorOf_7 (fun g7 => ?_)
  refine Z.iload_n F 1 rfl dX1_errorOf_10 ?_
  refine Z.iald F dX1_errorOf_11 (fun g11 => ?_)
  refine Z.isub F dX1_errorOf_12 ?_
  refine Z.i2l F dX1_errorOf_13 ?_
  refine Z.lstore_n F (L0 := [(0, zv h0), (1, .int x1), (2, .int x2)]) [0, 1, 2] rfl (zmR rfl rfl  (zmI rfl rfl  (zmI rfl rfl  zmN))) (by decide) dX1_errorOf_14 ?_
  refine Z.ldc2 F q904 dX1_errorOf_15 ?_
  refine Z.aload_n F 1 rfl dX1_errorOf_18 ?_
  refine gfX1_41 F dX1_errorOf_19 (fun g19 => ?_)
  refine Z.iload_n F 3 rfl dX1_errorOf_22 ?_
  refine Z.iald F dX1_errorOf_23 (fun g23 => ?_)
  refine Z.aload_n F 1 rfl dX1_errorOf_24 ?_
  refine gfX1_41 F dX1_errorOf_25 (fun g25 => ?_)
  refine Z.iload_n F 2 rfl dX1_errorOf_28 ?_
  refine Z.iald F dX1_errorOf_29 (fun g29 => ?_)
  refine Z.isub F dX1_errorOf_30 ?_
  refine Z.i2l F dX1_errorOf_31 ?_
  refine Z.lmul F dX1_errorOf_32 ?_
  refine Z.ldc2 F q904 dX1_errorOf_33 ?_
  refine Z.iload_n F 3 rfl dX1_errorOf_36 ?_
  refine Z.iload_n F 2 rfl dX1_errorOf_37 ?_
  refine Z.isub F dX1_errorOf_38 ?_
  refine Z.i2l F dX1_errorOf_39 ?_
  refine Z.ldiv F dX1_errorOf_40 ?_
  refine Z.lload_n F 0 rfl dX1_errorOf_41 ?_
  refine Z.lmul F dX1_errorOf_42 ?_
  refine Z.lload_n F 0 rfl dX1_errorOf_43 ?_
  refine Z.lmul F dX1_errorOf_44 ?_
  refine Z.nmJ (fun v44 => ?_)
  refine Z.lsub F dX1_errorOf_45 ?_
  exact Z.lret F dX1_errorOf_46
theorem gfX1_179 (F : ZF p R s m args meth c cc nL "SafeBuckets" nm ret D A al sz mc ms fr lo) {z : Nat} {K : Int32 → ZM → Prop} (hdg : decode cc pc = .ok (.getfield 179, 3)) (k : ∀ u, ZW p l e R s m args below meth c Q nL D A al n0 (K u) (pc + 3) L (.int u :: st)) : ZW p l e R s m args below meth c Q nL D A al n0 (zgI 1 z 14 K) pc L (zv z :: st) :=
  Z.getI F (ref := "SafeBuckets") in_X1 (ci := 0) rfl (by decide) (kf := 14) (by decide) q402 (fun _ h => h) rfl hdg k
theorem pfX1_179 (F : ZF p R s m args meth c cc nL "SafeBuckets" nm ret D A al sz mc ms fr lo) {z : Nat} {u : Int32} (hdg : decode cc pc = .ok (.putfield 179, 3)) (k : ZW p l e R s m args below meth c Q nL D A al n0 P (pc + 3) L st) : ZW p l e R s m args below meth c Q nL D A al n0 (zpI 1 z 14 u P) pc L (.int u :: zv z :: st) :=
  Z.putI F (ref := "SafeBuckets") in_X1 (ci := 0) rfl (by decide) (kf := 14) (by decide) q402 (fun _ h => h) tyX1 tyX1_ok nmX1 rfl rfl rfl hdg k
theorem gfX1_46 (F : ZF p R s m args meth c cc nL "SafeBuckets" nm ret D A al sz mc ms fr lo) {z : Nat} {K : Nat → ZM → Prop} (hdg : decode cc pc = .ok (.getfield 46, 3)) (k : ∀ u, ZW p l e R s m args below meth c Q nL D A al n0 (K u) (pc + 3) L (zv u :: st)) : ZW p l e R s m args below meth c Q nL D A al n0 (zgR 1 z 11 K) pc L (zv z :: st) :=
  Z.getR F (ref := "SafeBuckets") in_X1 (ci := 0) rfl (by decide) (kf := 11) (by decide) q398 (fun _ h => h) rfl hdg k
theorem clX1_182 (F : ZF p R s m args meth c cc nL "SafeBuckets" nm ret D A al sz mc ms fr lo) {h0 : Nat} {x1 : Int32} {x2 : Int32} {K : Int64 → ZM → Prop} (hR : 0 + 1 ≤ fr ∧ 8 + (5 + 11) + 0 ≤ lo) (hst4 : zlw st) (hdg : decode cc pc = .ok (.invokevirtual 182, 3)) (k : ∀ r, ZW p l e R s m args below meth c Q nL D A al n0 (K r) (pc + 3) L (.long r :: st)) : ZW p l e R s m args below meth c Q nL D A al n0 (zat 1 h0 (f_X1_errorOf h0 x1 x2 K)) pc L (.int x2 :: .int x1 :: zv h0 :: st) :=
  Z.rl0 _ (fun μ H locs cells slots ls hI h hP => Z.V0 F hI (n := 2) (ci := 0) rfl (by decide) hP.1 hP.2 (k_X1_errorOf l h0 x1 x2 D A (zX μ, zC μ, zS μ) H.size K μ) q900 q902 qs14 q116 q903 (by decide +kernel) rfl h.1 hst4 hR rfl hdg) k
theorem gfX1_176 (F : ZF p R s m args meth c cc nL "SafeBuckets" nm ret D A al sz mc ms fr lo) {z : Nat} {K : Int32 → ZM → Prop} (hdg : decode cc pc = .ok (.getfield 176, 3)) (k : ∀ u, ZW p l e R s m args below meth c Q nL D A al n0 (K u) (pc + 3) L (.int u :: st)) : ZW p l e R s m args below meth c Q nL D A al n0 (zgI 1 z 13 K) pc L (zv z :: st) :=
  Z.getI F (ref := "SafeBuckets") in_X1 (ci := 0) rfl (by decide) (kf := 13) (by decide) q401 (fun _ h => h) rfl hdg k
theorem pfX1_176 (F : ZF p R s m args meth c cc nL "SafeBuckets" nm ret D A al sz mc ms fr lo) {z : Nat} {u : Int32} (hdg : decode cc pc = .ok (.putfield 176, 3)) (k : ZW p l e R s m args below meth c Q nL D A al n0 P (pc + 3) L st) : ZW p l e R s m args below meth c Q nL D A al n0 (zpI 1 z 13 u P) pc L (.int u :: zv z :: st) :=
  Z.putI F (ref := "SafeBuckets") in_X1 (ci := 0) rfl (by decide) (kf := 13) (by decide) q401 (fun _ h => h) tyX1 tyX1_ok nmX1 rfl rfl rfl hdg k
theorem gfX1_51 (F : ZF p R s m args meth c cc nL "SafeBuckets" nm ret D A al sz mc ms fr lo) {z : Nat} {K : Nat → ZM → Prop} (hdg : decode cc pc = .ok (.getfield 51, 3)) (k : ∀ u, ZW p l e R s m args below meth c Q nL D A al n0 (K u) (pc + 3) L (zv u :: st)) : ZW p l e R s m args below meth c Q nL D A al n0 (zgR 1 z 12 K) pc L (zv z :: st) :=
  Z.getR F (ref := "SafeBuckets") in_X1 (ci := 0) rfl (by decide) (kf := 12) (by decide) q399 (fun _ h => h) rfl hdg k
set_option maxHeartbeats 4000000 in
theorem k_X1_tries (l : Launch) (h0 : Nat) (x1 : Int32) (x2 : Int32) (x3 : Int32) : ZCv l yX1_tries (ws_ yX1_tries cX1_tries 7 none) 1 24 0 0 false [zv h0, .int x1, .int x2, .int x3] (f_X1_tries h0 x1 x2 x3) := by
  refine Z.metV (by decide +kernel) (fun h => ⟨rfl, rfl⟩) (L0 := [(0, zv h0), (1, .int x1), (2, .int x2), (3, .int x3)]) (by first | (rw [zla_v, zla_i, zla_i, zla_i, zla_0]; done) | (rw [zla_v, zla_i, zla_i, zla_i, zla_0]; rfl)) (by rw [zsl_v, zsl_i, zsl_i, zsl_i, zsl_0]; exact Nat.le_of_ble_eq_true rfl) ?_
  intro p e R s m args below meth c D A n0 sz k F
  have F : ZF p R s m args meth c cX1_tries 7 "SafeBuckets" "tries" none D A false sz 0 0 1 24 := F
  unfold f_X1_tries
  refine Z.aload_n F 0 rfl dX1_tries_0 ?_
  refine Z.dup F dX1_tries_1 ?_
  refine gfX1_179 F dX1_tries_2 (fun g2 => ?_)
  refine Z.iload_n F 3 rfl dX1_tries_5 ?_
  refine Z.iload_n F 2 rfl dX1_tries_6 ?_
  refine Z.isub F dX1_tries_7 ?_
  refine Z.iadd F dX1_tries_8 ?_
  refine pfX1_179 F dX1_tries_9 ?_
  refine Z.aload_n F 0 rfl dX1_tries_12 ?_
  refine gfX1_46 F dX1_tries_13 (fun g13 => ?_)
  refine Z.iload_n F 1 rfl dX1_tries_16 ?_
  refine Z.aald F (t := 4) (by decide) rfl rfl dX1_tries_17 (fun g17 => ?_)
  refine Z.iload_n F 2 rfl dX1_tries_18 ?_
  refine Z.ldc2 F q909 dX1_tries_19 ?_
  refine Z.last F dX1_tries_22 ?_
  refine Z.iload_n F 2 rfl dX1_tries_23 ?_
  refine Z.iconst F (v := (1 : Int32)) (by decide) dX1_tries_24 ?_
  refine Z.iadd F dX1_tries_25 ?_
  refine Z.istore F (L0 := [(0, zv h0), (1, .int x1), (2, .int x2), (3, .int x3)]) [0, 1, 2, 3] rfl (zkR rfl (zkI rfl (zkI rfl (zkI rfl zkN)))) (by decide) dX1_tries_26 ?_
  refine Z.jn0 (J := _) ([]) ([]) 134 (?_) (fun j134 hj134 => ?_)
  · exact Z.vret F dX1_tries_134
  refine Z.jn0 (J := _) ([]) ([]) 125 (?_) (fun j125 hj125 => ?_)
  · refine Z.goto F (tgt := 134) dX1_tries_125 (by decide) ?_
    exact Z.sub [] rfl (hj134)
  refine Z.sub [1, 2, 3, 4, 0] rfl ?_
  refine Z.w1 (Lf := fun p28l4 => [(0, zv h0), (1, .int x1), (2, .int x2), (3, .int x3), (4, .int p28l4)]) (sf := fun p28l4 => []) (fun r28 hr28 p28l4 => ?_) (x2 + (1 : Int32))
  refine Z.iload F 4 rfl dX1_tries_28 ?_
  refine Z.iload_n F 3 rfl dX1_tries_30 ?_
  refine Z.icmp_gt F (tgt := 134) dX1_tries_31 (by decide) ?_ ?_
  · exact Z.sub [] rfl (hj134)
  refine Z.aload_n F 0 rfl dX1_tries_34 ?_
  refine Z.iload_n F 2 rfl dX1_tries_35 ?_
  refine Z.iload F 4 rfl dX1_tries_36 ?_
  refine clX1_182 F ⟨Nat.le_of_ble_eq_true rfl, Nat.le_of_ble_eq_true rfl⟩ (zlw4 (Nat.le_of_ble_eq_true rfl)) dX1_tries_38 (fun r38 => ?_)
  refine Z.lstore F (L0 := [(0, zv h0), (1, .int x1), (2, .int x2), (3, .int x3), (4, .int p28l4)]) [0, 1, 2, 3, 4] rfl (zmR rfl rfl  (zmI rfl rfl  (zmI rfl rfl  (zmI rfl rfl  (zmI rfl rfl  zmN))))) (by decide) dX1_tries_41 ?_
  refine Z.aload_n F 1 rfl dX1_tries_43 ?_
  refine Z.dup F dX1_tries_44 ?_
  refine gfX1_176 F dX1_tries_45 (fun g45 => ?_)
  refine Z.iconst F (v := (1 : Int32)) (by decide) dX1_tries_48 ?_
  refine Z.iadd F dX1_tries_49 ?_
  refine pfX1_176 F dX1_tries_50 ?_
  refine Z.lload F 0 rfl dX1_tries_53 ?_
  refine Z.aload_n F 1 rfl dX1_tries_55 ?_
  refine gfX1_46 F dX1_tries_56 (fun g56 => ?_)
  refine Z.iload_n F 2 rfl dX1_tries_59 ?_
  refine Z.iconst F (v := (1 : Int32)) (by decide) dX1_tries_60 ?_
  refine Z.isub F dX1_tries_61 ?_
  refine Z.aald F (t := 4) (by decide) rfl rfl dX1_tries_62 (fun g62 => ?_)
  refine Z.iload F 5 rfl dX1_tries_63 ?_
  refine Z.lald F dX1_tries_65 (fun g65 => ?_)
  refine Z.ladd F dX1_tries_66 ?_
  refine Z.aload_n F 1 rfl dX1_tries_67 ?_
  refine gfX1_46 F dX1_tries_68 (fun g68 => ?_)
  refine Z.iload_n F 2 rfl dX1_tries_71 ?_
  refine Z.aald F (t := 4) (by decide) rfl rfl dX1_tries_72 (fun g72 => ?_)
  refine Z.iload_n F 3 rfl dX1_tries_73 ?_
  refine Z.lald F dX1_tries_74 (fun g74 => ?_)
  refine Z.lcmp F dX1_tries_75 ?_
  refine Z.jn0 (J := _) ([(0, zv h0), (1, .int x1), (2, .int x2), (3, .int x3), (4, .int p28l4), (5, .long r38)]) ([]) 111 (?_) (fun j111 hj111 => ?_)
  · refine Z.lload F 5 rfl dX1_tries_111 ?_
    refine Z.aload_n F 0 rfl dX1_tries_113 ?_
    refine gfX1_46 F dX1_tries_114 (fun g114 => ?_)
    refine Z.iload_n F 1 rfl dX1_tries_117 ?_
    refine Z.aald F (t := 4) (by decide) rfl rfl dX1_tries_118 (fun g118 => ?_)
    refine Z.iload_n F 2 rfl dX1_tries_119 ?_
    refine Z.lald F dX1_tries_120 (fun g120 => ?_)
    refine Z.lcmp F dX1_tries_121 ?_
    refine Z.if_lt F (tgt := 128) dX1_tries_122 (by decide) ?_ ?_
    · refine Z.iinc F (L0 := [(0, zv h0), (1, .int x1), (2, .int x2), (3, .int x3), (5, .long r38)]) (k0 := 4) (v := (1 : Int32)) rfl (by decide) [0, 1, 2, 3, 5] rfl (zkR rfl (zkI rfl (zkI rfl (zkI rfl (zkL rfl rfl zkN))))) (by decide) dX1_tries_128 ?_
      refine Z.goto F (tgt := 28) dX1_tries_131 (by decide) ?_
      exact Z.sub [1, 2, 3, 4, 0] rfl (hr28 (p28l4 + (1 : Int32)))
    exact Z.sub [] rfl (hj125)
  refine Z.if_ge F (tgt := 111) dX1_tries_76 (by decide) ?_ ?_
  · exact Z.sub [1, 2, 3, 4, 5, 0] rfl (hj111)
  refine Z.aload_n F 1 rfl dX1_tries_79 ?_
  refine gfX1_46 F dX1_tries_80 (fun g80 => ?_)
  refine Z.iload_n F 2 rfl dX1_tries_83 ?_
  refine Z.aald F (t := 4) (by decide) rfl rfl dX1_tries_84 (fun g84 => ?_)
  refine Z.iload_n F 3 rfl dX1_tries_85 ?_
  refine Z.lload F 0 rfl dX1_tries_86 ?_
  refine Z.aload_n F 1 rfl dX1_tries_88 ?_
  refine gfX1_46 F dX1_tries_89 (fun g89 => ?_)
  refine Z.iload_n F 2 rfl dX1_tries_92 ?_
  refine Z.iconst F (v := (1 : Int32)) (by decide) dX1_tries_93 ?_
  refine Z.isub F dX1_tries_94 ?_
  refine Z.aald F (t := 4) (by decide) rfl rfl dX1_tries_95 (fun g95 => ?_)
  refine Z.iload F 5 rfl dX1_tries_96 ?_
  refine Z.lald F dX1_tries_98 (fun g98 => ?_)
  refine Z.ladd F dX1_tries_99 ?_
  refine Z.last F dX1_tries_100 ?_
  refine Z.aload_n F 1 rfl dX1_tries_101 ?_
  refine gfX1_51 F dX1_tries_102 (fun g102 => ?_)
  refine Z.iload_n F 2 rfl dX1_tries_105 ?_
  refine Z.aald F (t := 5) (by decide) rfl rfl dX1_tries_106 (fun g106 => ?_)
  refine Z.iload_n F 3 rfl dX1_tries_107 ?_
  refine Z.iload F 5 rfl dX1_tries_108 ?_
  refine Z.iast F dX1_tries_110 ?_
  exact Z.sub [1, 2, 3, 4, 5, 0] rfl (hj111)
theorem clX1_173 (F : ZF p R s m args meth c cc nL "SafeBuckets" nm ret D A al sz mc ms fr lo) {h0 : Nat} {h1 : Nat} {x2 : Int32} {K : ZM → Prop} (hR : 3 + 1 ≤ fr ∧ 8 + (4 + 11) + 68 ≤ lo) (hst4 : zlw st) (hdg : decode cc pc = .ok (.invokevirtual 173, 3)) (k : ZW p l e R s m args below meth c Q nL D A al n0 K (pc + 3) L st) : ZW p l e R s m args below meth c Q nL D A al n0 (zat 1 h0 (f_X1_counts h0 h1 x2 K)) pc L (.int x2 :: zv h1 :: zv h0 :: st) :=
  Z.rv0 _ (fun μ H locs cells slots ls hI h hP => Z.V0 F hI (n := 2) (ci := 0) rfl (by decide) hP.1 hP.2 (k_X1_counts l h0 h1 x2 D A (zX μ, zC μ, zS μ) H.size K μ) q888 q890 qs13 q116 q891 (by decide +kernel) rfl h.1 hst4 hR rfl hdg) k
theorem clX1_186 (F : ZF p R s m args meth c cc nL "SafeBuckets" nm ret D A al sz mc ms fr lo) {h0 : Nat} {x1 : Int32} {x2 : Int32} {x3 : Int32} {K : ZM → Prop} (hR : 1 + 1 ≤ fr ∧ 8 + (7 + 11) + 24 ≤ lo) (hst4 : zlw st) (hdg : decode cc pc = .ok (.invokevirtual 186, 3)) (k : ZW p l e R s m args below meth c Q nL D A al n0 K (pc + 3) L st) : ZW p l e R s m args below meth c Q nL D A al n0 (zat 1 h0 (f_X1_tries h0 x1 x2 x3 K)) pc L (.int x3 :: .int x2 :: .int x1 :: zv h0 :: st) :=
  Z.rv0 _ (fun μ H locs cells slots ls hI h hP => Z.V0 F hI (n := 3) (ci := 0) rfl (by decide) hP.1 hP.2 (k_X1_tries l h0 x1 x2 x3 D A (zX μ, zC μ, zS μ) H.size K μ) q905 q907 qs15 q116 q908 (by decide +kernel) rfl h.1 hst4 hR rfl hdg) k
set_option maxHeartbeats 4000000 in
theorem k_X1_lays (l : Launch) (h0 : Nat) (h1 : Nat) (x2 : Int32) (x3 : Int32) : ZCv l yX1_lays (ws_ yX1_lays cX1_lays 7 none) 4 91 0 0 false [zv h0, zv h1, .int x2, .int x3] (f_X1_lays h0 h1 x2 x3) := by
  refine Z.metV (by decide +kernel) (fun h => ⟨rfl, rfl⟩) (L0 := [(0, zv h0), (1, zv h1), (2, .int x2), (3, .int x3)]) (by first | (rw [zla_v, zla_v, zla_i, zla_i, zla_0]; done) | (rw [zla_v, zla_v, zla_i, zla_i, zla_0]; rfl)) (by rw [zsl_v, zsl_v, zsl_i, zsl_i, zsl_0]; exact Nat.le_of_ble_eq_true rfl) ?_
  intro p e R s m args below meth c D A n0 sz k F
  have F : ZF p R s m args meth c cX1_lays 7 "SafeBuckets" "lays" none D A false sz 0 0 4 91 := F
  unfold f_X1_lays
  refine Z.aload_n F 0 rfl dX1_lays_0 ?_
  refine Z.aload_n F 1 rfl dX1_lays_1 ?_
  refine Z.iload_n F 2 rfl dX1_lays_2 ?_
  refine clX1_173 F ⟨Nat.le_of_ble_eq_true rfl, Nat.le_of_ble_eq_true rfl⟩ (zlw4 (Nat.le_of_ble_eq_true rfl)) dX1_lays_3 ?_
  refine Z.aload_n F 1 rfl dX1_lays_6 ?_
  refine gfX1_164 F dX1_lays_7 (fun g7 => ?_)
  refine Z.istore F (L0 := [(0, zv h0), (1, zv h1), (2, .int x2), (3, .int x3)]) [0, 1, 2, 3] rfl (zkR rfl (zkR rfl (zkI rfl (zkI rfl zkN)))) (by decide) dX1_lays_10 ?_
  refine Z.aload_n F 1 rfl dX1_lays_12 ?_
  refine Z.iconst F (v := (0 : Int32)) (by decide) dX1_lays_13 ?_
  refine pfX1_176 F dX1_lays_14 ?_
  refine Z.aload_n F 1 rfl dX1_lays_17 ?_
  refine Z.iconst F (v := (0 : Int32)) (by decide) dX1_lays_18 ?_
  refine pfX1_179 F dX1_lays_19 ?_
  refine Z.iconst F (v := (0 : Int32)) (by decide) dX1_lays_22 ?_
  refine Z.istore F (L0 := [(4, .int g7), (0, zv h0), (1, zv h1), (2, .int x2), (3, .int x3)]) [0, 1, 2, 3, 4] rfl (zkI rfl (zkR rfl (zkR rfl (zkI rfl (zkI rfl zkN))))) (by decide) dX1_lays_23 ?_
  refine Z.jn0 (J := _) ([(0, zv h0), (3, .int x3), (4, .int g7)]) ([]) 86 (?_) (fun j86 hj86 => ?_)
  · refine Z.iconst F (v := (2 : Int32)) (by decide) dX1_lays_86 ?_
    refine Z.istore F (L0 := [(0, zv h0), (3, .int x3), (4, .int g7)]) [0, 1, 2] rfl (zkR rfl (zkI rfl (zkI rfl zkN))) (by decide) dX1_lays_87 ?_
    refine Z.sub [1, 2, 3, 0] rfl ?_
    refine Z.w1 (Lf := fun p89l5 => [(0, zv h0), (3, .int x3), (4, .int g7), (5, .int p89l5)]) (sf := fun p89l5 => []) (fun r89 hr89 p89l5 => ?_) (2 : Int32)
    refine Z.iload F 3 rfl dX1_lays_89 ?_
    refine Z.iload_n F 1 rfl dX1_lays_91 ?_
    refine Z.icmp_gt F (tgt := 135) dX1_lays_92 (by decide) ?_ ?_
    · exact Z.vret F dX1_lays_135
    refine Z.iconst F (v := (0 : Int32)) (by decide) dX1_lays_95 ?_
    refine Z.istore F (L0 := [(0, zv h0), (3, .int x3), (4, .int g7), (5, .int p89l5)]) [0, 1, 2, 3] rfl (zkR rfl (zkI rfl (zkI rfl (zkI rfl zkN)))) (by decide) dX1_lays_96 ?_
    refine Z.jn1 (J := _) (fun p129l5 => [(0, zv h0), (3, .int x3), (4, .int g7), (5, .int p129l5)]) (fun p129l5 => []) 129 (fun p129l5 => ?_) (fun j129 hj129 => ?_)
    · refine Z.iinc F (L0 := [(0, zv h0), (3, .int x3), (4, .int g7)]) (k0 := 3) (v := (1 : Int32)) rfl (by decide) [0, 1, 2] rfl (zkR rfl (zkI rfl (zkI rfl zkN))) (by decide) dX1_lays_129 ?_
      refine Z.goto F (tgt := 89) dX1_lays_132 (by decide) ?_
      exact Z.sub [1, 2, 3, 0] rfl (hr89 (p129l5 + (1 : Int32)))
    refine Z.sub [1, 2, 3, 4, 0] rfl ?_
    refine Z.w2 (Lf := fun p98l5 p98l6 => [(0, zv h0), (3, .int x3), (4, .int g7), (5, .int p98l5), (6, .int p98l6)]) (sf := fun p98l5 p98l6 => []) (fun r98 hr98 p98l5 p98l6 => ?_) p89l5 (0 : Int32)
    refine Z.iload F 4 rfl dX1_lays_98 ?_
    refine Z.iload F 2 rfl dX1_lays_100 ?_
    refine Z.iload F 3 rfl dX1_lays_102 ?_
    refine Z.isub F dX1_lays_104 ?_
    refine Z.icmp_gt F (tgt := 129) dX1_lays_105 (by decide) ?_ ?_
    · exact Z.sub [0, 1, 2, 3] rfl (hj129 p98l5)
    refine Z.aload_n F 0 rfl dX1_lays_108 ?_
    refine Z.iload F 3 rfl dX1_lays_109 ?_
    refine Z.iload F 4 rfl dX1_lays_111 ?_
    refine Z.iload F 2 rfl dX1_lays_113 ?_
    refine Z.iload F 3 rfl dX1_lays_115 ?_
    refine Z.isub F dX1_lays_117 ?_
    refine Z.iconst F (v := (1 : Int32)) (by decide) dX1_lays_118 ?_
    refine Z.iadd F dX1_lays_119 ?_
    refine clX1_186 F ⟨Nat.le_of_ble_eq_true rfl, Nat.le_of_ble_eq_true rfl⟩ (zlw4 (Nat.le_of_ble_eq_true rfl)) dX1_lays_120 ?_
    refine Z.iinc F (L0 := [(0, zv h0), (3, .int x3), (4, .int g7), (5, .int p98l5)]) (k0 := 4) (v := (1 : Int32)) rfl (by decide) [0, 1, 2, 3] rfl (zkR rfl (zkI rfl (zkI rfl (zkI rfl zkN)))) (by decide) dX1_lays_123 ?_
    refine Z.goto F (tgt := 98) dX1_lays_126 (by decide) ?_
    exact Z.sub [1, 2, 3, 4, 0] rfl (hr98 p98l5 (p98l6 + (1 : Int32)))
  refine Z.sub [2, 5, 1, 0] rfl ?_
  refine Z.w1 (Lf := fun p25l5 => [(0, zv h0), (3, .int x3), (4, .int g7), (5, .int p25l5)]) (sf := fun p25l5 => []) (fun r25 hr25 p25l5 => ?_) (0 : Int32)
  refine Z.iload F 3 rfl dX1_lays_25 ?_
  refine Z.iload F 2 rfl dX1_lays_27 ?_
  refine Z.icmp_ge F (tgt := 86) dX1_lays_29 (by decide) ?_ ?_
  · exact Z.sub [0, 1, 2] rfl (hj86)
  refine Z.aload_n F 0 rfl dX1_lays_32 ?_
  refine gfX1_46 F dX1_lays_33 (fun g33 => ?_)
  refine Z.iconst F (v := (1 : Int32)) (by decide) dX1_lays_36 ?_
  refine Z.aald F (t := 4) (by decide) rfl rfl dX1_lays_37 (fun g37 => ?_)
  refine Z.iload F 3 rfl dX1_lays_38 ?_
  refine Z.aload_n F 0 rfl dX1_lays_40 ?_
  refine Z.iload F 3 rfl dX1_lays_41 ?_
  refine Z.iload F 2 rfl dX1_lays_43 ?_
  refine clX1_182 F ⟨Nat.le_of_ble_eq_true rfl, Nat.le_of_ble_eq_true rfl⟩ (zlw4 (Nat.le_of_ble_eq_true rfl)) dX1_lays_45 (fun r45 => ?_)
  refine Z.last F dX1_lays_48 ?_
  refine Z.aload_n F 0 rfl dX1_lays_49 ?_
  refine gfX1_51 F dX1_lays_50 (fun g50 => ?_)
  refine Z.iconst F (v := (1 : Int32)) (by decide) dX1_lays_53 ?_
  refine Z.aald F (t := 5) (by decide) rfl rfl dX1_lays_54 (fun g54 => ?_)
  refine Z.iload F 3 rfl dX1_lays_55 ?_
  refine Z.iload F 2 rfl dX1_lays_57 ?_
  refine Z.iast F dX1_lays_59 ?_
  refine Z.aload_n F 0 rfl dX1_lays_60 ?_
  refine Z.dup F dX1_lays_61 ?_
  refine gfX1_176 F dX1_lays_62 (fun g62 => ?_)
  refine Z.iconst F (v := (1 : Int32)) (by decide) dX1_lays_65 ?_
  refine Z.iadd F dX1_lays_66 ?_
  refine pfX1_176 F dX1_lays_67 ?_
  refine Z.aload_n F 0 rfl dX1_lays_70 ?_
  refine Z.dup F dX1_lays_71 ?_
  refine gfX1_179 F dX1_lays_72 (fun g72 => ?_)
  refine Z.iconst F (v := (1 : Int32)) (by decide) dX1_lays_75 ?_
  refine Z.iadd F dX1_lays_76 ?_
  refine pfX1_179 F dX1_lays_77 ?_
  refine Z.iinc F (L0 := [(0, zv h0), (3, .int x3), (4, .int g7)]) (k0 := 3) (v := (1 : Int32)) rfl (by decide) [0, 1, 2] rfl (zkR rfl (zkI rfl (zkI rfl zkN))) (by decide) dX1_lays_80 ?_
  refine Z.goto F (tgt := 25) dX1_lays_83 (by decide) ?_
  exact Z.sub [1, 2, 3, 0] rfl (hr25 (p25l5 + (1 : Int32)))
theorem gfX3_22 (F : ZF p R s m args meth c cc nL "SafeBuckets$Sheet" nm ret D A al sz mc ms fr lo) {z : Nat} {K : Nat → ZM → Prop} (hdg : decode cc pc = .ok (.getfield 22, 3)) (k : ∀ u, ZW p l e R s m args below meth c Q nL D A al n0 (K u) (pc + 3) L (zv u :: st)) : ZW p l e R s m args below meth c Q nL D A al n0 (zgR 3 z 1 K) pc L (zv z :: st) :=
  Z.getR F (ref := "SafeBuckets$Sheet") in_X3 (ci := 2) rfl (by decide) (kf := 1) (by decide) q275 (fun _ h => h) rfl hdg k
theorem gfX3_3 (F : ZF p R s m args meth c cc nL "SafeBuckets$Sheet" nm ret D A al sz mc ms fr lo) {z : Nat} {K : Nat → ZM → Prop} (hdg : decode cc pc = .ok (.getfield 3, 3)) (k : ∀ u, ZW p l e R s m args below meth c Q nL D A al n0 (K u) (pc + 3) L (zv u :: st)) : ZW p l e R s m args below meth c Q nL D A al n0 (zgR 3 z 4 K) pc L (zv z :: st) :=
  Z.getR F (ref := "SafeBuckets$Sheet") in_X3 (ci := 2) rfl (by decide) (kf := 4) (by decide) q285 (fun _ h => h) rfl hdg k
theorem gfX3_83 (F : ZF p R s m args meth c cc nL "SafeBuckets$Sheet" nm ret D A al sz mc ms fr lo) {z : Nat} {K : Nat → ZM → Prop} (hdg : decode cc pc = .ok (.getfield 83, 3)) (k : ∀ u, ZW p l e R s m args below meth c Q nL D A al n0 (K u) (pc + 3) L (zv u :: st)) : ZW p l e R s m args below meth c Q nL D A al n0 (zgR 1 z 5 K) pc L (zv z :: st) :=
  Z.getRN F (ref := "SafeBuckets") in_X1 (ci := 0) rfl (by decide) (kf := 5) (by decide) (host := "SafeBuckets") (List.mem_of_getElem? (i := 33) rfl) (fun _ h => h) rfl hdg k
theorem gfX3_87 (F : ZF p R s m args meth c cc nL "SafeBuckets$Sheet" nm ret D A al sz mc ms fr lo) {z : Nat} {K : Nat → ZM → Prop} (hdg : decode cc pc = .ok (.getfield 87, 3)) (k : ∀ u, ZW p l e R s m args below meth c Q nL D A al n0 (K u) (pc + 3) L (zv u :: st)) : ZW p l e R s m args below meth c Q nL D A al n0 (zgR 9 z 2 K) pc L (zv z :: st) :=
  Z.getRN F (ref := "SafeBuckets$Book") in_X11 (ci := 8) rfl (by decide) (kf := 2) (by decide) (host := "SafeBuckets") (List.mem_of_getElem? (i := 34) rfl) (fun _ h => h) rfl hdg k
theorem gfX3_93 (F : ZF p R s m args meth c cc nL "SafeBuckets$Sheet" nm ret D A al sz mc ms fr lo) {z : Nat} {K : Nat → ZM → Prop} (hdg : decode cc pc = .ok (.getfield 93, 3)) (k : ∀ u, ZW p l e R s m args below meth c Q nL D A al n0 (K u) (pc + 3) L (zv u :: st)) : ZW p l e R s m args below meth c Q nL D A al n0 (zgR 11 z 0 K) pc L (zv z :: st) :=
  Z.getR F (ref := "SafeBuckets$Rules") in_X15 (ci := 10) rfl (by decide) (kf := 0) (by decide) q593 (fun x h => u_same (F.hts _ q590) x h) rfl hdg k
theorem clX3_103 (F : ZF p R s m args meth c cc nL "SafeBuckets$Sheet" nm ret D A al sz mc ms fr lo) {h0 : Nat} {h1 : Nat} {x2 : Int32} {x3 : Int32} {K : ZM → Prop} (hR : 4 + 1 ≤ fr ∧ 8 + (7 + 11) + 91 ≤ lo) (hst4 : zlw st) (hdg : decode cc pc = .ok (.invokevirtual 103, 3)) (k : ZW p l e R s m args below meth c Q nL D A al n0 K (pc + 3) L st) : ZW p l e R s m args below meth c Q nL D A al n0 (zat 1 h0 (f_X1_lays h0 h1 x2 x3 K)) pc L (.int x3 :: .int x2 :: zv h1 :: zv h0 :: st) :=
  Z.rv0 _ (fun μ H locs cells slots ls hI h hP => Z.VN0 F hI (n := 3) (ci := 0) rfl (by decide) hP.1 hP.2 (k_X1_lays l h0 h1 x2 x3 D A (zX μ, zC μ, zS μ) H.size K μ) (List.mem_of_getElem? (i := 14) rfl) q886 qs12 q116 q887 (by decide +kernel) rfl h.1 hst4 hR rfl hdg) k
theorem pfX3_133 (F : ZF p R s m args meth c cc nL "SafeBuckets$Sheet" nm ret D A al sz mc ms fr lo) {z : Nat} {u : Int32} (hdg : decode cc pc = .ok (.putfield 133, 3)) (k : ZW p l e R s m args below meth c Q nL D A al n0 P (pc + 3) L st) : ZW p l e R s m args below meth c Q nL D A al n0 (zpI 4 z 1 u P) pc L (.int u :: zv z :: st) :=
  Z.putIN F (ref := "SafeBuckets$Column") in_X4 (ci := 3) rfl (by decide) (kf := 1) (by decide) (host := "SafeBuckets") (List.mem_of_getElem? (i := 38) rfl) (fun _ h => h) tyX4 tyX4_ok nmX4 rfl rfl rfl hdg k
theorem pfX3_74 (F : ZF p R s m args meth c cc nL "SafeBuckets$Sheet" nm ret D A al sz mc ms fr lo) {z : Nat} {u : Int32} (hdg : decode cc pc = .ok (.putfield 74, 3)) (k : ZW p l e R s m args below meth c Q nL D A al n0 P (pc + 3) L st) : ZW p l e R s m args below meth c Q nL D A al n0 (zpI 4 z 2 u P) pc L (.int u :: zv z :: st) :=
  Z.putIN F (ref := "SafeBuckets$Column") in_X4 (ci := 3) rfl (by decide) (kf := 2) (by decide) (host := "SafeBuckets") (List.mem_of_getElem? (i := 32) rfl) (fun _ h => h) tyX4 tyX4_ok nmX4 rfl rfl rfl hdg k
theorem gfX3_107 (F : ZF p R s m args meth c cc nL "SafeBuckets$Sheet" nm ret D A al sz mc ms fr lo) {z : Nat} {K : Nat → ZM → Prop} (hdg : decode cc pc = .ok (.getfield 107, 3)) (k : ∀ u, ZW p l e R s m args below meth c Q nL D A al n0 (K u) (pc + 3) L (zv u :: st)) : ZW p l e R s m args below meth c Q nL D A al n0 (zgR 4 z 0 K) pc L (zv z :: st) :=
  Z.getRN F (ref := "SafeBuckets$Column") in_X4 (ci := 3) rfl (by decide) (kf := 0) (by decide) (host := "SafeBuckets") (List.mem_of_getElem? (i := 35) rfl) (fun _ h => h) rfl hdg k
theorem pfX3_111 (F : ZF p R s m args meth c cc nL "SafeBuckets$Sheet" nm ret D A al sz mc ms fr lo) {z : Nat} {u : Int32} (hdg : decode cc pc = .ok (.putfield 111, 3)) (k : ZW p l e R s m args below meth c Q nL D A al n0 P (pc + 3) L st) : ZW p l e R s m args below meth c Q nL D A al n0 (zpI 5 z 0 u P) pc L (.int u :: zv z :: st) :=
  Z.putI F (ref := "SafeBuckets$Bucket") in_X7 (ci := 4) rfl (by decide) (kf := 0) (by decide) q234 (fun x h => u_same (F.hts _ q232) x h) tyX7 tyX7_ok nmX7 rfl rfl rfl hdg k
theorem gfX3_114 (F : ZF p R s m args meth c cc nL "SafeBuckets$Sheet" nm ret D A al sz mc ms fr lo) {z : Nat} {K : Nat → ZM → Prop} (hdg : decode cc pc = .ok (.getfield 114, 3)) (k : ∀ u, ZW p l e R s m args below meth c Q nL D A al n0 (K u) (pc + 3) L (zv u :: st)) : ZW p l e R s m args below meth c Q nL D A al n0 (zgR 1 z 12 K) pc L (zv z :: st) :=
  Z.getRN F (ref := "SafeBuckets") in_X1 (ci := 0) rfl (by decide) (kf := 12) (by decide) (host := "SafeBuckets") (List.mem_of_getElem? (i := 36) rfl) (fun _ h => h) rfl hdg k
theorem pfX3_118 (F : ZF p R s m args meth c cc nL "SafeBuckets$Sheet" nm ret D A al sz mc ms fr lo) {z : Nat} {u : Int32} (hdg : decode cc pc = .ok (.putfield 118, 3)) (k : ZW p l e R s m args below meth c Q nL D A al n0 P (pc + 3) L st) : ZW p l e R s m args below meth c Q nL D A al n0 (zpI 5 z 1 u P) pc L (.int u :: zv z :: st) :=
  Z.putI F (ref := "SafeBuckets$Bucket") in_X7 (ci := 4) rfl (by decide) (kf := 1) (by decide) q241 (fun x h => u_same (F.hts _ q238) x h) tyX7 tyX7_ok nmX7 rfl rfl rfl hdg k
theorem pfX3_121 (F : ZF p R s m args meth c cc nL "SafeBuckets$Sheet" nm ret D A al sz mc ms fr lo) {z : Nat} {u : Int32} (hdg : decode cc pc = .ok (.putfield 121, 3)) (k : ZW p l e R s m args below meth c Q nL D A al n0 P (pc + 3) L st) : ZW p l e R s m args below meth c Q nL D A al n0 (zpI 5 z 2 u P) pc L (.int u :: zv z :: st) :=
  Z.putI F (ref := "SafeBuckets$Bucket") in_X7 (ci := 4) rfl (by decide) (kf := 2) (by decide) q222 (fun x h => u_same (F.hts _ q220) x h) tyX7 tyX7_ok nmX7 rfl rfl rfl hdg k
theorem pfX3_124 (F : ZF p R s m args meth c cc nL "SafeBuckets$Sheet" nm ret D A al sz mc ms fr lo) {z : Nat} {u : Int32} (hdg : decode cc pc = .ok (.putfield 124, 3)) (k : ZW p l e R s m args below meth c Q nL D A al n0 P (pc + 3) L st) : ZW p l e R s m args below meth c Q nL D A al n0 (zpI 5 z 3 u P) pc L (.int u :: zv z :: st) :=
  Z.putI F (ref := "SafeBuckets$Bucket") in_X7 (ci := 4) rfl (by decide) (kf := 3) (by decide) q228 (fun x h => u_same (F.hts _ q226) x h) tyX7 tyX7_ok nmX7 rfl rfl rfl hdg k
theorem gfX3_111 (F : ZF p R s m args meth c cc nL "SafeBuckets$Sheet" nm ret D A al sz mc ms fr lo) {z : Nat} {K : Int32 → ZM → Prop} (hdg : decode cc pc = .ok (.getfield 111, 3)) (k : ∀ u, ZW p l e R s m args below meth c Q nL D A al n0 (K u) (pc + 3) L (.int u :: st)) : ZW p l e R s m args below meth c Q nL D A al n0 (zgI 5 z 0 K) pc L (zv z :: st) :=
  Z.getI F (ref := "SafeBuckets$Bucket") in_X7 (ci := 4) rfl (by decide) (kf := 0) (by decide) q234 (fun x h => u_same (F.hts _ q232) x h) rfl hdg k
theorem gfX3_118 (F : ZF p R s m args meth c cc nL "SafeBuckets$Sheet" nm ret D A al sz mc ms fr lo) {z : Nat} {K : Int32 → ZM → Prop} (hdg : decode cc pc = .ok (.getfield 118, 3)) (k : ∀ u, ZW p l e R s m args below meth c Q nL D A al n0 (K u) (pc + 3) L (.int u :: st)) : ZW p l e R s m args below meth c Q nL D A al n0 (zgI 5 z 1 K) pc L (zv z :: st) :=
  Z.getI F (ref := "SafeBuckets$Bucket") in_X7 (ci := 4) rfl (by decide) (kf := 1) (by decide) q241 (fun x h => u_same (F.hts _ q238) x h) rfl hdg k
theorem gfX3_121 (F : ZF p R s m args meth c cc nL "SafeBuckets$Sheet" nm ret D A al sz mc ms fr lo) {z : Nat} {K : Int32 → ZM → Prop} (hdg : decode cc pc = .ok (.getfield 121, 3)) (k : ∀ u, ZW p l e R s m args below meth c Q nL D A al n0 (K u) (pc + 3) L (.int u :: st)) : ZW p l e R s m args below meth c Q nL D A al n0 (zgI 5 z 2 K) pc L (zv z :: st) :=
  Z.getI F (ref := "SafeBuckets$Bucket") in_X7 (ci := 4) rfl (by decide) (kf := 2) (by decide) q222 (fun x h => u_same (F.hts _ q220) x h) rfl hdg k
theorem gfX3_127 (F : ZF p R s m args meth c cc nL "SafeBuckets$Sheet" nm ret D A al sz mc ms fr lo) {z : Nat} {K : Nat → ZM → Prop} (hdg : decode cc pc = .ok (.getfield 127, 3)) (k : ∀ u, ZW p l e R s m args below meth c Q nL D A al n0 (K u) (pc + 3) L (zv u :: st)) : ZW p l e R s m args below meth c Q nL D A al n0 (zgR 1 z 8 K) pc L (zv z :: st) :=
  Z.getRN F (ref := "SafeBuckets") in_X1 (ci := 0) rfl (by decide) (kf := 8) (by decide) (host := "SafeBuckets") (List.mem_of_getElem? (i := 37) rfl) (fun _ h => h) rfl hdg k
theorem gfX3_124 (F : ZF p R s m args meth c cc nL "SafeBuckets$Sheet" nm ret D A al sz mc ms fr lo) {z : Nat} {K : Int32 → ZM → Prop} (hdg : decode cc pc = .ok (.getfield 124, 3)) (k : ∀ u, ZW p l e R s m args below meth c Q nL D A al n0 (K u) (pc + 3) L (.int u :: st)) : ZW p l e R s m args below meth c Q nL D A al n0 (zgI 5 z 3 K) pc L (zv z :: st) :=
  Z.getI F (ref := "SafeBuckets$Bucket") in_X7 (ci := 4) rfl (by decide) (kf := 3) (by decide) q228 (fun x h => u_same (F.hts _ q226) x h) rfl hdg k
set_option maxHeartbeats 4000000 in
theorem k_X3_builds (l : Launch) (h0 : Nat) (x1 : Int32) : ZCv l yX3_builds (ws_ yX3_builds cX3_builds 8 none) 5 117 0 0 false [zv h0, .int x1] (f_X3_builds h0 x1) := by
  refine Z.metV (by decide +kernel) (fun h => ⟨rfl, rfl⟩) (L0 := [(0, zv h0), (1, .int x1)]) (by first | (rw [zla_v, zla_i, zla_0]; done) | (rw [zla_v, zla_i, zla_0]; rfl)) (by rw [zsl_v, zsl_i, zsl_0]; exact Nat.le_of_ble_eq_true rfl) ?_
  intro p e R s m args below meth c D A n0 sz k F
  have F : ZF p R s m args meth c cX3_builds 8 "SafeBuckets$Sheet" "builds" none D A false sz 0 0 5 117 := F
  unfold f_X3_builds
  refine Z.aload_n F 0 rfl dX3_builds_0 ?_
  refine gfX3_22 F dX3_builds_1 (fun g1 => ?_)
  refine Z.iload_n F 1 rfl dX3_builds_4 ?_
  refine Z.aald F (t := 7) (by decide) rfl rfl dX3_builds_5 (fun g5 => ?_)
  refine Z.astore_n F (L0 := [(0, zv h0), (1, .int x1)]) [0, 1] rfl (zkR rfl (zkI rfl zkN)) (by decide) dX3_builds_6 ?_
  refine Z.aload_n F 1 rfl dX3_builds_7 ?_
  refine gfX3_30 F dX3_builds_8 (fun g8 => ?_)
  refine Z.aload_n F 1 rfl dX3_builds_11 ?_
  refine gfX3_3 F dX3_builds_12 (fun g12 => ?_)
  refine gfX3_83 F dX3_builds_15 (fun g15 => ?_)
  refine gfX3_87 F dX3_builds_18 (fun g18 => ?_)
  refine gfX3_93 F dX3_builds_21 (fun g21 => ?_)
  refine Z.iconst F (v := (0 : Int32)) (by decide) dX3_builds_24 ?_
  refine Z.iald F dX3_builds_25 (fun g25 => ?_)
  refine Z.mmin F q883 (Nat.le_of_ble_eq_true rfl) (Nat.le_of_ble_eq_true rfl) (zlw4 (Nat.le_of_ble_eq_true rfl)) dX3_builds_26 ?_
  refine Z.istore_n F (L0 := [(2, zv g5), (0, zv h0), (1, .int x1)]) [0, 1, 2] rfl (zkR rfl (zkR rfl (zkI rfl zkN))) (by decide) dX3_builds_29 ?_
  refine Z.aload_n F 2 rfl dX3_builds_30 ?_
  refine gfX3_3 F dX3_builds_31 (fun g31 => ?_)
  refine Z.aload_n F 2 rfl dX3_builds_34 ?_
  refine Z.iload_n F 3 rfl dX3_builds_35 ?_
  refine Z.iload_n F 0 rfl dX3_builds_36 ?_
  refine clX3_103 F ⟨Nat.le_of_ble_eq_true rfl, Nat.le_of_ble_eq_true rfl⟩ (zlw4 (Nat.le_of_ble_eq_true rfl)) dX3_builds_37 ?_
  refine Z.iconst F (v := (0 : Int32)) (by decide) dX3_builds_40 ?_
  refine Z.istore F (L0 := [(3, .int (if g25 < g8 then g25 else g8)), (2, zv g5), (0, zv h0), (1, .int x1)]) [0, 1, 2, 3] rfl (zkI rfl (zkR rfl (zkR rfl (zkI rfl zkN)))) (by decide) dX3_builds_41 ?_
  refine Z.iconst F (v := (0 : Int32)) (by decide) dX3_builds_43 ?_
  refine Z.istore F (L0 := [(4, .int (0 : Int32)), (3, .int (if g25 < g8 then g25 else g8)), (2, zv g5), (0, zv h0), (1, .int x1)]) [0, 1, 2, 3, 4] rfl (zkI rfl (zkI rfl (zkR rfl (zkR rfl (zkI rfl zkN))))) (by decide) dX3_builds_44 ?_
  refine Z.jn0 (J := _) ([(2, zv g5), (3, .int (if g25 < g8 then g25 else g8))]) ([]) 183 (?_) (fun j183 hj183 => ?_)
  · refine Z.aload_n F 0 rfl dX3_builds_183 ?_
    refine Z.iload_n F 1 rfl dX3_builds_184 ?_
    refine pfX3_133 F dX3_builds_185 ?_
    refine Z.aload_n F 0 rfl dX3_builds_188 ?_
    refine Z.iconst F (v := (0 : Int32)) (by decide) dX3_builds_189 ?_
    refine pfX3_74 F dX3_builds_190 ?_
    exact Z.vret F dX3_builds_193
  refine Z.sub [4, 3, 2, 1, 0] rfl ?_
  refine Z.w2 (Lf := fun p46l4 p46l5 => [(0, zv h0), (2, zv g5), (3, .int (if g25 < g8 then g25 else g8)), (4, .int p46l4), (5, .int p46l5)]) (sf := fun p46l4 p46l5 => []) (fun r46 hr46 p46l4 p46l5 => ?_) (0 : Int32) (0 : Int32)
  refine Z.iload F 4 rfl dX3_builds_46 ?_
  refine Z.iload_n F 2 rfl dX3_builds_48 ?_
  refine Z.icmp_ge F (tgt := 183) dX3_builds_49 (by decide) ?_ ?_
  · exact Z.sub [1, 2] rfl (hj183)
  refine Z.aload_n F 1 rfl dX3_builds_52 ?_
  refine gfX3_107 F dX3_builds_53 (fun g53 => ?_)
  refine Z.iload F 4 rfl dX3_builds_56 ?_
  refine Z.aald F (t := 8) (by decide) rfl rfl dX3_builds_58 (fun g58 => ?_)
  refine Z.astore F (L0 := [(0, zv h0), (2, zv g5), (3, .int (if g25 < g8 then g25 else g8)), (4, .int p46l4), (5, .int p46l5)]) [0, 1, 2, 3, 4] rfl (zkR rfl (zkR rfl (zkI rfl (zkI rfl (zkI rfl zkN))))) (by decide) dX3_builds_59 ?_
  refine Z.aload F 0 rfl dX3_builds_61 ?_
  refine Z.iload F 4 rfl dX3_builds_63 ?_
  refine pfX3_111 F dX3_builds_65 ?_
  refine Z.aload F 0 rfl dX3_builds_68 ?_
  refine Z.aload_n F 1 rfl dX3_builds_70 ?_
  refine gfX3_3 F dX3_builds_71 (fun g71 => ?_)
  refine gfX3_114 F dX3_builds_74 (fun g74 => ?_)
  refine Z.iload_n F 3 rfl dX3_builds_77 ?_
  refine Z.iload F 5 rfl dX3_builds_78 ?_
  refine Z.isub F dX3_builds_80 ?_
  refine Z.aald F (t := 5) (by decide) rfl rfl dX3_builds_81 (fun g81 => ?_)
  refine Z.iload F 4 rfl dX3_builds_82 ?_
  refine Z.iald F dX3_builds_84 (fun g84 => ?_)
  refine Z.iconst F (v := (1 : Int32)) (by decide) dX3_builds_85 ?_
  refine Z.isub F dX3_builds_86 ?_
  refine pfX3_118 F dX3_builds_87 ?_
  refine Z.aload F 0 rfl dX3_builds_90 ?_
  refine Z.iconst F (v := (0 : Int32)) (by decide) dX3_builds_92 ?_
  refine pfX3_121 F dX3_builds_93 ?_
  refine Z.aload F 0 rfl dX3_builds_96 ?_
  refine Z.iconst F (v := (0 : Int32)) (by decide) dX3_builds_98 ?_
  refine pfX3_124 F dX3_builds_99 ?_
  refine Z.aload F 0 rfl dX3_builds_102 ?_
  refine gfX3_111 F dX3_builds_104 (fun g104 => ?_)
  refine Z.istore F (L0 := [(6, zv g58), (0, zv h0), (2, zv g5), (3, .int (if g25 < g8 then g25 else g8)), (4, .int p46l4), (5, .int p46l5)]) [0, 1, 2, 3, 4, 5] rfl (zkR rfl (zkR rfl (zkR rfl (zkI rfl (zkI rfl (zkI rfl zkN)))))) (by decide) dX3_builds_107 ?_
  refine Z.jn1 (J := _) (fun p168l5 => [(0, zv h0), (2, zv g5), (3, .int (if g25 < g8 then g25 else g8)), (5, .int p168l5), (6, zv g58)]) (fun p168l5 => []) 168 (fun p168l5 => ?_) (fun j168 hj168 => ?_)
  · refine Z.aload F 4 rfl dX3_builds_168 ?_
    refine gfX3_118 F dX3_builds_170 (fun g170 => ?_)
    refine Z.iconst F (v := (1 : Int32)) (by decide) dX3_builds_173 ?_
    refine Z.iadd F dX3_builds_174 ?_
    refine Z.istore F (L0 := [(0, zv h0), (2, zv g5), (3, .int (if g25 < g8 then g25 else g8)), (5, .int p168l5), (6, zv g58)]) [0, 1, 2, 3, 4] rfl (zkR rfl (zkR rfl (zkI rfl (zkI rfl (zkR rfl zkN))))) (by decide) dX3_builds_175 ?_
    refine Z.iinc F (L0 := [(4, .int (g170 + (1 : Int32))), (0, zv h0), (2, zv g5), (3, .int (if g25 < g8 then g25 else g8)), (6, zv g58)]) (k0 := 4) (v := (1 : Int32)) rfl (by decide) [0, 1, 2, 3, 5] rfl (zkI rfl (zkR rfl (zkR rfl (zkI rfl (zkR rfl zkN))))) (by decide) dX3_builds_177 ?_
    refine Z.goto F (tgt := 46) dX3_builds_180 (by decide) ?_
    exact Z.sub [2, 3, 4, 1, 0] rfl (hr46 (g170 + (1 : Int32)) (p168l5 + (1 : Int32)))
  refine Z.sub [2, 3, 4, 6, 1, 0] rfl ?_
  refine Z.w2 (Lf := fun p109l5 p109l7 => [(0, zv h0), (2, zv g5), (3, .int (if g25 < g8 then g25 else g8)), (5, .int p109l5), (6, zv g58), (7, .int p109l7)]) (sf := fun p109l5 p109l7 => []) (fun r109 hr109 p109l5 p109l7 => ?_) p46l5 g104
  refine Z.iload F 5 rfl dX3_builds_109 ?_
  refine Z.aload F 4 rfl dX3_builds_111 ?_
  refine gfX3_118 F dX3_builds_113 (fun g113 => ?_)
  refine Z.icmp_gt F (tgt := 168) dX3_builds_116 (by decide) ?_ ?_
  · exact Z.sub [0, 1, 2, 3, 4] rfl (hj168 p109l5)
  refine Z.aload F 4 rfl dX3_builds_119 ?_
  refine Z.dup F dX3_builds_121 ?_
  refine gfX3_121 F dX3_builds_122 (fun g122 => ?_)
  refine Z.aload_n F 0 rfl dX3_builds_125 ?_
  refine gfX3_3 F dX3_builds_126 (fun g126 => ?_)
  refine gfX3_127 F dX3_builds_129 (fun g129 => ?_)
  refine Z.iload F 5 rfl dX3_builds_132 ?_
  refine Z.iald F dX3_builds_134 (fun g134 => ?_)
  refine Z.iadd F dX3_builds_135 ?_
  refine pfX3_121 F dX3_builds_136 ?_
  refine Z.aload F 4 rfl dX3_builds_139 ?_
  refine Z.aload F 4 rfl dX3_builds_141 ?_
  refine gfX3_124 F dX3_builds_143 (fun g143 => ?_)
  refine Z.aload_n F 0 rfl dX3_builds_146 ?_
  refine gfX3_3 F dX3_builds_147 (fun g147 => ?_)
  refine gfX3_127 F dX3_builds_150 (fun g150 => ?_)
  refine Z.iload F 5 rfl dX3_builds_153 ?_
  refine Z.iald F dX3_builds_155 (fun g155 => ?_)
  refine Z.mmax F q910 (Nat.le_of_ble_eq_true rfl) (Nat.le_of_ble_eq_true rfl) (zlw4 (Nat.le_of_ble_eq_true rfl)) dX3_builds_156 ?_
  refine pfX3_124 F dX3_builds_159 ?_
  refine Z.iinc F (L0 := [(0, zv h0), (2, zv g5), (3, .int (if g25 < g8 then g25 else g8)), (5, .int p109l5), (6, zv g58)]) (k0 := 5) (v := (1 : Int32)) rfl (by decide) [0, 1, 2, 3, 4] rfl (zkR rfl (zkR rfl (zkI rfl (zkI rfl (zkR rfl zkN))))) (by decide) dX3_builds_162 ?_
  refine Z.goto F (tgt := 109) dX3_builds_165 (by decide) ?_
  exact Z.sub [1, 2, 3, 4, 5, 0] rfl (hr109 p109l5 (p109l7 + (1 : Int32)))
theorem gfX2_28 (F : ZF p R s m args meth c cc nL "SafeBuckets$State" nm ret D A al sz mc ms fr lo) {z : Nat} {K : Nat → ZM → Prop} (hdg : decode cc pc = .ok (.getfield 28, 3)) (k : ∀ u, ZW p l e R s m args below meth c Q nL D A al n0 (K u) (pc + 3) L (zv u :: st)) : ZW p l e R s m args below meth c Q nL D A al n0 (zgR 1 z 5 K) pc L (zv z :: st) :=
  Z.getRN F (ref := "SafeBuckets") in_X1 (ci := 0) rfl (by decide) (kf := 5) (by decide) (host := "SafeBuckets") (List.mem_of_getElem? (i := 39) rfl) (fun _ h => h) rfl hdg k
theorem gfX2_65 (F : ZF p R s m args meth c cc nL "SafeBuckets$State" nm ret D A al sz mc ms fr lo) {z : Nat} {K : Nat → ZM → Prop} (hdg : decode cc pc = .ok (.getfield 65, 3)) (k : ∀ u, ZW p l e R s m args below meth c Q nL D A al n0 (K u) (pc + 3) L (zv u :: st)) : ZW p l e R s m args below meth c Q nL D A al n0 (zgR 9 z 2 K) pc L (zv z :: st) :=
  Z.getRN F (ref := "SafeBuckets$Book") in_X11 (ci := 8) rfl (by decide) (kf := 2) (by decide) (host := "SafeBuckets") (List.mem_of_getElem? (i := 43) rfl) (fun _ h => h) rfl hdg k
theorem gfX2_69 (F : ZF p R s m args meth c cc nL "SafeBuckets$State" nm ret D A al sz mc ms fr lo) {z : Nat} {K : Nat → ZM → Prop} (hdg : decode cc pc = .ok (.getfield 69, 3)) (k : ∀ u, ZW p l e R s m args below meth c Q nL D A al n0 (K u) (pc + 3) L (zv u :: st)) : ZW p l e R s m args below meth c Q nL D A al n0 (zgR 11 z 0 K) pc L (zv z :: st) :=
  Z.getR F (ref := "SafeBuckets$Rules") in_X15 (ci := 10) rfl (by decide) (kf := 0) (by decide) q589 (fun x h => u_same (F.hts _ q590) x h) rfl hdg k
theorem pfX2_72 (F : ZF p R s m args meth c cc nL "SafeBuckets$State" nm ret D A al sz mc ms fr lo) {z : Nat} {u : Int32} (hdg : decode cc pc = .ok (.putfield 72, 3)) (k : ZW p l e R s m args below meth c Q nL D A al n0 P (pc + 3) L st) : ZW p l e R s m args below meth c Q nL D A al n0 (zpI 2 z 2 u P) pc L (.int u :: zv z :: st) :=
  Z.putI F (ref := "SafeBuckets$State") in_X2 (ci := 1) rfl (by decide) (kf := 2) (by decide) q302 (fun _ h => h) tyX2 tyX2_ok nmX2 rfl rfl rfl hdg k
theorem pfX2_75 (F : ZF p R s m args meth c cc nL "SafeBuckets$State" nm ret D A al sz mc ms fr lo) {z : Nat} {u : Int32} (hdg : decode cc pc = .ok (.putfield 75, 3)) (k : ZW p l e R s m args below meth c Q nL D A al n0 P (pc + 3) L st) : ZW p l e R s m args below meth c Q nL D A al n0 (zpI 2 z 3 u P) pc L (.int u :: zv z :: st) :=
  Z.putI F (ref := "SafeBuckets$State") in_X2 (ci := 1) rfl (by decide) (kf := 3) (by decide) q304 (fun _ h => h) tyX2 tyX2_ok nmX2 rfl rfl rfl hdg k
theorem gfX2_32 (F : ZF p R s m args meth c cc nL "SafeBuckets$State" nm ret D A al sz mc ms fr lo) {z : Nat} {K : Int32 → ZM → Prop} (hdg : decode cc pc = .ok (.getfield 32, 3)) (k : ∀ u, ZW p l e R s m args below meth c Q nL D A al n0 (K u) (pc + 3) L (.int u :: st)) : ZW p l e R s m args below meth c Q nL D A al n0 (zgI 9 z 3 K) pc L (zv z :: st) :=
  Z.getIN F (ref := "SafeBuckets$Book") in_X11 (ci := 8) rfl (by decide) (kf := 3) (by decide) (host := "SafeBuckets") (List.mem_of_getElem? (i := 40) rfl) (fun _ h => h) rfl hdg k
theorem gfX2_20 (F : ZF p R s m args meth c cc nL "SafeBuckets$State" nm ret D A al sz mc ms fr lo) {z : Nat} {K : Nat → ZM → Prop} (hdg : decode cc pc = .ok (.getfield 20, 3)) (k : ∀ u, ZW p l e R s m args below meth c Q nL D A al n0 (K u) (pc + 3) L (zv u :: st)) : ZW p l e R s m args below meth c Q nL D A al n0 (zgR 2 z 0 K) pc L (zv z :: st) :=
  Z.getR F (ref := "SafeBuckets$State") in_X2 (ci := 1) rfl (by decide) (kf := 0) (by decide) q297 (fun _ h => h) rfl hdg k
theorem clX2_62 (F : ZF p R s m args meth c cc nL "SafeBuckets$State" nm ret D A al sz mc ms fr lo) {h0 : Nat} {x1 : Int32} {K : ZM → Prop} (hR : 5 + 1 ≤ fr ∧ 8 + (8 + 11) + 117 ≤ lo) (hst4 : zlw st) (hdg : decode cc pc = .ok (.invokevirtual 62, 3)) (k : ZW p l e R s m args below meth c Q nL D A al n0 K (pc + 3) L st) : ZW p l e R s m args below meth c Q nL D A al n0 (zat 3 h0 (f_X3_builds h0 x1 K)) pc L (.int x1 :: zv h0 :: st) :=
  Z.rv0 _ (fun μ H locs cells slots ls hI h hP => Z.V0 F hI (n := 1) (ci := 2) rfl (by decide) hP.1 hP.2 (k_X3_builds l h0 x1 D A (zX μ, zC μ, zS μ) H.size K μ) q879 q880 q881 q118 q882 (by decide +kernel) rfl h.1 hst4 hR rfl hdg) k
theorem gfX2_46 (F : ZF p R s m args meth c cc nL "SafeBuckets$State" nm ret D A al sz mc ms fr lo) {z : Nat} {K : Int32 → ZM → Prop} (hdg : decode cc pc = .ok (.getfield 46, 3)) (k : ∀ u, ZW p l e R s m args below meth c Q nL D A al n0 (K u) (pc + 3) L (.int u :: st)) : ZW p l e R s m args below meth c Q nL D A al n0 (zgI 9 z 4 K) pc L (zv z :: st) :=
  Z.getIN F (ref := "SafeBuckets$Book") in_X11 (ci := 8) rfl (by decide) (kf := 4) (by decide) (host := "SafeBuckets") (List.mem_of_getElem? (i := 41) rfl) (fun _ h => h) rfl hdg k
theorem gfX2_49 (F : ZF p R s m args meth c cc nL "SafeBuckets$State" nm ret D A al sz mc ms fr lo) {z : Nat} {K : Nat → ZM → Prop} (hdg : decode cc pc = .ok (.getfield 49, 3)) (k : ∀ u, ZW p l e R s m args below meth c Q nL D A al n0 (K u) (pc + 3) L (zv u :: st)) : ZW p l e R s m args below meth c Q nL D A al n0 (zgR 9 z 1 K) pc L (zv z :: st) :=
  Z.getRN F (ref := "SafeBuckets$Book") in_X11 (ci := 8) rfl (by decide) (kf := 1) (by decide) (host := "SafeBuckets") (List.mem_of_getElem? (i := 42) rfl) (fun _ h => h) rfl hdg k
theorem gfX2_53 (F : ZF p R s m args meth c cc nL "SafeBuckets$State" nm ret D A al sz mc ms fr lo) {z : Nat} {K : Nat → ZM → Prop} (hdg : decode cc pc = .ok (.getfield 53, 3)) (k : ∀ u, ZW p l e R s m args below meth c Q nL D A al n0 (K u) (pc + 3) L (zv u :: st)) : ZW p l e R s m args below meth c Q nL D A al n0 (zgR 13 z 0 K) pc L (zv z :: st) :=
  Z.getR F (ref := "SafeBuckets$Line") in_X17 (ci := 12) rfl (by decide) (kf := 0) (by decide) q588 (fun x h => u_same (F.hts _ q585) x h) rfl hdg k
theorem clX2_58 (F : ZF p R s m args meth c cc nL "SafeBuckets$State" nm ret D A al sz mc ms fr lo) {h0 : Nat} {x1 : Int32} {x2 : Int32} {x3 : Int32} {K : ZM → Prop} (hR : 1 + 1 ≤ fr ∧ 8 + (4 + 11) + 22 ≤ lo) (hst4 : zlw st) (hdg : decode cc pc = .ok (.invokevirtual 58, 3)) (k : ZW p l e R s m args below meth c Q nL D A al n0 K (pc + 3) L st) : ZW p l e R s m args below meth c Q nL D A al n0 (zat 3 h0 (f_X3_tells h0 x1 x2 x3 K)) pc L (.int x3 :: .int x2 :: .int x1 :: zv h0 :: st) :=
  Z.rv0 _ (fun μ H locs cells slots ls hI h hP => Z.V0 F hI (n := 3) (ci := 2) rfl (by decide) hP.1 hP.2 (k_X3_tells l h0 x1 x2 x3 D A (zX μ, zC μ, zS μ) H.size K μ) q871 q872 q873 q118 q874 (by decide +kernel) rfl h.1 hst4 hR rfl hdg) k
theorem clX2_38 (F : ZF p R s m args meth c cc nL "SafeBuckets$State" nm ret D A al sz mc ms fr lo) {h0 : Nat} {x1 : Int32} {K : Int32 → ZM → Prop} (hR : 0 + 1 ≤ fr ∧ 8 + (2 + 11) + 0 ≤ lo) (hst4 : zlw st) (hdg : decode cc pc = .ok (.invokevirtual 38, 3)) (k : ∀ r, ZW p l e R s m args below meth c Q nL D A al n0 (K r) (pc + 3) L (.int r :: st)) : ZW p l e R s m args below meth c Q nL D A al n0 (zat 9 h0 (f_X11_valuesOf h0 x1 K)) pc L (.int x1 :: zv h0 :: st) :=
  Z.ri0 _ (fun μ H locs cells slots ls hI h hP => Z.V0 F hI (n := 1) (ci := 8) rfl (by decide) hP.1 hP.2 (k_X11_valuesOf l h0 x1 D A (zX μ, zC μ, zS μ) H.size K μ) q863 q864 q865 q128 q866 (by decide +kernel) rfl h.1 hst4 hR rfl hdg) k
theorem clX2_42 (F : ZF p R s m args meth c cc nL "SafeBuckets$State" nm ret D A al sz mc ms fr lo) {h0 : Nat} {x1 : Int32} {K : ZM → Prop} (hR : 0 + 1 ≤ fr ∧ 8 + (3 + 11) + 0 ≤ lo) (hst4 : zlw st) (hdg : decode cc pc = .ok (.invokevirtual 42, 3)) (k : ZW p l e R s m args below meth c Q nL D A al n0 K (pc + 3) L st) : ZW p l e R s m args below meth c Q nL D A al n0 (zat 3 h0 (f_X3_starts h0 x1 K)) pc L (.int x1 :: zv h0 :: st) :=
  Z.rv0 _ (fun μ H locs cells slots ls hI h hP => Z.V0 F hI (n := 1) (ci := 2) rfl (by decide) hP.1 hP.2 (k_X3_starts l h0 x1 D A (zX μ, zC μ, zS μ) H.size K μ) q867 q868 q869 q118 q870 (by decide +kernel) rfl h.1 hst4 hR rfl hdg) k
set_option maxHeartbeats 4000000 in
theorem k_X2_starts (l : Launch) (h0 : Nat) : ZCv l yX2_starts (ws_ yX2_starts cX2_starts 3 none) 6 144 0 0 false [zv h0] (f_X2_starts h0) := by
  refine Z.metV (by decide +kernel) (fun h => ⟨rfl, rfl⟩) (L0 := [(0, zv h0)]) (by first | (rw [zla_v, zla_0]; done) | (rw [zla_v, zla_0]; rfl)) (by rw [zsl_v, zsl_0]; exact Nat.le_of_ble_eq_true rfl) ?_
  intro p e R s m args below meth c D A n0 sz k F
  have F : ZF p R s m args meth c cX2_starts 3 "SafeBuckets$State" "starts" none D A false sz 0 0 6 144 := F
  unfold f_X2_starts
  refine Z.iconst F (v := (0 : Int32)) (by decide) dX2_starts_0 ?_
  refine Z.istore_n F (L0 := [(0, zv h0)]) [0] rfl (zkR rfl zkN) (by decide) dX2_starts_1 ?_
  refine Z.jn0 (J := _) ([(0, zv h0)]) ([]) 42 (?_) (fun j42 hj42 => ?_)
  · refine Z.iconst F (v := (0 : Int32)) (by decide) dX2_starts_42 ?_
    refine Z.istore_n F (L0 := [(0, zv h0)]) [0] rfl (zkR rfl zkN) (by decide) dX2_starts_43 ?_
    refine Z.jn0 (J := _) ([(0, zv h0)]) ([]) 100 (?_) (fun j100 hj100 => ?_)
    · refine Z.iconst F (v := (0 : Int32)) (by decide) dX2_starts_100 ?_
      refine Z.istore_n F (L0 := [(0, zv h0)]) [0] rfl (zkR rfl zkN) (by decide) dX2_starts_101 ?_
      refine Z.jn0 (J := _) ([(0, zv h0)]) ([]) 145 (?_) (fun j145 hj145 => ?_)
      · refine Z.aload_n F 0 rfl dX2_starts_145 ?_
        refine Z.aload_n F 0 rfl dX2_starts_146 ?_
        refine gfX2_3 F dX2_starts_147 (fun g147 => ?_)
        refine gfX2_28 F dX2_starts_150 (fun g150 => ?_)
        refine gfX2_65 F dX2_starts_153 (fun g153 => ?_)
        refine gfX2_69 F dX2_starts_156 (fun g156 => ?_)
        refine Z.iconst F (v := (2 : Int32)) (by decide) dX2_starts_159 ?_
        refine Z.iald F dX2_starts_160 (fun g160 => ?_)
        refine pfX2_72 F dX2_starts_161 ?_
        refine Z.aload_n F 0 rfl dX2_starts_164 ?_
        refine Z.iconst F (v := (0 : Int32)) (by decide) dX2_starts_165 ?_
        refine pfX2_75 F dX2_starts_166 ?_
        exact Z.vret F dX2_starts_169
      refine Z.sub [1, 0] rfl ?_
      refine Z.w1 (Lf := fun p102l1 => [(0, zv h0), (1, .int p102l1)]) (sf := fun p102l1 => []) (fun r102 hr102 p102l1 => ?_) (0 : Int32)
      refine Z.iload_n F 1 rfl dX2_starts_102 ?_
      refine Z.aload_n F 0 rfl dX2_starts_103 ?_
      refine gfX2_3 F dX2_starts_104 (fun g104 => ?_)
      refine gfX2_28 F dX2_starts_107 (fun g107 => ?_)
      refine gfX2_32 F dX2_starts_110 (fun g110 => ?_)
      refine Z.icmp_ge F (tgt := 145) dX2_starts_113 (by decide) ?_ ?_
      · exact Z.sub [0] rfl (hj145)
      refine Z.iconst F (v := (0 : Int32)) (by decide) dX2_starts_116 ?_
      refine Z.istore_n F (L0 := [(0, zv h0), (1, .int p102l1)]) [0, 1] rfl (zkR rfl (zkI rfl zkN)) (by decide) dX2_starts_117 ?_
      refine Z.jn1 (J := _) (fun p139l1 => [(0, zv h0), (1, .int p139l1)]) (fun p139l1 => []) 139 (fun p139l1 => ?_) (fun j139 hj139 => ?_)
      · refine Z.iinc F (L0 := [(0, zv h0)]) (k0 := 1) (v := (1 : Int32)) rfl (by decide) [0] rfl (zkR rfl zkN) (by decide) dX2_starts_139 ?_
        refine Z.goto F (tgt := 102) dX2_starts_142 (by decide) ?_
        exact Z.sub [1, 0] rfl (hr102 (p139l1 + (1 : Int32)))
      refine Z.sub [1, 2, 0] rfl ?_
      refine Z.w2 (Lf := fun p118l1 p118l2 => [(0, zv h0), (1, .int p118l1), (2, .int p118l2)]) (sf := fun p118l1 p118l2 => []) (fun r118 hr118 p118l1 p118l2 => ?_) p102l1 (0 : Int32)
      refine Z.iload_n F 2 rfl dX2_starts_118 ?_
      refine Z.iconst F (v := (2 : Int32)) (by decide) dX2_starts_119 ?_
      refine Z.icmp_ge F (tgt := 139) dX2_starts_120 (by decide) ?_ ?_
      · exact Z.sub [0, 1] rfl (hj139 p118l1)
      refine Z.aload_n F 0 rfl dX2_starts_123 ?_
      refine gfX2_20 F dX2_starts_124 (fun g124 => ?_)
      refine Z.iload_n F 1 rfl dX2_starts_127 ?_
      refine Z.aald F (t := 6) (by decide) rfl rfl dX2_starts_128 (fun g128 => ?_)
      refine Z.iload_n F 2 rfl dX2_starts_129 ?_
      refine clX2_62 F ⟨Nat.le_of_ble_eq_true rfl, Nat.le_of_ble_eq_true rfl⟩ (zlw4 (Nat.le_of_ble_eq_true rfl)) dX2_starts_130 ?_
      refine Z.iinc F (L0 := [(0, zv h0), (1, .int p118l1)]) (k0 := 2) (v := (1 : Int32)) rfl (by decide) [0, 1] rfl (zkR rfl (zkI rfl zkN)) (by decide) dX2_starts_133 ?_
      refine Z.goto F (tgt := 118) dX2_starts_136 (by decide) ?_
      exact Z.sub [1, 2, 0] rfl (hr118 p118l1 (p118l2 + (1 : Int32)))
    refine Z.sub [1, 0] rfl ?_
    refine Z.w1 (Lf := fun p44l1 => [(0, zv h0), (1, .int p44l1)]) (sf := fun p44l1 => []) (fun r44 hr44 p44l1 => ?_) (0 : Int32)
    refine Z.iload_n F 1 rfl dX2_starts_44 ?_
    refine Z.aload_n F 0 rfl dX2_starts_45 ?_
    refine gfX2_3 F dX2_starts_46 (fun g46 => ?_)
    refine gfX2_28 F dX2_starts_49 (fun g49 => ?_)
    refine gfX2_46 F dX2_starts_52 (fun g52 => ?_)
    refine Z.icmp_ge F (tgt := 100) dX2_starts_55 (by decide) ?_ ?_
    · exact Z.sub [0] rfl (hj100)
    refine Z.aload_n F 0 rfl dX2_starts_58 ?_
    refine gfX2_3 F dX2_starts_59 (fun g59 => ?_)
    refine gfX2_28 F dX2_starts_62 (fun g62 => ?_)
    refine gfX2_49 F dX2_starts_65 (fun g65 => ?_)
    refine Z.iload_n F 1 rfl dX2_starts_68 ?_
    refine Z.aald F (t := 11) (by decide) rfl rfl dX2_starts_69 (fun g69 => ?_)
    refine gfX2_53 F dX2_starts_70 (fun g70 => ?_)
    refine Z.astore_n F (L0 := [(0, zv h0), (1, .int p44l1)]) [0, 1] rfl (zkR rfl (zkI rfl zkN)) (by decide) dX2_starts_73 ?_
    refine Z.aload_n F 1 rfl dX2_starts_74 ?_
    refine gfX2_20 F dX2_starts_75 (fun g75 => ?_)
    refine Z.aload_n F 0 rfl dX2_starts_78 ?_
    refine Z.iconst F (v := (0 : Int32)) (by decide) dX2_starts_79 ?_
    refine Z.iald F dX2_starts_80 (fun g80 => ?_)
    refine Z.aald F (t := 6) (by decide) rfl rfl dX2_starts_81 (fun g81 => ?_)
    refine Z.aload_n F 0 rfl dX2_starts_82 ?_
    refine Z.iconst F (v := (1 : Int32)) (by decide) dX2_starts_83 ?_
    refine Z.iald F dX2_starts_84 (fun g84 => ?_)
    refine Z.aload_n F 0 rfl dX2_starts_85 ?_
    refine Z.iconst F (v := (2 : Int32)) (by decide) dX2_starts_86 ?_
    refine Z.iald F dX2_starts_87 (fun g87 => ?_)
    refine Z.aload_n F 0 rfl dX2_starts_88 ?_
    refine Z.iconst F (v := (3 : Int32)) (by decide) dX2_starts_89 ?_
    refine Z.iald F dX2_starts_90 (fun g90 => ?_)
    refine clX2_58 F ⟨Nat.le_of_ble_eq_true rfl, Nat.le_of_ble_eq_true rfl⟩ (zlw4 (Nat.le_of_ble_eq_true rfl)) dX2_starts_91 ?_
    refine Z.iinc F (L0 := [(2, zv g70), (0, zv h0)]) (k0 := 2) (v := (1 : Int32)) rfl (by decide) [0, 1] rfl (zkR rfl (zkR rfl zkN)) (by decide) dX2_starts_94 ?_
    refine Z.goto F (tgt := 44) dX2_starts_97 (by decide) ?_
    exact Z.sub [2, 0] rfl (hr44 (p44l1 + (1 : Int32)))
  refine Z.sub [1, 0] rfl ?_
  refine Z.w1 (Lf := fun p2l1 => [(0, zv h0), (1, .int p2l1)]) (sf := fun p2l1 => []) (fun r2 hr2 p2l1 => ?_) (0 : Int32)
  refine Z.iload_n F 1 rfl dX2_starts_2 ?_
  refine Z.aload_n F 0 rfl dX2_starts_3 ?_
  refine gfX2_3 F dX2_starts_4 (fun g4 => ?_)
  refine gfX2_28 F dX2_starts_7 (fun g7 => ?_)
  refine gfX2_32 F dX2_starts_10 (fun g10 => ?_)
  refine Z.icmp_ge F (tgt := 42) dX2_starts_13 (by decide) ?_ ?_
  · exact Z.sub [0] rfl (hj42)
  refine Z.aload_n F 0 rfl dX2_starts_16 ?_
  refine gfX2_20 F dX2_starts_17 (fun g17 => ?_)
  refine Z.iload_n F 1 rfl dX2_starts_20 ?_
  refine Z.aald F (t := 6) (by decide) rfl rfl dX2_starts_21 (fun g21 => ?_)
  refine Z.aload_n F 0 rfl dX2_starts_22 ?_
  refine gfX2_3 F dX2_starts_23 (fun g23 => ?_)
  refine gfX2_28 F dX2_starts_26 (fun g26 => ?_)
  refine Z.iload_n F 1 rfl dX2_starts_29 ?_
  refine clX2_38 F ⟨Nat.le_of_ble_eq_true rfl, Nat.le_of_ble_eq_true rfl⟩ (zlw4 (Nat.le_of_ble_eq_true rfl)) dX2_starts_30 (fun r30 => ?_)
  refine clX2_42 F ⟨Nat.le_of_ble_eq_true rfl, Nat.le_of_ble_eq_true rfl⟩ (zlw4 (Nat.le_of_ble_eq_true rfl)) dX2_starts_33 ?_
  refine Z.iinc F (L0 := [(0, zv h0)]) (k0 := 1) (v := (1 : Int32)) rfl (by decide) [0] rfl (zkR rfl zkN) (by decide) dX2_starts_36 ?_
  refine Z.goto F (tgt := 2) dX2_starts_39 (by decide) ?_
  exact Z.sub [1, 0] rfl (hr2 (p2l1 + (1 : Int32)))
end ZWalk
