section ZWalk
variable {p : Program} {l : Launch} {e : Env} {R : Room} {s : State} {m : MethodId} {args : Array Value} {below : List Frame} {meth : Method} {c : Code} {Q : State → Prop} {nL : Nat} {D : ZD} {A : Nat → Prop} {al : Bool} {n0 : Nat × Nat × Nat} {cc : ByteArray} {nm : String} {ret : Option FieldType} {sz mc ms fr lo : Nat}
variable {P : ZM → Prop} {pc : Nat} {L : List (Nat × Value)} {st : List Value}
theorem clX1_126 (F : ZF p R s m args meth c cc nL "SafeBuckets" nm ret D A true sz mc ms fr lo) {h0 : Nat} {x1 : Int32} {K : Int32 → ZM → Prop} (hR : 23 + 1 ≤ fr ∧ 8 + (3 + 11) + 468 ≤ lo) (hst4 : zlw st) (hdg : decode cc pc = .ok (.invokevirtual 126, 3)) (k : ∀ r, ZW p l e R s m args below meth c Q nL D A true n0 (K r) (pc + 3) L (.int r :: st)) : ZW p l e R s m args below meth c Q nL D A true n0 (zat 1 h0 (zcl 16010 110010 (f_X1_fault h0 x1) K)) pc L (.int x1 :: zv h0 :: st) :=
  Z.ri1 _ (fun μ H locs cells slots ls hI h hP => ⟨hP.2.1, hP.2.2.1, Z.VW1 F hI (n := 1) (ci := 0) rfl (by decide) hP.1 hP.2.1 hP.2.2.1 hP.2.2.2 (k_X1_fault l h0 x1 D A (0, 0, 0) 0 (fun r μ' => K r (zcs μ' (zC μ - 16010) (zS μ - 110010))) (zcs μ 16010 110010)) q858 q478 q479 q116 q480 (by decide +kernel) rfl h.1 hst4 hR rfl hdg⟩) k
theorem gfX1_107 (F : ZF p R s m args meth c cc nL "SafeBuckets" nm ret D A al sz mc ms fr lo) {z : Nat} {K : Nat → ZM → Prop} (hdg : decode cc pc = .ok (.getfield 107, 3)) (k : ∀ u, ZW p l e R s m args below meth c Q nL D A al n0 (K u) (pc + 3) L (zv u :: st)) : ZW p l e R s m args below meth c Q nL D A al n0 (zgR 1 z 6 K) pc L (zv z :: st) :=
  Z.getR F (ref := "SafeBuckets") in_X1 (ci := 0) rfl (by decide) (kf := 6) (by decide) q392 (fun _ h => h) rfl hdg k
theorem gfX1_59 (F : ZF p R s m args meth c cc nL "SafeBuckets" nm ret D A al sz mc ms fr lo) {z : Nat} {K : Nat → ZM → Prop} (hdg : decode cc pc = .ok (.getfield 59, 3)) (k : ∀ u, ZW p l e R s m args below meth c Q nL D A al n0 (K u) (pc + 3) L (zv u :: st)) : ZW p l e R s m args below meth c Q nL D A al n0 (zgR 1 z 15 K) pc L (zv z :: st) :=
  Z.getR F (ref := "SafeBuckets") in_X1 (ci := 0) rfl (by decide) (kf := 15) (by decide) q404 (fun _ h => h) rfl hdg k
theorem clX1_129 (F : ZF p R s m args meth c cc nL "SafeBuckets" nm ret D A al sz mc ms fr lo) {h0 : Nat} {K : ZM → Prop} (hR : 6 + 1 ≤ fr ∧ 8 + (3 + 11) + 144 ≤ lo) (hst4 : zlw st) (hdg : decode cc pc = .ok (.invokevirtual 129, 3)) (k : ZW p l e R s m args below meth c Q nL D A al n0 K (pc + 3) L st) : ZW p l e R s m args below meth c Q nL D A al n0 (zat 2 h0 (f_X2_starts h0 K)) pc L (zv h0 :: st) :=
  Z.rv0 _ (fun μ H locs cells slots ls hI h hP => Z.V0 F hI (n := 0) (ci := 1) rfl (by decide) hP.1 hP.2 (k_X2_starts l h0 D A (zX μ, zC μ, zS μ) H.size K μ) q859 q860 q861 q117 q862 (by decide +kernel) rfl h.1 hst4 hR rfl hdg) k
theorem pfX1_132 (F : ZF p R s m args meth c cc nL "SafeBuckets" nm ret D A al sz mc ms fr lo) {z : Nat} {u : Int32} (hdg : decode cc pc = .ok (.putfield 132, 3)) (k : ZW p l e R s m args below meth c Q nL D A al n0 P (pc + 3) L st) : ZW p l e R s m args below meth c Q nL D A al n0 (zpI 1 z 19 u P) pc L (.int u :: zv z :: st) :=
  Z.putI F (ref := "SafeBuckets") in_X1 (ci := 0) rfl (by decide) (kf := 19) (by decide) q408 (fun _ h => h) tyX1 tyX1_ok nmX1 rfl rfl rfl hdg k
theorem pfX1_135 (F : ZF p R s m args meth c cc nL "SafeBuckets" nm ret D A al sz mc ms fr lo) {z : Nat} {u : Int32} (hdg : decode cc pc = .ok (.putfield 135, 3)) (k : ZW p l e R s m args below meth c Q nL D A al n0 P (pc + 3) L st) : ZW p l e R s m args below meth c Q nL D A al n0 (zpZ 1 z 28 u P) pc L (.int u :: zv z :: st) :=
  Z.putZ F (ref := "SafeBuckets") in_X1 (ci := 0) rfl (by decide) (kf := 28) (by decide) q417 (fun _ h => h) tyX1 tyX1_ok nmX1 rfl rfl rfl hdg k
theorem gfX1_93 (F : ZF p R s m args meth c cc nL "SafeBuckets" nm ret D A al sz mc ms fr lo) {z : Nat} {K : Nat → ZM → Prop} (hdg : decode cc pc = .ok (.getfield 93, 3)) (k : ∀ u, ZW p l e R s m args below meth c Q nL D A al n0 (K u) (pc + 3) L (zv u :: st)) : ZW p l e R s m args below meth c Q nL D A al n0 (zgR 1 z 5 K) pc L (zv z :: st) :=
  Z.getR F (ref := "SafeBuckets") in_X1 (ci := 0) rfl (by decide) (kf := 5) (by decide) q390 (fun _ h => h) rfl hdg k
theorem gfX1_139 (F : ZF p R s m args meth c cc nL "SafeBuckets" nm ret D A al sz mc ms fr lo) {z : Nat} {K : Int32 → ZM → Prop} (hdg : decode cc pc = .ok (.getfield 139, 3)) (k : ∀ u, ZW p l e R s m args below meth c Q nL D A al n0 (K u) (pc + 3) L (.int u :: st)) : ZW p l e R s m args below meth c Q nL D A al n0 (zgI 9 z 3 K) pc L (zv z :: st) :=
  Z.getIN F (ref := "SafeBuckets$Book") in_X11 (ci := 8) rfl (by decide) (kf := 3) (by decide) (host := "SafeBuckets") (List.mem_of_getElem? (i := 1) rfl) (fun _ h => h) rfl hdg k
theorem gfX1_27 (F : ZF p R s m args meth c cc nL "SafeBuckets" nm ret D A al sz mc ms fr lo) {z : Nat} {K : Nat → ZM → Prop} (hdg : decode cc pc = .ok (.getfield 27, 3)) (k : ∀ u, ZW p l e R s m args below meth c Q nL D A al n0 (K u) (pc + 3) L (zv u :: st)) : ZW p l e R s m args below meth c Q nL D A al n0 (zgR 1 z 2 K) pc L (zv z :: st) :=
  Z.getR F (ref := "SafeBuckets") in_X1 (ci := 0) rfl (by decide) (kf := 2) (by decide) q386 (fun _ h => h) rfl hdg k
theorem gfX1_123 (F : ZF p R s m args meth c cc nL "SafeBuckets" nm ret D A al sz mc ms fr lo) {z : Nat} {K : Int32 → ZM → Prop} (hdg : decode cc pc = .ok (.getfield 123, 3)) (k : ∀ u, ZW p l e R s m args below meth c Q nL D A al n0 (K u) (pc + 3) L (.int u :: st)) : ZW p l e R s m args below meth c Q nL D A al n0 (zgI 1 z 4 K) pc L (zv z :: st) :=
  Z.getI F (ref := "SafeBuckets") in_X1 (ci := 0) rfl (by decide) (kf := 4) (by decide) q388 (fun _ h => h) rfl hdg k
theorem gfX1_114 (F : ZF p R s m args meth c cc nL "SafeBuckets" nm ret D A al sz mc ms fr lo) {z : Nat} {K : Nat → ZM → Prop} (hdg : decode cc pc = .ok (.getfield 114, 3)) (k : ∀ u, ZW p l e R s m args below meth c Q nL D A al n0 (K u) (pc + 3) L (zv u :: st)) : ZW p l e R s m args below meth c Q nL D A al n0 (zgR 1 z 7 K) pc L (zv z :: st) :=
  Z.getR F (ref := "SafeBuckets") in_X1 (ci := 0) rfl (by decide) (kf := 7) (by decide) q393 (fun _ h => h) rfl hdg k
theorem pfX1_123 (F : ZF p R s m args meth c cc nL "SafeBuckets" nm ret D A al sz mc ms fr lo) {z : Nat} {u : Int32} (hdg : decode cc pc = .ok (.putfield 123, 3)) (k : ZW p l e R s m args below meth c Q nL D A al n0 P (pc + 3) L st) : ZW p l e R s m args below meth c Q nL D A al n0 (zpI 1 z 4 u P) pc L (.int u :: zv z :: st) :=
  Z.putI F (ref := "SafeBuckets") in_X1 (ci := 0) rfl (by decide) (kf := 4) (by decide) q388 (fun _ h => h) tyX1 tyX1_ok nmX1 rfl rfl rfl hdg k
set_option maxHeartbeats 4000000 in
theorem k_X1_text (l : Launch) (h0 : Nat) (x1 : Int32) : ZCi l yX1_text (ws_ yX1_text cX1_text 2 (some .int)) 24 490 16010 110010 true [zv h0, .int x1] (f_X1_text h0 x1) := by
  refine Z.metI (by decide +kernel) (fun h => by cases h) (L0 := [(0, zv h0), (1, .int x1)]) (by first | (rw [zla_v, zla_i, zla_0]; done) | (rw [zla_v, zla_i, zla_0]; rfl)) (by rw [zsl_v, zsl_i, zsl_0]; exact Nat.le_of_ble_eq_true rfl) ?_
  intro p e R s m args below meth c D A n0 sz k F
  have F : ZF p R s m args meth c cX1_text 2 "SafeBuckets" "text" (some .int) D A true sz 16010 110010 24 490 := F
  unfold f_X1_text
  refine Z.iload_n F 1 rfl dX1_text_0 ?_
  refine Z.i2l F dX1_text_1 ?_
  refine Z.lconst F (w := (0 : Int64)) (by decide) dX1_text_2 ?_
  refine Z.lconst F (w := (1 : Int64)) (by decide) dX1_text_3 ?_
  refine clX1_97 F ⟨Nat.le_of_ble_eq_true rfl, Nat.le_of_ble_eq_true rfl⟩ (zlw4 (Nat.le_of_ble_eq_true rfl)) dX1_text_4 (fun r4 => ?_)
  refine Z.jn0 (J := _) ([]) ([]) 32 (?_) (fun j32 hj32 => ?_)
  · refine Z.iconst F (v := (-1 : Int32)) (by decide) dX1_text_32 ?_
    exact Z.iret F dX1_text_33
  refine Z.if_eq F (tgt := 32) dX1_text_7 (by decide) ?_ ?_
  · exact Z.sub [] rfl (hj32)
  refine Z.iload_n F 1 rfl dX1_text_10 ?_
  refine Z.iconst F (v := (1 : Int32)) (by decide) dX1_text_11 ?_
  refine Z.jn0 (J := _) ([(0, zv h0), (1, .int x1)]) ([]) 23 (?_) (fun j23 hj23 => ?_)
  · refine Z.aload_n F 0 rfl dX1_text_23 ?_
    refine Z.iload_n F 1 rfl dX1_text_24 ?_
    refine clX1_126 F ⟨Nat.le_of_ble_eq_true rfl, Nat.le_of_ble_eq_true rfl⟩ (zlw4 (Nat.le_of_ble_eq_true rfl)) dX1_text_25 (fun r25 => ?_)
    refine Z.iconst F (v := (-1 : Int32)) (by decide) dX1_text_28 ?_
    refine Z.icmp_eq F (tgt := 34) dX1_text_29 (by decide) ?_ ?_
    · refine Z.aload_n F 0 rfl dX1_text_34 ?_
      refine Z.iconst F (v := (0 : Int32)) (by decide) dX1_text_35 ?_
      refine pfX1_7 F dX1_text_36 ?_
      refine Z.iload_n F 1 rfl dX1_text_39 ?_
      refine Z.iconst F (v := (1 : Int32)) (by decide) dX1_text_40 ?_
      refine Z.icmp_ne F (tgt := 74) dX1_text_41 (by decide) ?_ ?_
      · refine Z.aload_n F 0 rfl dX1_text_74 ?_
        refine Z.aload_n F 0 rfl dX1_text_75 ?_
        refine gfX1_107 F dX1_text_76 (fun g76 => ?_)
        refine pfX1_93 F dX1_text_79 ?_
        refine Z.aload_n F 0 rfl dX1_text_82 ?_
        refine gfX1_59 F dX1_text_83 (fun g83 => ?_)
        refine clX1_129 F ⟨Nat.le_of_ble_eq_true rfl, Nat.le_of_ble_eq_true rfl⟩ (zlw4 (Nat.le_of_ble_eq_true rfl)) dX1_text_86 ?_
        refine Z.aload_n F 0 rfl dX1_text_89 ?_
        refine Z.iconst F (v := (0 : Int32)) (by decide) dX1_text_90 ?_
        refine pfX1_132 F dX1_text_91 ?_
        refine Z.aload_n F 0 rfl dX1_text_94 ?_
        refine Z.iconst F (v := (0 : Int32)) (by decide) dX1_text_95 ?_
        refine pfX1_135 F dX1_text_96 ?_
        refine Z.aload_n F 0 rfl dX1_text_99 ?_
        refine gfX1_93 F dX1_text_100 (fun g100 => ?_)
        refine gfX1_139 F dX1_text_103 (fun g103 => ?_)
        exact Z.iret F dX1_text_106
      refine Z.aload_n F 0 rfl dX1_text_44 ?_
      refine gfX1_27 F dX1_text_45 (fun g45 => ?_)
      refine Z.aload_n F 0 rfl dX1_text_48 ?_
      refine gfX1_123 F dX1_text_49 (fun g49 => ?_)
      refine Z.aload_n F 0 rfl dX1_text_52 ?_
      refine gfX1_114 F dX1_text_53 (fun g53 => ?_)
      refine Z.aast F (t := 3) (ci := 13) (by decide) rfl rfl (by decide) dX1_text_56 ?_
      refine Z.aload_n F 0 rfl dX1_text_57 ?_
      refine Z.dup F dX1_text_58 ?_
      refine gfX1_123 F dX1_text_59 (fun g59 => ?_)
      refine Z.iconst F (v := (1 : Int32)) (by decide) dX1_text_62 ?_
      refine Z.iadd F dX1_text_63 ?_
      refine pfX1_123 F dX1_text_64 ?_
      refine Z.aload_n F 0 rfl dX1_text_67 ?_
      refine gfX1_123 F dX1_text_68 (fun g68 => ?_)
      refine Z.iconst F (v := (1 : Int32)) (by decide) dX1_text_71 ?_
      refine Z.isub F dX1_text_72 ?_
      exact Z.iret F dX1_text_73
    exact Z.sub [] rfl (hj32)
  refine Z.icmp_ne F (tgt := 23) dX1_text_12 (by decide) ?_ ?_
  · exact Z.sub [0, 1] rfl (hj23)
  refine Z.aload_n F 0 rfl dX1_text_15 ?_
  refine gfX1_123 F dX1_text_16 (fun g16 => ?_)
  refine Z.iconst F (v := (4 : Int32)) (by decide) dX1_text_19 ?_
  refine Z.icmp_eq F (tgt := 32) dX1_text_20 (by decide) ?_ ?_
  · exact Z.sub [] rfl (hj32)
  exact Z.sub [0, 1] rfl (hj23)
theorem gfX21_15 (F : ZF p R s m args meth c cc nL "SafeBuckets$Unit" nm ret D A al sz mc ms fr lo) {z : Nat} {K : Nat → ZM → Prop} (hdg : decode cc pc = .ok (.getfield 15, 3)) (k : ∀ u, ZW p l e R s m args below meth c Q nL D A al n0 (K u) (pc + 3) L (zv u :: st)) : ZW p l e R s m args below meth c Q nL D A al n0 (zgR 16 z 2 K) pc L (zv z :: st) :=
  Z.getR F (ref := "SafeBuckets$Unit") in_X21 (ci := 15) rfl (by decide) (kf := 2) (by decide) q846 (fun _ h => h) rfl hdg k
set_option maxHeartbeats 4000000 in
theorem k_X21_isMissing (l : Launch) (h0 : Nat) : ZCi l yX21_isMissing (ws_ yX21_isMissing cX21_isMissing 1 (some .boolean)) 0 0 0 0 false [zv h0] (f_X21_isMissing h0) := by
  refine Z.metZ (by decide +kernel) (fun h => ⟨rfl, rfl⟩) (L0 := [(0, zv h0)]) (by first | (rw [zla_v, zla_0]; done) | (rw [zla_v, zla_0]; rfl)) (by rw [zsl_v, zsl_0]; exact Nat.le_of_ble_eq_true rfl) ?_
  intro p e R s m args below meth c D A n0 sz k F
  have F : ZF p R s m args meth c cX21_isMissing 1 "SafeBuckets$Unit" "isMissing" (some .boolean) D A false sz 0 0 0 0 := F
  unfold f_X21_isMissing
  refine Z.aload_n F 0 rfl dX21_isMissing_0 ?_
  refine gfX21_15 F dX21_isMissing_1 (fun g1 => ?_)
  refine Z.jn1 (J := _) (fun g4 => [(0, zv h0)]) (fun g4 => [.int g4]) 7 (fun g4 => ?_) (fun j4g hj4g => ?_)
  · refine Z.iconst F (v := (3 : Int32)) (by decide) dX21_isMissing_7 ?_
    refine Z.jn1 (J := _) (fun p16s0 => []) (fun p16s0 => [.int p16s0]) 16 (fun p16s0 => ?_) (fun j16 hj16 => ?_)
    · exact Z.zret F dX21_isMissing_16
    refine Z.icmp_ne F (tgt := 15) dX21_isMissing_8 (by decide) ?_ ?_
    · refine Z.iconst F (v := (0 : Int32)) (by decide) dX21_isMissing_15 ?_
      exact Z.sub [] rfl (hj16 (0 : Int32))
    refine Z.iconst F (v := (1 : Int32)) (by decide) dX21_isMissing_11 ?_
    refine Z.goto F (tgt := 16) dX21_isMissing_12 (by decide) ?_
    exact Z.sub [] rfl (hj16 (1 : Int32))
  exact Z.sgn F (hlink := List.mem_of_getElem? (i := 46) rfl) dX21_isMissing_4 hj4g
theorem clX21_37 (F : ZF p R s m args meth c cc nL "SafeBuckets$Unit" nm ret D A al sz mc ms fr lo) {h0 : Nat} {K : Int32 → ZM → Prop} (hR : 0 + 1 ≤ fr ∧ 8 + (1 + 11) + 0 ≤ lo) (hst4 : zlw st) (hdg : decode cc pc = .ok (.invokevirtual 37, 3)) (k : ∀ r, ZW p l e R s m args below meth c Q nL D A al n0 (K r) (pc + 3) L (.int r :: st)) : ZW p l e R s m args below meth c Q nL D A al n0 (zat 16 h0 (f_X21_isMissing h0 K)) pc L (zv h0 :: st) :=
  Z.ri0 _ (fun μ H locs cells slots ls hI h hP => Z.V0 F hI (n := 0) (ci := 15) rfl (by decide) hP.1 hP.2 (k_X21_isMissing l h0 D A (zX μ, zC μ, zS μ) H.size K μ) q921 q923 qs16 q145 q924 (by decide +kernel) rfl h.1 hst4 hR rfl hdg) k
theorem gfX21_19 (F : ZF p R s m args meth c cc nL "SafeBuckets$Unit" nm ret D A al sz mc ms fr lo) {z : Nat} {K : Int32 → ZM → Prop} (hdg : decode cc pc = .ok (.getfield 19, 3)) (k : ∀ u, ZW p l e R s m args below meth c Q nL D A al n0 (K u) (pc + 3) L (.int u :: st)) : ZW p l e R s m args below meth c Q nL D A al n0 (zgI 16 z 1 K) pc L (zv z :: st) :=
  Z.getI F (ref := "SafeBuckets$Unit") in_X21 (ci := 15) rfl (by decide) (kf := 1) (by decide) q845 (fun _ h => h) rfl hdg k
theorem gfX21_9 (F : ZF p R s m args meth c cc nL "SafeBuckets$Unit" nm ret D A al sz mc ms fr lo) {z : Nat} {K : Int32 → ZM → Prop} (hdg : decode cc pc = .ok (.getfield 9, 3)) (k : ∀ u, ZW p l e R s m args below meth c Q nL D A al n0 (K u) (pc + 3) L (.int u :: st)) : ZW p l e R s m args below meth c Q nL D A al n0 (zgI 16 z 0 K) pc L (zv z :: st) :=
  Z.getI F (ref := "SafeBuckets$Unit") in_X21 (ci := 15) rfl (by decide) (kf := 0) (by decide) q844 (fun _ h => h) rfl hdg k
set_option maxHeartbeats 4000000 in
theorem k_X21_told (l : Launch) (h0 : Nat) (x1 : Int32) : ZCi l yX21_told (ws_ yX21_told cX21_told 2 (some .int)) 1 20 0 0 false [zv h0, .int x1] (f_X21_told h0 x1) := by
  refine Z.metI (by decide +kernel) (fun h => ⟨rfl, rfl⟩) (L0 := [(0, zv h0), (1, .int x1)]) (by first | (rw [zla_v, zla_i, zla_0]; done) | (rw [zla_v, zla_i, zla_0]; rfl)) (by rw [zsl_v, zsl_i, zsl_0]; exact Nat.le_of_ble_eq_true rfl) ?_
  intro p e R s m args below meth c D A n0 sz k F
  have F : ZF p R s m args meth c cX21_told 2 "SafeBuckets$Unit" "told" (some .int) D A false sz 0 0 1 20 := F
  unfold f_X21_told
  refine Z.iload_n F 1 rfl dX21_told_0 ?_
  refine Z.iconst F (v := (1 : Int32)) (by decide) dX21_told_1 ?_
  refine Z.jn1 (J := _) (fun p42s0 => []) (fun p42s0 => [.int p42s0]) 42 (fun p42s0 => ?_) (fun j42 hj42 => ?_)
  · exact Z.iret F dX21_told_42
  refine Z.icmp_ne F (tgt := 12) dX21_told_2 (by decide) ?_ ?_
  · refine Z.iload_n F 1 rfl dX21_told_12 ?_
    refine Z.iconst F (v := (2 : Int32)) (by decide) dX21_told_13 ?_
    refine Z.icmp_ne F (tgt := 27) dX21_told_14 (by decide) ?_ ?_
    · refine Z.aload_n F 0 rfl dX21_told_27 ?_
      refine clX21_37 F ⟨Nat.le_of_ble_eq_true rfl, Nat.le_of_ble_eq_true rfl⟩ (zlw4 (Nat.le_of_ble_eq_true rfl)) dX21_told_28 (fun r28 => ?_)
      refine Z.if_eq F (tgt := 38) dX21_told_31 (by decide) ?_ ?_
      · refine Z.aload_n F 0 rfl dX21_told_38 ?_
        refine gfX21_19 F dX21_told_39 (fun g39 => ?_)
        exact Z.sub [] rfl (hj42 g39)
      refine Z.iconst F (v := (-1 : Int32)) (by decide) dX21_told_34 ?_
      refine Z.goto F (tgt := 42) dX21_told_35 (by decide) ?_
      exact Z.sub [] rfl (hj42 (-1 : Int32))
    refine Z.aload_n F 0 rfl dX21_told_17 ?_
    refine gfX21_15 F dX21_told_18 (fun g18 => ?_)
    refine Z.jn1 (J := _) (fun g21 => [(0, zv h0), (1, .int x1)]) (fun g21 => [.int g21]) 24 (fun g21 => ?_) (fun j21g hj21g => ?_)
    · refine Z.goto F (tgt := 42) dX21_told_24 (by decide) ?_
      exact Z.sub [] rfl (hj42 g21)
    exact Z.sgn F (hlink := List.mem_of_getElem? (i := 46) rfl) dX21_told_21 hj21g
  refine Z.aload_n F 0 rfl dX21_told_5 ?_
  refine gfX21_9 F dX21_told_6 (fun g6 => ?_)
  refine Z.goto F (tgt := 42) dX21_told_9 (by decide) ?_
  exact Z.sub [] rfl (hj42 g6)
theorem gfX1_148 (F : ZF p R s m args meth c cc nL "SafeBuckets" nm ret D A al sz mc ms fr lo) {z : Nat} {K : Nat → ZM → Prop} (hdg : decode cc pc = .ok (.getfield 148, 3)) (k : ∀ u, ZW p l e R s m args below meth c Q nL D A al n0 (K u) (pc + 3) L (zv u :: st)) : ZW p l e R s m args below meth c Q nL D A al n0 (zgR 14 z 0 K) pc L (zv z :: st) :=
  Z.getRN F (ref := "SafeBuckets$Where") in_X18 (ci := 13) rfl (by decide) (kf := 0) (by decide) (host := "SafeBuckets") (List.mem_of_getElem? (i := 3) rfl) (fun _ h => h) rfl hdg k
theorem gfX1_155 (F : ZF p R s m args meth c cc nL "SafeBuckets" nm ret D A al sz mc ms fr lo) {z : Nat} {K : Nat → ZM → Prop} (hdg : decode cc pc = .ok (.getfield 155, 3)) (k : ∀ u, ZW p l e R s m args below meth c Q nL D A al n0 (K u) (pc + 3) L (zv u :: st)) : ZW p l e R s m args below meth c Q nL D A al n0 (zgR 15 z 0 K) pc L (zv z :: st) :=
  Z.getRN F (ref := "SafeBuckets$Term") in_X19 (ci := 14) rfl (by decide) (kf := 0) (by decide) (host := "SafeBuckets") (List.mem_of_getElem? (i := 5) rfl) (fun _ h => h) rfl hdg k
theorem clX1_159 (F : ZF p R s m args meth c cc nL "SafeBuckets" nm ret D A al sz mc ms fr lo) {h0 : Nat} {x1 : Int32} {K : Int32 → ZM → Prop} (hR : 1 + 1 ≤ fr ∧ 8 + (2 + 11) + 20 ≤ lo) (hst4 : zlw st) (hdg : decode cc pc = .ok (.invokevirtual 159, 3)) (k : ∀ r, ZW p l e R s m args below meth c Q nL D A al n0 (K r) (pc + 3) L (.int r :: st)) : ZW p l e R s m args below meth c Q nL D A al n0 (zat 16 h0 (f_X21_told h0 x1 K)) pc L (.int x1 :: zv h0 :: st) :=
  Z.ri0 _ (fun μ H locs cells slots ls hI h hP => Z.V0 F hI (n := 1) (ci := 15) rfl (by decide) hP.1 hP.2 (k_X21_told l h0 x1 D A (zX μ, zC μ, zS μ) H.size K μ) q917 q918 q919 q145 q920 (by decide +kernel) rfl h.1 hst4 hR rfl hdg) k
theorem gfX1_147 (F : ZF p R s m args meth c cc nL "SafeBuckets" nm ret D A al sz mc ms fr lo) {z : Nat} {K : Int32 → ZM → Prop} (hdg : decode cc pc = .ok (.getfield 147, 3)) (k : ∀ u, ZW p l e R s m args below meth c Q nL D A al n0 (K u) (pc + 3) L (.int u :: st)) : ZW p l e R s m args below meth c Q nL D A al n0 (zgI 14 z 1 K) pc L (zv z :: st) :=
  Z.getIN F (ref := "SafeBuckets$Where") in_X18 (ci := 13) rfl (by decide) (kf := 1) (by decide) (host := "SafeBuckets") (List.mem_of_getElem? (i := 2) rfl) (fun _ h => h) rfl hdg k
theorem gfX1_152 (F : ZF p R s m args meth c cc nL "SafeBuckets" nm ret D A al sz mc ms fr lo) {z : Nat} {K : Int32 → ZM → Prop} (hdg : decode cc pc = .ok (.getfield 152, 3)) (k : ∀ u, ZW p l e R s m args below meth c Q nL D A al n0 (K u) (pc + 3) L (.int u :: st)) : ZW p l e R s m args below meth c Q nL D A al n0 (zgI 15 z 1 K) pc L (zv z :: st) :=
  Z.getIN F (ref := "SafeBuckets$Term") in_X19 (ci := 14) rfl (by decide) (kf := 1) (by decide) (host := "SafeBuckets") (List.mem_of_getElem? (i := 4) rfl) (fun _ h => h) rfl hdg k
set_option maxHeartbeats 4000000 in
theorem k_X1_unit (l : Launch) (h0 : Nat) (x1 : Int32) (x2 : Int32) (x3 : Int32) : ZCi l yX1_unit (ws_ yX1_unit cX1_unit 7 (some .int)) 2 41 0 0 false [zv h0, .int x1, .int x2, .int x3] (f_X1_unit h0 x1 x2 x3) := by
  refine Z.metI (by decide +kernel) (fun h => ⟨rfl, rfl⟩) (L0 := [(0, zv h0), (1, .int x1), (2, .int x2), (3, .int x3)]) (by first | (rw [zla_v, zla_i, zla_i, zla_i, zla_0]; done) | (rw [zla_v, zla_i, zla_i, zla_i, zla_0]; rfl)) (by rw [zsl_v, zsl_i, zsl_i, zsl_i, zsl_0]; exact Nat.le_of_ble_eq_true rfl) ?_
  intro p e R s m args below meth c D A n0 sz k F
  have F : ZF p R s m args meth c cX1_unit 7 "SafeBuckets" "unit" (some .int) D A false sz 0 0 2 41 := F
  unfold f_X1_unit
  refine Z.iload_n F 1 rfl dX1_unit_0 ?_
  refine Z.i2l F dX1_unit_1 ?_
  refine Z.lconst F (w := (0 : Int64)) (by decide) dX1_unit_2 ?_
  refine Z.aload_n F 0 rfl dX1_unit_3 ?_
  refine gfX1_123 F dX1_unit_4 (fun g4 => ?_)
  refine Z.iconst F (v := (1 : Int32)) (by decide) dX1_unit_7 ?_
  refine Z.isub F dX1_unit_8 ?_
  refine Z.i2l F dX1_unit_9 ?_
  refine clX1_97 F ⟨Nat.le_of_ble_eq_true rfl, Nat.le_of_ble_eq_true rfl⟩ (zlw4 (Nat.le_of_ble_eq_true rfl)) dX1_unit_10 (fun r10 => ?_)
  refine Z.jn0 (J := _) ([]) ([]) 28 (?_) (fun j28 hj28 => ?_)
  · refine Z.ldcI F q916 dX1_unit_28 ?_
    exact Z.iret F dX1_unit_30
  refine Z.if_eq F (tgt := 28) dX1_unit_13 (by decide) ?_ ?_
  · exact Z.sub [] rfl (hj28)
  refine Z.iload_n F 3 rfl dX1_unit_16 ?_
  refine Z.i2l F dX1_unit_17 ?_
  refine Z.lconst F (w := (0 : Int64)) (by decide) dX1_unit_18 ?_
  refine Z.ldc2 F q915 dX1_unit_19 ?_
  refine clX1_97 F ⟨Nat.le_of_ble_eq_true rfl, Nat.le_of_ble_eq_true rfl⟩ (zlw4 (Nat.le_of_ble_eq_true rfl)) dX1_unit_22 (fun r22 => ?_)
  refine Z.if_ne F (tgt := 31) dX1_unit_25 (by decide) ?_ ?_
  · refine Z.aload_n F 0 rfl dX1_unit_31 ?_
    refine gfX1_27 F dX1_unit_32 (fun g32 => ?_)
    refine Z.iload_n F 1 rfl dX1_unit_35 ?_
    refine Z.aald F (t := 3) (by decide) rfl rfl dX1_unit_36 (fun g36 => ?_)
    refine Z.astore F (L0 := [(0, zv h0), (1, .int x1), (2, .int x2), (3, .int x3)]) [0, 1, 2, 3] rfl (zkR rfl (zkI rfl (zkI rfl (zkI rfl zkN)))) (by decide) dX1_unit_37 ?_
    refine Z.iload_n F 3 rfl dX1_unit_39 ?_
    refine Z.istore F (L0 := [(4, zv g36), (0, zv h0), (1, .int x1), (2, .int x2), (3, .int x3)]) [0, 1, 2, 3, 4] rfl (zkR rfl (zkR rfl (zkI rfl (zkI rfl (zkI rfl zkN))))) (by decide) dX1_unit_40 ?_
    refine Z.iconst F (v := (0 : Int32)) (by decide) dX1_unit_42 ?_
    refine Z.istore F (L0 := [(5, .int x2), (4, zv g36), (0, zv h0), (1, .int x1), (2, .int x2), (3, .int x3)]) [0, 1, 2, 3, 4, 5] rfl (zkI rfl (zkR rfl (zkR rfl (zkI rfl (zkI rfl (zkI rfl zkN)))))) (by decide) dX1_unit_43 ?_
    refine Z.jn2 (J := _) (fun p76l5 p76l6 => [(3, .int x3), (4, zv g36), (5, .int p76l5), (6, .int p76l6)]) (fun p76l5 p76l6 => []) 76 (fun p76l5 p76l6 => ?_) (fun j76 hj76 => ?_)
    · refine Z.iload_n F 0 rfl dX1_unit_76 ?_
      refine Z.jn1 (J := _) (fun p103s0 => []) (fun p103s0 => [.int p103s0]) 103 (fun p103s0 => ?_) (fun j103 hj103 => ?_)
      · exact Z.iret F dX1_unit_103
      refine Z.if_ne F (tgt := 85) dX1_unit_77 (by decide) ?_ ?_
      · refine Z.aload F 1 rfl dX1_unit_85 ?_
        refine gfX1_148 F dX1_unit_87 (fun g87 => ?_)
        refine Z.iload F 3 rfl dX1_unit_90 ?_
        refine Z.aald F (t := 12) (by decide) rfl rfl dX1_unit_92 (fun g92 => ?_)
        refine gfX1_155 F dX1_unit_93 (fun g93 => ?_)
        refine Z.iload F 2 rfl dX1_unit_96 ?_
        refine Z.aald F (t := 13) (by decide) rfl rfl dX1_unit_98 (fun g98 => ?_)
        refine Z.iload_n F 0 rfl dX1_unit_99 ?_
        refine clX1_159 F ⟨Nat.le_of_ble_eq_true rfl, Nat.le_of_ble_eq_true rfl⟩ (zlw4 (Nat.le_of_ble_eq_true rfl)) dX1_unit_100 (fun r100 => ?_)
        exact Z.sub [] rfl (hj103 r100)
      refine Z.iload F 3 rfl dX1_unit_80 ?_
      refine Z.goto F (tgt := 103) dX1_unit_82 (by decide) ?_
      exact Z.sub [] rfl (hj103 p76l6)
    refine Z.jn0 (J := _) ([]) ([]) 126 (?_) (fun j126 hj126 => ?_)
    · refine Z.ldcI F q916 dX1_unit_126 ?_
      exact Z.iret F dX1_unit_128
    refine Z.sub [6, 2, 1, 0] rfl ?_
    refine Z.w2 (Lf := fun p45l5 p45l6 => [(3, .int x3), (4, zv g36), (5, .int p45l5), (6, .int p45l6)]) (sf := fun p45l5 p45l6 => []) (fun r45 hr45 p45l5 p45l6 => ?_) x2 (0 : Int32)
    refine Z.iload F 3 rfl dX1_unit_45 ?_
    refine Z.aload F 1 rfl dX1_unit_47 ?_
    refine gfX1_147 F dX1_unit_49 (fun g49 => ?_)
    refine Z.icmp_ge F (tgt := 126) dX1_unit_52 (by decide) ?_ ?_
    · exact Z.sub [] rfl (hj126)
    refine Z.iload F 2 rfl dX1_unit_55 ?_
    refine Z.if_lt F (tgt := 126) dX1_unit_57 (by decide) ?_ ?_
    · exact Z.sub [] rfl (hj126)
    refine Z.iload F 2 rfl dX1_unit_60 ?_
    refine Z.aload F 1 rfl dX1_unit_62 ?_
    refine gfX1_148 F dX1_unit_64 (fun g64 => ?_)
    refine Z.iload F 3 rfl dX1_unit_67 ?_
    refine Z.aald F (t := 12) (by decide) rfl rfl dX1_unit_69 (fun g69 => ?_)
    refine gfX1_152 F dX1_unit_70 (fun g70 => ?_)
    refine Z.icmp_ge F (tgt := 104) dX1_unit_73 (by decide) ?_ ?_
    · refine Z.iload F 2 rfl dX1_unit_104 ?_
      refine Z.aload F 1 rfl dX1_unit_106 ?_
      refine gfX1_148 F dX1_unit_108 (fun g108 => ?_)
      refine Z.iload F 3 rfl dX1_unit_111 ?_
      refine Z.aald F (t := 12) (by decide) rfl rfl dX1_unit_113 (fun g113 => ?_)
      refine gfX1_152 F dX1_unit_114 (fun g114 => ?_)
      refine Z.isub F dX1_unit_117 ?_
      refine Z.istore F (L0 := [(3, .int x3), (4, zv g36), (6, .int p45l6)]) [0, 1, 3] rfl (zkI rfl (zkR rfl (zkI rfl zkN))) (by decide) dX1_unit_118 ?_
      refine Z.iinc F (L0 := [(5, .int (p45l5 - g114)), (3, .int x3), (4, zv g36)]) (k0 := 3) (v := (1 : Int32)) rfl (by decide) [0, 1, 2] rfl (zkI rfl (zkI rfl (zkR rfl zkN))) (by decide) dX1_unit_120 ?_
      refine Z.goto F (tgt := 45) dX1_unit_123 (by decide) ?_
      exact Z.sub [2, 3, 1, 0] rfl (hr45 (p45l5 - g114) (p45l6 + (1 : Int32)))
    exact Z.sub [0, 1, 2, 3] rfl (hj76 p45l5 p45l6)
  exact Z.sub [] rfl (hj28)
theorem gfX1_207 (F : ZF p R s m args meth c cc nL "SafeBuckets" nm ret D A al sz mc ms fr lo) {z : Nat} {K : Nat → ZM → Prop} (hdg : decode cc pc = .ok (.getfield 207, 3)) (k : ∀ u, ZW p l e R s m args below meth c Q nL D A al n0 (K u) (pc + 3) L (zv u :: st)) : ZW p l e R s m args below meth c Q nL D A al n0 (zgR 9 z 2 K) pc L (zv z :: st) :=
  Z.getRN F (ref := "SafeBuckets$Book") in_X11 (ci := 8) rfl (by decide) (kf := 2) (by decide) (host := "SafeBuckets") (List.mem_of_getElem? (i := 9) rfl) (fun _ h => h) rfl hdg k
theorem gfX1_211 (F : ZF p R s m args meth c cc nL "SafeBuckets" nm ret D A al sz mc ms fr lo) {z : Nat} {K : Nat → ZM → Prop} (hdg : decode cc pc = .ok (.getfield 211, 3)) (k : ∀ u, ZW p l e R s m args below meth c Q nL D A al n0 (K u) (pc + 3) L (zv u :: st)) : ZW p l e R s m args below meth c Q nL D A al n0 (zgR 11 z 0 K) pc L (zv z :: st) :=
  Z.getR F (ref := "SafeBuckets$Rules") in_X15 (ci := 10) rfl (by decide) (kf := 0) (by decide) q594 (fun x h => u_same (F.hts _ q590) x h) rfl hdg k
theorem gfX1_204 (F : ZF p R s m args meth c cc nL "SafeBuckets" nm ret D A al sz mc ms fr lo) {z : Nat} {K : Int32 → ZM → Prop} (hdg : decode cc pc = .ok (.getfield 204, 3)) (k : ∀ u, ZW p l e R s m args below meth c Q nL D A al n0 (K u) (pc + 3) L (.int u :: st)) : ZW p l e R s m args below meth c Q nL D A al n0 (zgI 2 z 2 K) pc L (zv z :: st) :=
  Z.getIN F (ref := "SafeBuckets$State") in_X2 (ci := 1) rfl (by decide) (kf := 2) (by decide) (host := "SafeBuckets") (List.mem_of_getElem? (i := 8) rfl) (fun _ h => h) rfl hdg k
set_option maxHeartbeats 4000000 in
theorem k_X1_rule (l : Launch) (h0 : Nat) (x1 : Int32) : ZCi l yX1_rule (ws_ yX1_rule cX1_rule 2 (some .int)) 1 25 0 0 false [zv h0, .int x1] (f_X1_rule h0 x1) := by
  refine Z.metI (by decide +kernel) (fun h => ⟨rfl, rfl⟩) (L0 := [(0, zv h0), (1, .int x1)]) (by first | (rw [zla_v, zla_i, zla_0]; done) | (rw [zla_v, zla_i, zla_0]; rfl)) (by rw [zsl_v, zsl_i, zsl_0]; exact Nat.le_of_ble_eq_true rfl) ?_
  intro p e R s m args below meth c D A n0 sz k F
  have F : ZF p R s m args meth c cX1_rule 2 "SafeBuckets" "rule" (some .int) D A false sz 0 0 1 25 := F
  unfold f_X1_rule
  refine Z.aload_n F 0 rfl dX1_rule_0 ?_
  refine gfX1_93 F dX1_rule_1 (fun g1 => ?_)
  refine Z.jn0 (J := _) ([]) ([]) 19 (?_) (fun j19 hj19 => ?_)
  · refine Z.iconst F (v := (-1 : Int32)) (by decide) dX1_rule_19 ?_
    exact Z.iret F dX1_rule_20
  refine Z.ifnull F (tgt := 19) dX1_rule_4 (by decide) ?_ ?_
  · exact Z.sub [] rfl (hj19)
  refine Z.iload_n F 1 rfl dX1_rule_7 ?_
  refine Z.i2l F dX1_rule_8 ?_
  refine Z.lconst F (w := (0 : Int64)) (by decide) dX1_rule_9 ?_
  refine Z.ldc2 F q929 dX1_rule_10 ?_
  refine clX1_97 F ⟨Nat.le_of_ble_eq_true rfl, Nat.le_of_ble_eq_true rfl⟩ (zlw4 (Nat.le_of_ble_eq_true rfl)) dX1_rule_13 (fun r13 => ?_)
  refine Z.if_ne F (tgt := 21) dX1_rule_16 (by decide) ?_ ?_
  · refine Z.iload_n F 1 rfl dX1_rule_21 ?_
    refine Z.iconst F (v := (2 : Int32)) (by decide) dX1_rule_22 ?_
    refine Z.jn1 (J := _) (fun p48s0 => []) (fun p48s0 => [.int p48s0]) 48 (fun p48s0 => ?_) (fun j48 hj48 => ?_)
    · exact Z.iret F dX1_rule_48
    refine Z.icmp_ne F (tgt := 36) dX1_rule_23 (by decide) ?_ ?_
    · refine Z.aload_n F 0 rfl dX1_rule_36 ?_
      refine gfX1_93 F dX1_rule_37 (fun g37 => ?_)
      refine gfX1_207 F dX1_rule_40 (fun g40 => ?_)
      refine gfX1_211 F dX1_rule_43 (fun g43 => ?_)
      refine Z.iload_n F 1 rfl dX1_rule_46 ?_
      refine Z.iald F dX1_rule_47 (fun g47 => ?_)
      exact Z.sub [] rfl (hj48 g47)
    refine Z.aload_n F 0 rfl dX1_rule_26 ?_
    refine gfX1_59 F dX1_rule_27 (fun g27 => ?_)
    refine gfX1_204 F dX1_rule_30 (fun g30 => ?_)
    refine Z.goto F (tgt := 48) dX1_rule_33 (by decide) ?_
    exact Z.sub [] rfl (hj48 g30)
  exact Z.sub [] rfl (hj19)
set_option maxHeartbeats 4000000 in
theorem k_X1_isTable (l : Launch) (h0 : Nat) (x1 : Int32) : ZCi l yX1_isTable (ws_ yX1_isTable cX1_isTable 2 (some .boolean)) 0 0 0 0 false [zv h0, .int x1] (f_X1_isTable h0 x1) := by
  refine Z.metZ (by decide +kernel) (fun h => ⟨rfl, rfl⟩) (L0 := [(0, zv h0), (1, .int x1)]) (by first | (rw [zla_v, zla_i, zla_0]; done) | (rw [zla_v, zla_i, zla_0]; rfl)) (by rw [zsl_v, zsl_i, zsl_0]; exact Nat.le_of_ble_eq_true rfl) ?_
  intro p e R s m args below meth c D A n0 sz k F
  have F : ZF p R s m args meth c cX1_isTable 2 "SafeBuckets" "isTable" (some .boolean) D A false sz 0 0 0 0 := F
  unfold f_X1_isTable
  refine Z.aload_n F 0 rfl dX1_isTable_0 ?_
  refine gfX1_93 F dX1_isTable_1 (fun g1 => ?_)
  refine Z.jn1 (J := _) (fun p27s0 => []) (fun p27s0 => [.int p27s0]) 27 (fun p27s0 => ?_) (fun j27 hj27 => ?_)
  · exact Z.zret F dX1_isTable_27
  refine Z.jn0 (J := _) ([]) ([]) 26 (?_) (fun j26 hj26 => ?_)
  · refine Z.iconst F (v := (0 : Int32)) (by decide) dX1_isTable_26 ?_
    exact Z.sub [] rfl (hj27 (0 : Int32))
  refine Z.ifnull F (tgt := 26) dX1_isTable_4 (by decide) ?_ ?_
  · exact Z.sub [] rfl (hj26)
  refine Z.iload_n F 1 rfl dX1_isTable_7 ?_
  refine Z.if_lt F (tgt := 26) dX1_isTable_8 (by decide) ?_ ?_
  · exact Z.sub [] rfl (hj26)
  refine Z.iload_n F 1 rfl dX1_isTable_11 ?_
  refine Z.aload_n F 0 rfl dX1_isTable_12 ?_
  refine gfX1_93 F dX1_isTable_13 (fun g13 => ?_)
  refine gfX1_139 F dX1_isTable_16 (fun g16 => ?_)
  refine Z.icmp_ge F (tgt := 26) dX1_isTable_19 (by decide) ?_ ?_
  · exact Z.sub [] rfl (hj26)
  refine Z.iconst F (v := (1 : Int32)) (by decide) dX1_isTable_22 ?_
  refine Z.goto F (tgt := 27) dX1_isTable_23 (by decide) ?_
  exact Z.sub [] rfl (hj27 (1 : Int32))
theorem gfX1_198 (F : ZF p R s m args meth c cc nL "SafeBuckets" nm ret D A al sz mc ms fr lo) {z : Nat} {K : Nat → ZM → Prop} (hdg : decode cc pc = .ok (.getfield 198, 3)) (k : ∀ u, ZW p l e R s m args below meth c Q nL D A al n0 (K u) (pc + 3) L (zv u :: st)) : ZW p l e R s m args below meth c Q nL D A al n0 (zgR 2 z 0 K) pc L (zv z :: st) :=
  Z.getRN F (ref := "SafeBuckets$State") in_X2 (ci := 1) rfl (by decide) (kf := 0) (by decide) (host := "SafeBuckets") (List.mem_of_getElem? (i := 7) rfl) (fun _ h => h) rfl hdg k
set_option maxHeartbeats 4000000 in
theorem k_X1_sheet (l : Launch) (h0 : Nat) (x1 : Int32) : ZCr' l yX1_sheet (ws_ yX1_sheet cX1_sheet 2 (some (.object "SafeBuckets$Sheet"))) 0 0 0 0 false [zv h0, .int x1] (f_X1_sheet h0 x1) := by
  refine Z.metQ (by decide +kernel) (fun h => ⟨rfl, rfl⟩) (L0 := [(0, zv h0), (1, .int x1)]) (by first | (rw [zla_v, zla_i, zla_0]; done) | (rw [zla_v, zla_i, zla_0]; rfl)) (by rw [zsl_v, zsl_i, zsl_0]; exact Nat.le_of_ble_eq_true rfl) ?_
  intro p e R s m args below meth c D A n0 sz k F
  have F : ZF p R s m args meth c cX1_sheet 2 "SafeBuckets" "sheet" (some (.object "SafeBuckets$Sheet")) D A false sz 0 0 0 0 := F
  unfold f_X1_sheet
  refine Z.aload_n F 0 rfl dX1_sheet_0 ?_
  refine gfX1_59 F dX1_sheet_1 (fun g1 => ?_)
  refine gfX1_198 F dX1_sheet_4 (fun g4 => ?_)
  refine Z.iload_n F 1 rfl dX1_sheet_7 ?_
  refine Z.aald F (t := 6) (by decide) rfl rfl dX1_sheet_8 (fun g8 => ?_)
  exact Z.aret F (Or.inl ⟨_, rfl⟩) dX1_sheet_9
theorem clX3_43 (F : ZF p R s m args meth c cc nL "SafeBuckets$Sheet" nm ret D A al sz mc ms fr lo) {x0 : Int64} {x2 : Int64} {x4 : Int64} {K : Int32 → ZM → Prop} (hR : 0 + 1 ≤ fr ∧ 8 + (6 + 11) + 0 ≤ lo) (hst4 : zlw st) (hdg : decode cc pc = .ok (.invokestatic 43, 3)) (k : ∀ r, ZW p l e R s m args below meth c Q nL D A al n0 (K r) (pc + 3) L (.int r :: st)) : ZW p l e R s m args below meth c Q nL D A al n0 (f_X1_isIn x0 x2 x4 K) pc L (.long x4 :: .long x2 :: .long x0 :: st) :=
  Z.ri0 _ (fun μ H locs cells slots ls hI h hP => Z.SN0 F hI (n := 3) hP (k_X1_isIn l x0 x2 x4 D A (zX μ, zC μ, zS μ) H.size K μ) (List.mem_of_getElem? (i := 13) rfl) q483 q116 q484 (by decide +kernel) rfl h.1 hst4 hR rfl hdg) k
set_option maxHeartbeats 4000000 in
theorem k_X3_isValue (l : Launch) (h0 : Nat) (x1 : Int32) : ZCi l yX3_isValue (ws_ yX3_isValue cX3_isValue 2 (some .boolean)) 1 25 0 0 false [zv h0, .int x1] (f_X3_isValue h0 x1) := by
  refine Z.metZ (by decide +kernel) (fun h => ⟨rfl, rfl⟩) (L0 := [(0, zv h0), (1, .int x1)]) (by first | (rw [zla_v, zla_i, zla_0]; done) | (rw [zla_v, zla_i, zla_0]; rfl)) (by rw [zsl_v, zsl_i, zsl_0]; exact Nat.le_of_ble_eq_true rfl) ?_
  intro p e R s m args below meth c D A n0 sz k F
  have F : ZF p R s m args meth c cX3_isValue 2 "SafeBuckets$Sheet" "isValue" (some .boolean) D A false sz 0 0 1 25 := F
  unfold f_X3_isValue
  refine Z.iload_n F 1 rfl dX3_isValue_0 ?_
  refine Z.iconst F (v := (-1 : Int32)) (by decide) dX3_isValue_1 ?_
  refine Z.jn1 (J := _) (fun p26s0 => []) (fun p26s0 => [.int p26s0]) 26 (fun p26s0 => ?_) (fun j26 hj26 => ?_)
  · exact Z.zret F dX3_isValue_26
  refine Z.jn0 (J := _) ([]) ([]) 21 (?_) (fun j21 hj21 => ?_)
  · refine Z.iconst F (v := (1 : Int32)) (by decide) dX3_isValue_21 ?_
    refine Z.goto F (tgt := 26) dX3_isValue_22 (by decide) ?_
    exact Z.sub [] rfl (hj26 (1 : Int32))
  refine Z.icmp_eq F (tgt := 21) dX3_isValue_2 (by decide) ?_ ?_
  · exact Z.sub [] rfl (hj21)
  refine Z.iload_n F 1 rfl dX3_isValue_5 ?_
  refine Z.i2l F dX3_isValue_6 ?_
  refine Z.lconst F (w := (0 : Int64)) (by decide) dX3_isValue_7 ?_
  refine Z.aload_n F 0 rfl dX3_isValue_8 ?_
  refine gfX3_30 F dX3_isValue_9 (fun g9 => ?_)
  refine Z.iconst F (v := (1 : Int32)) (by decide) dX3_isValue_12 ?_
  refine Z.isub F dX3_isValue_13 ?_
  refine Z.i2l F dX3_isValue_14 ?_
  refine clX3_43 F ⟨Nat.le_of_ble_eq_true rfl, Nat.le_of_ble_eq_true rfl⟩ (zlw4 (Nat.le_of_ble_eq_true rfl)) dX3_isValue_15 (fun r15 => ?_)
  refine Z.if_eq F (tgt := 25) dX3_isValue_18 (by decide) ?_ ?_
  · refine Z.iconst F (v := (0 : Int32)) (by decide) dX3_isValue_25 ?_
    exact Z.sub [] rfl (hj26 (0 : Int32))
  exact Z.sub [] rfl (hj21)
theorem clX1_194 (F : ZF p R s m args meth c cc nL "SafeBuckets" nm ret D A al sz mc ms fr lo) {h0 : Nat} {x1 : Int32} {K : Int32 → ZM → Prop} (hR : 0 + 1 ≤ fr ∧ 8 + (2 + 11) + 0 ≤ lo) (hst4 : zlw st) (hdg : decode cc pc = .ok (.invokevirtual 194, 3)) (k : ∀ r, ZW p l e R s m args below meth c Q nL D A al n0 (K r) (pc + 3) L (.int r :: st)) : ZW p l e R s m args below meth c Q nL D A al n0 (zat 1 h0 (f_X1_isTable h0 x1 K)) pc L (.int x1 :: zv h0 :: st) :=
  Z.ri0 _ (fun μ H locs cells slots ls hI h hP => Z.V0 F hI (n := 1) (ci := 0) rfl (by decide) hP.1 hP.2 (k_X1_isTable l h0 x1 D A (zX μ, zC μ, zS μ) H.size K μ) q938 q940 qs18 q116 q941 (by decide +kernel) rfl h.1 hst4 hR rfl hdg) k
theorem clX1_218 (F : ZF p R s m args meth c cc nL "SafeBuckets" nm ret D A al sz mc ms fr lo) {h0 : Nat} {x1 : Int32} {K : Nat → ZM → Prop} (hR : 0 + 1 ≤ fr ∧ 8 + (2 + 11) + 0 ≤ lo) (hst4 : zlw st) (hdg : decode cc pc = .ok (.invokevirtual 218, 3)) (k : ∀ r, ZW p l e R s m args below meth c Q nL D A al n0 (K r) (pc + 3) L (zv r :: st)) : ZW p l e R s m args below meth c Q nL D A al n0 (zat 1 h0 (f_X1_sheet h0 x1 K)) pc L (.int x1 :: zv h0 :: st) :=
  Z.rq0 _ (fun μ H locs cells slots ls hI h hP => Z.V0 F hI (n := 1) (ci := 0) rfl (by decide) hP.1 hP.2 (k_X1_sheet l h0 x1 D A (zX μ, zC μ, zS μ) H.size K μ) q942 q944 qs19 q116 q945 (by decide +kernel) rfl h.1 hst4 hR rfl hdg) k
theorem clX1_228 (F : ZF p R s m args meth c cc nL "SafeBuckets" nm ret D A al sz mc ms fr lo) {h0 : Nat} {x1 : Int32} {K : Int32 → ZM → Prop} (hR : 1 + 1 ≤ fr ∧ 8 + (2 + 11) + 25 ≤ lo) (hst4 : zlw st) (hdg : decode cc pc = .ok (.invokevirtual 228, 3)) (k : ∀ r, ZW p l e R s m args below meth c Q nL D A al n0 (K r) (pc + 3) L (.int r :: st)) : ZW p l e R s m args below meth c Q nL D A al n0 (zat 3 h0 (f_X3_isValue h0 x1 K)) pc L (.int x1 :: zv h0 :: st) :=
  Z.ri0 _ (fun μ H locs cells slots ls hI h hP => Z.V0 F hI (n := 1) (ci := 2) rfl (by decide) hP.1 hP.2 (k_X3_isValue l h0 x1 D A (zX μ, zC μ, zS μ) H.size K μ) q946 q947 q948 q118 q949 (by decide +kernel) rfl h.1 hst4 hR rfl hdg) k
set_option maxHeartbeats 4000000 in
theorem k_X1_isPair (l : Launch) (h0 : Nat) (x1 : Int32) (x2 : Int32) (x3 : Int32) : ZCi l yX1_isPair (ws_ yX1_isPair cX1_isPair 4 (some .boolean)) 2 46 0 0 false [zv h0, .int x1, .int x2, .int x3] (f_X1_isPair h0 x1 x2 x3) := by
  refine Z.metZ (by decide +kernel) (fun h => ⟨rfl, rfl⟩) (L0 := [(0, zv h0), (1, .int x1), (2, .int x2), (3, .int x3)]) (by first | (rw [zla_v, zla_i, zla_i, zla_i, zla_0]; done) | (rw [zla_v, zla_i, zla_i, zla_i, zla_0]; rfl)) (by rw [zsl_v, zsl_i, zsl_i, zsl_i, zsl_0]; exact Nat.le_of_ble_eq_true rfl) ?_
  intro p e R s m args below meth c D A n0 sz k F
  have F : ZF p R s m args meth c cX1_isPair 4 "SafeBuckets" "isPair" (some .boolean) D A false sz 0 0 2 46 := F
  unfold f_X1_isPair
  refine Z.aload_n F 0 rfl dX1_isPair_0 ?_
  refine Z.iload_n F 1 rfl dX1_isPair_1 ?_
  refine clX1_194 F ⟨Nat.le_of_ble_eq_true rfl, Nat.le_of_ble_eq_true rfl⟩ (zlw4 (Nat.le_of_ble_eq_true rfl)) dX1_isPair_2 (fun r2 => ?_)
  refine Z.jn1 (J := _) (fun p37s0 => []) (fun p37s0 => [.int p37s0]) 37 (fun p37s0 => ?_) (fun j37 hj37 => ?_)
  · exact Z.zret F dX1_isPair_37
  refine Z.jn0 (J := _) ([]) ([]) 36 (?_) (fun j36 hj36 => ?_)
  · refine Z.iconst F (v := (0 : Int32)) (by decide) dX1_isPair_36 ?_
    exact Z.sub [] rfl (hj37 (0 : Int32))
  refine Z.if_eq F (tgt := 36) dX1_isPair_5 (by decide) ?_ ?_
  · exact Z.sub [] rfl (hj36)
  refine Z.aload_n F 0 rfl dX1_isPair_8 ?_
  refine Z.iload_n F 1 rfl dX1_isPair_9 ?_
  refine clX1_218 F ⟨Nat.le_of_ble_eq_true rfl, Nat.le_of_ble_eq_true rfl⟩ (zlw4 (Nat.le_of_ble_eq_true rfl)) dX1_isPair_10 (fun r10 => ?_)
  refine Z.iload_n F 2 rfl dX1_isPair_13 ?_
  refine clX1_228 F ⟨Nat.le_of_ble_eq_true rfl, Nat.le_of_ble_eq_true rfl⟩ (zlw4 (Nat.le_of_ble_eq_true rfl)) dX1_isPair_14 (fun r14 => ?_)
  refine Z.if_eq F (tgt := 36) dX1_isPair_17 (by decide) ?_ ?_
  · exact Z.sub [] rfl (hj36)
  refine Z.aload_n F 0 rfl dX1_isPair_20 ?_
  refine Z.iload_n F 1 rfl dX1_isPair_21 ?_
  refine clX1_218 F ⟨Nat.le_of_ble_eq_true rfl, Nat.le_of_ble_eq_true rfl⟩ (zlw4 (Nat.le_of_ble_eq_true rfl)) dX1_isPair_22 (fun r22 => ?_)
  refine Z.iload_n F 3 rfl dX1_isPair_25 ?_
  refine clX1_228 F ⟨Nat.le_of_ble_eq_true rfl, Nat.le_of_ble_eq_true rfl⟩ (zlw4 (Nat.le_of_ble_eq_true rfl)) dX1_isPair_26 (fun r26 => ?_)
  refine Z.if_eq F (tgt := 36) dX1_isPair_29 (by decide) ?_ ?_
  · exact Z.sub [] rfl (hj36)
  refine Z.iconst F (v := (1 : Int32)) (by decide) dX1_isPair_32 ?_
  refine Z.goto F (tgt := 37) dX1_isPair_33 (by decide) ?_
  exact Z.sub [] rfl (hj37 (1 : Int32))
theorem clX1_231 (F : ZF p R s m args meth c cc nL "SafeBuckets" nm ret D A al sz mc ms fr lo) {h0 : Nat} {x1 : Int32} {x2 : Int32} {x3 : Int32} {K : Int32 → ZM → Prop} (hR : 2 + 1 ≤ fr ∧ 8 + (4 + 11) + 46 ≤ lo) (hst4 : zlw st) (hdg : decode cc pc = .ok (.invokevirtual 231, 3)) (k : ∀ r, ZW p l e R s m args below meth c Q nL D A al n0 (K r) (pc + 3) L (.int r :: st)) : ZW p l e R s m args below meth c Q nL D A al n0 (zat 1 h0 (f_X1_isPair h0 x1 x2 x3 K)) pc L (.int x3 :: .int x2 :: .int x1 :: zv h0 :: st) :=
  Z.ri0 _ (fun μ H locs cells slots ls hI h hP => Z.V0 F hI (n := 3) (ci := 0) rfl (by decide) hP.1 hP.2 (k_X1_isPair l h0 x1 x2 x3 D A (zX μ, zC μ, zS μ) H.size K μ) q934 q936 qs17 q116 q937 (by decide +kernel) rfl h.1 hst4 hR rfl hdg) k
theorem clX1_235 (F : ZF p R s m args meth c cc nL "SafeBuckets" nm ret D A al sz mc ms fr lo) {h0 : Nat} {x1 : Int32} {x2 : Int32} {K : Int32 → ZM → Prop} (hR : 1 + 1 ≤ fr ∧ 8 + (3 + 11) + 22 ≤ lo) (hst4 : zlw st) (hdg : decode cc pc = .ok (.invokevirtual 235, 3)) (k : ∀ r, ZW p l e R s m args below meth c Q nL D A al n0 (K r) (pc + 3) L (.int r :: st)) : ZW p l e R s m args below meth c Q nL D A al n0 (zat 3 h0 (f_X3_alike h0 x1 x2 K)) pc L (.int x2 :: .int x1 :: zv h0 :: st) :=
  Z.ri0 _ (fun μ H locs cells slots ls hI h hP => Z.V0 F hI (n := 2) (ci := 2) rfl (by decide) hP.1 hP.2 (k_X3_alike l h0 x1 x2 D A (zX μ, zC μ, zS μ) H.size K μ) q951 q897 q898 q118 q899 (by decide +kernel) rfl h.1 hst4 hR rfl hdg) k
set_option maxHeartbeats 4000000 in
theorem k_X1_rows (l : Launch) (h0 : Nat) (x1 : Int32) (x2 : Int32) (x3 : Int32) : ZCi l yX1_rows (ws_ yX1_rows cX1_rows 4 (some .int)) 3 69 0 0 false [zv h0, .int x1, .int x2, .int x3] (f_X1_rows h0 x1 x2 x3) := by
  refine Z.metI (by decide +kernel) (fun h => ⟨rfl, rfl⟩) (L0 := [(0, zv h0), (1, .int x1), (2, .int x2), (3, .int x3)]) (by first | (rw [zla_v, zla_i, zla_i, zla_i, zla_0]; done) | (rw [zla_v, zla_i, zla_i, zla_i, zla_0]; rfl)) (by rw [zsl_v, zsl_i, zsl_i, zsl_i, zsl_0]; exact Nat.le_of_ble_eq_true rfl) ?_
  intro p e R s m args below meth c D A n0 sz k F
  have F : ZF p R s m args meth c cX1_rows 4 "SafeBuckets" "rows" (some .int) D A false sz 0 0 3 69 := F
  unfold f_X1_rows
  refine Z.aload_n F 0 rfl dX1_rows_0 ?_
  refine Z.iload_n F 1 rfl dX1_rows_1 ?_
  refine Z.iload_n F 2 rfl dX1_rows_2 ?_
  refine Z.iload_n F 3 rfl dX1_rows_3 ?_
  refine clX1_231 F ⟨Nat.le_of_ble_eq_true rfl, Nat.le_of_ble_eq_true rfl⟩ (zlw4 (Nat.le_of_ble_eq_true rfl)) dX1_rows_4 (fun r4 => ?_)
  refine Z.jn1 (J := _) (fun p24s0 => []) (fun p24s0 => [.int p24s0]) 24 (fun p24s0 => ?_) (fun j24 hj24 => ?_)
  · exact Z.iret F dX1_rows_24
  refine Z.if_eq F (tgt := 23) dX1_rows_7 (by decide) ?_ ?_
  · refine Z.iconst F (v := (-1 : Int32)) (by decide) dX1_rows_23 ?_
    exact Z.sub [] rfl (hj24 (-1 : Int32))
  refine Z.aload_n F 0 rfl dX1_rows_10 ?_
  refine Z.iload_n F 1 rfl dX1_rows_11 ?_
  refine clX1_218 F ⟨Nat.le_of_ble_eq_true rfl, Nat.le_of_ble_eq_true rfl⟩ (zlw4 (Nat.le_of_ble_eq_true rfl)) dX1_rows_12 (fun r12 => ?_)
  refine Z.iload_n F 2 rfl dX1_rows_15 ?_
  refine Z.iload_n F 3 rfl dX1_rows_16 ?_
  refine clX1_235 F ⟨Nat.le_of_ble_eq_true rfl, Nat.le_of_ble_eq_true rfl⟩ (zlw4 (Nat.le_of_ble_eq_true rfl)) dX1_rows_17 (fun r17 => ?_)
  refine Z.goto F (tgt := 24) dX1_rows_20 (by decide) ?_
  exact Z.sub [] rfl (hj24 r17)
set_option maxHeartbeats 4000000 in
theorem k_X1_isColumn (l : Launch) (h0 : Nat) (x1 : Int32) (x2 : Int32) : ZCi l yX1_isColumn (ws_ yX1_isColumn cX1_isColumn 3 (some .boolean)) 1 25 0 0 false [zv h0, .int x1, .int x2] (f_X1_isColumn h0 x1 x2) := by
  refine Z.metZ (by decide +kernel) (fun h => ⟨rfl, rfl⟩) (L0 := [(0, zv h0), (1, .int x1), (2, .int x2)]) (by first | (rw [zla_v, zla_i, zla_i, zla_0]; done) | (rw [zla_v, zla_i, zla_i, zla_0]; rfl)) (by rw [zsl_v, zsl_i, zsl_i, zsl_0]; exact Nat.le_of_ble_eq_true rfl) ?_
  intro p e R s m args below meth c D A n0 sz k F
  have F : ZF p R s m args meth c cX1_isColumn 3 "SafeBuckets" "isColumn" (some .boolean) D A false sz 0 0 1 25 := F
  unfold f_X1_isColumn
  refine Z.aload_n F 0 rfl dX1_isColumn_0 ?_
  refine Z.iload_n F 1 rfl dX1_isColumn_1 ?_
  refine clX1_194 F ⟨Nat.le_of_ble_eq_true rfl, Nat.le_of_ble_eq_true rfl⟩ (zlw4 (Nat.le_of_ble_eq_true rfl)) dX1_isColumn_2 (fun r2 => ?_)
  refine Z.jn1 (J := _) (fun p23s0 => []) (fun p23s0 => [.int p23s0]) 23 (fun p23s0 => ?_) (fun j23 hj23 => ?_)
  · exact Z.zret F dX1_isColumn_23
  refine Z.jn0 (J := _) ([]) ([]) 22 (?_) (fun j22 hj22 => ?_)
  · refine Z.iconst F (v := (0 : Int32)) (by decide) dX1_isColumn_22 ?_
    exact Z.sub [] rfl (hj23 (0 : Int32))
  refine Z.if_eq F (tgt := 22) dX1_isColumn_5 (by decide) ?_ ?_
  · exact Z.sub [] rfl (hj22)
  refine Z.iload_n F 2 rfl dX1_isColumn_8 ?_
  refine Z.i2l F dX1_isColumn_9 ?_
  refine Z.lconst F (w := (0 : Int64)) (by decide) dX1_isColumn_10 ?_
  refine Z.lconst F (w := (1 : Int64)) (by decide) dX1_isColumn_11 ?_
  refine clX1_97 F ⟨Nat.le_of_ble_eq_true rfl, Nat.le_of_ble_eq_true rfl⟩ (zlw4 (Nat.le_of_ble_eq_true rfl)) dX1_isColumn_12 (fun r12 => ?_)
  refine Z.if_eq F (tgt := 22) dX1_isColumn_15 (by decide) ?_ ?_
  · exact Z.sub [] rfl (hj22)
  refine Z.iconst F (v := (1 : Int32)) (by decide) dX1_isColumn_18 ?_
  refine Z.goto F (tgt := 23) dX1_isColumn_19 (by decide) ?_
  exact Z.sub [] rfl (hj23 (1 : Int32))
theorem clX1_238 (F : ZF p R s m args meth c cc nL "SafeBuckets" nm ret D A al sz mc ms fr lo) {h0 : Nat} {x1 : Int32} {x2 : Int32} {K : Int32 → ZM → Prop} (hR : 1 + 1 ≤ fr ∧ 8 + (3 + 11) + 25 ≤ lo) (hst4 : zlw st) (hdg : decode cc pc = .ok (.invokevirtual 238, 3)) (k : ∀ r, ZW p l e R s m args below meth c Q nL D A al n0 (K r) (pc + 3) L (.int r :: st)) : ZW p l e R s m args below meth c Q nL D A al n0 (zat 1 h0 (f_X1_isColumn h0 x1 x2 K)) pc L (.int x2 :: .int x1 :: zv h0 :: st) :=
  Z.ri0 _ (fun μ H locs cells slots ls hI h hP => Z.V0 F hI (n := 2) (ci := 0) rfl (by decide) hP.1 hP.2 (k_X1_isColumn l h0 x1 x2 D A (zX μ, zC μ, zS μ) H.size K μ) q956 q958 qs20 q116 q959 (by decide +kernel) rfl h.1 hst4 hR rfl hdg) k
set_option maxHeartbeats 4000000 in
theorem k_X1_countOf (l : Launch) (h0 : Nat) (x1 : Int32) (x2 : Int32) (x3 : Int32) : ZCi l yX1_countOf (ws_ yX1_countOf cX1_countOf 4 (some .int)) 3 68 0 0 false [zv h0, .int x1, .int x2, .int x3] (f_X1_countOf h0 x1 x2 x3) := by
  refine Z.metI (by decide +kernel) (fun h => ⟨rfl, rfl⟩) (L0 := [(0, zv h0), (1, .int x1), (2, .int x2), (3, .int x3)]) (by first | (rw [zla_v, zla_i, zla_i, zla_i, zla_0]; done) | (rw [zla_v, zla_i, zla_i, zla_i, zla_0]; rfl)) (by rw [zsl_v, zsl_i, zsl_i, zsl_i, zsl_0]; exact Nat.le_of_ble_eq_true rfl) ?_
  intro p e R s m args below meth c D A n0 sz k F
  have F : ZF p R s m args meth c cX1_countOf 4 "SafeBuckets" "countOf" (some .int) D A false sz 0 0 3 68 := F
  unfold f_X1_countOf
  refine Z.aload_n F 0 rfl dX1_countOf_0 ?_
  refine Z.iload_n F 1 rfl dX1_countOf_1 ?_
  refine Z.iload_n F 2 rfl dX1_countOf_2 ?_
  refine clX1_238 F ⟨Nat.le_of_ble_eq_true rfl, Nat.le_of_ble_eq_true rfl⟩ (zlw4 (Nat.le_of_ble_eq_true rfl)) dX1_countOf_3 (fun r3 => ?_)
  refine Z.jn1 (J := _) (fun p43s0 => []) (fun p43s0 => [.int p43s0]) 43 (fun p43s0 => ?_) (fun j43 hj43 => ?_)
  · exact Z.iret F dX1_countOf_43
  refine Z.jn0 (J := _) ([]) ([]) 42 (?_) (fun j42 hj42 => ?_)
  · refine Z.iconst F (v := (-1 : Int32)) (by decide) dX1_countOf_42 ?_
    exact Z.sub [] rfl (hj43 (-1 : Int32))
  refine Z.if_eq F (tgt := 42) dX1_countOf_6 (by decide) ?_ ?_
  · exact Z.sub [] rfl (hj42)
  refine Z.iload_n F 3 rfl dX1_countOf_9 ?_
  refine Z.i2l F dX1_countOf_10 ?_
  refine Z.lconst F (w := (0 : Int64)) (by decide) dX1_countOf_11 ?_
  refine Z.aload_n F 0 rfl dX1_countOf_12 ?_
  refine Z.iload_n F 1 rfl dX1_countOf_13 ?_
  refine clX1_218 F ⟨Nat.le_of_ble_eq_true rfl, Nat.le_of_ble_eq_true rfl⟩ (zlw4 (Nat.le_of_ble_eq_true rfl)) dX1_countOf_14 (fun r14 => ?_)
  refine gfX1_164 F dX1_countOf_17 (fun g17 => ?_)
  refine Z.iconst F (v := (1 : Int32)) (by decide) dX1_countOf_20 ?_
  refine Z.isub F dX1_countOf_21 ?_
  refine Z.i2l F dX1_countOf_22 ?_
  refine clX1_97 F ⟨Nat.le_of_ble_eq_true rfl, Nat.le_of_ble_eq_true rfl⟩ (zlw4 (Nat.le_of_ble_eq_true rfl)) dX1_countOf_23 (fun r23 => ?_)
  refine Z.if_eq F (tgt := 42) dX1_countOf_26 (by decide) ?_ ?_
  · exact Z.sub [] rfl (hj42)
  refine Z.aload_n F 0 rfl dX1_countOf_29 ?_
  refine Z.iload_n F 1 rfl dX1_countOf_30 ?_
  refine clX1_218 F ⟨Nat.le_of_ble_eq_true rfl, Nat.le_of_ble_eq_true rfl⟩ (zlw4 (Nat.le_of_ble_eq_true rfl)) dX1_countOf_31 (fun r31 => ?_)
  refine Z.iload_n F 2 rfl dX1_countOf_34 ?_
  refine Z.iload_n F 3 rfl dX1_countOf_35 ?_
  refine clX1_167 F ⟨Nat.le_of_ble_eq_true rfl, Nat.le_of_ble_eq_true rfl⟩ (zlw4 (Nat.le_of_ble_eq_true rfl)) dX1_countOf_36 (fun r36 => ?_)
  refine Z.goto F (tgt := 43) dX1_countOf_39 (by decide) ?_
  exact Z.sub [] rfl (hj43 r36)
theorem gfX7_29 (F : ZF p R s m args meth c cc nL "SafeBuckets$Bucket" nm ret D A al sz mc ms fr lo) {z : Nat} {K : Int32 → ZM → Prop} (hdg : decode cc pc = .ok (.getfield 29, 3)) (k : ∀ u, ZW p l e R s m args below meth c Q nL D A al n0 (K u) (pc + 3) L (.int u :: st)) : ZW p l e R s m args below meth c Q nL D A al n0 (zgI 5 z 3 K) pc L (zv z :: st) :=
  Z.getI F (ref := "SafeBuckets$Bucket") in_X7 (ci := 4) rfl (by decide) (kf := 3) (by decide) q225 (fun x h => u_same (F.hts _ q226) x h) rfl hdg k
theorem gfX7_26 (F : ZF p R s m args meth c cc nL "SafeBuckets$Bucket" nm ret D A al sz mc ms fr lo) {z : Nat} {K : Int32 → ZM → Prop} (hdg : decode cc pc = .ok (.getfield 26, 3)) (k : ∀ u, ZW p l e R s m args below meth c Q nL D A al n0 (K u) (pc + 3) L (.int u :: st)) : ZW p l e R s m args below meth c Q nL D A al n0 (zgI 5 z 2 K) pc L (zv z :: st) :=
  Z.getI F (ref := "SafeBuckets$Bucket") in_X7 (ci := 4) rfl (by decide) (kf := 2) (by decide) q219 (fun x h => u_same (F.hts _ q220) x h) rfl hdg k
theorem gfX7_23 (F : ZF p R s m args meth c cc nL "SafeBuckets$Bucket" nm ret D A al sz mc ms fr lo) {z : Nat} {K : Int32 → ZM → Prop} (hdg : decode cc pc = .ok (.getfield 23, 3)) (k : ∀ u, ZW p l e R s m args below meth c Q nL D A al n0 (K u) (pc + 3) L (.int u :: st)) : ZW p l e R s m args below meth c Q nL D A al n0 (zgI 5 z 1 K) pc L (zv z :: st) :=
  Z.getI F (ref := "SafeBuckets$Bucket") in_X7 (ci := 4) rfl (by decide) (kf := 1) (by decide) q239 (fun x h => u_same (F.hts _ q238) x h) rfl hdg k
theorem gfX7_17 (F : ZF p R s m args meth c cc nL "SafeBuckets$Bucket" nm ret D A al sz mc ms fr lo) {z : Nat} {K : Int32 → ZM → Prop} (hdg : decode cc pc = .ok (.getfield 17, 3)) (k : ∀ u, ZW p l e R s m args below meth c Q nL D A al n0 (K u) (pc + 3) L (.int u :: st)) : ZW p l e R s m args below meth c Q nL D A al n0 (zgI 5 z 0 K) pc L (zv z :: st) :=
  Z.getI F (ref := "SafeBuckets$Bucket") in_X7 (ci := 4) rfl (by decide) (kf := 0) (by decide) q231 (fun x h => u_same (F.hts _ q232) x h) rfl hdg k
set_option maxHeartbeats 4000000 in
theorem k_X7_told (l : Launch) (h0 : Nat) (x1 : Int32) : ZCi l yX7_told (ws_ yX7_told cX7_told 2 (some .int)) 0 0 0 0 false [zv h0, .int x1] (f_X7_told h0 x1) := by
  refine Z.metI (by decide +kernel) (fun h => ⟨rfl, rfl⟩) (L0 := [(0, zv h0), (1, .int x1)]) (by first | (rw [zla_v, zla_i, zla_0]; done) | (rw [zla_v, zla_i, zla_0]; rfl)) (by rw [zsl_v, zsl_i, zsl_0]; exact Nat.le_of_ble_eq_true rfl) ?_
  intro p e R s m args below meth c D A n0 sz k F
  have F : ZF p R s m args meth c cX7_told 2 "SafeBuckets$Bucket" "told" (some .int) D A false sz 0 0 0 0 := F
  unfold f_X7_told
  refine Z.iload_n F 1 rfl dX7_told_0 ?_
  refine Z.jn1 (J := _) (fun p39s0 => []) (fun p39s0 => [.int p39s0]) 39 (fun p39s0 => ?_) (fun j39 hj39 => ?_)
  · exact Z.iret F dX7_told_39
  refine Z.if_ne F (tgt := 11) dX7_told_1 (by decide) ?_ ?_
  · refine Z.iload_n F 1 rfl dX7_told_11 ?_
    refine Z.iconst F (v := (1 : Int32)) (by decide) dX7_told_12 ?_
    refine Z.icmp_ne F (tgt := 23) dX7_told_13 (by decide) ?_ ?_
    · refine Z.iload_n F 1 rfl dX7_told_23 ?_
      refine Z.iconst F (v := (2 : Int32)) (by decide) dX7_told_24 ?_
      refine Z.icmp_ne F (tgt := 35) dX7_told_25 (by decide) ?_ ?_
      · refine Z.aload_n F 0 rfl dX7_told_35 ?_
        refine gfX7_29 F dX7_told_36 (fun g36 => ?_)
        exact Z.sub [] rfl (hj39 g36)
      refine Z.aload_n F 0 rfl dX7_told_28 ?_
      refine gfX7_26 F dX7_told_29 (fun g29 => ?_)
      refine Z.goto F (tgt := 39) dX7_told_32 (by decide) ?_
      exact Z.sub [] rfl (hj39 g29)
    refine Z.aload_n F 0 rfl dX7_told_16 ?_
    refine gfX7_23 F dX7_told_17 (fun g17 => ?_)
    refine Z.goto F (tgt := 39) dX7_told_20 (by decide) ?_
    exact Z.sub [] rfl (hj39 g17)
  refine Z.aload_n F 0 rfl dX7_told_4 ?_
  refine gfX7_17 F dX7_told_5 (fun g5 => ?_)
  refine Z.goto F (tgt := 39) dX7_told_8 (by decide) ?_
  exact Z.sub [] rfl (hj39 g5)
theorem gfX1_242 (F : ZF p R s m args meth c cc nL "SafeBuckets" nm ret D A al sz mc ms fr lo) {z : Nat} {K : Nat → ZM → Prop} (hdg : decode cc pc = .ok (.getfield 242, 3)) (k : ∀ u, ZW p l e R s m args below meth c Q nL D A al n0 (K u) (pc + 3) L (zv u :: st)) : ZW p l e R s m args below meth c Q nL D A al n0 (zgR 3 z 1 K) pc L (zv z :: st) :=
  Z.getRN F (ref := "SafeBuckets$Sheet") in_X3 (ci := 2) rfl (by decide) (kf := 1) (by decide) (host := "SafeBuckets") (List.mem_of_getElem? (i := 11) rfl) (fun _ h => h) rfl hdg k
theorem gfX1_246 (F : ZF p R s m args meth c cc nL "SafeBuckets" nm ret D A al sz mc ms fr lo) {z : Nat} {K : Int32 → ZM → Prop} (hdg : decode cc pc = .ok (.getfield 246, 3)) (k : ∀ u, ZW p l e R s m args below meth c Q nL D A al n0 (K u) (pc + 3) L (.int u :: st)) : ZW p l e R s m args below meth c Q nL D A al n0 (zgI 4 z 1 K) pc L (zv z :: st) :=
  Z.getIN F (ref := "SafeBuckets$Column") in_X4 (ci := 3) rfl (by decide) (kf := 1) (by decide) (host := "SafeBuckets") (List.mem_of_getElem? (i := 12) rfl) (fun _ h => h) rfl hdg k
theorem gfX1_249 (F : ZF p R s m args meth c cc nL "SafeBuckets" nm ret D A al sz mc ms fr lo) {z : Nat} {K : Nat → ZM → Prop} (hdg : decode cc pc = .ok (.getfield 249, 3)) (k : ∀ u, ZW p l e R s m args below meth c Q nL D A al n0 (K u) (pc + 3) L (zv u :: st)) : ZW p l e R s m args below meth c Q nL D A al n0 (zgR 4 z 0 K) pc L (zv z :: st) :=
  Z.getRN F (ref := "SafeBuckets$Column") in_X4 (ci := 3) rfl (by decide) (kf := 0) (by decide) (host := "SafeBuckets") (List.mem_of_getElem? (i := 13) rfl) (fun _ h => h) rfl hdg k
theorem clX1_253 (F : ZF p R s m args meth c cc nL "SafeBuckets" nm ret D A al sz mc ms fr lo) {h0 : Nat} {x1 : Int32} {K : Int32 → ZM → Prop} (hR : 0 + 1 ≤ fr ∧ 8 + (2 + 11) + 0 ≤ lo) (hst4 : zlw st) (hdg : decode cc pc = .ok (.invokevirtual 253, 3)) (k : ∀ r, ZW p l e R s m args below meth c Q nL D A al n0 (K r) (pc + 3) L (.int r :: st)) : ZW p l e R s m args below meth c Q nL D A al n0 (zat 5 h0 (f_X7_told h0 x1 K)) pc L (.int x1 :: zv h0 :: st) :=
  Z.ri0 _ (fun μ H locs cells slots ls hI h hP => Z.V0 F hI (n := 1) (ci := 4) rfl (by decide) hP.1 hP.2 (k_X7_told l h0 x1 D A (zX μ, zC μ, zS μ) H.size K μ) q964 q965 q966 q122 q967 (by decide +kernel) rfl h.1 hst4 hR rfl hdg) k
set_option maxHeartbeats 4000000 in
theorem k_X1_bucket (l : Launch) (h0 : Nat) (x1 : Int32) (x2 : Int32) (x3 : Int32) (x4 : Int32) : ZCi l yX1_bucket (ws_ yX1_bucket cX1_bucket 5 (some .int)) 2 47 0 0 false [zv h0, .int x1, .int x2, .int x3, .int x4] (f_X1_bucket h0 x1 x2 x3 x4) := by
  refine Z.metI (by decide +kernel) (fun h => ⟨rfl, rfl⟩) (L0 := [(0, zv h0), (1, .int x1), (2, .int x2), (3, .int x3), (4, .int x4)]) (by first | (rw [zla_v, zla_i, zla_i, zla_i, zla_i, zla_0]; done) | (rw [zla_v, zla_i, zla_i, zla_i, zla_i, zla_0]; rfl)) (by rw [zsl_v, zsl_i, zsl_i, zsl_i, zsl_i, zsl_0]; exact Nat.le_of_ble_eq_true rfl) ?_
  intro p e R s m args below meth c D A n0 sz k F
  have F : ZF p R s m args meth c cX1_bucket 5 "SafeBuckets" "bucket" (some .int) D A false sz 0 0 2 47 := F
  unfold f_X1_bucket
  refine Z.aload_n F 0 rfl dX1_bucket_0 ?_
  refine Z.iload_n F 1 rfl dX1_bucket_1 ?_
  refine Z.iload_n F 2 rfl dX1_bucket_2 ?_
  refine clX1_238 F ⟨Nat.le_of_ble_eq_true rfl, Nat.le_of_ble_eq_true rfl⟩ (zlw4 (Nat.le_of_ble_eq_true rfl)) dX1_bucket_3 (fun r3 => ?_)
  refine Z.jn0 (J := _) ([]) ([]) 47 (?_) (fun j47 hj47 => ?_)
  · refine Z.ldcI F q916 dX1_bucket_47 ?_
    exact Z.iret F dX1_bucket_49
  refine Z.if_eq F (tgt := 47) dX1_bucket_6 (by decide) ?_ ?_
  · exact Z.sub [] rfl (hj47)
  refine Z.iload_n F 3 rfl dX1_bucket_9 ?_
  refine Z.i2l F dX1_bucket_10 ?_
  refine Z.lconst F (w := (0 : Int64)) (by decide) dX1_bucket_11 ?_
  refine Z.aload_n F 0 rfl dX1_bucket_12 ?_
  refine Z.iload_n F 1 rfl dX1_bucket_13 ?_
  refine clX1_218 F ⟨Nat.le_of_ble_eq_true rfl, Nat.le_of_ble_eq_true rfl⟩ (zlw4 (Nat.le_of_ble_eq_true rfl)) dX1_bucket_14 (fun r14 => ?_)
  refine gfX1_242 F dX1_bucket_17 (fun g17 => ?_)
  refine Z.iload_n F 2 rfl dX1_bucket_20 ?_
  refine Z.aald F (t := 7) (by decide) rfl rfl dX1_bucket_21 (fun g21 => ?_)
  refine gfX1_246 F dX1_bucket_22 (fun g22 => ?_)
  refine Z.iconst F (v := (1 : Int32)) (by decide) dX1_bucket_25 ?_
  refine Z.isub F dX1_bucket_26 ?_
  refine Z.i2l F dX1_bucket_27 ?_
  refine clX1_97 F ⟨Nat.le_of_ble_eq_true rfl, Nat.le_of_ble_eq_true rfl⟩ (zlw4 (Nat.le_of_ble_eq_true rfl)) dX1_bucket_28 (fun r28 => ?_)
  refine Z.if_eq F (tgt := 47) dX1_bucket_31 (by decide) ?_ ?_
  · exact Z.sub [] rfl (hj47)
  refine Z.iload F 4 rfl dX1_bucket_34 ?_
  refine Z.i2l F dX1_bucket_36 ?_
  refine Z.lconst F (w := (0 : Int64)) (by decide) dX1_bucket_37 ?_
  refine Z.ldc2 F q915 dX1_bucket_38 ?_
  refine clX1_97 F ⟨Nat.le_of_ble_eq_true rfl, Nat.le_of_ble_eq_true rfl⟩ (zlw4 (Nat.le_of_ble_eq_true rfl)) dX1_bucket_41 (fun r41 => ?_)
  refine Z.if_ne F (tgt := 50) dX1_bucket_44 (by decide) ?_ ?_
  · refine Z.aload_n F 0 rfl dX1_bucket_50 ?_
    refine Z.iload_n F 1 rfl dX1_bucket_51 ?_
    refine clX1_218 F ⟨Nat.le_of_ble_eq_true rfl, Nat.le_of_ble_eq_true rfl⟩ (zlw4 (Nat.le_of_ble_eq_true rfl)) dX1_bucket_52 (fun r52 => ?_)
    refine gfX1_242 F dX1_bucket_55 (fun g55 => ?_)
    refine Z.iload_n F 2 rfl dX1_bucket_58 ?_
    refine Z.aald F (t := 7) (by decide) rfl rfl dX1_bucket_59 (fun g59 => ?_)
    refine gfX1_249 F dX1_bucket_60 (fun g60 => ?_)
    refine Z.iload_n F 3 rfl dX1_bucket_63 ?_
    refine Z.aald F (t := 8) (by decide) rfl rfl dX1_bucket_64 (fun g64 => ?_)
    refine Z.iload F 4 rfl dX1_bucket_65 ?_
    refine clX1_253 F ⟨Nat.le_of_ble_eq_true rfl, Nat.le_of_ble_eq_true rfl⟩ (zlw4 (Nat.le_of_ble_eq_true rfl)) dX1_bucket_67 (fun r67 => ?_)
    exact Z.iret F dX1_bucket_70
  exact Z.sub [] rfl (hj47)
theorem gfX1_256 (F : ZF p R s m args meth c cc nL "SafeBuckets" nm ret D A al sz mc ms fr lo) {z : Nat} {K : Int32 → ZM → Prop} (hdg : decode cc pc = .ok (.getfield 256, 3)) (k : ∀ u, ZW p l e R s m args below meth c Q nL D A al n0 (K u) (pc + 3) L (.int u :: st)) : ZW p l e R s m args below meth c Q nL D A al n0 (zgI 5 z 0 K) pc L (zv z :: st) :=
  Z.getI F (ref := "SafeBuckets$Bucket") in_X7 (ci := 4) rfl (by decide) (kf := 0) (by decide) q235 (fun x h => u_same (F.hts _ q232) x h) rfl hdg k
theorem gfX1_259 (F : ZF p R s m args meth c cc nL "SafeBuckets" nm ret D A al sz mc ms fr lo) {z : Nat} {K : Int32 → ZM → Prop} (hdg : decode cc pc = .ok (.getfield 259, 3)) (k : ∀ u, ZW p l e R s m args below meth c Q nL D A al n0 (K u) (pc + 3) L (.int u :: st)) : ZW p l e R s m args below meth c Q nL D A al n0 (zgI 5 z 1 K) pc L (zv z :: st) :=
  Z.getI F (ref := "SafeBuckets$Bucket") in_X7 (ci := 4) rfl (by decide) (kf := 1) (by decide) q242 (fun x h => u_same (F.hts _ q238) x h) rfl hdg k
set_option maxHeartbeats 4000000 in
theorem k_X1_worst (l : Launch) (h0 : Nat) (h1 : Nat) (x2 : Int32) : ZCi l yX1_worst (ws_ yX1_worst cX1_worst 6 (some .int)) 4 91 0 0 false [zv h0, zv h1, .int x2] (f_X1_worst h0 h1 x2) := by
  refine Z.metI (by decide +kernel) (fun h => ⟨rfl, rfl⟩) (L0 := [(0, zv h0), (1, zv h1), (2, .int x2)]) (by first | (rw [zla_v, zla_v, zla_i, zla_0]; done) | (rw [zla_v, zla_v, zla_i, zla_0]; rfl)) (by rw [zsl_v, zsl_v, zsl_i, zsl_0]; exact Nat.le_of_ble_eq_true rfl) ?_
  intro p e R s m args below meth c D A n0 sz k F
  have F : ZF p R s m args meth c cX1_worst 6 "SafeBuckets" "worst" (some .int) D A false sz 0 0 4 91 := F
  unfold f_X1_worst
  refine Z.aload_n F 0 rfl dX1_worst_0 ?_
  refine Z.aload_n F 1 rfl dX1_worst_1 ?_
  refine Z.iload_n F 2 rfl dX1_worst_2 ?_
  refine clX1_173 F ⟨Nat.le_of_ble_eq_true rfl, Nat.le_of_ble_eq_true rfl⟩ (zlw4 (Nat.le_of_ble_eq_true rfl)) dX1_worst_3 ?_
  refine Z.aload_n F 1 rfl dX1_worst_6 ?_
  refine gfX1_242 F dX1_worst_7 (fun g7 => ?_)
  refine Z.iload_n F 2 rfl dX1_worst_10 ?_
  refine Z.aald F (t := 7) (by decide) rfl rfl dX1_worst_11 (fun g11 => ?_)
  refine Z.astore_n F (L0 := [(0, zv h0), (1, zv h1), (2, .int x2)]) [0, 1, 2] rfl (zkR rfl (zkR rfl (zkI rfl zkN))) (by decide) dX1_worst_12 ?_
  refine Z.iconst F (v := (0 : Int32)) (by decide) dX1_worst_13 ?_
  refine Z.istore F (L0 := [(3, zv g11), (0, zv h0), (1, zv h1), (2, .int x2)]) [0, 1, 2, 3] rfl (zkR rfl (zkR rfl (zkR rfl (zkI rfl zkN)))) (by decide) dX1_worst_14 ?_
  refine Z.iconst F (v := (1 : Int32)) (by decide) dX1_worst_16 ?_
  refine Z.istore F (L0 := [(4, .int (0 : Int32)), (3, zv g11), (0, zv h0), (1, zv h1), (2, .int x2)]) [0, 1, 2, 3, 4] rfl (zkI rfl (zkR rfl (zkR rfl (zkR rfl (zkI rfl zkN))))) (by decide) dX1_worst_17 ?_
  refine Z.sub [3, 2, 1, 0] rfl ?_
  refine Z.w2 (Lf := fun p19l4 p19l5 => [(0, zv h0), (3, zv g11), (4, .int p19l4), (5, .int p19l5)]) (sf := fun p19l4 p19l5 => []) (fun r19 hr19 p19l4 p19l5 => ?_) (0 : Int32) (1 : Int32)
  refine Z.iload F 3 rfl dX1_worst_19 ?_
  refine Z.aload_n F 1 rfl dX1_worst_21 ?_
  refine gfX1_246 F dX1_worst_22 (fun g22 => ?_)
  refine Z.icmp_ge F (tgt := 94) dX1_worst_25 (by decide) ?_ ?_
  · refine Z.iload F 2 rfl dX1_worst_94 ?_
    exact Z.iret F dX1_worst_96
  refine Z.aload_n F 0 rfl dX1_worst_28 ?_
  refine Z.aload_n F 1 rfl dX1_worst_29 ?_
  refine gfX1_249 F dX1_worst_30 (fun g30 => ?_)
  refine Z.iload F 3 rfl dX1_worst_33 ?_
  refine Z.aald F (t := 8) (by decide) rfl rfl dX1_worst_35 (fun g35 => ?_)
  refine gfX1_256 F dX1_worst_36 (fun g36 => ?_)
  refine Z.aload_n F 1 rfl dX1_worst_39 ?_
  refine gfX1_249 F dX1_worst_40 (fun g40 => ?_)
  refine Z.iload F 3 rfl dX1_worst_43 ?_
  refine Z.aald F (t := 8) (by decide) rfl rfl dX1_worst_45 (fun g45 => ?_)
  refine gfX1_259 F dX1_worst_46 (fun g46 => ?_)
  refine Z.iconst F (v := (1 : Int32)) (by decide) dX1_worst_49 ?_
  refine Z.iadd F dX1_worst_50 ?_
  refine clX1_182 F ⟨Nat.le_of_ble_eq_true rfl, Nat.le_of_ble_eq_true rfl⟩ (zlw4 (Nat.le_of_ble_eq_true rfl)) dX1_worst_51 (fun r51 => ?_)
  refine Z.aload_n F 0 rfl dX1_worst_54 ?_
  refine Z.aload_n F 1 rfl dX1_worst_55 ?_
  refine gfX1_249 F dX1_worst_56 (fun g56 => ?_)
  refine Z.iload F 2 rfl dX1_worst_59 ?_
  refine Z.aald F (t := 8) (by decide) rfl rfl dX1_worst_61 (fun g61 => ?_)
  refine gfX1_256 F dX1_worst_62 (fun g62 => ?_)
  refine Z.aload_n F 1 rfl dX1_worst_65 ?_
  refine gfX1_249 F dX1_worst_66 (fun g66 => ?_)
  refine Z.iload F 2 rfl dX1_worst_69 ?_
  refine Z.aald F (t := 8) (by decide) rfl rfl dX1_worst_71 (fun g71 => ?_)
  refine gfX1_259 F dX1_worst_72 (fun g72 => ?_)
  refine Z.iconst F (v := (1 : Int32)) (by decide) dX1_worst_75 ?_
  refine Z.iadd F dX1_worst_76 ?_
  refine clX1_182 F ⟨Nat.le_of_ble_eq_true rfl, Nat.le_of_ble_eq_true rfl⟩ (zlw4 (Nat.le_of_ble_eq_true rfl)) dX1_worst_77 (fun r77 => ?_)
  refine Z.lcmp F dX1_worst_80 ?_
  refine Z.jn1 (J := _) (fun p88l4 => [(0, zv h0), (3, zv g11), (4, .int p88l4), (5, .int p19l5)]) (fun p88l4 => []) 88 (fun p88l4 => ?_) (fun j88 hj88 => ?_)
  · refine Z.iinc F (L0 := [(0, zv h0), (3, zv g11), (4, .int p88l4)]) (k0 := 3) (v := (1 : Int32)) rfl (by decide) [0, 1, 2] rfl (zkR rfl (zkR rfl (zkI rfl zkN))) (by decide) dX1_worst_88 ?_
    refine Z.goto F (tgt := 19) dX1_worst_91 (by decide) ?_
    exact Z.sub [1, 2, 3, 0] rfl (hr19 p88l4 (p19l5 + (1 : Int32)))
  refine Z.if_le F (tgt := 88) dX1_worst_81 (by decide) ?_ ?_
  · exact Z.sub [0, 1, 2, 3] rfl (hj88 p19l4)
  refine Z.iload F 3 rfl dX1_worst_84 ?_
  refine Z.istore F (L0 := [(0, zv h0), (3, zv g11), (5, .int p19l5)]) [0, 1, 3] rfl (zkR rfl (zkR rfl (zkI rfl zkN))) (by decide) dX1_worst_86 ?_
  exact Z.sub [1, 2, 0, 3] rfl (hj88 p19l5)
theorem gfX1_262 (F : ZF p R s m args meth c cc nL "SafeBuckets" nm ret D A al sz mc ms fr lo) {z : Nat} {K : Int32 → ZM → Prop} (hdg : decode cc pc = .ok (.getfield 262, 3)) (k : ∀ u, ZW p l e R s m args below meth c Q nL D A al n0 (K u) (pc + 3) L (.int u :: st)) : ZW p l e R s m args below meth c Q nL D A al n0 (zgI 4 z 2 K) pc L (zv z :: st) :=
  Z.getIN F (ref := "SafeBuckets$Column") in_X4 (ci := 3) rfl (by decide) (kf := 2) (by decide) (host := "SafeBuckets") (List.mem_of_getElem? (i := 14) rfl) (fun _ h => h) rfl hdg k
theorem clX1_265 (F : ZF p R s m args meth c cc nL "SafeBuckets" nm ret D A al sz mc ms fr lo) {h0 : Nat} {h1 : Nat} {x2 : Int32} {K : Int32 → ZM → Prop} (hR : 4 + 1 ≤ fr ∧ 8 + (6 + 11) + 91 ≤ lo) (hst4 : zlw st) (hdg : decode cc pc = .ok (.invokevirtual 265, 3)) (k : ∀ r, ZW p l e R s m args below meth c Q nL D A al n0 (K r) (pc + 3) L (.int r :: st)) : ZW p l e R s m args below meth c Q nL D A al n0 (zat 1 h0 (f_X1_worst h0 h1 x2 K)) pc L (.int x2 :: zv h1 :: zv h0 :: st) :=
  Z.ri0 _ (fun μ H locs cells slots ls hI h hP => Z.V0 F hI (n := 2) (ci := 0) rfl (by decide) hP.1 hP.2 (k_X1_worst l h0 h1 x2 D A (zX μ, zC μ, zS μ) H.size K μ) q972 q974 qs21 q116 q975 (by decide +kernel) rfl h.1 hst4 hR rfl hdg) k
set_option maxHeartbeats 4000000 in
theorem k_X1_column (l : Launch) (h0 : Nat) (x1 : Int32) (x2 : Int32) (x3 : Int32) : ZCi l yX1_column (ws_ yX1_column cX1_column 5 (some .int)) 5 116 0 0 false [zv h0, .int x1, .int x2, .int x3] (f_X1_column h0 x1 x2 x3) := by
  refine Z.metI (by decide +kernel) (fun h => ⟨rfl, rfl⟩) (L0 := [(0, zv h0), (1, .int x1), (2, .int x2), (3, .int x3)]) (by first | (rw [zla_v, zla_i, zla_i, zla_i, zla_0]; done) | (rw [zla_v, zla_i, zla_i, zla_i, zla_0]; rfl)) (by rw [zsl_v, zsl_i, zsl_i, zsl_i, zsl_0]; exact Nat.le_of_ble_eq_true rfl) ?_
  intro p e R s m args below meth c D A n0 sz k F
  have F : ZF p R s m args meth c cX1_column 5 "SafeBuckets" "column" (some .int) D A false sz 0 0 5 116 := F
  unfold f_X1_column
  refine Z.aload_n F 0 rfl dX1_column_0 ?_
  refine Z.iload_n F 1 rfl dX1_column_1 ?_
  refine Z.iload_n F 2 rfl dX1_column_2 ?_
  refine clX1_238 F ⟨Nat.le_of_ble_eq_true rfl, Nat.le_of_ble_eq_true rfl⟩ (zlw4 (Nat.le_of_ble_eq_true rfl)) dX1_column_3 (fun r3 => ?_)
  refine Z.if_ne F (tgt := 11) dX1_column_6 (by decide) ?_ ?_
  · refine Z.aload_n F 0 rfl dX1_column_11 ?_
    refine Z.iload_n F 1 rfl dX1_column_12 ?_
    refine clX1_218 F ⟨Nat.le_of_ble_eq_true rfl, Nat.le_of_ble_eq_true rfl⟩ (zlw4 (Nat.le_of_ble_eq_true rfl)) dX1_column_13 (fun r13 => ?_)
    refine gfX1_242 F dX1_column_16 (fun g16 => ?_)
    refine Z.iload_n F 2 rfl dX1_column_19 ?_
    refine Z.aald F (t := 7) (by decide) rfl rfl dX1_column_20 (fun g20 => ?_)
    refine Z.astore F (L0 := [(0, zv h0), (1, .int x1), (2, .int x2), (3, .int x3)]) [0, 1, 2, 3] rfl (zkR rfl (zkI rfl (zkI rfl (zkI rfl zkN)))) (by decide) dX1_column_21 ?_
    refine Z.iload_n F 4 rfl dX1_column_23 ?_
    refine Z.table F (tgts := [56, 62, 68, 79]) (tgt := 98) dX1_column_24 rfl (by decide) (by decide) (by decide) ?_ ?_
    · refine Z.iconst F (v := (-1 : Int32)) (by decide) dX1_column_98 ?_
      exact Z.iret F dX1_column_99
    intro i9 P9 t9 e9 e8
    match i9, e9, e8 with
    | 0, e9, e8 =>
      cases e9; cases e8
      refine Z.aload F 0 rfl dX1_column_56 ?_
      refine gfX1_246 F dX1_column_58 (fun g58 => ?_)
      exact Z.iret F dX1_column_61
    | 1, e9, e8 =>
      cases e9; cases e8
      refine Z.aload F 0 rfl dX1_column_62 ?_
      refine gfX1_262 F dX1_column_64 (fun g64 => ?_)
      exact Z.iret F dX1_column_67
    | 2, e9, e8 =>
      cases e9; cases e8
      refine Z.aload_n F 1 rfl dX1_column_68 ?_
      refine Z.aload_n F 1 rfl dX1_column_69 ?_
      refine Z.iload_n F 2 rfl dX1_column_70 ?_
      refine clX1_218 F ⟨Nat.le_of_ble_eq_true rfl, Nat.le_of_ble_eq_true rfl⟩ (zlw4 (Nat.le_of_ble_eq_true rfl)) dX1_column_71 (fun r71 => ?_)
      refine Z.iload_n F 3 rfl dX1_column_74 ?_
      refine clX1_265 F ⟨Nat.le_of_ble_eq_true rfl, Nat.le_of_ble_eq_true rfl⟩ (zlw4 (Nat.le_of_ble_eq_true rfl)) dX1_column_75 (fun r75 => ?_)
      exact Z.iret F dX1_column_78
    | 3, e9, e8 =>
      cases e9; cases e8
      refine Z.aload_n F 1 rfl dX1_column_79 ?_
      refine gfX1_93 F dX1_column_80 (fun g80 => ?_)
      refine gfX1_207 F dX1_column_83 (fun g83 => ?_)
      refine gfX1_211 F dX1_column_86 (fun g86 => ?_)
      refine Z.iconst F (v := (1 : Int32)) (by decide) dX1_column_89 ?_
      refine Z.iald F dX1_column_90 (fun g90 => ?_)
      refine Z.aload F 0 rfl dX1_column_91 ?_
      refine gfX1_262 F dX1_column_93 (fun g93 => ?_)
      refine Z.isub F dX1_column_96 ?_
      exact Z.iret F dX1_column_97
    | n + 4, e9, e8 => simp at e9
  refine Z.iconst F (v := (-1 : Int32)) (by decide) dX1_column_9 ?_
  exact Z.iret F dX1_column_10
end ZWalk
