section ZWalk
variable {p : Program} {l : Launch} {e : Env} {R : Room} {s : State} {m : MethodId} {args : Array Value} {below : List Frame} {meth : Method} {c : Code} {Q : State → Prop} {nL : Nat} {D : ZD} {A : Nat → Prop} {al : Bool} {n0 : Nat × Nat × Nat} {cc : ByteArray} {nm : String} {ret : Option FieldType} {sz mc ms fr lo : Nat}
variable {P : ZM → Prop} {pc : Nat} {L : List (Nat × Value)} {st : List Value}
theorem clX10_98_X10_items_11_8 (F : ZF p R s m args meth c cc nL "SafeBuckets$Reader" nm ret D A true sz mc ms fr lo) {h0 : Nat} {h1 : Nat} {K : ZM → Prop} {Kx : Nat → ZM → Prop} (hR : 20 + 1 ≤ fr ∧ 8 + (5 + 11) + 400 ≤ lo) (hst4 : zlw st) (hdg : decode cc pc = .ok (.invokevirtual 98, 3)) (kx : ZX p l e R s m args below meth c Q nL D A true n0 "SafeBuckets$Wrong" Kx pc L) (k : ZW p l e R s m args below meth c Q nL D A true n0 K (pc + 3) L st) : ZW p l e R s m args below meth c Q nL D A true n0 (zat 8 h0 (zclvx' 60 420 (fun k kx => f_X10_items_11 h0 h1 kx k) Kx K)) pc L (zv h1 :: zv h0 :: st) :=
  Z.xv1 (fun μ H locs cells slots ls hI h hP => ⟨hP.2.1, hP.2.2.1, Z.Vx1 F hI (n := 1) (ci := 7) rfl (by decide) hP.1 hP.2.1 hP.2.2.1 hP.2.2.2 (k_X10_items_11 l h0 h1 D A (0, 0, 0) 0 (fun μ' => K (zcs μ' (zC μ - 60) (zS μ - 420))) (fun r μ' => Kx r (zcs μ' (zC μ - 60) (zS μ - 420))) (zcs μ 60 420)) q614 q616 qs5 q127 q617 (by decide +kernel) rfl h.1 hst4 hR rfl hdg⟩) kx k
theorem clX10_98_X10_items_12_8 (F : ZF p R s m args meth c cc nL "SafeBuckets$Reader" nm ret D A true sz mc ms fr lo) {h0 : Nat} {h1 : Nat} {K : ZM → Prop} {Kx : Nat → ZM → Prop} (hR : 20 + 1 ≤ fr ∧ 8 + (5 + 11) + 400 ≤ lo) (hst4 : zlw st) (hdg : decode cc pc = .ok (.invokevirtual 98, 3)) (kx : ZX p l e R s m args below meth c Q nL D A true n0 "SafeBuckets$Wrong" Kx pc L) (k : ZW p l e R s m args below meth c Q nL D A true n0 K (pc + 3) L st) : ZW p l e R s m args below meth c Q nL D A true n0 (zat 8 h0 (zclvx' 60 420 (fun k kx => f_X10_items_12 h0 h1 kx k) Kx K)) pc L (zv h1 :: zv h0 :: st) :=
  Z.xv1 (fun μ H locs cells slots ls hI h hP => ⟨hP.2.1, hP.2.2.1, Z.Vx1 F hI (n := 1) (ci := 7) rfl (by decide) hP.1 hP.2.1 hP.2.2.1 hP.2.2.2 (k_X10_items_12 l h0 h1 D A (0, 0, 0) 0 (fun μ' => K (zcs μ' (zC μ - 60) (zS μ - 420))) (fun r μ' => Kx r (zcs μ' (zC μ - 60) (zS μ - 420))) (zcs μ 60 420)) q614 q616 qs5 q127 q617 (by decide +kernel) rfl h.1 hst4 hR rfl hdg⟩) kx k
theorem clX10_98_X10_items_13_8 (F : ZF p R s m args meth c cc nL "SafeBuckets$Reader" nm ret D A true sz mc ms fr lo) {h0 : Nat} {h1 : Nat} {K : ZM → Prop} {Kx : Nat → ZM → Prop} (hR : 20 + 1 ≤ fr ∧ 8 + (5 + 11) + 400 ≤ lo) (hst4 : zlw st) (hdg : decode cc pc = .ok (.invokevirtual 98, 3)) (kx : ZX p l e R s m args below meth c Q nL D A true n0 "SafeBuckets$Wrong" Kx pc L) (k : ZW p l e R s m args below meth c Q nL D A true n0 K (pc + 3) L st) : ZW p l e R s m args below meth c Q nL D A true n0 (zat 8 h0 (zclvx' 60 420 (fun k kx => f_X10_items_13 h0 h1 kx k) Kx K)) pc L (zv h1 :: zv h0 :: st) :=
  Z.xv1 (fun μ H locs cells slots ls hI h hP => ⟨hP.2.1, hP.2.2.1, Z.Vx1 F hI (n := 1) (ci := 7) rfl (by decide) hP.1 hP.2.1 hP.2.2.1 hP.2.2.2 (k_X10_items_13 l h0 h1 D A (0, 0, 0) 0 (fun μ' => K (zcs μ' (zC μ - 60) (zS μ - 420))) (fun r μ' => Kx r (zcs μ' (zC μ - 60) (zS μ - 420))) (zcs μ 60 420)) q614 q616 qs5 q127 q617 (by decide +kernel) rfl h.1 hst4 hR rfl hdg⟩) kx k
theorem gfX10_91 (F : ZF p R s m args meth c cc nL "SafeBuckets$Reader" nm ret D A al sz mc ms fr lo) {z : Nat} {K : Nat → ZM → Prop} (hdg : decode cc pc = .ok (.getfield 91, 3)) (k : ∀ u, ZW p l e R s m args below meth c Q nL D A al n0 (K u) (pc + 3) L (zv u :: st)) : ZW p l e R s m args below meth c Q nL D A al n0 (zgR 9 z 1 K) pc L (zv z :: st) :=
  Z.getRN F (ref := "SafeBuckets$Book") in_X11 (ci := 8) rfl (by decide) (kf := 1) (by decide) (host := "SafeBuckets") (List.mem_of_getElem? (i := 26) rfl) (fun _ h => h) rfl hdg k
theorem gfX10_78 (F : ZF p R s m args meth c cc nL "SafeBuckets$Reader" nm ret D A al sz mc ms fr lo) {z : Nat} {K : Int32 → ZM → Prop} (hdg : decode cc pc = .ok (.getfield 78, 3)) (k : ∀ u, ZW p l e R s m args below meth c Q nL D A al n0 (K u) (pc + 3) L (.int u :: st)) : ZW p l e R s m args below meth c Q nL D A al n0 (zgI 9 z 4 K) pc L (zv z :: st) :=
  Z.getIN F (ref := "SafeBuckets$Book") in_X11 (ci := 8) rfl (by decide) (kf := 4) (by decide) (host := "SafeBuckets") (List.mem_of_getElem? (i := 24) rfl) (fun _ h => h) rfl hdg k
theorem clX10_97 (F : ZF p R s m args meth c cc nL "SafeBuckets$Reader" nm ret D A true sz mc ms fr lo) {h0 : Nat} {K : ZM → Prop} (hR : 3 + 1 ≤ fr ∧ 8 + (1 + 11) + 62 ≤ lo) (hst4 : zlw st) (hdg : decode cc pc = .ok (.invokespecial 97, 3)) (k : ZW p l e R s m args below meth c Q nL D A true n0 K (pc + 3) L st) : ZW p l e R s m args below meth c Q nL D A true n0 (zat 13 h0 (zclv 1 4 (f_X17_init h0) K)) pc L (zv h0 :: st) :=
  Z.rv1 _ (fun μ H locs cells slots ls hI h hP => ⟨hP.2.1, hP.2.2.1, Z.I1 F hI (n := 0) (ci := 12) rfl (by decide) hP.1 hP.2.1 hP.2.2.1 hP.2.2.2 (k_X17_init l h0 D A (0, 0, 0) 0 (fun μ' => K (zcs μ' (zC μ - 1) (zS μ - 4))) (zcs μ 1 4)) rfl q608 q609 q134 q610 (by decide +kernel) rfl h.1 hst4 hR rfl hdg⟩) k
theorem pfX10_78 (F : ZF p R s m args meth c cc nL "SafeBuckets$Reader" nm ret D A al sz mc ms fr lo) {z : Nat} {u : Int32} (hdg : decode cc pc = .ok (.putfield 78, 3)) (k : ZW p l e R s m args below meth c Q nL D A al n0 P (pc + 3) L st) : ZW p l e R s m args below meth c Q nL D A al n0 (zpI 9 z 4 u P) pc L (.int u :: zv z :: st) :=
  Z.putIN F (ref := "SafeBuckets$Book") in_X11 (ci := 8) rfl (by decide) (kf := 4) (by decide) (host := "SafeBuckets") (List.mem_of_getElem? (i := 24) rfl) (fun _ h => h) tyX11 tyX11_ok nmX11 rfl rfl rfl hdg k
theorem gfX10_84 (F : ZF p R s m args meth c cc nL "SafeBuckets$Reader" nm ret D A al sz mc ms fr lo) {z : Nat} {K : Nat → ZM → Prop} (hdg : decode cc pc = .ok (.getfield 84, 3)) (k : ∀ u, ZW p l e R s m args below meth c Q nL D A al n0 (K u) (pc + 3) L (zv u :: st)) : ZW p l e R s m args below meth c Q nL D A al n0 (zgR 9 z 0 K) pc L (zv z :: st) :=
  Z.getRN F (ref := "SafeBuckets$Book") in_X11 (ci := 8) rfl (by decide) (kf := 0) (by decide) (host := "SafeBuckets") (List.mem_of_getElem? (i := 25) rfl) (fun _ h => h) rfl hdg k
theorem gfX10_75 (F : ZF p R s m args meth c cc nL "SafeBuckets$Reader" nm ret D A al sz mc ms fr lo) {z : Nat} {K : Int32 → ZM → Prop} (hdg : decode cc pc = .ok (.getfield 75, 3)) (k : ∀ u, ZW p l e R s m args below meth c Q nL D A al n0 (K u) (pc + 3) L (.int u :: st)) : ZW p l e R s m args below meth c Q nL D A al n0 (zgI 9 z 3 K) pc L (zv z :: st) :=
  Z.getIN F (ref := "SafeBuckets$Book") in_X11 (ci := 8) rfl (by decide) (kf := 3) (by decide) (host := "SafeBuckets") (List.mem_of_getElem? (i := 23) rfl) (fun _ h => h) rfl hdg k
theorem clX10_90 (F : ZF p R s m args meth c cc nL "SafeBuckets$Reader" nm ret D A true sz mc ms fr lo) {h0 : Nat} {K : ZM → Prop} (hR : 3 + 1 ≤ fr ∧ 8 + (1 + 11) + 62 ≤ lo) (hst4 : zlw st) (hdg : decode cc pc = .ok (.invokespecial 90, 3)) (k : ZW p l e R s m args below meth c Q nL D A true n0 K (pc + 3) L st) : ZW p l e R s m args below meth c Q nL D A true n0 (zat 12 h0 (zclv 1 1 (f_X16_init h0) K)) pc L (zv h0 :: st) :=
  Z.rv1 _ (fun μ H locs cells slots ls hI h hP => ⟨hP.2.1, hP.2.2.1, Z.I1 F hI (n := 0) (ci := 11) rfl (by decide) hP.1 hP.2.1 hP.2.2.1 hP.2.2.2 (k_X16_init l h0 D A (0, 0, 0) 0 (fun μ' => K (zcs μ' (zC μ - 1) (zS μ - 1))) (zcs μ 1 1)) rfl q600 q601 q133 q602 (by decide +kernel) rfl h.1 hst4 hR rfl hdg⟩) k
theorem pfX10_75 (F : ZF p R s m args meth c cc nL "SafeBuckets$Reader" nm ret D A al sz mc ms fr lo) {z : Nat} {u : Int32} (hdg : decode cc pc = .ok (.putfield 75, 3)) (k : ZW p l e R s m args below meth c Q nL D A al n0 P (pc + 3) L st) : ZW p l e R s m args below meth c Q nL D A al n0 (zpI 9 z 3 u P) pc L (.int u :: zv z :: st) :=
  Z.putIN F (ref := "SafeBuckets$Book") in_X11 (ci := 8) rfl (by decide) (kf := 3) (by decide) (host := "SafeBuckets") (List.mem_of_getElem? (i := 23) rfl) (fun _ h => h) tyX11 tyX11_ok nmX11 rfl rfl rfl hdg k
theorem clX10_83 (F : ZF p R s m args meth c cc nL "SafeBuckets$Reader" nm ret D A true sz mc ms fr lo) {h0 : Nat} {K : ZM → Prop} (hR : 3 + 1 ≤ fr ∧ 8 + (1 + 11) + 62 ≤ lo) (hst4 : zlw st) (hdg : decode cc pc = .ok (.invokespecial 83, 3)) (k : ZW p l e R s m args below meth c Q nL D A true n0 K (pc + 3) L st) : ZW p l e R s m args below meth c Q nL D A true n0 (zat 11 h0 (zclv 1 3 (f_X15_init h0) K)) pc L (zv h0 :: st) :=
  Z.rv1 _ (fun μ H locs cells slots ls hI h hP => ⟨hP.2.1, hP.2.2.1, Z.I1 F hI (n := 0) (ci := 10) rfl (by decide) hP.1 hP.2.1 hP.2.2.1 hP.2.2.2 (k_X15_init l h0 D A (0, 0, 0) 0 (fun μ' => K (zcs μ' (zC μ - 1) (zS μ - 3))) (zcs μ 1 3)) rfl q573 q574 q132 q575 (by decide +kernel) rfl h.1 hst4 hR rfl hdg⟩) k
theorem pfX10_69 (F : ZF p R s m args meth c cc nL "SafeBuckets$Reader" nm ret D A al sz mc ms fr lo) {z : Nat} {u : Nat} (hdg : decode cc pc = .ok (.putfield 69, 3)) (k : ZW p l e R s m args below meth c Q nL D A al n0 P (pc + 3) L st) : ZW p l e R s m args below meth c Q nL D A al n0 (zpR 9 z 2 u P) pc L (zv u :: zv z :: st) :=
  Z.putRN F (ref := "SafeBuckets$Book") in_X11 (ci := 8) rfl (by decide) (kf := 2) (by decide) (host := "SafeBuckets") (List.mem_of_getElem? (i := 22) rfl) (fun _ h => h) tyX11 tyX11_ok nmX11 rfl (ty := .object _) (fun u => zv_nar u) (fun u => zv_fit u) rfl rfl hdg k
theorem gfX10_69 (F : ZF p R s m args meth c cc nL "SafeBuckets$Reader" nm ret D A al sz mc ms fr lo) {z : Nat} {K : Nat → ZM → Prop} (hdg : decode cc pc = .ok (.getfield 69, 3)) (k : ∀ u, ZW p l e R s m args below meth c Q nL D A al n0 (K u) (pc + 3) L (zv u :: st)) : ZW p l e R s m args below meth c Q nL D A al n0 (zgR 9 z 2 K) pc L (zv z :: st) :=
  Z.getRN F (ref := "SafeBuckets$Book") in_X11 (ci := 8) rfl (by decide) (kf := 2) (by decide) (host := "SafeBuckets") (List.mem_of_getElem? (i := 22) rfl) (fun _ h => h) rfl hdg k
set_option maxHeartbeats 4000000 in
theorem k_X10_clause (l : Launch) (h0 : Nat) (h1 : Nat) : ZCvx l yX10_clause (ws_ yX10_clause cX10_clause 4 none) 21 424 64 440 true "SafeBuckets$Wrong" [zv h0, zv h1] (fun k kx => f_X10_clause h0 h1 kx k) := by
  refine Z.metVx (by decide +kernel) (fun h => by cases h) (L0 := [(0, zv h0), (1, zv h1)]) (by first | (rw [zla_v, zla_v, zla_0]; done) | (rw [zla_v, zla_v, zla_0]; rfl)) (by rw [zsl_v, zsl_v, zsl_0]; exact Nat.le_of_ble_eq_true rfl) ?_
  intro p e R s m args below meth c D A n0 sz k kx F htb
  have F : ZF p R s m args meth c cX10_clause 4 "SafeBuckets$Reader" "clause" none D A true sz 64 440 21 424 := F
  show ZW p l e R s m args below meth c _ _ D A _ _ (f_X10_clause h0 h1 kx k) _ _ _
  unfold f_X10_clause
  refine Z.aload_n F 0 rfl dX10_clause_0 ?_
  refine clX10_31 F ⟨Nat.le_of_ble_eq_true rfl, Nat.le_of_ble_eq_true rfl⟩ (zlw4 (Nat.le_of_ble_eq_true rfl)) dX10_clause_1 (fun r1 => ?_)
  refine Z.istore_n F (L0 := [(0, zv h0), (1, zv h1)]) [0, 1] rfl (zkR rfl (zkR rfl zkN)) (by decide) dX10_clause_4 ?_
  refine Z.aload_n F 1 rfl dX10_clause_5 ?_
  refine Z.iload_n F 0 rfl dX10_clause_6 ?_
  refine Z.bipush F (v := (115 : Int32)) (by decide) dX10_clause_7 ?_
  refine Z.jn1 (J := _) (fun p53s1 => [(0, zv h0), (1, zv h1)]) (fun p53s1 => [.int p53s1, zv h0]) 53 (fun p53s1 => ?_) (fun j53 hj53 => ?_)
  · refine clX10_39 F ⟨Nat.le_of_ble_eq_true rfl, Nat.le_of_ble_eq_true rfl⟩ (zlw4 (Nat.le_of_ble_eq_true rfl)) dX10_clause_53 (Z.out F (by rw [htb]; exact fun _ h => by cases h)) (fun r53 => ?_)
    refine Z.istore_n F (L0 := [(0, zv h0), (1, zv h1)]) [0, 1] rfl (zkR rfl (zkR rfl zkN)) (by decide) dX10_clause_56 ?_
    refine Z.iload_n F 0 rfl dX10_clause_57 ?_
    refine Z.bipush F (v := (115 : Int32)) (by decide) dX10_clause_58 ?_
    refine Z.jn1 (J := _) (fun p163l3 => [(0, zv h0), (3, zv p163l3)]) (fun p163l3 => []) 163 (fun p163l3 => ?_) (fun j163 hj163 => ?_)
    · refine Z.aload_n F 0 rfl dX10_clause_163 ?_
      refine Z.aload_n F 1 rfl dX10_clause_164 ?_
      refine Z.jn0 (J := _) [(0, zv h0), (3, zv p163l3)] [] 168 ?_ (fun j165c hj165c => ?_)
      · exact Z.retx (Z.vret F dX10_clause_168)
      exact Z.or (Z.at (clX10_98_X10_items_11_8 F ⟨Nat.le_of_ble_eq_true rfl, Nat.le_of_ble_eq_true rfl⟩ (zlw4 (Nat.le_of_ble_eq_true rfl)) dX10_clause_165 (Z.out F (by rw [htb]; exact fun _ h => by cases h)) hj165c)) (Z.or (Z.at (clX10_98_X10_items_12_8 F ⟨Nat.le_of_ble_eq_true rfl, Nat.le_of_ble_eq_true rfl⟩ (zlw4 (Nat.le_of_ble_eq_true rfl)) dX10_clause_165 (Z.out F (by rw [htb]; exact fun _ h => by cases h)) hj165c)) (Z.at (clX10_98_X10_items_13_8 F ⟨Nat.le_of_ble_eq_true rfl, Nat.le_of_ble_eq_true rfl⟩ (zlw4 (Nat.le_of_ble_eq_true rfl)) dX10_clause_165 (Z.out F (by rw [htb]; exact fun _ h => by cases h)) hj165c)))
    refine Z.icmp_ne F (tgt := 82) dX10_clause_60 (by decide) ?_ ?_
    · refine Z.iload_n F 0 rfl dX10_clause_82 ?_
      refine Z.bipush F (v := (116 : Int32)) (by decide) dX10_clause_83 ?_
      refine Z.icmp_ne F (tgt := 127) dX10_clause_85 (by decide) ?_ ?_
      · refine Z.aload_n F 2 rfl dX10_clause_127 ?_
        refine gfX10_91 F dX10_clause_128 (fun g128 => ?_)
        refine Z.aload_n F 2 rfl dX10_clause_131 ?_
        refine gfX10_78 F dX10_clause_132 (fun g132 => ?_)
        refine Z.newO F in_X17 tyX17 tyX17_ok (ci := 12) rfl (by decide) q606 q607 q134 df_X17 dX10_clause_135 (fun n135 => ?_)
        refine Z.dup F dX10_clause_138 ?_
        refine clX10_97 F ⟨Nat.le_of_ble_eq_true rfl, Nat.le_of_ble_eq_true rfl⟩ (zlw4 (Nat.le_of_ble_eq_true rfl)) dX10_clause_139 ?_
        refine Z.aast F (t := 11) (ci := 12) (by decide) rfl rfl (by decide) dX10_clause_142 ?_
        refine Z.aload_n F 2 rfl dX10_clause_143 ?_
        refine gfX10_91 F dX10_clause_144 (fun g144 => ?_)
        refine Z.aload_n F 2 rfl dX10_clause_147 ?_
        refine gfX10_78 F dX10_clause_148 (fun g148 => ?_)
        refine Z.aald F (t := 11) (by decide) rfl rfl dX10_clause_151 (fun g151 => ?_)
        refine Z.astore_n F (L0 := [(2, .int r53), (0, zv h0), (1, zv h1)]) [0, 1, 2] rfl (zkI rfl (zkR rfl (zkR rfl zkN))) (by decide) dX10_clause_152 ?_
        refine Z.aload_n F 3 rfl dX10_clause_153 ?_
        refine Z.dup F dX10_clause_154 ?_
        refine gfX10_78 F dX10_clause_155 (fun g155 => ?_)
        refine Z.iconst F (v := (1 : Int32)) (by decide) dX10_clause_158 ?_
        refine Z.iadd F dX10_clause_159 ?_
        refine pfX10_78 F dX10_clause_160 ?_
        exact Z.sub [2, 0] rfl (hj163 g151)
      refine Z.aload_n F 2 rfl dX10_clause_88 ?_
      refine gfX10_84 F dX10_clause_89 (fun g89 => ?_)
      refine Z.aload_n F 2 rfl dX10_clause_92 ?_
      refine gfX10_75 F dX10_clause_93 (fun g93 => ?_)
      refine Z.newO F in_X16 tyX16 tyX16_ok (ci := 11) rfl (by decide) q598 q599 q133 df_X16 dX10_clause_96 (fun n96 => ?_)
      refine Z.dup F dX10_clause_99 ?_
      refine clX10_90 F ⟨Nat.le_of_ble_eq_true rfl, Nat.le_of_ble_eq_true rfl⟩ (zlw4 (Nat.le_of_ble_eq_true rfl)) dX10_clause_100 ?_
      refine Z.aast F (t := 10) (ci := 11) (by decide) rfl rfl (by decide) dX10_clause_103 ?_
      refine Z.aload_n F 2 rfl dX10_clause_104 ?_
      refine gfX10_84 F dX10_clause_105 (fun g105 => ?_)
      refine Z.aload_n F 2 rfl dX10_clause_108 ?_
      refine gfX10_75 F dX10_clause_109 (fun g109 => ?_)
      refine Z.aald F (t := 10) (by decide) rfl rfl dX10_clause_112 (fun g112 => ?_)
      refine Z.astore_n F (L0 := [(2, .int r53), (0, zv h0), (1, zv h1)]) [0, 1, 2] rfl (zkI rfl (zkR rfl (zkR rfl zkN))) (by decide) dX10_clause_113 ?_
      refine Z.aload_n F 3 rfl dX10_clause_114 ?_
      refine Z.dup F dX10_clause_115 ?_
      refine gfX10_75 F dX10_clause_116 (fun g116 => ?_)
      refine Z.iconst F (v := (1 : Int32)) (by decide) dX10_clause_119 ?_
      refine Z.iadd F dX10_clause_120 ?_
      refine pfX10_75 F dX10_clause_121 ?_
      refine Z.goto F (tgt := 163) dX10_clause_124 (by decide) ?_
      exact Z.sub [2, 0] rfl (hj163 g112)
    refine Z.aload_n F 2 rfl dX10_clause_63 ?_
    refine Z.newO F in_X15 tyX15 tyX15_ok (ci := 10) rfl (by decide) q571 q572 q132 df_X15 dX10_clause_64 (fun n64 => ?_)
    refine Z.dup F dX10_clause_67 ?_
    refine clX10_83 F ⟨Nat.le_of_ble_eq_true rfl, Nat.le_of_ble_eq_true rfl⟩ (zlw4 (Nat.le_of_ble_eq_true rfl)) dX10_clause_68 ?_
    refine pfX10_69 F dX10_clause_71 ?_
    refine Z.aload_n F 2 rfl dX10_clause_74 ?_
    refine gfX10_69 F dX10_clause_75 (fun g75 => ?_)
    refine Z.astore_n F (L0 := [(2, .int r53), (0, zv h0), (1, zv h1)]) [0, 1, 2] rfl (zkI rfl (zkR rfl (zkR rfl zkN))) (by decide) dX10_clause_78 ?_
    refine Z.goto F (tgt := 163) dX10_clause_79 (by decide) ?_
    exact Z.sub [2, 0] rfl (hj163 g75)
  refine Z.jn0 (J := _) ([(0, zv h0), (1, zv h1)]) ([zv h0]) 48 (?_) (fun j48 hj48 => ?_)
  · refine Z.iconst F (v := (1 : Int32)) (by decide) dX10_clause_48 ?_
    refine Z.goto F (tgt := 53) dX10_clause_49 (by decide) ?_
    exact Z.sub [0, 1] rfl (hj53 (1 : Int32))
  refine Z.jn0 (J := _) ([(0, zv h0), (1, zv h1), (2, .int r1)]) ([zv h0]) 19 (?_) (fun j19 hj19 => ?_)
  · refine Z.iload_n F 2 rfl dX10_clause_19 ?_
    refine Z.bipush F (v := (116 : Int32)) (by decide) dX10_clause_20 ?_
    refine Z.jn0 (J := _) ([(0, zv h0), (1, zv h1), (2, .int r1)]) ([zv h0]) 33 (?_) (fun j33 hj33 => ?_)
    · refine Z.iload_n F 2 rfl dX10_clause_33 ?_
      refine Z.bipush F (v := (114 : Int32)) (by decide) dX10_clause_34 ?_
      refine Z.jn0 (J := _) ([(0, zv h0), (1, zv h1)]) ([zv h0]) 52 (?_) (fun j52 hj52 => ?_)
      · refine Z.iconst F (v := (0 : Int32)) (by decide) dX10_clause_52 ?_
        exact Z.sub [0, 1] rfl (hj53 (0 : Int32))
      refine Z.icmp_ne F (tgt := 52) dX10_clause_36 (by decide) ?_ ?_
      · exact Z.sub [0, 1] rfl (hj52)
      refine Z.aload_n F 1 rfl dX10_clause_39 ?_
      refine gfX10_78 F dX10_clause_40 (fun g40 => ?_)
      refine Z.bipush F (v := (20 : Int32)) (by decide) dX10_clause_43 ?_
      refine Z.icmp_ge F (tgt := 52) dX10_clause_45 (by decide) ?_ ?_
      · exact Z.sub [0, 1] rfl (hj52)
      exact Z.sub [0, 1] rfl (hj48)
    refine Z.icmp_ne F (tgt := 33) dX10_clause_22 (by decide) ?_ ?_
    · exact Z.sub [0, 1, 2] rfl (hj33)
    refine Z.aload_n F 1 rfl dX10_clause_25 ?_
    refine gfX10_75 F dX10_clause_26 (fun g26 => ?_)
    refine Z.iconst F (v := (3 : Int32)) (by decide) dX10_clause_29 ?_
    refine Z.icmp_lt F (tgt := 48) dX10_clause_30 (by decide) ?_ ?_
    · exact Z.sub [0, 1] rfl (hj48)
    exact Z.sub [0, 1, 2] rfl (hj33)
  refine Z.icmp_ne F (tgt := 19) dX10_clause_9 (by decide) ?_ ?_
  · exact Z.sub [1, 2, 0] rfl (hj19)
  refine Z.aload_n F 2 rfl dX10_clause_12 ?_
  refine gfX10_69 F dX10_clause_13 (fun g13 => ?_)
  refine Z.ifnull F (tgt := 48) dX10_clause_16 (by decide) ?_ ?_
  · exact Z.sub [1, 2] rfl (hj48)
  exact Z.sub [1, 2, 0] rfl (hj19)
set_option maxHeartbeats 4000000 in
theorem k_X10_ends (l : Launch) (h0 : Nat) : ZCvx l yX10_ends (ws_ yX10_ends cX10_ends 1 none) 4 89 1 7 true "SafeBuckets$Wrong" [zv h0] (fun k kx => f_X10_ends h0 kx k) := by
  refine Z.metVx (by decide +kernel) (fun h => by cases h) (L0 := [(0, zv h0)]) (by first | (rw [zla_v, zla_0]; done) | (rw [zla_v, zla_0]; rfl)) (by rw [zsl_v, zsl_0]; exact Nat.le_of_ble_eq_true rfl) ?_
  intro p e R s m args below meth c D A n0 sz k kx F htb
  have F : ZF p R s m args meth c cX10_ends 1 "SafeBuckets$Reader" "ends" none D A true sz 1 7 4 89 := F
  show ZW p l e R s m args below meth c _ _ D A _ _ (f_X10_ends h0 kx k) _ _ _
  unfold f_X10_ends
  refine Z.aload_n F 0 rfl dX10_ends_0 ?_
  refine clX10_31 F ⟨Nat.le_of_ble_eq_true rfl, Nat.le_of_ble_eq_true rfl⟩ (zlw4 (Nat.le_of_ble_eq_true rfl)) dX10_ends_1 (fun r1 => ?_)
  refine Z.iconst F (v := (-1 : Int32)) (by decide) dX10_ends_4 ?_
  refine Z.icmp_eq F (tgt := 20) dX10_ends_5 (by decide) ?_ ?_
  · exact Z.retx (Z.vret F dX10_ends_20)
  refine Z.newO F in_X12 tyX12 tyX12_ok (ci := 9) rfl (by decide) q552 q553 q129 df_X12 dX10_ends_8 (fun n8 => ?_)
  refine Z.dup F dX10_ends_11 ?_
  refine Z.aload_n F 0 rfl dX10_ends_12 ?_
  refine gfX10_15 F dX10_ends_13 (fun g13 => ?_)
  refine clX10_28 F ⟨Nat.le_of_ble_eq_true rfl, Nat.le_of_ble_eq_true rfl⟩ (zlw4 (Nat.le_of_ble_eq_true rfl)) dX10_ends_16 ?_
  exact Z.athrow F (ci := 9) rfl (by decide) dX10_ends_19 (Z.out F (by rw [htb]; exact fun _ h => by cases h))
theorem gfX11_23 (F : ZF p R s m args meth c cc nL "SafeBuckets$Book" nm ret D A al sz mc ms fr lo) {z : Nat} {K : Nat → ZM → Prop} (hdg : decode cc pc = .ok (.getfield 23, 3)) (k : ∀ u, ZW p l e R s m args below meth c Q nL D A al n0 (K u) (pc + 3) L (zv u :: st)) : ZW p l e R s m args below meth c Q nL D A al n0 (zgR 9 z 2 K) pc L (zv z :: st) :=
  Z.getR F (ref := "SafeBuckets$Book") in_X11 (ci := 8) rfl (by decide) (kf := 2) (by decide) q517 (fun _ h => h) rfl hdg k
theorem gfX11_38 (F : ZF p R s m args meth c cc nL "SafeBuckets$Book" nm ret D A al sz mc ms fr lo) {z : Nat} {K : Int32 → ZM → Prop} (hdg : decode cc pc = .ok (.getfield 38, 3)) (k : ∀ u, ZW p l e R s m args below meth c Q nL D A al n0 (K u) (pc + 3) L (.int u :: st)) : ZW p l e R s m args below meth c Q nL D A al n0 (zgI 9 z 3 K) pc L (zv z :: st) :=
  Z.getI F (ref := "SafeBuckets$Book") in_X11 (ci := 8) rfl (by decide) (kf := 3) (by decide) q523 (fun _ h => h) rfl hdg k
theorem gfX11_30 (F : ZF p R s m args meth c cc nL "SafeBuckets$Book" nm ret D A al sz mc ms fr lo) {z : Nat} {K : Int32 → ZM → Prop} (hdg : decode cc pc = .ok (.getfield 30, 3)) (k : ∀ u, ZW p l e R s m args below meth c Q nL D A al n0 (K u) (pc + 3) L (.int u :: st)) : ZW p l e R s m args below meth c Q nL D A al n0 (zgI 9 z 4 K) pc L (zv z :: st) :=
  Z.getI F (ref := "SafeBuckets$Book") in_X11 (ci := 8) rfl (by decide) (kf := 4) (by decide) q526 (fun _ h => h) rfl hdg k
theorem gfX11_19 (F : ZF p R s m args meth c cc nL "SafeBuckets$Book" nm ret D A al sz mc ms fr lo) {z : Nat} {K : Nat → ZM → Prop} (hdg : decode cc pc = .ok (.getfield 19, 3)) (k : ∀ u, ZW p l e R s m args below meth c Q nL D A al n0 (K u) (pc + 3) L (zv u :: st)) : ZW p l e R s m args below meth c Q nL D A al n0 (zgR 9 z 1 K) pc L (zv z :: st) :=
  Z.getR F (ref := "SafeBuckets$Book") in_X11 (ci := 8) rfl (by decide) (kf := 1) (by decide) q514 (fun _ h => h) rfl hdg k
theorem gfX11_34 (F : ZF p R s m args meth c cc nL "SafeBuckets$Book" nm ret D A al sz mc ms fr lo) {z : Nat} {K : Nat → ZM → Prop} (hdg : decode cc pc = .ok (.getfield 34, 3)) (k : ∀ u, ZW p l e R s m args below meth c Q nL D A al n0 (K u) (pc + 3) L (zv u :: st)) : ZW p l e R s m args below meth c Q nL D A al n0 (zgR 13 z 0 K) pc L (zv z :: st) :=
  Z.getR F (ref := "SafeBuckets$Line") in_X17 (ci := 12) rfl (by decide) (kf := 0) (by decide) q584 (fun x h => u_same (F.hts _ q585) x h) rfl hdg k
theorem gfX11_11 (F : ZF p R s m args meth c cc nL "SafeBuckets$Book" nm ret D A al sz mc ms fr lo) {z : Nat} {K : Nat → ZM → Prop} (hdg : decode cc pc = .ok (.getfield 11, 3)) (k : ∀ u, ZW p l e R s m args below meth c Q nL D A al n0 (K u) (pc + 3) L (zv u :: st)) : ZW p l e R s m args below meth c Q nL D A al n0 (zgR 9 z 0 K) pc L (zv z :: st) :=
  Z.getR F (ref := "SafeBuckets$Book") in_X11 (ci := 8) rfl (by decide) (kf := 0) (by decide) q512 (fun _ h => h) rfl hdg k
theorem gfX11_41 (F : ZF p R s m args meth c cc nL "SafeBuckets$Book" nm ret D A al sz mc ms fr lo) {z : Nat} {K : Nat → ZM → Prop} (hdg : decode cc pc = .ok (.getfield 41, 3)) (k : ∀ u, ZW p l e R s m args below meth c Q nL D A al n0 (K u) (pc + 3) L (zv u :: st)) : ZW p l e R s m args below meth c Q nL D A al n0 (zgR 12 z 0 K) pc L (zv z :: st) :=
  Z.getR F (ref := "SafeBuckets$ToldTable") in_X16 (ci := 11) rfl (by decide) (kf := 0) (by decide) q586 (fun x h => u_same (F.hts _ q587) x h) rfl hdg k
theorem clX11_29 (F : ZF p R s m args meth c cc nL "SafeBuckets$Book" nm ret D A true sz mc ms fr lo) {h0 : Nat} {K : ZM → Prop} (hR : 3 + 1 ≤ fr ∧ 8 + (1 + 11) + 62 ≤ lo) (hst4 : zlw st) (hdg : decode cc pc = .ok (.invokespecial 29, 3)) (k : ZW p l e R s m args below meth c Q nL D A true n0 K (pc + 3) L st) : ZW p l e R s m args below meth c Q nL D A true n0 (zat 11 h0 (zclv 1 3 (f_X15_init h0) K)) pc L (zv h0 :: st) :=
  Z.rv1 _ (fun μ H locs cells slots ls hI h hP => ⟨hP.2.1, hP.2.2.1, Z.I1 F hI (n := 0) (ci := 10) rfl (by decide) hP.1 hP.2.1 hP.2.2.1 hP.2.2.2 (k_X15_init l h0 D A (0, 0, 0) 0 (fun μ' => K (zcs μ' (zC μ - 1) (zS μ - 3))) (zcs μ 1 3)) rfl q768 q574 q132 q575 (by decide +kernel) rfl h.1 hst4 hR rfl hdg⟩) k
theorem pfX11_23 (F : ZF p R s m args meth c cc nL "SafeBuckets$Book" nm ret D A al sz mc ms fr lo) {z : Nat} {u : Nat} (hdg : decode cc pc = .ok (.putfield 23, 3)) (k : ZW p l e R s m args below meth c Q nL D A al n0 P (pc + 3) L st) : ZW p l e R s m args below meth c Q nL D A al n0 (zpR 9 z 2 u P) pc L (zv u :: zv z :: st) :=
  Z.putR F (ref := "SafeBuckets$Book") in_X11 (ci := 8) rfl (by decide) (kf := 2) (by decide) q517 (fun _ h => h) tyX11 tyX11_ok nmX11 rfl (ty := .object _) (fun u => zv_nar u) (fun u => zv_fit u) rfl rfl hdg k
set_option maxHeartbeats 4000000 in
theorem k_X11_isWhole (l : Launch) (h0 : Nat) : ZCi l yX11_isWhole (ws_ yX11_isWhole cX11_isWhole 4 (some .boolean)) 4 82 2 4 true [zv h0] (f_X11_isWhole h0) := by
  refine Z.metZ (by decide +kernel) (fun h => by cases h) (L0 := [(0, zv h0)]) (by first | (rw [zla_v, zla_0]; done) | (rw [zla_v, zla_0]; rfl)) (by rw [zsl_v, zsl_0]; exact Nat.le_of_ble_eq_true rfl) ?_
  intro p e R s m args below meth c D A n0 sz k F
  have F : ZF p R s m args meth c cX11_isWhole 4 "SafeBuckets$Book" "isWhole" (some .boolean) D A true sz 2 4 4 82 := F
  unfold f_X11_isWhole
  refine Z.aload_n F 0 rfl dX11_isWhole_0 ?_
  refine gfX11_23 F dX11_isWhole_1 (fun g1 => ?_)
  refine Z.jn0 (J := _) ([(0, zv h0)]) ([]) 18 (?_) (fun j18 hj18 => ?_)
  · refine Z.iconst F (v := (0 : Int32)) (by decide) dX11_isWhole_18 ?_
    refine Z.istore_n F (L0 := [(0, zv h0)]) [0] rfl (zkR rfl zkN) (by decide) dX11_isWhole_19 ?_
    refine Z.jn0 (J := _) ([]) ([]) 78 (?_) (fun j78 hj78 => ?_)
    · refine Z.iconst F (v := (0 : Int32)) (by decide) dX11_isWhole_78 ?_
      exact Z.zret F dX11_isWhole_79
    refine Z.jn0 (J := _) ([(0, zv h0)]) ([]) 86 (?_) (fun j86 hj86 => ?_)
    · refine Z.aload_n F 0 rfl dX11_isWhole_86 ?_
      refine gfX11_38 F dX11_isWhole_87 (fun g87 => ?_)
      refine Z.jn1 (J := _) (fun p98s0 => []) (fun p98s0 => [.int p98s0]) 98 (fun p98s0 => ?_) (fun j98 hj98 => ?_)
      · exact Z.zret F dX11_isWhole_98
      refine Z.if_le F (tgt := 97) dX11_isWhole_90 (by decide) ?_ ?_
      · refine Z.iconst F (v := (0 : Int32)) (by decide) dX11_isWhole_97 ?_
        exact Z.sub [] rfl (hj98 (0 : Int32))
      refine Z.iconst F (v := (1 : Int32)) (by decide) dX11_isWhole_93 ?_
      refine Z.goto F (tgt := 98) dX11_isWhole_94 (by decide) ?_
      exact Z.sub [] rfl (hj98 (1 : Int32))
    refine Z.sub [1, 0] rfl ?_
    refine Z.w1 (Lf := fun p20l1 => [(0, zv h0), (1, .int p20l1)]) (sf := fun p20l1 => []) (fun r20 hr20 p20l1 => ?_) (0 : Int32)
    refine Z.iload_n F 1 rfl dX11_isWhole_20 ?_
    refine Z.aload_n F 0 rfl dX11_isWhole_21 ?_
    refine gfX11_30 F dX11_isWhole_22 (fun g22 => ?_)
    refine Z.icmp_ge F (tgt := 86) dX11_isWhole_25 (by decide) ?_ ?_
    · exact Z.sub [0] rfl (hj86)
    refine Z.aload_n F 0 rfl dX11_isWhole_28 ?_
    refine gfX11_19 F dX11_isWhole_29 (fun g29 => ?_)
    refine Z.iload_n F 1 rfl dX11_isWhole_32 ?_
    refine Z.aald F (t := 11) (by decide) rfl rfl dX11_isWhole_33 (fun g33 => ?_)
    refine gfX11_34 F dX11_isWhole_34 (fun g34 => ?_)
    refine Z.astore_n F (L0 := [(0, zv h0), (1, .int p20l1)]) [0, 1] rfl (zkR rfl (zkI rfl zkN)) (by decide) dX11_isWhole_37 ?_
    refine Z.aload_n F 0 rfl dX11_isWhole_38 ?_
    refine Z.iconst F (v := (0 : Int32)) (by decide) dX11_isWhole_39 ?_
    refine Z.iald F dX11_isWhole_40 (fun g40 => ?_)
    refine Z.aload_n F 1 rfl dX11_isWhole_41 ?_
    refine gfX11_38 F dX11_isWhole_42 (fun g42 => ?_)
    refine Z.icmp_lt F (tgt := 50) dX11_isWhole_45 (by decide) ?_ ?_
    · refine Z.aload_n F 1 rfl dX11_isWhole_50 ?_
      refine gfX11_11 F dX11_isWhole_51 (fun g51 => ?_)
      refine Z.aload_n F 0 rfl dX11_isWhole_54 ?_
      refine Z.iconst F (v := (0 : Int32)) (by decide) dX11_isWhole_55 ?_
      refine Z.iald F dX11_isWhole_56 (fun g56 => ?_)
      refine Z.aald F (t := 10) (by decide) rfl rfl dX11_isWhole_57 (fun g57 => ?_)
      refine gfX11_41 F dX11_isWhole_58 (fun g58 => ?_)
      refine Z.iconst F (v := (0 : Int32)) (by decide) dX11_isWhole_61 ?_
      refine Z.iald F dX11_isWhole_62 (fun g62 => ?_)
      refine Z.istore_n F (L0 := [(2, zv g34), (0, zv h0), (1, .int p20l1)]) [0, 1, 2] rfl (zkR rfl (zkR rfl (zkI rfl zkN))) (by decide) dX11_isWhole_63 ?_
      refine Z.aload_n F 1 rfl dX11_isWhole_64 ?_
      refine Z.iconst F (v := (1 : Int32)) (by decide) dX11_isWhole_65 ?_
      refine Z.iald F dX11_isWhole_66 (fun g66 => ?_)
      refine Z.iload_n F 0 rfl dX11_isWhole_67 ?_
      refine Z.icmp_ge F (tgt := 78) dX11_isWhole_68 (by decide) ?_ ?_
      · exact Z.sub [] rfl (hj78)
      refine Z.aload_n F 1 rfl dX11_isWhole_71 ?_
      refine Z.iconst F (v := (2 : Int32)) (by decide) dX11_isWhole_72 ?_
      refine Z.iald F dX11_isWhole_73 (fun g73 => ?_)
      refine Z.iload_n F 0 rfl dX11_isWhole_74 ?_
      refine Z.icmp_lt F (tgt := 80) dX11_isWhole_75 (by decide) ?_ ?_
      · refine Z.iinc F (L0 := [(3, .int g62), (2, zv g34), (0, zv h0)]) (k0 := 3) (v := (1 : Int32)) rfl (by decide) [0, 1, 2] rfl (zkI rfl (zkR rfl (zkR rfl zkN))) (by decide) dX11_isWhole_80 ?_
        refine Z.goto F (tgt := 20) dX11_isWhole_83 (by decide) ?_
        exact Z.sub [3, 0] rfl (hr20 (p20l1 + (1 : Int32)))
      exact Z.sub [] rfl (hj78)
    refine Z.iconst F (v := (0 : Int32)) (by decide) dX11_isWhole_48 ?_
    exact Z.zret F dX11_isWhole_49
  refine Z.ifnonnull F (tgt := 18) dX11_isWhole_4 (by decide) ?_ ?_
  · exact Z.sub [0] rfl (hj18)
  refine Z.aload_n F 0 rfl dX11_isWhole_7 ?_
  refine Z.newO F in_X15 tyX15 tyX15_ok (ci := 10) rfl (by decide) q767 q572 q132 df_X15 dX11_isWhole_8 (fun n8 => ?_)
  refine Z.dup F dX11_isWhole_11 ?_
  refine clX11_29 F ⟨Nat.le_of_ble_eq_true rfl, Nat.le_of_ble_eq_true rfl⟩ (zlw4 (Nat.le_of_ble_eq_true rfl)) dX11_isWhole_12 ?_
  refine pfX11_23 F dX11_isWhole_15 ?_
  exact Z.sub [0] rfl (hj18)
theorem clX10_101 (F : ZF p R s m args meth c cc nL "SafeBuckets$Reader" nm ret D A true sz mc ms fr lo) {h0 : Nat} {K : ZM → Prop} (hR : 1 + 1 ≤ fr ∧ 8 + (1 + 11) + 20 ≤ lo) (hst4 : zlw st) (hdg : decode cc pc = .ok (.invokespecial 101, 3)) (k : ZW p l e R s m args below meth c Q nL D A true n0 K (pc + 3) L st) : ZW p l e R s m args below meth c Q nL D A true n0 (zat 9 h0 (zclv 2 23 (f_X11_init h0) K)) pc L (zv h0 :: st) :=
  Z.rv1 _ (fun μ H locs cells slots ls hI h hP => ⟨hP.2.1, hP.2.2.1, Z.IN1 F hI (n := 0) (ci := 8) rfl (by decide) hP.1 hP.2.1 hP.2.2.1 hP.2.2.2 (k_X11_init l h0 D A (0, 0, 0) 0 (fun μ' => K (zcs μ' (zC μ - 2) (zS μ - 23))) (zcs μ 2 23)) rfl (List.mem_of_getElem? (i := 9) rfl) q505 q128 q506 (by decide +kernel) rfl h.1 hst4 hR rfl hdg⟩) k
theorem clX10_102 (F : ZF p R s m args meth c cc nL "SafeBuckets$Reader" nm ret D A true sz mc ms fr lo) {h0 : Nat} {h1 : Nat} {K : ZM → Prop} {Kx : Nat → ZM → Prop} (hR : 21 + 1 ≤ fr ∧ 8 + (4 + 11) + 424 ≤ lo) (hst4 : zlw st) (hdg : decode cc pc = .ok (.invokevirtual 102, 3)) (kx : ZX p l e R s m args below meth c Q nL D A true n0 "SafeBuckets$Wrong" Kx pc L) (k : ZW p l e R s m args below meth c Q nL D A true n0 K (pc + 3) L st) : ZW p l e R s m args below meth c Q nL D A true n0 (zat 8 h0 (zclvx' 64 440 (fun k kx => f_X10_clause h0 h1 kx k) Kx K)) pc L (zv h1 :: zv h0 :: st) :=
  Z.xv1 (fun μ H locs cells slots ls hI h hP => ⟨hP.2.1, hP.2.2.1, Z.Vx1 F hI (n := 1) (ci := 7) rfl (by decide) hP.1 hP.2.1 hP.2.2.1 hP.2.2.2 (k_X10_clause l h0 h1 D A (0, 0, 0) 0 (fun μ' => K (zcs μ' (zC μ - 64) (zS μ - 440))) (fun r μ' => Kx r (zcs μ' (zC μ - 64) (zS μ - 440))) (zcs μ 64 440)) q540 q542 qs2 q127 q543 (by decide +kernel) rfl h.1 hst4 hR rfl hdg⟩) kx k
theorem clX10_106 (F : ZF p R s m args meth c cc nL "SafeBuckets$Reader" nm ret D A true sz mc ms fr lo) {h0 : Nat} {K : ZM → Prop} {Kx : Nat → ZM → Prop} (hR : 4 + 1 ≤ fr ∧ 8 + (1 + 11) + 89 ≤ lo) (hst4 : zlw st) (hdg : decode cc pc = .ok (.invokevirtual 106, 3)) (kx : ZX p l e R s m args below meth c Q nL D A true n0 "SafeBuckets$Wrong" Kx pc L) (k : ZW p l e R s m args below meth c Q nL D A true n0 K (pc + 3) L st) : ZW p l e R s m args below meth c Q nL D A true n0 (zat 8 h0 (zclvx' 1 7 (fun k kx => f_X10_ends h0 kx k) Kx K)) pc L (zv h0 :: st) :=
  Z.xv1 (fun μ H locs cells slots ls hI h hP => ⟨hP.2.1, hP.2.2.1, Z.Vx1 F hI (n := 0) (ci := 7) rfl (by decide) hP.1 hP.2.1 hP.2.2.1 hP.2.2.2 (k_X10_ends l h0 D A (0, 0, 0) 0 (fun μ' => K (zcs μ' (zC μ - 1) (zS μ - 7))) (fun r μ' => Kx r (zcs μ' (zC μ - 1) (zS μ - 7))) (zcs μ 1 7)) q759 q761 qs8 q127 q762 (by decide +kernel) rfl h.1 hst4 hR rfl hdg⟩) kx k
theorem clX10_109 (F : ZF p R s m args meth c cc nL "SafeBuckets$Reader" nm ret D A true sz mc ms fr lo) {h0 : Nat} {K : Int32 → ZM → Prop} (hR : 4 + 1 ≤ fr ∧ 8 + (4 + 11) + 82 ≤ lo) (hst4 : zlw st) (hdg : decode cc pc = .ok (.invokevirtual 109, 3)) (k : ∀ r, ZW p l e R s m args below meth c Q nL D A true n0 (K r) (pc + 3) L (.int r :: st)) : ZW p l e R s m args below meth c Q nL D A true n0 (zat 9 h0 (zcl 2 4 (f_X11_isWhole h0) K)) pc L (zv h0 :: st) :=
  Z.ri1 _ (fun μ H locs cells slots ls hI h hP => ⟨hP.2.1, hP.2.2.1, Z.V1 F hI (n := 0) (ci := 8) rfl (by decide) hP.1 hP.2.1 hP.2.2.1 hP.2.2.2 (k_X11_isWhole l h0 D A (0, 0, 0) 0 (fun r μ' => K r (zcs μ' (zC μ - 2) (zS μ - 4))) (zcs μ 2 4)) q763 q764 q765 q128 q766 (by decide +kernel) rfl h.1 hst4 hR rfl hdg⟩) k
set_option maxHeartbeats 4000000 in
theorem k_X10_book (l : Launch) (h0 : Nat) : ZCrx l yX10_book (ws_ yX10_book cX10_book 2 (some (.object "SafeBuckets$Book"))) 22 447 16000 110000 true "SafeBuckets$Wrong" [zv h0] (fun k kx => f_X10_book h0 kx k) := by
  refine Z.metQx (by decide +kernel) (fun h => by cases h) (L0 := [(0, zv h0)]) (by first | (rw [zla_v, zla_0]; done) | (rw [zla_v, zla_0]; rfl)) (by rw [zsl_v, zsl_0]; exact Nat.le_of_ble_eq_true rfl) ?_
  intro p e R s m args below meth c D A n0 sz k kx F htb
  have F : ZF p R s m args meth c cX10_book 2 "SafeBuckets$Reader" "book" (some (.object "SafeBuckets$Book")) D A true sz 16000 110000 22 447 := F
  show ZW p l e R s m args below meth c _ _ D A _ _ (f_X10_book h0 kx k) _ _ _
  unfold f_X10_book
  refine Z.newO F in_X11 tyX11 tyX11_ok (ci := 8) rfl (by decide) q502 q503 q128 df_X11 dX10_book_0 (fun n0 => ?_)
  refine Z.dup F dX10_book_3 ?_
  refine clX10_101 F ⟨Nat.le_of_ble_eq_true rfl, Nat.le_of_ble_eq_true rfl⟩ (zlw4 (Nat.le_of_ble_eq_true rfl)) dX10_book_4 ?_
  refine Z.astore_n F (L0 := [(0, zv h0)]) [0] rfl (zkR rfl zkN) (by decide) dX10_book_7 ?_
  refine Z.aload_n F 1 rfl dX10_book_8 ?_
  refine Z.aload_n F 0 rfl dX10_book_9 ?_
  refine clX10_102 F ⟨Nat.le_of_ble_eq_true rfl, Nat.le_of_ble_eq_true rfl⟩ (zlw4 (Nat.le_of_ble_eq_true rfl)) dX10_book_10 (Z.out F (by rw [htb]; exact fun _ h => by cases h)) ?_
  refine Z.jn0 (J := _) ([(0, zv h0), (1, zv n0)]) ([]) 40 (?_) (fun j40 hj40 => ?_)
  · refine Z.aload_n F 0 rfl dX10_book_40 ?_
    refine clX10_106 F ⟨Nat.le_of_ble_eq_true rfl, Nat.le_of_ble_eq_true rfl⟩ (zlw4 (Nat.le_of_ble_eq_true rfl)) dX10_book_41 (Z.out F (by rw [htb]; exact fun _ h => by cases h)) ?_
    refine Z.aload_n F 1 rfl dX10_book_44 ?_
    refine clX10_109 F ⟨Nat.le_of_ble_eq_true rfl, Nat.le_of_ble_eq_true rfl⟩ (zlw4 (Nat.le_of_ble_eq_true rfl)) dX10_book_45 (fun r45 => ?_)
    refine Z.if_ne F (tgt := 63) dX10_book_48 (by decide) ?_ ?_
    · refine Z.aload_n F 1 rfl dX10_book_63 ?_
      exact Z.retx (Z.aret F (Or.inl ⟨_, rfl⟩) dX10_book_64)
    refine Z.newO F in_X12 tyX12 tyX12_ok (ci := 9) rfl (by decide) q552 q553 q129 df_X12 dX10_book_51 (fun n51 => ?_)
    refine Z.dup F dX10_book_54 ?_
    refine Z.aload_n F 0 rfl dX10_book_55 ?_
    refine gfX10_15 F dX10_book_56 (fun g56 => ?_)
    refine clX10_28 F ⟨Nat.le_of_ble_eq_true rfl, Nat.le_of_ble_eq_true rfl⟩ (zlw4 (Nat.le_of_ble_eq_true rfl)) dX10_book_59 ?_
    exact Z.athrow F (ci := 9) rfl (by decide) dX10_book_62 (Z.out F (by rw [htb]; exact fun _ h => by cases h))
  refine Z.sub [1, 0] rfl ?_
  refine Z.w0 (Lf := [(0, zv h0), (1, zv n0)]) (sf := []) (fun r13 hr13 => ?_) 
  refine Z.aload_n F 0 rfl dX10_book_13 ?_
  refine clX10_31 F ⟨Nat.le_of_ble_eq_true rfl, Nat.le_of_ble_eq_true rfl⟩ (zlw4 (Nat.le_of_ble_eq_true rfl)) dX10_book_14 (fun r14 => ?_)
  refine Z.bipush F (v := (59 : Int32)) (by decide) dX10_book_17 ?_
  refine Z.icmp_ne F (tgt := 40) dX10_book_19 (by decide) ?_ ?_
  · exact Z.sub [0, 1] rfl (hj40)
  refine Z.aload_n F 0 rfl dX10_book_22 ?_
  refine Z.dup F dX10_book_23 ?_
  refine gfX10_15 F dX10_book_24 (fun g24 => ?_)
  refine Z.iconst F (v := (1 : Int32)) (by decide) dX10_book_27 ?_
  refine Z.iadd F dX10_book_28 ?_
  refine pfX10_15 F dX10_book_29 ?_
  refine Z.aload_n F 0 rfl dX10_book_32 ?_
  refine Z.aload_n F 1 rfl dX10_book_33 ?_
  refine clX10_102 F ⟨Nat.le_of_ble_eq_true rfl, Nat.le_of_ble_eq_true rfl⟩ (zlw4 (Nat.le_of_ble_eq_true rfl)) dX10_book_34 (Z.out F (by rw [htb]; exact fun _ h => by cases h)) ?_
  refine Z.goto F (tgt := 13) dX10_book_37 (by decide) ?_
  exact Z.sub [0, 1] rfl (hr13)
theorem pfX18_11 (F : ZF p R s m args meth c cc nL "SafeBuckets$Where" "<init>" ret D A al sz mc ms fr lo) {z : Nat} {u : Nat} (hdg : decode cc pc = .ok (.putfield 11, 3)) (k : ZW p l e R s m args below meth c Q nL D A al n0 P (pc + 3) L st) : ZW p l e R s m args below meth c Q nL D A al n0 (zpR 14 z 0 u P) pc L (zv u :: zv z :: st) :=
  Z.putRF F (ref := "SafeBuckets$Where") in_X18 (ci := 13) rfl (by decide) (kf := 0) (by decide) q781 (fun _ h => h) tyX18 tyX18_ok nmX18 rfl rfl rfl (ty := .array _) (fun u => zv_narA u) (fun u => zv_fitA u) rfl rfl hdg k
set_option maxHeartbeats 4000000 in
theorem k_X18_init (l : Launch) (h0 : Nat) : ZCv l yX18_init (ws_ yX18_init cX18_init 1 none) 1 20 1 6 true [zv h0] (f_X18_init h0) := by
  refine Z.metV (by decide +kernel) (fun h => by cases h) (L0 := [(0, zv h0)]) (by first | (rw [zla_v, zla_0]; done) | (rw [zla_v, zla_0]; rfl)) (by rw [zsl_v, zsl_0]; exact Nat.le_of_ble_eq_true rfl) ?_
  intro p e R s m args below meth c D A n0 sz k F
  have F : ZF p R s m args meth c cX18_init 1 "SafeBuckets$Where" "<init>" none D A true sz 1 6 1 20 := F
  unfold f_X18_init
  refine Z.aload_n F 0 rfl dX18_init_0 ?_
  refine Z.objI F q778 (Nat.le_of_ble_eq_true rfl) (Nat.le_of_ble_eq_true rfl) (zlw4 (Nat.le_of_ble_eq_true rfl)) dX18_init_1 ?_
  refine Z.aload_n F 0 rfl dX18_init_4 ?_
  refine Z.bipush F (v := (6 : Int32)) (by decide) dX18_init_5 ?_
  refine Z.newQ F (C := "SafeBuckets$Term") (t := 12) (by decide) rfl q779 (List.mem_of_getElem? (i := 7) rfl) dX18_init_7 (fun n7 => ?_)
  refine pfX18_11 F dX18_init_10 ?_
  exact Z.vret F dX18_init_13
theorem pfX19_11 (F : ZF p R s m args meth c cc nL "SafeBuckets$Term" "<init>" ret D A al sz mc ms fr lo) {z : Nat} {u : Nat} (hdg : decode cc pc = .ok (.putfield 11, 3)) (k : ZW p l e R s m args below meth c Q nL D A al n0 P (pc + 3) L st) : ZW p l e R s m args below meth c Q nL D A al n0 (zpR 15 z 0 u P) pc L (zv u :: zv z :: st) :=
  Z.putRF F (ref := "SafeBuckets$Term") in_X19 (ci := 14) rfl (by decide) (kf := 0) (by decide) q800 (fun _ h => h) tyX19 tyX19_ok nmX19 rfl rfl rfl (ty := .array _) (fun u => zv_narA u) (fun u => zv_fitA u) rfl rfl hdg k
set_option maxHeartbeats 4000000 in
theorem k_X19_init (l : Launch) (h0 : Nat) : ZCv l yX19_init (ws_ yX19_init cX19_init 1 none) 1 20 1 6 true [zv h0] (f_X19_init h0) := by
  refine Z.metV (by decide +kernel) (fun h => by cases h) (L0 := [(0, zv h0)]) (by first | (rw [zla_v, zla_0]; done) | (rw [zla_v, zla_0]; rfl)) (by rw [zsl_v, zsl_0]; exact Nat.le_of_ble_eq_true rfl) ?_
  intro p e R s m args below meth c D A n0 sz k F
  have F : ZF p R s m args meth c cX19_init 1 "SafeBuckets$Term" "<init>" none D A true sz 1 6 1 20 := F
  unfold f_X19_init
  refine Z.aload_n F 0 rfl dX19_init_0 ?_
  refine Z.objI F q797 (Nat.le_of_ble_eq_true rfl) (Nat.le_of_ble_eq_true rfl) (zlw4 (Nat.le_of_ble_eq_true rfl)) dX19_init_1 ?_
  refine Z.aload_n F 0 rfl dX19_init_4 ?_
  refine Z.bipush F (v := (6 : Int32)) (by decide) dX19_init_5 ?_
  refine Z.newQ F (C := "SafeBuckets$Unit") (t := 13) (by decide) rfl q798 (List.mem_of_getElem? (i := 8) rfl) dX19_init_7 (fun n7 => ?_)
  refine pfX19_11 F dX19_init_10 ?_
  exact Z.vret F dX19_init_13
set_option maxHeartbeats 4000000 in
theorem k_X10_peekAt (l : Launch) (h0 : Nat) : ZCi l yX10_peekAt (ws_ yX10_peekAt cX10_peekAt 2 (some .int)) 1 20 0 0 false [zv h0] (f_X10_peekAt h0) := by
  refine Z.metI (by decide +kernel) (fun h => ⟨rfl, rfl⟩) (L0 := [(0, zv h0)]) (by first | (rw [zla_v, zla_0]; done) | (rw [zla_v, zla_0]; rfl)) (by rw [zsl_v, zsl_0]; exact Nat.le_of_ble_eq_true rfl) ?_
  intro p e R s m args below meth c D A n0 sz k F
  have F : ZF p R s m args meth c cX10_peekAt 2 "SafeBuckets$Reader" "peekAt" (some .int) D A false sz 0 0 1 20 := F
  unfold f_X10_peekAt
  refine Z.aload_n F 0 rfl dX10_peekAt_0 ?_
  refine clX10_31 F ⟨Nat.le_of_ble_eq_true rfl, Nat.le_of_ble_eq_true rfl⟩ (zlw4 (Nat.le_of_ble_eq_true rfl)) dX10_peekAt_1 (fun r1 => ?_)
  refine Z.istore_n F (L0 := [(0, zv h0)]) [0] rfl (zkR rfl zkN) (by decide) dX10_peekAt_4 ?_
  refine Z.aload_n F 1 rfl dX10_peekAt_5 ?_
  refine gfX10_15 F dX10_peekAt_6 (fun g6 => ?_)
  exact Z.iret F dX10_peekAt_9
theorem gfX19_17 (F : ZF p R s m args meth c cc nL "SafeBuckets$Term" nm ret D A al sz mc ms fr lo) {z : Nat} {K : Int32 → ZM → Prop} (hdg : decode cc pc = .ok (.getfield 17, 3)) (k : ∀ u, ZW p l e R s m args below meth c Q nL D A al n0 (K u) (pc + 3) L (.int u :: st)) : ZW p l e R s m args below meth c Q nL D A al n0 (zgI 15 z 1 K) pc L (zv z :: st) :=
  Z.getI F (ref := "SafeBuckets$Term") in_X19 (ci := 14) rfl (by decide) (kf := 1) (by decide) q803 (fun _ h => h) rfl hdg k
set_option maxHeartbeats 4000000 in
theorem k_X19_size (l : Launch) (h0 : Nat) : ZCi l yX19_size (ws_ yX19_size cX19_size 1 (some .int)) 0 0 0 0 false [zv h0] (f_X19_size h0) := by
  refine Z.metI (by decide +kernel) (fun h => ⟨rfl, rfl⟩) (L0 := [(0, zv h0)]) (by first | (rw [zla_v, zla_0]; done) | (rw [zla_v, zla_0]; rfl)) (by rw [zsl_v, zsl_0]; exact Nat.le_of_ble_eq_true rfl) ?_
  intro p e R s m args below meth c D A n0 sz k F
  have F : ZF p R s m args meth c cX19_size 1 "SafeBuckets$Term" "size" (some .int) D A false sz 0 0 0 0 := F
  unfold f_X19_size
  refine Z.aload_n F 0 rfl dX19_size_0 ?_
  refine gfX19_17 F dX19_size_1 (fun g1 => ?_)
  exact Z.iret F dX19_size_4
theorem gfX18_17 (F : ZF p R s m args meth c cc nL "SafeBuckets$Where" nm ret D A al sz mc ms fr lo) {z : Nat} {K : Int32 → ZM → Prop} (hdg : decode cc pc = .ok (.getfield 17, 3)) (k : ∀ u, ZW p l e R s m args below meth c Q nL D A al n0 (K u) (pc + 3) L (.int u :: st)) : ZW p l e R s m args below meth c Q nL D A al n0 (zgI 14 z 1 K) pc L (zv z :: st) :=
  Z.getI F (ref := "SafeBuckets$Where") in_X18 (ci := 13) rfl (by decide) (kf := 1) (by decide) q784 (fun _ h => h) rfl hdg k
theorem gfX18_11 (F : ZF p R s m args meth c cc nL "SafeBuckets$Where" nm ret D A al sz mc ms fr lo) {z : Nat} {K : Nat → ZM → Prop} (hdg : decode cc pc = .ok (.getfield 11, 3)) (k : ∀ u, ZW p l e R s m args below meth c Q nL D A al n0 (K u) (pc + 3) L (zv u :: st)) : ZW p l e R s m args below meth c Q nL D A al n0 (zgR 14 z 0 K) pc L (zv z :: st) :=
  Z.getR F (ref := "SafeBuckets$Where") in_X18 (ci := 13) rfl (by decide) (kf := 0) (by decide) q781 (fun _ h => h) rfl hdg k
theorem clX18_49 (F : ZF p R s m args meth c cc nL "SafeBuckets$Where" nm ret D A al sz mc ms fr lo) {h0 : Nat} {K : Int32 → ZM → Prop} (hR : 0 + 1 ≤ fr ∧ 8 + (1 + 11) + 0 ≤ lo) (hst4 : zlw st) (hdg : decode cc pc = .ok (.invokevirtual 49, 3)) (k : ∀ r, ZW p l e R s m args below meth c Q nL D A al n0 (K r) (pc + 3) L (.int r :: st)) : ZW p l e R s m args below meth c Q nL D A al n0 (zat 15 h0 (f_X19_size h0 K)) pc L (zv h0 :: st) :=
  Z.ri0 _ (fun μ H locs cells slots ls hI h hP => Z.V0 F hI (n := 0) (ci := 14) rfl (by decide) hP.1 hP.2 (k_X19_size l h0 D A (zX μ, zC μ, zS μ) H.size K μ) q823 q824 q825 q142 q826 (by decide +kernel) rfl h.1 hst4 hR rfl hdg) k
set_option maxHeartbeats 4000000 in
theorem k_X18_size (l : Launch) (h0 : Nat) : ZCi l yX18_size (ws_ yX18_size cX18_size 3 (some .int)) 1 20 0 0 false [zv h0] (f_X18_size h0) := by
  refine Z.metI (by decide +kernel) (fun h => ⟨rfl, rfl⟩) (L0 := [(0, zv h0)]) (by first | (rw [zla_v, zla_0]; done) | (rw [zla_v, zla_0]; rfl)) (by rw [zsl_v, zsl_0]; exact Nat.le_of_ble_eq_true rfl) ?_
  intro p e R s m args below meth c D A n0 sz k F
  have F : ZF p R s m args meth c cX18_size 3 "SafeBuckets$Where" "size" (some .int) D A false sz 0 0 1 20 := F
  unfold f_X18_size
  refine Z.iconst F (v := (0 : Int32)) (by decide) dX18_size_0 ?_
  refine Z.istore_n F (L0 := [(0, zv h0)]) [0] rfl (zkR rfl zkN) (by decide) dX18_size_1 ?_
  refine Z.iconst F (v := (0 : Int32)) (by decide) dX18_size_2 ?_
  refine Z.istore_n F (L0 := [(1, .int (0 : Int32)), (0, zv h0)]) [0, 1] rfl (zkI rfl (zkR rfl zkN)) (by decide) dX18_size_3 ?_
  refine Z.sub [2, 1, 0] rfl ?_
  refine Z.w2 (Lf := fun p4l1 p4l2 => [(0, zv h0), (1, .int p4l1), (2, .int p4l2)]) (sf := fun p4l1 p4l2 => []) (fun r4 hr4 p4l1 p4l2 => ?_) (0 : Int32) (0 : Int32)
  refine Z.iload_n F 2 rfl dX18_size_4 ?_
  refine Z.aload_n F 0 rfl dX18_size_5 ?_
  refine gfX18_17 F dX18_size_6 (fun g6 => ?_)
  refine Z.icmp_ge F (tgt := 30) dX18_size_9 (by decide) ?_ ?_
  · refine Z.iload_n F 1 rfl dX18_size_30 ?_
    exact Z.iret F dX18_size_31
  refine Z.iload_n F 1 rfl dX18_size_12 ?_
  refine Z.aload_n F 0 rfl dX18_size_13 ?_
  refine gfX18_11 F dX18_size_14 (fun g14 => ?_)
  refine Z.iload_n F 2 rfl dX18_size_17 ?_
  refine Z.aald F (t := 12) (by decide) rfl rfl dX18_size_18 (fun g18 => ?_)
  refine clX18_49 F ⟨Nat.le_of_ble_eq_true rfl, Nat.le_of_ble_eq_true rfl⟩ (zlw4 (Nat.le_of_ble_eq_true rfl)) dX18_size_19 (fun r19 => ?_)
  refine Z.iadd F dX18_size_22 ?_
  refine Z.istore_n F (L0 := [(0, zv h0), (2, .int p4l2)]) [0, 2] rfl (zkR rfl (zkI rfl zkN)) (by decide) dX18_size_23 ?_
  refine Z.iinc F (L0 := [(1, .int (p4l1 + r19)), (0, zv h0)]) (k0 := 2) (v := (1 : Int32)) rfl (by decide) [0, 1] rfl (zkI rfl (zkR rfl zkN)) (by decide) dX18_size_24 ?_
  refine Z.goto F (tgt := 4) dX18_size_27 (by decide) ?_
  exact Z.sub [2, 1, 0] rfl (hr4 (p4l1 + r19) (p4l2 + (1 : Int32)))
set_option maxHeartbeats 4000000 in
theorem k_X20_of (l : Launch) (x0 : Int32) : ZCr' l yX20_of (ws_ yX20_of cX20_of 1 (some (.object "SafeBuckets$Sign"))) 0 0 0 0 false [.int x0] (f_X20_of x0) := by
  refine Z.metQ (by decide +kernel) (fun h => ⟨rfl, rfl⟩) (L0 := [(0, .int x0)]) (by first | (rw [zla_i, zla_0]; done) | (rw [zla_i, zla_0]; rfl)) (by rw [zsl_i, zsl_0]; exact Nat.le_of_ble_eq_true rfl) ?_
  intro p e R s m args below meth c D A n0 sz k F
  have F : ZF p R s m args meth c cX20_of 1 "SafeBuckets$Sign" "of" (some (.object "SafeBuckets$Sign")) D A false sz 0 0 0 0 := F
  unfold f_X20_of
  refine Z.iload_n F 0 rfl dX20_of_0 ?_
  refine Z.table F (tgts := [36, 32, 40, 44]) (tgt := 48) dX20_of_1 rfl (by decide) (by decide) (by decide) ?_ ?_
  · refine Z.null F dX20_of_48 ?_
    exact Z.aret F (Or.inl ⟨_, rfl⟩) dX20_of_49
  intro i9 P9 t9 e9 e8
  match i9, e9, e8 with
  | 0, e9, e8 =>
    cases e9; cases e8
    refine Z.gsign1 F q832 dX20_of_36 (fun g36 => ?_)
    exact Z.aret F (Or.inl ⟨_, rfl⟩) dX20_of_39
  | 1, e9, e8 =>
    cases e9; cases e8
    refine Z.gsign0 F q830 dX20_of_32 (fun g32 => ?_)
    exact Z.aret F (Or.inl ⟨_, rfl⟩) dX20_of_35
  | 2, e9, e8 =>
    cases e9; cases e8
    refine Z.gsign2 F q834 dX20_of_40 (fun g40 => ?_)
    exact Z.aret F (Or.inl ⟨_, rfl⟩) dX20_of_43
  | 3, e9, e8 =>
    cases e9; cases e8
    refine Z.gsign3 F q836 dX20_of_44 (fun g44 => ?_)
    exact Z.aret F (Or.inl ⟨_, rfl⟩) dX20_of_47
  | n + 4, e9, e8 => simp at e9
theorem pfX21_9 (F : ZF p R s m args meth c cc nL "SafeBuckets$Unit" "<init>" ret D A al sz mc ms fr lo) {z : Nat} {u : Int32} (hdg : decode cc pc = .ok (.putfield 9, 3)) (k : ZW p l e R s m args below meth c Q nL D A al n0 P (pc + 3) L st) : ZW p l e R s m args below meth c Q nL D A al n0 (zpI 16 z 0 u P) pc L (.int u :: zv z :: st) :=
  Z.putIF F (ref := "SafeBuckets$Unit") in_X21 (ci := 15) rfl (by decide) (kf := 0) (by decide) q844 (fun _ h => h) tyX21 tyX21_ok nmX21 rfl rfl rfl rfl rfl hdg k
theorem pfX21_15 (F : ZF p R s m args meth c cc nL "SafeBuckets$Unit" "<init>" ret D A al sz mc ms fr lo) {z : Nat} {u : Nat} (hdg : decode cc pc = .ok (.putfield 15, 3)) (k : ZW p l e R s m args below meth c Q nL D A al n0 P (pc + 3) L st) : ZW p l e R s m args below meth c Q nL D A al n0 (zpR 16 z 2 u P) pc L (zv u :: zv z :: st) :=
  Z.putRF F (ref := "SafeBuckets$Unit") in_X21 (ci := 15) rfl (by decide) (kf := 2) (by decide) q846 (fun _ h => h) tyX21 tyX21_ok nmX21 rfl rfl rfl (ty := .object _) (fun u => zv_nar u) (fun u => zv_fit u) rfl rfl hdg k
theorem pfX21_19 (F : ZF p R s m args meth c cc nL "SafeBuckets$Unit" "<init>" ret D A al sz mc ms fr lo) {z : Nat} {u : Int32} (hdg : decode cc pc = .ok (.putfield 19, 3)) (k : ZW p l e R s m args below meth c Q nL D A al n0 P (pc + 3) L st) : ZW p l e R s m args below meth c Q nL D A al n0 (zpI 16 z 1 u P) pc L (.int u :: zv z :: st) :=
  Z.putIF F (ref := "SafeBuckets$Unit") in_X21 (ci := 15) rfl (by decide) (kf := 1) (by decide) q845 (fun _ h => h) tyX21 tyX21_ok nmX21 rfl rfl rfl rfl rfl hdg k
set_option maxHeartbeats 4000000 in
theorem k_X21_init (l : Launch) (h0 : Nat) (x1 : Int32) (h2 : Nat) (x3 : Int32) : ZCv l yX21_init (ws_ yX21_init cX21_init 4 none) 1 20 0 0 false [zv h0, .int x1, zv h2, .int x3] (f_X21_init h0 x1 h2 x3) := by
  refine Z.metV (by decide +kernel) (fun h => ⟨rfl, rfl⟩) (L0 := [(0, zv h0), (1, .int x1), (2, zv h2), (3, .int x3)]) (by first | (rw [zla_v, zla_i, zla_v, zla_i, zla_0]; done) | (rw [zla_v, zla_i, zla_v, zla_i, zla_0]; rfl)) (by rw [zsl_v, zsl_i, zsl_v, zsl_i, zsl_0]; exact Nat.le_of_ble_eq_true rfl) ?_
  intro p e R s m args below meth c D A n0 sz k F
  have F : ZF p R s m args meth c cX21_init 4 "SafeBuckets$Unit" "<init>" none D A false sz 0 0 1 20 := F
  unfold f_X21_init
  refine Z.aload_n F 0 rfl dX21_init_0 ?_
  refine Z.objI F q843 (Nat.le_of_ble_eq_true rfl) (Nat.le_of_ble_eq_true rfl) (zlw4 (Nat.le_of_ble_eq_true rfl)) dX21_init_1 ?_
  refine Z.aload_n F 0 rfl dX21_init_4 ?_
  refine Z.iload_n F 1 rfl dX21_init_5 ?_
  refine pfX21_9 F dX21_init_6 ?_
  refine Z.aload_n F 0 rfl dX21_init_9 ?_
  refine Z.aload_n F 2 rfl dX21_init_10 ?_
  refine pfX21_15 F dX21_init_11 ?_
  refine Z.aload_n F 0 rfl dX21_init_14 ?_
  refine Z.iload_n F 3 rfl dX21_init_15 ?_
  refine pfX21_19 F dX21_init_16 ?_
  exact Z.vret F dX21_init_19
theorem clX10_117 (F : ZF p R s m args meth c cc nL "SafeBuckets$Reader" nm ret D A al sz mc ms fr lo) {x0 : Int32} {K : Nat → ZM → Prop} (hR : 0 + 1 ≤ fr ∧ 8 + (1 + 11) + 0 ≤ lo) (hst4 : zlw st) (hdg : decode cc pc = .ok (.invokestatic 117, 3)) (k : ∀ r, ZW p l e R s m args below meth c Q nL D A al n0 (K r) (pc + 3) L (zv r :: st)) : ZW p l e R s m args below meth c Q nL D A al n0 (f_X20_of x0 K) pc L (.int x0 :: st) :=
  Z.rq0 _ (fun μ H locs cells slots ls hI h hP => Z.S0 F hI (n := 1) hP (k_X20_of l x0 D A (zX μ, zC μ, zS μ) H.size K μ) q827 q828 q144 q829 (by decide +kernel) rfl h.1 hst4 hR rfl hdg) k
theorem gfX10_123 (F : ZF p R s m args meth c cc nL "SafeBuckets$Reader" nm ret D A al sz mc ms fr lo) {z : Nat} {K : Nat → ZM → Prop} (hdg : decode cc pc = .ok (.getfield 123, 3)) (k : ∀ u, ZW p l e R s m args below meth c Q nL D A al n0 (K u) (pc + 3) L (zv u :: st)) : ZW p l e R s m args below meth c Q nL D A al n0 (zgR 15 z 0 K) pc L (zv z :: st) :=
  Z.getRN F (ref := "SafeBuckets$Term") in_X19 (ci := 14) rfl (by decide) (kf := 0) (by decide) (host := "SafeBuckets") (List.mem_of_getElem? (i := 27) rfl) (fun _ h => h) rfl hdg k
theorem gfX10_129 (F : ZF p R s m args meth c cc nL "SafeBuckets$Reader" nm ret D A al sz mc ms fr lo) {z : Nat} {K : Int32 → ZM → Prop} (hdg : decode cc pc = .ok (.getfield 129, 3)) (k : ∀ u, ZW p l e R s m args below meth c Q nL D A al n0 (K u) (pc + 3) L (.int u :: st)) : ZW p l e R s m args below meth c Q nL D A al n0 (zgI 15 z 1 K) pc L (zv z :: st) :=
  Z.getIN F (ref := "SafeBuckets$Term") in_X19 (ci := 14) rfl (by decide) (kf := 1) (by decide) (host := "SafeBuckets") (List.mem_of_getElem? (i := 28) rfl) (fun _ h => h) rfl hdg k
theorem clX10_134 (F : ZF p R s m args meth c cc nL "SafeBuckets$Reader" nm ret D A al sz mc ms fr lo) {h0 : Nat} {x1 : Int32} {h2 : Nat} {x3 : Int32} {K : ZM → Prop} (hR : 1 + 1 ≤ fr ∧ 8 + (4 + 11) + 20 ≤ lo) (hst4 : zlw st) (hdg : decode cc pc = .ok (.invokespecial 134, 3)) (k : ZW p l e R s m args below meth c Q nL D A al n0 K (pc + 3) L st) : ZW p l e R s m args below meth c Q nL D A al n0 (zat 16 h0 (f_X21_init h0 x1 h2 x3 K)) pc L (.int x3 :: zv h2 :: .int x1 :: zv h0 :: st) :=
  Z.rv0 _ (fun μ H locs cells slots ls hI h hP => Z.I0 F hI (n := 3) (ci := 15) rfl (by decide) hP.1 hP.2 (k_X21_init l h0 x1 h2 x3 D A (zX μ, zC μ, zS μ) H.size K μ) rfl q840 q841 q145 q842 (by decide +kernel) rfl h.1 hst4 hR rfl hdg) k
theorem pfX10_129 (F : ZF p R s m args meth c cc nL "SafeBuckets$Reader" nm ret D A al sz mc ms fr lo) {z : Nat} {u : Int32} (hdg : decode cc pc = .ok (.putfield 129, 3)) (k : ZW p l e R s m args below meth c Q nL D A al n0 P (pc + 3) L st) : ZW p l e R s m args below meth c Q nL D A al n0 (zpI 15 z 1 u P) pc L (.int u :: zv z :: st) :=
  Z.putIN F (ref := "SafeBuckets$Term") in_X19 (ci := 14) rfl (by decide) (kf := 1) (by decide) (host := "SafeBuckets") (List.mem_of_getElem? (i := 28) rfl) (fun _ h => h) tyX19 tyX19_ok nmX19 rfl rfl rfl hdg k
theorem clX10_112 (F : ZF p R s m args meth c cc nL "SafeBuckets$Reader" nm ret D A al sz mc ms fr lo) {h0 : Nat} {K : Int32 → ZM → Prop} (hR : 1 + 1 ≤ fr ∧ 8 + (3 + 11) + 20 ≤ lo) (hst4 : zlw st) (hdg : decode cc pc = .ok (.invokevirtual 112, 3)) (k : ∀ r, ZW p l e R s m args below meth c Q nL D A al n0 (K r) (pc + 3) L (.int r :: st)) : ZW p l e R s m args below meth c Q nL D A al n0 (zat 14 h0 (f_X18_size h0 K)) pc L (zv h0 :: st) :=
  Z.ri0 _ (fun μ H locs cells slots ls hI h hP => Z.V0 F hI (n := 0) (ci := 13) rfl (by decide) hP.1 hP.2 (k_X18_size l h0 D A (zX μ, zC μ, zS μ) H.size K μ) q819 q820 q821 q141 q822 (by decide +kernel) rfl h.1 hst4 hR rfl hdg) k
set_option maxHeartbeats 4000000 in
theorem k_X10_unit (l : Launch) (h0 : Nat) (h1 : Nat) (h2 : Nat) : ZCvx l yX10_unit (ws_ yX10_unit cX10_unit 6 none) 6 134 11 73 true "SafeBuckets$Wrong" [zv h0, zv h1, zv h2] (fun k kx => f_X10_unit h0 h1 h2 kx k) := by
  refine Z.metVx (by decide +kernel) (fun h => by cases h) (L0 := [(0, zv h0), (1, zv h1), (2, zv h2)]) (by first | (rw [zla_v, zla_v, zla_v, zla_0]; done) | (rw [zla_v, zla_v, zla_v, zla_0]; rfl)) (by rw [zsl_v, zsl_v, zsl_v, zsl_0]; exact Nat.le_of_ble_eq_true rfl) ?_
  intro p e R s m args below meth c D A n0 sz k kx F htb
  have F : ZF p R s m args meth c cX10_unit 6 "SafeBuckets$Reader" "unit" none D A true sz 11 73 6 134 := F
  show ZW p l e R s m args below meth c _ _ D A _ _ (f_X10_unit h0 h1 h2 kx k) _ _ _
  unfold f_X10_unit
  refine Z.aload_n F 0 rfl dX10_unit_0 ?_
  refine clX10_31 F ⟨Nat.le_of_ble_eq_true rfl, Nat.le_of_ble_eq_true rfl⟩ (zlw4 (Nat.le_of_ble_eq_true rfl)) dX10_unit_1 (fun r1 => ?_)
  refine Z.istore_n F (L0 := [(0, zv h0), (1, zv h1), (2, zv h2)]) [0, 1, 2] rfl (zkR rfl (zkR rfl (zkR rfl zkN))) (by decide) dX10_unit_4 ?_
  refine Z.aload_n F 1 rfl dX10_unit_5 ?_
  refine Z.iload_n F 0 rfl dX10_unit_6 ?_
  refine Z.bipush F (v := (97 : Int32)) (by decide) dX10_unit_7 ?_
  refine Z.jn1 (J := _) (fun p32s1 => [(0, zv h0), (2, zv h2)]) (fun p32s1 => [.int p32s1, zv h0]) 32 (fun p32s1 => ?_) (fun j32 hj32 => ?_)
  · refine clX10_39 F ⟨Nat.le_of_ble_eq_true rfl, Nat.le_of_ble_eq_true rfl⟩ (zlw4 (Nat.le_of_ble_eq_true rfl)) dX10_unit_32 (Z.out F (by rw [htb]; exact fun _ h => by cases h)) (fun r32 => ?_)
    refine Z.bipush F (v := (97 : Int32)) (by decide) dX10_unit_35 ?_
    refine Z.isub F dX10_unit_37 ?_
    refine Z.istore F (L0 := [(0, zv h0), (2, zv h2)]) [0, 1] rfl (zkR rfl (zkR rfl zkN)) (by decide) dX10_unit_38 ?_
    refine Z.aload_n F 1 rfl dX10_unit_40 ?_
    refine clX10_31 F ⟨Nat.le_of_ble_eq_true rfl, Nat.le_of_ble_eq_true rfl⟩ (zlw4 (Nat.le_of_ble_eq_true rfl)) dX10_unit_41 (fun r41 => ?_)
    refine clX10_117 F ⟨Nat.le_of_ble_eq_true rfl, Nat.le_of_ble_eq_true rfl⟩ (zlw4 (Nat.le_of_ble_eq_true rfl)) dX10_unit_44 (fun r44 => ?_)
    refine Z.astore F (L0 := [(4, .int (r32 - (97 : Int32))), (0, zv h0), (2, zv h2)]) [0, 1, 2] rfl (zkI rfl (zkR rfl (zkR rfl zkN))) (by decide) dX10_unit_47 ?_
    refine Z.aload_n F 2 rfl dX10_unit_49 ?_
    refine Z.aload F 0 rfl dX10_unit_50 ?_
    refine Z.jn1 (J := _) (fun p60s1 => [(0, zv h0), (2, zv h2), (4, .int (r32 - (97 : Int32))), (5, zv r44)]) (fun p60s1 => [.int p60s1, zv h0]) 60 (fun p60s1 => ?_) (fun j60 hj60 => ?_)
    · refine clX10_39 F ⟨Nat.le_of_ble_eq_true rfl, Nat.le_of_ble_eq_true rfl⟩ (zlw4 (Nat.le_of_ble_eq_true rfl)) dX10_unit_60 (Z.out F (by rw [htb]; exact fun _ h => by cases h)) (fun r60 => ?_)
      refine Z.istore_n F (L0 := [(0, zv h0), (2, zv h2), (4, .int (r32 - (97 : Int32))), (5, zv r44)]) [0, 1, 2, 3] rfl (zkR rfl (zkR rfl (zkI rfl (zkR rfl zkN)))) (by decide) dX10_unit_63 ?_
      refine Z.aload_n F 2 rfl dX10_unit_64 ?_
      refine gfX10_123 F dX10_unit_65 (fun g65 => ?_)
      refine Z.aload_n F 2 rfl dX10_unit_68 ?_
      refine gfX10_129 F dX10_unit_69 (fun g69 => ?_)
      refine Z.newO F in_X21 tyX21 tyX21_ok (ci := 15) rfl (by decide) q838 q839 q145 df_X21 dX10_unit_72 (fun n72 => ?_)
      refine Z.dup F dX10_unit_75 ?_
      refine Z.iload F 3 rfl dX10_unit_76 ?_
      refine Z.aload F 4 rfl dX10_unit_78 ?_
      refine Z.aload F 4 rfl dX10_unit_80 ?_
      refine Z.jn1 (J := _) (fun g82 => [(3, .int r60), (0, zv h0), (2, zv h2), (4, .int (r32 - (97 : Int32))), (5, zv r44)]) (fun g82 => [.int g82, zv r44, .int (r32 - (97 : Int32)), zv n72, zv n72, .int g69, zv g65]) 85 (fun g82 => ?_) (fun j82g hj82g => ?_)
      · refine Z.iconst F (v := (3 : Int32)) (by decide) dX10_unit_85 ?_
        refine Z.jn1 (J := _) (fun p98s6 => [(2, zv h2)]) (fun p98s6 => [.int p98s6, zv r44, .int (r32 - (97 : Int32)), zv n72, zv n72, .int g69, zv g65]) 98 (fun p98s6 => ?_) (fun j98 hj98 => ?_)
        · refine clX10_134 F ⟨Nat.le_of_ble_eq_true rfl, Nat.le_of_ble_eq_true rfl⟩ (zlw4 (Nat.le_of_ble_eq_true rfl)) dX10_unit_98 ?_
          refine Z.aast F (t := 13) (ci := 15) (by decide) rfl rfl (by decide) dX10_unit_101 ?_
          refine Z.aload_n F 0 rfl dX10_unit_102 ?_
          refine Z.dup F dX10_unit_103 ?_
          refine gfX10_129 F dX10_unit_104 (fun g104 => ?_)
          refine Z.iconst F (v := (1 : Int32)) (by decide) dX10_unit_107 ?_
          refine Z.iadd F dX10_unit_108 ?_
          refine pfX10_129 F dX10_unit_109 ?_
          exact Z.retx (Z.vret F dX10_unit_112)
        refine Z.icmp_ne F (tgt := 93) dX10_unit_86 (by decide) ?_ ?_
        · refine Z.aload_n F 1 rfl dX10_unit_93 ?_
          refine Z.iconst F (v := (2 : Int32)) (by decide) dX10_unit_94 ?_
          refine clX10_63 F ⟨Nat.le_of_ble_eq_true rfl, Nat.le_of_ble_eq_true rfl⟩ (by simp [zlw, zvcat, zicat, zlcat]) dX10_unit_95 (Z.out F (by rw [htb]; exact fun _ h => by cases h)) (fun r95 => ?_)
          exact Z.sub [2] rfl (hj98 r95)
        refine Z.iconst F (v := (0 : Int32)) (by decide) dX10_unit_89 ?_
        refine Z.goto F (tgt := 98) dX10_unit_90 (by decide) ?_
        exact Z.sub [2] rfl (hj98 (0 : Int32))
      exact Z.sgn F (hlink := List.mem_of_getElem? (i := 29) rfl) dX10_unit_82 hj82g
    refine Z.ifnull F (tgt := 59) dX10_unit_52 (by decide) ?_ ?_
    · refine Z.iconst F (v := (0 : Int32)) (by decide) dX10_unit_59 ?_
      exact Z.sub [2, 3, 1, 0] rfl (hj60 (0 : Int32))
    refine Z.iconst F (v := (1 : Int32)) (by decide) dX10_unit_55 ?_
    refine Z.goto F (tgt := 60) dX10_unit_56 (by decide) ?_
    exact Z.sub [2, 3, 1, 0] rfl (hj60 (1 : Int32))
  refine Z.jn0 (J := _) ([(0, zv h0), (2, zv h2)]) ([zv h0]) 31 (?_) (fun j31 hj31 => ?_)
  · refine Z.iconst F (v := (0 : Int32)) (by decide) dX10_unit_31 ?_
    exact Z.sub [0, 1] rfl (hj32 (0 : Int32))
  refine Z.jn0 (J := _) ([(0, zv h0), (1, zv h1), (2, zv h2)]) ([zv h0]) 18 (?_) (fun j18 hj18 => ?_)
  · refine Z.aload_n F 1 rfl dX10_unit_18 ?_
    refine clX10_112 F ⟨Nat.le_of_ble_eq_true rfl, Nat.le_of_ble_eq_true rfl⟩ (zlw4 (Nat.le_of_ble_eq_true rfl)) dX10_unit_19 (fun r19 => ?_)
    refine Z.bipush F (v := (6 : Int32)) (by decide) dX10_unit_22 ?_
    refine Z.icmp_ge F (tgt := 31) dX10_unit_24 (by decide) ?_ ?_
    · exact Z.sub [0, 2] rfl (hj31)
    refine Z.iconst F (v := (1 : Int32)) (by decide) dX10_unit_27 ?_
    refine Z.goto F (tgt := 32) dX10_unit_28 (by decide) ?_
    exact Z.sub [0, 2] rfl (hj32 (1 : Int32))
  refine Z.icmp_eq F (tgt := 18) dX10_unit_9 (by decide) ?_ ?_
  · exact Z.sub [1, 2, 3] rfl (hj18)
  refine Z.iload_n F 0 rfl dX10_unit_12 ?_
  refine Z.bipush F (v := (98 : Int32)) (by decide) dX10_unit_13 ?_
  refine Z.icmp_ne F (tgt := 31) dX10_unit_15 (by decide) ?_ ?_
  · exact Z.sub [1, 3] rfl (hj31)
  exact Z.sub [1, 2, 3] rfl (hj18)
theorem clX10_137 (F : ZF p R s m args meth c cc nL "SafeBuckets$Reader" nm ret D A true sz mc ms fr lo) {h0 : Nat} {K : ZM → Prop} (hR : 1 + 1 ≤ fr ∧ 8 + (1 + 11) + 20 ≤ lo) (hst4 : zlw st) (hdg : decode cc pc = .ok (.invokespecial 137, 3)) (k : ZW p l e R s m args below meth c Q nL D A true n0 K (pc + 3) L st) : ZW p l e R s m args below meth c Q nL D A true n0 (zat 14 h0 (zclv 1 6 (f_X18_init h0) K)) pc L (zv h0 :: st) :=
  Z.rv1 _ (fun μ H locs cells slots ls hI h hP => ⟨hP.2.1, hP.2.2.1, Z.IN1 F hI (n := 0) (ci := 13) rfl (by decide) hP.1 hP.2.1 hP.2.2.1 hP.2.2.2 (k_X18_init l h0 D A (0, 0, 0) 0 (fun μ' => K (zcs μ' (zC μ - 1) (zS μ - 6))) (zcs μ 1 6)) rfl (List.mem_of_getElem? (i := 10) rfl) q776 q141 q777 (by decide +kernel) rfl h.1 hst4 hR rfl hdg⟩) k
theorem clX10_138 (F : ZF p R s m args meth c cc nL "SafeBuckets$Reader" nm ret D A true sz mc ms fr lo) {h0 : Nat} {K : ZM → Prop} (hR : 1 + 1 ≤ fr ∧ 8 + (1 + 11) + 20 ≤ lo) (hst4 : zlw st) (hdg : decode cc pc = .ok (.invokespecial 138, 3)) (k : ZW p l e R s m args below meth c Q nL D A true n0 K (pc + 3) L st) : ZW p l e R s m args below meth c Q nL D A true n0 (zat 15 h0 (zclv 1 6 (f_X19_init h0) K)) pc L (zv h0 :: st) :=
  Z.rv1 _ (fun μ H locs cells slots ls hI h hP => ⟨hP.2.1, hP.2.2.1, Z.IN1 F hI (n := 0) (ci := 14) rfl (by decide) hP.1 hP.2.1 hP.2.2.1 hP.2.2.2 (k_X19_init l h0 D A (0, 0, 0) 0 (fun μ' => K (zcs μ' (zC μ - 1) (zS μ - 6))) (zcs μ 1 6)) rfl (List.mem_of_getElem? (i := 11) rfl) q795 q142 q796 (by decide +kernel) rfl h.1 hst4 hR rfl hdg⟩) k
theorem gfX10_139 (F : ZF p R s m args meth c cc nL "SafeBuckets$Reader" nm ret D A al sz mc ms fr lo) {z : Nat} {K : Int32 → ZM → Prop} (hdg : decode cc pc = .ok (.getfield 139, 3)) (k : ∀ u, ZW p l e R s m args below meth c Q nL D A al n0 (K u) (pc + 3) L (.int u :: st)) : ZW p l e R s m args below meth c Q nL D A al n0 (zgI 14 z 1 K) pc L (zv z :: st) :=
  Z.getIN F (ref := "SafeBuckets$Where") in_X18 (ci := 13) rfl (by decide) (kf := 1) (by decide) (host := "SafeBuckets") (List.mem_of_getElem? (i := 30) rfl) (fun _ h => h) rfl hdg k
theorem gfX10_143 (F : ZF p R s m args meth c cc nL "SafeBuckets$Reader" nm ret D A al sz mc ms fr lo) {z : Nat} {K : Nat → ZM → Prop} (hdg : decode cc pc = .ok (.getfield 143, 3)) (k : ∀ u, ZW p l e R s m args below meth c Q nL D A al n0 (K u) (pc + 3) L (zv u :: st)) : ZW p l e R s m args below meth c Q nL D A al n0 (zgR 14 z 0 K) pc L (zv z :: st) :=
  Z.getRN F (ref := "SafeBuckets$Where") in_X18 (ci := 13) rfl (by decide) (kf := 0) (by decide) (host := "SafeBuckets") (List.mem_of_getElem? (i := 31) rfl) (fun _ h => h) rfl hdg k
theorem pfX10_139 (F : ZF p R s m args meth c cc nL "SafeBuckets$Reader" nm ret D A al sz mc ms fr lo) {z : Nat} {u : Int32} (hdg : decode cc pc = .ok (.putfield 139, 3)) (k : ZW p l e R s m args below meth c Q nL D A al n0 P (pc + 3) L st) : ZW p l e R s m args below meth c Q nL D A al n0 (zpI 14 z 1 u P) pc L (.int u :: zv z :: st) :=
  Z.putIN F (ref := "SafeBuckets$Where") in_X18 (ci := 13) rfl (by decide) (kf := 1) (by decide) (host := "SafeBuckets") (List.mem_of_getElem? (i := 30) rfl) (fun _ h => h) tyX18 tyX18_ok nmX18 rfl rfl rfl hdg k
theorem clX10_147 (F : ZF p R s m args meth c cc nL "SafeBuckets$Reader" nm ret D A true sz mc ms fr lo) {h0 : Nat} {h1 : Nat} {h2 : Nat} {K : ZM → Prop} {Kx : Nat → ZM → Prop} (hR : 6 + 1 ≤ fr ∧ 8 + (6 + 11) + 134 ≤ lo) (hst4 : zlw st) (hdg : decode cc pc = .ok (.invokevirtual 147, 3)) (kx : ZX p l e R s m args below meth c Q nL D A true n0 "SafeBuckets$Wrong" Kx pc L) (k : ZW p l e R s m args below meth c Q nL D A true n0 K (pc + 3) L st) : ZW p l e R s m args below meth c Q nL D A true n0 (zat 8 h0 (zclvx' 11 73 (fun k kx => f_X10_unit h0 h1 h2 kx k) Kx K)) pc L (zv h2 :: zv h1 :: zv h0 :: st) :=
  Z.xv1 (fun μ H locs cells slots ls hI h hP => ⟨hP.2.1, hP.2.2.1, Z.Vx1 F hI (n := 2) (ci := 7) rfl (by decide) hP.1 hP.2.1 hP.2.2.1 hP.2.2.2 (k_X10_unit l h0 h1 h2 D A (0, 0, 0) 0 (fun μ' => K (zcs μ' (zC μ - 11) (zS μ - 73))) (fun r μ' => Kx r (zcs μ' (zC μ - 11) (zS μ - 73))) (zcs μ 11 73)) q815 q817 qs10 q127 q818 (by decide +kernel) rfl h.1 hst4 hR rfl hdg⟩) kx k
theorem clX10_140 (F : ZF p R s m args meth c cc nL "SafeBuckets$Reader" nm ret D A al sz mc ms fr lo) {h0 : Nat} {K : Int32 → ZM → Prop} (hR : 1 + 1 ≤ fr ∧ 8 + (2 + 11) + 20 ≤ lo) (hst4 : zlw st) (hdg : decode cc pc = .ok (.invokevirtual 140, 3)) (k : ∀ r, ZW p l e R s m args below meth c Q nL D A al n0 (K r) (pc + 3) L (.int r :: st)) : ZW p l e R s m args below meth c Q nL D A al n0 (zat 8 h0 (f_X10_peekAt h0 K)) pc L (zv h0 :: st) :=
  Z.ri0 _ (fun μ H locs cells slots ls hI h hP => Z.V0 F hI (n := 0) (ci := 7) rfl (by decide) hP.1 hP.2 (k_X10_peekAt l h0 D A (zX μ, zC μ, zS μ) H.size K μ) q811 q813 qs9 q127 q814 (by decide +kernel) rfl h.1 hst4 hR rfl hdg) k
set_option maxHeartbeats 4000000 in
theorem k_X10_where (l : Launch) (h0 : Nat) : ZCrx l yX10_where (ws_ yX10_where cX10_where 4 (some (.object "SafeBuckets$Where"))) 7 159 4000 25000 true "SafeBuckets$Wrong" [zv h0] (fun k kx => f_X10_where h0 kx k) := by
  refine Z.metQx (by decide +kernel) (fun h => by cases h) (L0 := [(0, zv h0)]) (by first | (rw [zla_v, zla_0]; done) | (rw [zla_v, zla_0]; rfl)) (by rw [zsl_v, zsl_0]; exact Nat.le_of_ble_eq_true rfl) ?_
  intro p e R s m args below meth c D A n0 sz k kx F htb
  have F : ZF p R s m args meth c cX10_where 4 "SafeBuckets$Reader" "where" (some (.object "SafeBuckets$Where")) D A true sz 4000 25000 7 159 := F
  show ZW p l e R s m args below meth c _ _ D A _ _ (f_X10_where h0 kx k) _ _ _
  unfold f_X10_where
  refine Z.newO F in_X18 tyX18 tyX18_ok (ci := 13) rfl (by decide) q773 q774 q141 df_X18 dX10_where_0 (fun n0 => ?_)
  refine Z.dup F dX10_where_3 ?_
  refine clX10_137 F ⟨Nat.le_of_ble_eq_true rfl, Nat.le_of_ble_eq_true rfl⟩ (zlw4 (Nat.le_of_ble_eq_true rfl)) dX10_where_4 ?_
  refine Z.astore_n F (L0 := [(0, zv h0)]) [0] rfl (zkR rfl zkN) (by decide) dX10_where_7 ?_
  refine Z.iconst F (v := (1 : Int32)) (by decide) dX10_where_8 ?_
  refine Z.istore_n F (L0 := [(1, zv n0), (0, zv h0)]) [0, 1] rfl (zkR rfl (zkR rfl zkN)) (by decide) dX10_where_9 ?_
  refine Z.jn0 (J := _) ([(0, zv h0), (1, zv n0)]) ([]) 129 (?_) (fun j129 hj129 => ?_)
  · refine Z.aload_n F 0 rfl dX10_where_129 ?_
    refine clX10_106 F ⟨Nat.le_of_ble_eq_true rfl, Nat.le_of_ble_eq_true rfl⟩ (zlw4 (Nat.le_of_ble_eq_true rfl)) dX10_where_130 (Z.out F (by rw [htb]; exact fun _ h => by cases h)) ?_
    refine Z.aload_n F 1 rfl dX10_where_133 ?_
    exact Z.retx (Z.aret F (Or.inl ⟨_, rfl⟩) dX10_where_134)
  refine Z.sub [2, 1, 0] rfl ?_
  refine Z.w1 (Lf := fun p10l2 => [(0, zv h0), (1, zv n0), (2, .int p10l2)]) (sf := fun p10l2 => []) (fun r10 hr10 p10l2 => ?_) (1 : Int32)
  refine Z.iload_n F 2 rfl dX10_where_10 ?_
  refine Z.if_eq F (tgt := 129) dX10_where_11 (by decide) ?_ ?_
  · exact Z.sub [0, 1] rfl (hj129)
  refine Z.newO F in_X19 tyX19 tyX19_ok (ci := 14) rfl (by decide) q792 q793 q142 df_X19 dX10_where_14 (fun n14 => ?_)
  refine Z.dup F dX10_where_17 ?_
  refine clX10_138 F ⟨Nat.le_of_ble_eq_true rfl, Nat.le_of_ble_eq_true rfl⟩ (zlw4 (Nat.le_of_ble_eq_true rfl)) dX10_where_18 ?_
  refine Z.astore_n F (L0 := [(0, zv h0), (1, zv n0), (2, .int p10l2)]) [0, 1, 2] rfl (zkR rfl (zkR rfl (zkI rfl zkN))) (by decide) dX10_where_21 ?_
  refine Z.aload_n F 2 rfl dX10_where_22 ?_
  refine gfX10_139 F dX10_where_23 (fun g23 => ?_)
  refine Z.bipush F (v := (6 : Int32)) (by decide) dX10_where_26 ?_
  refine Z.icmp_ne F (tgt := 43) dX10_where_28 (by decide) ?_ ?_
  · refine Z.aload_n F 2 rfl dX10_where_43 ?_
    refine gfX10_143 F dX10_where_44 (fun g44 => ?_)
    refine Z.aload_n F 2 rfl dX10_where_47 ?_
    refine gfX10_139 F dX10_where_48 (fun g48 => ?_)
    refine Z.aload_n F 0 rfl dX10_where_51 ?_
    refine Z.aast F (t := 12) (ci := 14) (by decide) rfl rfl (by decide) dX10_where_52 ?_
    refine Z.aload_n F 2 rfl dX10_where_53 ?_
    refine Z.dup F dX10_where_54 ?_
    refine gfX10_139 F dX10_where_55 (fun g55 => ?_)
    refine Z.iconst F (v := (1 : Int32)) (by decide) dX10_where_58 ?_
    refine Z.iadd F dX10_where_59 ?_
    refine pfX10_139 F dX10_where_60 ?_
    refine Z.aload_n F 1 rfl dX10_where_63 ?_
    refine Z.aload_n F 2 rfl dX10_where_64 ?_
    refine Z.aload_n F 0 rfl dX10_where_65 ?_
    refine clX10_147 F ⟨Nat.le_of_ble_eq_true rfl, Nat.le_of_ble_eq_true rfl⟩ (zlw4 (Nat.le_of_ble_eq_true rfl)) dX10_where_66 (Z.out F (by rw [htb]; exact fun _ h => by cases h)) ?_
    refine Z.jn0 (J := _) ([(0, zv h0), (1, zv n0)]) ([]) 97 (?_) (fun j97 hj97 => ?_)
    · refine Z.aload_n F 0 rfl dX10_where_97 ?_
      refine clX10_31 F ⟨Nat.le_of_ble_eq_true rfl, Nat.le_of_ble_eq_true rfl⟩ (zlw4 (Nat.le_of_ble_eq_true rfl)) dX10_where_98 (fun r98 => ?_)
      refine Z.bipush F (v := (124 : Int32)) (by decide) dX10_where_101 ?_
      refine Z.jn1 (J := _) (fun p111s0 => [(0, zv h0), (1, zv n0)]) (fun p111s0 => [.int p111s0]) 111 (fun p111s0 => ?_) (fun j111 hj111 => ?_)
      · refine Z.istore_n F (L0 := [(0, zv h0), (1, zv n0)]) [0, 1] rfl (zkR rfl (zkR rfl zkN)) (by decide) dX10_where_111 ?_
        refine Z.iload_n F 0 rfl dX10_where_112 ?_
        refine Z.jn0 (J := _) ([(0, zv h0), (1, zv n0), (2, .int p111s0)]) ([]) 126 (?_) (fun j126 hj126 => ?_)
        · refine Z.goto F (tgt := 10) dX10_where_126 (by decide) ?_
          exact Z.sub [0, 1, 2] rfl (hr10 p111s0)
        refine Z.if_eq F (tgt := 126) dX10_where_113 (by decide) ?_ ?_
        · exact Z.sub [1, 2, 0] rfl (hj126)
        refine Z.aload_n F 1 rfl dX10_where_116 ?_
        refine Z.dup F dX10_where_117 ?_
        refine gfX10_15 F dX10_where_118 (fun g118 => ?_)
        refine Z.iconst F (v := (1 : Int32)) (by decide) dX10_where_121 ?_
        refine Z.iadd F dX10_where_122 ?_
        refine pfX10_15 F dX10_where_123 ?_
        exact Z.sub [1, 2, 0] rfl (hj126)
      refine Z.icmp_ne F (tgt := 110) dX10_where_103 (by decide) ?_ ?_
      · refine Z.iconst F (v := (0 : Int32)) (by decide) dX10_where_110 ?_
        exact Z.sub [0, 1] rfl (hj111 (0 : Int32))
      refine Z.iconst F (v := (1 : Int32)) (by decide) dX10_where_106 ?_
      refine Z.goto F (tgt := 111) dX10_where_107 (by decide) ?_
      exact Z.sub [0, 1] rfl (hj111 (1 : Int32))
    refine Z.sub [1, 2, 0] rfl ?_
    refine Z.w0 (Lf := [(0, zv h0), (1, zv n0), (3, zv n14)]) (sf := []) (fun r69 hr69 => ?_) 
    refine Z.aload_n F 0 rfl dX10_where_69 ?_
    refine clX10_31 F ⟨Nat.le_of_ble_eq_true rfl, Nat.le_of_ble_eq_true rfl⟩ (zlw4 (Nat.le_of_ble_eq_true rfl)) dX10_where_70 (fun r70 => ?_)
    refine Z.bipush F (v := (38 : Int32)) (by decide) dX10_where_73 ?_
    refine Z.icmp_ne F (tgt := 97) dX10_where_75 (by decide) ?_ ?_
    · exact Z.sub [0, 1] rfl (hj97)
    refine Z.aload_n F 0 rfl dX10_where_78 ?_
    refine Z.dup F dX10_where_79 ?_
    refine gfX10_15 F dX10_where_80 (fun g80 => ?_)
    refine Z.iconst F (v := (1 : Int32)) (by decide) dX10_where_83 ?_
    refine Z.iadd F dX10_where_84 ?_
    refine pfX10_15 F dX10_where_85 ?_
    refine Z.aload_n F 0 rfl dX10_where_88 ?_
    refine Z.aload_n F 1 rfl dX10_where_89 ?_
    refine Z.aload_n F 2 rfl dX10_where_90 ?_
    refine clX10_147 F ⟨Nat.le_of_ble_eq_true rfl, Nat.le_of_ble_eq_true rfl⟩ (zlw4 (Nat.le_of_ble_eq_true rfl)) dX10_where_91 (Z.out F (by rw [htb]; exact fun _ h => by cases h)) ?_
    refine Z.goto F (tgt := 69) dX10_where_94 (by decide) ?_
    exact Z.sub [0, 1, 2] rfl (hr69)
  refine Z.newO F in_X12 tyX12 tyX12_ok (ci := 9) rfl (by decide) q552 q553 q129 df_X12 dX10_where_31 (fun n31 => ?_)
  refine Z.dup F dX10_where_34 ?_
  refine Z.aload_n F 1 rfl dX10_where_35 ?_
  refine clX10_140 F ⟨Nat.le_of_ble_eq_true rfl, Nat.le_of_ble_eq_true rfl⟩ (zlw4 (Nat.le_of_ble_eq_true rfl)) dX10_where_36 (fun r36 => ?_)
  refine clX10_28 F ⟨Nat.le_of_ble_eq_true rfl, Nat.le_of_ble_eq_true rfl⟩ (zlw4 (Nat.le_of_ble_eq_true rfl)) dX10_where_39 ?_
  exact Z.athrow F (ci := 9) rfl (by decide) dX10_where_42 (Z.out F (by rw [htb]; exact fun _ h => by cases h))
theorem clX1_97 (F : ZF p R s m args meth c cc nL "SafeBuckets" nm ret D A al sz mc ms fr lo) {x0 : Int64} {x2 : Int64} {x4 : Int64} {K : Int32 → ZM → Prop} (hR : 0 + 1 ≤ fr ∧ 8 + (6 + 11) + 0 ≤ lo) (hst4 : zlw st) (hdg : decode cc pc = .ok (.invokestatic 97, 3)) (k : ∀ r, ZW p l e R s m args below meth c Q nL D A al n0 (K r) (pc + 3) L (.int r :: st)) : ZW p l e R s m args below meth c Q nL D A al n0 (f_X1_isIn x0 x2 x4 K) pc L (.long x4 :: .long x2 :: .long x0 :: st) :=
  Z.ri0 _ (fun μ H locs cells slots ls hI h hP => Z.S0 F hI (n := 3) hP (k_X1_isIn l x0 x2 x4 D A (zX μ, zC μ, zS μ) H.size K μ) q482 q483 q116 q484 (by decide +kernel) rfl h.1 hst4 hR rfl hdg) k
theorem clX1_103 (F : ZF p R s m args meth c cc nL "SafeBuckets" nm ret D A al sz mc ms fr lo) {h0 : Nat} {h1 : Nat} {K : ZM → Prop} (hR : 1 + 1 ≤ fr ∧ 8 + (2 + 11) + 20 ≤ lo) (hst4 : zlw st) (hdg : decode cc pc = .ok (.invokespecial 103, 3)) (k : ZW p l e R s m args below meth c Q nL D A al n0 K (pc + 3) L st) : ZW p l e R s m args below meth c Q nL D A al n0 (zat 8 h0 (f_X10_init h0 h1 K)) pc L (zv h1 :: zv h0 :: st) :=
  Z.rv0 _ (fun μ H locs cells slots ls hI h hP => Z.IN0 F hI (n := 1) (ci := 7) rfl (by decide) hP.1 hP.2 (k_X10_init l h0 h1 D A (zX μ, zC μ, zS μ) H.size K μ) rfl (List.mem_of_getElem? (i := 2) rfl) q488 q127 q489 (by decide +kernel) rfl h.1 hst4 hR rfl hdg) k
theorem gfX1_120 (F : ZF p R s m args meth c cc nL "SafeBuckets" nm ret D A al sz mc ms fr lo) {z : Nat} {K : Int32 → ZM → Prop} (hdg : decode cc pc = .ok (.getfield 120, 3)) (k : ∀ u, ZW p l e R s m args below meth c Q nL D A al n0 (K u) (pc + 3) L (.int u :: st)) : ZW p l e R s m args below meth c Q nL D A al n0 (zgI 10 z 6 K) pc L (zv z :: st) :=
  Z.getIN F (ref := "SafeBuckets$Wrong") in_X12 (ci := 9) rfl (by decide) (kf := 6) (by decide) (host := "SafeBuckets") (List.mem_of_getElem? (i := 0) rfl) (fun _ h => h) rfl hdg k
theorem clX1_110 (F : ZF p R s m args meth c cc nL "SafeBuckets" nm ret D A true sz mc ms fr lo) {h0 : Nat} {K : Nat → ZM → Prop} {Kx : Nat → ZM → Prop} (hR : 7 + 1 ≤ fr ∧ 8 + (4 + 11) + 159 ≤ lo) (hst4 : zlw st) (hdg : decode cc pc = .ok (.invokevirtual 110, 3)) (kx : ZX p l e R s m args below meth c Q nL D A true n0 "SafeBuckets$Wrong" Kx pc L) (k : ∀ r, ZW p l e R s m args below meth c Q nL D A true n0 (K r) (pc + 3) L (zv r :: st)) : ZW p l e R s m args below meth c Q nL D A true n0 (zat 8 h0 (zclx' 4000 25000 (fun k kx => f_X10_where h0 kx k) Kx K)) pc L (zv h0 :: st) :=
  Z.xq1 (fun μ H locs cells slots ls hI h hP => ⟨hP.2.1, hP.2.2.1, Z.Vx1 F hI (n := 0) (ci := 7) rfl (by decide) hP.1 hP.2.1 hP.2.2.1 hP.2.2.2 (k_X10_where l h0 D A (0, 0, 0) 0 (fun r μ' => K r (zcs μ' (zC μ - 4000) (zS μ - 25000))) (fun r μ' => Kx r (zcs μ' (zC μ - 4000) (zS μ - 25000))) (zcs μ 4000 25000)) q769 q770 q771 q127 q772 (by decide +kernel) rfl h.1 hst4 hR rfl hdg⟩) kx k
theorem pfX1_114 (F : ZF p R s m args meth c cc nL "SafeBuckets" nm ret D A al sz mc ms fr lo) {z : Nat} {u : Nat} (hdg : decode cc pc = .ok (.putfield 114, 3)) (k : ZW p l e R s m args below meth c Q nL D A al n0 P (pc + 3) L st) : ZW p l e R s m args below meth c Q nL D A al n0 (zpR 1 z 7 u P) pc L (zv u :: zv z :: st) :=
  Z.putR F (ref := "SafeBuckets") in_X1 (ci := 0) rfl (by decide) (kf := 7) (by decide) q393 (fun _ h => h) tyX1 tyX1_ok nmX1 rfl (ty := .object _) (fun u => zv_nar u) (fun u => zv_fit u) rfl rfl hdg k
theorem clX1_104 (F : ZF p R s m args meth c cc nL "SafeBuckets" nm ret D A true sz mc ms fr lo) {h0 : Nat} {K : Nat → ZM → Prop} {Kx : Nat → ZM → Prop} (hR : 22 + 1 ≤ fr ∧ 8 + (2 + 11) + 447 ≤ lo) (hst4 : zlw st) (hdg : decode cc pc = .ok (.invokevirtual 104, 3)) (kx : ZX p l e R s m args below meth c Q nL D A true n0 "SafeBuckets$Wrong" Kx pc L) (k : ∀ r, ZW p l e R s m args below meth c Q nL D A true n0 (K r) (pc + 3) L (zv r :: st)) : ZW p l e R s m args below meth c Q nL D A true n0 (zat 8 h0 (zclx' 16000 110000 (fun k kx => f_X10_book h0 kx k) Kx K)) pc L (zv h0 :: st) :=
  Z.xq1 (fun μ H locs cells slots ls hI h hP => ⟨hP.2.1, hP.2.2.1, Z.Vx1 F hI (n := 0) (ci := 7) rfl (by decide) hP.1 hP.2.1 hP.2.2.1 hP.2.2.2 (k_X10_book l h0 D A (0, 0, 0) 0 (fun r μ' => K r (zcs μ' (zC μ - 16000) (zS μ - 110000))) (fun r μ' => Kx r (zcs μ' (zC μ - 16000) (zS μ - 110000))) (zcs μ 16000 110000)) q498 q499 q500 q127 q501 (by decide +kernel) rfl h.1 hst4 hR rfl hdg⟩) kx k
theorem pfX1_107 (F : ZF p R s m args meth c cc nL "SafeBuckets" nm ret D A al sz mc ms fr lo) {z : Nat} {u : Nat} (hdg : decode cc pc = .ok (.putfield 107, 3)) (k : ZW p l e R s m args below meth c Q nL D A al n0 P (pc + 3) L st) : ZW p l e R s m args below meth c Q nL D A al n0 (zpR 1 z 6 u P) pc L (zv u :: zv z :: st) :=
  Z.putR F (ref := "SafeBuckets") in_X1 (ci := 0) rfl (by decide) (kf := 6) (by decide) q392 (fun _ h => h) tyX1 tyX1_ok nmX1 rfl (ty := .object _) (fun u => zv_nar u) (fun u => zv_fit u) rfl rfl hdg k
set_option maxHeartbeats 4000000 in
theorem k_X1_fault (l : Launch) (h0 : Nat) (x1 : Int32) : ZCi l yX1_fault (wsW_ yX1_fault cX1_fault 3 (some .int) [(13, 46, 47, 118)]) 23 468 16010 110010 true [zv h0, .int x1] (f_X1_fault h0 x1) := by
  refine Z.metIW (by decide +kernel) (fun h => by cases h) (L0 := [(0, zv h0), (1, .int x1)]) (by first | (rw [zla_v, zla_i, zla_0]; done) | (rw [zla_v, zla_i, zla_0]; rfl)) (by rw [zsl_v, zsl_i, zsl_0]; exact Nat.le_of_ble_eq_true rfl) ?_
  intro p e R s m args below meth c D A n0 sz k F htb
  have F : ZF p R s m args meth c cX1_fault 3 "SafeBuckets" "fault" (some .int) D A true sz 16010 110010 23 468 := F
  unfold f_X1_fault
  refine Z.iload_n F 1 rfl dX1_fault_0 ?_
  refine Z.i2l F dX1_fault_1 ?_
  refine Z.lconst F (w := (0 : Int64)) (by decide) dX1_fault_2 ?_
  refine Z.lconst F (w := (1 : Int64)) (by decide) dX1_fault_3 ?_
  refine clX1_97 F ⟨Nat.le_of_ble_eq_true rfl, Nat.le_of_ble_eq_true rfl⟩ (zlw4 (Nat.le_of_ble_eq_true rfl)) dX1_fault_4 (fun r4 => ?_)
  refine Z.if_ne F (tgt := 13) dX1_fault_7 (by decide) ?_ ?_
  · refine Z.newO F in_X10 tyX10 tyX10_ok (ci := 7) rfl (by decide) q485 q486 q127 df_X10 dX1_fault_13 (fun n13 => ?_)
    refine Z.dup F dX1_fault_16 ?_
    refine Z.aload_n F 0 rfl dX1_fault_17 ?_
    refine clX1_103 F ⟨Nat.le_of_ble_eq_true rfl, Nat.le_of_ble_eq_true rfl⟩ (zlw4 (Nat.le_of_ble_eq_true rfl)) dX1_fault_18 ?_
    refine Z.astore_n F (L0 := [(0, zv h0), (1, .int x1)]) [0, 1] rfl (zkR rfl (zkI rfl zkN)) (by decide) dX1_fault_21 ?_
    refine Z.iload_n F 2 rfl dX1_fault_22 ?_
    refine Z.jn0 (J := _) ([]) ([]) 45 (?_) (fun j45 hj45 => ?_)
    · refine Z.iconst F (v := (-1 : Int32)) (by decide) dX1_fault_45 ?_
      exact Z.iret F dX1_fault_46
    refine Z.jn1 (J := _) (fun p47s0 => []) (fun p47s0 => [zv p47s0]) 47 (fun p47s0 => ?_) (fun j47 hj47 => ?_)
    · refine Z.astore_n F (L0 := []) [] rfl zkN (by decide) dX1_fault_47 ?_
      refine Z.aload_n F 0 rfl dX1_fault_48 ?_
      refine gfX1_120 F dX1_fault_49 (fun g49 => ?_)
      exact Z.iret F dX1_fault_52
    refine Z.if_ne F (tgt := 37) dX1_fault_23 (by decide) ?_ ?_
    · refine Z.aload_n F 1 rfl dX1_fault_37 ?_
      refine Z.aload_n F 0 rfl dX1_fault_38 ?_
      refine clX1_110 F ⟨Nat.le_of_ble_eq_true rfl, Nat.le_of_ble_eq_true rfl⟩ (zlw4 (Nat.le_of_ble_eq_true rfl)) dX1_fault_39 (Z.catch F (name := "SafeBuckets$Wrong") ((tableOf [(13, 46, 47, 118)]).take 0) _ _ (htb.trans rfl) (by decide) (by decide) (by decide) q481 (List.mem_of_getElem? (i := 3) rfl) (fun e39 => ?_)) (fun r39 => ?_)
      · exact Z.sub [] rfl (hj47 e39)
      refine pfX1_114 F dX1_fault_42 ?_
      exact Z.sub [] rfl (hj45)
    refine Z.aload_n F 1 rfl dX1_fault_26 ?_
    refine Z.aload_n F 0 rfl dX1_fault_27 ?_
    refine clX1_104 F ⟨Nat.le_of_ble_eq_true rfl, Nat.le_of_ble_eq_true rfl⟩ (zlw4 (Nat.le_of_ble_eq_true rfl)) dX1_fault_28 (Z.catch F (name := "SafeBuckets$Wrong") ((tableOf [(13, 46, 47, 118)]).take 0) _ _ (htb.trans rfl) (by decide) (by decide) (by decide) q481 (List.mem_of_getElem? (i := 3) rfl) (fun e28 => ?_)) (fun r28 => ?_)
    · exact Z.sub [] rfl (hj47 e28)
    refine pfX1_107 F dX1_fault_31 ?_
    refine Z.goto F (tgt := 45) dX1_fault_34 (by decide) ?_
    exact Z.sub [] rfl (hj45)
  refine Z.bipush F (v := (-2 : Int32)) (by decide) dX1_fault_10 ?_
  exact Z.iret F dX1_fault_12
end ZWalk
