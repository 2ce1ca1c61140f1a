section ZLaw
variable {p : Program} {l : Launch} {e : Env} {R : Room} {s : State} {m : MethodId} {args : Array Value} {below : List Frame} {meth : Method} {c : Code} {Q : State → Prop} {nL : Nat} {D : ZD} {A : Nat → Prop} {al : Bool} {n0 : Nat × Nat × Nat} {cc : ByteArray} {nm : String} {ret : Option FieldType} {sz mc ms fr lo : Nat}
variable {P : ZM → Prop} {pc : Nat} {L : List (Nat × Value)} {st : List Value}
theorem clX0_15 (F : ZF p R s m args meth c cc nL "SafeBucketsLaw" nm ret D A true sz mc ms fr lo) {h0 : Nat} {K : ZM → Prop} (hR : 7 + 1 ≤ fr ∧ 8 + (1 + 11) + 143 ≤ lo) (hst4 : zlw st) (hdg : decode cc pc = .ok (.invokespecial 15, 3)) (k : ZW p l e R s m args below meth c Q nL D A true n0 K (pc + 3) L st) : ZW p l e R s m args below meth c Q nL D A true n0 (zat 1 h0 (zclv 214 4045 (f_X1_init h0) K)) pc L (zv h0 :: st) :=
  Z.rv1 _ (fun μ H locs cells slots ls hI h hP => ⟨hP.2.1, hP.2.2.1, Z.I1 F hI (n := 0) (ci := 0) rfl (by decide) hP.1 hP.2.1 hP.2.2.1 hP.2.2.2 (k_X1_init l h0 D A (0, 0, 0) 0 (fun μ' => K (zcs μ' (zC μ - 214) (zS μ - 4045))) (zcs μ 214 4045)) rfl q173 q174 q116 q175 (by decide +kernel) rfl h.1 hst4 hR rfl hdg⟩) k
theorem clX0_18 (F : ZF p R s m args meth c cc nL "SafeBucketsLaw" nm ret D A true sz mc ms fr lo) {h0 : Nat} {K : ZM → Prop} (hR : 1 + 1 ≤ fr ∧ 8 + (1 + 11) + 20 ≤ lo) (hst4 : zlw st) (hdg : decode cc pc = .ok (.invokespecial 18, 3)) (k : ZW p l e R s m args below meth c Q nL D A true n0 K (pc + 3) L st) : ZW p l e R s m args below meth c Q nL D A true n0 (zat 7 h0 (zclv 18 54537 (f_X9_init h0) K)) pc L (zv h0 :: st) :=
  Z.rv1 _ (fun μ H locs cells slots ls hI h hP => ⟨hP.2.1, hP.2.2.1, Z.I1 F hI (n := 0) (ci := 6) rfl (by decide) hP.1 hP.2.1 hP.2.2.1 hP.2.2.2 (k_X9_init l h0 D A (0, 0, 0) 0 (fun μ' => K (zcs μ' (zC μ - 18) (zS μ - 54537))) (zcs μ 18 54537)) rfl q1565 q1566 q126 q1567 (by decide +kernel) rfl h.1 hst4 hR rfl hdg⟩) k
theorem clX0_19 (F : ZF p R s m args meth c cc nL "SafeBucketsLaw" nm ret D A al sz mc ms fr lo) {h0 : Nat} {x1 : Int32} {x2 : Int32} {x3 : Int32} {x4 : Int32} {x5 : Int32} {K : Int32 → ZM → Prop} (hR : 1 + 1 ≤ fr ∧ 8 + (7 + 11) + 22 ≤ lo) (hst4 : zlw st) (hdg : decode cc pc = .ok (.invokevirtual 19, 3)) (k : ∀ r, ZW p l e R s m args below meth c Q nL D A al n0 (K r) (pc + 3) L (.int r :: st)) : ZW p l e R s m args below meth c Q nL D A al n0 (zat 1 h0 (f_X1_feed h0 x1 x2 x3 x4 x5 K)) pc L (.int x5 :: .int x4 :: .int x3 :: .int x2 :: .int x1 :: zv h0 :: st) :=
  Z.ri0 _ (fun μ H locs cells slots ls hI h hP => Z.V0 F hI (n := 5) (ci := 0) rfl (by decide) hP.1 hP.2 (k_X1_feed l h0 x1 x2 x3 x4 x5 D A (zX μ, zC μ, zS μ) H.size K μ) q156 q157 q158 q116 q159 (by decide +kernel) rfl h.1 hst4 hR rfl hdg) k
theorem clX0_23 (F : ZF p R s m args meth c cc nL "SafeBucketsLaw" nm ret D A al sz mc ms fr lo) {h0 : Nat} {x1 : Int32} {x2 : Int32} {x3 : Int32} {x4 : Int32} {x5 : Int32} {K : Int32 → ZM → Prop} (hR : 1 + 1 ≤ fr ∧ 8 + (9 + 11) + 26 ≤ lo) (hst4 : zlw st) (hdg : decode cc pc = .ok (.invokevirtual 23, 3)) (k : ∀ r, ZW p l e R s m args below meth c Q nL D A al n0 (K r) (pc + 3) L (.int r :: st)) : ZW p l e R s m args below meth c Q nL D A al n0 (zat 7 h0 (f_X9_feed h0 x1 x2 x3 x4 x5 K)) pc L (.int x5 :: .int x4 :: .int x3 :: .int x2 :: .int x1 :: zv h0 :: st) :=
  Z.ri0 _ (fun μ H locs cells slots ls hI h hP => Z.V0 F hI (n := 5) (ci := 6) rfl (by decide) hP.1 hP.2 (k_X9_feed l h0 x1 x2 x3 x4 x5 D A (zX μ, zC μ, zS μ) H.size K μ) q1674 q1675 q1676 q126 q1677 (by decide +kernel) rfl h.1 hst4 hR rfl hdg) k
theorem clX0_24 (F : ZF p R s m args meth c cc nL "SafeBucketsLaw" nm ret D A al sz mc ms fr lo) {h0 : Nat} {x1 : Int32} {K : Int32 → ZM → Prop} (hR : 0 + 1 ≤ fr ∧ 8 + (2 + 11) + 0 ≤ lo) (hst4 : zlw st) (hdg : decode cc pc = .ok (.invokevirtual 24, 3)) (k : ∀ r, ZW p l e R s m args below meth c Q nL D A al n0 (K r) (pc + 3) L (.int r :: st)) : ZW p l e R s m args below meth c Q nL D A al n0 (zat 1 h0 (f_X1_end h0 x1 K)) pc L (.int x1 :: zv h0 :: st) :=
  Z.ri0 _ (fun μ H locs cells slots ls hI h hP => Z.V0 F hI (n := 1) (ci := 0) rfl (by decide) hP.1 hP.2 (k_X1_end l h0 x1 D A (zX μ, zC μ, zS μ) H.size K μ) q168 q169 q170 q116 q171 (by decide +kernel) rfl h.1 hst4 hR rfl hdg) k
theorem clX0_28 (F : ZF p R s m args meth c cc nL "SafeBucketsLaw" nm ret D A al sz mc ms fr lo) {h0 : Nat} {x1 : Int32} {K : Int32 → ZM → Prop} (hR : 1 + 1 ≤ fr ∧ 8 + (2 + 11) + 25 ≤ lo) (hst4 : zlw st) (hdg : decode cc pc = .ok (.invokevirtual 28, 3)) (k : ∀ r, ZW p l e R s m args below meth c Q nL D A al n0 (K r) (pc + 3) L (.int r :: st)) : ZW p l e R s m args below meth c Q nL D A al n0 (zat 7 h0 (f_X9_end h0 x1 K)) pc L (.int x1 :: zv h0 :: st) :=
  Z.ri0 _ (fun μ H locs cells slots ls hI h hP => Z.V0 F hI (n := 1) (ci := 6) rfl (by decide) hP.1 hP.2 (k_X9_end l h0 x1 D A (zX μ, zC μ, zS μ) H.size K μ) q1681 q1682 q1683 q126 q1684 (by decide +kernel) rfl h.1 hst4 hR rfl hdg) k
theorem clX0_29 (F : ZF p R s m args meth c cc nL "SafeBucketsLaw" nm ret D A true sz mc ms fr lo) {h0 : Nat} {x1 : Int32} {K : Int32 → ZM → Prop} (hR : 23 + 1 ≤ fr ∧ 8 + (3 + 11) + 468 ≤ lo) (hst4 : zlw st) (hdg : decode cc pc = .ok (.invokevirtual 29, 3)) (k : ∀ r, ZW p l e R s m args below meth c Q nL D A true n0 (K r) (pc + 3) L (.int r :: st)) : ZW p l e R s m args below meth c Q nL D A true n0 (zat 1 h0 (zcl 16010 110010 (f_X1_fault h0 x1) K)) pc L (.int x1 :: zv h0 :: st) :=
  Z.ri1 _ (fun μ H locs cells slots ls hI h hP => ⟨hP.2.1, hP.2.2.1, Z.VW1 F hI (n := 1) (ci := 0) rfl (by decide) hP.1 hP.2.1 hP.2.2.1 hP.2.2.2 (k_X1_fault l h0 x1 D A (0, 0, 0) 0 (fun r μ' => K r (zcs μ' (zC μ - 16010) (zS μ - 110010))) (zcs μ 16010 110010)) q477 q478 q479 q116 q480 (by decide +kernel) rfl h.1 hst4 hR rfl hdg⟩) k
theorem clX0_33 (F : ZF p R s m args meth c cc nL "SafeBucketsLaw" nm ret D A al sz mc ms fr lo) {h0 : Nat} {x1 : Int32} {K : Int32 → ZM → Prop} (hR : 5 + 1 ≤ fr ∧ 8 + (2 + 11) + 114 ≤ lo) (hst4 : zlw st) (hdg : decode cc pc = .ok (.invokevirtual 33, 3)) (k : ∀ r, ZW p l e R s m args below meth c Q nL D A al n0 (K r) (pc + 3) L (.int r :: st)) : ZW p l e R s m args below meth c Q nL D A al n0 (zat 7 h0 (f_X9_fault h0 x1 K)) pc L (.int x1 :: zv h0 :: st) :=
  Z.ri0 _ (fun μ H locs cells slots ls hI h hP => Z.V0 F hI (n := 1) (ci := 6) rfl (by decide) hP.1 hP.2 (k_X9_fault l h0 x1 D A (zX μ, zC μ, zS μ) H.size K μ) q1688 q1689 q1690 q126 q1691 (by decide +kernel) rfl h.1 hst4 hR rfl hdg) k
theorem clX0_34 (F : ZF p R s m args meth c cc nL "SafeBucketsLaw" nm ret D A true sz mc ms fr lo) {h0 : Nat} {x1 : Int32} {K : Int32 → ZM → Prop} (hR : 24 + 1 ≤ fr ∧ 8 + (2 + 11) + 490 ≤ lo) (hst4 : zlw st) (hdg : decode cc pc = .ok (.invokevirtual 34, 3)) (k : ∀ r, ZW p l e R s m args below meth c Q nL D A true n0 (K r) (pc + 3) L (.int r :: st)) : ZW p l e R s m args below meth c Q nL D A true n0 (zat 1 h0 (zcl 16010 110010 (f_X1_text h0 x1) K)) pc L (.int x1 :: zv h0 :: st) :=
  Z.ri1 _ (fun μ H locs cells slots ls hI h hP => ⟨hP.2.1, hP.2.2.1, Z.V1 F hI (n := 1) (ci := 0) rfl (by decide) hP.1 hP.2.1 hP.2.2.1 hP.2.2.2 (k_X1_text l h0 x1 D A (0, 0, 0) 0 (fun r μ' => K r (zcs μ' (zC μ - 16010) (zS μ - 110010))) (zcs μ 16010 110010)) q854 q855 q856 q116 q857 (by decide +kernel) rfl h.1 hst4 hR rfl hdg⟩) k
theorem clX0_37 (F : ZF p R s m args meth c cc nL "SafeBucketsLaw" nm ret D A al sz mc ms fr lo) {h0 : Nat} {x1 : Int32} {K : Int32 → ZM → Prop} (hR : 5 + 1 ≤ fr ∧ 8 + (2 + 11) + 127 ≤ lo) (hst4 : zlw st) (hdg : decode cc pc = .ok (.invokevirtual 37, 3)) (k : ∀ r, ZW p l e R s m args below meth c Q nL D A al n0 (K r) (pc + 3) L (.int r :: st)) : ZW p l e R s m args below meth c Q nL D A al n0 (zat 7 h0 (f_X9_text h0 x1 K)) pc L (.int x1 :: zv h0 :: st) :=
  Z.ri0 _ (fun μ H locs cells slots ls hI h hP => Z.V0 F hI (n := 1) (ci := 6) rfl (by decide) hP.1 hP.2 (k_X9_text l h0 x1 D A (zX μ, zC μ, zS μ) H.size K μ) q1746 q1747 q1748 q126 q1749 (by decide +kernel) rfl h.1 hst4 hR rfl hdg) k
theorem clX0_38 (F : ZF p R s m args meth c cc nL "SafeBucketsLaw" nm ret D A al sz mc ms fr lo) {h0 : Nat} {x1 : Int32} {K : Int32 → ZM → Prop} (hR : 1 + 1 ≤ fr ∧ 8 + (2 + 11) + 25 ≤ lo) (hst4 : zlw st) (hdg : decode cc pc = .ok (.invokevirtual 38, 3)) (k : ∀ r, ZW p l e R s m args below meth c Q nL D A al n0 (K r) (pc + 3) L (.int r :: st)) : ZW p l e R s m args below meth c Q nL D A al n0 (zat 1 h0 (f_X1_rule h0 x1 K)) pc L (.int x1 :: zv h0 :: st) :=
  Z.ri0 _ (fun μ H locs cells slots ls hI h hP => Z.V0 F hI (n := 1) (ci := 0) rfl (by decide) hP.1 hP.2 (k_X1_rule l h0 x1 D A (zX μ, zC μ, zS μ) H.size K μ) q925 q926 q927 q116 q928 (by decide +kernel) rfl h.1 hst4 hR rfl hdg) k
theorem clX0_41 (F : ZF p R s m args meth c cc nL "SafeBucketsLaw" nm ret D A al sz mc ms fr lo) {h0 : Nat} {x1 : Int32} {K : Int32 → ZM → Prop} (hR : 1 + 1 ≤ fr ∧ 8 + (2 + 11) + 25 ≤ lo) (hst4 : zlw st) (hdg : decode cc pc = .ok (.invokevirtual 41, 3)) (k : ∀ r, ZW p l e R s m args below meth c Q nL D A al n0 (K r) (pc + 3) L (.int r :: st)) : ZW p l e R s m args below meth c Q nL D A al n0 (zat 7 h0 (f_X9_rule h0 x1 K)) pc L (.int x1 :: zv h0 :: st) :=
  Z.ri0 _ (fun μ H locs cells slots ls hI h hP => Z.V0 F hI (n := 1) (ci := 6) rfl (by decide) hP.1 hP.2 (k_X9_rule l h0 x1 D A (zX μ, zC μ, zS μ) H.size K μ) q1799 q1800 q1801 q126 q1802 (by decide +kernel) rfl h.1 hst4 hR rfl hdg) k
theorem clX0_42 (hl : l.stackTraces = false) (F : ZF p R s m args meth c cc nL "SafeBucketsLaw" nm ret D A true sz mc ms fr lo) {h0 : Nat} {x1 : Int32} {x2 : Int32} {h3 : Nat} {K : Int32 → ZM → Prop} (hR : 7 + 1 ≤ fr ∧ 8 + (5 + 11) + 112 ≤ lo) (hst4 : zlw st) (hdg : decode cc pc = .ok (.invokestatic 42, 3)) (k : ∀ r, ZW p l e R s m args below meth c Q nL D A true n0 (K r) (pc + 3) L (.int r :: st)) : ZW p l e R s m args below meth c Q nL D A true n0 (zcl 1 6 (f_X0_table h0 x1 x2 h3) K) pc L (zv h3 :: .int x2 :: .int x1 :: zv h0 :: st) :=
  Z.ri1 _ (fun μ H locs cells slots ls hI h hP => ⟨hP.1, hP.2.1, Z.SW1 F hI (n := 4) hP.1 hP.2.1 hP.2.2 (k_X0_table l hl h0 x1 x2 h3 D A (0, 0, 0) 0 (fun r μ' => K r (zcs μ' (zC μ - 1) (zS μ - 6))) (zcs μ 1 6)) q1531 q1532 q115 q1533 (by decide +kernel) rfl h.1 hst4 hR rfl hdg⟩) k
theorem clX0_47 (F : ZF p R s m args meth c cc nL "SafeBucketsLaw" nm ret D A al sz mc ms fr lo) {h0 : Nat} {x1 : Int32} {x2 : Int32} {K : Int32 → ZM → Prop} (hR : 2 + 1 ≤ fr ∧ 8 + (3 + 11) + 48 ≤ lo) (hst4 : zlw st) (hdg : decode cc pc = .ok (.invokevirtual 47, 3)) (k : ∀ r, ZW p l e R s m args below meth c Q nL D A al n0 (K r) (pc + 3) L (.int r :: st)) : ZW p l e R s m args below meth c Q nL D A al n0 (zat 7 h0 (f_X9_table h0 x1 x2 K)) pc L (.int x2 :: .int x1 :: zv h0 :: st) :=
  Z.ri0 _ (fun μ H locs cells slots ls hI h hP => Z.V0 F hI (n := 2) (ci := 6) rfl (by decide) hP.1 hP.2 (k_X9_table l h0 x1 x2 D A (zX μ, zC μ, zS μ) H.size K μ) q1808 q1809 q1810 q126 q1811 (by decide +kernel) rfl h.1 hst4 hR rfl hdg) k
theorem clX0_48 (F : ZF p R s m args meth c cc nL "SafeBucketsLaw" nm ret D A al sz mc ms fr lo) {h0 : Nat} {K : Int32 → ZM → Prop} (hR : 0 + 1 ≤ fr ∧ 8 + (1 + 11) + 0 ≤ lo) (hst4 : zlw st) (hdg : decode cc pc = .ok (.invokevirtual 48, 3)) (k : ∀ r, ZW p l e R s m args below meth c Q nL D A al n0 (K r) (pc + 3) L (.int r :: st)) : ZW p l e R s m args below meth c Q nL D A al n0 (zat 7 h0 (f_X9_thrown h0 K)) pc L (zv h0 :: st) :=
  Z.ri0 _ (fun μ H locs cells slots ls hI h hP => Z.V0 F hI (n := 0) (ci := 6) rfl (by decide) hP.1 hP.2 (k_X9_thrown l h0 D A (zX μ, zC μ, zS μ) H.size K μ) q1670 q1671 q1672 q126 q1673 (by decide +kernel) rfl h.1 hst4 hR rfl hdg) k
theorem clX0_52 (F : ZF p R s m args meth c cc nL "SafeBucketsLaw" nm ret D A al sz mc ms fr lo) {h0 : Nat} {x1 : Int32} {x2 : Int32} {x3 : Int32} {K : Int32 → ZM → Prop} (hR : 3 + 1 ≤ fr ∧ 8 + (4 + 11) + 69 ≤ lo) (hst4 : zlw st) (hdg : decode cc pc = .ok (.invokevirtual 52, 3)) (k : ∀ r, ZW p l e R s m args below meth c Q nL D A al n0 (K r) (pc + 3) L (.int r :: st)) : ZW p l e R s m args below meth c Q nL D A al n0 (zat 1 h0 (f_X1_rows h0 x1 x2 x3 K)) pc L (.int x3 :: .int x2 :: .int x1 :: zv h0 :: st) :=
  Z.ri0 _ (fun μ H locs cells slots ls hI h hP => Z.V0 F hI (n := 3) (ci := 0) rfl (by decide) hP.1 hP.2 (k_X1_rows l h0 x1 x2 x3 D A (zX μ, zC μ, zS μ) H.size K μ) q930 q931 q932 q116 q933 (by decide +kernel) rfl h.1 hst4 hR rfl hdg) k
theorem clX0_56 (F : ZF p R s m args meth c cc nL "SafeBucketsLaw" nm ret D A al sz mc ms fr lo) {h0 : Nat} {x1 : Int32} {x2 : Int32} {x3 : Int32} {K : Int32 → ZM → Prop} (hR : 2 + 1 ≤ fr ∧ 8 + (4 + 11) + 47 ≤ lo) (hst4 : zlw st) (hdg : decode cc pc = .ok (.invokevirtual 56, 3)) (k : ∀ r, ZW p l e R s m args below meth c Q nL D A al n0 (K r) (pc + 3) L (.int r :: st)) : ZW p l e R s m args below meth c Q nL D A al n0 (zat 7 h0 (f_X9_rows h0 x1 x2 x3 K)) pc L (.int x3 :: .int x2 :: .int x1 :: zv h0 :: st) :=
  Z.ri0 _ (fun μ H locs cells slots ls hI h hP => Z.V0 F hI (n := 3) (ci := 6) rfl (by decide) hP.1 hP.2 (k_X9_rows l h0 x1 x2 x3 D A (zX μ, zC μ, zS μ) H.size K μ) q1821 q1822 q1823 q126 q1824 (by decide +kernel) rfl h.1 hst4 hR rfl hdg) k
theorem clX0_57 (F : ZF p R s m args meth c cc nL "SafeBucketsLaw" nm ret D A al sz mc ms fr lo) {h0 : Nat} {x1 : Int32} {x2 : Int32} {x3 : Int32} {K : Int32 → ZM → Prop} (hR : 3 + 1 ≤ fr ∧ 8 + (4 + 11) + 68 ≤ lo) (hst4 : zlw st) (hdg : decode cc pc = .ok (.invokevirtual 57, 3)) (k : ∀ r, ZW p l e R s m args below meth c Q nL D A al n0 (K r) (pc + 3) L (.int r :: st)) : ZW p l e R s m args below meth c Q nL D A al n0 (zat 1 h0 (f_X1_countOf h0 x1 x2 x3 K)) pc L (.int x3 :: .int x2 :: .int x1 :: zv h0 :: st) :=
  Z.ri0 _ (fun μ H locs cells slots ls hI h hP => Z.V0 F hI (n := 3) (ci := 0) rfl (by decide) hP.1 hP.2 (k_X1_countOf l h0 x1 x2 x3 D A (zX μ, zC μ, zS μ) H.size K μ) q952 q953 q954 q116 q955 (by decide +kernel) rfl h.1 hst4 hR rfl hdg) k
theorem clX0_60 (F : ZF p R s m args meth c cc nL "SafeBucketsLaw" nm ret D A al sz mc ms fr lo) {h0 : Nat} {x1 : Int32} {x2 : Int32} {x3 : Int32} {K : Int32 → ZM → Prop} (hR : 3 + 1 ≤ fr ∧ 8 + (4 + 11) + 68 ≤ lo) (hst4 : zlw st) (hdg : decode cc pc = .ok (.invokevirtual 60, 3)) (k : ∀ r, ZW p l e R s m args below meth c Q nL D A al n0 (K r) (pc + 3) L (.int r :: st)) : ZW p l e R s m args below meth c Q nL D A al n0 (zat 7 h0 (f_X9_countOf h0 x1 x2 x3 K)) pc L (.int x3 :: .int x2 :: .int x1 :: zv h0 :: st) :=
  Z.ri0 _ (fun μ H locs cells slots ls hI h hP => Z.V0 F hI (n := 3) (ci := 6) rfl (by decide) hP.1 hP.2 (k_X9_countOf l h0 x1 x2 x3 D A (zX μ, zC μ, zS μ) H.size K μ) q1830 q1831 q1832 q126 q1833 (by decide +kernel) rfl h.1 hst4 hR rfl hdg) k
theorem clX0_61 (F : ZF p R s m args meth c cc nL "SafeBucketsLaw" nm ret D A al sz mc ms fr lo) {h0 : Nat} {x1 : Int32} {x2 : Int32} {x3 : Int32} {x4 : Int32} {K : Int32 → ZM → Prop} (hR : 2 + 1 ≤ fr ∧ 8 + (5 + 11) + 47 ≤ lo) (hst4 : zlw st) (hdg : decode cc pc = .ok (.invokevirtual 61, 3)) (k : ∀ r, ZW p l e R s m args below meth c Q nL D A al n0 (K r) (pc + 3) L (.int r :: st)) : ZW p l e R s m args below meth c Q nL D A al n0 (zat 1 h0 (f_X1_bucket h0 x1 x2 x3 x4 K)) pc L (.int x4 :: .int x3 :: .int x2 :: .int x1 :: zv h0 :: st) :=
  Z.ri0 _ (fun μ H locs cells slots ls hI h hP => Z.V0 F hI (n := 4) (ci := 0) rfl (by decide) hP.1 hP.2 (k_X1_bucket l h0 x1 x2 x3 x4 D A (zX μ, zC μ, zS μ) H.size K μ) q960 q961 q962 q116 q963 (by decide +kernel) rfl h.1 hst4 hR rfl hdg) k
theorem clX0_65 (F : ZF p R s m args meth c cc nL "SafeBucketsLaw" nm ret D A al sz mc ms fr lo) {h0 : Nat} {x1 : Int32} {x2 : Int32} {x3 : Int32} {x4 : Int32} {K : Int32 → ZM → Prop} (hR : 3 + 1 ≤ fr ∧ 8 + (5 + 11) + 68 ≤ lo) (hst4 : zlw st) (hdg : decode cc pc = .ok (.invokevirtual 65, 3)) (k : ∀ r, ZW p l e R s m args below meth c Q nL D A al n0 (K r) (pc + 3) L (.int r :: st)) : ZW p l e R s m args below meth c Q nL D A al n0 (zat 7 h0 (f_X9_bucket h0 x1 x2 x3 x4 K)) pc L (.int x4 :: .int x3 :: .int x2 :: .int x1 :: zv h0 :: st) :=
  Z.ri0 _ (fun μ H locs cells slots ls hI h hP => Z.V0 F hI (n := 4) (ci := 6) rfl (by decide) hP.1 hP.2 (k_X9_bucket l h0 x1 x2 x3 x4 D A (zX μ, zC μ, zS μ) H.size K μ) q1838 q1839 q1840 q126 q1841 (by decide +kernel) rfl h.1 hst4 hR rfl hdg) k
theorem clX0_66 (F : ZF p R s m args meth c cc nL "SafeBucketsLaw" nm ret D A al sz mc ms fr lo) {h0 : Nat} {x1 : Int32} {x2 : Int32} {x3 : Int32} {K : Int32 → ZM → Prop} (hR : 5 + 1 ≤ fr ∧ 8 + (5 + 11) + 116 ≤ lo) (hst4 : zlw st) (hdg : decode cc pc = .ok (.invokevirtual 66, 3)) (k : ∀ r, ZW p l e R s m args below meth c Q nL D A al n0 (K r) (pc + 3) L (.int r :: st)) : ZW p l e R s m args below meth c Q nL D A al n0 (zat 1 h0 (f_X1_column h0 x1 x2 x3 K)) pc L (.int x3 :: .int x2 :: .int x1 :: zv h0 :: st) :=
  Z.ri0 _ (fun μ H locs cells slots ls hI h hP => Z.V0 F hI (n := 3) (ci := 0) rfl (by decide) hP.1 hP.2 (k_X1_column l h0 x1 x2 x3 D A (zX μ, zC μ, zS μ) H.size K μ) q968 q969 q970 q116 q971 (by decide +kernel) rfl h.1 hst4 hR rfl hdg) k
theorem clX0_69 (F : ZF p R s m args meth c cc nL "SafeBucketsLaw" nm ret D A al sz mc ms fr lo) {h0 : Nat} {x1 : Int32} {x2 : Int32} {x3 : Int32} {K : Int32 → ZM → Prop} (hR : 4 + 1 ≤ fr ∧ 8 + (4 + 11) + 95 ≤ lo) (hst4 : zlw st) (hdg : decode cc pc = .ok (.invokevirtual 69, 3)) (k : ∀ r, ZW p l e R s m args below meth c Q nL D A al n0 (K r) (pc + 3) L (.int r :: st)) : ZW p l e R s m args below meth c Q nL D A al n0 (zat 7 h0 (f_X9_column_2 h0 x1 x2 x3 K)) pc L (.int x3 :: .int x2 :: .int x1 :: zv h0 :: st) :=
  Z.ri0 _ (fun μ H locs cells slots ls hI h hP => Z.V0 F hI (n := 3) (ci := 6) rfl (by decide) hP.1 hP.2 (k_X9_column_2 l h0 x1 x2 x3 D A (zX μ, zC μ, zS μ) H.size K μ) q1851 q1852 q1853 q126 q1854 (by decide +kernel) rfl h.1 hst4 hR rfl hdg) k
theorem clX0_70 (F : ZF p R s m args meth c cc nL "SafeBucketsLaw" nm ret D A al sz mc ms fr lo) {h0 : Nat} {x1 : Int32} {x2 : Int32} {x3 : Int32} {K : Int64 → ZM → Prop} (hR : 5 + 1 ≤ fr ∧ 8 + (4 + 11) + 117 ≤ lo) (hst4 : zlw st) (hdg : decode cc pc = .ok (.invokevirtual 70, 3)) (k : ∀ r, ZW p l e R s m args below meth c Q nL D A al n0 (K r) (pc + 3) L (.long r :: st)) : ZW p l e R s m args below meth c Q nL D A al n0 (zat 1 h0 (f_X1_error h0 x1 x2 x3 K)) pc L (.int x3 :: .int x2 :: .int x1 :: zv h0 :: st) :=
  Z.rl0 _ (fun μ H locs cells slots ls hI h hP => Z.V0 F hI (n := 3) (ci := 0) rfl (by decide) hP.1 hP.2 (k_X1_error l h0 x1 x2 x3 D A (zX μ, zC μ, zS μ) H.size K μ) q976 q977 q978 q116 q979 (by decide +kernel) rfl h.1 hst4 hR rfl hdg) k
theorem clX0_74 (F : ZF p R s m args meth c cc nL "SafeBucketsLaw" nm ret D A al sz mc ms fr lo) {h0 : Nat} {x1 : Int32} {x2 : Int32} {x3 : Int32} {K : Int64 → ZM → Prop} (hR : 4 + 1 ≤ fr ∧ 8 + (4 + 11) + 91 ≤ lo) (hst4 : zlw st) (hdg : decode cc pc = .ok (.invokevirtual 74, 3)) (k : ∀ r, ZW p l e R s m args below meth c Q nL D A al n0 (K r) (pc + 3) L (.long r :: st)) : ZW p l e R s m args below meth c Q nL D A al n0 (zat 7 h0 (f_X9_error h0 x1 x2 x3 K)) pc L (.int x3 :: .int x2 :: .int x1 :: zv h0 :: st) :=
  Z.rl0 _ (fun μ H locs cells slots ls hI h hP => Z.V0 F hI (n := 3) (ci := 6) rfl (by decide) hP.1 hP.2 (k_X9_error l h0 x1 x2 x3 D A (zX μ, zC μ, zS μ) H.size K μ) q1859 q1860 q1861 q126 q1862 (by decide +kernel) rfl h.1 hst4 hR rfl hdg) k
theorem clX0_75 (F : ZF p R s m args meth c cc nL "SafeBucketsLaw" nm ret D A al sz mc ms fr lo) {h0 : Nat} {x1 : Int32} {x2 : Int32} {x3 : Int32} {x4 : Int32} {K : Int32 → ZM → Prop} (hR : 5 + 1 ≤ fr ∧ 8 + (7 + 11) + 117 ≤ lo) (hst4 : zlw st) (hdg : decode cc pc = .ok (.invokevirtual 75, 3)) (k : ∀ r, ZW p l e R s m args below meth c Q nL D A al n0 (K r) (pc + 3) L (.int r :: st)) : ZW p l e R s m args below meth c Q nL D A al n0 (zat 1 h0 (f_X1_border h0 x1 x2 x3 x4 K)) pc L (.int x4 :: .int x3 :: .int x2 :: .int x1 :: zv h0 :: st) :=
  Z.ri0 _ (fun μ H locs cells slots ls hI h hP => Z.V0 F hI (n := 4) (ci := 0) rfl (by decide) hP.1 hP.2 (k_X1_border l h0 x1 x2 x3 x4 D A (zX μ, zC μ, zS μ) H.size K μ) q986 q987 q988 q116 q989 (by decide +kernel) rfl h.1 hst4 hR rfl hdg) k
theorem clX0_78 (F : ZF p R s m args meth c cc nL "SafeBucketsLaw" nm ret D A al sz mc ms fr lo) {h0 : Nat} {x1 : Int32} {x2 : Int32} {x3 : Int32} {x4 : Int32} {K : Int32 → ZM → Prop} (hR : 4 + 1 ≤ fr ∧ 8 + (5 + 11) + 91 ≤ lo) (hst4 : zlw st) (hdg : decode cc pc = .ok (.invokevirtual 78, 3)) (k : ∀ r, ZW p l e R s m args below meth c Q nL D A al n0 (K r) (pc + 3) L (.int r :: st)) : ZW p l e R s m args below meth c Q nL D A al n0 (zat 7 h0 (f_X9_border h0 x1 x2 x3 x4 K)) pc L (.int x4 :: .int x3 :: .int x2 :: .int x1 :: zv h0 :: st) :=
  Z.ri0 _ (fun μ H locs cells slots ls hI h hP => Z.V0 F hI (n := 4) (ci := 6) rfl (by decide) hP.1 hP.2 (k_X9_border l h0 x1 x2 x3 x4 D A (zX μ, zC μ, zS μ) H.size K μ) q1867 q1868 q1869 q126 q1870 (by decide +kernel) rfl h.1 hst4 hR rfl hdg) k
theorem clX0_79 (F : ZF p R s m args meth c cc nL "SafeBucketsLaw" nm ret D A al sz mc ms fr lo) {h0 : Nat} {x1 : Int32} {x2 : Int32} {x3 : Int32} {x4 : Int32} {K : Int32 → ZM → Prop} (hR : 5 + 1 ≤ fr ∧ 8 + (5 + 11) + 117 ≤ lo) (hst4 : zlw st) (hdg : decode cc pc = .ok (.invokevirtual 79, 3)) (k : ∀ r, ZW p l e R s m args below meth c Q nL D A al n0 (K r) (pc + 3) L (.int r :: st)) : ZW p l e R s m args below meth c Q nL D A al n0 (zat 1 h0 (f_X1_tried h0 x1 x2 x3 x4 K)) pc L (.int x4 :: .int x3 :: .int x2 :: .int x1 :: zv h0 :: st) :=
  Z.ri0 _ (fun μ H locs cells slots ls hI h hP => Z.V0 F hI (n := 4) (ci := 0) rfl (by decide) hP.1 hP.2 (k_X1_tried l h0 x1 x2 x3 x4 D A (zX μ, zC μ, zS μ) H.size K μ) q990 q991 q992 q116 q993 (by decide +kernel) rfl h.1 hst4 hR rfl hdg) k
theorem clX0_82 (F : ZF p R s m args meth c cc nL "SafeBucketsLaw" nm ret D A al sz mc ms fr lo) {h0 : Nat} {x1 : Int32} {x2 : Int32} {x3 : Int32} {x4 : Int32} {K : Int32 → ZM → Prop} (hR : 4 + 1 ≤ fr ∧ 8 + (8 + 11) + 91 ≤ lo) (hst4 : zlw st) (hdg : decode cc pc = .ok (.invokevirtual 82, 3)) (k : ∀ r, ZW p l e R s m args below meth c Q nL D A al n0 (K r) (pc + 3) L (.int r :: st)) : ZW p l e R s m args below meth c Q nL D A al n0 (zat 7 h0 (f_X9_tried h0 x1 x2 x3 x4 K)) pc L (.int x4 :: .int x3 :: .int x2 :: .int x1 :: zv h0 :: st) :=
  Z.ri0 _ (fun μ H locs cells slots ls hI h hP => Z.V0 F hI (n := 4) (ci := 6) rfl (by decide) hP.1 hP.2 (k_X9_tried l h0 x1 x2 x3 x4 D A (zX μ, zC μ, zS μ) H.size K μ) q1871 q1872 q1873 q126 q1874 (by decide +kernel) rfl h.1 hst4 hR rfl hdg) k
theorem clX0_85 (F : ZF p R s m args meth c cc nL "SafeBucketsLaw" nm ret D A al sz mc ms fr lo) {h0 : Nat} {x1 : Int32} {x2 : Int32} {x3 : Int64} {K : Int32 → ZM → Prop} (hR : 5 + 1 ≤ fr ∧ 8 + (7 + 11) + 117 ≤ lo) (hst4 : zlw st) (hdg : decode cc pc = .ok (.invokevirtual 85, 3)) (k : ∀ r, ZW p l e R s m args below meth c Q nL D A al n0 (K r) (pc + 3) L (.int r :: st)) : ZW p l e R s m args below meth c Q nL D A al n0 (zat 1 h0 (f_X1_fewest h0 x1 x2 x3 K)) pc L (.long x3 :: .int x2 :: .int x1 :: zv h0 :: st) :=
  Z.ri0 _ (fun μ H locs cells slots ls hI h hP => Z.V0 F hI (n := 3) (ci := 0) rfl (by decide) hP.1 hP.2 (k_X1_fewest l h0 x1 x2 x3 D A (zX μ, zC μ, zS μ) H.size K μ) q994 q995 q996 q116 q997 (by decide +kernel) rfl h.1 hst4 hR rfl hdg) k
theorem clX0_89 (F : ZF p R s m args meth c cc nL "SafeBucketsLaw" nm ret D A al sz mc ms fr lo) {h0 : Nat} {x1 : Int32} {x2 : Int32} {x3 : Int64} {K : Int32 → ZM → Prop} (hR : 3 + 1 ≤ fr ∧ 8 + (6 + 11) + 71 ≤ lo) (hst4 : zlw st) (hdg : decode cc pc = .ok (.invokevirtual 89, 3)) (k : ∀ r, ZW p l e R s m args below meth c Q nL D A al n0 (K r) (pc + 3) L (.int r :: st)) : ZW p l e R s m args below meth c Q nL D A al n0 (zat 7 h0 (f_X9_fewest h0 x1 x2 x3 K)) pc L (.long x3 :: .int x2 :: .int x1 :: zv h0 :: st) :=
  Z.ri0 _ (fun μ H locs cells slots ls hI h hP => Z.V0 F hI (n := 3) (ci := 6) rfl (by decide) hP.1 hP.2 (k_X9_fewest l h0 x1 x2 x3 D A (zX μ, zC μ, zS μ) H.size K μ) q1879 q1880 q1881 q126 q1882 (by decide +kernel) rfl h.1 hst4 hR rfl hdg) k
theorem clX0_90 (F : ZF p R s m args meth c cc nL "SafeBucketsLaw" nm ret D A true sz mc ms fr lo) {h0 : Nat} {x1 : Int32} {x2 : Int32} {x3 : Int32} {x4 : Int32} {K : Int32 → ZM → Prop} (hR : 9 + 1 ≤ fr ∧ 8 + (6 + 11) + 195 ≤ lo) (hst4 : zlw st) (hdg : decode cc pc = .ok (.invokevirtual 90, 3)) (k : ∀ r, ZW p l e R s m args below meth c Q nL D A true n0 (K r) (pc + 3) L (.int r :: st)) : ZW p l e R s m args below meth c Q nL D A true n0 (zat 1 h0 (zcl 72 1334 (f_X1_add h0 x1 x2 x3 x4) K)) pc L (.int x4 :: .int x3 :: .int x2 :: .int x1 :: zv h0 :: st) :=
  Z.ri1 _ (fun μ H locs cells slots ls hI h hP => ⟨hP.2.1, hP.2.2.1, Z.V1 F hI (n := 4) (ci := 0) rfl (by decide) hP.1 hP.2.1 hP.2.2.1 hP.2.2.2 (k_X1_add l h0 x1 x2 x3 x4 D A (0, 0, 0) 0 (fun r μ' => K r (zcs μ' (zC μ - 72) (zS μ - 1334))) (zcs μ 72 1334)) q998 q999 q1000 q116 q1001 (by decide +kernel) rfl h.1 hst4 hR rfl hdg⟩) k
theorem clX0_93 (F : ZF p R s m args meth c cc nL "SafeBucketsLaw" nm ret D A al sz mc ms fr lo) {h0 : Nat} {x1 : Int32} {x2 : Int32} {x3 : Int32} {x4 : Int32} {K : Int32 → ZM → Prop} (hR : 5 + 1 ≤ fr ∧ 8 + (5 + 11) + 131 ≤ lo) (hst4 : zlw st) (hdg : decode cc pc = .ok (.invokevirtual 93, 3)) (k : ∀ r, ZW p l e R s m args below meth c Q nL D A al n0 (K r) (pc + 3) L (.int r :: st)) : ZW p l e R s m args below meth c Q nL D A al n0 (zat 7 h0 (f_X9_add h0 x1 x2 x3 x4 K)) pc L (.int x4 :: .int x3 :: .int x2 :: .int x1 :: zv h0 :: st) :=
  Z.ri0 _ (fun μ H locs cells slots ls hI h hP => Z.V0 F hI (n := 4) (ci := 6) rfl (by decide) hP.1 hP.2 (k_X9_add l h0 x1 x2 x3 x4 D A (zX μ, zC μ, zS μ) H.size K μ) q1883 q1884 q1885 q126 q1886 (by decide +kernel) rfl h.1 hst4 hR rfl hdg) k
theorem clX0_94 (F : ZF p R s m args meth c cc nL "SafeBucketsLaw" nm ret D A true sz mc ms fr lo) {h0 : Nat} {x1 : Int32} {x2 : Int32} {x3 : Int32} {x4 : Int32} {K : Int32 → ZM → Prop} (hR : 9 + 1 ≤ fr ∧ 8 + (6 + 11) + 195 ≤ lo) (hst4 : zlw st) (hdg : decode cc pc = .ok (.invokevirtual 94, 3)) (k : ∀ r, ZW p l e R s m args below meth c Q nL D A true n0 (K r) (pc + 3) L (.int r :: st)) : ZW p l e R s m args below meth c Q nL D A true n0 (zat 1 h0 (zcl 72 1334 (f_X1_drop h0 x1 x2 x3 x4) K)) pc L (.int x4 :: .int x3 :: .int x2 :: .int x1 :: zv h0 :: st) :=
  Z.ri1 _ (fun μ H locs cells slots ls hI h hP => ⟨hP.2.1, hP.2.2.1, Z.V1 F hI (n := 4) (ci := 0) rfl (by decide) hP.1 hP.2.1 hP.2.2.1 hP.2.2.2 (k_X1_drop l h0 x1 x2 x3 x4 D A (0, 0, 0) 0 (fun r μ' => K r (zcs μ' (zC μ - 72) (zS μ - 1334))) (zcs μ 72 1334)) q1070 q1071 q1072 q116 q1073 (by decide +kernel) rfl h.1 hst4 hR rfl hdg⟩) k
theorem clX0_97 (F : ZF p R s m args meth c cc nL "SafeBucketsLaw" nm ret D A al sz mc ms fr lo) {h0 : Nat} {x1 : Int32} {x2 : Int32} {x3 : Int32} {x4 : Int32} {K : Int32 → ZM → Prop} (hR : 5 + 1 ≤ fr ∧ 8 + (5 + 11) + 131 ≤ lo) (hst4 : zlw st) (hdg : decode cc pc = .ok (.invokevirtual 97, 3)) (k : ∀ r, ZW p l e R s m args below meth c Q nL D A al n0 (K r) (pc + 3) L (.int r :: st)) : ZW p l e R s m args below meth c Q nL D A al n0 (zat 7 h0 (f_X9_drop h0 x1 x2 x3 x4 K)) pc L (.int x4 :: .int x3 :: .int x2 :: .int x1 :: zv h0 :: st) :=
  Z.ri0 _ (fun μ H locs cells slots ls hI h hP => Z.V0 F hI (n := 4) (ci := 6) rfl (by decide) hP.1 hP.2 (k_X9_drop l h0 x1 x2 x3 x4 D A (zX μ, zC μ, zS μ) H.size K μ) q1916 q1917 q1918 q126 q1919 (by decide +kernel) rfl h.1 hst4 hR rfl hdg) k
theorem clX0_98 (F : ZF p R s m args meth c cc nL "SafeBucketsLaw" nm ret D A true sz mc ms fr lo) {h0 : Nat} {x1 : Int32} {x2 : Int32} {x3 : Int32} {x4 : Int32} {x5 : Int32} {K : Int32 → ZM → Prop} (hR : 8 + 1 ≤ fr ∧ 8 + (7 + 11) + 170 ≤ lo) (hst4 : zlw st) (hdg : decode cc pc = .ok (.invokevirtual 98, 3)) (k : ∀ r, ZW p l e R s m args below meth c Q nL D A true n0 (K r) (pc + 3) L (.int r :: st)) : ZW p l e R s m args below meth c Q nL D A true n0 (zat 1 h0 (zcl 72 1334 (f_X1_move h0 x1 x2 x3 x4 x5) K)) pc L (.int x5 :: .int x4 :: .int x3 :: .int x2 :: .int x1 :: zv h0 :: st) :=
  Z.ri1 _ (fun μ H locs cells slots ls hI h hP => ⟨hP.2.1, hP.2.2.1, Z.V1 F hI (n := 5) (ci := 0) rfl (by decide) hP.1 hP.2.1 hP.2.2.1 hP.2.2.2 (k_X1_move l h0 x1 x2 x3 x4 x5 D A (0, 0, 0) 0 (fun r μ' => K r (zcs μ' (zC μ - 72) (zS μ - 1334))) (zcs μ 72 1334)) q1074 q1075 q1076 q116 q1077 (by decide +kernel) rfl h.1 hst4 hR rfl hdg⟩) k
theorem clX0_101 (F : ZF p R s m args meth c cc nL "SafeBucketsLaw" nm ret D A al sz mc ms fr lo) {h0 : Nat} {x1 : Int32} {x2 : Int32} {x3 : Int32} {x4 : Int32} {x5 : Int32} {K : Int32 → ZM → Prop} (hR : 5 + 1 ≤ fr ∧ 8 + (7 + 11) + 131 ≤ lo) (hst4 : zlw st) (hdg : decode cc pc = .ok (.invokevirtual 101, 3)) (k : ∀ r, ZW p l e R s m args below meth c Q nL D A al n0 (K r) (pc + 3) L (.int r :: st)) : ZW p l e R s m args below meth c Q nL D A al n0 (zat 7 h0 (f_X9_move h0 x1 x2 x3 x4 x5 K)) pc L (.int x5 :: .int x4 :: .int x3 :: .int x2 :: .int x1 :: zv h0 :: st) :=
  Z.ri0 _ (fun μ H locs cells slots ls hI h hP => Z.V0 F hI (n := 5) (ci := 6) rfl (by decide) hP.1 hP.2 (k_X9_move l h0 x1 x2 x3 x4 x5 D A (zX μ, zC μ, zS μ) H.size K μ) q1924 q1925 q1926 q126 q1927 (by decide +kernel) rfl h.1 hst4 hR rfl hdg) k
theorem clX0_102 (F : ZF p R s m args meth c cc nL "SafeBucketsLaw" nm ret D A true sz mc ms fr lo) {h0 : Nat} {x1 : Int32} {x2 : Int32} {K : Int32 → ZM → Prop} (hR : 9 + 1 ≤ fr ∧ 8 + (3 + 11) + 185 ≤ lo) (hst4 : zlw st) (hdg : decode cc pc = .ok (.invokevirtual 102, 3)) (k : ∀ r, ZW p l e R s m args below meth c Q nL D A true n0 (K r) (pc + 3) L (.int r :: st)) : ZW p l e R s m args below meth c Q nL D A true n0 (zat 1 h0 (zcl 72 1334 (f_X1_build h0 x1 x2) K)) pc L (.int x2 :: .int x1 :: zv h0 :: st) :=
  Z.ri1 _ (fun μ H locs cells slots ls hI h hP => ⟨hP.2.1, hP.2.2.1, Z.V1 F hI (n := 2) (ci := 0) rfl (by decide) hP.1 hP.2.1 hP.2.2.1 hP.2.2.2 (k_X1_build l h0 x1 x2 D A (0, 0, 0) 0 (fun r μ' => K r (zcs μ' (zC μ - 72) (zS μ - 1334))) (zcs μ 72 1334)) q1078 q1079 q1080 q116 q1081 (by decide +kernel) rfl h.1 hst4 hR rfl hdg⟩) k
theorem clX0_105 (F : ZF p R s m args meth c cc nL "SafeBucketsLaw" nm ret D A al sz mc ms fr lo) {h0 : Nat} {x1 : Int32} {x2 : Int32} {K : Int32 → ZM → Prop} (hR : 4 + 1 ≤ fr ∧ 8 + (3 + 11) + 106 ≤ lo) (hst4 : zlw st) (hdg : decode cc pc = .ok (.invokevirtual 105, 3)) (k : ∀ r, ZW p l e R s m args below meth c Q nL D A al n0 (K r) (pc + 3) L (.int r :: st)) : ZW p l e R s m args below meth c Q nL D A al n0 (zat 7 h0 (f_X9_build h0 x1 x2 K)) pc L (.int x2 :: .int x1 :: zv h0 :: st) :=
  Z.ri0 _ (fun μ H locs cells slots ls hI h hP => Z.V0 F hI (n := 2) (ci := 6) rfl (by decide) hP.1 hP.2 (k_X9_build l h0 x1 x2 D A (zX μ, zC μ, zS μ) H.size K μ) q1928 q1929 q1930 q126 q1931 (by decide +kernel) rfl h.1 hst4 hR rfl hdg) k
theorem clX0_106 (F : ZF p R s m args meth c cc nL "SafeBucketsLaw" nm ret D A true sz mc ms fr lo) {h0 : Nat} {x1 : Int32} {K : Int32 → ZM → Prop} (hR : 8 + 1 ≤ fr ∧ 8 + (3 + 11) + 163 ≤ lo) (hst4 : zlw st) (hdg : decode cc pc = .ok (.invokevirtual 106, 3)) (k : ∀ r, ZW p l e R s m args below meth c Q nL D A true n0 (K r) (pc + 3) L (.int r :: st)) : ZW p l e R s m args below meth c Q nL D A true n0 (zat 1 h0 (zcl 72 1334 (f_X1_budget h0 x1) K)) pc L (.int x1 :: zv h0 :: st) :=
  Z.ri1 _ (fun μ H locs cells slots ls hI h hP => ⟨hP.2.1, hP.2.2.1, Z.V1 F hI (n := 1) (ci := 0) rfl (by decide) hP.1 hP.2.1 hP.2.2.1 hP.2.2.2 (k_X1_budget l h0 x1 D A (0, 0, 0) 0 (fun r μ' => K r (zcs μ' (zC μ - 72) (zS μ - 1334))) (zcs μ 72 1334)) q1087 q1088 q1089 q116 q1090 (by decide +kernel) rfl h.1 hst4 hR rfl hdg⟩) k
theorem clX0_109 (F : ZF p R s m args meth c cc nL "SafeBucketsLaw" nm ret D A al sz mc ms fr lo) {h0 : Nat} {x1 : Int32} {K : Int32 → ZM → Prop} (hR : 2 + 1 ≤ fr ∧ 8 + (3 + 11) + 46 ≤ lo) (hst4 : zlw st) (hdg : decode cc pc = .ok (.invokevirtual 109, 3)) (k : ∀ r, ZW p l e R s m args below meth c Q nL D A al n0 (K r) (pc + 3) L (.int r :: st)) : ZW p l e R s m args below meth c Q nL D A al n0 (zat 7 h0 (f_X9_budget h0 x1 K)) pc L (.int x1 :: zv h0 :: st) :=
  Z.ri0 _ (fun μ H locs cells slots ls hI h hP => Z.V0 F hI (n := 1) (ci := 6) rfl (by decide) hP.1 hP.2 (k_X9_budget l h0 x1 D A (zX μ, zC μ, zS μ) H.size K μ) q1936 q1937 q1938 q126 q1939 (by decide +kernel) rfl h.1 hst4 hR rfl hdg) k
theorem clX0_110 (F : ZF p R s m args meth c cc nL "SafeBucketsLaw" nm ret D A true sz mc ms fr lo) {h0 : Nat} {x1 : Int32} {x2 : Int64} {K : Int32 → ZM → Prop} (hR : 10 + 1 ≤ fr ∧ 8 + (5 + 11) + 221 ≤ lo) (hst4 : zlw st) (hdg : decode cc pc = .ok (.invokevirtual 110, 3)) (k : ∀ r, ZW p l e R s m args below meth c Q nL D A true n0 (K r) (pc + 3) L (.int r :: st)) : ZW p l e R s m args below meth c Q nL D A true n0 (zat 1 h0 (zcl 2880 53360 (f_X1_years h0 x1 x2) K)) pc L (.long x2 :: .int x1 :: zv h0 :: st) :=
  Z.ri1 _ (fun μ H locs cells slots ls hI h hP => ⟨hP.2.1, hP.2.2.1, Z.V1 F hI (n := 2) (ci := 0) rfl (by decide) hP.1 hP.2.1 hP.2.2.1 hP.2.2.2 (k_X1_years l h0 x1 x2 D A (0, 0, 0) 0 (fun r μ' => K r (zcs μ' (zC μ - 2880) (zS μ - 53360))) (zcs μ 2880 53360)) q1092 q1093 q1094 q116 q1095 (by decide +kernel) rfl h.1 hst4 hR rfl hdg⟩) k
theorem clX0_114 (F : ZF p R s m args meth c cc nL "SafeBucketsLaw" nm ret D A al sz mc ms fr lo) {h0 : Nat} {x1 : Int32} {x2 : Int64} {K : Int32 → ZM → Prop} (hR : 7 + 1 ≤ fr ∧ 8 + (5 + 11) + 180 ≤ lo) (hst4 : zlw st) (hdg : decode cc pc = .ok (.invokevirtual 114, 3)) (k : ∀ r, ZW p l e R s m args below meth c Q nL D A al n0 (K r) (pc + 3) L (.int r :: st)) : ZW p l e R s m args below meth c Q nL D A al n0 (zat 7 h0 (f_X9_years h0 x1 x2 K)) pc L (.long x2 :: .int x1 :: zv h0 :: st) :=
  Z.ri0 _ (fun μ H locs cells slots ls hI h hP => Z.V0 F hI (n := 2) (ci := 6) rfl (by decide) hP.1 hP.2 (k_X9_years l h0 x1 x2 D A (zX μ, zC μ, zS μ) H.size K μ) q1941 q1942 q1943 q126 q1944 (by decide +kernel) rfl h.1 hst4 hR rfl hdg) k
theorem clX0_115 (F : ZF p R s m args meth c cc nL "SafeBucketsLaw" nm ret D A al sz mc ms fr lo) {h0 : Nat} {x1 : Int32} {K : Int32 → ZM → Prop} (hR : 1 + 1 ≤ fr ∧ 8 + (2 + 11) + 25 ≤ lo) (hst4 : zlw st) (hdg : decode cc pc = .ok (.invokevirtual 115, 3)) (k : ∀ r, ZW p l e R s m args below meth c Q nL D A al n0 (K r) (pc + 3) L (.int r :: st)) : ZW p l e R s m args below meth c Q nL D A al n0 (zat 1 h0 (f_X1_status h0 x1 K)) pc L (.int x1 :: zv h0 :: st) :=
  Z.ri0 _ (fun μ H locs cells slots ls hI h hP => Z.V0 F hI (n := 1) (ci := 0) rfl (by decide) hP.1 hP.2 (k_X1_status l h0 x1 D A (zX μ, zC μ, zS μ) H.size K μ) q1114 q1115 q1116 q116 q1117 (by decide +kernel) rfl h.1 hst4 hR rfl hdg) k
theorem clX0_118 (F : ZF p R s m args meth c cc nL "SafeBucketsLaw" nm ret D A al sz mc ms fr lo) {h0 : Nat} {x1 : Int32} {K : Int32 → ZM → Prop} (hR : 1 + 1 ≤ fr ∧ 8 + (2 + 11) + 25 ≤ lo) (hst4 : zlw st) (hdg : decode cc pc = .ok (.invokevirtual 118, 3)) (k : ∀ r, ZW p l e R s m args below meth c Q nL D A al n0 (K r) (pc + 3) L (.int r :: st)) : ZW p l e R s m args below meth c Q nL D A al n0 (zat 7 h0 (f_X9_status h0 x1 K)) pc L (.int x1 :: zv h0 :: st) :=
  Z.ri0 _ (fun μ H locs cells slots ls hI h hP => Z.V0 F hI (n := 1) (ci := 6) rfl (by decide) hP.1 hP.2 (k_X9_status l h0 x1 D A (zX μ, zC μ, zS μ) H.size K μ) q1967 q1968 q1969 q126 q1970 (by decide +kernel) rfl h.1 hst4 hR rfl hdg) k
theorem clX0_119 (F : ZF p R s m args meth c cc nL "SafeBucketsLaw" nm ret D A al sz mc ms fr lo) {h0 : Nat} {K : Int32 → ZM → Prop} (hR : 4 + 1 ≤ fr ∧ 8 + (1 + 11) + 104 ≤ lo) (hst4 : zlw st) (hdg : decode cc pc = .ok (.invokevirtual 119, 3)) (k : ∀ r, ZW p l e R s m args below meth c Q nL D A al n0 (K r) (pc + 3) L (.int r :: st)) : ZW p l e R s m args below meth c Q nL D A al n0 (zat 1 h0 (f_X1_undo h0 K)) pc L (zv h0 :: st) :=
  Z.ri0 _ (fun μ H locs cells slots ls hI h hP => Z.V0 F hI (n := 0) (ci := 0) rfl (by decide) hP.1 hP.2 (k_X1_undo l h0 D A (zX μ, zC μ, zS μ) H.size K μ) q1119 q1120 q1121 q116 q1122 (by decide +kernel) rfl h.1 hst4 hR rfl hdg) k
theorem clX0_122 (F : ZF p R s m args meth c cc nL "SafeBucketsLaw" nm ret D A al sz mc ms fr lo) {h0 : Nat} {K : Int32 → ZM → Prop} (hR : 0 + 1 ≤ fr ∧ 8 + (2 + 11) + 0 ≤ lo) (hst4 : zlw st) (hdg : decode cc pc = .ok (.invokevirtual 122, 3)) (k : ∀ r, ZW p l e R s m args below meth c Q nL D A al n0 (K r) (pc + 3) L (.int r :: st)) : ZW p l e R s m args below meth c Q nL D A al n0 (zat 7 h0 (f_X9_undo h0 K)) pc L (zv h0 :: st) :=
  Z.ri0 _ (fun μ H locs cells slots ls hI h hP => Z.V0 F hI (n := 0) (ci := 6) rfl (by decide) hP.1 hP.2 (k_X9_undo l h0 D A (zX μ, zC μ, zS μ) H.size K μ) q1972 q1973 q1974 q126 q1975 (by decide +kernel) rfl h.1 hst4 hR rfl hdg) k
theorem clX0_123 (F : ZF p R s m args meth c cc nL "SafeBucketsLaw" nm ret D A al sz mc ms fr lo) {h0 : Nat} {x1 : Int32} {x2 : Int32} {K : Int32 → ZM → Prop} (hR : 1 + 1 ≤ fr ∧ 8 + (3 + 11) + 25 ≤ lo) (hst4 : zlw st) (hdg : decode cc pc = .ok (.invokevirtual 123, 3)) (k : ∀ r, ZW p l e R s m args below meth c Q nL D A al n0 (K r) (pc + 3) L (.int r :: st)) : ZW p l e R s m args below meth c Q nL D A al n0 (zat 1 h0 (f_X1_log h0 x1 x2 K)) pc L (.int x2 :: .int x1 :: zv h0 :: st) :=
  Z.ri0 _ (fun μ H locs cells slots ls hI h hP => Z.V0 F hI (n := 2) (ci := 0) rfl (by decide) hP.1 hP.2 (k_X1_log l h0 x1 x2 D A (zX μ, zC μ, zS μ) H.size K μ) q1123 q1124 q1125 q116 q1126 (by decide +kernel) rfl h.1 hst4 hR rfl hdg) k
theorem clX0_126 (F : ZF p R s m args meth c cc nL "SafeBucketsLaw" nm ret D A al sz mc ms fr lo) {h0 : Nat} {x1 : Int32} {x2 : Int32} {K : Int32 → ZM → Prop} (hR : 1 + 1 ≤ fr ∧ 8 + (3 + 11) + 25 ≤ lo) (hst4 : zlw st) (hdg : decode cc pc = .ok (.invokevirtual 126, 3)) (k : ∀ r, ZW p l e R s m args below meth c Q nL D A al n0 (K r) (pc + 3) L (.int r :: st)) : ZW p l e R s m args below meth c Q nL D A al n0 (zat 7 h0 (f_X9_log h0 x1 x2 K)) pc L (.int x2 :: .int x1 :: zv h0 :: st) :=
  Z.ri0 _ (fun μ H locs cells slots ls hI h hP => Z.V0 F hI (n := 2) (ci := 6) rfl (by decide) hP.1 hP.2 (k_X9_log l h0 x1 x2 D A (zX μ, zC μ, zS μ) H.size K μ) q1976 q1977 q1978 q126 q1979 (by decide +kernel) rfl h.1 hst4 hR rfl hdg) k
theorem clX0_127 (F : ZF p R s m args meth c cc nL "SafeBucketsLaw" nm ret D A true sz mc ms fr lo) {h0 : Nat} {x1 : Int32} {x2 : Int32} {x3 : Int32} {K : Int32 → ZM → Prop} (hR : 7 + 1 ≤ fr ∧ 8 + (6 + 11) + 159 ≤ lo) (hst4 : zlw st) (hdg : decode cc pc = .ok (.invokevirtual 127, 3)) (k : ∀ r, ZW p l e R s m args below meth c Q nL D A true n0 (K r) (pc + 3) L (.int r :: st)) : ZW p l e R s m args below meth c Q nL D A true n0 (zat 1 h0 (zcl 1 2 (f_X1_where h0 x1 x2 x3) K)) pc L (.int x3 :: .int x2 :: .int x1 :: zv h0 :: st) :=
  Z.ri1 _ (fun μ H locs cells slots ls hI h hP => ⟨hP.2.1, hP.2.2.1, Z.VW1 F hI (n := 3) (ci := 0) rfl (by decide) hP.1 hP.2.1 hP.2.2.1 hP.2.2.2 (k_X1_where l h0 x1 x2 x3 D A (0, 0, 0) 0 (fun r μ' => K r (zcs μ' (zC μ - 1) (zS μ - 2))) (zcs μ 1 2)) q1127 q1128 q1129 q116 q1130 (by decide +kernel) rfl h.1 hst4 hR rfl hdg⟩) k
theorem clX0_130 (F : ZF p R s m args meth c cc nL "SafeBucketsLaw" nm ret D A al sz mc ms fr lo) {h0 : Nat} {x1 : Int32} {x2 : Int32} {x3 : Int32} {K : Int32 → ZM → Prop} (hR : 5 + 1 ≤ fr ∧ 8 + (4 + 11) + 136 ≤ lo) (hst4 : zlw st) (hdg : decode cc pc = .ok (.invokevirtual 130, 3)) (k : ∀ r, ZW p l e R s m args below meth c Q nL D A al n0 (K r) (pc + 3) L (.int r :: st)) : ZW p l e R s m args below meth c Q nL D A al n0 (zat 7 h0 (f_X9_where h0 x1 x2 x3 K)) pc L (.int x3 :: .int x2 :: .int x1 :: zv h0 :: st) :=
  Z.ri0 _ (fun μ H locs cells slots ls hI h hP => Z.V0 F hI (n := 3) (ci := 6) rfl (by decide) hP.1 hP.2 (k_X9_where l h0 x1 x2 x3 D A (zX μ, zC μ, zS μ) H.size K μ) q1984 q1985 q1986 q126 q1987 (by decide +kernel) rfl h.1 hst4 hR rfl hdg) k
theorem clX0_131 (F : ZF p R s m args meth c cc nL "SafeBucketsLaw" nm ret D A true sz mc ms fr lo) {h0 : Nat} {x1 : Int32} {x2 : Int32} {x3 : Int32} {x4 : Int32} {x5 : Int32} {K : Int64 → ZM → Prop} (hR : 5 + 1 ≤ fr ∧ 8 + (9 + 11) + 121 ≤ lo) (hst4 : zlw st) (hdg : decode cc pc = .ok (.invokevirtual 131, 3)) (k : ∀ r, ZW p l e R s m args below meth c Q nL D A true n0 (K r) (pc + 3) L (.long r :: st)) : ZW p l e R s m args below meth c Q nL D A true n0 (zat 1 h0 (zcl 2 4 (f_X1_join h0 x1 x2 x3 x4 x5) K)) pc L (.int x5 :: .int x4 :: .int x3 :: .int x2 :: .int x1 :: zv h0 :: st) :=
  Z.rl1 _ (fun μ H locs cells slots ls hI h hP => ⟨hP.2.1, hP.2.2.1, Z.VW1 F hI (n := 5) (ci := 0) rfl (by decide) hP.1 hP.2.1 hP.2.2.1 hP.2.2.2 (k_X1_join l h0 x1 x2 x3 x4 x5 D A (0, 0, 0) 0 (fun r μ' => K r (zcs μ' (zC μ - 2) (zS μ - 4))) (zcs μ 2 4)) q1379 q1380 q1381 q116 q1382 (by decide +kernel) rfl h.1 hst4 hR rfl hdg⟩) k
theorem clX0_135 (F : ZF p R s m args meth c cc nL "SafeBucketsLaw" nm ret D A al sz mc ms fr lo) {h0 : Nat} {x1 : Int32} {x2 : Int32} {x3 : Int32} {x4 : Int32} {x5 : Int32} {K : Int64 → ZM → Prop} (hR : 5 + 1 ≤ fr ∧ 8 + (6 + 11) + 124 ≤ lo) (hst4 : zlw st) (hdg : decode cc pc = .ok (.invokevirtual 135, 3)) (k : ∀ r, ZW p l e R s m args below meth c Q nL D A al n0 (K r) (pc + 3) L (.long r :: st)) : ZW p l e R s m args below meth c Q nL D A al n0 (zat 7 h0 (f_X9_join h0 x1 x2 x3 x4 x5 K)) pc L (.int x5 :: .int x4 :: .int x3 :: .int x2 :: .int x1 :: zv h0 :: st) :=
  Z.rl0 _ (fun μ H locs cells slots ls hI h hP => Z.V0 F hI (n := 5) (ci := 6) rfl (by decide) hP.1 hP.2 (k_X9_join l h0 x1 x2 x3 x4 x5 D A (zX μ, zC μ, zS μ) H.size K μ) q2044 q2045 q2046 q126 q2047 (by decide +kernel) rfl h.1 hst4 hR rfl hdg) k
theorem clX0_136 (F : ZF p R s m args meth c cc nL "SafeBucketsLaw" nm ret D A true sz mc ms fr lo) {h0 : Nat} {x1 : Int32} {K : Int64 → ZM → Prop} (hR : 4 + 1 ≤ fr ∧ 8 + (6 + 11) + 96 ≤ lo) (hst4 : zlw st) (hdg : decode cc pc = .ok (.invokevirtual 136, 3)) (k : ∀ r, ZW p l e R s m args below meth c Q nL D A true n0 (K r) (pc + 3) L (.long r :: st)) : ZW p l e R s m args below meth c Q nL D A true n0 (zat 1 h0 (zcl 3 6 (f_X1_chain h0 x1) K)) pc L (.int x1 :: zv h0 :: st) :=
  Z.rl1 _ (fun μ H locs cells slots ls hI h hP => ⟨hP.2.1, hP.2.2.1, Z.VW1 F hI (n := 1) (ci := 0) rfl (by decide) hP.1 hP.2.1 hP.2.2.1 hP.2.2.2 (k_X1_chain l h0 x1 D A (0, 0, 0) 0 (fun r μ' => K r (zcs μ' (zC μ - 3) (zS μ - 6))) (zcs μ 3 6)) q1406 q1407 q1408 q116 q1409 (by decide +kernel) rfl h.1 hst4 hR rfl hdg⟩) k
theorem clX0_140 (F : ZF p R s m args meth c cc nL "SafeBucketsLaw" nm ret D A al sz mc ms fr lo) {h0 : Nat} {x1 : Int32} {K : Int64 → ZM → Prop} (hR : 4 + 1 ≤ fr ∧ 8 + (2 + 11) + 96 ≤ lo) (hst4 : zlw st) (hdg : decode cc pc = .ok (.invokevirtual 140, 3)) (k : ∀ r, ZW p l e R s m args below meth c Q nL D A al n0 (K r) (pc + 3) L (.long r :: st)) : ZW p l e R s m args below meth c Q nL D A al n0 (zat 7 h0 (f_X9_chain h0 x1 K)) pc L (.int x1 :: zv h0 :: st) :=
  Z.rl0 _ (fun μ H locs cells slots ls hI h hP => Z.V0 F hI (n := 1) (ci := 6) rfl (by decide) hP.1 hP.2 (k_X9_chain l h0 x1 D A (zX μ, zC μ, zS μ) H.size K μ) q2068 q2069 q2070 q126 q2071 (by decide +kernel) rfl h.1 hst4 hR rfl hdg) k
theorem clX0_141 (F : ZF p R s m args meth c cc nL "SafeBucketsLaw" nm ret D A al sz mc ms fr lo) {h0 : Nat} {x1 : Int32} {K : Int32 → ZM → Prop} (hR : 1 + 1 ≤ fr ∧ 8 + (2 + 11) + 25 ≤ lo) (hst4 : zlw st) (hdg : decode cc pc = .ok (.invokevirtual 141, 3)) (k : ∀ r, ZW p l e R s m args below meth c Q nL D A al n0 (K r) (pc + 3) L (.int r :: st)) : ZW p l e R s m args below meth c Q nL D A al n0 (zat 1 h0 (f_X1_trace h0 x1 K)) pc L (.int x1 :: zv h0 :: st) :=
  Z.ri0 _ (fun μ H locs cells slots ls hI h hP => Z.V0 F hI (n := 1) (ci := 0) rfl (by decide) hP.1 hP.2 (k_X1_trace l h0 x1 D A (zX μ, zC μ, zS μ) H.size K μ) q1419 q1420 q1421 q116 q1422 (by decide +kernel) rfl h.1 hst4 hR rfl hdg) k
theorem clX0_144 (F : ZF p R s m args meth c cc nL "SafeBucketsLaw" nm ret D A al sz mc ms fr lo) {h0 : Nat} {x1 : Int32} {K : Int32 → ZM → Prop} (hR : 1 + 1 ≤ fr ∧ 8 + (2 + 11) + 25 ≤ lo) (hst4 : zlw st) (hdg : decode cc pc = .ok (.invokevirtual 144, 3)) (k : ∀ r, ZW p l e R s m args below meth c Q nL D A al n0 (K r) (pc + 3) L (.int r :: st)) : ZW p l e R s m args below meth c Q nL D A al n0 (zat 7 h0 (f_X9_trace h0 x1 K)) pc L (.int x1 :: zv h0 :: st) :=
  Z.ri0 _ (fun μ H locs cells slots ls hI h hP => Z.V0 F hI (n := 1) (ci := 6) rfl (by decide) hP.1 hP.2 (k_X9_trace l h0 x1 D A (zX μ, zC μ, zS μ) H.size K μ) q1980 q1981 q1982 q126 q1983 (by decide +kernel) rfl h.1 hst4 hR rfl hdg) k
theorem clX0_145 (F : ZF p R s m args meth c cc nL "SafeBucketsLaw" nm ret D A al sz mc ms fr lo) {h0 : Nat} {x1 : Int32} {x2 : Int32} {x3 : Int32} {K : Int32 → ZM → Prop} (hR : 8 + 1 ≤ fr ∧ 8 + (9 + 11) + 180 ≤ lo) (hst4 : zlw st) (hdg : decode cc pc = .ok (.invokevirtual 145, 3)) (k : ∀ r, ZW p l e R s m args below meth c Q nL D A al n0 (K r) (pc + 3) L (.int r :: st)) : ZW p l e R s m args below meth c Q nL D A al n0 (zat 1 h0 (f_X1_narrow h0 x1 x2 x3 K)) pc L (.int x3 :: .int x2 :: .int x1 :: zv h0 :: st) :=
  Z.ri0 _ (fun μ H locs cells slots ls hI h hP => Z.V0 F hI (n := 3) (ci := 0) rfl (by decide) hP.1 hP.2 (k_X1_narrow l h0 x1 x2 x3 D A (zX μ, zC μ, zS μ) H.size K μ) q1423 q1424 q1425 q116 q1426 (by decide +kernel) rfl h.1 hst4 hR rfl hdg) k
theorem clX0_148 (F : ZF p R s m args meth c cc nL "SafeBucketsLaw" nm ret D A al sz mc ms fr lo) {h0 : Nat} {x1 : Int32} {x2 : Int32} {x3 : Int32} {K : Int32 → ZM → Prop} (hR : 6 + 1 ≤ fr ∧ 8 + (9 + 11) + 161 ≤ lo) (hst4 : zlw st) (hdg : decode cc pc = .ok (.invokevirtual 148, 3)) (k : ∀ r, ZW p l e R s m args below meth c Q nL D A al n0 (K r) (pc + 3) L (.int r :: st)) : ZW p l e R s m args below meth c Q nL D A al n0 (zat 7 h0 (f_X9_narrow h0 x1 x2 x3 K)) pc L (.int x3 :: .int x2 :: .int x1 :: zv h0 :: st) :=
  Z.ri0 _ (fun μ H locs cells slots ls hI h hP => Z.V0 F hI (n := 3) (ci := 6) rfl (by decide) hP.1 hP.2 (k_X9_narrow l h0 x1 x2 x3 D A (zX μ, zC μ, zS μ) H.size K μ) q2080 q2081 q2082 q126 q2083 (by decide +kernel) rfl h.1 hst4 hR rfl hdg) k
theorem clX0_149 (F : ZF p R s m args meth c cc nL "SafeBucketsLaw" nm ret D A al sz mc ms fr lo) {h0 : Nat} {x1 : Int32} {x2 : Int32} {x3 : Int32} {x4 : Int32} {K : Int64 → ZM → Prop} (hR : 101 + 1 ≤ fr ∧ 8 + (9 + 11) + 2323 ≤ lo) (hst4 : zlw st) (hdg : decode cc pc = .ok (.invokevirtual 149, 3)) (k : ∀ r, ZW p l e R s m args below meth c Q nL D A al n0 (K r) (pc + 3) L (.long r :: st)) : ZW p l e R s m args below meth c Q nL D A al n0 (zat 1 h0 (f_X1_odds h0 x1 x2 x3 x4 K)) pc L (.int x4 :: .int x3 :: .int x2 :: .int x1 :: zv h0 :: st) :=
  Z.rl0 _ (fun μ H locs cells slots ls hI h hP => Z.V0 F hI (n := 4) (ci := 0) rfl (by decide) hP.1 hP.2 (k_X1_odds l h0 x1 x2 x3 x4 D A (zX μ, zC μ, zS μ) H.size K μ) q1460 q1461 q1462 q116 q1463 (by decide +kernel) rfl h.1 hst4 hR rfl hdg) k
theorem clX0_153 (F : ZF p R s m args meth c cc nL "SafeBucketsLaw" nm ret D A al sz mc ms fr lo) {h0 : Nat} {x1 : Int32} {x2 : Int32} {x3 : Int32} {x4 : Int32} {K : Int64 → ZM → Prop} (hR : 5 + 1 ≤ fr ∧ 8 + (15 + 11) + 125 ≤ lo) (hst4 : zlw st) (hdg : decode cc pc = .ok (.invokevirtual 153, 3)) (k : ∀ r, ZW p l e R s m args below meth c Q nL D A al n0 (K r) (pc + 3) L (.long r :: st)) : ZW p l e R s m args below meth c Q nL D A al n0 (zat 7 h0 (f_X9_odds h0 x1 x2 x3 x4 K)) pc L (.int x4 :: .int x3 :: .int x2 :: .int x1 :: zv h0 :: st) :=
  Z.rl0 _ (fun μ H locs cells slots ls hI h hP => Z.V0 F hI (n := 4) (ci := 6) rfl (by decide) hP.1 hP.2 (k_X9_odds l h0 x1 x2 x3 x4 D A (zX μ, zC μ, zS μ) H.size K μ) q2088 q2089 q2090 q126 q2091 (by decide +kernel) rfl h.1 hst4 hR rfl hdg) k
theorem clX0_154 (F : ZF p R s m args meth c cc nL "SafeBucketsLaw" nm ret D A al sz mc ms fr lo) {h0 : Nat} {x1 : Int32} {x2 : Int32} {x3 : Int32} {K : Int32 → ZM → Prop} (hR : 2 + 1 ≤ fr ∧ 8 + (7 + 11) + 41 ≤ lo) (hst4 : zlw st) (hdg : decode cc pc = .ok (.invokevirtual 154, 3)) (k : ∀ r, ZW p l e R s m args below meth c Q nL D A al n0 (K r) (pc + 3) L (.int r :: st)) : ZW p l e R s m args below meth c Q nL D A al n0 (zat 1 h0 (f_X1_unit h0 x1 x2 x3 K)) pc L (.int x3 :: .int x2 :: .int x1 :: zv h0 :: st) :=
  Z.ri0 _ (fun μ H locs cells slots ls hI h hP => Z.V0 F hI (n := 3) (ci := 0) rfl (by decide) hP.1 hP.2 (k_X1_unit l h0 x1 x2 x3 D A (zX μ, zC μ, zS μ) H.size K μ) q911 q912 q913 q116 q914 (by decide +kernel) rfl h.1 hst4 hR rfl hdg) k
theorem clX0_157 (F : ZF p R s m args meth c cc nL "SafeBucketsLaw" nm ret D A al sz mc ms fr lo) {h0 : Nat} {x1 : Int32} {x2 : Int32} {x3 : Int32} {K : Int32 → ZM → Prop} (hR : 2 + 1 ≤ fr ∧ 8 + (4 + 11) + 46 ≤ lo) (hst4 : zlw st) (hdg : decode cc pc = .ok (.invokevirtual 157, 3)) (k : ∀ r, ZW p l e R s m args below meth c Q nL D A al n0 (K r) (pc + 3) L (.int r :: st)) : ZW p l e R s m args below meth c Q nL D A al n0 (zat 7 h0 (f_X9_unit h0 x1 x2 x3 K)) pc L (.int x3 :: .int x2 :: .int x1 :: zv h0 :: st) :=
  Z.ri0 _ (fun μ H locs cells slots ls hI h hP => Z.V0 F hI (n := 3) (ci := 6) rfl (by decide) hP.1 hP.2 (k_X9_unit l h0 x1 x2 x3 D A (zX μ, zC μ, zS μ) H.size K μ) q2092 q2093 q2094 q126 q2095 (by decide +kernel) rfl h.1 hst4 hR rfl hdg) k
theorem clX0_158 (F : ZF p R s m args meth c cc nL "SafeBucketsLaw" nm ret D A al sz mc ms fr lo) {h0 : Nat} {x1 : Int32} {x2 : Int32} {K : Int32 → ZM → Prop} (hR : 1 + 1 ≤ fr ∧ 8 + (3 + 11) + 25 ≤ lo) (hst4 : zlw st) (hdg : decode cc pc = .ok (.invokevirtual 158, 3)) (k : ∀ r, ZW p l e R s m args below meth c Q nL D A al n0 (K r) (pc + 3) L (.int r :: st)) : ZW p l e R s m args below meth c Q nL D A al n0 (zat 1 h0 (f_X1_shares h0 x1 x2 K)) pc L (.int x2 :: .int x1 :: zv h0 :: st) :=
  Z.ri0 _ (fun μ H locs cells slots ls hI h hP => Z.V0 F hI (n := 2) (ci := 0) rfl (by decide) hP.1 hP.2 (k_X1_shares l h0 x1 x2 D A (zX μ, zC μ, zS μ) H.size K μ) q1486 q1487 q1488 q116 q1489 (by decide +kernel) rfl h.1 hst4 hR rfl hdg) k
theorem clX0_161 (F : ZF p R s m args meth c cc nL "SafeBucketsLaw" nm ret D A al sz mc ms fr lo) {h0 : Nat} {x1 : Int32} {x2 : Int32} {K : Int32 → ZM → Prop} (hR : 2 + 1 ≤ fr ∧ 8 + (3 + 11) + 46 ≤ lo) (hst4 : zlw st) (hdg : decode cc pc = .ok (.invokevirtual 161, 3)) (k : ∀ r, ZW p l e R s m args below meth c Q nL D A al n0 (K r) (pc + 3) L (.int r :: st)) : ZW p l e R s m args below meth c Q nL D A al n0 (zat 7 h0 (f_X9_shares h0 x1 x2 K)) pc L (.int x2 :: .int x1 :: zv h0 :: st) :=
  Z.ri0 _ (fun μ H locs cells slots ls hI h hP => Z.V0 F hI (n := 2) (ci := 6) rfl (by decide) hP.1 hP.2 (k_X9_shares l h0 x1 x2 D A (zX μ, zC μ, zS μ) H.size K μ) q2096 q2097 q2098 q126 q2099 (by decide +kernel) rfl h.1 hst4 hR rfl hdg) k
theorem clX0_162 (F : ZF p R s m args meth c cc nL "SafeBucketsLaw" nm ret D A al sz mc ms fr lo) {h0 : Nat} {x1 : Int32} {K : Int32 → ZM → Prop} (hR : 5 + 1 ≤ fr ∧ 8 + (2 + 11) + 114 ≤ lo) (hst4 : zlw st) (hdg : decode cc pc = .ok (.invokevirtual 162, 3)) (k : ∀ r, ZW p l e R s m args below meth c Q nL D A al n0 (K r) (pc + 3) L (.int r :: st)) : ZW p l e R s m args below meth c Q nL D A al n0 (zat 1 h0 (f_X1_most h0 x1 K)) pc L (.int x1 :: zv h0 :: st) :=
  Z.ri0 _ (fun μ H locs cells slots ls hI h hP => Z.V0 F hI (n := 1) (ci := 0) rfl (by decide) hP.1 hP.2 (k_X1_most l h0 x1 D A (zX μ, zC μ, zS μ) H.size K μ) q1490 q1491 q1492 q116 q1493 (by decide +kernel) rfl h.1 hst4 hR rfl hdg) k
theorem clX0_165 (F : ZF p R s m args meth c cc nL "SafeBucketsLaw" nm ret D A al sz mc ms fr lo) {h0 : Nat} {x1 : Int32} {K : Int32 → ZM → Prop} (hR : 4 + 1 ≤ fr ∧ 8 + (2 + 11) + 96 ≤ lo) (hst4 : zlw st) (hdg : decode cc pc = .ok (.invokevirtual 165, 3)) (k : ∀ r, ZW p l e R s m args below meth c Q nL D A al n0 (K r) (pc + 3) L (.int r :: st)) : ZW p l e R s m args below meth c Q nL D A al n0 (zat 7 h0 (f_X9_most h0 x1 K)) pc L (.int x1 :: zv h0 :: st) :=
  Z.ri0 _ (fun μ H locs cells slots ls hI h hP => Z.V0 F hI (n := 1) (ci := 6) rfl (by decide) hP.1 hP.2 (k_X9_most l h0 x1 D A (zX μ, zC μ, zS μ) H.size K μ) q2100 q2101 q2102 q126 q2103 (by decide +kernel) rfl h.1 hst4 hR rfl hdg) k
theorem clX0_166 (F : ZF p R s m args meth c cc nL "SafeBucketsLaw" nm ret D A al sz mc ms fr lo) {h0 : Nat} {K : Int32 → ZM → Prop} (hR : 4 + 1 ≤ fr ∧ 8 + (1 + 11) + 104 ≤ lo) (hst4 : zlw st) (hdg : decode cc pc = .ok (.invokevirtual 166, 3)) (k : ∀ r, ZW p l e R s m args below meth c Q nL D A al n0 (K r) (pc + 3) L (.int r :: st)) : ZW p l e R s m args below meth c Q nL D A al n0 (zat 1 h0 (f_X1_image h0 K)) pc L (zv h0 :: st) :=
  Z.ri0 _ (fun μ H locs cells slots ls hI h hP => Z.V0 F hI (n := 0) (ci := 0) rfl (by decide) hP.1 hP.2 (k_X1_image l h0 D A (zX μ, zC μ, zS μ) H.size K μ) q1519 q1520 q1521 q116 q1522 (by decide +kernel) rfl h.1 hst4 hR rfl hdg) k
theorem clX0_169 (F : ZF p R s m args meth c cc nL "SafeBucketsLaw" nm ret D A al sz mc ms fr lo) {h0 : Nat} {K : Int32 → ZM → Prop} (hR : 2 + 1 ≤ fr ∧ 8 + (2 + 11) + 45 ≤ lo) (hst4 : zlw st) (hdg : decode cc pc = .ok (.invokevirtual 169, 3)) (k : ∀ r, ZW p l e R s m args below meth c Q nL D A al n0 (K r) (pc + 3) L (.int r :: st)) : ZW p l e R s m args below meth c Q nL D A al n0 (zat 7 h0 (f_X9_image h0 K)) pc L (zv h0 :: st) :=
  Z.ri0 _ (fun μ H locs cells slots ls hI h hP => Z.V0 F hI (n := 0) (ci := 6) rfl (by decide) hP.1 hP.2 (k_X9_image l h0 D A (zX μ, zC μ, zS μ) H.size K μ) q2125 q2126 q2127 q126 q2128 (by decide +kernel) rfl h.1 hst4 hR rfl hdg) k
theorem clX0_170 (F : ZF p R s m args meth c cc nL "SafeBucketsLaw" nm ret D A al sz mc ms fr lo) {h0 : Nat} {K : Int32 → ZM → Prop} (hR : 4 + 1 ≤ fr ∧ 8 + (1 + 11) + 104 ≤ lo) (hst4 : zlw st) (hdg : decode cc pc = .ok (.invokevirtual 170, 3)) (k : ∀ r, ZW p l e R s m args below meth c Q nL D A al n0 (K r) (pc + 3) L (.int r :: st)) : ZW p l e R s m args below meth c Q nL D A al n0 (zat 1 h0 (f_X1_back h0 K)) pc L (zv h0 :: st) :=
  Z.ri0 _ (fun μ H locs cells slots ls hI h hP => Z.V0 F hI (n := 0) (ci := 0) rfl (by decide) hP.1 hP.2 (k_X1_back l h0 D A (zX μ, zC μ, zS μ) H.size K μ) q1523 q1524 q1525 q116 q1526 (by decide +kernel) rfl h.1 hst4 hR rfl hdg) k
theorem clX0_173 (F : ZF p R s m args meth c cc nL "SafeBucketsLaw" nm ret D A al sz mc ms fr lo) {h0 : Nat} {K : Int32 → ZM → Prop} (hR : 2 + 1 ≤ fr ∧ 8 + (2 + 11) + 45 ≤ lo) (hst4 : zlw st) (hdg : decode cc pc = .ok (.invokevirtual 173, 3)) (k : ∀ r, ZW p l e R s m args below meth c Q nL D A al n0 (K r) (pc + 3) L (.int r :: st)) : ZW p l e R s m args below meth c Q nL D A al n0 (zat 7 h0 (f_X9_back h0 K)) pc L (zv h0 :: st) :=
  Z.ri0 _ (fun μ H locs cells slots ls hI h hP => Z.V0 F hI (n := 0) (ci := 6) rfl (by decide) hP.1 hP.2 (k_X9_back l h0 D A (zX μ, zC μ, zS μ) H.size K μ) q2129 q2130 q2131 q126 q2132 (by decide +kernel) rfl h.1 hst4 hR rfl hdg) k
theorem clX0_174 (F : ZF p R s m args meth c cc nL "SafeBucketsLaw" nm ret D A al sz mc ms fr lo) {h0 : Nat} {x1 : Int32} {K : Int32 → ZM → Prop} (hR : 0 + 1 ≤ fr ∧ 8 + (2 + 11) + 0 ≤ lo) (hst4 : zlw st) (hdg : decode cc pc = .ok (.invokevirtual 174, 3)) (k : ∀ r, ZW p l e R s m args below meth c Q nL D A al n0 (K r) (pc + 3) L (.int r :: st)) : ZW p l e R s m args below meth c Q nL D A al n0 (zat 1 h0 (f_X1_count h0 x1 K)) pc L (.int x1 :: zv h0 :: st) :=
  Z.ri0 _ (fun μ H locs cells slots ls hI h hP => Z.V0 F hI (n := 1) (ci := 0) rfl (by decide) hP.1 hP.2 (k_X1_count l h0 x1 D A (zX μ, zC μ, zS μ) H.size K μ) q1527 q1528 q1529 q116 q1530 (by decide +kernel) rfl h.1 hst4 hR rfl hdg) k
theorem clX0_177 (F : ZF p R s m args meth c cc nL "SafeBucketsLaw" nm ret D A al sz mc ms fr lo) {h0 : Nat} {x1 : Int32} {K : Int32 → ZM → Prop} (hR : 0 + 1 ≤ fr ∧ 8 + (2 + 11) + 0 ≤ lo) (hst4 : zlw st) (hdg : decode cc pc = .ok (.invokevirtual 177, 3)) (k : ∀ r, ZW p l e R s m args below meth c Q nL D A al n0 (K r) (pc + 3) L (.int r :: st)) : ZW p l e R s m args below meth c Q nL D A al n0 (zat 7 h0 (f_X9_count h0 x1 K)) pc L (.int x1 :: zv h0 :: st) :=
  Z.ri0 _ (fun μ H locs cells slots ls hI h hP => Z.V0 F hI (n := 1) (ci := 6) rfl (by decide) hP.1 hP.2 (k_X9_count l h0 x1 D A (zX μ, zC μ, zS μ) H.size K μ) q2133 q2134 q2135 q126 q2136 (by decide +kernel) rfl h.1 hst4 hR rfl hdg) k
end ZLaw
set_option maxHeartbeats 40000000 in
theorem w_law {p : Program} {l : Launch} {e : Env} {s : State} {m : MethodId} {below : List Frame} {meth : Method} {c : Code} {D : ZD} {n0 : Nat × Nat × Nat} {b N : Nat} {S : Nat → Int32} {nm : String} (hl : l.stackTraces = false) (F : ZF p room_1 s m #[Value.ref b] meth c cL_law 7 "SafeBucketsLaw" nm (some .boolean) D (fun q => s.heap.size ≤ q) true s.heap.size 1200048 5501818 8192 100000) (G : va_X b N S s s.heap ∧ b < s.heap.size) : ZW p l e room_1 s m #[Value.ref b] below meth c (lw_Z below #[Value.ref b] s) 7 D (fun q => s.heap.size ≤ q) true n0 (f_L_law S N zl1) 0 [(0, zv (b + 1))] [] := by
  unfold f_L_law
  refine Z.newO F in_X1 tyX1 tyX1_ok (ci := 0) rfl (by decide) q172 q166 q116 df_X1 dL_law_0 (fun n0 => ?_)
  refine Z.dup F dL_law_3 ?_
  refine clX0_15 F ⟨Nat.le_of_ble_eq_true rfl, Nat.le_of_ble_eq_true rfl⟩ (zlw4 (Nat.le_of_ble_eq_true rfl)) dL_law_4 ?_
  refine Z.astore_n F (L0 := [(0, zv (b + 1))]) [0] rfl (zkR rfl zkN) (by decide) dL_law_7 ?_
  refine Z.newO F in_X9 tyX9 tyX9_ok (ci := 6) rfl (by decide) q1563 q1564 q126 df_X9 dL_law_8 (fun n8 => ?_)
  refine Z.dup F dL_law_11 ?_
  refine clX0_18 F ⟨Nat.le_of_ble_eq_true rfl, Nat.le_of_ble_eq_true rfl⟩ (zlw4 (Nat.le_of_ble_eq_true rfl)) dL_law_12 ?_
  refine Z.astore_n F (L0 := [(1, zv n0), (0, zv (b + 1))]) [0, 1] rfl (zkR rfl (zkR rfl zkN)) (by decide) dL_law_15 ?_
  refine Z.iconst F (v := (1 : Int32)) (by decide) dL_law_16 ?_
  refine Z.newA51 F dL_law_17 (fun n17 => ?_)
  refine Z.astore_n F (L0 := [(2, zv n8), (1, zv n0), (0, zv (b + 1))]) [0, 1, 2] rfl (zkR rfl (zkR rfl (zkR rfl zkN))) (by decide) dL_law_19 ?_
  refine Z.iconst F (v := (0 : Int32)) (by decide) dL_law_20 ?_
  refine Z.istore F (L0 := [(3, zv n17), (2, zv n8), (1, zv n0), (0, zv (b + 1))]) [0, 1, 2, 3] rfl (zkR rfl (zkR rfl (zkR rfl (zkR rfl zkN)))) (by decide) dL_law_21 ?_
  refine Z.sub [4, 3, 2, 1, 0] rfl ?_
  refine Z.w1 (Lf := fun p23l4 => [(0, zv (b + 1)), (1, zv n0), (2, zv n8), (3, zv n17), (4, .int p23l4)]) (sf := fun p23l4 => []) (fun r23 hr23 p23l4 => ?_) (0 : Int32)
  refine Z.iload F 4 rfl dL_law_23 ?_
  refine Z.aload_n F 0 rfl dL_law_25 ?_
  refine Z.ssn F G dL_law_26 (fun g26 => ?_)
  refine Z.bipush F (v := (6 : Int32)) (by decide) dL_law_27 ?_
  refine Z.isub F dL_law_29 ?_
  refine Z.icmp_gt F (tgt := 1752) dL_law_30 (by decide) ?_ ?_
  · refine Z.iconst F (v := (1 : Int32)) (by decide) dL_law_1752 ?_
    exact Z.lawret F dL_law_1753
  refine Z.aload_n F 0 rfl dL_law_33 ?_
  refine Z.iload F 4 rfl dL_law_34 ?_
  refine Z.ssl F G dL_law_36 (fun g36 => ?_)
  refine Z.bipush F (v := (63 : Int32)) (by decide) dL_law_37 ?_
  refine Z.iand F dL_law_39 ?_
  refine Z.jn0 (J := _) ([(0, zv (b + 1)), (1, zv n0), (2, zv n8), (3, zv n17), (4, .int p23l4)]) ([]) 1746 (?_) (fun j1746 hj1746 => ?_)
  · refine Z.iinc F (L0 := [(0, zv (b + 1)), (1, zv n0), (2, zv n8), (3, zv n17)]) (k0 := 4) (v := (6 : Int32)) rfl (by decide) [0, 1, 2, 3] rfl (zkR rfl (zkR rfl (zkR rfl (zkR rfl zkN)))) (by decide) dL_law_1746 ?_
    refine Z.goto F (tgt := 23) dL_law_1749 (by decide) ?_
    exact Z.sub [1, 2, 3, 4, 0] rfl (hr23 (p23l4 + (6 : Int32)))
  refine Z.table F (tgts := [196, 269, 294, 319, 344, 369, 437, 486, 535, 596, 645, 695, 756, 817, 898, 959, 1020, 1093, 1130, 1155, 1224, 1249, 1262, 1299, 1348, 1422, 1448, 1473, 1522, 1584, 1633, 1670, 1695, 1708, 1721]) (tgt := 1746) dL_law_40 rfl (by decide) (by decide) (by decide) ?_ ?_
  · exact Z.sub [0, 1, 2, 3, 4] rfl (hj1746)
  intro i9 P9 t9 e9 e8
  match i9, e9, e8 with
  | 0, e9, e8 =>
    cases e9; cases e8
    refine Z.aload_n F 1 rfl dL_law_196 ?_
    refine Z.aload_n F 0 rfl dL_law_197 ?_
    refine Z.iload F 4 rfl dL_law_198 ?_
    refine Z.iconst F (v := (1 : Int32)) (by decide) dL_law_200 ?_
    refine Z.iadd F dL_law_201 ?_
    refine Z.ssl F G dL_law_202 (fun g202 => ?_)
    refine Z.aload_n F 0 rfl dL_law_203 ?_
    refine Z.iload F 4 rfl dL_law_204 ?_
    refine Z.iconst F (v := (2 : Int32)) (by decide) dL_law_206 ?_
    refine Z.iadd F dL_law_207 ?_
    refine Z.ssl F G dL_law_208 (fun g208 => ?_)
    refine Z.aload_n F 0 rfl dL_law_209 ?_
    refine Z.iload F 4 rfl dL_law_210 ?_
    refine Z.iconst F (v := (3 : Int32)) (by decide) dL_law_212 ?_
    refine Z.iadd F dL_law_213 ?_
    refine Z.ssl F G dL_law_214 (fun g214 => ?_)
    refine Z.aload_n F 0 rfl dL_law_215 ?_
    refine Z.iload F 4 rfl dL_law_216 ?_
    refine Z.iconst F (v := (4 : Int32)) (by decide) dL_law_218 ?_
    refine Z.iadd F dL_law_219 ?_
    refine Z.ssl F G dL_law_220 (fun g220 => ?_)
    refine Z.aload_n F 0 rfl dL_law_221 ?_
    refine Z.iload F 4 rfl dL_law_222 ?_
    refine Z.iconst F (v := (5 : Int32)) (by decide) dL_law_224 ?_
    refine Z.iadd F dL_law_225 ?_
    refine Z.ssl F G dL_law_226 (fun g226 => ?_)
    refine clX0_19 F ⟨Nat.le_of_ble_eq_true rfl, Nat.le_of_ble_eq_true rfl⟩ (zlw4 (Nat.le_of_ble_eq_true rfl)) dL_law_227 (fun r227 => ?_)
    refine Z.aload_n F 2 rfl dL_law_230 ?_
    refine Z.aload_n F 0 rfl dL_law_231 ?_
    refine Z.iload F 4 rfl dL_law_232 ?_
    refine Z.iconst F (v := (1 : Int32)) (by decide) dL_law_234 ?_
    refine Z.iadd F dL_law_235 ?_
    refine Z.ssl F G dL_law_236 (fun g236 => ?_)
    refine Z.aload_n F 0 rfl dL_law_237 ?_
    refine Z.iload F 4 rfl dL_law_238 ?_
    refine Z.iconst F (v := (2 : Int32)) (by decide) dL_law_240 ?_
    refine Z.iadd F dL_law_241 ?_
    refine Z.ssl F G dL_law_242 (fun g242 => ?_)
    refine Z.aload_n F 0 rfl dL_law_243 ?_
    refine Z.iload F 4 rfl dL_law_244 ?_
    refine Z.iconst F (v := (3 : Int32)) (by decide) dL_law_246 ?_
    refine Z.iadd F dL_law_247 ?_
    refine Z.ssl F G dL_law_248 (fun g248 => ?_)
    refine Z.aload_n F 0 rfl dL_law_249 ?_
    refine Z.iload F 4 rfl dL_law_250 ?_
    refine Z.iconst F (v := (4 : Int32)) (by decide) dL_law_252 ?_
    refine Z.iadd F dL_law_253 ?_
    refine Z.ssl F G dL_law_254 (fun g254 => ?_)
    refine Z.aload_n F 0 rfl dL_law_255 ?_
    refine Z.iload F 4 rfl dL_law_256 ?_
    refine Z.iconst F (v := (5 : Int32)) (by decide) dL_law_258 ?_
    refine Z.iadd F dL_law_259 ?_
    refine Z.ssl F G dL_law_260 (fun g260 => ?_)
    refine clX0_23 F ⟨Nat.le_of_ble_eq_true rfl, Nat.le_of_ble_eq_true rfl⟩ (zlw4 (Nat.le_of_ble_eq_true rfl)) dL_law_261 (fun r261 => ?_)
    refine Z.icmp_eq F (tgt := 1746) dL_law_264 (by decide) ?_ ?_
    · exact Z.sub [0, 1, 2, 3, 4] rfl (hj1746)
    refine Z.iconst F (v := (0 : Int32)) (by decide) dL_law_267 ?_
    exact Z.lawret F dL_law_268
  | 1, e9, e8 =>
    cases e9; cases e8
    refine Z.aload_n F 1 rfl dL_law_269 ?_
    refine Z.aload_n F 0 rfl dL_law_270 ?_
    refine Z.iload F 4 rfl dL_law_271 ?_
    refine Z.iconst F (v := (1 : Int32)) (by decide) dL_law_273 ?_
    refine Z.iadd F dL_law_274 ?_
    refine Z.ssl F G dL_law_275 (fun g275 => ?_)
    refine clX0_24 F ⟨Nat.le_of_ble_eq_true rfl, Nat.le_of_ble_eq_true rfl⟩ (zlw4 (Nat.le_of_ble_eq_true rfl)) dL_law_276 (fun r276 => ?_)
    refine Z.aload_n F 2 rfl dL_law_279 ?_
    refine Z.aload_n F 0 rfl dL_law_280 ?_
    refine Z.iload F 4 rfl dL_law_281 ?_
    refine Z.iconst F (v := (1 : Int32)) (by decide) dL_law_283 ?_
    refine Z.iadd F dL_law_284 ?_
    refine Z.ssl F G dL_law_285 (fun g285 => ?_)
    refine clX0_28 F ⟨Nat.le_of_ble_eq_true rfl, Nat.le_of_ble_eq_true rfl⟩ (zlw4 (Nat.le_of_ble_eq_true rfl)) dL_law_286 (fun r286 => ?_)
    refine Z.icmp_eq F (tgt := 1746) dL_law_289 (by decide) ?_ ?_
    · exact Z.sub [0, 1, 2, 3, 4] rfl (hj1746)
    refine Z.iconst F (v := (0 : Int32)) (by decide) dL_law_292 ?_
    exact Z.lawret F dL_law_293
  | 2, e9, e8 =>
    cases e9; cases e8
    refine Z.aload_n F 1 rfl dL_law_294 ?_
    refine Z.aload_n F 0 rfl dL_law_295 ?_
    refine Z.iload F 4 rfl dL_law_296 ?_
    refine Z.iconst F (v := (1 : Int32)) (by decide) dL_law_298 ?_
    refine Z.iadd F dL_law_299 ?_
    refine Z.ssl F G dL_law_300 (fun g300 => ?_)
    refine clX0_29 F ⟨Nat.le_of_ble_eq_true rfl, Nat.le_of_ble_eq_true rfl⟩ (zlw4 (Nat.le_of_ble_eq_true rfl)) dL_law_301 (fun r301 => ?_)
    refine Z.aload_n F 2 rfl dL_law_304 ?_
    refine Z.aload_n F 0 rfl dL_law_305 ?_
    refine Z.iload F 4 rfl dL_law_306 ?_
    refine Z.iconst F (v := (1 : Int32)) (by decide) dL_law_308 ?_
    refine Z.iadd F dL_law_309 ?_
    refine Z.ssl F G dL_law_310 (fun g310 => ?_)
    refine clX0_33 F ⟨Nat.le_of_ble_eq_true rfl, Nat.le_of_ble_eq_true rfl⟩ (zlw4 (Nat.le_of_ble_eq_true rfl)) dL_law_311 (fun r311 => ?_)
    refine Z.icmp_eq F (tgt := 1746) dL_law_314 (by decide) ?_ ?_
    · exact Z.sub [0, 1, 2, 3, 4] rfl (hj1746)
    refine Z.iconst F (v := (0 : Int32)) (by decide) dL_law_317 ?_
    exact Z.lawret F dL_law_318
  | 3, e9, e8 =>
    cases e9; cases e8
    refine Z.aload_n F 1 rfl dL_law_319 ?_
    refine Z.aload_n F 0 rfl dL_law_320 ?_
    refine Z.iload F 4 rfl dL_law_321 ?_
    refine Z.iconst F (v := (1 : Int32)) (by decide) dL_law_323 ?_
    refine Z.iadd F dL_law_324 ?_
    refine Z.ssl F G dL_law_325 (fun g325 => ?_)
    refine clX0_34 F ⟨Nat.le_of_ble_eq_true rfl, Nat.le_of_ble_eq_true rfl⟩ (zlw4 (Nat.le_of_ble_eq_true rfl)) dL_law_326 (fun r326 => ?_)
    refine Z.aload_n F 2 rfl dL_law_329 ?_
    refine Z.aload_n F 0 rfl dL_law_330 ?_
    refine Z.iload F 4 rfl dL_law_331 ?_
    refine Z.iconst F (v := (1 : Int32)) (by decide) dL_law_333 ?_
    refine Z.iadd F dL_law_334 ?_
    refine Z.ssl F G dL_law_335 (fun g335 => ?_)
    refine clX0_37 F ⟨Nat.le_of_ble_eq_true rfl, Nat.le_of_ble_eq_true rfl⟩ (zlw4 (Nat.le_of_ble_eq_true rfl)) dL_law_336 (fun r336 => ?_)
    refine Z.icmp_eq F (tgt := 1746) dL_law_339 (by decide) ?_ ?_
    · exact Z.sub [0, 1, 2, 3, 4] rfl (hj1746)
    refine Z.iconst F (v := (0 : Int32)) (by decide) dL_law_342 ?_
    exact Z.lawret F dL_law_343
  | 4, e9, e8 =>
    cases e9; cases e8
    refine Z.aload_n F 1 rfl dL_law_344 ?_
    refine Z.aload_n F 0 rfl dL_law_345 ?_
    refine Z.iload F 4 rfl dL_law_346 ?_
    refine Z.iconst F (v := (1 : Int32)) (by decide) dL_law_348 ?_
    refine Z.iadd F dL_law_349 ?_
    refine Z.ssl F G dL_law_350 (fun g350 => ?_)
    refine clX0_38 F ⟨Nat.le_of_ble_eq_true rfl, Nat.le_of_ble_eq_true rfl⟩ (zlw4 (Nat.le_of_ble_eq_true rfl)) dL_law_351 (fun r351 => ?_)
    refine Z.aload_n F 2 rfl dL_law_354 ?_
    refine Z.aload_n F 0 rfl dL_law_355 ?_
    refine Z.iload F 4 rfl dL_law_356 ?_
    refine Z.iconst F (v := (1 : Int32)) (by decide) dL_law_358 ?_
    refine Z.iadd F dL_law_359 ?_
    refine Z.ssl F G dL_law_360 (fun g360 => ?_)
    refine clX0_41 F ⟨Nat.le_of_ble_eq_true rfl, Nat.le_of_ble_eq_true rfl⟩ (zlw4 (Nat.le_of_ble_eq_true rfl)) dL_law_361 (fun r361 => ?_)
    refine Z.icmp_eq F (tgt := 1746) dL_law_364 (by decide) ?_ ?_
    · exact Z.sub [0, 1, 2, 3, 4] rfl (hj1746)
    refine Z.iconst F (v := (0 : Int32)) (by decide) dL_law_367 ?_
    exact Z.lawret F dL_law_368
  | 5, e9, e8 =>
    cases e9; cases e8
    refine Z.aload_n F 1 rfl dL_law_369 ?_
    refine Z.aload_n F 0 rfl dL_law_370 ?_
    refine Z.iload F 4 rfl dL_law_371 ?_
    refine Z.iconst F (v := (1 : Int32)) (by decide) dL_law_373 ?_
    refine Z.iadd F dL_law_374 ?_
    refine Z.ssl F G dL_law_375 (fun g375 => ?_)
    refine Z.aload_n F 0 rfl dL_law_376 ?_
    refine Z.iload F 4 rfl dL_law_377 ?_
    refine Z.iconst F (v := (2 : Int32)) (by decide) dL_law_379 ?_
    refine Z.iadd F dL_law_380 ?_
    refine Z.ssl F G dL_law_381 (fun g381 => ?_)
    refine Z.aload_n F 3 rfl dL_law_382 ?_
    refine clX0_42 hl F ⟨Nat.le_of_ble_eq_true rfl, Nat.le_of_ble_eq_true rfl⟩ (zlw4 (Nat.le_of_ble_eq_true rfl)) dL_law_383 (fun r383 => ?_)
    refine Z.istore F (L0 := [(0, zv (b + 1)), (1, zv n0), (2, zv n8), (3, zv n17), (4, .int p23l4)]) [0, 1, 2, 3, 4] rfl (zkR rfl (zkR rfl (zkR rfl (zkR rfl (zkI rfl zkN))))) (by decide) dL_law_386 ?_
    refine Z.aload_n F 3 rfl dL_law_388 ?_
    refine Z.aload_n F 1 rfl dL_law_389 ?_
    refine Z.iload F 5 rfl dL_law_390 ?_
    refine Z.iconst F (v := (1 : Int32)) (by decide) dL_law_392 ?_
    refine Z.iadd F dL_law_393 ?_
    refine Z.ssl F G dL_law_394 (fun g394 => ?_)
    refine Z.aload_n F 1 rfl dL_law_395 ?_
    refine Z.iload F 5 rfl dL_law_396 ?_
    refine Z.iconst F (v := (2 : Int32)) (by decide) dL_law_398 ?_
    refine Z.iadd F dL_law_399 ?_
    refine Z.ssl F G dL_law_400 (fun g400 => ?_)
    refine clX0_47 F ⟨Nat.le_of_ble_eq_true rfl, Nat.le_of_ble_eq_true rfl⟩ (zlw4 (Nat.le_of_ble_eq_true rfl)) dL_law_401 (fun r401 => ?_)
    refine Z.istore F (L0 := [(5, .int r383), (0, zv (b + 1)), (1, zv n0), (2, zv n8), (3, zv n17), (4, .int p23l4)]) [0, 1, 2, 3, 4, 5] rfl (zkI rfl (zkR rfl (zkR rfl (zkR rfl (zkR rfl (zkI rfl zkN)))))) (by decide) dL_law_404 ?_
    refine Z.aload_n F 4 rfl dL_law_406 ?_
    refine clX0_48 F ⟨Nat.le_of_ble_eq_true rfl, Nat.le_of_ble_eq_true rfl⟩ (zlw4 (Nat.le_of_ble_eq_true rfl)) dL_law_407 (fun r407 => ?_)
    refine Z.iload F 1 rfl dL_law_410 ?_
    refine Z.icmp_eq F (tgt := 417) dL_law_412 (by decide) ?_ ?_
    · refine Z.iload F 1 rfl dL_law_417 ?_
      refine Z.jn0 (J := _) ([(0, zv (b + 1)), (1, zv n0), (2, zv n8), (3, zv n17), (4, .int p23l4)]) ([]) 434 (?_) (fun j434 hj434 => ?_)
      · refine Z.goto F (tgt := 1746) dL_law_434 (by decide) ?_
        exact Z.sub [0, 1, 2, 3, 4] rfl (hj1746)
      refine Z.if_ne F (tgt := 434) dL_law_419 (by decide) ?_ ?_
      · exact Z.sub [2, 3, 4, 5, 6] rfl (hj434)
      refine Z.aload_n F 5 rfl dL_law_422 ?_
      refine Z.iconst F (v := (0 : Int32)) (by decide) dL_law_423 ?_
      refine Z.lald F dL_law_424 (fun g424 => ?_)
      refine Z.iload F 0 rfl dL_law_425 ?_
      refine Z.i2l F dL_law_427 ?_
      refine Z.lcmp F dL_law_428 ?_
      refine Z.if_eq F (tgt := 434) dL_law_429 (by decide) ?_ ?_
      · exact Z.sub [2, 3, 4, 5, 6] rfl (hj434)
      refine Z.iconst F (v := (0 : Int32)) (by decide) dL_law_432 ?_
      exact Z.lawret F dL_law_433
    refine Z.iconst F (v := (0 : Int32)) (by decide) dL_law_415 ?_
    exact Z.lawret F dL_law_416
  | 6, e9, e8 =>
    cases e9; cases e8
    refine Z.aload_n F 1 rfl dL_law_437 ?_
    refine Z.aload_n F 0 rfl dL_law_438 ?_
    refine Z.iload F 4 rfl dL_law_439 ?_
    refine Z.iconst F (v := (1 : Int32)) (by decide) dL_law_441 ?_
    refine Z.iadd F dL_law_442 ?_
    refine Z.ssl F G dL_law_443 (fun g443 => ?_)
    refine Z.aload_n F 0 rfl dL_law_444 ?_
    refine Z.iload F 4 rfl dL_law_445 ?_
    refine Z.iconst F (v := (2 : Int32)) (by decide) dL_law_447 ?_
    refine Z.iadd F dL_law_448 ?_
    refine Z.ssl F G dL_law_449 (fun g449 => ?_)
    refine Z.aload_n F 0 rfl dL_law_450 ?_
    refine Z.iload F 4 rfl dL_law_451 ?_
    refine Z.iconst F (v := (3 : Int32)) (by decide) dL_law_453 ?_
    refine Z.iadd F dL_law_454 ?_
    refine Z.ssl F G dL_law_455 (fun g455 => ?_)
    refine clX0_52 F ⟨Nat.le_of_ble_eq_true rfl, Nat.le_of_ble_eq_true rfl⟩ (zlw4 (Nat.le_of_ble_eq_true rfl)) dL_law_456 (fun r456 => ?_)
    refine Z.aload_n F 2 rfl dL_law_459 ?_
    refine Z.aload_n F 0 rfl dL_law_460 ?_
    refine Z.iload F 4 rfl dL_law_461 ?_
    refine Z.iconst F (v := (1 : Int32)) (by decide) dL_law_463 ?_
    refine Z.iadd F dL_law_464 ?_
    refine Z.ssl F G dL_law_465 (fun g465 => ?_)
    refine Z.aload_n F 0 rfl dL_law_466 ?_
    refine Z.iload F 4 rfl dL_law_467 ?_
    refine Z.iconst F (v := (2 : Int32)) (by decide) dL_law_469 ?_
    refine Z.iadd F dL_law_470 ?_
    refine Z.ssl F G dL_law_471 (fun g471 => ?_)
    refine Z.aload_n F 0 rfl dL_law_472 ?_
    refine Z.iload F 4 rfl dL_law_473 ?_
    refine Z.iconst F (v := (3 : Int32)) (by decide) dL_law_475 ?_
    refine Z.iadd F dL_law_476 ?_
    refine Z.ssl F G dL_law_477 (fun g477 => ?_)
    refine clX0_56 F ⟨Nat.le_of_ble_eq_true rfl, Nat.le_of_ble_eq_true rfl⟩ (zlw4 (Nat.le_of_ble_eq_true rfl)) dL_law_478 (fun r478 => ?_)
    refine Z.icmp_eq F (tgt := 1746) dL_law_481 (by decide) ?_ ?_
    · exact Z.sub [0, 1, 2, 3, 4] rfl (hj1746)
    refine Z.iconst F (v := (0 : Int32)) (by decide) dL_law_484 ?_
    exact Z.lawret F dL_law_485
  | 7, e9, e8 =>
    cases e9; cases e8
    refine Z.aload_n F 1 rfl dL_law_486 ?_
    refine Z.aload_n F 0 rfl dL_law_487 ?_
    refine Z.iload F 4 rfl dL_law_488 ?_
    refine Z.iconst F (v := (1 : Int32)) (by decide) dL_law_490 ?_
    refine Z.iadd F dL_law_491 ?_
    refine Z.ssl F G dL_law_492 (fun g492 => ?_)
    refine Z.aload_n F 0 rfl dL_law_493 ?_
    refine Z.iload F 4 rfl dL_law_494 ?_
    refine Z.iconst F (v := (2 : Int32)) (by decide) dL_law_496 ?_
    refine Z.iadd F dL_law_497 ?_
    refine Z.ssl F G dL_law_498 (fun g498 => ?_)
    refine Z.aload_n F 0 rfl dL_law_499 ?_
    refine Z.iload F 4 rfl dL_law_500 ?_
    refine Z.iconst F (v := (3 : Int32)) (by decide) dL_law_502 ?_
    refine Z.iadd F dL_law_503 ?_
    refine Z.ssl F G dL_law_504 (fun g504 => ?_)
    refine clX0_57 F ⟨Nat.le_of_ble_eq_true rfl, Nat.le_of_ble_eq_true rfl⟩ (zlw4 (Nat.le_of_ble_eq_true rfl)) dL_law_505 (fun r505 => ?_)
    refine Z.aload_n F 2 rfl dL_law_508 ?_
    refine Z.aload_n F 0 rfl dL_law_509 ?_
    refine Z.iload F 4 rfl dL_law_510 ?_
    refine Z.iconst F (v := (1 : Int32)) (by decide) dL_law_512 ?_
    refine Z.iadd F dL_law_513 ?_
    refine Z.ssl F G dL_law_514 (fun g514 => ?_)
    refine Z.aload_n F 0 rfl dL_law_515 ?_
    refine Z.iload F 4 rfl dL_law_516 ?_
    refine Z.iconst F (v := (2 : Int32)) (by decide) dL_law_518 ?_
    refine Z.iadd F dL_law_519 ?_
    refine Z.ssl F G dL_law_520 (fun g520 => ?_)
    refine Z.aload_n F 0 rfl dL_law_521 ?_
    refine Z.iload F 4 rfl dL_law_522 ?_
    refine Z.iconst F (v := (3 : Int32)) (by decide) dL_law_524 ?_
    refine Z.iadd F dL_law_525 ?_
    refine Z.ssl F G dL_law_526 (fun g526 => ?_)
    refine clX0_60 F ⟨Nat.le_of_ble_eq_true rfl, Nat.le_of_ble_eq_true rfl⟩ (zlw4 (Nat.le_of_ble_eq_true rfl)) dL_law_527 (fun r527 => ?_)
    refine Z.icmp_eq F (tgt := 1746) dL_law_530 (by decide) ?_ ?_
    · exact Z.sub [0, 1, 2, 3, 4] rfl (hj1746)
    refine Z.iconst F (v := (0 : Int32)) (by decide) dL_law_533 ?_
    exact Z.lawret F dL_law_534
  | 8, e9, e8 =>
    cases e9; cases e8
    refine Z.aload_n F 1 rfl dL_law_535 ?_
    refine Z.aload_n F 0 rfl dL_law_536 ?_
    refine Z.iload F 4 rfl dL_law_537 ?_
    refine Z.iconst F (v := (1 : Int32)) (by decide) dL_law_539 ?_
    refine Z.iadd F dL_law_540 ?_
    refine Z.ssl F G dL_law_541 (fun g541 => ?_)
    refine Z.aload_n F 0 rfl dL_law_542 ?_
    refine Z.iload F 4 rfl dL_law_543 ?_
    refine Z.iconst F (v := (2 : Int32)) (by decide) dL_law_545 ?_
    refine Z.iadd F dL_law_546 ?_
    refine Z.ssl F G dL_law_547 (fun g547 => ?_)
    refine Z.aload_n F 0 rfl dL_law_548 ?_
    refine Z.iload F 4 rfl dL_law_549 ?_
    refine Z.iconst F (v := (3 : Int32)) (by decide) dL_law_551 ?_
    refine Z.iadd F dL_law_552 ?_
    refine Z.ssl F G dL_law_553 (fun g553 => ?_)
    refine Z.aload_n F 0 rfl dL_law_554 ?_
    refine Z.iload F 4 rfl dL_law_555 ?_
    refine Z.iconst F (v := (4 : Int32)) (by decide) dL_law_557 ?_
    refine Z.iadd F dL_law_558 ?_
    refine Z.ssl F G dL_law_559 (fun g559 => ?_)
    refine clX0_61 F ⟨Nat.le_of_ble_eq_true rfl, Nat.le_of_ble_eq_true rfl⟩ (zlw4 (Nat.le_of_ble_eq_true rfl)) dL_law_560 (fun r560 => ?_)
    refine Z.aload_n F 2 rfl dL_law_563 ?_
    refine Z.aload_n F 0 rfl dL_law_564 ?_
    refine Z.iload F 4 rfl dL_law_565 ?_
    refine Z.iconst F (v := (1 : Int32)) (by decide) dL_law_567 ?_
    refine Z.iadd F dL_law_568 ?_
    refine Z.ssl F G dL_law_569 (fun g569 => ?_)
    refine Z.aload_n F 0 rfl dL_law_570 ?_
    refine Z.iload F 4 rfl dL_law_571 ?_
    refine Z.iconst F (v := (2 : Int32)) (by decide) dL_law_573 ?_
    refine Z.iadd F dL_law_574 ?_
    refine Z.ssl F G dL_law_575 (fun g575 => ?_)
    refine Z.aload_n F 0 rfl dL_law_576 ?_
    refine Z.iload F 4 rfl dL_law_577 ?_
    refine Z.iconst F (v := (3 : Int32)) (by decide) dL_law_579 ?_
    refine Z.iadd F dL_law_580 ?_
    refine Z.ssl F G dL_law_581 (fun g581 => ?_)
    refine Z.aload_n F 0 rfl dL_law_582 ?_
    refine Z.iload F 4 rfl dL_law_583 ?_
    refine Z.iconst F (v := (4 : Int32)) (by decide) dL_law_585 ?_
    refine Z.iadd F dL_law_586 ?_
    refine Z.ssl F G dL_law_587 (fun g587 => ?_)
    refine clX0_65 F ⟨Nat.le_of_ble_eq_true rfl, Nat.le_of_ble_eq_true rfl⟩ (zlw4 (Nat.le_of_ble_eq_true rfl)) dL_law_588 (fun r588 => ?_)
    refine Z.icmp_eq F (tgt := 1746) dL_law_591 (by decide) ?_ ?_
    · exact Z.sub [0, 1, 2, 3, 4] rfl (hj1746)
    refine Z.iconst F (v := (0 : Int32)) (by decide) dL_law_594 ?_
    exact Z.lawret F dL_law_595
  | 9, e9, e8 =>
    cases e9; cases e8
    refine Z.aload_n F 1 rfl dL_law_596 ?_
    refine Z.aload_n F 0 rfl dL_law_597 ?_
    refine Z.iload F 4 rfl dL_law_598 ?_
    refine Z.iconst F (v := (1 : Int32)) (by decide) dL_law_600 ?_
    refine Z.iadd F dL_law_601 ?_
    refine Z.ssl F G dL_law_602 (fun g602 => ?_)
    refine Z.aload_n F 0 rfl dL_law_603 ?_
    refine Z.iload F 4 rfl dL_law_604 ?_
    refine Z.iconst F (v := (2 : Int32)) (by decide) dL_law_606 ?_
    refine Z.iadd F dL_law_607 ?_
    refine Z.ssl F G dL_law_608 (fun g608 => ?_)
    refine Z.aload_n F 0 rfl dL_law_609 ?_
    refine Z.iload F 4 rfl dL_law_610 ?_
    refine Z.iconst F (v := (3 : Int32)) (by decide) dL_law_612 ?_
    refine Z.iadd F dL_law_613 ?_
    refine Z.ssl F G dL_law_614 (fun g614 => ?_)
    refine clX0_66 F ⟨Nat.le_of_ble_eq_true rfl, Nat.le_of_ble_eq_true rfl⟩ (zlw4 (Nat.le_of_ble_eq_true rfl)) dL_law_615 (fun r615 => ?_)
    refine Z.aload_n F 2 rfl dL_law_618 ?_
    refine Z.aload_n F 0 rfl dL_law_619 ?_
    refine Z.iload F 4 rfl dL_law_620 ?_
    refine Z.iconst F (v := (1 : Int32)) (by decide) dL_law_622 ?_
    refine Z.iadd F dL_law_623 ?_
    refine Z.ssl F G dL_law_624 (fun g624 => ?_)
    refine Z.aload_n F 0 rfl dL_law_625 ?_
    refine Z.iload F 4 rfl dL_law_626 ?_
    refine Z.iconst F (v := (2 : Int32)) (by decide) dL_law_628 ?_
    refine Z.iadd F dL_law_629 ?_
    refine Z.ssl F G dL_law_630 (fun g630 => ?_)
    refine Z.aload_n F 0 rfl dL_law_631 ?_
    refine Z.iload F 4 rfl dL_law_632 ?_
    refine Z.iconst F (v := (3 : Int32)) (by decide) dL_law_634 ?_
    refine Z.iadd F dL_law_635 ?_
    refine Z.ssl F G dL_law_636 (fun g636 => ?_)
    refine clX0_69 F ⟨Nat.le_of_ble_eq_true rfl, Nat.le_of_ble_eq_true rfl⟩ (zlw4 (Nat.le_of_ble_eq_true rfl)) dL_law_637 (fun r637 => ?_)
    refine Z.icmp_eq F (tgt := 1746) dL_law_640 (by decide) ?_ ?_
    · exact Z.sub [0, 1, 2, 3, 4] rfl (hj1746)
    refine Z.iconst F (v := (0 : Int32)) (by decide) dL_law_643 ?_
    exact Z.lawret F dL_law_644
  | 10, e9, e8 =>
    cases e9; cases e8
    refine Z.aload_n F 1 rfl dL_law_645 ?_
    refine Z.aload_n F 0 rfl dL_law_646 ?_
    refine Z.iload F 4 rfl dL_law_647 ?_
    refine Z.iconst F (v := (1 : Int32)) (by decide) dL_law_649 ?_
    refine Z.iadd F dL_law_650 ?_
    refine Z.ssl F G dL_law_651 (fun g651 => ?_)
    refine Z.aload_n F 0 rfl dL_law_652 ?_
    refine Z.iload F 4 rfl dL_law_653 ?_
    refine Z.iconst F (v := (2 : Int32)) (by decide) dL_law_655 ?_
    refine Z.iadd F dL_law_656 ?_
    refine Z.ssl F G dL_law_657 (fun g657 => ?_)
    refine Z.aload_n F 0 rfl dL_law_658 ?_
    refine Z.iload F 4 rfl dL_law_659 ?_
    refine Z.iconst F (v := (3 : Int32)) (by decide) dL_law_661 ?_
    refine Z.iadd F dL_law_662 ?_
    refine Z.ssl F G dL_law_663 (fun g663 => ?_)
    refine clX0_70 F ⟨Nat.le_of_ble_eq_true rfl, Nat.le_of_ble_eq_true rfl⟩ (zlw4 (Nat.le_of_ble_eq_true rfl)) dL_law_664 (fun r664 => ?_)
    refine Z.aload_n F 2 rfl dL_law_667 ?_
    refine Z.aload_n F 0 rfl dL_law_668 ?_
    refine Z.iload F 4 rfl dL_law_669 ?_
    refine Z.iconst F (v := (1 : Int32)) (by decide) dL_law_671 ?_
    refine Z.iadd F dL_law_672 ?_
    refine Z.ssl F G dL_law_673 (fun g673 => ?_)
    refine Z.aload_n F 0 rfl dL_law_674 ?_
    refine Z.iload F 4 rfl dL_law_675 ?_
    refine Z.iconst F (v := (2 : Int32)) (by decide) dL_law_677 ?_
    refine Z.iadd F dL_law_678 ?_
    refine Z.ssl F G dL_law_679 (fun g679 => ?_)
    refine Z.aload_n F 0 rfl dL_law_680 ?_
    refine Z.iload F 4 rfl dL_law_681 ?_
    refine Z.iconst F (v := (3 : Int32)) (by decide) dL_law_683 ?_
    refine Z.iadd F dL_law_684 ?_
    refine Z.ssl F G dL_law_685 (fun g685 => ?_)
    refine clX0_74 F ⟨Nat.le_of_ble_eq_true rfl, Nat.le_of_ble_eq_true rfl⟩ (zlw4 (Nat.le_of_ble_eq_true rfl)) dL_law_686 (fun r686 => ?_)
    refine Z.lcmp F dL_law_689 ?_
    refine Z.if_eq F (tgt := 1746) dL_law_690 (by decide) ?_ ?_
    · exact Z.sub [0, 1, 2, 3, 4] rfl (hj1746)
    refine Z.iconst F (v := (0 : Int32)) (by decide) dL_law_693 ?_
    exact Z.lawret F dL_law_694
  | 11, e9, e8 =>
    cases e9; cases e8
    refine Z.aload_n F 1 rfl dL_law_695 ?_
    refine Z.aload_n F 0 rfl dL_law_696 ?_
    refine Z.iload F 4 rfl dL_law_697 ?_
    refine Z.iconst F (v := (1 : Int32)) (by decide) dL_law_699 ?_
    refine Z.iadd F dL_law_700 ?_
    refine Z.ssl F G dL_law_701 (fun g701 => ?_)
    refine Z.aload_n F 0 rfl dL_law_702 ?_
    refine Z.iload F 4 rfl dL_law_703 ?_
    refine Z.iconst F (v := (2 : Int32)) (by decide) dL_law_705 ?_
    refine Z.iadd F dL_law_706 ?_
    refine Z.ssl F G dL_law_707 (fun g707 => ?_)
    refine Z.aload_n F 0 rfl dL_law_708 ?_
    refine Z.iload F 4 rfl dL_law_709 ?_
    refine Z.iconst F (v := (3 : Int32)) (by decide) dL_law_711 ?_
    refine Z.iadd F dL_law_712 ?_
    refine Z.ssl F G dL_law_713 (fun g713 => ?_)
    refine Z.aload_n F 0 rfl dL_law_714 ?_
    refine Z.iload F 4 rfl dL_law_715 ?_
    refine Z.iconst F (v := (4 : Int32)) (by decide) dL_law_717 ?_
    refine Z.iadd F dL_law_718 ?_
    refine Z.ssl F G dL_law_719 (fun g719 => ?_)
    refine clX0_75 F ⟨Nat.le_of_ble_eq_true rfl, Nat.le_of_ble_eq_true rfl⟩ (zlw4 (Nat.le_of_ble_eq_true rfl)) dL_law_720 (fun r720 => ?_)
    refine Z.aload_n F 2 rfl dL_law_723 ?_
    refine Z.aload_n F 0 rfl dL_law_724 ?_
    refine Z.iload F 4 rfl dL_law_725 ?_
    refine Z.iconst F (v := (1 : Int32)) (by decide) dL_law_727 ?_
    refine Z.iadd F dL_law_728 ?_
    refine Z.ssl F G dL_law_729 (fun g729 => ?_)
    refine Z.aload_n F 0 rfl dL_law_730 ?_
    refine Z.iload F 4 rfl dL_law_731 ?_
    refine Z.iconst F (v := (2 : Int32)) (by decide) dL_law_733 ?_
    refine Z.iadd F dL_law_734 ?_
    refine Z.ssl F G dL_law_735 (fun g735 => ?_)
    refine Z.aload_n F 0 rfl dL_law_736 ?_
    refine Z.iload F 4 rfl dL_law_737 ?_
    refine Z.iconst F (v := (3 : Int32)) (by decide) dL_law_739 ?_
    refine Z.iadd F dL_law_740 ?_
    refine Z.ssl F G dL_law_741 (fun g741 => ?_)
    refine Z.aload_n F 0 rfl dL_law_742 ?_
    refine Z.iload F 4 rfl dL_law_743 ?_
    refine Z.iconst F (v := (4 : Int32)) (by decide) dL_law_745 ?_
    refine Z.iadd F dL_law_746 ?_
    refine Z.ssl F G dL_law_747 (fun g747 => ?_)
    refine clX0_78 F ⟨Nat.le_of_ble_eq_true rfl, Nat.le_of_ble_eq_true rfl⟩ (zlw4 (Nat.le_of_ble_eq_true rfl)) dL_law_748 (fun r748 => ?_)
    refine Z.icmp_eq F (tgt := 1746) dL_law_751 (by decide) ?_ ?_
    · exact Z.sub [0, 1, 2, 3, 4] rfl (hj1746)
    refine Z.iconst F (v := (0 : Int32)) (by decide) dL_law_754 ?_
    exact Z.lawret F dL_law_755
  | 12, e9, e8 =>
    cases e9; cases e8
    refine Z.aload_n F 1 rfl dL_law_756 ?_
    refine Z.aload_n F 0 rfl dL_law_757 ?_
    refine Z.iload F 4 rfl dL_law_758 ?_
    refine Z.iconst F (v := (1 : Int32)) (by decide) dL_law_760 ?_
    refine Z.iadd F dL_law_761 ?_
    refine Z.ssl F G dL_law_762 (fun g762 => ?_)
    refine Z.aload_n F 0 rfl dL_law_763 ?_
    refine Z.iload F 4 rfl dL_law_764 ?_
    refine Z.iconst F (v := (2 : Int32)) (by decide) dL_law_766 ?_
    refine Z.iadd F dL_law_767 ?_
    refine Z.ssl F G dL_law_768 (fun g768 => ?_)
    refine Z.aload_n F 0 rfl dL_law_769 ?_
    refine Z.iload F 4 rfl dL_law_770 ?_
    refine Z.iconst F (v := (3 : Int32)) (by decide) dL_law_772 ?_
    refine Z.iadd F dL_law_773 ?_
    refine Z.ssl F G dL_law_774 (fun g774 => ?_)
    refine Z.aload_n F 0 rfl dL_law_775 ?_
    refine Z.iload F 4 rfl dL_law_776 ?_
    refine Z.iconst F (v := (4 : Int32)) (by decide) dL_law_778 ?_
    refine Z.iadd F dL_law_779 ?_
    refine Z.ssl F G dL_law_780 (fun g780 => ?_)
    refine clX0_79 F ⟨Nat.le_of_ble_eq_true rfl, Nat.le_of_ble_eq_true rfl⟩ (zlw4 (Nat.le_of_ble_eq_true rfl)) dL_law_781 (fun r781 => ?_)
    refine Z.aload_n F 2 rfl dL_law_784 ?_
    refine Z.aload_n F 0 rfl dL_law_785 ?_
    refine Z.iload F 4 rfl dL_law_786 ?_
    refine Z.iconst F (v := (1 : Int32)) (by decide) dL_law_788 ?_
    refine Z.iadd F dL_law_789 ?_
    refine Z.ssl F G dL_law_790 (fun g790 => ?_)
    refine Z.aload_n F 0 rfl dL_law_791 ?_
    refine Z.iload F 4 rfl dL_law_792 ?_
    refine Z.iconst F (v := (2 : Int32)) (by decide) dL_law_794 ?_
    refine Z.iadd F dL_law_795 ?_
    refine Z.ssl F G dL_law_796 (fun g796 => ?_)
    refine Z.aload_n F 0 rfl dL_law_797 ?_
    refine Z.iload F 4 rfl dL_law_798 ?_
    refine Z.iconst F (v := (3 : Int32)) (by decide) dL_law_800 ?_
    refine Z.iadd F dL_law_801 ?_
    refine Z.ssl F G dL_law_802 (fun g802 => ?_)
    refine Z.aload_n F 0 rfl dL_law_803 ?_
    refine Z.iload F 4 rfl dL_law_804 ?_
    refine Z.iconst F (v := (4 : Int32)) (by decide) dL_law_806 ?_
    refine Z.iadd F dL_law_807 ?_
    refine Z.ssl F G dL_law_808 (fun g808 => ?_)
    refine clX0_82 F ⟨Nat.le_of_ble_eq_true rfl, Nat.le_of_ble_eq_true rfl⟩ (zlw4 (Nat.le_of_ble_eq_true rfl)) dL_law_809 (fun r809 => ?_)
    refine Z.icmp_eq F (tgt := 1746) dL_law_812 (by decide) ?_ ?_
    · exact Z.sub [0, 1, 2, 3, 4] rfl (hj1746)
    refine Z.iconst F (v := (0 : Int32)) (by decide) dL_law_815 ?_
    exact Z.lawret F dL_law_816
  | 13, e9, e8 =>
    cases e9; cases e8
    refine Z.aload_n F 1 rfl dL_law_817 ?_
    refine Z.aload_n F 0 rfl dL_law_818 ?_
    refine Z.iload F 4 rfl dL_law_819 ?_
    refine Z.iconst F (v := (1 : Int32)) (by decide) dL_law_821 ?_
    refine Z.iadd F dL_law_822 ?_
    refine Z.ssl F G dL_law_823 (fun g823 => ?_)
    refine Z.aload_n F 0 rfl dL_law_824 ?_
    refine Z.iload F 4 rfl dL_law_825 ?_
    refine Z.iconst F (v := (2 : Int32)) (by decide) dL_law_827 ?_
    refine Z.iadd F dL_law_828 ?_
    refine Z.ssl F G dL_law_829 (fun g829 => ?_)
    refine Z.aload_n F 0 rfl dL_law_830 ?_
    refine Z.iload F 4 rfl dL_law_831 ?_
    refine Z.iconst F (v := (3 : Int32)) (by decide) dL_law_833 ?_
    refine Z.iadd F dL_law_834 ?_
    refine Z.ssl F G dL_law_835 (fun g835 => ?_)
    refine Z.i2l F dL_law_836 ?_
    refine Z.bipush F (v := (32 : Int32)) (by decide) dL_law_837 ?_
    refine Z.lshl F dL_law_839 ?_
    refine Z.aload_n F 0 rfl dL_law_840 ?_
    refine Z.iload F 4 rfl dL_law_841 ?_
    refine Z.iconst F (v := (4 : Int32)) (by decide) dL_law_843 ?_
    refine Z.iadd F dL_law_844 ?_
    refine Z.ssl F G dL_law_845 (fun g845 => ?_)
    refine Z.i2l F dL_law_846 ?_
    refine Z.ldc2 F q2137 dL_law_847 ?_
    refine Z.land F dL_law_850 ?_
    refine Z.lor F dL_law_851 ?_
    refine Z.nmJ (fun v851 => ?_)
    refine clX0_85 F ⟨Nat.le_of_ble_eq_true rfl, Nat.le_of_ble_eq_true rfl⟩ (zlw4 (Nat.le_of_ble_eq_true rfl)) dL_law_852 (fun r852 => ?_)
    refine Z.aload_n F 2 rfl dL_law_855 ?_
    refine Z.aload_n F 0 rfl dL_law_856 ?_
    refine Z.iload F 4 rfl dL_law_857 ?_
    refine Z.iconst F (v := (1 : Int32)) (by decide) dL_law_859 ?_
    refine Z.iadd F dL_law_860 ?_
    refine Z.ssl F G dL_law_861 (fun g861 => ?_)
    refine Z.aload_n F 0 rfl dL_law_862 ?_
    refine Z.iload F 4 rfl dL_law_863 ?_
    refine Z.iconst F (v := (2 : Int32)) (by decide) dL_law_865 ?_
    refine Z.iadd F dL_law_866 ?_
    refine Z.ssl F G dL_law_867 (fun g867 => ?_)
    refine Z.aload_n F 0 rfl dL_law_868 ?_
    refine Z.iload F 4 rfl dL_law_869 ?_
    refine Z.iconst F (v := (3 : Int32)) (by decide) dL_law_871 ?_
    refine Z.iadd F dL_law_872 ?_
    refine Z.ssl F G dL_law_873 (fun g873 => ?_)
    refine Z.i2l F dL_law_874 ?_
    refine Z.bipush F (v := (32 : Int32)) (by decide) dL_law_875 ?_
    refine Z.lshl F dL_law_877 ?_
    refine Z.aload_n F 0 rfl dL_law_878 ?_
    refine Z.iload F 4 rfl dL_law_879 ?_
    refine Z.iconst F (v := (4 : Int32)) (by decide) dL_law_881 ?_
    refine Z.iadd F dL_law_882 ?_
    refine Z.ssl F G dL_law_883 (fun g883 => ?_)
    refine Z.i2l F dL_law_884 ?_
    refine Z.ldc2 F q2137 dL_law_885 ?_
    refine Z.land F dL_law_888 ?_
    refine Z.lor F dL_law_889 ?_
    refine Z.nmJ (fun v889 => ?_)
    refine clX0_89 F ⟨Nat.le_of_ble_eq_true rfl, Nat.le_of_ble_eq_true rfl⟩ (zlw4 (Nat.le_of_ble_eq_true rfl)) dL_law_890 (fun r890 => ?_)
    refine Z.icmp_eq F (tgt := 1746) dL_law_893 (by decide) ?_ ?_
    · exact Z.sub [0, 1, 2, 3, 4] rfl (hj1746)
    refine Z.iconst F (v := (0 : Int32)) (by decide) dL_law_896 ?_
    exact Z.lawret F dL_law_897
  | 14, e9, e8 =>
    cases e9; cases e8
    refine Z.aload_n F 1 rfl dL_law_898 ?_
    refine Z.aload_n F 0 rfl dL_law_899 ?_
    refine Z.iload F 4 rfl dL_law_900 ?_
    refine Z.iconst F (v := (1 : Int32)) (by decide) dL_law_902 ?_
    refine Z.iadd F dL_law_903 ?_
    refine Z.ssl F G dL_law_904 (fun g904 => ?_)
    refine Z.aload_n F 0 rfl dL_law_905 ?_
    refine Z.iload F 4 rfl dL_law_906 ?_
    refine Z.iconst F (v := (2 : Int32)) (by decide) dL_law_908 ?_
    refine Z.iadd F dL_law_909 ?_
    refine Z.ssl F G dL_law_910 (fun g910 => ?_)
    refine Z.aload_n F 0 rfl dL_law_911 ?_
    refine Z.iload F 4 rfl dL_law_912 ?_
    refine Z.iconst F (v := (3 : Int32)) (by decide) dL_law_914 ?_
    refine Z.iadd F dL_law_915 ?_
    refine Z.ssl F G dL_law_916 (fun g916 => ?_)
    refine Z.aload_n F 0 rfl dL_law_917 ?_
    refine Z.iload F 4 rfl dL_law_918 ?_
    refine Z.iconst F (v := (4 : Int32)) (by decide) dL_law_920 ?_
    refine Z.iadd F dL_law_921 ?_
    refine Z.ssl F G dL_law_922 (fun g922 => ?_)
    refine clX0_90 F ⟨Nat.le_of_ble_eq_true rfl, Nat.le_of_ble_eq_true rfl⟩ (zlw4 (Nat.le_of_ble_eq_true rfl)) dL_law_923 (fun r923 => ?_)
    refine Z.aload_n F 2 rfl dL_law_926 ?_
    refine Z.aload_n F 0 rfl dL_law_927 ?_
    refine Z.iload F 4 rfl dL_law_928 ?_
    refine Z.iconst F (v := (1 : Int32)) (by decide) dL_law_930 ?_
    refine Z.iadd F dL_law_931 ?_
    refine Z.ssl F G dL_law_932 (fun g932 => ?_)
    refine Z.aload_n F 0 rfl dL_law_933 ?_
    refine Z.iload F 4 rfl dL_law_934 ?_
    refine Z.iconst F (v := (2 : Int32)) (by decide) dL_law_936 ?_
    refine Z.iadd F dL_law_937 ?_
    refine Z.ssl F G dL_law_938 (fun g938 => ?_)
    refine Z.aload_n F 0 rfl dL_law_939 ?_
    refine Z.iload F 4 rfl dL_law_940 ?_
    refine Z.iconst F (v := (3 : Int32)) (by decide) dL_law_942 ?_
    refine Z.iadd F dL_law_943 ?_
    refine Z.ssl F G dL_law_944 (fun g944 => ?_)
    refine Z.aload_n F 0 rfl dL_law_945 ?_
    refine Z.iload F 4 rfl dL_law_946 ?_
    refine Z.iconst F (v := (4 : Int32)) (by decide) dL_law_948 ?_
    refine Z.iadd F dL_law_949 ?_
    refine Z.ssl F G dL_law_950 (fun g950 => ?_)
    refine clX0_93 F ⟨Nat.le_of_ble_eq_true rfl, Nat.le_of_ble_eq_true rfl⟩ (zlw4 (Nat.le_of_ble_eq_true rfl)) dL_law_951 (fun r951 => ?_)
    refine Z.icmp_eq F (tgt := 1746) dL_law_954 (by decide) ?_ ?_
    · exact Z.sub [0, 1, 2, 3, 4] rfl (hj1746)
    refine Z.iconst F (v := (0 : Int32)) (by decide) dL_law_957 ?_
    exact Z.lawret F dL_law_958
  | 15, e9, e8 =>
    cases e9; cases e8
    refine Z.aload_n F 1 rfl dL_law_959 ?_
    refine Z.aload_n F 0 rfl dL_law_960 ?_
    refine Z.iload F 4 rfl dL_law_961 ?_
    refine Z.iconst F (v := (1 : Int32)) (by decide) dL_law_963 ?_
    refine Z.iadd F dL_law_964 ?_
    refine Z.ssl F G dL_law_965 (fun g965 => ?_)
    refine Z.aload_n F 0 rfl dL_law_966 ?_
    refine Z.iload F 4 rfl dL_law_967 ?_
    refine Z.iconst F (v := (2 : Int32)) (by decide) dL_law_969 ?_
    refine Z.iadd F dL_law_970 ?_
    refine Z.ssl F G dL_law_971 (fun g971 => ?_)
    refine Z.aload_n F 0 rfl dL_law_972 ?_
    refine Z.iload F 4 rfl dL_law_973 ?_
    refine Z.iconst F (v := (3 : Int32)) (by decide) dL_law_975 ?_
    refine Z.iadd F dL_law_976 ?_
    refine Z.ssl F G dL_law_977 (fun g977 => ?_)
    refine Z.aload_n F 0 rfl dL_law_978 ?_
    refine Z.iload F 4 rfl dL_law_979 ?_
    refine Z.iconst F (v := (4 : Int32)) (by decide) dL_law_981 ?_
    refine Z.iadd F dL_law_982 ?_
    refine Z.ssl F G dL_law_983 (fun g983 => ?_)
    refine clX0_94 F ⟨Nat.le_of_ble_eq_true rfl, Nat.le_of_ble_eq_true rfl⟩ (zlw4 (Nat.le_of_ble_eq_true rfl)) dL_law_984 (fun r984 => ?_)
    refine Z.aload_n F 2 rfl dL_law_987 ?_
    refine Z.aload_n F 0 rfl dL_law_988 ?_
    refine Z.iload F 4 rfl dL_law_989 ?_
    refine Z.iconst F (v := (1 : Int32)) (by decide) dL_law_991 ?_
    refine Z.iadd F dL_law_992 ?_
    refine Z.ssl F G dL_law_993 (fun g993 => ?_)
    refine Z.aload_n F 0 rfl dL_law_994 ?_
    refine Z.iload F 4 rfl dL_law_995 ?_
    refine Z.iconst F (v := (2 : Int32)) (by decide) dL_law_997 ?_
    refine Z.iadd F dL_law_998 ?_
    refine Z.ssl F G dL_law_999 (fun g999 => ?_)
    refine Z.aload_n F 0 rfl dL_law_1000 ?_
    refine Z.iload F 4 rfl dL_law_1001 ?_
    refine Z.iconst F (v := (3 : Int32)) (by decide) dL_law_1003 ?_
    refine Z.iadd F dL_law_1004 ?_
    refine Z.ssl F G dL_law_1005 (fun g1005 => ?_)
    refine Z.aload_n F 0 rfl dL_law_1006 ?_
    refine Z.iload F 4 rfl dL_law_1007 ?_
    refine Z.iconst F (v := (4 : Int32)) (by decide) dL_law_1009 ?_
    refine Z.iadd F dL_law_1010 ?_
    refine Z.ssl F G dL_law_1011 (fun g1011 => ?_)
    refine clX0_97 F ⟨Nat.le_of_ble_eq_true rfl, Nat.le_of_ble_eq_true rfl⟩ (zlw4 (Nat.le_of_ble_eq_true rfl)) dL_law_1012 (fun r1012 => ?_)
    refine Z.icmp_eq F (tgt := 1746) dL_law_1015 (by decide) ?_ ?_
    · exact Z.sub [0, 1, 2, 3, 4] rfl (hj1746)
    refine Z.iconst F (v := (0 : Int32)) (by decide) dL_law_1018 ?_
    exact Z.lawret F dL_law_1019
  | 16, e9, e8 =>
    cases e9; cases e8
    refine Z.aload_n F 1 rfl dL_law_1020 ?_
    refine Z.aload_n F 0 rfl dL_law_1021 ?_
    refine Z.iload F 4 rfl dL_law_1022 ?_
    refine Z.iconst F (v := (1 : Int32)) (by decide) dL_law_1024 ?_
    refine Z.iadd F dL_law_1025 ?_
    refine Z.ssl F G dL_law_1026 (fun g1026 => ?_)
    refine Z.aload_n F 0 rfl dL_law_1027 ?_
    refine Z.iload F 4 rfl dL_law_1028 ?_
    refine Z.iconst F (v := (2 : Int32)) (by decide) dL_law_1030 ?_
    refine Z.iadd F dL_law_1031 ?_
    refine Z.ssl F G dL_law_1032 (fun g1032 => ?_)
    refine Z.aload_n F 0 rfl dL_law_1033 ?_
    refine Z.iload F 4 rfl dL_law_1034 ?_
    refine Z.iconst F (v := (3 : Int32)) (by decide) dL_law_1036 ?_
    refine Z.iadd F dL_law_1037 ?_
    refine Z.ssl F G dL_law_1038 (fun g1038 => ?_)
    refine Z.aload_n F 0 rfl dL_law_1039 ?_
    refine Z.iload F 4 rfl dL_law_1040 ?_
    refine Z.iconst F (v := (4 : Int32)) (by decide) dL_law_1042 ?_
    refine Z.iadd F dL_law_1043 ?_
    refine Z.ssl F G dL_law_1044 (fun g1044 => ?_)
    refine Z.aload_n F 0 rfl dL_law_1045 ?_
    refine Z.iload F 4 rfl dL_law_1046 ?_
    refine Z.iconst F (v := (5 : Int32)) (by decide) dL_law_1048 ?_
    refine Z.iadd F dL_law_1049 ?_
    refine Z.ssl F G dL_law_1050 (fun g1050 => ?_)
    refine clX0_98 F ⟨Nat.le_of_ble_eq_true rfl, Nat.le_of_ble_eq_true rfl⟩ (zlw4 (Nat.le_of_ble_eq_true rfl)) dL_law_1051 (fun r1051 => ?_)
    refine Z.aload_n F 2 rfl dL_law_1054 ?_
    refine Z.aload_n F 0 rfl dL_law_1055 ?_
    refine Z.iload F 4 rfl dL_law_1056 ?_
    refine Z.iconst F (v := (1 : Int32)) (by decide) dL_law_1058 ?_
    refine Z.iadd F dL_law_1059 ?_
    refine Z.ssl F G dL_law_1060 (fun g1060 => ?_)
    refine Z.aload_n F 0 rfl dL_law_1061 ?_
    refine Z.iload F 4 rfl dL_law_1062 ?_
    refine Z.iconst F (v := (2 : Int32)) (by decide) dL_law_1064 ?_
    refine Z.iadd F dL_law_1065 ?_
    refine Z.ssl F G dL_law_1066 (fun g1066 => ?_)
    refine Z.aload_n F 0 rfl dL_law_1067 ?_
    refine Z.iload F 4 rfl dL_law_1068 ?_
    refine Z.iconst F (v := (3 : Int32)) (by decide) dL_law_1070 ?_
    refine Z.iadd F dL_law_1071 ?_
    refine Z.ssl F G dL_law_1072 (fun g1072 => ?_)
    refine Z.aload_n F 0 rfl dL_law_1073 ?_
    refine Z.iload F 4 rfl dL_law_1074 ?_
    refine Z.iconst F (v := (4 : Int32)) (by decide) dL_law_1076 ?_
    refine Z.iadd F dL_law_1077 ?_
    refine Z.ssl F G dL_law_1078 (fun g1078 => ?_)
    refine Z.aload_n F 0 rfl dL_law_1079 ?_
    refine Z.iload F 4 rfl dL_law_1080 ?_
    refine Z.iconst F (v := (5 : Int32)) (by decide) dL_law_1082 ?_
    refine Z.iadd F dL_law_1083 ?_
    refine Z.ssl F G dL_law_1084 (fun g1084 => ?_)
    refine clX0_101 F ⟨Nat.le_of_ble_eq_true rfl, Nat.le_of_ble_eq_true rfl⟩ (zlw4 (Nat.le_of_ble_eq_true rfl)) dL_law_1085 (fun r1085 => ?_)
    refine Z.icmp_eq F (tgt := 1746) dL_law_1088 (by decide) ?_ ?_
    · exact Z.sub [0, 1, 2, 3, 4] rfl (hj1746)
    refine Z.iconst F (v := (0 : Int32)) (by decide) dL_law_1091 ?_
    exact Z.lawret F dL_law_1092
  | 17, e9, e8 =>
    cases e9; cases e8
    refine Z.aload_n F 1 rfl dL_law_1093 ?_
    refine Z.aload_n F 0 rfl dL_law_1094 ?_
    refine Z.iload F 4 rfl dL_law_1095 ?_
    refine Z.iconst F (v := (1 : Int32)) (by decide) dL_law_1097 ?_
    refine Z.iadd F dL_law_1098 ?_
    refine Z.ssl F G dL_law_1099 (fun g1099 => ?_)
    refine Z.aload_n F 0 rfl dL_law_1100 ?_
    refine Z.iload F 4 rfl dL_law_1101 ?_
    refine Z.iconst F (v := (2 : Int32)) (by decide) dL_law_1103 ?_
    refine Z.iadd F dL_law_1104 ?_
    refine Z.ssl F G dL_law_1105 (fun g1105 => ?_)
    refine clX0_102 F ⟨Nat.le_of_ble_eq_true rfl, Nat.le_of_ble_eq_true rfl⟩ (zlw4 (Nat.le_of_ble_eq_true rfl)) dL_law_1106 (fun r1106 => ?_)
    refine Z.aload_n F 2 rfl dL_law_1109 ?_
    refine Z.aload_n F 0 rfl dL_law_1110 ?_
    refine Z.iload F 4 rfl dL_law_1111 ?_
    refine Z.iconst F (v := (1 : Int32)) (by decide) dL_law_1113 ?_
    refine Z.iadd F dL_law_1114 ?_
    refine Z.ssl F G dL_law_1115 (fun g1115 => ?_)
    refine Z.aload_n F 0 rfl dL_law_1116 ?_
    refine Z.iload F 4 rfl dL_law_1117 ?_
    refine Z.iconst F (v := (2 : Int32)) (by decide) dL_law_1119 ?_
    refine Z.iadd F dL_law_1120 ?_
    refine Z.ssl F G dL_law_1121 (fun g1121 => ?_)
    refine clX0_105 F ⟨Nat.le_of_ble_eq_true rfl, Nat.le_of_ble_eq_true rfl⟩ (zlw4 (Nat.le_of_ble_eq_true rfl)) dL_law_1122 (fun r1122 => ?_)
    refine Z.icmp_eq F (tgt := 1746) dL_law_1125 (by decide) ?_ ?_
    · exact Z.sub [0, 1, 2, 3, 4] rfl (hj1746)
    refine Z.iconst F (v := (0 : Int32)) (by decide) dL_law_1128 ?_
    exact Z.lawret F dL_law_1129
  | 18, e9, e8 =>
    cases e9; cases e8
    refine Z.aload_n F 1 rfl dL_law_1130 ?_
    refine Z.aload_n F 0 rfl dL_law_1131 ?_
    refine Z.iload F 4 rfl dL_law_1132 ?_
    refine Z.iconst F (v := (1 : Int32)) (by decide) dL_law_1134 ?_
    refine Z.iadd F dL_law_1135 ?_
    refine Z.ssl F G dL_law_1136 (fun g1136 => ?_)
    refine clX0_106 F ⟨Nat.le_of_ble_eq_true rfl, Nat.le_of_ble_eq_true rfl⟩ (zlw4 (Nat.le_of_ble_eq_true rfl)) dL_law_1137 (fun r1137 => ?_)
    refine Z.aload_n F 2 rfl dL_law_1140 ?_
    refine Z.aload_n F 0 rfl dL_law_1141 ?_
    refine Z.iload F 4 rfl dL_law_1142 ?_
    refine Z.iconst F (v := (1 : Int32)) (by decide) dL_law_1144 ?_
    refine Z.iadd F dL_law_1145 ?_
    refine Z.ssl F G dL_law_1146 (fun g1146 => ?_)
    refine clX0_109 F ⟨Nat.le_of_ble_eq_true rfl, Nat.le_of_ble_eq_true rfl⟩ (zlw4 (Nat.le_of_ble_eq_true rfl)) dL_law_1147 (fun r1147 => ?_)
    refine Z.icmp_eq F (tgt := 1746) dL_law_1150 (by decide) ?_ ?_
    · exact Z.sub [0, 1, 2, 3, 4] rfl (hj1746)
    refine Z.iconst F (v := (0 : Int32)) (by decide) dL_law_1153 ?_
    exact Z.lawret F dL_law_1154
  | 19, e9, e8 =>
    cases e9; cases e8
    refine Z.aload_n F 1 rfl dL_law_1155 ?_
    refine Z.aload_n F 0 rfl dL_law_1156 ?_
    refine Z.iload F 4 rfl dL_law_1157 ?_
    refine Z.iconst F (v := (1 : Int32)) (by decide) dL_law_1159 ?_
    refine Z.iadd F dL_law_1160 ?_
    refine Z.ssl F G dL_law_1161 (fun g1161 => ?_)
    refine Z.aload_n F 0 rfl dL_law_1162 ?_
    refine Z.iload F 4 rfl dL_law_1163 ?_
    refine Z.iconst F (v := (2 : Int32)) (by decide) dL_law_1165 ?_
    refine Z.iadd F dL_law_1166 ?_
    refine Z.ssl F G dL_law_1167 (fun g1167 => ?_)
    refine Z.i2l F dL_law_1168 ?_
    refine Z.bipush F (v := (32 : Int32)) (by decide) dL_law_1169 ?_
    refine Z.lshl F dL_law_1171 ?_
    refine Z.aload_n F 0 rfl dL_law_1172 ?_
    refine Z.iload F 4 rfl dL_law_1173 ?_
    refine Z.iconst F (v := (3 : Int32)) (by decide) dL_law_1175 ?_
    refine Z.iadd F dL_law_1176 ?_
    refine Z.ssl F G dL_law_1177 (fun g1177 => ?_)
    refine Z.i2l F dL_law_1178 ?_
    refine Z.ldc2 F q2137 dL_law_1179 ?_
    refine Z.land F dL_law_1182 ?_
    refine Z.lor F dL_law_1183 ?_
    refine Z.nmJ (fun v1183 => ?_)
    refine clX0_110 F ⟨Nat.le_of_ble_eq_true rfl, Nat.le_of_ble_eq_true rfl⟩ (zlw4 (Nat.le_of_ble_eq_true rfl)) dL_law_1184 (fun r1184 => ?_)
    refine Z.aload_n F 2 rfl dL_law_1187 ?_
    refine Z.aload_n F 0 rfl dL_law_1188 ?_
    refine Z.iload F 4 rfl dL_law_1189 ?_
    refine Z.iconst F (v := (1 : Int32)) (by decide) dL_law_1191 ?_
    refine Z.iadd F dL_law_1192 ?_
    refine Z.ssl F G dL_law_1193 (fun g1193 => ?_)
    refine Z.aload_n F 0 rfl dL_law_1194 ?_
    refine Z.iload F 4 rfl dL_law_1195 ?_
    refine Z.iconst F (v := (2 : Int32)) (by decide) dL_law_1197 ?_
    refine Z.iadd F dL_law_1198 ?_
    refine Z.ssl F G dL_law_1199 (fun g1199 => ?_)
    refine Z.i2l F dL_law_1200 ?_
    refine Z.bipush F (v := (32 : Int32)) (by decide) dL_law_1201 ?_
    refine Z.lshl F dL_law_1203 ?_
    refine Z.aload_n F 0 rfl dL_law_1204 ?_
    refine Z.iload F 4 rfl dL_law_1205 ?_
    refine Z.iconst F (v := (3 : Int32)) (by decide) dL_law_1207 ?_
    refine Z.iadd F dL_law_1208 ?_
    refine Z.ssl F G dL_law_1209 (fun g1209 => ?_)
    refine Z.i2l F dL_law_1210 ?_
    refine Z.ldc2 F q2137 dL_law_1211 ?_
    refine Z.land F dL_law_1214 ?_
    refine Z.lor F dL_law_1215 ?_
    refine Z.nmJ (fun v1215 => ?_)
    refine clX0_114 F ⟨Nat.le_of_ble_eq_true rfl, Nat.le_of_ble_eq_true rfl⟩ (zlw4 (Nat.le_of_ble_eq_true rfl)) dL_law_1216 (fun r1216 => ?_)
    refine Z.icmp_eq F (tgt := 1746) dL_law_1219 (by decide) ?_ ?_
    · exact Z.sub [0, 1, 2, 3, 4] rfl (hj1746)
    refine Z.iconst F (v := (0 : Int32)) (by decide) dL_law_1222 ?_
    exact Z.lawret F dL_law_1223
  | 20, e9, e8 =>
    cases e9; cases e8
    refine Z.aload_n F 1 rfl dL_law_1224 ?_
    refine Z.aload_n F 0 rfl dL_law_1225 ?_
    refine Z.iload F 4 rfl dL_law_1226 ?_
    refine Z.iconst F (v := (1 : Int32)) (by decide) dL_law_1228 ?_
    refine Z.iadd F dL_law_1229 ?_
    refine Z.ssl F G dL_law_1230 (fun g1230 => ?_)
    refine clX0_115 F ⟨Nat.le_of_ble_eq_true rfl, Nat.le_of_ble_eq_true rfl⟩ (zlw4 (Nat.le_of_ble_eq_true rfl)) dL_law_1231 (fun r1231 => ?_)
    refine Z.aload_n F 2 rfl dL_law_1234 ?_
    refine Z.aload_n F 0 rfl dL_law_1235 ?_
    refine Z.iload F 4 rfl dL_law_1236 ?_
    refine Z.iconst F (v := (1 : Int32)) (by decide) dL_law_1238 ?_
    refine Z.iadd F dL_law_1239 ?_
    refine Z.ssl F G dL_law_1240 (fun g1240 => ?_)
    refine clX0_118 F ⟨Nat.le_of_ble_eq_true rfl, Nat.le_of_ble_eq_true rfl⟩ (zlw4 (Nat.le_of_ble_eq_true rfl)) dL_law_1241 (fun r1241 => ?_)
    refine Z.icmp_eq F (tgt := 1746) dL_law_1244 (by decide) ?_ ?_
    · exact Z.sub [0, 1, 2, 3, 4] rfl (hj1746)
    refine Z.iconst F (v := (0 : Int32)) (by decide) dL_law_1247 ?_
    exact Z.lawret F dL_law_1248
  | 21, e9, e8 =>
    cases e9; cases e8
    refine Z.aload_n F 1 rfl dL_law_1249 ?_
    refine clX0_119 F ⟨Nat.le_of_ble_eq_true rfl, Nat.le_of_ble_eq_true rfl⟩ (zlw4 (Nat.le_of_ble_eq_true rfl)) dL_law_1250 (fun r1250 => ?_)
    refine Z.aload_n F 2 rfl dL_law_1253 ?_
    refine clX0_122 F ⟨Nat.le_of_ble_eq_true rfl, Nat.le_of_ble_eq_true rfl⟩ (zlw4 (Nat.le_of_ble_eq_true rfl)) dL_law_1254 (fun r1254 => ?_)
    refine Z.icmp_eq F (tgt := 1746) dL_law_1257 (by decide) ?_ ?_
    · exact Z.sub [0, 1, 2, 3, 4] rfl (hj1746)
    refine Z.iconst F (v := (0 : Int32)) (by decide) dL_law_1260 ?_
    exact Z.lawret F dL_law_1261
  | 22, e9, e8 =>
    cases e9; cases e8
    refine Z.aload_n F 1 rfl dL_law_1262 ?_
    refine Z.aload_n F 0 rfl dL_law_1263 ?_
    refine Z.iload F 4 rfl dL_law_1264 ?_
    refine Z.iconst F (v := (1 : Int32)) (by decide) dL_law_1266 ?_
    refine Z.iadd F dL_law_1267 ?_
    refine Z.ssl F G dL_law_1268 (fun g1268 => ?_)
    refine Z.aload_n F 0 rfl dL_law_1269 ?_
    refine Z.iload F 4 rfl dL_law_1270 ?_
    refine Z.iconst F (v := (2 : Int32)) (by decide) dL_law_1272 ?_
    refine Z.iadd F dL_law_1273 ?_
    refine Z.ssl F G dL_law_1274 (fun g1274 => ?_)
    refine clX0_123 F ⟨Nat.le_of_ble_eq_true rfl, Nat.le_of_ble_eq_true rfl⟩ (zlw4 (Nat.le_of_ble_eq_true rfl)) dL_law_1275 (fun r1275 => ?_)
    refine Z.aload_n F 2 rfl dL_law_1278 ?_
    refine Z.aload_n F 0 rfl dL_law_1279 ?_
    refine Z.iload F 4 rfl dL_law_1280 ?_
    refine Z.iconst F (v := (1 : Int32)) (by decide) dL_law_1282 ?_
    refine Z.iadd F dL_law_1283 ?_
    refine Z.ssl F G dL_law_1284 (fun g1284 => ?_)
    refine Z.aload_n F 0 rfl dL_law_1285 ?_
    refine Z.iload F 4 rfl dL_law_1286 ?_
    refine Z.iconst F (v := (2 : Int32)) (by decide) dL_law_1288 ?_
    refine Z.iadd F dL_law_1289 ?_
    refine Z.ssl F G dL_law_1290 (fun g1290 => ?_)
    refine clX0_126 F ⟨Nat.le_of_ble_eq_true rfl, Nat.le_of_ble_eq_true rfl⟩ (zlw4 (Nat.le_of_ble_eq_true rfl)) dL_law_1291 (fun r1291 => ?_)
    refine Z.icmp_eq F (tgt := 1746) dL_law_1294 (by decide) ?_ ?_
    · exact Z.sub [0, 1, 2, 3, 4] rfl (hj1746)
    refine Z.iconst F (v := (0 : Int32)) (by decide) dL_law_1297 ?_
    exact Z.lawret F dL_law_1298
  | 23, e9, e8 =>
    cases e9; cases e8
    refine Z.aload_n F 1 rfl dL_law_1299 ?_
    refine Z.aload_n F 0 rfl dL_law_1300 ?_
    refine Z.iload F 4 rfl dL_law_1301 ?_
    refine Z.iconst F (v := (1 : Int32)) (by decide) dL_law_1303 ?_
    refine Z.iadd F dL_law_1304 ?_
    refine Z.ssl F G dL_law_1305 (fun g1305 => ?_)
    refine Z.aload_n F 0 rfl dL_law_1306 ?_
    refine Z.iload F 4 rfl dL_law_1307 ?_
    refine Z.iconst F (v := (2 : Int32)) (by decide) dL_law_1309 ?_
    refine Z.iadd F dL_law_1310 ?_
    refine Z.ssl F G dL_law_1311 (fun g1311 => ?_)
    refine Z.aload_n F 0 rfl dL_law_1312 ?_
    refine Z.iload F 4 rfl dL_law_1313 ?_
    refine Z.iconst F (v := (3 : Int32)) (by decide) dL_law_1315 ?_
    refine Z.iadd F dL_law_1316 ?_
    refine Z.ssl F G dL_law_1317 (fun g1317 => ?_)
    refine clX0_127 F ⟨Nat.le_of_ble_eq_true rfl, Nat.le_of_ble_eq_true rfl⟩ (zlw4 (Nat.le_of_ble_eq_true rfl)) dL_law_1318 (fun r1318 => ?_)
    refine Z.aload_n F 2 rfl dL_law_1321 ?_
    refine Z.aload_n F 0 rfl dL_law_1322 ?_
    refine Z.iload F 4 rfl dL_law_1323 ?_
    refine Z.iconst F (v := (1 : Int32)) (by decide) dL_law_1325 ?_
    refine Z.iadd F dL_law_1326 ?_
    refine Z.ssl F G dL_law_1327 (fun g1327 => ?_)
    refine Z.aload_n F 0 rfl dL_law_1328 ?_
    refine Z.iload F 4 rfl dL_law_1329 ?_
    refine Z.iconst F (v := (2 : Int32)) (by decide) dL_law_1331 ?_
    refine Z.iadd F dL_law_1332 ?_
    refine Z.ssl F G dL_law_1333 (fun g1333 => ?_)
    refine Z.aload_n F 0 rfl dL_law_1334 ?_
    refine Z.iload F 4 rfl dL_law_1335 ?_
    refine Z.iconst F (v := (3 : Int32)) (by decide) dL_law_1337 ?_
    refine Z.iadd F dL_law_1338 ?_
    refine Z.ssl F G dL_law_1339 (fun g1339 => ?_)
    refine clX0_130 F ⟨Nat.le_of_ble_eq_true rfl, Nat.le_of_ble_eq_true rfl⟩ (zlw4 (Nat.le_of_ble_eq_true rfl)) dL_law_1340 (fun r1340 => ?_)
    refine Z.icmp_eq F (tgt := 1746) dL_law_1343 (by decide) ?_ ?_
    · exact Z.sub [0, 1, 2, 3, 4] rfl (hj1746)
    refine Z.iconst F (v := (0 : Int32)) (by decide) dL_law_1346 ?_
    exact Z.lawret F dL_law_1347
  | 24, e9, e8 =>
    cases e9; cases e8
    refine Z.aload_n F 1 rfl dL_law_1348 ?_
    refine Z.aload_n F 0 rfl dL_law_1349 ?_
    refine Z.iload F 4 rfl dL_law_1350 ?_
    refine Z.iconst F (v := (1 : Int32)) (by decide) dL_law_1352 ?_
    refine Z.iadd F dL_law_1353 ?_
    refine Z.ssl F G dL_law_1354 (fun g1354 => ?_)
    refine Z.aload_n F 0 rfl dL_law_1355 ?_
    refine Z.iload F 4 rfl dL_law_1356 ?_
    refine Z.iconst F (v := (2 : Int32)) (by decide) dL_law_1358 ?_
    refine Z.iadd F dL_law_1359 ?_
    refine Z.ssl F G dL_law_1360 (fun g1360 => ?_)
    refine Z.aload_n F 0 rfl dL_law_1361 ?_
    refine Z.iload F 4 rfl dL_law_1362 ?_
    refine Z.iconst F (v := (3 : Int32)) (by decide) dL_law_1364 ?_
    refine Z.iadd F dL_law_1365 ?_
    refine Z.ssl F G dL_law_1366 (fun g1366 => ?_)
    refine Z.aload_n F 0 rfl dL_law_1367 ?_
    refine Z.iload F 4 rfl dL_law_1368 ?_
    refine Z.iconst F (v := (4 : Int32)) (by decide) dL_law_1370 ?_
    refine Z.iadd F dL_law_1371 ?_
    refine Z.ssl F G dL_law_1372 (fun g1372 => ?_)
    refine Z.aload_n F 0 rfl dL_law_1373 ?_
    refine Z.iload F 4 rfl dL_law_1374 ?_
    refine Z.iconst F (v := (5 : Int32)) (by decide) dL_law_1376 ?_
    refine Z.iadd F dL_law_1377 ?_
    refine Z.ssl F G dL_law_1378 (fun g1378 => ?_)
    refine clX0_131 F ⟨Nat.le_of_ble_eq_true rfl, Nat.le_of_ble_eq_true rfl⟩ (zlw4 (Nat.le_of_ble_eq_true rfl)) dL_law_1379 (fun r1379 => ?_)
    refine Z.aload_n F 2 rfl dL_law_1382 ?_
    refine Z.aload_n F 0 rfl dL_law_1383 ?_
    refine Z.iload F 4 rfl dL_law_1384 ?_
    refine Z.iconst F (v := (1 : Int32)) (by decide) dL_law_1386 ?_
    refine Z.iadd F dL_law_1387 ?_
    refine Z.ssl F G dL_law_1388 (fun g1388 => ?_)
    refine Z.aload_n F 0 rfl dL_law_1389 ?_
    refine Z.iload F 4 rfl dL_law_1390 ?_
    refine Z.iconst F (v := (2 : Int32)) (by decide) dL_law_1392 ?_
    refine Z.iadd F dL_law_1393 ?_
    refine Z.ssl F G dL_law_1394 (fun g1394 => ?_)
    refine Z.aload_n F 0 rfl dL_law_1395 ?_
    refine Z.iload F 4 rfl dL_law_1396 ?_
    refine Z.iconst F (v := (3 : Int32)) (by decide) dL_law_1398 ?_
    refine Z.iadd F dL_law_1399 ?_
    refine Z.ssl F G dL_law_1400 (fun g1400 => ?_)
    refine Z.aload_n F 0 rfl dL_law_1401 ?_
    refine Z.iload F 4 rfl dL_law_1402 ?_
    refine Z.iconst F (v := (4 : Int32)) (by decide) dL_law_1404 ?_
    refine Z.iadd F dL_law_1405 ?_
    refine Z.ssl F G dL_law_1406 (fun g1406 => ?_)
    refine Z.aload_n F 0 rfl dL_law_1407 ?_
    refine Z.iload F 4 rfl dL_law_1408 ?_
    refine Z.iconst F (v := (5 : Int32)) (by decide) dL_law_1410 ?_
    refine Z.iadd F dL_law_1411 ?_
    refine Z.ssl F G dL_law_1412 (fun g1412 => ?_)
    refine clX0_135 F ⟨Nat.le_of_ble_eq_true rfl, Nat.le_of_ble_eq_true rfl⟩ (zlw4 (Nat.le_of_ble_eq_true rfl)) dL_law_1413 (fun r1413 => ?_)
    refine Z.lcmp F dL_law_1416 ?_
    refine Z.if_eq F (tgt := 1746) dL_law_1417 (by decide) ?_ ?_
    · exact Z.sub [0, 1, 2, 3, 4] rfl (hj1746)
    refine Z.iconst F (v := (0 : Int32)) (by decide) dL_law_1420 ?_
    exact Z.lawret F dL_law_1421
  | 25, e9, e8 =>
    cases e9; cases e8
    refine Z.aload_n F 1 rfl dL_law_1422 ?_
    refine Z.aload_n F 0 rfl dL_law_1423 ?_
    refine Z.iload F 4 rfl dL_law_1424 ?_
    refine Z.iconst F (v := (1 : Int32)) (by decide) dL_law_1426 ?_
    refine Z.iadd F dL_law_1427 ?_
    refine Z.ssl F G dL_law_1428 (fun g1428 => ?_)
    refine clX0_136 F ⟨Nat.le_of_ble_eq_true rfl, Nat.le_of_ble_eq_true rfl⟩ (zlw4 (Nat.le_of_ble_eq_true rfl)) dL_law_1429 (fun r1429 => ?_)
    refine Z.aload_n F 2 rfl dL_law_1432 ?_
    refine Z.aload_n F 0 rfl dL_law_1433 ?_
    refine Z.iload F 4 rfl dL_law_1434 ?_
    refine Z.iconst F (v := (1 : Int32)) (by decide) dL_law_1436 ?_
    refine Z.iadd F dL_law_1437 ?_
    refine Z.ssl F G dL_law_1438 (fun g1438 => ?_)
    refine clX0_140 F ⟨Nat.le_of_ble_eq_true rfl, Nat.le_of_ble_eq_true rfl⟩ (zlw4 (Nat.le_of_ble_eq_true rfl)) dL_law_1439 (fun r1439 => ?_)
    refine Z.lcmp F dL_law_1442 ?_
    refine Z.if_eq F (tgt := 1746) dL_law_1443 (by decide) ?_ ?_
    · exact Z.sub [0, 1, 2, 3, 4] rfl (hj1746)
    refine Z.iconst F (v := (0 : Int32)) (by decide) dL_law_1446 ?_
    exact Z.lawret F dL_law_1447
  | 26, e9, e8 =>
    cases e9; cases e8
    refine Z.aload_n F 1 rfl dL_law_1448 ?_
    refine Z.aload_n F 0 rfl dL_law_1449 ?_
    refine Z.iload F 4 rfl dL_law_1450 ?_
    refine Z.iconst F (v := (1 : Int32)) (by decide) dL_law_1452 ?_
    refine Z.iadd F dL_law_1453 ?_
    refine Z.ssl F G dL_law_1454 (fun g1454 => ?_)
    refine clX0_141 F ⟨Nat.le_of_ble_eq_true rfl, Nat.le_of_ble_eq_true rfl⟩ (zlw4 (Nat.le_of_ble_eq_true rfl)) dL_law_1455 (fun r1455 => ?_)
    refine Z.aload_n F 2 rfl dL_law_1458 ?_
    refine Z.aload_n F 0 rfl dL_law_1459 ?_
    refine Z.iload F 4 rfl dL_law_1460 ?_
    refine Z.iconst F (v := (1 : Int32)) (by decide) dL_law_1462 ?_
    refine Z.iadd F dL_law_1463 ?_
    refine Z.ssl F G dL_law_1464 (fun g1464 => ?_)
    refine clX0_144 F ⟨Nat.le_of_ble_eq_true rfl, Nat.le_of_ble_eq_true rfl⟩ (zlw4 (Nat.le_of_ble_eq_true rfl)) dL_law_1465 (fun r1465 => ?_)
    refine Z.icmp_eq F (tgt := 1746) dL_law_1468 (by decide) ?_ ?_
    · exact Z.sub [0, 1, 2, 3, 4] rfl (hj1746)
    refine Z.iconst F (v := (0 : Int32)) (by decide) dL_law_1471 ?_
    exact Z.lawret F dL_law_1472
  | 27, e9, e8 =>
    cases e9; cases e8
    refine Z.aload_n F 1 rfl dL_law_1473 ?_
    refine Z.aload_n F 0 rfl dL_law_1474 ?_
    refine Z.iload F 4 rfl dL_law_1475 ?_
    refine Z.iconst F (v := (1 : Int32)) (by decide) dL_law_1477 ?_
    refine Z.iadd F dL_law_1478 ?_
    refine Z.ssl F G dL_law_1479 (fun g1479 => ?_)
    refine Z.aload_n F 0 rfl dL_law_1480 ?_
    refine Z.iload F 4 rfl dL_law_1481 ?_
    refine Z.iconst F (v := (2 : Int32)) (by decide) dL_law_1483 ?_
    refine Z.iadd F dL_law_1484 ?_
    refine Z.ssl F G dL_law_1485 (fun g1485 => ?_)
    refine Z.aload_n F 0 rfl dL_law_1486 ?_
    refine Z.iload F 4 rfl dL_law_1487 ?_
    refine Z.iconst F (v := (3 : Int32)) (by decide) dL_law_1489 ?_
    refine Z.iadd F dL_law_1490 ?_
    refine Z.ssl F G dL_law_1491 (fun g1491 => ?_)
    refine clX0_145 F ⟨Nat.le_of_ble_eq_true rfl, Nat.le_of_ble_eq_true rfl⟩ (zlw4 (Nat.le_of_ble_eq_true rfl)) dL_law_1492 (fun r1492 => ?_)
    refine Z.aload_n F 2 rfl dL_law_1495 ?_
    refine Z.aload_n F 0 rfl dL_law_1496 ?_
    refine Z.iload F 4 rfl dL_law_1497 ?_
    refine Z.iconst F (v := (1 : Int32)) (by decide) dL_law_1499 ?_
    refine Z.iadd F dL_law_1500 ?_
    refine Z.ssl F G dL_law_1501 (fun g1501 => ?_)
    refine Z.aload_n F 0 rfl dL_law_1502 ?_
    refine Z.iload F 4 rfl dL_law_1503 ?_
    refine Z.iconst F (v := (2 : Int32)) (by decide) dL_law_1505 ?_
    refine Z.iadd F dL_law_1506 ?_
    refine Z.ssl F G dL_law_1507 (fun g1507 => ?_)
    refine Z.aload_n F 0 rfl dL_law_1508 ?_
    refine Z.iload F 4 rfl dL_law_1509 ?_
    refine Z.iconst F (v := (3 : Int32)) (by decide) dL_law_1511 ?_
    refine Z.iadd F dL_law_1512 ?_
    refine Z.ssl F G dL_law_1513 (fun g1513 => ?_)
    refine clX0_148 F ⟨Nat.le_of_ble_eq_true rfl, Nat.le_of_ble_eq_true rfl⟩ (zlw4 (Nat.le_of_ble_eq_true rfl)) dL_law_1514 (fun r1514 => ?_)
    refine Z.icmp_eq F (tgt := 1746) dL_law_1517 (by decide) ?_ ?_
    · exact Z.sub [0, 1, 2, 3, 4] rfl (hj1746)
    refine Z.iconst F (v := (0 : Int32)) (by decide) dL_law_1520 ?_
    exact Z.lawret F dL_law_1521
  | 28, e9, e8 =>
    cases e9; cases e8
    refine Z.aload_n F 1 rfl dL_law_1522 ?_
    refine Z.aload_n F 0 rfl dL_law_1523 ?_
    refine Z.iload F 4 rfl dL_law_1524 ?_
    refine Z.iconst F (v := (1 : Int32)) (by decide) dL_law_1526 ?_
    refine Z.iadd F dL_law_1527 ?_
    refine Z.ssl F G dL_law_1528 (fun g1528 => ?_)
    refine Z.aload_n F 0 rfl dL_law_1529 ?_
    refine Z.iload F 4 rfl dL_law_1530 ?_
    refine Z.iconst F (v := (2 : Int32)) (by decide) dL_law_1532 ?_
    refine Z.iadd F dL_law_1533 ?_
    refine Z.ssl F G dL_law_1534 (fun g1534 => ?_)
    refine Z.aload_n F 0 rfl dL_law_1535 ?_
    refine Z.iload F 4 rfl dL_law_1536 ?_
    refine Z.iconst F (v := (3 : Int32)) (by decide) dL_law_1538 ?_
    refine Z.iadd F dL_law_1539 ?_
    refine Z.ssl F G dL_law_1540 (fun g1540 => ?_)
    refine Z.aload_n F 0 rfl dL_law_1541 ?_
    refine Z.iload F 4 rfl dL_law_1542 ?_
    refine Z.iconst F (v := (4 : Int32)) (by decide) dL_law_1544 ?_
    refine Z.iadd F dL_law_1545 ?_
    refine Z.ssl F G dL_law_1546 (fun g1546 => ?_)
    refine clX0_149 F ⟨Nat.le_of_ble_eq_true rfl, Nat.le_of_ble_eq_true rfl⟩ (zlw4 (Nat.le_of_ble_eq_true rfl)) dL_law_1547 (fun r1547 => ?_)
    refine Z.aload_n F 2 rfl dL_law_1550 ?_
    refine Z.aload_n F 0 rfl dL_law_1551 ?_
    refine Z.iload F 4 rfl dL_law_1552 ?_
    refine Z.iconst F (v := (1 : Int32)) (by decide) dL_law_1554 ?_
    refine Z.iadd F dL_law_1555 ?_
    refine Z.ssl F G dL_law_1556 (fun g1556 => ?_)
    refine Z.aload_n F 0 rfl dL_law_1557 ?_
    refine Z.iload F 4 rfl dL_law_1558 ?_
    refine Z.iconst F (v := (2 : Int32)) (by decide) dL_law_1560 ?_
    refine Z.iadd F dL_law_1561 ?_
    refine Z.ssl F G dL_law_1562 (fun g1562 => ?_)
    refine Z.aload_n F 0 rfl dL_law_1563 ?_
    refine Z.iload F 4 rfl dL_law_1564 ?_
    refine Z.iconst F (v := (3 : Int32)) (by decide) dL_law_1566 ?_
    refine Z.iadd F dL_law_1567 ?_
    refine Z.ssl F G dL_law_1568 (fun g1568 => ?_)
    refine Z.aload_n F 0 rfl dL_law_1569 ?_
    refine Z.iload F 4 rfl dL_law_1570 ?_
    refine Z.iconst F (v := (4 : Int32)) (by decide) dL_law_1572 ?_
    refine Z.iadd F dL_law_1573 ?_
    refine Z.ssl F G dL_law_1574 (fun g1574 => ?_)
    refine clX0_153 F ⟨Nat.le_of_ble_eq_true rfl, Nat.le_of_ble_eq_true rfl⟩ (zlw4 (Nat.le_of_ble_eq_true rfl)) dL_law_1575 (fun r1575 => ?_)
    refine Z.lcmp F dL_law_1578 ?_
    refine Z.if_eq F (tgt := 1746) dL_law_1579 (by decide) ?_ ?_
    · exact Z.sub [0, 1, 2, 3, 4] rfl (hj1746)
    refine Z.iconst F (v := (0 : Int32)) (by decide) dL_law_1582 ?_
    exact Z.lawret F dL_law_1583
  | 29, e9, e8 =>
    cases e9; cases e8
    refine Z.aload_n F 1 rfl dL_law_1584 ?_
    refine Z.aload_n F 0 rfl dL_law_1585 ?_
    refine Z.iload F 4 rfl dL_law_1586 ?_
    refine Z.iconst F (v := (1 : Int32)) (by decide) dL_law_1588 ?_
    refine Z.iadd F dL_law_1589 ?_
    refine Z.ssl F G dL_law_1590 (fun g1590 => ?_)
    refine Z.aload_n F 0 rfl dL_law_1591 ?_
    refine Z.iload F 4 rfl dL_law_1592 ?_
    refine Z.iconst F (v := (2 : Int32)) (by decide) dL_law_1594 ?_
    refine Z.iadd F dL_law_1595 ?_
    refine Z.ssl F G dL_law_1596 (fun g1596 => ?_)
    refine Z.aload_n F 0 rfl dL_law_1597 ?_
    refine Z.iload F 4 rfl dL_law_1598 ?_
    refine Z.iconst F (v := (3 : Int32)) (by decide) dL_law_1600 ?_
    refine Z.iadd F dL_law_1601 ?_
    refine Z.ssl F G dL_law_1602 (fun g1602 => ?_)
    refine clX0_154 F ⟨Nat.le_of_ble_eq_true rfl, Nat.le_of_ble_eq_true rfl⟩ (zlw4 (Nat.le_of_ble_eq_true rfl)) dL_law_1603 (fun r1603 => ?_)
    refine Z.aload_n F 2 rfl dL_law_1606 ?_
    refine Z.aload_n F 0 rfl dL_law_1607 ?_
    refine Z.iload F 4 rfl dL_law_1608 ?_
    refine Z.iconst F (v := (1 : Int32)) (by decide) dL_law_1610 ?_
    refine Z.iadd F dL_law_1611 ?_
    refine Z.ssl F G dL_law_1612 (fun g1612 => ?_)
    refine Z.aload_n F 0 rfl dL_law_1613 ?_
    refine Z.iload F 4 rfl dL_law_1614 ?_
    refine Z.iconst F (v := (2 : Int32)) (by decide) dL_law_1616 ?_
    refine Z.iadd F dL_law_1617 ?_
    refine Z.ssl F G dL_law_1618 (fun g1618 => ?_)
    refine Z.aload_n F 0 rfl dL_law_1619 ?_
    refine Z.iload F 4 rfl dL_law_1620 ?_
    refine Z.iconst F (v := (3 : Int32)) (by decide) dL_law_1622 ?_
    refine Z.iadd F dL_law_1623 ?_
    refine Z.ssl F G dL_law_1624 (fun g1624 => ?_)
    refine clX0_157 F ⟨Nat.le_of_ble_eq_true rfl, Nat.le_of_ble_eq_true rfl⟩ (zlw4 (Nat.le_of_ble_eq_true rfl)) dL_law_1625 (fun r1625 => ?_)
    refine Z.icmp_eq F (tgt := 1746) dL_law_1628 (by decide) ?_ ?_
    · exact Z.sub [0, 1, 2, 3, 4] rfl (hj1746)
    refine Z.iconst F (v := (0 : Int32)) (by decide) dL_law_1631 ?_
    exact Z.lawret F dL_law_1632
  | 30, e9, e8 =>
    cases e9; cases e8
    refine Z.aload_n F 1 rfl dL_law_1633 ?_
    refine Z.aload_n F 0 rfl dL_law_1634 ?_
    refine Z.iload F 4 rfl dL_law_1635 ?_
    refine Z.iconst F (v := (1 : Int32)) (by decide) dL_law_1637 ?_
    refine Z.iadd F dL_law_1638 ?_
    refine Z.ssl F G dL_law_1639 (fun g1639 => ?_)
    refine Z.aload_n F 0 rfl dL_law_1640 ?_
    refine Z.iload F 4 rfl dL_law_1641 ?_
    refine Z.iconst F (v := (2 : Int32)) (by decide) dL_law_1643 ?_
    refine Z.iadd F dL_law_1644 ?_
    refine Z.ssl F G dL_law_1645 (fun g1645 => ?_)
    refine clX0_158 F ⟨Nat.le_of_ble_eq_true rfl, Nat.le_of_ble_eq_true rfl⟩ (zlw4 (Nat.le_of_ble_eq_true rfl)) dL_law_1646 (fun r1646 => ?_)
    refine Z.aload_n F 2 rfl dL_law_1649 ?_
    refine Z.aload_n F 0 rfl dL_law_1650 ?_
    refine Z.iload F 4 rfl dL_law_1651 ?_
    refine Z.iconst F (v := (1 : Int32)) (by decide) dL_law_1653 ?_
    refine Z.iadd F dL_law_1654 ?_
    refine Z.ssl F G dL_law_1655 (fun g1655 => ?_)
    refine Z.aload_n F 0 rfl dL_law_1656 ?_
    refine Z.iload F 4 rfl dL_law_1657 ?_
    refine Z.iconst F (v := (2 : Int32)) (by decide) dL_law_1659 ?_
    refine Z.iadd F dL_law_1660 ?_
    refine Z.ssl F G dL_law_1661 (fun g1661 => ?_)
    refine clX0_161 F ⟨Nat.le_of_ble_eq_true rfl, Nat.le_of_ble_eq_true rfl⟩ (zlw4 (Nat.le_of_ble_eq_true rfl)) dL_law_1662 (fun r1662 => ?_)
    refine Z.icmp_eq F (tgt := 1746) dL_law_1665 (by decide) ?_ ?_
    · exact Z.sub [0, 1, 2, 3, 4] rfl (hj1746)
    refine Z.iconst F (v := (0 : Int32)) (by decide) dL_law_1668 ?_
    exact Z.lawret F dL_law_1669
  | 31, e9, e8 =>
    cases e9; cases e8
    refine Z.aload_n F 1 rfl dL_law_1670 ?_
    refine Z.aload_n F 0 rfl dL_law_1671 ?_
    refine Z.iload F 4 rfl dL_law_1672 ?_
    refine Z.iconst F (v := (1 : Int32)) (by decide) dL_law_1674 ?_
    refine Z.iadd F dL_law_1675 ?_
    refine Z.ssl F G dL_law_1676 (fun g1676 => ?_)
    refine clX0_162 F ⟨Nat.le_of_ble_eq_true rfl, Nat.le_of_ble_eq_true rfl⟩ (zlw4 (Nat.le_of_ble_eq_true rfl)) dL_law_1677 (fun r1677 => ?_)
    refine Z.aload_n F 2 rfl dL_law_1680 ?_
    refine Z.aload_n F 0 rfl dL_law_1681 ?_
    refine Z.iload F 4 rfl dL_law_1682 ?_
    refine Z.iconst F (v := (1 : Int32)) (by decide) dL_law_1684 ?_
    refine Z.iadd F dL_law_1685 ?_
    refine Z.ssl F G dL_law_1686 (fun g1686 => ?_)
    refine clX0_165 F ⟨Nat.le_of_ble_eq_true rfl, Nat.le_of_ble_eq_true rfl⟩ (zlw4 (Nat.le_of_ble_eq_true rfl)) dL_law_1687 (fun r1687 => ?_)
    refine Z.icmp_eq F (tgt := 1746) dL_law_1690 (by decide) ?_ ?_
    · exact Z.sub [0, 1, 2, 3, 4] rfl (hj1746)
    refine Z.iconst F (v := (0 : Int32)) (by decide) dL_law_1693 ?_
    exact Z.lawret F dL_law_1694
  | 32, e9, e8 =>
    cases e9; cases e8
    refine Z.aload_n F 1 rfl dL_law_1695 ?_
    refine clX0_166 F ⟨Nat.le_of_ble_eq_true rfl, Nat.le_of_ble_eq_true rfl⟩ (zlw4 (Nat.le_of_ble_eq_true rfl)) dL_law_1696 (fun r1696 => ?_)
    refine Z.aload_n F 2 rfl dL_law_1699 ?_
    refine clX0_169 F ⟨Nat.le_of_ble_eq_true rfl, Nat.le_of_ble_eq_true rfl⟩ (zlw4 (Nat.le_of_ble_eq_true rfl)) dL_law_1700 (fun r1700 => ?_)
    refine Z.icmp_eq F (tgt := 1746) dL_law_1703 (by decide) ?_ ?_
    · exact Z.sub [0, 1, 2, 3, 4] rfl (hj1746)
    refine Z.iconst F (v := (0 : Int32)) (by decide) dL_law_1706 ?_
    exact Z.lawret F dL_law_1707
  | 33, e9, e8 =>
    cases e9; cases e8
    refine Z.aload_n F 1 rfl dL_law_1708 ?_
    refine clX0_170 F ⟨Nat.le_of_ble_eq_true rfl, Nat.le_of_ble_eq_true rfl⟩ (zlw4 (Nat.le_of_ble_eq_true rfl)) dL_law_1709 (fun r1709 => ?_)
    refine Z.aload_n F 2 rfl dL_law_1712 ?_
    refine clX0_173 F ⟨Nat.le_of_ble_eq_true rfl, Nat.le_of_ble_eq_true rfl⟩ (zlw4 (Nat.le_of_ble_eq_true rfl)) dL_law_1713 (fun r1713 => ?_)
    refine Z.icmp_eq F (tgt := 1746) dL_law_1716 (by decide) ?_ ?_
    · exact Z.sub [0, 1, 2, 3, 4] rfl (hj1746)
    refine Z.iconst F (v := (0 : Int32)) (by decide) dL_law_1719 ?_
    exact Z.lawret F dL_law_1720
  | 34, e9, e8 =>
    cases e9; cases e8
    refine Z.aload_n F 1 rfl dL_law_1721 ?_
    refine Z.aload_n F 0 rfl dL_law_1722 ?_
    refine Z.iload F 4 rfl dL_law_1723 ?_
    refine Z.iconst F (v := (1 : Int32)) (by decide) dL_law_1725 ?_
    refine Z.iadd F dL_law_1726 ?_
    refine Z.ssl F G dL_law_1727 (fun g1727 => ?_)
    refine clX0_174 F ⟨Nat.le_of_ble_eq_true rfl, Nat.le_of_ble_eq_true rfl⟩ (zlw4 (Nat.le_of_ble_eq_true rfl)) dL_law_1728 (fun r1728 => ?_)
    refine Z.aload_n F 2 rfl dL_law_1731 ?_
    refine Z.aload_n F 0 rfl dL_law_1732 ?_
    refine Z.iload F 4 rfl dL_law_1733 ?_
    refine Z.iconst F (v := (1 : Int32)) (by decide) dL_law_1735 ?_
    refine Z.iadd F dL_law_1736 ?_
    refine Z.ssl F G dL_law_1737 (fun g1737 => ?_)
    refine clX0_177 F ⟨Nat.le_of_ble_eq_true rfl, Nat.le_of_ble_eq_true rfl⟩ (zlw4 (Nat.le_of_ble_eq_true rfl)) dL_law_1738 (fun r1738 => ?_)
    refine Z.icmp_eq F (tgt := 1746) dL_law_1741 (by decide) ?_ ?_
    · exact Z.sub [0, 1, 2, 3, 4] rfl (hj1746)
    refine Z.iconst F (v := (0 : Int32)) (by decide) dL_law_1744 ?_
    exact Z.lawret F dL_law_1745
  | n + 35, e9, e8 => simp at e9
