/-! indexOf IN A CONSTANT TEXT: the JDK's own code -/
section ZStr
variable {p : Program} {l : Launch} {e : Env} {R : Room} {s : State} {m : MethodId} {args : Array Value} {below : List Frame} {meth : Method} {c : Code} {Q : State → Prop} {nL : Nat} {D : ZD} {A : Nat → Prop} {al : Bool} {n0 : Nat × Nat × Nat} {cc : ByteArray} {own nm : String} {ret : Option FieldType} {sz mc ms fr lo : Nat}
variable {pc : Nat} {L : List (Nat × Value)} {st st0 : List Value} {P : ZM → Prop}
theorem Z.csv (F : ZF p R s m args meth c cc nL "java/lang/String" nm ret D A al sz mc ms fr lo) {i z : Nat} (hi : i < 3) {K : Nat → ZM → Prop} (hdg : decode cc pc = .ok (.getfield 9, 3)) (k : ∀ u, ZW p l e R s m args below meth c Q nL D A al n0 (K u) (pc + 3) L (zv u :: st)) : ZW p l e R s m args below meth c Q nL D A al n0 (zis z (4 + i) (zgE (7 + i) K)) pc L (zv z :: st) := by
  intro μ H locs cells slots ls hI h hP
  obtain ⟨hz, hP⟩ := hP
  unfold zgE at hP
  rw [hI.1.2] at hz hP
  subst hz
  obtain ⟨-, -, h3, -⟩ := F.hS.2.2.2.2.1.1 i hi
  exact vk_getf F.hx F.hb h3 hI.2.1 F.hown (F.hts _ q2188) (fun _ h => h) hdg (k _ μ H locs cells slots ls hI h hP)
theorem Z.csc (F : ZF p R s m args meth c cc nL "java/lang/String" nm ret D A al sz mc ms fr lo) {i z : Nat} (hi : i < 3) (hdg : decode cc pc = .ok (.getfield 15, 3)) (k : ZW p l e R s m args below meth c Q nL D A al n0 P (pc + 3) L (.int 0 :: st)) : ZW p l e R s m args below meth c Q nL D A al n0 (zis z (4 + i) P) pc L (zv z :: st) := by
  intro μ H locs cells slots ls hI h hP
  obtain ⟨hz, hP⟩ := hP
  rw [hI.1.2] at hz
  subst hz
  obtain ⟨-, h3, -, -⟩ := F.hS.2.2.2.2.1.1 i hi
  exact vk_getf F.hx F.hb h3 hI.2.1 F.hown (F.hts _ q2187) (fun _ h => h) hdg (k μ H locs cells slots ls hI h hP)
theorem Z.ccs (F : ZF p R s m args meth c cc nL "java/lang/String" nm ret D A al sz mc ms fr lo) (hdg : decode cc pc = .ok (.getstatic 38, 3)) (k : ZW p l e R s m args below meth c Q nL D A al n0 P (pc + 3) L (.int 1 :: st)) : ZW p l e R s m args below meth c Q nL D A al n0 P pc L st := by
  intro μ H locs cells slots ls hI h hP
  exact va_gets F.hx F.hb F.hS.2.2.2.2.2.1 hI.2.1 F.hown (F.hts _ q645) (fun _ h => h) hdg (k μ H locs cells slots ls hI h hP)
theorem Z.cbl (F : ZF p R s m args meth c cc nL own nm ret D A al sz mc ms fr lo) {i z : Nat} (hi : i < 3) (hdg : decode cc pc = .ok (.arraylength, 1)) (k : ZW p l e R s m args below meth c Q nL D A al n0 P (pc + 1) L (.int (Int32.ofNat (zLen.getD i 0)) :: st)) : ZW p l e R s m args below meth c Q nL D A al n0 (zis z (7 + i) P) pc L (zv z :: st) := by
  intro μ H locs cells slots ls hI h hP
  obtain ⟨hz, hP⟩ := hP
  rw [hI.1.2] at hz
  subst hz
  obtain ⟨-, -, -, h3⟩ := F.hS.2.2.2.2.1.1 i hi
  exact va_tlen F.hx F.hb h3 hI.2.1 rfl hdg (k μ H locs cells slots ls hI h hP)
theorem Z.cba (F : ZF p R s m args meth c cc nL own nm ret D A al sz mc ms fr lo) {i z : Nat} {j : Int32} (hi : i < 3) (hj : vp_in j (zLen.getD i 0)) (hdg : decode cc pc = .ok (.baload, 1)) (k : ZW p l e R s m args below meth c Q nL D A al n0 P (pc + 1) L (.int ((zByt.getD i []).getD j.toNatClampNeg 0) :: st)) : ZW p l e R s m args below meth c Q nL D A al n0 (zis z (7 + i) P) pc L (.int j :: zv z :: st) := by
  intro μ H locs cells slots ls hI h hP
  obtain ⟨hz, hP⟩ := hP
  rw [hI.1.2] at hz
  subst hz
  obtain ⟨-, -, -, h3⟩ := F.hS.2.2.2.2.1.1 i hi
  exact va_tb F.hx F.hb h3 hI.2.1 hj rfl hdg (k μ H locs cells slots ls hI h hP)
theorem Z.cV (F : ZF p R s m args meth c cc nL own nm ret D A al sz mc ms fr lo) {fr9 lo9 n maxL9 index : Nat} {y : MethodName} {bytes : ByteArray} {ret9 : Option FieldType} {As : List Value} {i z : Nat} (hi : i < 3) {K : Int32 → ZM → Prop} {f : (Int32 → ZM → Prop) → ZM → Prop} (hM : ZCi l y (ws_ y bytes maxL9 ret9) fr9 lo9 0 0 false (zv z :: As) f) (hcl : y.cls = "java/lang/String") (h1 : Cond.methodLink own index y ∈ lw_all) (h2 : Cond.instanceMethod y ∈ lw_all) (h3 : Cond.selects "java/lang/String" y y ∈ lw_all) (h4 : Cond.initialized "java/lang/String" ∈ lw_all) (h5 : Cond.code y bytes maxL9 ret9 ∈ lw_all) (hd : y.cls ≠ "java/lang/invoke/MethodHandle" ∧ y.cls ≠ "java/lang/invoke/VarHandle" ∧ (parseMethodDescriptor y.desc).map (fun d => d.parameters.length) = some n) (hn : As.length = n) (hst4 : zlw st) (hR : fr9 + 1 ≤ fr ∧ 8 + (maxL9 + 11) + lo9 ≤ lo) (hst : st0 = As.reverse ++ zv z :: st) (hdg : decode cc pc = .ok (.invokevirtual index, 3)) (k : ∀ r, ZW p l e R s m args below meth c Q nL D A al n0 (K r) (pc + 3) L (.int r :: st)) : ZW p l e R s m args below meth c Q nL D A al n0 (zis z (4 + i) (f K)) pc L st0 := by
  refine Z.ri0 (a9 := (zv z :: As).toArray) _ (fun μ H locs cells slots ls hI h hP => ?_) k
  obtain ⟨hz, hP⟩ := hP
  rw [hI.1.2] at hz
  subst hz
  subst hst
  exact va_runV (C := "java/lang/String") (b := D.2.2 (4 + i)) (As := As) F.fix (hM D A (zX μ, zC μ, zS μ) H.size K μ) (cwV n F.hts (lw_V h1 h2 h3 h4 h5) rfl rfl rfl ⟨hcl, hd⟩ (by rw [F.hRf, F.hRl]; exact hR)) ⟨zblind, vk_recv (adK := fun i => D.2.2 (4 + i)) (i := i) F.hS.2.2.2.2.1 hi hI.2.1, Z.pre0 F hI hP⟩ rfl hn h.1 rfl (zroom hst4) hdg (Z.fits0 hI)
theorem Z.bret (F : ZF p R s m args meth c cc nL own nm (some .byte) D A al sz mc ms fr lo) {v : Int32} {K : Int32 → ZM → Prop} (hv : narrow .byte (.int v) = .int v) (hdg : decode cc pc = .ok (.ireturn, 1)) : ZW p l e R s m args below meth c (MQ below (va_Qi K (ZPost D A al n0 sz) A) args s mc ms A) nL D A al n0 (K v) pc L [.int v] := by
  intro μ H locs cells slots ls hI h hP
  refine W.widen (k := mc) (n := ms) (Z.endB F hI).1 (Z.endB F hI).2 ?_
  exact W.zret F.hx F.hb F.hr hv (fun t ht hW => ⟨⟨v, μ, rfl, hP, Z.endP F hI ht⟩, hI.2.1.F ht⟩) hI.2.1.2.2 hdg (hlocks := F.hlocks)
theorem Z.metG {y : MethodName} {maxL : Nat} {av : List Value} {L0 : List (Nat × Value)} {f : (Int32 → ZM → Prop) → ZM → Prop} (hy : plainName y.cls = true) (hz : al = false → mc = 0 ∧ ms = 0) (hla : lv_args 0 av = L0) (hsl : (lg_sl av).length ≤ maxL)
    (body : ∀ (p : Program) (e : Env) (R : Room) (s : State) (m : MethodId) (args : Array Value) (below : List Frame) (meth : Method) (c : Code) (D : ZD) (A : Nat → Prop) (n0 : Nat × Nat × Nat) (sz : Nat) (K : Int32 → ZM → Prop), ZF p R s m args meth c cc maxL y.cls y.name ret D A al sz mc ms fr lo → ZW p l e R s m args below meth c (MQ below (va_Qi K (ZPost D A al n0 sz) A) args s mc ms A) maxL D A al n0 (f K) 0 L0 []) : ZCi l y (ws_ y cc maxL ret) fr lo mc ms al av f := by
  intro D A n0 sz K μ
  refine Met.ofW (cc := cc) (maxL := maxL) (ret := ret) hy rfl ?_
  intro p e s m args below meth c s₁ B hml hv
  obtain ⟨rfl, hv⟩ := hv
  rw [lg_entry_eq]
  exact body p e _ s m _ below meth c D A n0 sz K (Z.fixed (fun w h => List.mem_cons_of_mem _ h) hz B hml hv) μ s.heap [] 0 0 _ (Z.fst hv) (hla ▸ lv_entry av hsl) hv.2.2.2
theorem Z.and {c9 : Prop} (k : c9 → ZW p l e R s m args below meth c Q nL D A al n0 P pc L st) : ZW p l e R s m args below meth c Q nL D A al n0 (fun μ => c9 ∧ P μ) pc L st :=
  fun μ H locs cells slots ls hI h hP => k hP.1 μ H locs cells slots ls hI h hP.2
end ZStr
theorem zif_n {c : Prop} [Decidable c] {P1 P2 : ZM → Prop} {μ : ZM} (h : ¬ c) (hP : P2 μ) : zif c P1 P2 μ := by
  unfold zif
  rw [if_neg h]
  exact hP
theorem zif_p {c : Prop} [Decidable c] {P1 P2 : ZM → Prop} {μ : ZM} (h : c) (hP : P1 μ) : zif c P1 P2 μ := by
  unfold zif
  rw [if_pos h]
  exact hP
theorem zshr0 : ∀ i, i < 3 → Int32.ofNat (zLen.getD i 0) >>> ((0 : Int32) &&& 31) = Int32.ofNat (zLen.getD i 0) := by decide
theorem k_J2_isLatin1 (l : Launch) {i z : Nat} (hi : i < 3) : ZCi l yJ2_isLatin1 (ws_ yJ2_isLatin1 cJ2_isLatin1 1 (some .boolean)) 0 0 0 0 false [zv z] (fun K => zis z (4 + i) (K 1)) := by
  refine Z.metG (by decide +kernel) (fun h => ⟨rfl, rfl⟩) (L0 := [(0, zv z)]) (by rw [zla_v, zla_0]) (by rw [zsl_v, zsl_0]; exact Nat.le_of_ble_eq_true rfl) ?_
  intro p e R s m args below meth c D A n0 sz k F
  have F : ZF p R s m args meth c cJ2_isLatin1 1 "java/lang/String" "isLatin1" (some .boolean) D A false sz 0 0 0 0 := F
  refine Z.ccs F dJ2_isLatin1_0 ?_
  refine Z.imp (P1 := zif ((1 : Int32) = 0) zno (zis z (4 + i) (zif ((0 : Int32) = 0) (zrz 1 k) zno))) (fun μ h => zif_n (by decide) ⟨h.1, zif_p rfl ⟨Or.inr rfl, h.2⟩⟩) ?_
  refine Z.if_eq F (tgt := 17) dJ2_isLatin1_3 (by decide) ?_ ?_
  · exact Z.no
  refine Z.aload_n F 0 rfl dJ2_isLatin1_6 ?_
  refine Z.csc F hi dJ2_isLatin1_7 ?_
  refine Z.if_ne F (tgt := 17) dJ2_isLatin1_10 (by decide) ?_ ?_
  · exact Z.no
  refine Z.iconst F (v := (1 : Int32)) (by decide) dJ2_isLatin1_13 ?_
  refine Z.goto F (tgt := 18) dJ2_isLatin1_14 (by decide) ?_
  exact Z.zret F dJ2_isLatin1_18
theorem k_J2_coder (l : Launch) {i z : Nat} (hi : i < 3) : ZCi l yJ2_coder (ws_ yJ2_coder cJ2_coder 1 (some .byte)) 0 0 0 0 false [zv z] (fun K => zis z (4 + i) (K 0)) := by
  refine Z.metG (by decide +kernel) (fun h => ⟨rfl, rfl⟩) (L0 := [(0, zv z)]) (by rw [zla_v, zla_0]) (by rw [zsl_v, zsl_0]; exact Nat.le_of_ble_eq_true rfl) ?_
  intro p e R s m args below meth c D A n0 sz k F
  have F : ZF p R s m args meth c cJ2_coder 1 "java/lang/String" "coder" (some .byte) D A false sz 0 0 0 0 := F
  refine Z.ccs F dJ2_coder_0 ?_
  refine Z.imp (P1 := zif ((1 : Int32) = 0) zno (zis z (4 + i) (k 0))) (fun μ h => zif_n (by decide) h) ?_
  refine Z.if_eq F (tgt := 13) dJ2_coder_3 (by decide) ?_ ?_
  · exact Z.no
  refine Z.aload_n F 0 rfl dJ2_coder_6 ?_
  refine Z.csc F hi dJ2_coder_7 ?_
  refine Z.goto F (tgt := 14) dJ2_coder_10 (by decide) ?_
  exact Z.bret F rfl dJ2_coder_14
theorem k_J2_length (l : Launch) {i z : Nat} (hi : i < 3) : ZCi l yJ2_length (ws_ yJ2_length cJ2_length 1 (some .int)) 1 20 0 0 false [zv z] (fun K => zis z (4 + i) (K (Int32.ofNat (zLen.getD i 0)))) := by
  refine Z.metG (by decide +kernel) (fun h => ⟨rfl, rfl⟩) (L0 := [(0, zv z)]) (by rw [zla_v, zla_0]) (by rw [zsl_v, zsl_0]; exact Nat.le_of_ble_eq_true rfl) ?_
  intro p e R s m args below meth c D A n0 sz k F
  have F : ZF p R s m args meth c cJ2_length 1 "java/lang/String" "length" (some .int) D A false sz 0 0 1 20 := F
  refine Z.imp (P1 := zis z (4 + i) (zgE (7 + i) fun u => zis u (7 + i) (zis z (4 + i) (zis z (4 + i) (k (Int32.ofNat (zLen.getD i 0) >>> ((0 : Int32) &&& 31))))))) (fun μ h => ⟨h.1, rfl, h.1, h.1, by rw [zshr0 i hi]; exact h.2⟩) ?_
  refine Z.aload_n F 0 rfl dJ2_length_0 ?_
  refine Z.csv F hi dJ2_length_1 (fun u => ?_)
  refine Z.cbl F hi dJ2_length_4 ?_
  refine Z.aload_n F 0 rfl dJ2_length_5 ?_
  refine Z.cV F hi (n := 0) (As := []) (f := fun K => zis z (4 + i) (K 0)) (K := fun r => k (Int32.ofNat (zLen.getD i 0) >>> (r &&& 31))) (k_J2_coder l hi) rfl q651 q652 q653 q135 q654 (by decide +kernel) rfl (zlw4 (Nat.le_of_ble_eq_true rfl)) ⟨Nat.le_of_ble_eq_true rfl, Nat.le_of_ble_eq_true rfl⟩ rfl dJ2_length_6 (fun r6 => ?_)
  refine Z.ishr F dJ2_length_9 ?_
  exact Z.iret F dJ2_length_10
theorem k_J3_canEncode (l : Launch) (x : Int32) : ZCi l yJ3_canEncode (ws_ yJ3_canEncode cJ3_canEncode 1 (some .boolean)) 0 0 0 0 false [.int x] (fun K => zif (x < 0) (K 0) (zif (255 < x) (K 0) (K 1))) := by
  refine Z.metG (by decide +kernel) (fun h => ⟨rfl, rfl⟩) (L0 := [(0, .int x)]) (by rw [zla_i, zla_0]) (by rw [zsl_i, zsl_0]; exact Nat.le_of_ble_eq_true rfl) ?_
  intro p e R s m args below meth c D A n0 sz k F
  have F : ZF p R s m args meth c cJ3_canEncode 1 "java/lang/StringLatin1" "canEncode" (some .boolean) D A false sz 0 0 0 0 := F
  refine Z.imp (P1 := zif (x < 0) (zrz 0 k) (zif (255 < x) (zrz 0 k) (zrz 1 k))) (fun μ h => ?_) ?_
  · unfold zif at h ⊢
    by_cases h1 : x < 0
    · rw [if_pos h1] at h ⊢; exact ⟨Or.inl rfl, h⟩
    · rw [if_neg h1] at h ⊢
      by_cases h2 : 255 < x
      · rw [if_pos h2] at h ⊢; exact ⟨Or.inl rfl, h⟩
      · rw [if_neg h2] at h ⊢; exact ⟨Or.inr rfl, h⟩
  refine Z.iload_n F 0 rfl dJ3_canEncode_0 ?_
  refine Z.if_lt F (tgt := 15) dJ3_canEncode_1 (by decide) ?_ ?_
  · refine Z.iconst F (v := (0 : Int32)) (by decide) dJ3_canEncode_15 ?_
    exact Z.zret F dJ3_canEncode_16
  refine Z.iload_n F 0 rfl dJ3_canEncode_4 ?_
  refine Z.sipush F (v := (255 : Int32)) (by decide) dJ3_canEncode_5 ?_
  refine Z.icmp_gt F (tgt := 15) dJ3_canEncode_8 (by decide) ?_ ?_
  · refine Z.iconst F (v := (0 : Int32)) (by decide) dJ3_canEncode_15 ?_
    exact Z.zret F dJ3_canEncode_16
  refine Z.iconst F (v := (1 : Int32)) (by decide) dJ3_canEncode_11 ?_
  refine Z.goto F (tgt := 16) dJ3_canEncode_12 (by decide) ?_
  exact Z.zret F dJ3_canEncode_16
theorem zixf_no {c : Int32} : ∀ {bs : List Int32} {n : Nat}, (∀ b ∈ bs, b ≠ c) → zixf bs c n = -1
  | [], _, _ => rfl
  | b :: bs, n, h => by
    unfold zixf
    rw [if_neg (h b List.mem_cons_self)]
    exact zixf_no fun q hq => h q (List.mem_cons_of_mem _ hq)
theorem zByt_in : ∀ i, i < 3 → ∀ b ∈ zByt.getD i [], (0 ≤ b ∧ b ≤ 127) ∧ b.toInt8.toInt32 = b := by decide
theorem zByt_len : ∀ i, i < 3 → (zByt.getD i []).length = zLen.getD i 0 := by decide
theorem zi2b {x : Int32} (h0 : ¬ x < 0) (h1 : ¬ 255 < x) {b : Int32} (hb : 0 ≤ b ∧ b ≤ 127) : (b = x.toInt8.toInt32) ↔ b = x := by
  have e0 : 0 ≤ x.toInt := by
    have := Int32.not_lt.mp h0
    rw [Int32.le_iff_toInt_le] at this
    exact this
  have e1 : x.toInt ≤ 255 := by
    have := Int32.not_lt.mp h1
    rw [Int32.le_iff_toInt_le] at this
    exact this
  have b0 : 0 ≤ b.toInt := by have := hb.1; rw [Int32.le_iff_toInt_le] at this; exact this
  have b1 : b.toInt ≤ 127 := by have := hb.2; rw [Int32.le_iff_toInt_le] at this; exact this
  rw [← Int32.toInt_inj, ← Int32.toInt_inj, Int8.toInt_toInt32, Int32.toInt_toInt8]
  have h2 : x.toInt.bmod (2 ^ 8) = if x.toInt < 128 then x.toInt else x.toInt - 256 := by
    unfold Int.bmod
    have : x.toInt % ((2 ^ 8 : Nat) : Int) = x.toInt := Int.emod_eq_of_lt e0 (by omega)
    rw [this]
    simp only
    have e5 : ((↑(2 ^ 8 : Nat) : Int) + 1) / 2 = 128 := by decide
    have e6 : (↑(2 ^ 8 : Nat) : Int) = 256 := by decide
    rw [e5, e6]
  rw [h2]
  split <;> omega
/-- the loop of indexOfChar -/
theorem k_J3_indexOfChar (l : Launch) {i z : Nat} {x : Int32} (hi : i < 3) (h0 : ¬ x < 0) (h1 : ¬ 255 < x) : ZCi l yJ3_indexOfChar (ws_ yJ3_indexOfChar cJ3_indexOfChar 6 (some .int)) 0 0 0 0 false [zv z, .int x, .int 0, .int (Int32.ofNat (zLen.getD i 0))] (fun K => zis z (7 + i) (K (zixf (zByt.getD i []) x 0))) := by
  refine Z.metG (by decide +kernel) (fun h => ⟨rfl, rfl⟩) (L0 := [(0, zv z), (1, .int x), (2, .int 0), (3, .int (Int32.ofNat (zLen.getD i 0)))]) (by rw [zla_v, zla_i, zla_i, zla_i, zla_0]) (by rw [zsl_v, zsl_i, zsl_i, zsl_i, zsl_0]; exact Nat.le_of_ble_eq_true rfl) ?_
  intro p e R s m args below meth c D A n0 sz k F
  have F : ZF p R s m args meth c cJ3_indexOfChar 6 "java/lang/StringLatin1" "indexOfChar" (some .int) D A false sz 0 0 0 0 := F
  refine Z.iload_n F 1 rfl dJ3_indexOfChar_0 ?_
  refine Z.i2b F dJ3_indexOfChar_1 ?_
  refine Z.istore F (L0 := [(0, zv z), (1, .int x), (2, .int 0), (3, .int (Int32.ofNat (zLen.getD i 0)))]) [0, 1, 2, 3] rfl (zkR rfl (zkI rfl (zkI rfl (zkI rfl zkN)))) (by decide) dJ3_indexOfChar_2 ?_
  refine Z.iload_n F 3 rfl dJ3_indexOfChar_4 ?_
  refine Z.istore F (L0 := [(4, .int x.toInt8.toInt32), (0, zv z), (1, .int x), (2, .int 0), (3, .int (Int32.ofNat (zLen.getD i 0)))]) [0, 1, 2, 3, 4] rfl (zkI rfl (zkR rfl (zkI rfl (zkI rfl (zkI rfl zkN))))) (by decide) dJ3_indexOfChar_5 ?_
  have hL : zLen.getD i 0 ≤ 4 := by revert i; decide
  have loop : ∀ d j, j + d = zLen.getD i 0 → ZW p l e R s m args below meth c (MQ below (va_Qi k (ZPost D A false n0 sz) A) args s 0 0 A) 6 D A false n0 (zis z (7 + i) (k (zixf ((zByt.getD i []).drop j) x j))) 7 [(5, .int (Int32.ofNat j)), (4, .int x.toInt8.toInt32), (0, zv z), (1, .int x), (2, .int 0), (3, .int (Int32.ofNat (zLen.getD i 0)))] [] := by
    intro d
    induction d with
    | zero =>
      intro j hj
      refine Z.iload F 0 rfl dJ3_indexOfChar_7 ?_
      refine Z.iload_n F 5 rfl dJ3_indexOfChar_9 ?_
      have ej : j = zLen.getD i 0 := by omega
      refine Z.imp (P1 := zif (Int32.ofNat (zLen.getD i 0) ≤ Int32.ofNat j) (k (-1)) zno) (fun μ h => ?_) ?_
      · refine zif_p (by rw [ej]; exact Int32.le_refl _) ?_
        have := h.2
        rw [List.drop_of_length_le (by rw [zByt_len i hi]; omega)] at this
        exact this
      refine Z.icmp_ge F (tgt := 31) dJ3_indexOfChar_10 (by decide) ?_ ?_
      · refine Z.iconst F (v := (-1 : Int32)) (by decide) dJ3_indexOfChar_31 ?_
        exact Z.iret F dJ3_indexOfChar_32
      · exact Z.no
    | succ d ih =>
      intro j hj
      have hjl : j < (zByt.getD i []).length := by rw [zByt_len i hi]; omega
      have e7 : (zByt.getD i []).getD j 0 = (zByt.getD i [])[j] := by rw [List.getD_eq_getElem?_getD, List.getElem?_eq_getElem hjl]; rfl
      have ed : (zByt.getD i []).drop j = (zByt.getD i []).getD j 0 :: (zByt.getD i []).drop (j + 1) := by
        rw [e7]
        exact List.drop_eq_getElem_cons hjl
      have ejn : (Int32.ofNat j).toNatClampNeg = j := Int32.toNatClampNeg_ofNat_of_lt (by omega)
      have eji : (Int32.ofNat j).toInt = j := Int32.toInt_ofNat_of_lt (by omega)
      have eli : (Int32.ofNat (zLen.getD i 0)).toInt = zLen.getD i 0 := Int32.toInt_ofNat_of_lt (by omega)
      have hb := (zByt_in i hi ((zByt.getD i []).getD j 0) (by rw [e7]; exact List.getElem_mem hjl)).1
      refine Z.iload F 0 rfl dJ3_indexOfChar_7 ?_
      refine Z.iload_n F 5 rfl dJ3_indexOfChar_9 ?_
      refine Z.imp (P1 := zif (Int32.ofNat (zLen.getD i 0) ≤ Int32.ofNat j) zno (zis z (7 + i) (zif ((zByt.getD i []).getD j 0 = x.toInt8.toInt32) (k (Int32.ofNat j)) (zis z (7 + i) (k (zixf ((zByt.getD i []).drop (j + 1)) x (j + 1))))))) (fun μ h => ?_) ?_
      · refine zif_n (by rw [Int32.le_iff_toInt_le, eji, eli]; omega) ⟨h.1, ?_⟩
        have h2 := h.2
        rw [ed] at h2
        unfold zixf at h2
        by_cases hq : (zByt.getD i []).getD j 0 = x
        · refine zif_p ((zi2b h0 h1 hb).2 hq) ?_
          rw [if_pos hq] at h2
          exact h2
        · refine zif_n (fun q => hq ((zi2b h0 h1 hb).1 q)) ⟨h.1, ?_⟩
          rw [if_neg hq] at h2
          exact h2
      refine Z.icmp_ge F (tgt := 31) dJ3_indexOfChar_10 (by decide) Z.no ?_
      refine Z.aload_n F 2 rfl dJ3_indexOfChar_13 ?_
      refine Z.iload F 0 rfl dJ3_indexOfChar_14 ?_
      refine Z.cba F hi (by unfold vp_in; rw [ejn, Int32.lt_iff_toInt_lt, eji]; show ¬ ((j : Int) < 0 ∨ _); omega) dJ3_indexOfChar_16 ?_
      rw [ejn]
      refine Z.iload F 1 rfl dJ3_indexOfChar_17 ?_
      refine Z.icmp_ne F (tgt := 25) dJ3_indexOfChar_19 (by decide) ?_ ?_
      · refine Z.iinc F (L0 := [(4, .int x.toInt8.toInt32), (0, zv z), (1, .int x), (2, .int 0), (3, .int (Int32.ofNat (zLen.getD i 0)))]) (k0 := 0) (v := (1 : Int32)) rfl (by decide) [1, 2, 3, 4, 5] rfl (zkI rfl (zkR rfl (zkI rfl (zkI rfl (zkI rfl zkN))))) (by decide) dJ3_indexOfChar_25 ?_
        refine Z.goto F (tgt := 7) dJ3_indexOfChar_28 (by decide) ?_
        have e9 : Int32.ofNat j + 1 = Int32.ofNat (j + 1) := by rw [Int32.ofNat_add]; rfl
        rw [e9]
        exact ih (j + 1) (by omega)
      · refine Z.iload F 0 rfl dJ3_indexOfChar_22 ?_
        exact Z.iret F dJ3_indexOfChar_24
  exact loop (zLen.getD i 0) 0 (by omega)
theorem k_J3_indexOf (l : Launch) {i z : Nat} (x : Int32) (hi : i < 3) : ZCi l yJ3_indexOf (ws_ yJ3_indexOf cJ3_indexOf 4 (some .int)) 1 25 0 0 false [zv z, .int x, .int 0, .int (Int32.ofNat (zLen.getD i 0))] (fun K => zis z (7 + i) (K (zixf (zByt.getD i []) x 0))) := by
  refine Z.metG (by decide +kernel) (fun h => ⟨rfl, rfl⟩) (L0 := [(0, zv z), (1, .int x), (2, .int 0), (3, .int (Int32.ofNat (zLen.getD i 0)))]) (by rw [zla_v, zla_i, zla_i, zla_i, zla_0]) (by rw [zsl_v, zsl_i, zsl_i, zsl_i, zsl_0]; exact Nat.le_of_ble_eq_true rfl) ?_
  intro p e R s m args below meth c D A n0 sz k F
  have F : ZF p R s m args meth c cJ3_indexOf 4 "java/lang/StringLatin1" "indexOf" (some .int) D A false sz 0 0 1 25 := F
  have hlen : ∀ i, i < 3 → (0 : Int32) < Int32.ofNat (zLen.getD i 0) := by decide
  have hmin : (if Int32.ofNat (zLen.getD i 0) < Int32.ofNat (zLen.getD i 0) then Int32.ofNat (zLen.getD i 0) else Int32.ofNat (zLen.getD i 0)) = Int32.ofNat (zLen.getD i 0) := by split <;> rfl
  refine Z.iload_n F 1 rfl dJ3_indexOf_0 ?_
  refine Z.imp (P1 := zif (x < 0) (zif ((0 : Int32) = 0) (k (-1)) zno) (zif (255 < x) (zif ((0 : Int32) = 0) (k (-1)) zno) (zif ((1 : Int32) = 0) zno (zis z (7 + i) (k (zixf (zByt.getD i []) x 0)))))) (fun μ h => ?_) ?_
  · by_cases h0 : x < 0
    · refine zif_p h0 (zif_p rfl ?_)
      have h2 := h.2
      rw [zixf_no (fun b hb q => by
        have := (zByt_in i hi b hb).1.1
        rw [q] at this
        exact absurd h0 (Int32.not_lt.mpr this))] at h2
      exact h2
    · refine zif_n h0 ?_
      by_cases h1 : 255 < x
      · refine zif_p h1 (zif_p rfl ?_)
        have h2 := h.2
        rw [zixf_no (fun b hb q => by
          have := (zByt_in i hi b hb).1.2
          rw [q] at this
          exact absurd (Int32.lt_of_lt_of_le h1 this) (by decide))] at h2
        exact h2
      · exact zif_n h1 (zif_n (by decide) h)
  by_cases h0 : x < 0 ∨ 255 < x
  · refine Z.imp (P1 := zif (x < 0) (zif ((0 : Int32) = 0) (k (-1)) zno) (zif (255 < x) (zif ((0 : Int32) = 0) (k (-1)) zno) (zif ((1 : Int32) = 0) (k (-1)) zno))) (fun μ h => ?_) ?_
    · by_cases h1 : x < 0
      · unfold zif at h ⊢
        rw [if_pos h1] at h ⊢
        exact h
      · have h2 : 255 < x := h0.resolve_left h1
        unfold zif at h ⊢
        rw [if_neg h1, if_pos h2] at h ⊢
        exact h
    refine Z.ri0 (P := _) (fun r => zif (r = 0) (k (-1)) zno) (fun μ H locs cells slots ls hI h hP => Z.S0 F hI (n := 1) (As := [.int x]) hP (k_J3_canEncode l x D A (zX μ, zC μ, zS μ) H.size (fun r => zif (r = 0) (k (-1)) zno) μ) q658 q659 q136 q660 (by decide +kernel) rfl h.1 (zlw4 (Nat.le_of_ble_eq_true rfl)) ⟨Nat.le_of_ble_eq_true rfl, Nat.le_of_ble_eq_true rfl⟩ rfl dJ3_indexOf_1) (fun r1 => ?_)
    refine Z.if_ne F (tgt := 9) dJ3_indexOf_4 (by decide) Z.no ?_
    refine Z.iconst F (v := (-1 : Int32)) (by decide) dJ3_indexOf_7 ?_
    exact Z.iret F dJ3_indexOf_8
  have h1 : ¬ x < 0 := fun q => h0 (Or.inl q)
  have h2 : ¬ 255 < x := fun q => h0 (Or.inr q)
  refine Z.imp (P1 := zif (x < 0) (zif ((0 : Int32) = 0) zno (zis z (7 + i) (k (zixf (zByt.getD i []) x 0)))) (zif (255 < x) (zif ((0 : Int32) = 0) zno (zis z (7 + i) (k (zixf (zByt.getD i []) x 0)))) (zif ((1 : Int32) = 0) zno (zis z (7 + i) (k (zixf (zByt.getD i []) x 0)))))) (fun μ h => ?_) ?_
  · unfold zif at h ⊢
    rw [if_neg h1, if_neg h2] at h ⊢
    exact h
  refine Z.ri0 (fun r => zif (r = 0) zno (zis z (7 + i) (k (zixf (zByt.getD i []) x 0)))) (fun μ H locs cells slots ls hI h hP => Z.S0 F hI (n := 1) (As := [.int x]) hP (k_J3_canEncode l x D A (zX μ, zC μ, zS μ) H.size (fun r => zif (r = 0) zno (zis z (7 + i) (k (zixf (zByt.getD i []) x 0)))) μ) q658 q659 q136 q660 (by decide +kernel) rfl h.1 (zlw4 (Nat.le_of_ble_eq_true rfl)) ⟨Nat.le_of_ble_eq_true rfl, Nat.le_of_ble_eq_true rfl⟩ rfl dJ3_indexOf_1) (fun r1 => ?_)
  refine Z.if_ne F (tgt := 9) dJ3_indexOf_4 (by decide) ?_ Z.no
  refine Z.iload_n F 2 rfl dJ3_indexOf_9 ?_
  refine Z.iconst F (v := (0 : Int32)) (by decide) dJ3_indexOf_10 ?_
  refine Z.mmax F q661 (Nat.le_of_ble_eq_true rfl) (Nat.le_of_ble_eq_true rfl) (zlw4 (Nat.le_of_ble_eq_true rfl)) dJ3_indexOf_11 ?_
  refine Z.istore_n F (L0 := [(0, zv z), (1, .int x), (3, .int (Int32.ofNat (zLen.getD i 0)))]) [0, 1, 3] rfl (zkR rfl (zkI rfl (zkI rfl zkN))) (by decide) dJ3_indexOf_14 ?_
  refine Z.iload_n F 3 rfl dJ3_indexOf_15 ?_
  refine Z.aload_n F 1 rfl dJ3_indexOf_16 ?_
  refine Z.imp (P1 := zis z (7 + i) (zif ((0 : Int32) < Int32.ofNat (zLen.getD i 0)) (zis z (7 + i) (k (zixf (zByt.getD i []) x 0))) zno)) (fun μ h => ⟨h.1, zif_p (hlen i hi) h⟩) ?_
  refine Z.cbl F hi dJ3_indexOf_17 ?_
  refine Z.mmin F q664 (Nat.le_of_ble_eq_true rfl) (Nat.le_of_ble_eq_true rfl) (zlw4 (Nat.le_of_ble_eq_true rfl)) dJ3_indexOf_18 ?_
  rw [hmin, show (if (0 : Int32) < 0 then (0 : Int32) else 0) = 0 from rfl]
  refine Z.istore_n F (L0 := [(2, .int 0), (0, zv z), (1, .int x)]) [0, 1, 2] rfl (zkI rfl (zkR rfl (zkI rfl zkN))) (by decide) dJ3_indexOf_21 ?_
  refine Z.iload_n F 1 rfl dJ3_indexOf_22 ?_
  refine Z.iload_n F 0 rfl dJ3_indexOf_23 ?_
  refine Z.icmp_lt F (tgt := 29) dJ3_indexOf_24 (by decide) ?_ Z.no
  refine Z.aload_n F 2 rfl dJ3_indexOf_29 ?_
  refine Z.iload_n F 3 rfl dJ3_indexOf_30 ?_
  refine Z.iload_n F 1 rfl dJ3_indexOf_31 ?_
  refine Z.iload_n F 0 rfl dJ3_indexOf_32 ?_
  refine Z.ri0 k (fun μ H locs cells slots ls hI h hP => Z.S0 F hI (n := 4) (As := [zv z, .int x, .int 0, .int (Int32.ofNat (zLen.getD i 0))]) hP (k_J3_indexOfChar l hi h1 h2 D A (zX μ, zC μ, zS μ) H.size k μ) q667 q668 q136 q669 (by decide +kernel) rfl h.1 (zlw4 (Nat.le_of_ble_eq_true rfl)) ⟨Nat.le_of_ble_eq_true rfl, Nat.le_of_ble_eq_true rfl⟩ rfl dJ3_indexOf_33) (fun r33 => ?_)
  exact Z.iret F dJ3_indexOf_36
theorem k_J2_indexOf_2 (l : Launch) {i z : Nat} (x : Int32) (hi : i < 3) : ZCi l yJ2_indexOf_2 (ws_ yJ2_indexOf_2 cJ2_indexOf_2 3 (some .int)) 2 48 0 0 false [zv z, .int x, .int 0] (fun K => zis z (4 + i) (K (zixf (zByt.getD i []) x 0))) := by
  refine Z.metG (by decide +kernel) (fun h => ⟨rfl, rfl⟩) (L0 := [(0, zv z), (1, .int x), (2, .int 0)]) (by rw [zla_v, zla_i, zla_i, zla_0]) (by rw [zsl_v, zsl_i, zsl_i, zsl_0]; exact Nat.le_of_ble_eq_true rfl) ?_
  intro p e R s m args below meth c D A n0 sz k F
  have F : ZF p R s m args meth c cJ2_indexOf_2 3 "java/lang/String" "indexOf" (some .int) D A false sz 0 0 2 48 := F
  refine Z.aload_n F 0 rfl dJ2_indexOf_2_0 ?_
  refine Z.imp (P1 := zis z (4 + i) (zis z (4 + i) (zif ((1 : Int32) = 0) zno (zis z (4 + i) (zgE (7 + i) fun u => zis z (4 + i) (zis z (4 + i) (fun μ => Int32.ofNat (zLen.getD i 0) = Int32.ofNat (zLen.getD i 0) ∧ zis u (7 + i) (k (zixf (zByt.getD i []) x 0)) μ))))))) (fun μ h => ⟨h.1, h.1, zif_n (by decide) ⟨h.1, h.1, h.1, rfl, rfl, h.2⟩⟩) ?_
  refine Z.cV F hi (st := []) (n := 0) (As := []) (f := fun K => zis z (4 + i) (K 1)) (K := fun r => zif (r = 0) zno (zis z (4 + i) (zgE (7 + i) fun u => zis z (4 + i) (zis z (4 + i) (fun μ => Int32.ofNat (zLen.getD i 0) = Int32.ofNat (zLen.getD i 0) ∧ zis u (7 + i) (k (zixf (zByt.getD i []) x 0)) μ))))) (k_J2_isLatin1 l hi) rfl q641 q642 q643 q135 q644 (by decide +kernel) rfl (zlw4 (Nat.le_of_ble_eq_true rfl)) ⟨Nat.le_of_ble_eq_true rfl, Nat.le_of_ble_eq_true rfl⟩ rfl dJ2_indexOf_2_1 (fun r1 => ?_)
  refine Z.if_eq F (tgt := 23) dJ2_indexOf_2_4 (by decide) Z.no ?_
  refine Z.aload_n F 0 rfl dJ2_indexOf_2_7 ?_
  refine Z.csv F hi dJ2_indexOf_2_8 (fun u => ?_)
  refine Z.iload_n F 1 rfl dJ2_indexOf_2_11 ?_
  refine Z.iload_n F 2 rfl dJ2_indexOf_2_12 ?_
  refine Z.aload_n F 0 rfl dJ2_indexOf_2_13 ?_
  refine Z.cV F hi (st := [.int 0, .int x, zv u]) (n := 0) (As := []) (f := fun K => zis z (4 + i) (K (Int32.ofNat (zLen.getD i 0)))) (K := fun r μ => r = Int32.ofNat (zLen.getD i 0) ∧ zis u (7 + i) (k (zixf (zByt.getD i []) x 0)) μ) (k_J2_length l hi) rfl q647 q648 q649 q135 q650 (by decide +kernel) rfl (zlw4 (Nat.le_of_ble_eq_true rfl)) ⟨Nat.le_of_ble_eq_true rfl, Nat.le_of_ble_eq_true rfl⟩ rfl dJ2_indexOf_2_14 (fun r14 => ?_)
  refine Z.and fun e14 => ?_
  subst e14
  refine Z.ri0 k (fun μ H locs cells slots ls hI h hP => Z.S0 F hI (n := 4) (As := [zv u, .int x, .int 0, .int (Int32.ofNat (zLen.getD i 0))]) hP (k_J3_indexOf l x hi D A (zX μ, zC μ, zS μ) H.size k μ) q655 q656 q136 q657 (by decide +kernel) rfl h.1 (zlw4 (Nat.le_of_ble_eq_true rfl)) ⟨Nat.le_of_ble_eq_true rfl, Nat.le_of_ble_eq_true rfl⟩ rfl dJ2_indexOf_2_17) (fun r17 => ?_)
  refine Z.goto F (tgt := 36) dJ2_indexOf_2_20 (by decide) ?_
  exact Z.iret F dJ2_indexOf_2_36
theorem k_J2_indexOf (l : Launch) {i z : Nat} (x : Int32) (hi : i < 3) : ZCi l yJ2_indexOf (ws_ yJ2_indexOf cJ2_indexOf 2 (some .int)) 3 70 0 0 false [zv z, .int x] (fun K => zis z (4 + i) (K (zixf (zByt.getD i []) x 0))) := by
  refine Z.metG (by decide +kernel) (fun h => ⟨rfl, rfl⟩) (L0 := [(0, zv z), (1, .int x)]) (by rw [zla_v, zla_i, zla_0]) (by rw [zsl_v, zsl_i, zsl_0]; exact Nat.le_of_ble_eq_true rfl) ?_
  intro p e R s m args below meth c D A n0 sz k F
  have F : ZF p R s m args meth c cJ2_indexOf 2 "java/lang/String" "indexOf" (some .int) D A false sz 0 0 3 70 := F
  refine Z.aload_n F 0 rfl dJ2_indexOf_0 ?_
  refine Z.iload_n F 1 rfl dJ2_indexOf_1 ?_
  refine Z.iconst F (v := (0 : Int32)) (by decide) dJ2_indexOf_2 ?_
  refine Z.imp (P1 := zis z (4 + i) (zis z (4 + i) (k (zixf (zByt.getD i []) x 0)))) (fun μ h => ⟨h.1, h⟩) ?_
  refine Z.cV F hi (st := []) (n := 2) (As := [.int x, .int 0]) (f := fun K => zis z (4 + i) (K (zixf (zByt.getD i []) x 0))) (K := k) (k_J2_indexOf_2 l x hi) rfl q637 q638 q639 q135 q640 (by decide +kernel) rfl (zlw4 (Nat.le_of_ble_eq_true rfl)) ⟨Nat.le_of_ble_eq_true rfl, Nat.le_of_ble_eq_true rfl⟩ rfl dJ2_indexOf_3 (fun r3 => ?_)
  exact Z.iret F dJ2_indexOf_6
section ZStr2
variable {p : Program} {l : Launch} {e : Env} {R : Room} {s : State} {m : MethodId} {args : Array Value} {below : List Frame} {meth : Method} {c : Code} {Q : State → Prop} {nL : Nat} {D : ZD} {A : Nat → Prop} {al : Bool} {n0 : Nat × Nat × Nat} {cc : ByteArray} {own nm : String} {ret : Option FieldType} {sz mc ms fr lo : Nat}
variable {pc : Nat} {L : List (Nat × Value)} {st st0 : List Value} {x : Int32}
theorem Z.indexOf (F : ZF p R s m args meth c cc nL own nm ret D A al sz mc ms fr lo) {index : Nat} (hq : Cond.methodLink own index ⟨"java/lang/String", "indexOf", "(I)I"⟩ ∈ lw_all) (h1 : 20 ≤ fr) (h2 : 400 ≤ lo) (h4 : zlw st) {z : Nat} {K : Int32 → ZM → Prop} (hdg : decode cc pc = .ok (.invokevirtual index, 3)) (k : ∀ r, ZW p l e R s m args below meth c Q nL D A al n0 (K r) (pc + 3) L (.int r :: st)) : ZW p l e R s m args below meth c Q nL D A al n0 (zix z x K) pc L (.int x :: zv z :: st) := by
  have go : ∀ i, i < 3 → ZW p l e R s m args below meth c Q nL D A al n0 (zis z (4 + i) (zis z (4 + i) (K (zixf (zByt.getD i []) x 0)))) pc L (.int x :: zv z :: st) := fun i hi =>
    Z.cV F hi (n := 1) (As := [.int x]) (f := fun K => zis z (4 + i) (K (zixf (zByt.getD i []) x 0))) (K := K) (k_J2_indexOf l x hi) rfl hq q634 q635 q135 q636 (by decide +kernel) rfl h4 ⟨by omega, by omega⟩ rfl hdg k
  intro μ H locs cells slots ls hI h hP
  rcases hP with ⟨g1, g2⟩ | ⟨g1, g2⟩ | ⟨g1, g2⟩
  · exact go 0 (by decide) μ H locs cells slots ls hI h ⟨g1, g1, g2⟩
  · exact go 1 (by decide) μ H locs cells slots ls hI h ⟨g1, g1, g2⟩
  · exact go 2 (by decide) μ H locs cells slots ls hI h ⟨g1, g1, g2⟩
end ZStr2
