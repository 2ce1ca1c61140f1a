/-! ENDS, STARTS, EXCEPTIONS -/
section ZEnd
variable {p : Program} {l : Launch} {e : Env} {R : Room} {s : State} {m : MethodId} {args : Array Value} {below : List Frame} {meth : Method} {c : Code} {Q : State → Prop} {nL : Nat} {D : ZD} {A : Nat → Prop} {al : Bool} {n0 : Nat × Nat × Nat} {cc : ByteArray} {own nm : String} {ret : Option FieldType} {sz mc ms fr lo : Nat}
variable {P : ZM → Prop} {pc i : Nat} {L : List (Nat × Value)} {st st0 : List Value} {v x y : Int32} {w a b : Int64} {H H1 : Heap} {locs : List Loc} {cells slots : Nat} {ls : Array Slot} {μ μ' : ZM}
theorem Z.endB (F : ZF p R s m args meth c cc nL own nm ret D A al sz mc ms fr lo) (hI : ZI D A al n0 R s cells slots μ H locs) : cells ≤ mc ∧ slots ≤ ms := by
  have hB := hI.2.2
  unfold ZB at hB
  have h1 := F.hRc
  have h2 := F.hRs
  split at hB
  · omega
  · omega
theorem Z.endP (F : ZF p R s m args meth c cc nL own nm ret D A al sz mc ms fr lo) (hI : ZI D A al n0 R s cells slots μ H locs) {t : State} (ht : t.heap = H) : ZPost D A al n0 sz μ t := by
  have hB := hI.2.2
  unfold ZB at hB
  unfold ZPost
  rw [ht]
  refine ⟨hI.1, ?_⟩
  cases al with
  | true => rw [if_pos rfl] at hB ⊢; exact hB.1
  | false =>
    rw [if_neg (by decide)] at hB ⊢
    exact ⟨hB.1.trans (F.hz rfl).1, hB.2.2.2⟩
theorem Z.iret (F : ZF p R s m args meth c cc nL own nm (some .int) D A al sz mc ms fr lo) {K : Int32 → ZM → Prop} (hdg : decode cc pc = .ok (.ireturn, 1)) : ZW p l e R s m args below meth c (MQ below (va_Qi K (ZPost D A al n0 sz) A) args s mc ms A) nL D A al n0 (K v) pc L [.int v] := by
  intro μ H locs cells slots ls hI h hP
  refine W.widen (k := mc) (n := ms) (Z.endB F hI).1 (Z.endB F hI).2 ?_
  exact W.iret F.hx F.hb F.hr (fun t ht hW => ⟨⟨v, μ, rfl, hP, Z.endP F hI ht⟩, hI.2.1.F ht⟩) hI.2.1.2.2 hdg (hlocks := F.hlocks)
theorem Z.zret (F : ZF p R s m args meth c cc nL own nm (some .boolean) D A al sz mc ms fr lo) {K : Int32 → ZM → Prop} (hdg : decode cc pc = .ok (.ireturn, 1)) : ZW p l e R s m args below meth c (MQ below (va_Qi K (ZPost D A al n0 sz) A) args s mc ms A) nL D A al n0 (zrz v K) pc L [.int v] := by
  intro μ H locs cells slots ls hI h hP
  obtain ⟨hv, hP⟩ := hP
  refine W.widen (k := mc) (n := ms) (Z.endB F hI).1 (Z.endB F hI).2 ?_
  exact W.zret F.hx F.hb F.hr (by rcases hv with rfl | rfl <;> rfl) (fun t ht hW => ⟨⟨v, μ, rfl, hP, Z.endP F hI ht⟩, hI.2.1.F ht⟩) hI.2.1.2.2 hdg (hlocks := F.hlocks)
theorem Z.lret (F : ZF p R s m args meth c cc nL own nm (some .long) D A al sz mc ms fr lo) {K : Int64 → ZM → Prop} (hdg : decode cc pc = .ok (.lreturn, 1)) : ZW p l e R s m args below meth c (MQ below (va_Ql K (ZPost D A al n0 sz) A) args s mc ms A) nL D A al n0 (K w) pc L [.long w] := by
  intro μ H locs cells slots ls hI h hP
  refine W.widen (k := mc) (n := ms) (Z.endB F hI).1 (Z.endB F hI).2 ?_
  exact W.lret F.hx F.hb F.hr (fun t ht hW => ⟨⟨w, μ, rfl, hP, Z.endP F hI ht⟩, hI.2.1.F ht⟩) hI.2.1.2.2 hdg (hlocks := F.hlocks)
theorem Z.vret (F : ZF p R s m args meth c cc nL own nm none D A al sz mc ms fr lo) {K : ZM → Prop} (hdg : decode cc pc = .ok (.return_, 1)) : ZW p l e R s m args below meth c (MQ below (va_Qv K (ZPost D A al n0 sz) A) args s mc ms A) nL D A al n0 K pc L [] := by
  intro μ H locs cells slots ls hI h hP
  refine W.widen (k := mc) (n := ms) (Z.endB F hI).1 (Z.endB F hI).2 ?_
  exact W.vret F.hx F.hb F.hr (fun t ht hW => ⟨⟨μ, rfl, hP, Z.endP F hI ht⟩, hI.2.1.F ht⟩) hI.2.1.2.2 hdg (hlocks := F.hlocks)
theorem Z.aret {rt : FieldType} (F : ZF p R s m args meth c cc nL own nm (some rt) D A al sz mc ms fr lo) (hrt : (∃ n, rt = .object n) ∨ ∃ t, rt = .array t) {K : Nat → ZM → Prop} {z : Nat} (hdg : decode cc pc = .ok (.areturn, 1)) : ZW p l e R s m args below meth c (MQ below (va_Qq (zkq K) (ZPost D A al n0 sz) A) args s mc ms A) nL D A al n0 (K z) pc L [zv z] := by
  intro μ H locs cells slots ls hI h hP
  refine W.widen (k := mc) (n := ms) (Z.endB F hI).1 (Z.endB F hI).2 ?_
  exact W.aret F.hx F.hb F.hr hrt (zv_or z) (fun t ht hW => ⟨⟨zo z, μ, by rw [zv_o], ⟨z, rfl, hP⟩, Z.endP F hI ht⟩, hI.2.1.F ht⟩) hI.2.1.2.2 hdg (hlocks := F.hlocks)
theorem Z.retx {Qc : Array Value → State → Outcome → State → Prop} {XC : Addr → String → State → State → Prop} (k : ZW p l e R s m args below meth c (MQ below Qc args s mc ms A) nL D A al n0 P pc L st) : ZW p l e R s m args below meth c (vx_MQ below Qc XC args s mc ms A) nL D A al n0 P pc L st :=
  fun μ H locs cells slots ls hI h hP => vx_ret (k μ H locs cells slots ls hI h hP)
/-- the judgement where an exception of class E at z is thrown over the frame -/
def ZX (p : Program) (l : Launch) (e : Env) (R : Room) (s : State) (m : MethodId) (args : Array Value) (below : List Frame) (meth : Method) (c : Code) (Q : State → Prop) (nL : Nat) (D : ZD) (A : Nat → Prop) (al : Bool) (n0 : Nat × Nat × Nat) (E : String) (Kx : Nat → ZM → Prop) (pc : Nat) (L : List (Nat × Value)) : Prop :=
  ∀ (q : Nat) (ce : Cell) (μ : ZM) (H : Heap) (locs : List Loc) (cells slots : Nat) (ls : Array Slot) (rest : List Value), ZI D A al n0 R s cells slots μ H locs → lv_has ls nL L → Kx (q + 1) μ → H[q]? = some ce → ce.vm = .none → s.vm.findClass E = some ce.cls → vx_W p l e R s m args below meth c H locs cells slots Q (F0 m pc ls rest) q
/-- not caught here -/
theorem Z.out {E : String} {Kx : Nat → ZM → Prop} {Qc : Array Value → State → Outcome → State → Prop} (F : ZF p R s m args meth c cc nL own nm ret D A al sz mc ms fr lo) (hout : ∀ x ∈ c.exceptionTable.toList, covers x pc = false) : ZX p l e R s m args below meth c (vx_MQ below Qc (ZXC D A al n0 sz E Kx) args s mc ms A) nL D A al n0 E Kx pc L := by
  intro q ce μ H locs cells slots ls rest hI h hP h1 h2 h3
  exact vx_out hout F.hlocks h1 h2 h3 (fun t ht hW => ⟨μ, trivial, ⟨rfl, hP, Z.endP F hI ht⟩, hI.2.1.F ht⟩) hI.2.1.2.2 (Z.endB F hI).1 (Z.endB F hI).2
/-- caught here -/
theorem Z.catch {E name : String} {Kx : Nat → ZM → Prop} (F : ZF p R s m args meth c cc nL own nm ret D A al sz mc ms fr lo) (pre : List ExceptionTableEntry) (x : ExceptionTableEntry) (suf : List ExceptionTableEntry) (hsplit : c.exceptionTable.toList = pre ++ x :: suf) (hpass : ∀ z ∈ pre, covers z pc = false) (hx : covers x pc = true) (h0 : x.catchType ≠ 0) (hlink : Cond.classLink own x.catchType name ∈ lw_all) (hcast : (E, name) ∈ zNc)
    (k : ∀ z, ZW p l e R s m args below meth c Q nL D A al n0 (Kx z) x.handlerPc L [zv z]) : ZX p l e R s m args below meth c Q nL D A al n0 E Kx pc L := by
  intro q ce μ H locs cells slots ls rest hI h hP h1 h2 h3
  exact vx_catch F.hown pre x suf hsplit (fun z hz => Or.inl (hpass z hz)) hx h0 (F.hts _ hlink) (va_Nw.use rfl (F.hS.2.1.2.2.2.1 _ hcast)) h1 h2 h3 (k (q + 1) μ H locs cells slots ls hI h hP)
/-- athrow of an object with a tag -/
theorem Z.athrow {E : String} {T : u_T} {N ci z : Nat} {Kx : Nat → ZM → Prop} (F : ZF p R s m args meth c cc nL own nm ret D A al sz mc ms fr lo) (hc : zCl[ci]? = some (E, T, N)) (hci : ci + 1 < 50) (hdg : decode cc pc = .ok (.athrow, 1)) (k : ZX p l e R s m args below meth c Q nL D A al n0 E Kx pc L) : ZW p l e R s m args below meth c Q nL D A al n0 (zat (ci + 1) z (Kx z)) pc L (zv z :: st) := by
  intro μ H locs cells slots ls hI h hP
  obtain ⟨ht, hP⟩ := hP
  obtain ⟨n, rfl, hA, hat⟩ := hI.1.cell ht (Nat.succ_ne_zero _)
  rw [zce_o hci] at hat
  obtain ⟨r, h1, cell, q1, q2, q3, -⟩ := hat
  have hr : r = (E, T, N) := Option.some.inj (h1.symm.trans hc)
  subst hr
  exact vx_athrow F.hx F.hb hdg (k n cell μ H locs cells slots ls st hI h hP q1 q3 (by rw [q2]; exact (F.hK.1 ci _ hc).2.1))
/-! calls that may throw -/
theorem Z.xi0 {K : Int32 → ZM → Prop} {Kx : Nat → ZM → Prop} {E : String} {a9 : Array Value} (hrun : ∀ (μ : ZM) (H : Heap) (locs : List Loc) (cells slots : Nat) (ls : Array Slot), ZI D A al n0 R s cells slots μ H locs → lv_has ls nL L → P μ → vx_Run p l e R s m args below meth c H locs cells slots 0 0 (F0 m pc ls st0) st (va_Qi K (ZPost D A false (zX μ, zC μ, zS μ) H.size) A a9) (ZXC D A false (zX μ, zC μ, zS μ) H.size E Kx) A) (kx : ZX p l e R s m args below meth c Q nL D A al n0 E Kx pc L) (k : ∀ r, ZW p l e R s m args below meth c Q nL D A al n0 (K r) (pc + 3) L (.int r :: st)) : ZW p l e R s m args below meth c Q nL D A al n0 P pc L st0 := by
  intro μ H locs cells slots ls hI h hP
  refine vx_calli (hrun μ H locs cells slots ls hI h hP) hI.2.1 (fun _ _ h => h) (fun _ h => h) (fun _ _ h => h) (fun E9 ce q9 μ' t H1 locs1 ht hvm hp hb hz hk hS h1 h2 h3 => ?_) (fun r μ' t H1 locs1 ht hvm hp hb hz hk hS => ?_)
  · obtain ⟨rfl, hp2, hb2⟩ := hb
    exact kx q9 ce _ H1 locs1 _ _ ls st (Z.post0 hI ht hb2 hS) h hp2 h1 h2 h3
  · exact k r _ H1 locs1 _ _ ls (Z.post0 hI ht hb hS) h hp
theorem Z.xi1 {K : Int32 → ZM → Prop} {Kx : Nat → ZM → Prop} {E : String} {a9 : Array Value} {mc9 ms9 : Nat} (hrun : ∀ (μ : ZM) (H : Heap) (locs : List Loc) (cells slots : Nat) (ls : Array Slot), ZI D A true n0 R s cells slots μ H locs → lv_has ls nL L → P μ → mc9 ≤ zC μ ∧ ms9 ≤ zS μ ∧ vx_Run p l e R s m args below meth c H locs cells slots mc9 ms9 (F0 m pc ls st0) st (va_Qi (fun r μ' => K r (zcs μ' (zC μ - mc9) (zS μ - ms9))) (ZPost D A true (0, 0, 0) 0) A a9) (ZXC D A true (0, 0, 0) 0 E (fun r μ' => Kx r (zcs μ' (zC μ - mc9) (zS μ - ms9)))) A) (kx : ZX p l e R s m args below meth c Q nL D A true n0 E Kx pc L) (k : ∀ r, ZW p l e R s m args below meth c Q nL D A true n0 (K r) (pc + 3) L (.int r :: st)) : ZW p l e R s m args below meth c Q nL D A true n0 P pc L st0 := by
  intro μ H locs cells slots ls hI h hP
  obtain ⟨hk9, hn9, hr9⟩ := hrun μ H locs cells slots ls hI h hP
  refine vx_calli hr9 hI.2.1 (fun _ _ h => h) (fun _ h => h) (fun _ _ h => h) (fun E9 ce q9 μ' t H1 locs1 ht hvm hp hb hz hk hS h1 h2 h3 => ?_) (fun r μ' t H1 locs1 ht hvm hp hb hz hk hS => ?_)
  · obtain ⟨rfl, hp2, hb2⟩ := hb
    exact kx q9 ce _ H1 locs1 _ _ ls st (Z.post1 hI hk9 hn9 ht hb2 hS) h hp2 h1 h2 h3
  · exact k r _ H1 locs1 _ _ ls (Z.post1 hI hk9 hn9 ht hb hS) h hp
theorem Z.xl0 {K : Int64 → ZM → Prop} {Kx : Nat → ZM → Prop} {E : String} {a9 : Array Value} (hrun : ∀ (μ : ZM) (H : Heap) (locs : List Loc) (cells slots : Nat) (ls : Array Slot), ZI D A al n0 R s cells slots μ H locs → lv_has ls nL L → P μ → vx_Run p l e R s m args below meth c H locs cells slots 0 0 (F0 m pc ls st0) st (va_Ql K (ZPost D A false (zX μ, zC μ, zS μ) H.size) A a9) (ZXC D A false (zX μ, zC μ, zS μ) H.size E Kx) A) (kx : ZX p l e R s m args below meth c Q nL D A al n0 E Kx pc L) (k : ∀ r, ZW p l e R s m args below meth c Q nL D A al n0 (K r) (pc + 3) L (.long r :: st)) : ZW p l e R s m args below meth c Q nL D A al n0 P pc L st0 := by
  intro μ H locs cells slots ls hI h hP
  refine vx_calll (hrun μ H locs cells slots ls hI h hP) hI.2.1 (fun _ _ h => h) (fun _ h => h) (fun _ _ h => h) (fun E9 ce q9 μ' t H1 locs1 ht hvm hp hb hz hk hS h1 h2 h3 => ?_) (fun r μ' t H1 locs1 ht hvm hp hb hz hk hS => ?_)
  · obtain ⟨rfl, hp2, hb2⟩ := hb
    exact kx q9 ce _ H1 locs1 _ _ ls st (Z.post0 hI ht hb2 hS) h hp2 h1 h2 h3
  · exact k r _ H1 locs1 _ _ ls (Z.post0 hI ht hb hS) h hp
theorem Z.xl1 {K : Int64 → ZM → Prop} {Kx : Nat → ZM → Prop} {E : String} {a9 : Array Value} {mc9 ms9 : Nat} (hrun : ∀ (μ : ZM) (H : Heap) (locs : List Loc) (cells slots : Nat) (ls : Array Slot), ZI D A true n0 R s cells slots μ H locs → lv_has ls nL L → P μ → mc9 ≤ zC μ ∧ ms9 ≤ zS μ ∧ vx_Run p l e R s m args below meth c H locs cells slots mc9 ms9 (F0 m pc ls st0) st (va_Ql (fun r μ' => K r (zcs μ' (zC μ - mc9) (zS μ - ms9))) (ZPost D A true (0, 0, 0) 0) A a9) (ZXC D A true (0, 0, 0) 0 E (fun r μ' => Kx r (zcs μ' (zC μ - mc9) (zS μ - ms9)))) A) (kx : ZX p l e R s m args below meth c Q nL D A true n0 E Kx pc L) (k : ∀ r, ZW p l e R s m args below meth c Q nL D A true n0 (K r) (pc + 3) L (.long r :: st)) : ZW p l e R s m args below meth c Q nL D A true n0 P pc L st0 := by
  intro μ H locs cells slots ls hI h hP
  obtain ⟨hk9, hn9, hr9⟩ := hrun μ H locs cells slots ls hI h hP
  refine vx_calll hr9 hI.2.1 (fun _ _ h => h) (fun _ h => h) (fun _ _ h => h) (fun E9 ce q9 μ' t H1 locs1 ht hvm hp hb hz hk hS h1 h2 h3 => ?_) (fun r μ' t H1 locs1 ht hvm hp hb hz hk hS => ?_)
  · obtain ⟨rfl, hp2, hb2⟩ := hb
    exact kx q9 ce _ H1 locs1 _ _ ls st (Z.post1 hI hk9 hn9 ht hb2 hS) h hp2 h1 h2 h3
  · exact k r _ H1 locs1 _ _ ls (Z.post1 hI hk9 hn9 ht hb hS) h hp
theorem Z.xv0 {K : ZM → Prop} {Kx : Nat → ZM → Prop} {E : String} {a9 : Array Value} (hrun : ∀ (μ : ZM) (H : Heap) (locs : List Loc) (cells slots : Nat) (ls : Array Slot), ZI D A al n0 R s cells slots μ H locs → lv_has ls nL L → P μ → vx_Run p l e R s m args below meth c H locs cells slots 0 0 (F0 m pc ls st0) st (va_Qv K (ZPost D A false (zX μ, zC μ, zS μ) H.size) A a9) (ZXC D A false (zX μ, zC μ, zS μ) H.size E Kx) A) (kx : ZX p l e R s m args below meth c Q nL D A al n0 E Kx pc L) (k : ZW p l e R s m args below meth c Q nL D A al n0 (K) (pc + 3) L st) : ZW p l e R s m args below meth c Q nL D A al n0 P pc L st0 := by
  intro μ H locs cells slots ls hI h hP
  refine vx_callv (hrun μ H locs cells slots ls hI h hP) hI.2.1 (fun _ _ h => h) (fun _ h => h) (fun _ _ h => h) (fun E9 ce q9 μ' t H1 locs1 ht hvm hp hb hz hk hS h1 h2 h3 => ?_) (fun μ' t H1 locs1 ht hvm hp hb hz hk hS => ?_)
  · obtain ⟨rfl, hp2, hb2⟩ := hb
    exact kx q9 ce _ H1 locs1 _ _ ls st (Z.post0 hI ht hb2 hS) h hp2 h1 h2 h3
  · exact k _ H1 locs1 _ _ ls (Z.post0 hI ht hb hS) h hp
theorem Z.xv1 {K : ZM → Prop} {Kx : Nat → ZM → Prop} {E : String} {a9 : Array Value} {mc9 ms9 : Nat} (hrun : ∀ (μ : ZM) (H : Heap) (locs : List Loc) (cells slots : Nat) (ls : Array Slot), ZI D A true n0 R s cells slots μ H locs → lv_has ls nL L → P μ → mc9 ≤ zC μ ∧ ms9 ≤ zS μ ∧ vx_Run p l e R s m args below meth c H locs cells slots mc9 ms9 (F0 m pc ls st0) st (va_Qv (fun μ' => K (zcs μ' (zC μ - mc9) (zS μ - ms9))) (ZPost D A true (0, 0, 0) 0) A a9) (ZXC D A true (0, 0, 0) 0 E (fun r μ' => Kx r (zcs μ' (zC μ - mc9) (zS μ - ms9)))) A) (kx : ZX p l e R s m args below meth c Q nL D A true n0 E Kx pc L) (k : ZW p l e R s m args below meth c Q nL D A true n0 (K) (pc + 3) L st) : ZW p l e R s m args below meth c Q nL D A true n0 P pc L st0 := by
  intro μ H locs cells slots ls hI h hP
  obtain ⟨hk9, hn9, hr9⟩ := hrun μ H locs cells slots ls hI h hP
  refine vx_callv hr9 hI.2.1 (fun _ _ h => h) (fun _ h => h) (fun _ _ h => h) (fun E9 ce q9 μ' t H1 locs1 ht hvm hp hb hz hk hS h1 h2 h3 => ?_) (fun μ' t H1 locs1 ht hvm hp hb hz hk hS => ?_)
  · obtain ⟨rfl, hp2, hb2⟩ := hb
    exact kx q9 ce _ H1 locs1 _ _ ls st (Z.post1 hI hk9 hn9 ht hb2 hS) h hp2 h1 h2 h3
  · exact k _ H1 locs1 _ _ ls (Z.post1 hI hk9 hn9 ht hb hS) h hp
theorem Z.Vx0 (F : ZF p R s m args meth c cc nL own nm ret D A al sz mc ms fr lo) {fr9 lo9 n maxL9 index : Nat} {y : MethodName} {bytes : ByteArray} {ret9 : Option FieldType} {Pf : ZM → Prop} {Qc : Array Value → State → Outcome → State → Prop} {XC : Addr → String → State → State → Prop} {As : List Value} (hI : ZI D A al n0 R s cells slots μ H locs) {ci b N : Nat} {C : String} {T : u_T} (hc : zCl[ci]? = some (C, T, N)) (hci : ci + 1 < 50) (ht : zT μ b = ci + 1) (hPf : Pf μ) (hM : vx_Met l y (ws_ y bytes maxL9 ret9) { frames := fr9, cells := 0, slots := 0, locals := lo9 } (va_Pc (zv b :: As) (ZPreC D A false (zX μ, zC μ, zS μ) 0 0 H.size Pf μ)) Qc XC 0 0 A) (h1 : Cond.methodLink own index y ∈ lw_all) (h2 : Cond.instanceMethod y ∈ lw_all) (h3 : Cond.selects C y y ∈ lw_all) (h4 : Cond.initialized C ∈ lw_all) (h5 : Cond.code y bytes maxL9 ret9 ∈ lw_all) (hd : y.cls = C ∧ y.cls ≠ "java/lang/invoke/MethodHandle" ∧ y.cls ≠ "java/lang/invoke/VarHandle" ∧ (parseMethodDescriptor y.desc).map (fun d => d.parameters.length) = some n) (hn : As.length = n) (hls : ls.size = nL) (hst4 : zlw st) (hR : fr9 + 1 ≤ fr ∧ 8 + (maxL9 + 11) + lo9 ≤ lo) (hst : st0 = As.reverse ++ zv b :: st) (hdg : decode cc pc = .ok (.invokevirtual index, 3)) : vx_Run p l e R s m args below meth c H locs cells slots 0 0 (F0 m pc ls st0) st (Qc (zv b :: As).toArray) XC A := by
  obtain ⟨b0, rfl, hcell⟩ := Z.recv F hI hc hci ht
  subst hst
  exact vx_runV (C := C) (b := b0) (As := As) F.fix hM (cwV n F.hts (lw_V h1 h2 h3 h4 h5) rfl rfl rfl hd (by rw [F.hRf, F.hRl]; exact hR)) ⟨zblind, hcell, Z.pre0 F hI hPf⟩ rfl hn hls rfl (zroom hst4) hdg (Z.fits0 hI)
theorem Z.VXx0 (F : ZF p R s m args meth c cc nL own nm ret D A al sz mc ms fr lo) {fr9 lo9 n maxL9 index : Nat} {y : MethodName} {bytes : ByteArray} {ret9 : Option FieldType} {Pf : ZM → Prop} {Qc : Array Value → State → Outcome → State → Prop} {XC : Addr → String → State → State → Prop} {As : List Value} {hh : List (Nat × Nat × Nat × Nat)} (hI : ZI D A al n0 R s cells slots μ H locs) {ci b N : Nat} {C : String} {T : u_T} (hc : zCl[ci]? = some (C, T, N)) (hci : ci + 1 < 50) (ht : zT μ b = ci + 1) (hPf : Pf μ) (hM : vx_Met l y (wsW_ y bytes maxL9 ret9 hh) { frames := fr9, cells := 0, slots := 0, locals := lo9 } (va_Pc (zv b :: As) (ZPreC D A false (zX μ, zC μ, zS μ) 0 0 H.size Pf μ)) Qc XC 0 0 A) (h1 : Cond.methodLink own index y ∈ lw_all) (h2 : Cond.instanceMethod y ∈ lw_all) (h3 : Cond.selects C y y ∈ lw_all) (h4 : Cond.initialized C ∈ lw_all) (h5 : Cond.codeWith y bytes maxL9 ret9 hh ∈ lw_all) (hd : y.cls = C ∧ y.cls ≠ "java/lang/invoke/MethodHandle" ∧ y.cls ≠ "java/lang/invoke/VarHandle" ∧ (parseMethodDescriptor y.desc).map (fun d => d.parameters.length) = some n) (hn : As.length = n) (hls : ls.size = nL) (hst4 : zlw st) (hR : fr9 + 1 ≤ fr ∧ 8 + (maxL9 + 11) + lo9 ≤ lo) (hst : st0 = As.reverse ++ zv b :: st) (hdg : decode cc pc = .ok (.invokevirtual index, 3)) : vx_Run p l e R s m args below meth c H locs cells slots 0 0 (F0 m pc ls st0) st (Qc (zv b :: As).toArray) XC A := by
  obtain ⟨b0, rfl, hcell⟩ := Z.recv F hI hc hci ht
  subst hst
  exact vx_runVX (C := C) (b := b0) (As := As) F.fix hM (vx_cwVW n F.hts (lw_VW h1 h2 h3 h4 h5) rfl rfl rfl hd (by rw [F.hRf, F.hRl]; exact hR)) ⟨zblind, hcell, Z.pre0 F hI hPf⟩ rfl hn hls rfl (zroom hst4) hdg (Z.fits0 hI)
theorem Z.VW0 (F : ZF p R s m args meth c cc nL own nm ret D A al sz mc ms fr lo) {fr9 lo9 n maxL9 index : Nat} {y : MethodName} {bytes : ByteArray} {ret9 : Option FieldType} {Pf : ZM → Prop} {Qc : Array Value → State → Outcome → State → Prop} {As : List Value} {hh : List (Nat × Nat × Nat × Nat)} (hI : ZI D A al n0 R s cells slots μ H locs) {ci b N : Nat} {C : String} {T : u_T} (hc : zCl[ci]? = some (C, T, N)) (hci : ci + 1 < 50) (ht : zT μ b = ci + 1) (hPf : Pf μ) (hM : Met l y (wsW_ y bytes maxL9 ret9 hh) { frames := fr9, cells := 0, slots := 0, locals := lo9 } (va_Pc (zv b :: As) (ZPreC D A false (zX μ, zC μ, zS μ) 0 0 H.size Pf μ)) Qc 0 0 A) (h1 : Cond.methodLink own index y ∈ lw_all) (h2 : Cond.instanceMethod y ∈ lw_all) (h3 : Cond.selects C y y ∈ lw_all) (h4 : Cond.initialized C ∈ lw_all) (h5 : Cond.codeWith y bytes maxL9 ret9 hh ∈ lw_all) (hd : y.cls = C ∧ y.cls ≠ "java/lang/invoke/MethodHandle" ∧ y.cls ≠ "java/lang/invoke/VarHandle" ∧ (parseMethodDescriptor y.desc).map (fun d => d.parameters.length) = some n) (hn : As.length = n) (hls : ls.size = nL) (hst4 : zlw st) (hR : fr9 + 1 ≤ fr ∧ 8 + (maxL9 + 11) + lo9 ≤ lo) (hst : st0 = As.reverse ++ zv b :: st) (hdg : decode cc pc = .ok (.invokevirtual index, 3)) : va_Run p l e R s m args below meth c H locs cells slots 0 0 (F0 m pc ls st0) st (Qc (zv b :: As).toArray) A := by
  obtain ⟨b0, rfl, hcell⟩ := Z.recv F hI hc hci ht
  subst hst
  exact vx_runVW (C := C) (b := b0) (As := As) F.fix hM (vx_cwVW n F.hts (lw_VW h1 h2 h3 h4 h5) rfl rfl rfl hd (by rw [F.hRf, F.hRl]; exact hR)) ⟨zblind, hcell, Z.pre0 F hI hPf⟩ rfl hn hls rfl (zroom hst4) hdg (Z.fits0 hI)
theorem Z.Vx1 (F : ZF p R s m args meth c cc nL own nm ret D A true sz mc ms fr lo) {fr9 lo9 mc9 ms9 n maxL9 index : Nat} {y : MethodName} {bytes : ByteArray} {ret9 : Option FieldType} {Pf : ZM → Prop} {Qc : Array Value → State → Outcome → State → Prop} {XC : Addr → String → State → State → Prop} {As : List Value} (hI : ZI D A true n0 R s cells slots μ H locs) {ci b N : Nat} {C : String} {T : u_T} (hc : zCl[ci]? = some (C, T, N)) (hci : ci + 1 < 50) (ht : zT μ b = ci + 1) (hk9 : mc9 ≤ zC μ) (hn9 : ms9 ≤ zS μ) (hPf : Pf (zcs μ mc9 ms9)) (hM : vx_Met l y (ws_ y bytes maxL9 ret9) { frames := fr9, cells := mc9, slots := ms9, locals := lo9 } (va_Pc (zv b :: As) (ZPreC D A true (0, 0, 0) mc9 ms9 0 Pf (zcs μ mc9 ms9))) Qc XC mc9 ms9 A) (h1 : Cond.methodLink own index y ∈ lw_all) (h2 : Cond.instanceMethod y ∈ lw_all) (h3 : Cond.selects C y y ∈ lw_all) (h4 : Cond.initialized C ∈ lw_all) (h5 : Cond.code y bytes maxL9 ret9 ∈ lw_all) (hd : y.cls = C ∧ y.cls ≠ "java/lang/invoke/MethodHandle" ∧ y.cls ≠ "java/lang/invoke/VarHandle" ∧ (parseMethodDescriptor y.desc).map (fun d => d.parameters.length) = some n) (hn : As.length = n) (hls : ls.size = nL) (hst4 : zlw st) (hR : fr9 + 1 ≤ fr ∧ 8 + (maxL9 + 11) + lo9 ≤ lo) (hst : st0 = As.reverse ++ zv b :: st) (hdg : decode cc pc = .ok (.invokevirtual index, 3)) : vx_Run p l e R s m args below meth c H locs cells slots mc9 ms9 (F0 m pc ls st0) st (Qc (zv b :: As).toArray) XC A := by
  obtain ⟨b0, rfl, hcell⟩ := Z.recv F hI hc hci ht
  subst hst
  exact vx_runV (C := C) (b := b0) (As := As) F.fix hM (cwV n F.hts (lw_V h1 h2 h3 h4 h5) rfl rfl rfl hd (by rw [F.hRf, F.hRl]; exact hR)) ⟨zblind, hcell, Z.pre1 F hI hPf⟩ rfl hn hls rfl (zroom hst4) hdg (Z.fits1 hI hk9 hn9)
theorem Z.VXx1 (F : ZF p R s m args meth c cc nL own nm ret D A true sz mc ms fr lo) {fr9 lo9 mc9 ms9 n maxL9 index : Nat} {y : MethodName} {bytes : ByteArray} {ret9 : Option FieldType} {Pf : ZM → Prop} {Qc : Array Value → State → Outcome → State → Prop} {XC : Addr → String → State → State → Prop} {As : List Value} {hh : List (Nat × Nat × Nat × Nat)} (hI : ZI D A true n0 R s cells slots μ H locs) {ci b N : Nat} {C : String} {T : u_T} (hc : zCl[ci]? = some (C, T, N)) (hci : ci + 1 < 50) (ht : zT μ b = ci + 1) (hk9 : mc9 ≤ zC μ) (hn9 : ms9 ≤ zS μ) (hPf : Pf (zcs μ mc9 ms9)) (hM : vx_Met l y (wsW_ y bytes maxL9 ret9 hh) { frames := fr9, cells := mc9, slots := ms9, locals := lo9 } (va_Pc (zv b :: As) (ZPreC D A true (0, 0, 0) mc9 ms9 0 Pf (zcs μ mc9 ms9))) Qc XC mc9 ms9 A) (h1 : Cond.methodLink own index y ∈ lw_all) (h2 : Cond.instanceMethod y ∈ lw_all) (h3 : Cond.selects C y y ∈ lw_all) (h4 : Cond.initialized C ∈ lw_all) (h5 : Cond.codeWith y bytes maxL9 ret9 hh ∈ lw_all) (hd : y.cls = C ∧ y.cls ≠ "java/lang/invoke/MethodHandle" ∧ y.cls ≠ "java/lang/invoke/VarHandle" ∧ (parseMethodDescriptor y.desc).map (fun d => d.parameters.length) = some n) (hn : As.length = n) (hls : ls.size = nL) (hst4 : zlw st) (hR : fr9 + 1 ≤ fr ∧ 8 + (maxL9 + 11) + lo9 ≤ lo) (hst : st0 = As.reverse ++ zv b :: st) (hdg : decode cc pc = .ok (.invokevirtual index, 3)) : vx_Run p l e R s m args below meth c H locs cells slots mc9 ms9 (F0 m pc ls st0) st (Qc (zv b :: As).toArray) XC A := by
  obtain ⟨b0, rfl, hcell⟩ := Z.recv F hI hc hci ht
  subst hst
  exact vx_runVX (C := C) (b := b0) (As := As) F.fix hM (vx_cwVW n F.hts (lw_VW h1 h2 h3 h4 h5) rfl rfl rfl hd (by rw [F.hRf, F.hRl]; exact hR)) ⟨zblind, hcell, Z.pre1 F hI hPf⟩ rfl hn hls rfl (zroom hst4) hdg (Z.fits1 hI hk9 hn9)
theorem Z.VW1 (F : ZF p R s m args meth c cc nL own nm ret D A true sz mc ms fr lo) {fr9 lo9 mc9 ms9 n maxL9 index : Nat} {y : MethodName} {bytes : ByteArray} {ret9 : Option FieldType} {Pf : ZM → Prop} {Qc : Array Value → State → Outcome → State → Prop} {As : List Value} {hh : List (Nat × Nat × Nat × Nat)} (hI : ZI D A true n0 R s cells slots μ H locs) {ci b N : Nat} {C : String} {T : u_T} (hc : zCl[ci]? = some (C, T, N)) (hci : ci + 1 < 50) (ht : zT μ b = ci + 1) (hk9 : mc9 ≤ zC μ) (hn9 : ms9 ≤ zS μ) (hPf : Pf (zcs μ mc9 ms9)) (hM : Met l y (wsW_ y bytes maxL9 ret9 hh) { frames := fr9, cells := mc9, slots := ms9, locals := lo9 } (va_Pc (zv b :: As) (ZPreC D A true (0, 0, 0) mc9 ms9 0 Pf (zcs μ mc9 ms9))) Qc mc9 ms9 A) (h1 : Cond.methodLink own index y ∈ lw_all) (h2 : Cond.instanceMethod y ∈ lw_all) (h3 : Cond.selects C y y ∈ lw_all) (h4 : Cond.initialized C ∈ lw_all) (h5 : Cond.codeWith y bytes maxL9 ret9 hh ∈ lw_all) (hd : y.cls = C ∧ y.cls ≠ "java/lang/invoke/MethodHandle" ∧ y.cls ≠ "java/lang/invoke/VarHandle" ∧ (parseMethodDescriptor y.desc).map (fun d => d.parameters.length) = some n) (hn : As.length = n) (hls : ls.size = nL) (hst4 : zlw st) (hR : fr9 + 1 ≤ fr ∧ 8 + (maxL9 + 11) + lo9 ≤ lo) (hst : st0 = As.reverse ++ zv b :: st) (hdg : decode cc pc = .ok (.invokevirtual index, 3)) : va_Run p l e R s m args below meth c H locs cells slots mc9 ms9 (F0 m pc ls st0) st (Qc (zv b :: As).toArray) A := by
  obtain ⟨b0, rfl, hcell⟩ := Z.recv F hI hc hci ht
  subst hst
  exact vx_runVW (C := C) (b := b0) (As := As) F.fix hM (vx_cwVW n F.hts (lw_VW h1 h2 h3 h4 h5) rfl rfl rfl hd (by rw [F.hRf, F.hRl]; exact hR)) ⟨zblind, hcell, Z.pre1 F hI hPf⟩ rfl hn hls rfl (zroom hst4) hdg (Z.fits1 hI hk9 hn9)
theorem Z.xq0 {K : Nat → ZM → Prop} {Kx : Nat → ZM → Prop} {E : String} {a9 : Array Value} (hrun : ∀ (μ : ZM) (H : Heap) (locs : List Loc) (cells slots : Nat) (ls : Array Slot), ZI D A al n0 R s cells slots μ H locs → lv_has ls nL L → P μ → vx_Run p l e R s m args below meth c H locs cells slots 0 0 (F0 m pc ls st0) st (va_Qq (zkq K) (ZPost D A false (zX μ, zC μ, zS μ) H.size) A a9) (ZXC D A false (zX μ, zC μ, zS μ) H.size E Kx) A) (kx : ZX p l e R s m args below meth c Q nL D A al n0 E Kx pc L) (k : ∀ r, ZW p l e R s m args below meth c Q nL D A al n0 (K r) (pc + 3) L (zv r :: st)) : ZW p l e R s m args below meth c Q nL D A al n0 P pc L st0 := by
  intro μ H locs cells slots ls hI h hP
  intro T hT Xs
  rcases (hrun μ H locs cells slots ls hI h hP) T hT Xs with ⟨v, st₀, t, T', L9, h0, X', hL, e1, e2, ⟨⟨r, μ', hv, ⟨r9, hr5, hp⟩, hb⟩, hF⟩, stp⟩ | ⟨q, st₀, t, T', L9, E9, ce, h0, X', hL, e1, e2, ⟨μ', -, ⟨rfl, hp, hb2⟩, hF⟩, hce, hcv, hcl, stp⟩
  · cases hv
    obtain ⟨k1, k2, hS⟩ := vx_keep h0 e1 hI.2.1 (fun _ _ h => h) (fun _ h => h) hL hF
    have ht : t.heap = T'.heap := e1.symm
    subst hr5
    rw [zv_o] at stp
    obtain ⟨t2, a1, b1⟩ := k r9 _ T'.heap (locs ++ L9) _ _ ls (Z.post0 hI ht hb hS) h hp T' rfl X'
    exact ⟨t2, stp t2 a1, b1⟩
  · obtain ⟨k1, k2, hS⟩ := vx_keep h0 e1 hI.2.1 (fun _ _ h => h) (fun _ h => h) hL hF
    have ht : t.heap = T'.heap := e1.symm
    obtain ⟨t2, a1, b1⟩ := kx q ce _ T'.heap (locs ++ L9) _ _ ls st (Z.post0 hI ht hb2 hS) h hp (by rw [e1]; exact hce) hcv hcl T' rfl X'
    exact ⟨t2, stp.trans a1, b1⟩
theorem Z.xq1 {K : Nat → ZM → Prop} {Kx : Nat → ZM → Prop} {E : String} {a9 : Array Value} {mc9 ms9 : Nat} (hrun : ∀ (μ : ZM) (H : Heap) (locs : List Loc) (cells slots : Nat) (ls : Array Slot), ZI D A true n0 R s cells slots μ H locs → lv_has ls nL L → P μ → mc9 ≤ zC μ ∧ ms9 ≤ zS μ ∧ vx_Run p l e R s m args below meth c H locs cells slots mc9 ms9 (F0 m pc ls st0) st (va_Qq (zkq (fun r μ' => K r (zcs μ' (zC μ - mc9) (zS μ - ms9)))) (ZPost D A true (0, 0, 0) 0) A a9) (ZXC D A true (0, 0, 0) 0 E (fun r μ' => Kx r (zcs μ' (zC μ - mc9) (zS μ - ms9)))) A) (kx : ZX p l e R s m args below meth c Q nL D A true n0 E Kx pc L) (k : ∀ r, ZW p l e R s m args below meth c Q nL D A true n0 (K r) (pc + 3) L (zv r :: st)) : ZW p l e R s m args below meth c Q nL D A true n0 P pc L st0 := by
  intro μ H locs cells slots ls hI h hP
  obtain ⟨hk9, hn9, hr9⟩ := hrun μ H locs cells slots ls hI h hP
  intro T hT Xs
  rcases hr9 T hT Xs with ⟨v, st₀, t, T', L9, h0, X', hL, e1, e2, ⟨⟨r, μ', hv, ⟨r9, hr5, hp⟩, hb⟩, hF⟩, stp⟩ | ⟨q, st₀, t, T', L9, E9, ce, h0, X', hL, e1, e2, ⟨μ', -, ⟨rfl, hp, hb2⟩, hF⟩, hce, hcv, hcl, stp⟩
  · cases hv
    obtain ⟨k1, k2, hS⟩ := vx_keep h0 e1 hI.2.1 (fun _ _ h => h) (fun _ h => h) hL hF
    have ht : t.heap = T'.heap := e1.symm
    subst hr5
    rw [zv_o] at stp
    obtain ⟨t2, a1, b1⟩ := k r9 _ T'.heap (locs ++ L9) _ _ ls (Z.post1 hI hk9 hn9 ht hb hS) h hp T' rfl X'
    exact ⟨t2, stp t2 a1, b1⟩
  · obtain ⟨k1, k2, hS⟩ := vx_keep h0 e1 hI.2.1 (fun _ _ h => h) (fun _ h => h) hL hF
    have ht : t.heap = T'.heap := e1.symm
    obtain ⟨t2, a1, b1⟩ := kx q ce _ T'.heap (locs ++ L9) _ _ ls st (Z.post1 hI hk9 hn9 ht hb2 hS) h hp (by rw [e1]; exact hce) hcv hcl T' rfl X'
    exact ⟨t2, stp.trans a1, b1⟩
end ZEnd
