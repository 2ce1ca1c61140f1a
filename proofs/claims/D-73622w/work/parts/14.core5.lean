/-! CONTRACTS AND CALLS -/
def ZPreC (D : ZD) (A : Nat → Prop) (al : Bool) (n0 : Nat × Nat × Nat) (mc ms sz : Nat) (P : ZM → Prop) (μ : ZM) (U : State) : Prop :=
  ZS D A U ∧ ZR D A μ U.heap ∧ (if al = true then zX μ = U.heap.size + 1 ∧ (∀ q, U.heap.size ≤ q → A q) ∧ zC μ = mc ∧ zS μ = ms else U.heap.size = sz ∧ (zX μ, zC μ, zS μ) = n0) ∧ P μ
def ZPost (D : ZD) (A : Nat → Prop) (al : Bool) (n0 : Nat × Nat × Nat) (sz : Nat) (μ : ZM) (t : State) : Prop :=
  ZR D A μ t.heap ∧ (if al = true then zX μ = t.heap.size + 1 else t.heap.size = sz ∧ (zX μ, zC μ, zS μ) = n0)
def zkq (k : Nat → ZM → Prop) : Option Nat → ZM → Prop := fun o μ => ∃ r, o = zo r ∧ k r μ
/-- a method's contract, by its answer's kind: the computation f, told what holds behind it (k), holds in the memory at the start; then k holds at the end -/
def ZCi (l : Launch) (y : MethodName) (ws : List Cond) (fr lo mc ms : Nat) (al : Bool) (av : List Value) (f : (Int32 → ZM → Prop) → ZM → Prop) : Prop :=
  ∀ (D : ZD) (A : Nat → Prop) (n0 : Nat × Nat × Nat) (sz : Nat) (k : Int32 → ZM → Prop) (μ : ZM), Met l y ws { frames := fr, cells := mc, slots := ms, locals := lo } (va_Pc av (ZPreC D A al n0 mc ms sz (f k) μ)) (va_Qi k (ZPost D A al n0 sz) A) mc ms A
def ZCl (l : Launch) (y : MethodName) (ws : List Cond) (fr lo mc ms : Nat) (al : Bool) (av : List Value) (f : (Int64 → ZM → Prop) → ZM → Prop) : Prop :=
  ∀ (D : ZD) (A : Nat → Prop) (n0 : Nat × Nat × Nat) (sz : Nat) (k : Int64 → ZM → Prop) (μ : ZM), Met l y ws { frames := fr, cells := mc, slots := ms, locals := lo } (va_Pc av (ZPreC D A al n0 mc ms sz (f k) μ)) (va_Ql k (ZPost D A al n0 sz) A) mc ms A
def ZCr' (l : Launch) (y : MethodName) (ws : List Cond) (fr lo mc ms : Nat) (al : Bool) (av : List Value) (f : (Nat → ZM → Prop) → ZM → Prop) : Prop :=
  ∀ (D : ZD) (A : Nat → Prop) (n0 : Nat × Nat × Nat) (sz : Nat) (k : Nat → ZM → Prop) (μ : ZM), Met l y ws { frames := fr, cells := mc, slots := ms, locals := lo } (va_Pc av (ZPreC D A al n0 mc ms sz (f k) μ)) (va_Qq (zkq k) (ZPost D A al n0 sz) A) mc ms A
def ZCv (l : Launch) (y : MethodName) (ws : List Cond) (fr lo mc ms : Nat) (al : Bool) (av : List Value) (f : (ZM → Prop) → ZM → Prop) : Prop :=
  ∀ (D : ZD) (A : Nat → Prop) (n0 : Nat × Nat × Nat) (sz : Nat) (k : ZM → Prop) (μ : ZM), Met l y ws { frames := fr, cells := mc, slots := ms, locals := lo } (va_Pc av (ZPreC D A al n0 mc ms sz (f k) μ)) (va_Qv k (ZPost D A al n0 sz) A) mc ms A
/-- .. that may throw: an exception of class E (with its tag tx) at the cell q -/
def ZBx (D : ZD) (A : Nat → Prop) (al : Bool) (n0 : Nat × Nat × Nat) (sz : Nat) (E0 : String) : Addr → String → ZM → State → Prop := fun q E μ t => E = E0 ∧ ZPost D A al n0 sz μ t
def zpx (kx : Nat → ZM → Prop) : Addr → ZM → Prop := fun q μ => kx (q + 1) μ
def ZXC (D : ZD) (A : Nat → Prop) (al : Bool) (n0 : Nat × Nat × Nat) (sz : Nat) (E0 : String) (kx : Nat → ZM → Prop) : Addr → String → State → State → Prop :=
  vx_X (S := ZM) (fun _ => True) (fun q E μ t => E = E0 ∧ kx (q + 1) μ ∧ ZPost D A al n0 sz μ t) A
def ZCix (l : Launch) (y : MethodName) (ws : List Cond) (fr lo mc ms : Nat) (al : Bool) (E0 : String) (av : List Value) (f : (Int32 → ZM → Prop) → (Nat → ZM → Prop) → ZM → Prop) : Prop :=
  ∀ (D : ZD) (A : Nat → Prop) (n0 : Nat × Nat × Nat) (sz : Nat) (k : Int32 → ZM → Prop) (kx : Nat → ZM → Prop) (μ : ZM), vx_Met l y ws { frames := fr, cells := mc, slots := ms, locals := lo } (va_Pc av (ZPreC D A al n0 mc ms sz (f k kx) μ)) (va_Qi k (ZPost D A al n0 sz) A) (ZXC D A al n0 sz E0 kx) mc ms A
def ZClx (l : Launch) (y : MethodName) (ws : List Cond) (fr lo mc ms : Nat) (al : Bool) (E0 : String) (av : List Value) (f : (Int64 → ZM → Prop) → (Nat → ZM → Prop) → ZM → Prop) : Prop :=
  ∀ (D : ZD) (A : Nat → Prop) (n0 : Nat × Nat × Nat) (sz : Nat) (k : Int64 → ZM → Prop) (kx : Nat → ZM → Prop) (μ : ZM), vx_Met l y ws { frames := fr, cells := mc, slots := ms, locals := lo } (va_Pc av (ZPreC D A al n0 mc ms sz (f k kx) μ)) (va_Ql k (ZPost D A al n0 sz) A) (ZXC D A al n0 sz E0 kx) mc ms A
def ZCrx (l : Launch) (y : MethodName) (ws : List Cond) (fr lo mc ms : Nat) (al : Bool) (E0 : String) (av : List Value) (f : (Nat → ZM → Prop) → (Nat → ZM → Prop) → ZM → Prop) : Prop :=
  ∀ (D : ZD) (A : Nat → Prop) (n0 : Nat × Nat × Nat) (sz : Nat) (k : Nat → ZM → Prop) (kx : Nat → ZM → Prop) (μ : ZM), vx_Met l y ws { frames := fr, cells := mc, slots := ms, locals := lo } (va_Pc av (ZPreC D A al n0 mc ms sz (f k kx) μ)) (va_Qq (zkq k) (ZPost D A al n0 sz) A) (ZXC D A al n0 sz E0 kx) mc ms A
def ZCvx (l : Launch) (y : MethodName) (ws : List Cond) (fr lo mc ms : Nat) (al : Bool) (E0 : String) (av : List Value) (f : (ZM → Prop) → (Nat → ZM → Prop) → ZM → Prop) : Prop :=
  ∀ (D : ZD) (A : Nat → Prop) (n0 : Nat × Nat × Nat) (sz : Nat) (k : ZM → Prop) (kx : Nat → ZM → Prop) (μ : ZM), vx_Met l y ws { frames := fr, cells := mc, slots := ms, locals := lo } (va_Pc av (ZPreC D A al n0 mc ms sz (f k kx) μ)) (va_Qv k (ZPost D A al n0 sz) A) (ZXC D A al n0 sz E0 kx) mc ms A
theorem zblind {D : ZD} {A : Nat → Prop} {al : Bool} {n0 : Nat × Nat × Nat} {mc ms sz : Nat} {P : ZM → Prop} {μ : ZM} {av : List Value} : FrameBlind (va_Pc av (ZPreC D A al n0 mc ms sz P μ)) := by
  intro a U g mk h
  exact ⟨h.1, h.2.1.calling, h.2.2⟩
theorem zcat {v : Value} : v.category ≤ 2 := by cases v <;> simp [Value.category]
theorem zcats : ∀ {st : List Value}, (st.map fun v => v.category).sum ≤ 2 * st.length
  | [] => by simp
  | v :: st => by
    have h1 := zcats (st := st)
    have h2 := zcat (v := v)
    simp only [List.map_cons, List.sum_cons, List.length_cons]
    omega
def zlw (st : List Value) : Prop := (st.map fun v => v.category).sum ≤ 8
theorem zlw4 {st : List Value} (h : st.length ≤ 4) : zlw st := Nat.le_trans zcats (by omega)
theorem zvcat {n : Nat} : (zv n).category = 1 := by cases n <;> rfl
theorem zicat {x : Int32} : (Value.int x).category = 1 := rfl
theorem zlcat {x : Int64} : (Value.long x).category = 2 := rfl
theorem zroom {st : List Value} (h : zlw st) {m : MethodId} {pc : Nat} {ls : Array Slot} {rest : List Value} : 2 * (F0 m pc ls rest).monitorRoom + (st.map fun v => v.category).sum ≤ 8 := lv_room h
section ZCall
variable {p : Program} {l : Launch} {e : Env} {R : Room} {s : State} {m : MethodId} {args : Array Value} {below : List Frame} {meth : Method} {c : Code} {Q : State → Prop} {nL : Nat} {D : ZD} {A : Nat → Prop} {al : Bool} {n0 : Nat × Nat × Nat} {cc : ByteArray} {own nm : String} {ret : Option FieldType} {sz mc ms fr lo : Nat}
variable {P : ZM → Prop} {pc i : Nat} {L : List (Nat × Value)} {st st0 : List Value} {v x : Int32} {w : Int64} {H H1 : Heap} {locs : List Loc} {cells slots : Nat} {ls : Array Slot} {μ μ' : ZM}
theorem ZF.fix (F : ZF p R s m args meth c cc nL own nm ret D A al sz mc ms fr lo) : CallFix p m c cc nL s args lw_all own := ⟨F.hx, F.hb, F.hml, F.hown, F.hts⟩
/-- the callee's start, out of the caller's -/
theorem Z.pre0 (F : ZF p R s m args meth c cc nL own nm ret D A al sz mc ms fr lo) (hI : ZI D A al n0 R s cells slots μ H locs) {Pf : ZM → Prop} (hP : Pf μ) {av : List Value} : ∀ U : State, U.heap = H → s.WarmedH U.vm → va_Pc av (ZPreC D A false (zX μ, zC μ, zS μ) 0 0 H.size Pf μ) av.toArray U := by
  intro U hU hW
  subst hU
  exact ⟨rfl, F.hS.later hW hI.2.1 (fun _ h => h), hI.1, ⟨rfl, rfl⟩, hP⟩
theorem Z.pre1 (F : ZF p R s m args meth c cc nL own nm ret D A true sz mc ms fr lo) (hI : ZI D A true n0 R s cells slots μ H locs) {k n : Nat} {Pf : ZM → Prop} (hP : Pf (zcs μ k n)) {av : List Value} : ∀ U : State, U.heap = H → s.WarmedH U.vm → va_Pc av (ZPreC D A true (0, 0, 0) k n 0 Pf (zcs μ k n)) av.toArray U := by
  intro U hU hW
  subst hU
  have hB := hI.2.2
  unfold ZB at hB
  rw [if_pos rfl] at hB
  exact ⟨rfl, F.hS.later hW hI.2.1 (fun _ h => h), hI.1, ⟨hB.1, fun q hq => hB.2.1 q (Nat.le_trans hI.2.1.1 hq), rfl, rfl⟩, hP⟩
/-- what holds behind the call -/
theorem Z.post0 (hI : ZI D A al n0 R s cells slots μ H locs) {t : State} {locs1 : List Loc} (ht : t.heap = H1) (hp : ZPost D A false (zX μ, zC μ, zS μ) H.size μ' t) (hS : va_S A s.heap H1 locs1) : ZI D A al n0 R s (cells + 0) (slots + 0) μ' H1 locs1 := by
  obtain ⟨h1, h2⟩ := hp
  rw [if_neg (by decide)] at h2
  rw [ht] at h1 h2
  obtain ⟨h2, h3⟩ := h2
  exact ⟨h1, hS, hI.2.2.put h2 (congrArg (fun q => q.1) h3) (congrArg (fun q => q.2.1) h3) (congrArg (fun q => q.2.2) h3)⟩
theorem Z.post1 (hI : ZI D A true n0 R s cells slots μ H locs) {k n : Nat} (hk : k ≤ zC μ) (hn : n ≤ zS μ) {t : State} {locs1 : List Loc} (ht : t.heap = H1) (hp : ZPost D A true (0, 0, 0) 0 μ' t) (hS : va_S A s.heap H1 locs1) : ZI D A true n0 R s (cells + k) (slots + n) (zcs μ' (zC μ - k) (zS μ - n)) H1 locs1 := by
  obtain ⟨h1, h2⟩ := hp
  rw [if_pos rfl] at h2
  rw [ht] at h1 h2
  have hB := hI.2.2
  unfold ZB at hB
  rw [if_pos rfl] at hB
  refine ⟨h1, hS, ?_⟩
  unfold ZB
  rw [if_pos rfl]
  simp only [zcs, zX_mk, zC_mk, zS_mk]
  exact ⟨h2, hB.2.1, by omega, by omega⟩
theorem Z.fits0 (hI : ZI D A al n0 R s cells slots μ H locs) : cells + 0 ≤ R.cells ∧ slots + 0 ≤ R.slots := by
  have hB := hI.2.2
  unfold ZB at hB
  split at hB
  · omega
  · omega
theorem Z.fits1 (hI : ZI D A true n0 R s cells slots μ H locs) {k n : Nat} (hk : k ≤ zC μ) (hn : n ≤ zS μ) : cells + k ≤ R.cells ∧ slots + n ≤ R.slots := by
  have hB := hI.2.2
  unfold ZB at hB
  rw [if_pos rfl] at hB
  omega
/-- the receiver -/
theorem Z.recv (F : ZF p R s m args meth c cc nL own nm ret D A al sz mc ms fr lo) (hI : ZI D A al n0 R s cells slots μ H locs) {ci b : Nat} {C : String} {T : u_T} {N : Nat} (hc : zCl[ci]? = some (C, T, N)) (hci : ci + 1 < 50) (ht : zT μ b = ci + 1) : ∃ b0, b = b0 + 1 ∧ ∃ cell : Cell, H[b0]? = some cell ∧ cell.vm.isStatics = false ∧ s.vm.findClass C = some cell.cls := by
  obtain ⟨n, rfl, hA, hat⟩ := hI.1.cell ht (Nat.succ_ne_zero _)
  rw [zce_o hci] at hat
  exact ⟨n, rfl, va_recv F.hK (zone hat) (ci := ci) (q0 := 0) hc rfl⟩
theorem Z.ri0 {a9 : Array Value} (K : Int32 → ZM → Prop) (hrun : ∀ (μ : ZM) (H : Heap) (locs : List Loc) (cells slots : Nat) (ls : Array Slot), ZI D A al n0 R s cells slots μ H locs → lv_has ls nL L → P μ → va_Run p l e R s m args below meth c H locs cells slots 0 0 (F0 m pc ls st0) st (va_Qi K (ZPost D A false (zX μ, zC μ, zS μ) H.size) A a9) A) (k : ∀ r, ZW p l e R s m args below meth c Q nL D A al n0 (K r) (pc + 3) L (.int r :: st)) : ZW p l e R s m args below meth c Q nL D A al n0 P pc L st0 := by
  intro μ H locs cells slots ls hI h hP
  refine va_calli (hrun μ H locs cells slots ls hI h hP) hI.2.1 (fun _ _ h => h) (fun _ h => h) (fun r μ' t H1 locs1 ht hvm hp hb hz hk hS => ?_)
  exact k r μ' H1 locs1 _ _ ls (Z.post0 hI ht hb hS) h hp
theorem Z.ri1 {a9 : Array Value} {mc9 ms9 : Nat} (K : Int32 → ZM → Prop) (hrun : ∀ (μ : ZM) (H : Heap) (locs : List Loc) (cells slots : Nat) (ls : Array Slot), ZI D A true n0 R s cells slots μ H locs → lv_has ls nL L → P μ → mc9 ≤ zC μ ∧ ms9 ≤ zS μ ∧ va_Run p l e R s m args below meth c H locs cells slots mc9 ms9 (F0 m pc ls st0) st (va_Qi (fun r μ' => K r (zcs μ' (zC μ - mc9) (zS μ - ms9))) (ZPost D A true (0, 0, 0) 0) A a9) A) (k : ∀ r, ZW p l e R s m args below meth c Q nL D A true n0 (K r) (pc + 3) L (.int r :: st)) : ZW p l e R s m args below meth c Q nL D A true n0 P pc L st0 := by
  intro μ H locs cells slots ls hI h hP
  obtain ⟨hk9, hn9, hr9⟩ := hrun μ H locs cells slots ls hI h hP
  refine va_calli hr9 hI.2.1 (fun _ _ h => h) (fun _ h => h) (fun r μ' t H1 locs1 ht hvm hp hb hz hk hS => ?_)
  exact k r _ H1 locs1 _ _ ls (Z.post1 hI hk9 hn9 ht hb hS) h hp
theorem Z.rl0 {a9 : Array Value} (K : Int64 → ZM → Prop) (hrun : ∀ (μ : ZM) (H : Heap) (locs : List Loc) (cells slots : Nat) (ls : Array Slot), ZI D A al n0 R s cells slots μ H locs → lv_has ls nL L → P μ → va_Run p l e R s m args below meth c H locs cells slots 0 0 (F0 m pc ls st0) st (va_Ql K (ZPost D A false (zX μ, zC μ, zS μ) H.size) A a9) A) (k : ∀ r, ZW p l e R s m args below meth c Q nL D A al n0 (K r) (pc + 3) L (.long r :: st)) : ZW p l e R s m args below meth c Q nL D A al n0 P pc L st0 := by
  intro μ H locs cells slots ls hI h hP
  refine va_calll (hrun μ H locs cells slots ls hI h hP) hI.2.1 (fun _ _ h => h) (fun _ h => h) (fun r μ' t H1 locs1 ht hvm hp hb hz hk hS => ?_)
  exact k r μ' H1 locs1 _ _ ls (Z.post0 hI ht hb hS) h hp
theorem Z.rl1 {a9 : Array Value} {mc9 ms9 : Nat} (K : Int64 → ZM → Prop) (hrun : ∀ (μ : ZM) (H : Heap) (locs : List Loc) (cells slots : Nat) (ls : Array Slot), ZI D A true n0 R s cells slots μ H locs → lv_has ls nL L → P μ → mc9 ≤ zC μ ∧ ms9 ≤ zS μ ∧ va_Run p l e R s m args below meth c H locs cells slots mc9 ms9 (F0 m pc ls st0) st (va_Ql (fun r μ' => K r (zcs μ' (zC μ - mc9) (zS μ - ms9))) (ZPost D A true (0, 0, 0) 0) A a9) A) (k : ∀ r, ZW p l e R s m args below meth c Q nL D A true n0 (K r) (pc + 3) L (.long r :: st)) : ZW p l e R s m args below meth c Q nL D A true n0 P pc L st0 := by
  intro μ H locs cells slots ls hI h hP
  obtain ⟨hk9, hn9, hr9⟩ := hrun μ H locs cells slots ls hI h hP
  refine va_calll hr9 hI.2.1 (fun _ _ h => h) (fun _ h => h) (fun r μ' t H1 locs1 ht hvm hp hb hz hk hS => ?_)
  exact k r _ H1 locs1 _ _ ls (Z.post1 hI hk9 hn9 ht hb hS) h hp
theorem Z.rq0 {a9 : Array Value} (K : Nat → ZM → Prop) (hrun : ∀ (μ : ZM) (H : Heap) (locs : List Loc) (cells slots : Nat) (ls : Array Slot), ZI D A al n0 R s cells slots μ H locs → lv_has ls nL L → P μ → va_Run p l e R s m args below meth c H locs cells slots 0 0 (F0 m pc ls st0) st (va_Qq (zkq K) (ZPost D A false (zX μ, zC μ, zS μ) H.size) A a9) A) (k : ∀ r, ZW p l e R s m args below meth c Q nL D A al n0 (K r) (pc + 3) L (zv r :: st)) : ZW p l e R s m args below meth c Q nL D A al n0 P pc L st0 := by
  intro μ H locs cells slots ls hI h hP
  refine va_callq (hrun μ H locs cells slots ls hI h hP) hI.2.1 (fun _ _ h => h) (fun _ h => h) (fun r μ' t H1 locs1 ht hvm hp hb hz hk hS => ?_)
  obtain ⟨r9, rfl, hp⟩ := hp
  rw [zv_o]
  exact k r9 μ' H1 locs1 _ _ ls (Z.post0 hI ht hb hS) h hp
theorem Z.rq1 {a9 : Array Value} {mc9 ms9 : Nat} (K : Nat → ZM → Prop) (hrun : ∀ (μ : ZM) (H : Heap) (locs : List Loc) (cells slots : Nat) (ls : Array Slot), ZI D A true n0 R s cells slots μ H locs → lv_has ls nL L → P μ → mc9 ≤ zC μ ∧ ms9 ≤ zS μ ∧ va_Run p l e R s m args below meth c H locs cells slots mc9 ms9 (F0 m pc ls st0) st (va_Qq (zkq (fun r μ' => K r (zcs μ' (zC μ - mc9) (zS μ - ms9)))) (ZPost D A true (0, 0, 0) 0) A a9) A) (k : ∀ r, ZW p l e R s m args below meth c Q nL D A true n0 (K r) (pc + 3) L (zv r :: st)) : ZW p l e R s m args below meth c Q nL D A true n0 P pc L st0 := by
  intro μ H locs cells slots ls hI h hP
  obtain ⟨hk9, hn9, hr9⟩ := hrun μ H locs cells slots ls hI h hP
  refine va_callq hr9 hI.2.1 (fun _ _ h => h) (fun _ h => h) (fun r μ' t H1 locs1 ht hvm hp hb hz hk hS => ?_)
  obtain ⟨r9, rfl, hp⟩ := hp
  rw [zv_o]
  exact k r9 _ H1 locs1 _ _ ls (Z.post1 hI hk9 hn9 ht hb hS) h hp
theorem Z.rv0 {a9 : Array Value} (K : ZM → Prop) (hrun : ∀ (μ : ZM) (H : Heap) (locs : List Loc) (cells slots : Nat) (ls : Array Slot), ZI D A al n0 R s cells slots μ H locs → lv_has ls nL L → P μ → va_Run p l e R s m args below meth c H locs cells slots 0 0 (F0 m pc ls st0) st (va_Qv K (ZPost D A false (zX μ, zC μ, zS μ) H.size) A a9) A) (k : ZW p l e R s m args below meth c Q nL D A al n0 (K) (pc + 3) L st) : ZW p l e R s m args below meth c Q nL D A al n0 P pc L st0 := by
  intro μ H locs cells slots ls hI h hP
  refine va_callv (hrun μ H locs cells slots ls hI h hP) hI.2.1 (fun _ _ h => h) (fun _ h => h) (fun μ' t H1 locs1 ht hvm hp hb hz hk hS => ?_)
  exact k μ' H1 locs1 _ _ ls (Z.post0 hI ht hb hS) h hp
theorem Z.rv1 {a9 : Array Value} {mc9 ms9 : Nat} (K : ZM → Prop) (hrun : ∀ (μ : ZM) (H : Heap) (locs : List Loc) (cells slots : Nat) (ls : Array Slot), ZI D A true n0 R s cells slots μ H locs → lv_has ls nL L → P μ → mc9 ≤ zC μ ∧ ms9 ≤ zS μ ∧ va_Run p l e R s m args below meth c H locs cells slots mc9 ms9 (F0 m pc ls st0) st (va_Qv (fun μ' => K (zcs μ' (zC μ - mc9) (zS μ - ms9))) (ZPost D A true (0, 0, 0) 0) A a9) A) (k : ZW p l e R s m args below meth c Q nL D A true n0 (K) (pc + 3) L st) : ZW p l e R s m args below meth c Q nL D A true n0 P pc L st0 := by
  intro μ H locs cells slots ls hI h hP
  obtain ⟨hk9, hn9, hr9⟩ := hrun μ H locs cells slots ls hI h hP
  refine va_callv hr9 hI.2.1 (fun _ _ h => h) (fun _ h => h) (fun μ' t H1 locs1 ht hvm hp hb hz hk hS => ?_)
  exact k _ H1 locs1 _ _ ls (Z.post1 hI hk9 hn9 ht hb hS) h hp
theorem Z.ri0F {a9 : Array Value} (K : Int32 → ZM → Prop) (hrun : ∀ (μ : ZM) (H : Heap) (locs : List Loc) (cells slots : Nat) (ls : Array Slot), ZI D A al n0 R s cells slots μ H locs → lv_has ls nL L → P μ → va_Run5 p l e R s m args below meth c H locs cells slots 0 0 (F0 m pc ls st0) st (va_Qi K (ZPost D A false (zX μ, zC μ, zS μ) H.size) A a9) A) (k : ∀ r, ZW p l e R s m args below meth c Q nL D A al n0 (K r) (pc + 5) L (.int r :: st)) : ZW p l e R s m args below meth c Q nL D A al n0 P pc L st0 := by
  intro μ H locs cells slots ls hI h hP
  refine va_callFi (hrun μ H locs cells slots ls hI h hP) hI.2.1 (fun _ _ h => h) (fun _ h => h) (fun r μ' t H1 locs1 ht hvm hp hb hz hk hS => ?_)
  exact k r μ' H1 locs1 _ _ ls (Z.post0 hI ht hb hS) h hp
theorem Z.rl0F {a9 : Array Value} (K : Int64 → ZM → Prop) (hrun : ∀ (μ : ZM) (H : Heap) (locs : List Loc) (cells slots : Nat) (ls : Array Slot), ZI D A al n0 R s cells slots μ H locs → lv_has ls nL L → P μ → va_Run5 p l e R s m args below meth c H locs cells slots 0 0 (F0 m pc ls st0) st (va_Ql K (ZPost D A false (zX μ, zC μ, zS μ) H.size) A a9) A) (k : ∀ r, ZW p l e R s m args below meth c Q nL D A al n0 (K r) (pc + 5) L (.long r :: st)) : ZW p l e R s m args below meth c Q nL D A al n0 P pc L st0 := by
  intro μ H locs cells slots ls hI h hP
  refine va_callFl (hrun μ H locs cells slots ls hI h hP) hI.2.1 (fun _ _ h => h) (fun _ h => h) (fun r μ' t H1 locs1 ht hvm hp hb hz hk hS => ?_)
  exact k r μ' H1 locs1 _ _ ls (Z.post0 hI ht hb hS) h hp
theorem Z.V0 (F : ZF p R s m args meth c cc nL own nm ret D A al sz mc ms fr lo) {fr9 lo9 n maxL9 index : Nat} {y : MethodName} {bytes : ByteArray} {ret9 : Option FieldType} {Pf : ZM → Prop} {Qc : Array Value → State → Outcome → State → Prop} {As : List Value} (hI : ZI D A al n0 R s cells slots μ H locs) {ci b N : Nat} {C : String} {T : u_T} (hc : zCl[ci]? = some (C, T, N)) (hci : ci + 1 < 50) (ht : zT μ b = ci + 1) (hPf : Pf μ) (hM : Met l y (ws_ y bytes maxL9 ret9) { frames := fr9, cells := 0, slots := 0, locals := lo9 } (va_Pc (zv b :: As) (ZPreC D A false (zX μ, zC μ, zS μ) 0 0 H.size Pf μ)) Qc 0 0 A) (h1 : Cond.methodLink own index y ∈ lw_all) (h2 : Cond.instanceMethod y ∈ lw_all) (h3 : Cond.selects C y y ∈ lw_all) (h4 : Cond.initialized C ∈ lw_all) (h5 : Cond.code y bytes maxL9 ret9 ∈ lw_all) (hd : y.cls = C ∧ y.cls ≠ "java/lang/invoke/MethodHandle" ∧ y.cls ≠ "java/lang/invoke/VarHandle" ∧ (parseMethodDescriptor y.desc).map (fun d => d.parameters.length) = some n) (hn : As.length = n) (hls : ls.size = nL) (hst4 : zlw st) (hR : fr9 + 1 ≤ fr ∧ 8 + (maxL9 + 11) + lo9 ≤ lo) (hst : st0 = As.reverse ++ zv b :: st) (hdg : decode cc pc = .ok (.invokevirtual index, 3)) : va_Run p l e R s m args below meth c H locs cells slots 0 0 (F0 m pc ls st0) st (Qc (zv b :: As).toArray) A := by
  obtain ⟨b0, rfl, hcell⟩ := Z.recv F hI hc hci ht
  subst hst
  exact va_runV (C := C) (b := b0) (As := As) F.fix hM (cwV n F.hts (lw_V h1 h2 h3 h4 h5) rfl rfl rfl hd (by rw [F.hRf, F.hRl]; exact hR)) ⟨zblind, hcell, Z.pre0 F hI hPf⟩ rfl hn hls rfl (zroom hst4) hdg (Z.fits0 hI)
theorem Z.VN0 (F : ZF p R s m args meth c cc nL own nm ret D A al sz mc ms fr lo) {fr9 lo9 n maxL9 index : Nat} {y : MethodName} {bytes : ByteArray} {ret9 : Option FieldType} {Pf : ZM → Prop} {Qc : Array Value → State → Outcome → State → Prop} {As : List Value} {host : String} (hI : ZI D A al n0 R s cells slots μ H locs) {ci b N : Nat} {C : String} {T : u_T} (hc : zCl[ci]? = some (C, T, N)) (hci : ci + 1 < 50) (ht : zT μ b = ci + 1) (hPf : Pf μ) (hM : Met l y (ws_ y bytes maxL9 ret9) { frames := fr9, cells := 0, slots := 0, locals := lo9 } (va_Pc (zv b :: As) (ZPreC D A false (zX μ, zC μ, zS μ) 0 0 H.size Pf μ)) Qc 0 0 A) (h1 : (own, index, y, host) ∈ zNm) (h2 : Cond.instanceMethod y ∈ lw_all) (h3 : Cond.selects C y y ∈ lw_all) (h4 : Cond.initialized y.cls ∈ lw_all) (h5 : Cond.code y bytes maxL9 ret9 ∈ lw_all) (hd : y.cls ≠ "java/lang/invoke/MethodHandle" ∧ y.cls ≠ "java/lang/invoke/VarHandle" ∧ (parseMethodDescriptor y.desc).map (fun d => d.parameters.length) = some n) (hn : As.length = n) (hls : ls.size = nL) (hst4 : zlw st) (hR : fr9 + 1 ≤ fr ∧ 8 + (maxL9 + 11) + lo9 ≤ lo) (hst : st0 = As.reverse ++ zv b :: st) (hdg : decode cc pc = .ok (.invokevirtual index, 3)) : va_Run p l e R s m args below meth c H locs cells slots 0 0 (F0 m pc ls st0) st (Qc (zv b :: As).toArray) A := by
  obtain ⟨b0, rfl, hcell⟩ := Z.recv F hI hc hci ht
  subst hst
  exact va_runVN (C := C) (b := b0) (As := As) F.fix hM ⟨va_cnB n F.hts (lw_meth h5) rfl rfl rfl (F.hS.2.1.2.1 _ h1) (F.hts _ h4) hd (by rw [F.hRf, F.hRl]; exact hR), F.hts _ h2, F.hts _ h3⟩ ⟨zblind, hcell, Z.pre0 F hI hPf⟩ rfl hn hls rfl (zroom hst4) hdg (Z.fits0 hI)
theorem Z.S0 (F : ZF p R s m args meth c cc nL own nm ret D A al sz mc ms fr lo) {fr9 lo9 n maxL9 index : Nat} {y : MethodName} {bytes : ByteArray} {ret9 : Option FieldType} {Pf : ZM → Prop} {Qc : Array Value → State → Outcome → State → Prop} {As : List Value} (hI : ZI D A al n0 R s cells slots μ H locs) (hPf : Pf μ) (hM : Met l y (ws_ y bytes maxL9 ret9) { frames := fr9, cells := 0, slots := 0, locals := lo9 } (va_Pc (As) (ZPreC D A false (zX μ, zC μ, zS μ) 0 0 H.size Pf μ)) Qc 0 0 A) (h1 : Cond.methodLink own index y ∈ lw_all) (h2 : Cond.static y ∈ lw_all) (h3 : Cond.initialized y.cls ∈ lw_all) (h5 : Cond.code y bytes maxL9 ret9 ∈ lw_all) (hd : y.cls ≠ "java/lang/invoke/MethodHandle" ∧ y.cls ≠ "java/lang/invoke/VarHandle" ∧ (parseMethodDescriptor y.desc).map (fun d => d.parameters.length) = some n) (hn : As.length = n) (hls : ls.size = nL) (hst4 : zlw st) (hR : fr9 + 1 ≤ fr ∧ 8 + (maxL9 + 11) + lo9 ≤ lo) (hst : st0 = As.reverse ++ st) (hdg : decode cc pc = .ok (.invokestatic index, 3)) : va_Run p l e R s m args below meth c H locs cells slots 0 0 (F0 m pc ls st0) st (Qc (As).toArray) A := by
  subst hst
  exact va_runS (As := As) F.fix hM (va_cwS n F.hts (lw_S h1 h2 h3 h5) rfl rfl rfl hd (by rw [F.hRf, F.hRl]; exact hR)) ⟨zblind, Z.pre0 F hI hPf⟩ rfl hn hls rfl (zroom hst4) hdg (Z.fits0 hI)
theorem Z.SN0 (F : ZF p R s m args meth c cc nL own nm ret D A al sz mc ms fr lo) {fr9 lo9 n maxL9 index : Nat} {y : MethodName} {bytes : ByteArray} {ret9 : Option FieldType} {Pf : ZM → Prop} {Qc : Array Value → State → Outcome → State → Prop} {As : List Value} {host : String} (hI : ZI D A al n0 R s cells slots μ H locs) (hPf : Pf μ) (hM : Met l y (ws_ y bytes maxL9 ret9) { frames := fr9, cells := 0, slots := 0, locals := lo9 } (va_Pc (As) (ZPreC D A false (zX μ, zC μ, zS μ) 0 0 H.size Pf μ)) Qc 0 0 A) (h1 : (own, index, y, host) ∈ zNm) (h2 : Cond.static y ∈ lw_all) (h4 : Cond.initialized y.cls ∈ lw_all) (h5 : Cond.code y bytes maxL9 ret9 ∈ lw_all) (hd : y.cls ≠ "java/lang/invoke/MethodHandle" ∧ y.cls ≠ "java/lang/invoke/VarHandle" ∧ (parseMethodDescriptor y.desc).map (fun d => d.parameters.length) = some n) (hn : As.length = n) (hls : ls.size = nL) (hst4 : zlw st) (hR : fr9 + 1 ≤ fr ∧ 8 + (maxL9 + 11) + lo9 ≤ lo) (hst : st0 = As.reverse ++ st) (hdg : decode cc pc = .ok (.invokestatic index, 3)) : va_Run p l e R s m args below meth c H locs cells slots 0 0 (F0 m pc ls st0) st (Qc (As).toArray) A := by
  subst hst
  exact va_runSN (As := As) F.fix hM ⟨va_cnB n F.hts (lw_meth h5) rfl rfl rfl (F.hS.2.1.2.1 _ h1) (F.hts _ h4) hd (by rw [F.hRf, F.hRl]; exact hR), F.hts _ h2, trivial⟩ ⟨zblind, Z.pre0 F hI hPf⟩ rfl hn hls rfl (zroom hst4) hdg (Z.fits0 hI)
theorem Z.I0 (F : ZF p R s m args meth c cc nL own nm ret D A al sz mc ms fr lo) {fr9 lo9 n maxL9 index : Nat} {y : MethodName} {bytes : ByteArray} {Pf : ZM → Prop} {Qc : Array Value → State → Outcome → State → Prop} {As : List Value} (hI : ZI D A al n0 R s cells slots μ H locs) {ci b N : Nat} {C : String} {T : u_T} (hc : zCl[ci]? = some (C, T, N)) (hci : ci + 1 < 50) (ht : zT μ b = ci + 1) (hPf : Pf μ) (hM : Met l y (ws_ y bytes maxL9 none) { frames := fr9, cells := 0, slots := 0, locals := lo9 } (va_Pc (zv b :: As) (ZPreC D A false (zX μ, zC μ, zS μ) 0 0 H.size Pf μ)) Qc 0 0 A) (h0 : y.name = "<init>") (h1 : Cond.methodLink own index y ∈ lw_all) (h2 : Cond.instanceMethod y ∈ lw_all) (h4 : Cond.initialized y.cls ∈ lw_all) (h5 : Cond.code y bytes maxL9 none ∈ lw_all) (hd : y.cls ≠ "java/lang/invoke/MethodHandle" ∧ y.cls ≠ "java/lang/invoke/VarHandle" ∧ (parseMethodDescriptor y.desc).map (fun d => d.parameters.length) = some n) (hn : As.length = n) (hls : ls.size = nL) (hst4 : zlw st) (hR : fr9 + 1 ≤ fr ∧ 8 + (maxL9 + 11) + lo9 ≤ lo) (hst : st0 = As.reverse ++ zv b :: st) (hdg : decode cc pc = .ok (.invokespecial index, 3)) : va_Run p l e R s m args below meth c H locs cells slots 0 0 (F0 m pc ls st0) st (Qc (zv b :: As).toArray) A := by
  obtain ⟨b0, rfl, hcell⟩ := Z.recv F hI hc hci ht
  subst hst
  exact va_runI (b := b0) (As := As) F.fix hM (cwI n F.hts (lw_meth h5) rfl rfl rfl (F.hts _ h4) (F.hts _ h1) (F.hts _ h2) h0 hd (by rw [F.hRf, F.hRl]; exact hR)) ⟨zblind, Z.pre0 F hI hPf⟩ rfl hn hls rfl (zroom hst4) hdg (Z.fits0 hI)
theorem Z.IN0 (F : ZF p R s m args meth c cc nL own nm ret D A al sz mc ms fr lo) {fr9 lo9 n maxL9 index : Nat} {y : MethodName} {bytes : ByteArray} {Pf : ZM → Prop} {Qc : Array Value → State → Outcome → State → Prop} {As : List Value} {host : String} (hI : ZI D A al n0 R s cells slots μ H locs) {ci b N : Nat} {C : String} {T : u_T} (hc : zCl[ci]? = some (C, T, N)) (hci : ci + 1 < 50) (ht : zT μ b = ci + 1) (hPf : Pf μ) (hM : Met l y (ws_ y bytes maxL9 none) { frames := fr9, cells := 0, slots := 0, locals := lo9 } (va_Pc (zv b :: As) (ZPreC D A false (zX μ, zC μ, zS μ) 0 0 H.size Pf μ)) Qc 0 0 A) (h0 : y.name = "<init>") (h1 : (own, index, y, host) ∈ zNm) (h2 : Cond.instanceMethod y ∈ lw_all) (h4 : Cond.initialized y.cls ∈ lw_all) (h5 : Cond.code y bytes maxL9 none ∈ lw_all) (hd : y.cls ≠ "java/lang/invoke/MethodHandle" ∧ y.cls ≠ "java/lang/invoke/VarHandle" ∧ (parseMethodDescriptor y.desc).map (fun d => d.parameters.length) = some n) (hn : As.length = n) (hls : ls.size = nL) (hst4 : zlw st) (hR : fr9 + 1 ≤ fr ∧ 8 + (maxL9 + 11) + lo9 ≤ lo) (hst : st0 = As.reverse ++ zv b :: st) (hdg : decode cc pc = .ok (.invokespecial index, 3)) : va_Run p l e R s m args below meth c H locs cells slots 0 0 (F0 m pc ls st0) st (Qc (zv b :: As).toArray) A := by
  obtain ⟨b0, rfl, hcell⟩ := Z.recv F hI hc hci ht
  subst hst
  exact va_runIN (b := b0) (As := As) F.fix hM ⟨va_cnB n F.hts (lw_meth h5) rfl rfl rfl (F.hS.2.1.2.1 _ h1) (F.hts _ h4) hd (by rw [F.hRf, F.hRl]; exact hR), h0, F.hts _ h2⟩ ⟨zblind, Z.pre0 F hI hPf⟩ rfl hn hls rfl (zroom hst4) hdg (Z.fits0 hI)
theorem Z.V1 (F : ZF p R s m args meth c cc nL own nm ret D A true sz mc ms fr lo) {fr9 lo9 mc9 ms9 n maxL9 index : Nat} {y : MethodName} {bytes : ByteArray} {ret9 : Option FieldType} {Pf : ZM → Prop} {Qc : Array Value → State → Outcome → State → Prop} {As : List Value} (hI : ZI D A true n0 R s cells slots μ H locs) {ci b N : Nat} {C : String} {T : u_T} (hc : zCl[ci]? = some (C, T, N)) (hci : ci + 1 < 50) (ht : zT μ b = ci + 1) (hk9 : mc9 ≤ zC μ) (hn9 : ms9 ≤ zS μ) (hPf : Pf (zcs μ mc9 ms9)) (hM : Met l y (ws_ y bytes maxL9 ret9) { frames := fr9, cells := mc9, slots := ms9, locals := lo9 } (va_Pc (zv b :: As) (ZPreC D A true (0, 0, 0) mc9 ms9 0 Pf (zcs μ mc9 ms9))) Qc mc9 ms9 A) (h1 : Cond.methodLink own index y ∈ lw_all) (h2 : Cond.instanceMethod y ∈ lw_all) (h3 : Cond.selects C y y ∈ lw_all) (h4 : Cond.initialized C ∈ lw_all) (h5 : Cond.code y bytes maxL9 ret9 ∈ lw_all) (hd : y.cls = C ∧ y.cls ≠ "java/lang/invoke/MethodHandle" ∧ y.cls ≠ "java/lang/invoke/VarHandle" ∧ (parseMethodDescriptor y.desc).map (fun d => d.parameters.length) = some n) (hn : As.length = n) (hls : ls.size = nL) (hst4 : zlw st) (hR : fr9 + 1 ≤ fr ∧ 8 + (maxL9 + 11) + lo9 ≤ lo) (hst : st0 = As.reverse ++ zv b :: st) (hdg : decode cc pc = .ok (.invokevirtual index, 3)) : va_Run p l e R s m args below meth c H locs cells slots mc9 ms9 (F0 m pc ls st0) st (Qc (zv b :: As).toArray) A := by
  obtain ⟨b0, rfl, hcell⟩ := Z.recv F hI hc hci ht
  subst hst
  exact va_runV (C := C) (b := b0) (As := As) F.fix hM (cwV n F.hts (lw_V h1 h2 h3 h4 h5) rfl rfl rfl hd (by rw [F.hRf, F.hRl]; exact hR)) ⟨zblind, hcell, Z.pre1 F hI hPf⟩ rfl hn hls rfl (zroom hst4) hdg (Z.fits1 hI hk9 hn9)
theorem Z.VN1 (F : ZF p R s m args meth c cc nL own nm ret D A true sz mc ms fr lo) {fr9 lo9 mc9 ms9 n maxL9 index : Nat} {y : MethodName} {bytes : ByteArray} {ret9 : Option FieldType} {Pf : ZM → Prop} {Qc : Array Value → State → Outcome → State → Prop} {As : List Value} {host : String} (hI : ZI D A true n0 R s cells slots μ H locs) {ci b N : Nat} {C : String} {T : u_T} (hc : zCl[ci]? = some (C, T, N)) (hci : ci + 1 < 50) (ht : zT μ b = ci + 1) (hk9 : mc9 ≤ zC μ) (hn9 : ms9 ≤ zS μ) (hPf : Pf (zcs μ mc9 ms9)) (hM : Met l y (ws_ y bytes maxL9 ret9) { frames := fr9, cells := mc9, slots := ms9, locals := lo9 } (va_Pc (zv b :: As) (ZPreC D A true (0, 0, 0) mc9 ms9 0 Pf (zcs μ mc9 ms9))) Qc mc9 ms9 A) (h1 : (own, index, y, host) ∈ zNm) (h2 : Cond.instanceMethod y ∈ lw_all) (h3 : Cond.selects C y y ∈ lw_all) (h4 : Cond.initialized y.cls ∈ lw_all) (h5 : Cond.code y bytes maxL9 ret9 ∈ lw_all) (hd : y.cls ≠ "java/lang/invoke/MethodHandle" ∧ y.cls ≠ "java/lang/invoke/VarHandle" ∧ (parseMethodDescriptor y.desc).map (fun d => d.parameters.length) = some n) (hn : As.length = n) (hls : ls.size = nL) (hst4 : zlw st) (hR : fr9 + 1 ≤ fr ∧ 8 + (maxL9 + 11) + lo9 ≤ lo) (hst : st0 = As.reverse ++ zv b :: st) (hdg : decode cc pc = .ok (.invokevirtual index, 3)) : va_Run p l e R s m args below meth c H locs cells slots mc9 ms9 (F0 m pc ls st0) st (Qc (zv b :: As).toArray) A := by
  obtain ⟨b0, rfl, hcell⟩ := Z.recv F hI hc hci ht
  subst hst
  exact va_runVN (C := C) (b := b0) (As := As) F.fix hM ⟨va_cnB n F.hts (lw_meth h5) rfl rfl rfl (F.hS.2.1.2.1 _ h1) (F.hts _ h4) hd (by rw [F.hRf, F.hRl]; exact hR), F.hts _ h2, F.hts _ h3⟩ ⟨zblind, hcell, Z.pre1 F hI hPf⟩ rfl hn hls rfl (zroom hst4) hdg (Z.fits1 hI hk9 hn9)
theorem Z.S1 (F : ZF p R s m args meth c cc nL own nm ret D A true sz mc ms fr lo) {fr9 lo9 mc9 ms9 n maxL9 index : Nat} {y : MethodName} {bytes : ByteArray} {ret9 : Option FieldType} {Pf : ZM → Prop} {Qc : Array Value → State → Outcome → State → Prop} {As : List Value} (hI : ZI D A true n0 R s cells slots μ H locs) (hk9 : mc9 ≤ zC μ) (hn9 : ms9 ≤ zS μ) (hPf : Pf (zcs μ mc9 ms9)) (hM : Met l y (ws_ y bytes maxL9 ret9) { frames := fr9, cells := mc9, slots := ms9, locals := lo9 } (va_Pc (As) (ZPreC D A true (0, 0, 0) mc9 ms9 0 Pf (zcs μ mc9 ms9))) Qc mc9 ms9 A) (h1 : Cond.methodLink own index y ∈ lw_all) (h2 : Cond.static y ∈ lw_all) (h3 : Cond.initialized y.cls ∈ lw_all) (h5 : Cond.code y bytes maxL9 ret9 ∈ lw_all) (hd : y.cls ≠ "java/lang/invoke/MethodHandle" ∧ y.cls ≠ "java/lang/invoke/VarHandle" ∧ (parseMethodDescriptor y.desc).map (fun d => d.parameters.length) = some n) (hn : As.length = n) (hls : ls.size = nL) (hst4 : zlw st) (hR : fr9 + 1 ≤ fr ∧ 8 + (maxL9 + 11) + lo9 ≤ lo) (hst : st0 = As.reverse ++ st) (hdg : decode cc pc = .ok (.invokestatic index, 3)) : va_Run p l e R s m args below meth c H locs cells slots mc9 ms9 (F0 m pc ls st0) st (Qc (As).toArray) A := by
  subst hst
  exact va_runS (As := As) F.fix hM (va_cwS n F.hts (lw_S h1 h2 h3 h5) rfl rfl rfl hd (by rw [F.hRf, F.hRl]; exact hR)) ⟨zblind, Z.pre1 F hI hPf⟩ rfl hn hls rfl (zroom hst4) hdg (Z.fits1 hI hk9 hn9)
theorem Z.SN1 (F : ZF p R s m args meth c cc nL own nm ret D A true sz mc ms fr lo) {fr9 lo9 mc9 ms9 n maxL9 index : Nat} {y : MethodName} {bytes : ByteArray} {ret9 : Option FieldType} {Pf : ZM → Prop} {Qc : Array Value → State → Outcome → State → Prop} {As : List Value} {host : String} (hI : ZI D A true n0 R s cells slots μ H locs) (hk9 : mc9 ≤ zC μ) (hn9 : ms9 ≤ zS μ) (hPf : Pf (zcs μ mc9 ms9)) (hM : Met l y (ws_ y bytes maxL9 ret9) { frames := fr9, cells := mc9, slots := ms9, locals := lo9 } (va_Pc (As) (ZPreC D A true (0, 0, 0) mc9 ms9 0 Pf (zcs μ mc9 ms9))) Qc mc9 ms9 A) (h1 : (own, index, y, host) ∈ zNm) (h2 : Cond.static y ∈ lw_all) (h4 : Cond.initialized y.cls ∈ lw_all) (h5 : Cond.code y bytes maxL9 ret9 ∈ lw_all) (hd : y.cls ≠ "java/lang/invoke/MethodHandle" ∧ y.cls ≠ "java/lang/invoke/VarHandle" ∧ (parseMethodDescriptor y.desc).map (fun d => d.parameters.length) = some n) (hn : As.length = n) (hls : ls.size = nL) (hst4 : zlw st) (hR : fr9 + 1 ≤ fr ∧ 8 + (maxL9 + 11) + lo9 ≤ lo) (hst : st0 = As.reverse ++ st) (hdg : decode cc pc = .ok (.invokestatic index, 3)) : va_Run p l e R s m args below meth c H locs cells slots mc9 ms9 (F0 m pc ls st0) st (Qc (As).toArray) A := by
  subst hst
  exact va_runSN (As := As) F.fix hM ⟨va_cnB n F.hts (lw_meth h5) rfl rfl rfl (F.hS.2.1.2.1 _ h1) (F.hts _ h4) hd (by rw [F.hRf, F.hRl]; exact hR), F.hts _ h2, trivial⟩ ⟨zblind, Z.pre1 F hI hPf⟩ rfl hn hls rfl (zroom hst4) hdg (Z.fits1 hI hk9 hn9)
theorem Z.I1 (F : ZF p R s m args meth c cc nL own nm ret D A true sz mc ms fr lo) {fr9 lo9 mc9 ms9 n maxL9 index : Nat} {y : MethodName} {bytes : ByteArray} {Pf : ZM → Prop} {Qc : Array Value → State → Outcome → State → Prop} {As : List Value} (hI : ZI D A true n0 R s cells slots μ H locs) {ci b N : Nat} {C : String} {T : u_T} (hc : zCl[ci]? = some (C, T, N)) (hci : ci + 1 < 50) (ht : zT μ b = ci + 1) (hk9 : mc9 ≤ zC μ) (hn9 : ms9 ≤ zS μ) (hPf : Pf (zcs μ mc9 ms9)) (hM : Met l y (ws_ y bytes maxL9 none) { frames := fr9, cells := mc9, slots := ms9, locals := lo9 } (va_Pc (zv b :: As) (ZPreC D A true (0, 0, 0) mc9 ms9 0 Pf (zcs μ mc9 ms9))) Qc mc9 ms9 A) (h0 : y.name = "<init>") (h1 : Cond.methodLink own index y ∈ lw_all) (h2 : Cond.instanceMethod y ∈ lw_all) (h4 : Cond.initialized y.cls ∈ lw_all) (h5 : Cond.code y bytes maxL9 none ∈ lw_all) (hd : y.cls ≠ "java/lang/invoke/MethodHandle" ∧ y.cls ≠ "java/lang/invoke/VarHandle" ∧ (parseMethodDescriptor y.desc).map (fun d => d.parameters.length) = some n) (hn : As.length = n) (hls : ls.size = nL) (hst4 : zlw st) (hR : fr9 + 1 ≤ fr ∧ 8 + (maxL9 + 11) + lo9 ≤ lo) (hst : st0 = As.reverse ++ zv b :: st) (hdg : decode cc pc = .ok (.invokespecial index, 3)) : va_Run p l e R s m args below meth c H locs cells slots mc9 ms9 (F0 m pc ls st0) st (Qc (zv b :: As).toArray) A := by
  obtain ⟨b0, rfl, hcell⟩ := Z.recv F hI hc hci ht
  subst hst
  exact va_runI (b := b0) (As := As) F.fix hM (cwI n F.hts (lw_meth h5) rfl rfl rfl (F.hts _ h4) (F.hts _ h1) (F.hts _ h2) h0 hd (by rw [F.hRf, F.hRl]; exact hR)) ⟨zblind, Z.pre1 F hI hPf⟩ rfl hn hls rfl (zroom hst4) hdg (Z.fits1 hI hk9 hn9)
theorem Z.IN1 (F : ZF p R s m args meth c cc nL own nm ret D A true sz mc ms fr lo) {fr9 lo9 mc9 ms9 n maxL9 index : Nat} {y : MethodName} {bytes : ByteArray} {Pf : ZM → Prop} {Qc : Array Value → State → Outcome → State → Prop} {As : List Value} {host : String} (hI : ZI D A true n0 R s cells slots μ H locs) {ci b N : Nat} {C : String} {T : u_T} (hc : zCl[ci]? = some (C, T, N)) (hci : ci + 1 < 50) (ht : zT μ b = ci + 1) (hk9 : mc9 ≤ zC μ) (hn9 : ms9 ≤ zS μ) (hPf : Pf (zcs μ mc9 ms9)) (hM : Met l y (ws_ y bytes maxL9 none) { frames := fr9, cells := mc9, slots := ms9, locals := lo9 } (va_Pc (zv b :: As) (ZPreC D A true (0, 0, 0) mc9 ms9 0 Pf (zcs μ mc9 ms9))) Qc mc9 ms9 A) (h0 : y.name = "<init>") (h1 : (own, index, y, host) ∈ zNm) (h2 : Cond.instanceMethod y ∈ lw_all) (h4 : Cond.initialized y.cls ∈ lw_all) (h5 : Cond.code y bytes maxL9 none ∈ lw_all) (hd : y.cls ≠ "java/lang/invoke/MethodHandle" ∧ y.cls ≠ "java/lang/invoke/VarHandle" ∧ (parseMethodDescriptor y.desc).map (fun d => d.parameters.length) = some n) (hn : As.length = n) (hls : ls.size = nL) (hst4 : zlw st) (hR : fr9 + 1 ≤ fr ∧ 8 + (maxL9 + 11) + lo9 ≤ lo) (hst : st0 = As.reverse ++ zv b :: st) (hdg : decode cc pc = .ok (.invokespecial index, 3)) : va_Run p l e R s m args below meth c H locs cells slots mc9 ms9 (F0 m pc ls st0) st (Qc (zv b :: As).toArray) A := by
  obtain ⟨b0, rfl, hcell⟩ := Z.recv F hI hc hci ht
  subst hst
  exact va_runIN (b := b0) (As := As) F.fix hM ⟨va_cnB n F.hts (lw_meth h5) rfl rfl rfl (F.hS.2.1.2.1 _ h1) (F.hts _ h4) hd (by rw [F.hRf, F.hRl]; exact hR), h0, F.hts _ h2⟩ ⟨zblind, Z.pre1 F hI hPf⟩ rfl hn hls rfl (zroom hst4) hdg (Z.fits1 hI hk9 hn9)
end ZCall
