/-! STARTS -/
section ZStart
variable {l : Launch} {y : MethodName} {cc : ByteArray} {maxL fr lo mc ms : Nat} {al : Bool} {av : List Value} {L0 : List (Nat × Value)} {rt : FieldType} {hh : List (Nat × Nat × Nat × Nat)} {E : String}
theorem zla_v (n z : Nat) (vs : List Value) : lv_args n (zv z :: vs) = (n, zv z) :: lv_args (n + 1) vs := by simp [lv_args, zv_cat]
theorem zla_i (n : Nat) (x : Int32) (vs : List Value) : lv_args n (.int x :: vs) = (n, .int x) :: lv_args (n + 1) vs := rfl
theorem zla_l (n : Nat) (x : Int64) (vs : List Value) : lv_args n (.long x :: vs) = (n, .long x) :: lv_args (n + 2) vs := rfl
theorem zla_0 (n : Nat) : lv_args n [] = [] := rfl
theorem zsl_v (z : Nat) (vs : List Value) : (lg_sl (zv z :: vs)).length = 1 + (lg_sl vs).length := by simp [lg_sl, zv_cat]; omega
theorem zsl_i (x : Int32) (vs : List Value) : (lg_sl (.int x :: vs)).length = 1 + (lg_sl vs).length := by simp [lg_sl, Value.category]; omega
theorem zsl_l (x : Int64) (vs : List Value) : (lg_sl (.long x :: vs)).length = 2 + (lg_sl vs).length := by simp [lg_sl, Value.category]; omega
theorem zsl_0 : (lg_sl []).length = 0 := rfl
theorem Z.fixed {p : Program} {e : Env} {s s₁ : State} {m : MethodId} {args : Array Value} {below : List Frame} {meth : Method} {c : Code} {ws : List Cond} {ret : Option FieldType} {D : ZD} {A : Nat → Prop} {n0 : Nat × Nat × Nat} {sz : Nat} {P : ZM → Prop} {μ : ZM} (hws : ∀ w ∈ lw_all, w ∈ ws) (hz : al = false → mc = 0 ∧ ms = 0)
    (B : BodyLoose p l y (headSpec ws { frames := fr, cells := mc, slots := ms, locals := lo }) cc maxL ret e s m args below meth c s₁) (hml : c.maxLocals = maxL) (hv : ZPreC D A al n0 mc ms sz P μ s) : ZF p (headSpec ws { frames := fr, cells := mc, slots := ms, locals := lo }).room s m args meth c cc maxL y.cls y.name ret D A al sz mc ms fr lo := by
  have hts := atoms_spec (ws := ws) B.pre
  refine ⟨B.exec, B.bytes, hml, findClass_of_methodNamed B.named, fun w h => hts w (hws w h), hv.1, B.notSynchronized, B.returns, (name_of_methodNamed B.named B.method).1, rfl, rfl, fun h => ?_, rfl, rfl⟩
  have h2 := hv.2.2.1
  rw [if_neg (by rw [h]; decide)] at h2
  exact ⟨h2.1, hz h⟩
theorem Z.fst {s : State} {ws : List Cond} {D : ZD} {A : Nat → Prop} {n0 : Nat × Nat × Nat} {sz : Nat} {P : ZM → Prop} {μ : ZM} (hv : ZPreC D A al n0 mc ms sz P μ s) : ZI D A al n0 (headSpec ws { frames := fr, cells := mc, slots := ms, locals := lo }).room s 0 0 μ s.heap [] := by
  refine ⟨hv.2.1, va_S.rf, ?_⟩
  have h2 := hv.2.2.1
  unfold ZB
  cases al with
  | true =>
    rw [if_pos rfl] at h2 ⊢
    exact ⟨h2.1, h2.2.1, (Nat.zero_add _).trans h2.2.2.1, (Nat.zero_add _).trans h2.2.2.2⟩
  | false =>
    rw [if_neg (by decide)] at h2 ⊢
    exact ⟨rfl, rfl, rfl, h2.2⟩
theorem Z.metI {f : (Int32 → ZM → Prop) → ZM → Prop} (hy : plainName y.cls = true) (hz : al = false → mc = 0 ∧ ms = 0) (hla : lv_args 0 av = L0) (hsl : (lg_sl av).length ≤ maxL)
    (body : ∀ (p : Program) (e : Env) (R : Room) (s : State) (m : MethodId) (args : Array Value) (below : List Frame) (meth : Method) (c : Code) (D : ZD) (A : Nat → Prop) (n0 : Nat × Nat × Nat) (sz : Nat) (K : Int32 → ZM → Prop), ZF p R s m args meth c cc maxL y.cls y.name (some .int) D A al sz mc ms fr lo → ZW p l e R s m args below meth c (MQ below (va_Qi K (ZPost D A al n0 sz) A) args s mc ms A) maxL D A al n0 (f K) 0 L0 []) : ZCi l y (ws_ y cc maxL (some .int)) fr lo mc ms al av f := by
  intro D A n0 sz K μ
  refine Met.ofW (cc := cc) (maxL := maxL) (ret := (some .int)) hy rfl ?_
  intro p e s m args below meth c s₁ B hml hv
  obtain ⟨rfl, hv⟩ := hv
  rw [lg_entry_eq]
  exact body p e _ s m _ below meth c D A n0 sz K (Z.fixed (fun w h => List.mem_cons_of_mem _ h) hz B hml hv) μ s.heap [] 0 0 _ (Z.fst hv) (hla ▸ lv_entry av hsl) hv.2.2.2
theorem Z.metIW {f : (Int32 → ZM → Prop) → ZM → Prop} (hy : plainName y.cls = true) (hz : al = false → mc = 0 ∧ ms = 0) (hla : lv_args 0 av = L0) (hsl : (lg_sl av).length ≤ maxL)
    (body : ∀ (p : Program) (e : Env) (R : Room) (s : State) (m : MethodId) (args : Array Value) (below : List Frame) (meth : Method) (c : Code) (D : ZD) (A : Nat → Prop) (n0 : Nat × Nat × Nat) (sz : Nat) (K : Int32 → ZM → Prop), ZF p R s m args meth c cc maxL y.cls y.name (some .int) D A al sz mc ms fr lo → c.exceptionTable.toList = (tableOf hh) → ZW p l e R s m args below meth c (MQ below (va_Qi K (ZPost D A al n0 sz) A) args s mc ms A) maxL D A al n0 (f K) 0 L0 []) : ZCi l y (wsW_ y cc maxL (some .int) hh) fr lo mc ms al av f := by
  intro D A n0 sz K μ
  refine va_MetW (cc := cc) (maxL := maxL) (ret := (some .int)) (hh := hh) hy rfl ?_
  intro p e s m args below meth c s₁ B hml hv
  obtain ⟨rfl, hv⟩ := hv
  have htb : c.exceptionTable.toList = tableOf hh := vx_table (x := y) B (atoms_spec (ws := wsW_ y cc maxL (some .int) hh) B.pre (Cond.codeWith y cc maxL (some .int) hh) List.mem_cons_self)
  rw [lg_entry_eq]
  exact body p e _ s m _ below meth c D A n0 sz K (Z.fixed (fun w h => List.mem_cons_of_mem _ h) hz B hml hv) htb μ s.heap [] 0 0 _ (Z.fst hv) (hla ▸ lv_entry av hsl) hv.2.2.2
theorem Z.metIx {f : (Int32 → ZM → Prop) → (Nat → ZM → Prop) → ZM → Prop} (hy : plainName y.cls = true) (hz : al = false → mc = 0 ∧ ms = 0) (hla : lv_args 0 av = L0) (hsl : (lg_sl av).length ≤ maxL)
    (body : ∀ (p : Program) (e : Env) (R : Room) (s : State) (m : MethodId) (args : Array Value) (below : List Frame) (meth : Method) (c : Code) (D : ZD) (A : Nat → Prop) (n0 : Nat × Nat × Nat) (sz : Nat) (K : Int32 → ZM → Prop) (Kx : Nat → ZM → Prop), ZF p R s m args meth c cc maxL y.cls y.name (some .int) D A al sz mc ms fr lo → c.exceptionTable.toList = [] → ZW p l e R s m args below meth c (vx_MQ below (va_Qi K (ZPost D A al n0 sz) A) (ZXC D A al n0 sz E Kx) args s mc ms A) maxL D A al n0 (f K Kx) 0 L0 []) : ZCix l y (ws_ y cc maxL (some .int)) fr lo mc ms al E av f := by
  intro D A n0 sz K Kx μ
  refine vx_ofW (cc := cc) (maxL := maxL) (ret := (some .int)) hy rfl ?_
  intro p e s m args below meth c s₁ B hml hno hv
  obtain ⟨rfl, hv⟩ := hv
  have htb : c.exceptionTable.toList = [] := List.eq_nil_iff_forall_not_mem.mpr (fun x hx => hno x hx)
  rw [lg_entry_eq]
  exact body p e _ s m _ below meth c D A n0 sz K Kx (Z.fixed (fun w h => List.mem_cons_of_mem _ h) hz B hml hv) htb μ s.heap [] 0 0 _ (Z.fst hv) (hla ▸ lv_entry av hsl) hv.2.2.2
theorem Z.metIWx {f : (Int32 → ZM → Prop) → (Nat → ZM → Prop) → ZM → Prop} (hy : plainName y.cls = true) (hz : al = false → mc = 0 ∧ ms = 0) (hla : lv_args 0 av = L0) (hsl : (lg_sl av).length ≤ maxL)
    (body : ∀ (p : Program) (e : Env) (R : Room) (s : State) (m : MethodId) (args : Array Value) (below : List Frame) (meth : Method) (c : Code) (D : ZD) (A : Nat → Prop) (n0 : Nat × Nat × Nat) (sz : Nat) (K : Int32 → ZM → Prop) (Kx : Nat → ZM → Prop), ZF p R s m args meth c cc maxL y.cls y.name (some .int) D A al sz mc ms fr lo → c.exceptionTable.toList = (tableOf hh) → ZW p l e R s m args below meth c (vx_MQ below (va_Qi K (ZPost D A al n0 sz) A) (ZXC D A al n0 sz E Kx) args s mc ms A) maxL D A al n0 (f K Kx) 0 L0 []) : ZCix l y (wsW_ y cc maxL (some .int) hh) fr lo mc ms al E av f := by
  intro D A n0 sz K Kx μ
  refine vx_ofWH (cc := cc) (maxL := maxL) (ret := (some .int)) (hh := hh) hy rfl ?_
  intro p e s m args below meth c s₁ B hml hv
  obtain ⟨rfl, hv⟩ := hv
  have htb : c.exceptionTable.toList = tableOf hh := vx_table (x := y) B (atoms_spec (ws := wsW_ y cc maxL (some .int) hh) B.pre (Cond.codeWith y cc maxL (some .int) hh) List.mem_cons_self)
  rw [lg_entry_eq]
  exact body p e _ s m _ below meth c D A n0 sz K Kx (Z.fixed (fun w h => List.mem_cons_of_mem _ h) hz B hml hv) htb μ s.heap [] 0 0 _ (Z.fst hv) (hla ▸ lv_entry av hsl) hv.2.2.2
theorem Z.metZ {f : (Int32 → ZM → Prop) → ZM → Prop} (hy : plainName y.cls = true) (hz : al = false → mc = 0 ∧ ms = 0) (hla : lv_args 0 av = L0) (hsl : (lg_sl av).length ≤ maxL)
    (body : ∀ (p : Program) (e : Env) (R : Room) (s : State) (m : MethodId) (args : Array Value) (below : List Frame) (meth : Method) (c : Code) (D : ZD) (A : Nat → Prop) (n0 : Nat × Nat × Nat) (sz : Nat) (K : Int32 → ZM → Prop), ZF p R s m args meth c cc maxL y.cls y.name (some .boolean) D A al sz mc ms fr lo → ZW p l e R s m args below meth c (MQ below (va_Qi K (ZPost D A al n0 sz) A) args s mc ms A) maxL D A al n0 (f K) 0 L0 []) : ZCi l y (ws_ y cc maxL (some .boolean)) fr lo mc ms al av f := by
  intro D A n0 sz K μ
  refine Met.ofW (cc := cc) (maxL := maxL) (ret := (some .boolean)) hy rfl ?_
  intro p e s m args below meth c s₁ B hml hv
  obtain ⟨rfl, hv⟩ := hv
  rw [lg_entry_eq]
  exact body p e _ s m _ below meth c D A n0 sz K (Z.fixed (fun w h => List.mem_cons_of_mem _ h) hz B hml hv) μ s.heap [] 0 0 _ (Z.fst hv) (hla ▸ lv_entry av hsl) hv.2.2.2
theorem Z.metZW {f : (Int32 → ZM → Prop) → ZM → Prop} (hy : plainName y.cls = true) (hz : al = false → mc = 0 ∧ ms = 0) (hla : lv_args 0 av = L0) (hsl : (lg_sl av).length ≤ maxL)
    (body : ∀ (p : Program) (e : Env) (R : Room) (s : State) (m : MethodId) (args : Array Value) (below : List Frame) (meth : Method) (c : Code) (D : ZD) (A : Nat → Prop) (n0 : Nat × Nat × Nat) (sz : Nat) (K : Int32 → ZM → Prop), ZF p R s m args meth c cc maxL y.cls y.name (some .boolean) D A al sz mc ms fr lo → c.exceptionTable.toList = (tableOf hh) → ZW p l e R s m args below meth c (MQ below (va_Qi K (ZPost D A al n0 sz) A) args s mc ms A) maxL D A al n0 (f K) 0 L0 []) : ZCi l y (wsW_ y cc maxL (some .boolean) hh) fr lo mc ms al av f := by
  intro D A n0 sz K μ
  refine va_MetW (cc := cc) (maxL := maxL) (ret := (some .boolean)) (hh := hh) hy rfl ?_
  intro p e s m args below meth c s₁ B hml hv
  obtain ⟨rfl, hv⟩ := hv
  have htb : c.exceptionTable.toList = tableOf hh := vx_table (x := y) B (atoms_spec (ws := wsW_ y cc maxL (some .boolean) hh) B.pre (Cond.codeWith y cc maxL (some .boolean) hh) List.mem_cons_self)
  rw [lg_entry_eq]
  exact body p e _ s m _ below meth c D A n0 sz K (Z.fixed (fun w h => List.mem_cons_of_mem _ h) hz B hml hv) htb μ s.heap [] 0 0 _ (Z.fst hv) (hla ▸ lv_entry av hsl) hv.2.2.2
theorem Z.metZx {f : (Int32 → ZM → Prop) → (Nat → ZM → Prop) → ZM → Prop} (hy : plainName y.cls = true) (hz : al = false → mc = 0 ∧ ms = 0) (hla : lv_args 0 av = L0) (hsl : (lg_sl av).length ≤ maxL)
    (body : ∀ (p : Program) (e : Env) (R : Room) (s : State) (m : MethodId) (args : Array Value) (below : List Frame) (meth : Method) (c : Code) (D : ZD) (A : Nat → Prop) (n0 : Nat × Nat × Nat) (sz : Nat) (K : Int32 → ZM → Prop) (Kx : Nat → ZM → Prop), ZF p R s m args meth c cc maxL y.cls y.name (some .boolean) D A al sz mc ms fr lo → c.exceptionTable.toList = [] → ZW p l e R s m args below meth c (vx_MQ below (va_Qi K (ZPost D A al n0 sz) A) (ZXC D A al n0 sz E Kx) args s mc ms A) maxL D A al n0 (f K Kx) 0 L0 []) : ZCix l y (ws_ y cc maxL (some .boolean)) fr lo mc ms al E av f := by
  intro D A n0 sz K Kx μ
  refine vx_ofW (cc := cc) (maxL := maxL) (ret := (some .boolean)) hy rfl ?_
  intro p e s m args below meth c s₁ B hml hno hv
  obtain ⟨rfl, hv⟩ := hv
  have htb : c.exceptionTable.toList = [] := List.eq_nil_iff_forall_not_mem.mpr (fun x hx => hno x hx)
  rw [lg_entry_eq]
  exact body p e _ s m _ below meth c D A n0 sz K Kx (Z.fixed (fun w h => List.mem_cons_of_mem _ h) hz B hml hv) htb μ s.heap [] 0 0 _ (Z.fst hv) (hla ▸ lv_entry av hsl) hv.2.2.2
theorem Z.metZWx {f : (Int32 → ZM → Prop) → (Nat → ZM → Prop) → ZM → Prop} (hy : plainName y.cls = true) (hz : al = false → mc = 0 ∧ ms = 0) (hla : lv_args 0 av = L0) (hsl : (lg_sl av).length ≤ maxL)
    (body : ∀ (p : Program) (e : Env) (R : Room) (s : State) (m : MethodId) (args : Array Value) (below : List Frame) (meth : Method) (c : Code) (D : ZD) (A : Nat → Prop) (n0 : Nat × Nat × Nat) (sz : Nat) (K : Int32 → ZM → Prop) (Kx : Nat → ZM → Prop), ZF p R s m args meth c cc maxL y.cls y.name (some .boolean) D A al sz mc ms fr lo → c.exceptionTable.toList = (tableOf hh) → ZW p l e R s m args below meth c (vx_MQ below (va_Qi K (ZPost D A al n0 sz) A) (ZXC D A al n0 sz E Kx) args s mc ms A) maxL D A al n0 (f K Kx) 0 L0 []) : ZCix l y (wsW_ y cc maxL (some .boolean) hh) fr lo mc ms al E av f := by
  intro D A n0 sz K Kx μ
  refine vx_ofWH (cc := cc) (maxL := maxL) (ret := (some .boolean)) (hh := hh) hy rfl ?_
  intro p e s m args below meth c s₁ B hml hv
  obtain ⟨rfl, hv⟩ := hv
  have htb : c.exceptionTable.toList = tableOf hh := vx_table (x := y) B (atoms_spec (ws := wsW_ y cc maxL (some .boolean) hh) B.pre (Cond.codeWith y cc maxL (some .boolean) hh) List.mem_cons_self)
  rw [lg_entry_eq]
  exact body p e _ s m _ below meth c D A n0 sz K Kx (Z.fixed (fun w h => List.mem_cons_of_mem _ h) hz B hml hv) htb μ s.heap [] 0 0 _ (Z.fst hv) (hla ▸ lv_entry av hsl) hv.2.2.2
theorem Z.metL {f : (Int64 → ZM → Prop) → ZM → Prop} (hy : plainName y.cls = true) (hz : al = false → mc = 0 ∧ ms = 0) (hla : lv_args 0 av = L0) (hsl : (lg_sl av).length ≤ maxL)
    (body : ∀ (p : Program) (e : Env) (R : Room) (s : State) (m : MethodId) (args : Array Value) (below : List Frame) (meth : Method) (c : Code) (D : ZD) (A : Nat → Prop) (n0 : Nat × Nat × Nat) (sz : Nat) (K : Int64 → ZM → Prop), ZF p R s m args meth c cc maxL y.cls y.name (some .long) D A al sz mc ms fr lo → ZW p l e R s m args below meth c (MQ below (va_Ql K (ZPost D A al n0 sz) A) args s mc ms A) maxL D A al n0 (f K) 0 L0 []) : ZCl l y (ws_ y cc maxL (some .long)) fr lo mc ms al av f := by
  intro D A n0 sz K μ
  refine Met.ofW (cc := cc) (maxL := maxL) (ret := (some .long)) hy rfl ?_
  intro p e s m args below meth c s₁ B hml hv
  obtain ⟨rfl, hv⟩ := hv
  rw [lg_entry_eq]
  exact body p e _ s m _ below meth c D A n0 sz K (Z.fixed (fun w h => List.mem_cons_of_mem _ h) hz B hml hv) μ s.heap [] 0 0 _ (Z.fst hv) (hla ▸ lv_entry av hsl) hv.2.2.2
theorem Z.metLW {f : (Int64 → ZM → Prop) → ZM → Prop} (hy : plainName y.cls = true) (hz : al = false → mc = 0 ∧ ms = 0) (hla : lv_args 0 av = L0) (hsl : (lg_sl av).length ≤ maxL)
    (body : ∀ (p : Program) (e : Env) (R : Room) (s : State) (m : MethodId) (args : Array Value) (below : List Frame) (meth : Method) (c : Code) (D : ZD) (A : Nat → Prop) (n0 : Nat × Nat × Nat) (sz : Nat) (K : Int64 → ZM → Prop), ZF p R s m args meth c cc maxL y.cls y.name (some .long) D A al sz mc ms fr lo → c.exceptionTable.toList = (tableOf hh) → ZW p l e R s m args below meth c (MQ below (va_Ql K (ZPost D A al n0 sz) A) args s mc ms A) maxL D A al n0 (f K) 0 L0 []) : ZCl l y (wsW_ y cc maxL (some .long) hh) fr lo mc ms al av f := by
  intro D A n0 sz K μ
  refine va_MetW (cc := cc) (maxL := maxL) (ret := (some .long)) (hh := hh) hy rfl ?_
  intro p e s m args below meth c s₁ B hml hv
  obtain ⟨rfl, hv⟩ := hv
  have htb : c.exceptionTable.toList = tableOf hh := vx_table (x := y) B (atoms_spec (ws := wsW_ y cc maxL (some .long) hh) B.pre (Cond.codeWith y cc maxL (some .long) hh) List.mem_cons_self)
  rw [lg_entry_eq]
  exact body p e _ s m _ below meth c D A n0 sz K (Z.fixed (fun w h => List.mem_cons_of_mem _ h) hz B hml hv) htb μ s.heap [] 0 0 _ (Z.fst hv) (hla ▸ lv_entry av hsl) hv.2.2.2
theorem Z.metLx {f : (Int64 → ZM → Prop) → (Nat → ZM → Prop) → ZM → Prop} (hy : plainName y.cls = true) (hz : al = false → mc = 0 ∧ ms = 0) (hla : lv_args 0 av = L0) (hsl : (lg_sl av).length ≤ maxL)
    (body : ∀ (p : Program) (e : Env) (R : Room) (s : State) (m : MethodId) (args : Array Value) (below : List Frame) (meth : Method) (c : Code) (D : ZD) (A : Nat → Prop) (n0 : Nat × Nat × Nat) (sz : Nat) (K : Int64 → ZM → Prop) (Kx : Nat → ZM → Prop), ZF p R s m args meth c cc maxL y.cls y.name (some .long) D A al sz mc ms fr lo → c.exceptionTable.toList = [] → ZW p l e R s m args below meth c (vx_MQ below (va_Ql K (ZPost D A al n0 sz) A) (ZXC D A al n0 sz E Kx) args s mc ms A) maxL D A al n0 (f K Kx) 0 L0 []) : ZClx l y (ws_ y cc maxL (some .long)) fr lo mc ms al E av f := by
  intro D A n0 sz K Kx μ
  refine vx_ofW (cc := cc) (maxL := maxL) (ret := (some .long)) hy rfl ?_
  intro p e s m args below meth c s₁ B hml hno hv
  obtain ⟨rfl, hv⟩ := hv
  have htb : c.exceptionTable.toList = [] := List.eq_nil_iff_forall_not_mem.mpr (fun x hx => hno x hx)
  rw [lg_entry_eq]
  exact body p e _ s m _ below meth c D A n0 sz K Kx (Z.fixed (fun w h => List.mem_cons_of_mem _ h) hz B hml hv) htb μ s.heap [] 0 0 _ (Z.fst hv) (hla ▸ lv_entry av hsl) hv.2.2.2
theorem Z.metLWx {f : (Int64 → ZM → Prop) → (Nat → ZM → Prop) → ZM → Prop} (hy : plainName y.cls = true) (hz : al = false → mc = 0 ∧ ms = 0) (hla : lv_args 0 av = L0) (hsl : (lg_sl av).length ≤ maxL)
    (body : ∀ (p : Program) (e : Env) (R : Room) (s : State) (m : MethodId) (args : Array Value) (below : List Frame) (meth : Method) (c : Code) (D : ZD) (A : Nat → Prop) (n0 : Nat × Nat × Nat) (sz : Nat) (K : Int64 → ZM → Prop) (Kx : Nat → ZM → Prop), ZF p R s m args meth c cc maxL y.cls y.name (some .long) D A al sz mc ms fr lo → c.exceptionTable.toList = (tableOf hh) → ZW p l e R s m args below meth c (vx_MQ below (va_Ql K (ZPost D A al n0 sz) A) (ZXC D A al n0 sz E Kx) args s mc ms A) maxL D A al n0 (f K Kx) 0 L0 []) : ZClx l y (wsW_ y cc maxL (some .long) hh) fr lo mc ms al E av f := by
  intro D A n0 sz K Kx μ
  refine vx_ofWH (cc := cc) (maxL := maxL) (ret := (some .long)) (hh := hh) hy rfl ?_
  intro p e s m args below meth c s₁ B hml hv
  obtain ⟨rfl, hv⟩ := hv
  have htb : c.exceptionTable.toList = tableOf hh := vx_table (x := y) B (atoms_spec (ws := wsW_ y cc maxL (some .long) hh) B.pre (Cond.codeWith y cc maxL (some .long) hh) List.mem_cons_self)
  rw [lg_entry_eq]
  exact body p e _ s m _ below meth c D A n0 sz K Kx (Z.fixed (fun w h => List.mem_cons_of_mem _ h) hz B hml hv) htb μ s.heap [] 0 0 _ (Z.fst hv) (hla ▸ lv_entry av hsl) hv.2.2.2
theorem Z.metQ {f : (Nat → ZM → Prop) → ZM → Prop} (hy : plainName y.cls = true) (hz : al = false → mc = 0 ∧ ms = 0) (hla : lv_args 0 av = L0) (hsl : (lg_sl av).length ≤ maxL)
    (body : ∀ (p : Program) (e : Env) (R : Room) (s : State) (m : MethodId) (args : Array Value) (below : List Frame) (meth : Method) (c : Code) (D : ZD) (A : Nat → Prop) (n0 : Nat × Nat × Nat) (sz : Nat) (K : Nat → ZM → Prop), ZF p R s m args meth c cc maxL y.cls y.name (some rt) D A al sz mc ms fr lo → ZW p l e R s m args below meth c (MQ below (va_Qq (zkq K) (ZPost D A al n0 sz) A) args s mc ms A) maxL D A al n0 (f K) 0 L0 []) : ZCr' l y (ws_ y cc maxL (some rt)) fr lo mc ms al av f := by
  intro D A n0 sz K μ
  refine Met.ofW (cc := cc) (maxL := maxL) (ret := (some rt)) hy rfl ?_
  intro p e s m args below meth c s₁ B hml hv
  obtain ⟨rfl, hv⟩ := hv
  rw [lg_entry_eq]
  exact body p e _ s m _ below meth c D A n0 sz K (Z.fixed (fun w h => List.mem_cons_of_mem _ h) hz B hml hv) μ s.heap [] 0 0 _ (Z.fst hv) (hla ▸ lv_entry av hsl) hv.2.2.2
theorem Z.metQW {f : (Nat → ZM → Prop) → ZM → Prop} (hy : plainName y.cls = true) (hz : al = false → mc = 0 ∧ ms = 0) (hla : lv_args 0 av = L0) (hsl : (lg_sl av).length ≤ maxL)
    (body : ∀ (p : Program) (e : Env) (R : Room) (s : State) (m : MethodId) (args : Array Value) (below : List Frame) (meth : Method) (c : Code) (D : ZD) (A : Nat → Prop) (n0 : Nat × Nat × Nat) (sz : Nat) (K : Nat → ZM → Prop), ZF p R s m args meth c cc maxL y.cls y.name (some rt) D A al sz mc ms fr lo → c.exceptionTable.toList = (tableOf hh) → ZW p l e R s m args below meth c (MQ below (va_Qq (zkq K) (ZPost D A al n0 sz) A) args s mc ms A) maxL D A al n0 (f K) 0 L0 []) : ZCr' l y (wsW_ y cc maxL (some rt) hh) fr lo mc ms al av f := by
  intro D A n0 sz K μ
  refine va_MetW (cc := cc) (maxL := maxL) (ret := (some rt)) (hh := hh) hy rfl ?_
  intro p e s m args below meth c s₁ B hml hv
  obtain ⟨rfl, hv⟩ := hv
  have htb : c.exceptionTable.toList = tableOf hh := vx_table (x := y) B (atoms_spec (ws := wsW_ y cc maxL (some rt) hh) B.pre (Cond.codeWith y cc maxL (some rt) hh) List.mem_cons_self)
  rw [lg_entry_eq]
  exact body p e _ s m _ below meth c D A n0 sz K (Z.fixed (fun w h => List.mem_cons_of_mem _ h) hz B hml hv) htb μ s.heap [] 0 0 _ (Z.fst hv) (hla ▸ lv_entry av hsl) hv.2.2.2
theorem Z.metQx {f : (Nat → ZM → Prop) → (Nat → ZM → Prop) → ZM → Prop} (hy : plainName y.cls = true) (hz : al = false → mc = 0 ∧ ms = 0) (hla : lv_args 0 av = L0) (hsl : (lg_sl av).length ≤ maxL)
    (body : ∀ (p : Program) (e : Env) (R : Room) (s : State) (m : MethodId) (args : Array Value) (below : List Frame) (meth : Method) (c : Code) (D : ZD) (A : Nat → Prop) (n0 : Nat × Nat × Nat) (sz : Nat) (K : Nat → ZM → Prop) (Kx : Nat → ZM → Prop), ZF p R s m args meth c cc maxL y.cls y.name (some rt) D A al sz mc ms fr lo → c.exceptionTable.toList = [] → ZW p l e R s m args below meth c (vx_MQ below (va_Qq (zkq K) (ZPost D A al n0 sz) A) (ZXC D A al n0 sz E Kx) args s mc ms A) maxL D A al n0 (f K Kx) 0 L0 []) : ZCrx l y (ws_ y cc maxL (some rt)) fr lo mc ms al E av f := by
  intro D A n0 sz K Kx μ
  refine vx_ofW (cc := cc) (maxL := maxL) (ret := (some rt)) hy rfl ?_
  intro p e s m args below meth c s₁ B hml hno hv
  obtain ⟨rfl, hv⟩ := hv
  have htb : c.exceptionTable.toList = [] := List.eq_nil_iff_forall_not_mem.mpr (fun x hx => hno x hx)
  rw [lg_entry_eq]
  exact body p e _ s m _ below meth c D A n0 sz K Kx (Z.fixed (fun w h => List.mem_cons_of_mem _ h) hz B hml hv) htb μ s.heap [] 0 0 _ (Z.fst hv) (hla ▸ lv_entry av hsl) hv.2.2.2
theorem Z.metQWx {f : (Nat → ZM → Prop) → (Nat → ZM → Prop) → ZM → Prop} (hy : plainName y.cls = true) (hz : al = false → mc = 0 ∧ ms = 0) (hla : lv_args 0 av = L0) (hsl : (lg_sl av).length ≤ maxL)
    (body : ∀ (p : Program) (e : Env) (R : Room) (s : State) (m : MethodId) (args : Array Value) (below : List Frame) (meth : Method) (c : Code) (D : ZD) (A : Nat → Prop) (n0 : Nat × Nat × Nat) (sz : Nat) (K : Nat → ZM → Prop) (Kx : Nat → ZM → Prop), ZF p R s m args meth c cc maxL y.cls y.name (some rt) D A al sz mc ms fr lo → c.exceptionTable.toList = (tableOf hh) → ZW p l e R s m args below meth c (vx_MQ below (va_Qq (zkq K) (ZPost D A al n0 sz) A) (ZXC D A al n0 sz E Kx) args s mc ms A) maxL D A al n0 (f K Kx) 0 L0 []) : ZCrx l y (wsW_ y cc maxL (some rt) hh) fr lo mc ms al E av f := by
  intro D A n0 sz K Kx μ
  refine vx_ofWH (cc := cc) (maxL := maxL) (ret := (some rt)) (hh := hh) hy rfl ?_
  intro p e s m args below meth c s₁ B hml hv
  obtain ⟨rfl, hv⟩ := hv
  have htb : c.exceptionTable.toList = tableOf hh := vx_table (x := y) B (atoms_spec (ws := wsW_ y cc maxL (some rt) hh) B.pre (Cond.codeWith y cc maxL (some rt) hh) List.mem_cons_self)
  rw [lg_entry_eq]
  exact body p e _ s m _ below meth c D A n0 sz K Kx (Z.fixed (fun w h => List.mem_cons_of_mem _ h) hz B hml hv) htb μ s.heap [] 0 0 _ (Z.fst hv) (hla ▸ lv_entry av hsl) hv.2.2.2
theorem Z.metV {f : (ZM → Prop) → ZM → Prop} (hy : plainName y.cls = true) (hz : al = false → mc = 0 ∧ ms = 0) (hla : lv_args 0 av = L0) (hsl : (lg_sl av).length ≤ maxL)
    (body : ∀ (p : Program) (e : Env) (R : Room) (s : State) (m : MethodId) (args : Array Value) (below : List Frame) (meth : Method) (c : Code) (D : ZD) (A : Nat → Prop) (n0 : Nat × Nat × Nat) (sz : Nat) (K : ZM → Prop), ZF p R s m args meth c cc maxL y.cls y.name none D A al sz mc ms fr lo → ZW p l e R s m args below meth c (MQ below (va_Qv K (ZPost D A al n0 sz) A) args s mc ms A) maxL D A al n0 (f K) 0 L0 []) : ZCv l y (ws_ y cc maxL none) fr lo mc ms al av f := by
  intro D A n0 sz K μ
  refine Met.ofW (cc := cc) (maxL := maxL) (ret := none) hy rfl ?_
  intro p e s m args below meth c s₁ B hml hv
  obtain ⟨rfl, hv⟩ := hv
  rw [lg_entry_eq]
  exact body p e _ s m _ below meth c D A n0 sz K (Z.fixed (fun w h => List.mem_cons_of_mem _ h) hz B hml hv) μ s.heap [] 0 0 _ (Z.fst hv) (hla ▸ lv_entry av hsl) hv.2.2.2
theorem Z.metVW {f : (ZM → Prop) → ZM → Prop} (hy : plainName y.cls = true) (hz : al = false → mc = 0 ∧ ms = 0) (hla : lv_args 0 av = L0) (hsl : (lg_sl av).length ≤ maxL)
    (body : ∀ (p : Program) (e : Env) (R : Room) (s : State) (m : MethodId) (args : Array Value) (below : List Frame) (meth : Method) (c : Code) (D : ZD) (A : Nat → Prop) (n0 : Nat × Nat × Nat) (sz : Nat) (K : ZM → Prop), ZF p R s m args meth c cc maxL y.cls y.name none D A al sz mc ms fr lo → c.exceptionTable.toList = (tableOf hh) → ZW p l e R s m args below meth c (MQ below (va_Qv K (ZPost D A al n0 sz) A) args s mc ms A) maxL D A al n0 (f K) 0 L0 []) : ZCv l y (wsW_ y cc maxL none hh) fr lo mc ms al av f := by
  intro D A n0 sz K μ
  refine va_MetW (cc := cc) (maxL := maxL) (ret := none) (hh := hh) hy rfl ?_
  intro p e s m args below meth c s₁ B hml hv
  obtain ⟨rfl, hv⟩ := hv
  have htb : c.exceptionTable.toList = tableOf hh := vx_table (x := y) B (atoms_spec (ws := wsW_ y cc maxL none hh) B.pre (Cond.codeWith y cc maxL none hh) List.mem_cons_self)
  rw [lg_entry_eq]
  exact body p e _ s m _ below meth c D A n0 sz K (Z.fixed (fun w h => List.mem_cons_of_mem _ h) hz B hml hv) htb μ s.heap [] 0 0 _ (Z.fst hv) (hla ▸ lv_entry av hsl) hv.2.2.2
theorem Z.metVx {f : (ZM → Prop) → (Nat → ZM → Prop) → ZM → Prop} (hy : plainName y.cls = true) (hz : al = false → mc = 0 ∧ ms = 0) (hla : lv_args 0 av = L0) (hsl : (lg_sl av).length ≤ maxL)
    (body : ∀ (p : Program) (e : Env) (R : Room) (s : State) (m : MethodId) (args : Array Value) (below : List Frame) (meth : Method) (c : Code) (D : ZD) (A : Nat → Prop) (n0 : Nat × Nat × Nat) (sz : Nat) (K : ZM → Prop) (Kx : Nat → ZM → Prop), ZF p R s m args meth c cc maxL y.cls y.name none D A al sz mc ms fr lo → c.exceptionTable.toList = [] → ZW p l e R s m args below meth c (vx_MQ below (va_Qv K (ZPost D A al n0 sz) A) (ZXC D A al n0 sz E Kx) args s mc ms A) maxL D A al n0 (f K Kx) 0 L0 []) : ZCvx l y (ws_ y cc maxL none) fr lo mc ms al E av f := by
  intro D A n0 sz K Kx μ
  refine vx_ofW (cc := cc) (maxL := maxL) (ret := none) hy rfl ?_
  intro p e s m args below meth c s₁ B hml hno hv
  obtain ⟨rfl, hv⟩ := hv
  have htb : c.exceptionTable.toList = [] := List.eq_nil_iff_forall_not_mem.mpr (fun x hx => hno x hx)
  rw [lg_entry_eq]
  exact body p e _ s m _ below meth c D A n0 sz K Kx (Z.fixed (fun w h => List.mem_cons_of_mem _ h) hz B hml hv) htb μ s.heap [] 0 0 _ (Z.fst hv) (hla ▸ lv_entry av hsl) hv.2.2.2
theorem Z.metVWx {f : (ZM → Prop) → (Nat → ZM → Prop) → ZM → Prop} (hy : plainName y.cls = true) (hz : al = false → mc = 0 ∧ ms = 0) (hla : lv_args 0 av = L0) (hsl : (lg_sl av).length ≤ maxL)
    (body : ∀ (p : Program) (e : Env) (R : Room) (s : State) (m : MethodId) (args : Array Value) (below : List Frame) (meth : Method) (c : Code) (D : ZD) (A : Nat → Prop) (n0 : Nat × Nat × Nat) (sz : Nat) (K : ZM → Prop) (Kx : Nat → ZM → Prop), ZF p R s m args meth c cc maxL y.cls y.name none D A al sz mc ms fr lo → c.exceptionTable.toList = (tableOf hh) → ZW p l e R s m args below meth c (vx_MQ below (va_Qv K (ZPost D A al n0 sz) A) (ZXC D A al n0 sz E Kx) args s mc ms A) maxL D A al n0 (f K Kx) 0 L0 []) : ZCvx l y (wsW_ y cc maxL none hh) fr lo mc ms al E av f := by
  intro D A n0 sz K Kx μ
  refine vx_ofWH (cc := cc) (maxL := maxL) (ret := none) (hh := hh) hy rfl ?_
  intro p e s m args below meth c s₁ B hml hv
  obtain ⟨rfl, hv⟩ := hv
  have htb : c.exceptionTable.toList = tableOf hh := vx_table (x := y) B (atoms_spec (ws := wsW_ y cc maxL none hh) B.pre (Cond.codeWith y cc maxL none hh) List.mem_cons_self)
  rw [lg_entry_eq]
  exact body p e _ s m _ below meth c D A n0 sz K Kx (Z.fixed (fun w h => List.mem_cons_of_mem _ h) hz B hml hv) htb μ s.heap [] 0 0 _ (Z.fst hv) (hla ▸ lv_entry av hsl) hv.2.2.2
end ZStart
section ZJdk
variable {p : Program} {l : Launch} {e : Env} {R : Room} {s : State} {m : MethodId} {args : Array Value} {below : List Frame} {meth : Method} {c : Code} {Q : State → Prop} {nL : Nat} {D : ZD} {A : Nat → Prop} {al : Bool} {n0 : Nat × Nat × Nat} {cc : ByteArray} {own nm : String} {ret : Option FieldType} {sz mc ms fr lo : Nat}
variable {P : ZM → Prop} {pc i : Nat} {L : List (Nat × Value)} {st st0 : List Value} {v x y : Int32} {w a b : Int64} {H H1 : Heap} {locs : List Loc} {cells slots : Nat} {ls : Array Slot} {μ μ' : ZM}
theorem Z.cR (F : ZF p R s m args meth c cc nL own nm ret D A al sz mc ms fr lo) (hI : ZI D A al n0 R s cells slots μ H locs) : cells ≤ R.cells ∧ slots ≤ R.slots := by
  have h := Z.endB F hI
  rw [F.hRc, F.hRs]
  exact h
theorem Z.mmax (F : ZF p R s m args meth c cc nL own nm ret D A al sz mc ms fr lo) {index : Nat} (hq : Cond.methodLink own index Lib.Math.max.name ∈ lw_all) (h1 : 1 ≤ fr) (h2 : 8 + 13 ≤ lo) (h4 : zlw st) (hdg : decode cc pc = .ok (.invokestatic index, 3)) (k : ZW p l e R s m args below meth c Q nL D A al n0 P (pc + 3) L (.int (if x < y then y else x) :: st)) : ZW p l e R s m args below meth c Q nL D A al n0 P pc L (.int y :: .int x :: st) :=
  fun μ H locs cells slots ls hI h hP => va_mmax F.hx F.hb (F.hml.trans h.1.symm) F.hown (F.hts _ hq) (F.hts _ q662) (F.hts _ q137) (F.hts _ q663) (by rw [F.hRf]; exact h1) (by have h9 : (st.map fun v => v.category).sum ≤ 8 := h4; rw [F.hRl]; omega) (Z.cR F hI).1 (Z.cR F hI).2 hdg (k μ H locs cells slots ls hI h hP)
theorem Z.mmin (F : ZF p R s m args meth c cc nL own nm ret D A al sz mc ms fr lo) {index : Nat} (hq : Cond.methodLink own index Lib.Math.min.name ∈ lw_all) (h1 : 1 ≤ fr) (h2 : 8 + 13 ≤ lo) (h4 : zlw st) (hdg : decode cc pc = .ok (.invokestatic index, 3)) (k : ZW p l e R s m args below meth c Q nL D A al n0 P (pc + 3) L (.int (if y < x then y else x) :: st)) : ZW p l e R s m args below meth c Q nL D A al n0 P pc L (.int y :: .int x :: st) :=
  fun μ H locs cells slots ls hI h hP => va_mmin F.hx F.hb (F.hml.trans h.1.symm) F.hown (F.hts _ hq) (F.hts _ q665) (F.hts _ q137) (F.hts _ q666) (by rw [F.hRf]; exact h1) (by have h9 : (st.map fun v => v.category).sum ≤ 8 := h4; rw [F.hRl]; omega) (Z.cR F hI).1 (Z.cR F hI).2 hdg (k μ H locs cells slots ls hI h hP)
theorem Z.mabs (F : ZF p R s m args meth c cc nL own nm ret D A al sz mc ms fr lo) {index : Nat} (hq : Cond.methodLink own index Lib.Math.abs.name ∈ lw_all) (h1 : 1 ≤ fr) (h2 : 8 + 13 ≤ lo) (h4 : zlw st) (hdg : decode cc pc = .ok (.invokestatic index, 3)) (k : ZW p l e R s m args below meth c Q nL D A al n0 P (pc + 3) L (.int (if 0 ≤ x then x else 0 - x) :: st)) : ZW p l e R s m args below meth c Q nL D A al n0 P pc L (.int x :: st) :=
  fun μ H locs cells slots ls hI h hP => va_mabs F.hx F.hb (F.hml.trans h.1.symm) F.hown (F.hts _ hq) (F.hts _ q1063) (F.hts _ q137) (F.hts _ q1064) (by rw [F.hRf]; exact h1) (by have h9 : (st.map fun v => v.category).sum ≤ 8 := h4; rw [F.hRl]; omega) (Z.cR F hI).1 (Z.cR F hI).2 hdg (k μ H locs cells slots ls hI h hP)
theorem Z.lmin (F : ZF p R s m args meth c cc nL own nm ret D A al sz mc ms fr lo) {index : Nat} (hq : Cond.methodLink own index Lib.MathLoose.min_long.x ∈ lw_all) (h1 : 1 ≤ fr) (h2 : 8 + 15 ≤ lo) (h4 : zlw st) (hdg : decode cc pc = .ok (.invokestatic index, 3)) (k : ZW p l e R s m args below meth c Q nL D A al n0 P (pc + 3) L (.long (if a < b then a else b) :: st)) : ZW p l e R s m args below meth c Q nL D A al n0 P pc L (.long a :: .long b :: st) := by
  intro μ H locs cells slots ls hI h hP
  refine va_mmin_long F.hx F.hb (F.hml.trans h.1.symm) F.hown (F.hts _ hq) (F.hts _ q1399) (F.hts _ q137) (F.hts _ q1400) (by rw [F.hRf]; exact h1) (by have h9 : (st.map fun v => v.category).sum ≤ 8 := h4; rw [F.hRl]; omega) (Z.cR F hI).1 (Z.cR F hI).2 hdg ?_
  exact k μ H locs cells slots ls hI h hP
/-- Object's constructor -/
theorem Z.objI (F : ZF p R s m args meth c cc nL own nm ret D A al sz mc ms fr lo) {idx z : Nat} (hq : Cond.methodLink own idx Lib.objectInit ∈ lw_all) (h1 : 1 ≤ fr) (h2 : 8 + 12 ≤ lo) (h4 : zlw st) (hdg : decode cc pc = .ok (.invokespecial idx, 3)) (k : ZW p l e R s m args below meth c Q nL D A al n0 P (pc + 3) L st) : ZW p l e R s m args below meth c Q nL D A al n0 (zne z 0 P) pc L (zv z :: st) := by
  intro μ H locs cells slots ls hI h hP
  obtain ⟨hz, hP⟩ := hP
  cases z with
  | zero => exact absurd rfl hz
  | succ n =>
    exact W.objInit F.hx F.hb F.hown (F.hts _ hq) (F.hts _ q177) (F.hts _ q178) rfl (F.hml ▸ h.1) rfl hdg (by rw [F.hRf]; exact h1) (by have h9 : (st.map fun v => v.category).sum ≤ 8 := h4; show 2 * 0 + _ + 12 ≤ _; rw [F.hRl]; omega) (k μ H locs cells slots ls hI h hP)
theorem Z.cpy (F : ZF p R s m args meth c cc nL own nm ret D A al sz mc ms fr lo) {index za zb : Nat} {sp dp n : Int32} (hq : Cond.methodLink own index arraycopyName ∈ lw_all) (hfr : 1 ≤ fr) (hlo : 8 + (nativeFrameWords "java/lang/System" "arraycopy" 5 + 11) ≤ lo) (h4 : zlw st) (hdg : decode cc pc = .ok (.invokestatic index, 3)) (k : ZW p l e R s m args below meth c Q nL D A al n0 P (pc + 3) L st) : ZW p l e R s m args below meth c Q nL D A al n0 (zcy za sp zb dp n P) pc L (.int n :: .int dp :: zv zb :: .int sp :: zv za :: st) := by
  have nn : ∀ z : Int32, ¬ z < 0 → z.toInt = (z.toNatClampNeg : Int) := by
    intro z hz
    have hz0 : (0 : Int) ≤ z.toInt := by
      have := Int32.not_lt.mp hz
      simpa using Int32.le_iff_toInt_le.mp this
    show z.toInt = ((z.toInt.toNat : Nat) : Int)
    omega
  intro μ H locs cells slots ls hI h hP
  obtain ⟨ta, tb, h1, h2, h3, h5, h6, hP⟩ := hP
  obtain ⟨a0, rfl, hA0, hat0⟩ := hI.1.cell ta (by decide)
  obtain ⟨a1, rfl, hA1, hat1⟩ := hI.1.cell tb (by decide)
  rw [show 50 = 0 + 50 from rfl, zce_a] at hat0 hat1
  have hc0 : H[a0]? = some (vp_cell (D.2.1 0) (zN μ (a0 + 1), .inl (zI μ (a0 + 1)))) := hat0
  have hc1 : H[a1]? = some (vp_cell (D.2.1 0) (zN μ (a1 + 1), .inl (zI μ (a1 + 1)))) := hat1
  have hK0 := F.hK.2 0 _ rfl
  obtain ⟨-, k0, hk0, cm0, hkk0⟩ := hK0.1 (zN μ (a0 + 1)) (fun j => .int (zI μ (a0 + 1) j))
  intro T hT X
  obtain ⟨vm', X', step⟩ := X.arraycopy F.hx F.hown (F.hts _ hq) (F.hts _ q1029) (F.hts _ q1028) (F.hts _ q148) (src := a0) (dst := a1) (cs := vp_cell (D.2.1 0) (zN μ (a0 + 1), .inl (zI μ (a0 + 1)))) (cd := vp_cell (D.2.1 0) (zN μ (a1 + 1), .inl (zI μ (a1 + 1)))) (srcPos := sp) (destPos := dp) (n := n) (by rw [hT]; exact hc0) (by rw [hT]; exact hc1)
    (fun _ h => by cases h) (fun _ h => by cases h) (fun h => by cases h) (fun h => by cases h) hk0 hk0 hkk0 hkk0 (by simp [refKind]) h1 h2 h3
    (by rw [nn sp h1, nn n h3]; show ¬ _ > ((arrV (D.2.1 0) (zN μ (a0 + 1)) (fun j => .int (zI μ (a0 + 1) j))).slots.size : Int); rw [arrV_size]; omega)
    (by rw [nn dp h2, nn n h3]; show ¬ _ > ((arrV (D.2.1 0) (zN μ (a1 + 1)) (fun j => .int (zI μ (a1 + 1) j))).slots.size : Int); rw [arrV_size]; omega)
    (fun vm₁ _ i hi => by
      have e : (vp_cell (D.2.1 0) (zN μ (a0 + 1), .inl (zI μ (a0 + 1)))).slots.getD (sp.toNatClampNeg + i) .null = .int (zI μ (a0 + 1) (sp.toNatClampNeg + i)) := by
        show (arrV (D.2.1 0) (zN μ (a0 + 1)) (fun j => .int (zI μ (a0 + 1) j))).slots.getD _ _ = _
        rw [Array.getD_eq_getD_getElem?, arrV_read _ _ (by omega)]
        rfl
      refine ⟨?_, ?_⟩
      · rw [e]
        rfl
      · rw [e]
        exact trivial)
    (g := F0 m pc ls (.int n :: .int dp :: .ref a1 :: .int sp :: .ref a0 :: st)) rfl (by rw [F.hml]; exact h.1) (rest := st) rfl (by rw [F.hb]; exact hdg) (by rw [F.hRf]; exact hfr) (by have h9 : (st.map fun v => v.category).sum ≤ 8 := h4; show 2 * 0 + _ + _ ≤ _; rw [F.hRl]; omega)
  have e1 : copied (vp_cell (D.2.1 0) (zN μ (a0 + 1), .inl (zI μ (a0 + 1)))) (vp_cell (D.2.1 0) (zN μ (a1 + 1), .inl (zI μ (a1 + 1)))) sp dp n = vp_cell (D.2.1 0) (zN μ (a1 + 1), .inl (va_cpy (zI μ (a0 + 1)) (zI μ (a1 + 1)) sp.toNatClampNeg dp.toNatClampNeg n.toNatClampNeg)) := va_copied (fun z => .int z) (D.2.1 0) (D.2.1 0) (zI μ (a0 + 1)) (zI μ (a1 + 1)) h5
  rw [e1] at X' step
  have hl : a1 < H.size := (Array.getElem?_eq_some_iff.mp hc1).1
  generalize hcell : vp_cell (D.2.1 0) (zN μ (a1 + 1), .inl (va_cpy (zI μ (a0 + 1)) (zI μ (a1 + 1)) sp.toNatClampNeg dp.toNatClampNeg n.toNatClampNeg)) = cell at X' step
  have hheap : ((T.setVm vm').setCell a1 cell).heap = H.setIfInBounds a1 cell := by rw [← hT]; rfl
  have oq : ∀ q : Nat, q ≠ a1 → (H.setIfInBounds a1 cell)[q]? = H[q]? := fun q hq => by simp [Array.getElem?_setIfInBounds, Ne.symm hq]
  have hat2 : va_at D.1 zCl (a1, zce D (zT μ (a1 + 1)) (zN μ (a1 + 1)) (va_cpy (zI μ (a0 + 1)) (zI μ (a1 + 1)) sp.toNatClampNeg dp.toNatClampNeg n.toNatClampNeg) (zL μ (a1 + 1)) (zR μ (a1 + 1))) (H.setIfInBounds a1 cell) := by
    rw [tb, show 50 = 0 + 50 from rfl, zce_a]
    show (H.setIfInBounds a1 cell)[a1]? = some _
    rw [← hcell]
    simp [Array.getElem?_setIfInBounds, hl, zarr]
  have hR1 : ZR D A (zcp μ (a0 + 1) sp.toNatClampNeg (a1 + 1) dp.toNatClampNeg n.toNatClampNeg) (H.setIfInBounds a1 cell) := by
    refine hI.1.put (n := a1) ?_ hA1 oq rfl rfl rfl ?_
    · simp only [zcp, zI_mk, zL_mk, zR_mk, zu1_eq]
      exact hat2
    · intro a ha
      simp only [zcp, zI_mk, zL_mk, zR_mk, zu1_ne ha]
      exact ⟨trivial, trivial, trivial⟩
  obtain ⟨t, b1, b2⟩ := k _ _ _ _ _ ls ⟨hR1, ⟨by simp; exact hI.2.1.1, fun q g1 g2 => by
      rw [oq q (fun e => g2 (by rw [e]; exact hA1))]
      exact hI.2.1.2.1 q g1 g2, fun q hq => by
      rcases List.mem_append.mp hq with h | h
      · exact hI.2.1.2.2 q h
      · obtain ⟨z, -, hz⟩ := List.mem_map.mp h
        rw [← hz]
        exact hA1⟩, hI.2.2.put (by simp) rfl rfl rfl⟩ h hP _ hheap X'
  exact ⟨t, step t b1, b2⟩
end ZJdk
