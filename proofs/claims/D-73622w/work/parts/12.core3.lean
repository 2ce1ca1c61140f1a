/-! ROWS -/
section ZRows
variable {p : Program} {l : Launch} {e : Env} {R : Room} {s : State} {m : MethodId} {args : Array Value} {below : List Frame} {meth : Method} {c : Code} {Q : State → Prop} {nL : Nat} {D : ZD} {A : Nat → Prop} {al : Bool} {n0 : Nat × Nat × Nat} {cc : ByteArray} {own nm : String} {ret : Option FieldType} {sz mc ms fr lo : Nat}
variable {P P1 P2 : ZM → Prop} {pc tgt i : Nat} {L L' : List (Nat × Value)} {st : List Value} {off : Int} {x y v : Int32} {a b d w : Int64} {va vb : Value}
theorem ZF.hx (F : ZF p R s m args meth c cc nL own nm ret D A al sz mc ms fr lo) : p.tables.exec = Jvm.exec := F.1
theorem ZF.hb (F : ZF p R s m args meth c cc nL own nm ret D A al sz mc ms fr lo) : c.code = cc := F.2.1
theorem ZF.hml (F : ZF p R s m args meth c cc nL own nm ret D A al sz mc ms fr lo) : c.maxLocals = nL := F.2.2.1
theorem ZF.hown (F : ZF p R s m args meth c cc nL own nm ret D A al sz mc ms fr lo) : s.vm.findClass own = some m.cls := F.2.2.2.1
theorem ZF.hts (F : ZF p R s m args meth c cc nL own nm ret D A al sz mc ms fr lo) : ∀ w ∈ lw_all, w.before args s = true := F.2.2.2.2.1
theorem ZF.hS (F : ZF p R s m args meth c cc nL own nm ret D A al sz mc ms fr lo) : ZS D A s := F.2.2.2.2.2.1
theorem ZF.hK (F : ZF p R s m args meth c cc nL own nm ret D A al sz mc ms fr lo) : va_K D.1 zCl (zAt D.2.1) s := F.2.2.2.2.2.1.1
theorem ZF.hlocks (F : ZF p R s m args meth c cc nL own nm ret D A al sz mc ms fr lo) : meth.locks = false := F.2.2.2.2.2.2.1
theorem ZF.hr (F : ZF p R s m args meth c cc nL own nm ret D A al sz mc ms fr lo) : meth.sig.returnType = ret := F.2.2.2.2.2.2.2.1
theorem ZF.hnm (F : ZF p R s m args meth c cc nL own nm ret D A al sz mc ms fr lo) : meth.name = nm := F.2.2.2.2.2.2.2.2.1
theorem ZF.hRc (F : ZF p R s m args meth c cc nL own nm ret D A al sz mc ms fr lo) : R.cells = mc := F.2.2.2.2.2.2.2.2.2.1
theorem ZF.hRs (F : ZF p R s m args meth c cc nL own nm ret D A al sz mc ms fr lo) : R.slots = ms := F.2.2.2.2.2.2.2.2.2.2.1
theorem ZF.hz (F : ZF p R s m args meth c cc nL own nm ret D A al sz mc ms fr lo) : al = false → s.heap.size = sz ∧ mc = 0 ∧ ms = 0 := F.2.2.2.2.2.2.2.2.2.2.2.1
theorem ZF.hRf (F : ZF p R s m args meth c cc nL own nm ret D A al sz mc ms fr lo) : R.frames = fr := F.2.2.2.2.2.2.2.2.2.2.2.2.1
theorem ZF.hRl (F : ZF p R s m args meth c cc nL own nm ret D A al sz mc ms fr lo) : R.locals = lo := F.2.2.2.2.2.2.2.2.2.2.2.2.2
/-- fewer locals, in another order -/
theorem Z.sub (ks : List Nat) (hl : lv_pick L ks = L') (k : ZW p l e R s m args below meth c Q nL D A al n0 P pc L' st) : ZW p l e R s m args below meth c Q nL D A al n0 P pc L st :=
  fun μ H locs cells slots ls hI h hP => k μ H locs cells slots ls hI (lv_sub h ks hl) hP
theorem Z.nmI {K : Int32 → ZM → Prop} (k : ∀ v, ZW p l e R s m args below meth c Q nL D A al n0 (K v) pc L (.int v :: st)) : ZW p l e R s m args below meth c Q nL D A al n0 (znm x K) pc L (.int x :: st) := k x
theorem Z.nmJ {K : Int64 → ZM → Prop} (k : ∀ v, ZW p l e R s m args below meth c Q nL D A al n0 (K v) pc L (.long v :: st)) : ZW p l e R s m args below meth c Q nL D A al n0 (znm a K) pc L (.long a :: st) := k a
theorem Z.imp (hPP : ∀ μ, P μ → P1 μ) (k : ZW p l e R s m args below meth c Q nL D A al n0 P1 pc L st) : ZW p l e R s m args below meth c Q nL D A al n0 P pc L st :=
  fun μ H locs cells slots ls hI h hP => k μ H locs cells slots ls hI h (hPP μ hP)
theorem Z.iconst (F : ZF p R s m args meth c cc nL own nm ret D A al sz mc ms fr lo) {n : Int} (hv : Int32.ofInt n = v) (hdg : decode cc pc = .ok (.iconst n, 1)) (k : ZW p l e R s m args below meth c Q nL D A al n0 P (pc + 1) L (.int v :: st)) : ZW p l e R s m args below meth c Q nL D A al n0 P pc L st := fun μ H locs cells slots ls hI h hP => lv_iconst F.hx F.hb hdg hv (k μ H locs cells slots ls hI h hP)
theorem Z.bipush (F : ZF p R s m args meth c cc nL own nm ret D A al sz mc ms fr lo) {n : Int} (hv : (Int8.ofInt n).toInt32 = v) (hdg : decode cc pc = .ok (.bipush n, 2)) (k : ZW p l e R s m args below meth c Q nL D A al n0 P (pc + 2) L (.int v :: st)) : ZW p l e R s m args below meth c Q nL D A al n0 P pc L st := fun μ H locs cells slots ls hI h hP => lv_bipush F.hx F.hb hdg hv (k μ H locs cells slots ls hI h hP)
theorem Z.sipush (F : ZF p R s m args meth c cc nL own nm ret D A al sz mc ms fr lo) {n : Int} (hv : (Int16.ofInt n).toInt32 = v) (hdg : decode cc pc = .ok (.sipush n, 3)) (k : ZW p l e R s m args below meth c Q nL D A al n0 P (pc + 3) L (.int v :: st)) : ZW p l e R s m args below meth c Q nL D A al n0 P pc L st := fun μ H locs cells slots ls hI h hP => lv_sipush F.hx F.hb hdg hv (k μ H locs cells slots ls hI h hP)
theorem Z.lconst (F : ZF p R s m args meth c cc nL own nm ret D A al sz mc ms fr lo) {n : Fin 2} (hv : Int64.ofNat (n : Nat) = w) (hdg : decode cc pc = .ok (.lconst n, 1)) (k : ZW p l e R s m args below meth c Q nL D A al n0 P (pc + 1) L (.long w :: st)) : ZW p l e R s m args below meth c Q nL D A al n0 P pc L st := fun μ H locs cells slots ls hI h hP => lv_lconst F.hx F.hb hdg hv (k μ H locs cells slots ls hI h hP)
theorem Z.ldc2 (F : ZF p R s m args meth c cc nL own nm ret D A al sz mc ms fr lo) {index : Nat} (hq : Cond.constantLong own index w ∈ lw_all) (hdg : decode cc pc = .ok (.ldc2_w index, 3)) (k : ZW p l e R s m args below meth c Q nL D A al n0 P (pc + 3) L (.long w :: st)) : ZW p l e R s m args below meth c Q nL D A al n0 P pc L st := fun μ H locs cells slots ls hI h hP => lv_ldc2 F.hx F.hb F.hown (F.hts _ hq) hdg (k μ H locs cells slots ls hI h hP)
theorem Z.ldcI (F : ZF p R s m args meth c cc nL own nm ret D A al sz mc ms fr lo) {index : Nat} (hq : Cond.constant own index v ∈ lw_all) (hdg : decode cc pc = .ok (.ldc index, 2)) (k : ZW p l e R s m args below meth c Q nL D A al n0 P (pc + 2) L (.int v :: st)) : ZW p l e R s m args below meth c Q nL D A al n0 P pc L st := fun μ H locs cells slots ls hI h hP => lv_ldc F.hx F.hb F.hown (F.hts _ hq) hdg (k μ H locs cells slots ls hI h hP)
theorem Z.iload_n (F : ZF p R s m args meth c cc nL own nm ret D A al sz mc ms fr lo) {q : Fin 4} {z : Int32} (k0 : Nat) (hk0 : L[k0]? = some ((q : Nat), .int z)) (hdg : decode cc pc = .ok (.iload_n q, 1)) (k : ZW p l e R s m args below meth c Q nL D A al n0 P (pc + 1) L (.int z :: st)) : ZW p l e R s m args below meth c Q nL D A al n0 P pc L st := fun μ H locs cells slots ls hI h hP => lv_iload_n F.hx F.hb hdg rfl (lv_at h k0 hk0) (k μ H locs cells slots ls hI h hP)
theorem Z.iload (F : ZF p R s m args meth c cc nL own nm ret D A al sz mc ms fr lo) {q : Nat} {z : Int32} (k0 : Nat) (hk0 : L[k0]? = some (q, .int z)) (hdg : decode cc pc = .ok (.iload q, 2)) (k : ZW p l e R s m args below meth c Q nL D A al n0 P (pc + 2) L (.int z :: st)) : ZW p l e R s m args below meth c Q nL D A al n0 P pc L st := fun μ H locs cells slots ls hI h hP => lv_iload F.hx F.hb hdg (lv_at h k0 hk0) (k μ H locs cells slots ls hI h hP)
theorem Z.lload_n (F : ZF p R s m args meth c cc nL own nm ret D A al sz mc ms fr lo) {q : Fin 4} {z : Int64} (k0 : Nat) (hk0 : L[k0]? = some ((q : Nat), .long z)) (hdg : decode cc pc = .ok (.lload_n q, 1)) (k : ZW p l e R s m args below meth c Q nL D A al n0 P (pc + 1) L (.long z :: st)) : ZW p l e R s m args below meth c Q nL D A al n0 P pc L st := fun μ H locs cells slots ls hI h hP => lv_lload_n F.hx F.hb hdg rfl (lv_at h k0 hk0) (k μ H locs cells slots ls hI h hP)
theorem Z.lload (F : ZF p R s m args meth c cc nL own nm ret D A al sz mc ms fr lo) {q : Nat} {z : Int64} (k0 : Nat) (hk0 : L[k0]? = some (q, .long z)) (hdg : decode cc pc = .ok (.lload q, 2)) (k : ZW p l e R s m args below meth c Q nL D A al n0 P (pc + 2) L (.long z :: st)) : ZW p l e R s m args below meth c Q nL D A al n0 P pc L st := fun μ H locs cells slots ls hI h hP => lv_lload F.hx F.hb hdg (lv_at h k0 hk0) (k μ H locs cells slots ls hI h hP)
theorem Z.aload_n (F : ZF p R s m args meth c cc nL own nm ret D A al sz mc ms fr lo) {q : Fin 4} {z : Nat} (k0 : Nat) (hk0 : L[k0]? = some ((q : Nat), zv z)) (hdg : decode cc pc = .ok (.aload_n q, 1)) (k : ZW p l e R s m args below meth c Q nL D A al n0 P (pc + 1) L (zv z :: st)) : ZW p l e R s m args below meth c Q nL D A al n0 P pc L st := by
  intro μ H locs cells slots ls hI h hP
  have h1 := k μ H locs cells slots ls hI h hP
  have h2 := lv_at h k0 hk0
  cases z with
  | zero => exact lv_aload_nN F.hx F.hb hdg rfl h2 h1
  | succ n => exact lv_aload_n F.hx F.hb hdg rfl h2 h1
theorem Z.aload (F : ZF p R s m args meth c cc nL own nm ret D A al sz mc ms fr lo) {q z : Nat} (k0 : Nat) (hk0 : L[k0]? = some (q, zv z)) (hdg : decode cc pc = .ok (.aload q, 2)) (k : ZW p l e R s m args below meth c Q nL D A al n0 P (pc + 2) L (zv z :: st)) : ZW p l e R s m args below meth c Q nL D A al n0 P pc L st := by
  intro μ H locs cells slots ls hI h hP
  have h1 := k μ H locs cells slots ls hI h hP
  have h2 := lv_at h k0 hk0
  cases z with
  | zero => exact lv_aloadN F.hx F.hb hdg h2 h1
  | succ n => exact lv_aload F.hx F.hb hdg h2 h1
theorem lv_mem {ls : Array Slot} {nL : Nat} {l l' : List (Nat × Value)} (h : lv_has ls nL l) (hl : ∀ q ∈ l', q ∈ l) : lv_has ls nL l' := ⟨h.1, h.2.1, fun q hq => h.2.2 q (hl q hq)⟩
/-- whether an entry survives a store at i: another place, and no long just below it -/
def zok (i : Nat) (q : Nat × Value) : Prop := q.1 ≠ i ∧ (q.1 + 1 ≠ i ∨ q.2.category = 1)
def zok2 (i : Nat) (q : Nat × Value) : Prop := q.1 ≠ i ∧ q.1 ≠ i + 1 ∧ (q.1 + 1 ≠ i ∨ q.2.category = 1)
theorem zok_f {i : Nat} {q : Nat × Value} (h : zok i q) : (!(q.1 == i) && !(q.1 + 1 == i && q.2.category == 2)) = true := by
  obtain ⟨h1, h2⟩ := h
  rcases h2 with h2 | h2 <;> simp [h1, h2]
theorem zok2_f {i : Nat} {q : Nat × Value} (h : zok2 i q) : (!(q.1 == i) && (!(q.1 == i + 1) && !(q.1 + 1 == i && q.2.category == 2))) = true := by
  obtain ⟨h1, h3, h2⟩ := h
  rcases h2 with h2 | h2 <;> simp [h1, h3, h2]
theorem zst1 {L L0 : List (Nat × Value)} {i : Nat} {u : Value} (h0 : ∀ q ∈ L0, q ∈ L) (h1 : ∀ q ∈ L0, zok i q) : ∀ q ∈ (i, u) :: L0, q ∈ (i, u) :: L.filter (fun q => !(q.1 == i) && !(q.1 + 1 == i && q.2.category == 2)) := by
  intro q hq
  rcases List.mem_cons.mp hq with e | hq
  · exact List.mem_cons.mpr (Or.inl e)
  · exact List.mem_cons.mpr (Or.inr (List.mem_filter.mpr ⟨h0 q hq, zok_f (h1 q hq)⟩))
theorem zst2 {L L0 : List (Nat × Value)} {i : Nat} {u : Value} (h0 : ∀ q ∈ L0, q ∈ L) (h1 : ∀ q ∈ L0, zok2 i q) : ∀ q ∈ (i, u) :: L0, q ∈ (i, u) :: L.filter (fun q => !(q.1 == i) && (!(q.1 == i + 1) && !(q.1 + 1 == i && q.2.category == 2))) := by
  intro q hq
  rcases List.mem_cons.mp hq with e | hq
  · exact List.mem_cons.mpr (Or.inl e)
  · exact List.mem_cons.mpr (Or.inr (List.mem_filter.mpr ⟨h0 q hq, zok2_f (h1 q hq)⟩))
/-- by places: what is kept -/
theorem zpk {L : List (Nat × Value)} (ks : List Nat) {L0 : List (Nat × Value)} (hl : lv_pick L ks = L0) : ∀ q ∈ L0, q ∈ L := by
  intro q hq
  rw [← hl] at hq
  obtain ⟨k, -, hk⟩ := List.mem_filterMap.mp hq
  exact List.mem_of_getElem? hk
theorem zkN {i : Nat} : ∀ u ∈ ([] : List (Nat × Value)), zok i u := fun _ h => by cases h
theorem zkI {i n : Nat} {x : Int32} {L : List (Nat × Value)} (h : Nat.beq n i = false) (t : ∀ u ∈ L, zok i u) : ∀ u ∈ (n, Value.int x) :: L, zok i u := fun u hu => by
  rcases List.mem_cons.mp hu with e | hu
  · rw [e]; exact ⟨Nat.ne_of_beq_eq_false h, Or.inr rfl⟩
  · exact t u hu
theorem zkR {i n z : Nat} {L : List (Nat × Value)} (h : Nat.beq n i = false) (t : ∀ u ∈ L, zok i u) : ∀ u ∈ (n, zv z) :: L, zok i u := fun u hu => by
  rcases List.mem_cons.mp hu with e | hu
  · rw [e]; exact ⟨Nat.ne_of_beq_eq_false h, Or.inr (zv_cat z)⟩
  · exact t u hu
theorem zkL {i n : Nat} {x : Int64} {L : List (Nat × Value)} (h : Nat.beq n i = false) (h2 : Nat.beq (n + 1) i = false) (t : ∀ u ∈ L, zok i u) : ∀ u ∈ (n, Value.long x) :: L, zok i u := fun u hu => by
  rcases List.mem_cons.mp hu with e | hu
  · rw [e]; exact ⟨Nat.ne_of_beq_eq_false h, Or.inl (Nat.ne_of_beq_eq_false h2)⟩
  · exact t u hu
theorem zmN {i : Nat} : ∀ u ∈ ([] : List (Nat × Value)), zok2 i u := fun _ h => by cases h
theorem zmI {i n : Nat} {x : Int32} {L : List (Nat × Value)} (h : Nat.beq n i = false) (h2 : Nat.beq n (i + 1) = false) (t : ∀ u ∈ L, zok2 i u) : ∀ u ∈ (n, Value.int x) :: L, zok2 i u := fun u hu => by
  rcases List.mem_cons.mp hu with e | hu
  · rw [e]; exact ⟨Nat.ne_of_beq_eq_false h, Nat.ne_of_beq_eq_false h2, Or.inr rfl⟩
  · exact t u hu
theorem zmR {i n z : Nat} {L : List (Nat × Value)} (h : Nat.beq n i = false) (h2 : Nat.beq n (i + 1) = false) (t : ∀ u ∈ L, zok2 i u) : ∀ u ∈ (n, zv z) :: L, zok2 i u := fun u hu => by
  rcases List.mem_cons.mp hu with e | hu
  · rw [e]; exact ⟨Nat.ne_of_beq_eq_false h, Nat.ne_of_beq_eq_false h2, Or.inr (zv_cat z)⟩
  · exact t u hu
theorem zmL {i n : Nat} {x : Int64} {L : List (Nat × Value)} (h : Nat.beq n i = false) (h2 : Nat.beq n (i + 1) = false) (h3 : Nat.beq (n + 1) i = false) (t : ∀ u ∈ L, zok2 i u) : ∀ u ∈ (n, Value.long x) :: L, zok2 i u := fun u hu => by
  rcases List.mem_cons.mp hu with e | hu
  · rw [e]; exact ⟨Nat.ne_of_beq_eq_false h, Nat.ne_of_beq_eq_false h2, Or.inl (Nat.ne_of_beq_eq_false h3)⟩
  · exact t u hu
theorem Z.istore_n (F : ZF p R s m args meth c cc nL own nm ret D A al sz mc ms fr lo) {q : Fin 4} {z : Int32} {L0 : List (Nat × Value)} (ks : List Nat) (hl : lv_pick L ks = L0) (ho : ∀ u ∈ L0, zok (q : Nat) u) (hn : (q : Nat) < nL) (hdg : decode cc pc = .ok (.istore_n q, 1)) (k : ZW p l e R s m args below meth c Q nL D A al n0 P (pc + 1) (((q : Nat), .int z) :: L0) st) : ZW p l e R s m args below meth c Q nL D A al n0 P pc L (.int z :: st) := fun μ H locs cells slots ls hI h hP => lv_istore_n F.hx F.hb hdg rfl h hn rfl (fun ls' h' => k μ H locs cells slots ls' hI (lv_mem h' (zst1 (zpk ks hl) ho)) hP)
theorem Z.istore (F : ZF p R s m args meth c cc nL own nm ret D A al sz mc ms fr lo) {q : Nat} {z : Int32} {L0 : List (Nat × Value)} (ks : List Nat) (hl : lv_pick L ks = L0) (ho : ∀ u ∈ L0, zok q u) (hn : q < nL) (hdg : decode cc pc = .ok (.istore q, 2)) (k : ZW p l e R s m args below meth c Q nL D A al n0 P (pc + 2) ((q, .int z) :: L0) st) : ZW p l e R s m args below meth c Q nL D A al n0 P pc L (.int z :: st) := fun μ H locs cells slots ls hI h hP => lv_istore F.hx F.hb hdg h hn rfl (fun ls' h' => k μ H locs cells slots ls' hI (lv_mem h' (zst1 (zpk ks hl) ho)) hP)
theorem Z.lstore_n (F : ZF p R s m args meth c cc nL own nm ret D A al sz mc ms fr lo) {q : Fin 4} {z : Int64} {L0 : List (Nat × Value)} (ks : List Nat) (hl : lv_pick L ks = L0) (ho : ∀ u ∈ L0, zok2 (q : Nat) u) (hn : (q : Nat) + 1 < nL) (hdg : decode cc pc = .ok (.lstore_n q, 1)) (k : ZW p l e R s m args below meth c Q nL D A al n0 P (pc + 1) (((q : Nat), .long z) :: L0) st) : ZW p l e R s m args below meth c Q nL D A al n0 P pc L (.long z :: st) := fun μ H locs cells slots ls hI h hP => lv_lstore_n F.hx F.hb hdg rfl h hn rfl (fun ls' h' => k μ H locs cells slots ls' hI (lv_mem h' (zst2 (zpk ks hl) ho)) hP)
theorem Z.lstore (F : ZF p R s m args meth c cc nL own nm ret D A al sz mc ms fr lo) {q : Nat} {z : Int64} {L0 : List (Nat × Value)} (ks : List Nat) (hl : lv_pick L ks = L0) (ho : ∀ u ∈ L0, zok2 q u) (hn : q + 1 < nL) (hdg : decode cc pc = .ok (.lstore q, 2)) (k : ZW p l e R s m args below meth c Q nL D A al n0 P (pc + 2) ((q, .long z) :: L0) st) : ZW p l e R s m args below meth c Q nL D A al n0 P pc L (.long z :: st) := fun μ H locs cells slots ls hI h hP => lv_lstore F.hx F.hb hdg h hn rfl (fun ls' h' => k μ H locs cells slots ls' hI (lv_mem h' (zst2 (zpk ks hl) ho)) hP)
theorem Z.astore_n (F : ZF p R s m args meth c cc nL own nm ret D A al sz mc ms fr lo) {q : Fin 4} {z : Nat} {L0 : List (Nat × Value)} (ks : List Nat) (hl : lv_pick L ks = L0) (ho : ∀ u ∈ L0, zok (q : Nat) u) (hn : (q : Nat) < nL) (hdg : decode cc pc = .ok (.astore_n q, 1)) (k : ZW p l e R s m args below meth c Q nL D A al n0 P (pc + 1) (((q : Nat), zv z) :: L0) st) : ZW p l e R s m args below meth c Q nL D A al n0 P pc L (zv z :: st) := by
  intro μ H locs cells slots ls hI h hP
  cases z with
  | zero => exact lv_astore_nN F.hx F.hb hdg rfl h hn rfl (fun ls' h' => k μ H locs cells slots ls' hI (lv_mem h' (zst1 (zpk ks hl) ho)) hP)
  | succ n => exact lv_astore_n F.hx F.hb hdg rfl h hn rfl (fun ls' h' => k μ H locs cells slots ls' hI (lv_mem h' (zst1 (zpk ks hl) ho)) hP)
theorem Z.astore (F : ZF p R s m args meth c cc nL own nm ret D A al sz mc ms fr lo) {q : Nat} {z : Nat} {L0 : List (Nat × Value)} (ks : List Nat) (hl : lv_pick L ks = L0) (ho : ∀ u ∈ L0, zok q u) (hn : q < nL) (hdg : decode cc pc = .ok (.astore q, 2)) (k : ZW p l e R s m args below meth c Q nL D A al n0 P (pc + 2) ((q, zv z) :: L0) st) : ZW p l e R s m args below meth c Q nL D A al n0 P pc L (zv z :: st) := by
  intro μ H locs cells slots ls hI h hP
  cases z with
  | zero => exact lv_astoreN F.hx F.hb hdg h hn rfl (fun ls' h' => k μ H locs cells slots ls' hI (lv_mem h' (zst1 (zpk ks hl) ho)) hP)
  | succ n => exact lv_astore F.hx F.hb hdg h hn rfl (fun ls' h' => k μ H locs cells slots ls' hI (lv_mem h' (zst1 (zpk ks hl) ho)) hP)
theorem Z.iinc (F : ZF p R s m args meth c cc nL own nm ret D A al sz mc ms fr lo) {q k0 : Nat} {n : Int} {L0 : List (Nat × Value)} (hk0 : L[k0]? = some (q, .int x)) (hv : Int32.ofInt n = v) (ks : List Nat) (hl : lv_pick L ks = L0) (ho : ∀ u ∈ L0, zok q u) (hn : q < nL) (hdg : decode cc pc = .ok (.iinc q n, 3)) (k : ZW p l e R s m args below meth c Q nL D A al n0 P (pc + 3) ((q, .int (x + v)) :: L0) st) : ZW p l e R s m args below meth c Q nL D A al n0 P pc L st := fun μ H locs cells slots ls hI h hP => lv_iinc F.hx F.hb hdg h hk0 (by rw [hv]) hn rfl (fun ls' h' => k μ H locs cells slots ls' hI (lv_mem h' (zst1 (zpk ks hl) ho)) hP)
theorem Z.iadd (F : ZF p R s m args meth c cc nL own nm ret D A al sz mc ms fr lo)  (hdg : decode cc pc = .ok (.iadd, 1)) (k : ZW p l e R s m args below meth c Q nL D A al n0 P (pc + 1) L (.int (x + y) :: st)) : ZW p l e R s m args below meth c Q nL D A al n0 P pc L (.int y :: .int x :: st) := fun μ H locs cells slots ls hI h hP => lv_iadd F.hx F.hb hdg (k μ H locs cells slots ls hI h hP)
theorem Z.isub (F : ZF p R s m args meth c cc nL own nm ret D A al sz mc ms fr lo)  (hdg : decode cc pc = .ok (.isub, 1)) (k : ZW p l e R s m args below meth c Q nL D A al n0 P (pc + 1) L (.int (x - y) :: st)) : ZW p l e R s m args below meth c Q nL D A al n0 P pc L (.int y :: .int x :: st) := fun μ H locs cells slots ls hI h hP => lv_isub F.hx F.hb hdg (k μ H locs cells slots ls hI h hP)
theorem Z.imul (F : ZF p R s m args meth c cc nL own nm ret D A al sz mc ms fr lo)  (hdg : decode cc pc = .ok (.imul, 1)) (k : ZW p l e R s m args below meth c Q nL D A al n0 P (pc + 1) L (.int (x * y) :: st)) : ZW p l e R s m args below meth c Q nL D A al n0 P pc L (.int y :: .int x :: st) := fun μ H locs cells slots ls hI h hP => lv_imul F.hx F.hb hdg (k μ H locs cells slots ls hI h hP)
theorem Z.iand (F : ZF p R s m args meth c cc nL own nm ret D A al sz mc ms fr lo)  (hdg : decode cc pc = .ok (.iand, 1)) (k : ZW p l e R s m args below meth c Q nL D A al n0 P (pc + 1) L (.int (x &&& y) :: st)) : ZW p l e R s m args below meth c Q nL D A al n0 P pc L (.int y :: .int x :: st) := fun μ H locs cells slots ls hI h hP => lv_iand F.hx F.hb hdg (k μ H locs cells slots ls hI h hP)
theorem Z.ior (F : ZF p R s m args meth c cc nL own nm ret D A al sz mc ms fr lo)  (hdg : decode cc pc = .ok (.ior, 1)) (k : ZW p l e R s m args below meth c Q nL D A al n0 P (pc + 1) L (.int (x ||| y) :: st)) : ZW p l e R s m args below meth c Q nL D A al n0 P pc L (.int y :: .int x :: st) := fun μ H locs cells slots ls hI h hP => lv_ior F.hx F.hb hdg (k μ H locs cells slots ls hI h hP)
theorem Z.ishl (F : ZF p R s m args meth c cc nL own nm ret D A al sz mc ms fr lo)  (hdg : decode cc pc = .ok (.ishl, 1)) (k : ZW p l e R s m args below meth c Q nL D A al n0 P (pc + 1) L (.int (x <<< (y &&& 31)) :: st)) : ZW p l e R s m args below meth c Q nL D A al n0 P pc L (.int y :: .int x :: st) := fun μ H locs cells slots ls hI h hP => lv_ishl F.hx F.hb hdg (k μ H locs cells slots ls hI h hP)
theorem Z.ishr (F : ZF p R s m args meth c cc nL own nm ret D A al sz mc ms fr lo)  (hdg : decode cc pc = .ok (.ishr, 1)) (k : ZW p l e R s m args below meth c Q nL D A al n0 P (pc + 1) L (.int (x >>> (y &&& 31)) :: st)) : ZW p l e R s m args below meth c Q nL D A al n0 P pc L (.int y :: .int x :: st) := fun μ H locs cells slots ls hI h hP => lv_ishr F.hx F.hb hdg (k μ H locs cells slots ls hI h hP)
theorem Z.ineg (F : ZF p R s m args meth c cc nL own nm ret D A al sz mc ms fr lo)  (hdg : decode cc pc = .ok (.ineg, 1)) (k : ZW p l e R s m args below meth c Q nL D A al n0 P (pc + 1) L (.int (-x) :: st)) : ZW p l e R s m args below meth c Q nL D A al n0 P pc L (.int x :: st) := fun μ H locs cells slots ls hI h hP => lv_ineg F.hx F.hb hdg (k μ H locs cells slots ls hI h hP)
theorem Z.lneg (F : ZF p R s m args meth c cc nL own nm ret D A al sz mc ms fr lo)  (hdg : decode cc pc = .ok (.lneg, 1)) (k : ZW p l e R s m args below meth c Q nL D A al n0 P (pc + 1) L (.long (-a) :: st)) : ZW p l e R s m args below meth c Q nL D A al n0 P pc L (.long a :: st) := fun μ H locs cells slots ls hI h hP => lv_lneg F.hx F.hb hdg (k μ H locs cells slots ls hI h hP)
theorem Z.ladd (F : ZF p R s m args meth c cc nL own nm ret D A al sz mc ms fr lo)  (hdg : decode cc pc = .ok (.ladd, 1)) (k : ZW p l e R s m args below meth c Q nL D A al n0 P (pc + 1) L (.long (a + b) :: st)) : ZW p l e R s m args below meth c Q nL D A al n0 P pc L (.long b :: .long a :: st) := fun μ H locs cells slots ls hI h hP => lv_ladd F.hx F.hb hdg (k μ H locs cells slots ls hI h hP)
theorem Z.lsub (F : ZF p R s m args meth c cc nL own nm ret D A al sz mc ms fr lo)  (hdg : decode cc pc = .ok (.lsub, 1)) (k : ZW p l e R s m args below meth c Q nL D A al n0 P (pc + 1) L (.long (a - b) :: st)) : ZW p l e R s m args below meth c Q nL D A al n0 P pc L (.long b :: .long a :: st) := fun μ H locs cells slots ls hI h hP => lv_lsub F.hx F.hb hdg (k μ H locs cells slots ls hI h hP)
theorem Z.lmul (F : ZF p R s m args meth c cc nL own nm ret D A al sz mc ms fr lo)  (hdg : decode cc pc = .ok (.lmul, 1)) (k : ZW p l e R s m args below meth c Q nL D A al n0 P (pc + 1) L (.long (a * b) :: st)) : ZW p l e R s m args below meth c Q nL D A al n0 P pc L (.long b :: .long a :: st) := fun μ H locs cells slots ls hI h hP => lv_lmul F.hx F.hb hdg (k μ H locs cells slots ls hI h hP)
theorem Z.land (F : ZF p R s m args meth c cc nL own nm ret D A al sz mc ms fr lo)  (hdg : decode cc pc = .ok (.land, 1)) (k : ZW p l e R s m args below meth c Q nL D A al n0 P (pc + 1) L (.long (a &&& b) :: st)) : ZW p l e R s m args below meth c Q nL D A al n0 P pc L (.long b :: .long a :: st) := fun μ H locs cells slots ls hI h hP => lv_land F.hx F.hb hdg (k μ H locs cells slots ls hI h hP)
theorem Z.lor (F : ZF p R s m args meth c cc nL own nm ret D A al sz mc ms fr lo)  (hdg : decode cc pc = .ok (.lor, 1)) (k : ZW p l e R s m args below meth c Q nL D A al n0 P (pc + 1) L (.long (a ||| b) :: st)) : ZW p l e R s m args below meth c Q nL D A al n0 P pc L (.long b :: .long a :: st) := fun μ H locs cells slots ls hI h hP => lv_lor F.hx F.hb hdg (k μ H locs cells slots ls hI h hP)
theorem Z.lcmp (F : ZF p R s m args meth c cc nL own nm ret D A al sz mc ms fr lo) (hdg : decode cc pc = .ok (.lcmp, 1)) (k : ZW p l e R s m args below meth c Q nL D A al n0 P (pc + 1) L (.int (lg_cmp a b) :: st)) : ZW p l e R s m args below meth c Q nL D A al n0 P pc L (.long b :: .long a :: st) := fun μ H locs cells slots ls hI h hP => W.lcmp F.hx F.hb hdg (k μ H locs cells slots ls hI h hP)
theorem Z.idiv (F : ZF p R s m args meth c cc nL own nm ret D A al sz mc ms fr lo) (hdg : decode cc pc = .ok (.idiv, 1)) (k : ZW p l e R s m args below meth c Q nL D A al n0 P (pc + 1) L (.int (x / y) :: st)) : ZW p l e R s m args below meth c Q nL D A al n0 (zne y 0 P) pc L (.int y :: .int x :: st) := fun μ H locs cells slots ls hI h hP => lv_idiv F.hx F.hb hdg hP.1 (k μ H locs cells slots ls hI h hP.2)
theorem Z.irem (F : ZF p R s m args meth c cc nL own nm ret D A al sz mc ms fr lo) (hdg : decode cc pc = .ok (.irem, 1)) (k : ZW p l e R s m args below meth c Q nL D A al n0 P (pc + 1) L (.int (x - x / y * y) :: st)) : ZW p l e R s m args below meth c Q nL D A al n0 (zne y 0 P) pc L (.int y :: .int x :: st) := fun μ H locs cells slots ls hI h hP => lv_irem F.hx F.hb hdg hP.1 (k μ H locs cells slots ls hI h hP.2)
theorem Z.ldiv (F : ZF p R s m args meth c cc nL own nm ret D A al sz mc ms fr lo) (hdg : decode cc pc = .ok (.ldiv, 1)) (k : ZW p l e R s m args below meth c Q nL D A al n0 P (pc + 1) L (.long (a / b) :: st)) : ZW p l e R s m args below meth c Q nL D A al n0 (zne b 0 P) pc L (.long b :: .long a :: st) := fun μ H locs cells slots ls hI h hP => lv_ldiv F.hx F.hb hdg hP.1 (k μ H locs cells slots ls hI h hP.2)
theorem Z.lrem (F : ZF p R s m args meth c cc nL own nm ret D A al sz mc ms fr lo) (hdg : decode cc pc = .ok (.lrem, 1)) (k : ZW p l e R s m args below meth c Q nL D A al n0 P (pc + 1) L (.long (a - a / b * b) :: st)) : ZW p l e R s m args below meth c Q nL D A al n0 (zne b 0 P) pc L (.long b :: .long a :: st) := fun μ H locs cells slots ls hI h hP => lv_lrem F.hx F.hb hdg hP.1 (k μ H locs cells slots ls hI h hP.2)
theorem Z.i2l (F : ZF p R s m args meth c cc nL own nm ret D A al sz mc ms fr lo) (hdg : decode cc pc = .ok (.i2l, 1)) (k : ZW p l e R s m args below meth c Q nL D A al n0 P (pc + 1) L (.long (x.toInt64) :: st)) : ZW p l e R s m args below meth c Q nL D A al n0 P pc L (.int x :: st) := fun μ H locs cells slots ls hI h hP => lv_i2l F.hx F.hb hdg rfl (k μ H locs cells slots ls hI h hP)
theorem Z.l2i (F : ZF p R s m args meth c cc nL own nm ret D A al sz mc ms fr lo) (hdg : decode cc pc = .ok (.l2i, 1)) (k : ZW p l e R s m args below meth c Q nL D A al n0 P (pc + 1) L (.int (a.toInt32) :: st)) : ZW p l e R s m args below meth c Q nL D A al n0 P pc L (.long a :: st) := fun μ H locs cells slots ls hI h hP => lv_l2i F.hx F.hb hdg rfl (k μ H locs cells slots ls hI h hP)
theorem Z.i2b (F : ZF p R s m args meth c cc nL own nm ret D A al sz mc ms fr lo) (hdg : decode cc pc = .ok (.i2b, 1)) (k : ZW p l e R s m args below meth c Q nL D A al n0 P (pc + 1) L (.int (x.toInt8.toInt32) :: st)) : ZW p l e R s m args below meth c Q nL D A al n0 P pc L (.int x :: st) := fun μ H locs cells slots ls hI h hP => lv_i2b F.hx F.hb hdg rfl (k μ H locs cells slots ls hI h hP)
theorem Z.lushr (F : ZF p R s m args meth c cc nL own nm ret D A al sz mc ms fr lo) (hdg : decode cc pc = .ok (.lushr, 1)) (k : ZW p l e R s m args below meth c Q nL D A al n0 P (pc + 1) L (.long ((a.toUInt64 >>> (x.toInt64.toUInt64 &&& Int64.toUInt64 63)).toInt64) :: st)) : ZW p l e R s m args below meth c Q nL D A al n0 P pc L (.int x :: .long a :: st) := fun μ H locs cells slots ls hI h hP => lv_lushr F.hx F.hb hdg rfl (k μ H locs cells slots ls hI h hP)
theorem Z.lshl (F : ZF p R s m args meth c cc nL own nm ret D A al sz mc ms fr lo) (hdg : decode cc pc = .ok (.lshl, 1)) (k : ZW p l e R s m args below meth c Q nL D A al n0 P (pc + 1) L (.long (a <<< (x.toInt64 &&& 63)) :: st)) : ZW p l e R s m args below meth c Q nL D A al n0 P pc L (.int x :: .long a :: st) := fun μ H locs cells slots ls hI h hP => lv_lshl F.hx F.hb hdg rfl (k μ H locs cells slots ls hI h hP)
theorem Z.dupI (F : ZF p R s m args meth c cc nL own nm ret D A al sz mc ms fr lo) (hdg : decode cc pc = .ok (.dup, 1)) (k : ZW p l e R s m args below meth c Q nL D A al n0 P (pc + 1) L (.int x :: .int x :: st)) : ZW p l e R s m args below meth c Q nL D A al n0 P pc L (.int x :: st) := fun μ H locs cells slots ls hI h hP => lv_dup F.hx F.hb hdg rfl (k μ H locs cells slots ls hI h hP)
theorem Z.dup (F : ZF p R s m args meth c cc nL own nm ret D A al sz mc ms fr lo) {z : Nat} (hdg : decode cc pc = .ok (.dup, 1)) (k : ZW p l e R s m args below meth c Q nL D A al n0 P (pc + 1) L (zv z :: zv z :: st)) : ZW p l e R s m args below meth c Q nL D A al n0 P pc L (zv z :: st) := fun μ H locs cells slots ls hI h hP => lv_dup F.hx F.hb hdg (zv_cat z) (k μ H locs cells slots ls hI h hP)
theorem Z.popI (F : ZF p R s m args meth c cc nL own nm ret D A al sz mc ms fr lo) (hdg : decode cc pc = .ok (.pop, 1)) (k : ZW p l e R s m args below meth c Q nL D A al n0 P (pc + 1) L st) : ZW p l e R s m args below meth c Q nL D A al n0 P pc L (.int x :: st) := fun μ H locs cells slots ls hI h hP => lv_pop F.hx F.hb hdg rfl (k μ H locs cells slots ls hI h hP)
theorem Z.pop (F : ZF p R s m args meth c cc nL own nm ret D A al sz mc ms fr lo) {z : Nat} (hdg : decode cc pc = .ok (.pop, 1)) (k : ZW p l e R s m args below meth c Q nL D A al n0 P (pc + 1) L st) : ZW p l e R s m args below meth c Q nL D A al n0 P pc L (zv z :: st) := fun μ H locs cells slots ls hI h hP => lv_pop F.hx F.hb hdg (zv_cat z) (k μ H locs cells slots ls hI h hP)
theorem Z.dup2 (F : ZF p R s m args meth c cc nL own nm ret D A al sz mc ms fr lo) {z : Nat} (hdg : decode cc pc = .ok (.dup2, 1)) (k : ZW p l e R s m args below meth c Q nL D A al n0 P (pc + 1) L (.int x :: zv z :: .int x :: zv z :: st)) : ZW p l e R s m args below meth c Q nL D A al n0 P pc L (.int x :: zv z :: st) := fun μ H locs cells slots ls hI h hP => lv_dup2_11 F.hx F.hb hdg rfl (zv_cat z) (k μ H locs cells slots ls hI h hP)
theorem Z.null (F : ZF p R s m args meth c cc nL own nm ret D A al sz mc ms fr lo) (hdg : decode cc pc = .ok (.aconst_null, 1)) (k : ZW p l e R s m args below meth c Q nL D A al n0 P (pc + 1) L (zv 0 :: st)) : ZW p l e R s m args below meth c Q nL D A al n0 P pc L st := fun μ H locs cells slots ls hI h hP => lv_null F.hx F.hb hdg (k μ H locs cells slots ls hI h hP)
theorem Z.if_eq (F : ZF p R s m args meth c cc nL own nm ret D A al sz mc ms fr lo) [Decidable (x = 0)] (hdg : decode cc pc = .ok (.ifCond .eq off, 3)) (ht : (pc : Int) + off = (tgt : Int)) (kt : ZW p l e R s m args below meth c Q nL D A al n0 P1 tgt L st) (kf : ZW p l e R s m args below meth c Q nL D A al n0 P2 (pc + 3) L st) : ZW p l e R s m args below meth c Q nL D A al n0 (zif (x = 0) P1 P2) pc L (.int x :: st) := fun μ H locs cells slots ls hI h hP => lv_if_eq F.hx F.hb hdg ht (fun q => kt μ H locs cells slots ls hI h (by have h9 := hP; unfold zif at h9; rw [if_pos q] at h9; exact h9)) (fun q => kf μ H locs cells slots ls hI h (by have h9 := hP; unfold zif at h9; rw [if_neg q] at h9; exact h9))
theorem Z.icmp_eq (F : ZF p R s m args meth c cc nL own nm ret D A al sz mc ms fr lo) [Decidable (x = y)] (hdg : decode cc pc = .ok (.if_icmp .eq off, 3)) (ht : (pc : Int) + off = (tgt : Int)) (kt : ZW p l e R s m args below meth c Q nL D A al n0 P1 tgt L st) (kf : ZW p l e R s m args below meth c Q nL D A al n0 P2 (pc + 3) L st) : ZW p l e R s m args below meth c Q nL D A al n0 (zif (x = y) P1 P2) pc L (.int y :: .int x :: st) := fun μ H locs cells slots ls hI h hP => lv_icmp_eq F.hx F.hb hdg ht (fun q => kt μ H locs cells slots ls hI h (by have h9 := hP; unfold zif at h9; rw [if_pos q] at h9; exact h9)) (fun q => kf μ H locs cells slots ls hI h (by have h9 := hP; unfold zif at h9; rw [if_neg q] at h9; exact h9))
theorem Z.if_ne (F : ZF p R s m args meth c cc nL own nm ret D A al sz mc ms fr lo) [Decidable (x = 0)] (hdg : decode cc pc = .ok (.ifCond .ne off, 3)) (ht : (pc : Int) + off = (tgt : Int)) (kt : ZW p l e R s m args below meth c Q nL D A al n0 P1 tgt L st) (kf : ZW p l e R s m args below meth c Q nL D A al n0 P2 (pc + 3) L st) : ZW p l e R s m args below meth c Q nL D A al n0 (zif (x = 0) P2 P1) pc L (.int x :: st) := fun μ H locs cells slots ls hI h hP => lv_if_ne F.hx F.hb hdg ht (fun q => kt μ H locs cells slots ls hI h (by have h9 := hP; unfold zif at h9; rw [if_neg q] at h9; exact h9)) (fun q => kf μ H locs cells slots ls hI h (by have h9 := hP; unfold zif at h9; rw [if_pos q] at h9; exact h9))
theorem Z.icmp_ne (F : ZF p R s m args meth c cc nL own nm ret D A al sz mc ms fr lo) [Decidable (x = y)] (hdg : decode cc pc = .ok (.if_icmp .ne off, 3)) (ht : (pc : Int) + off = (tgt : Int)) (kt : ZW p l e R s m args below meth c Q nL D A al n0 P1 tgt L st) (kf : ZW p l e R s m args below meth c Q nL D A al n0 P2 (pc + 3) L st) : ZW p l e R s m args below meth c Q nL D A al n0 (zif (x = y) P2 P1) pc L (.int y :: .int x :: st) := fun μ H locs cells slots ls hI h hP => lv_icmp_ne F.hx F.hb hdg ht (fun q => kt μ H locs cells slots ls hI h (by have h9 := hP; unfold zif at h9; rw [if_neg q] at h9; exact h9)) (fun q => kf μ H locs cells slots ls hI h (by have h9 := hP; unfold zif at h9; rw [if_pos q] at h9; exact h9))
theorem Z.if_lt (F : ZF p R s m args meth c cc nL own nm ret D A al sz mc ms fr lo) [Decidable (x < 0)] (hdg : decode cc pc = .ok (.ifCond .lt off, 3)) (ht : (pc : Int) + off = (tgt : Int)) (kt : ZW p l e R s m args below meth c Q nL D A al n0 P1 tgt L st) (kf : ZW p l e R s m args below meth c Q nL D A al n0 P2 (pc + 3) L st) : ZW p l e R s m args below meth c Q nL D A al n0 (zif (x < 0) P1 P2) pc L (.int x :: st) := fun μ H locs cells slots ls hI h hP => lv_if_lt F.hx F.hb hdg ht (fun q => kt μ H locs cells slots ls hI h (by have h9 := hP; unfold zif at h9; rw [if_pos q] at h9; exact h9)) (fun q => kf μ H locs cells slots ls hI h (by have h9 := hP; unfold zif at h9; rw [if_neg q] at h9; exact h9))
theorem Z.icmp_lt (F : ZF p R s m args meth c cc nL own nm ret D A al sz mc ms fr lo) [Decidable (x < y)] (hdg : decode cc pc = .ok (.if_icmp .lt off, 3)) (ht : (pc : Int) + off = (tgt : Int)) (kt : ZW p l e R s m args below meth c Q nL D A al n0 P1 tgt L st) (kf : ZW p l e R s m args below meth c Q nL D A al n0 P2 (pc + 3) L st) : ZW p l e R s m args below meth c Q nL D A al n0 (zif (x < y) P1 P2) pc L (.int y :: .int x :: st) := fun μ H locs cells slots ls hI h hP => lv_icmp_lt F.hx F.hb hdg ht (fun q => kt μ H locs cells slots ls hI h (by have h9 := hP; unfold zif at h9; rw [if_pos q] at h9; exact h9)) (fun q => kf μ H locs cells slots ls hI h (by have h9 := hP; unfold zif at h9; rw [if_neg q] at h9; exact h9))
theorem Z.if_ge (F : ZF p R s m args meth c cc nL own nm ret D A al sz mc ms fr lo) [Decidable (0 ≤ x)] (hdg : decode cc pc = .ok (.ifCond .ge off, 3)) (ht : (pc : Int) + off = (tgt : Int)) (kt : ZW p l e R s m args below meth c Q nL D A al n0 P1 tgt L st) (kf : ZW p l e R s m args below meth c Q nL D A al n0 P2 (pc + 3) L st) : ZW p l e R s m args below meth c Q nL D A al n0 (zif (0 ≤ x) P1 P2) pc L (.int x :: st) := fun μ H locs cells slots ls hI h hP => lv_if_ge F.hx F.hb hdg ht (fun q => kt μ H locs cells slots ls hI h (by have h9 := hP; unfold zif at h9; rw [if_pos q] at h9; exact h9)) (fun q => kf μ H locs cells slots ls hI h (by have h9 := hP; unfold zif at h9; rw [if_neg q] at h9; exact h9))
theorem Z.icmp_ge (F : ZF p R s m args meth c cc nL own nm ret D A al sz mc ms fr lo) [Decidable (y ≤ x)] (hdg : decode cc pc = .ok (.if_icmp .ge off, 3)) (ht : (pc : Int) + off = (tgt : Int)) (kt : ZW p l e R s m args below meth c Q nL D A al n0 P1 tgt L st) (kf : ZW p l e R s m args below meth c Q nL D A al n0 P2 (pc + 3) L st) : ZW p l e R s m args below meth c Q nL D A al n0 (zif (y ≤ x) P1 P2) pc L (.int y :: .int x :: st) := fun μ H locs cells slots ls hI h hP => lv_icmp_ge F.hx F.hb hdg ht (fun q => kt μ H locs cells slots ls hI h (by have h9 := hP; unfold zif at h9; rw [if_pos q] at h9; exact h9)) (fun q => kf μ H locs cells slots ls hI h (by have h9 := hP; unfold zif at h9; rw [if_neg q] at h9; exact h9))
theorem Z.if_gt (F : ZF p R s m args meth c cc nL own nm ret D A al sz mc ms fr lo) [Decidable (0 < x)] (hdg : decode cc pc = .ok (.ifCond .gt off, 3)) (ht : (pc : Int) + off = (tgt : Int)) (kt : ZW p l e R s m args below meth c Q nL D A al n0 P1 tgt L st) (kf : ZW p l e R s m args below meth c Q nL D A al n0 P2 (pc + 3) L st) : ZW p l e R s m args below meth c Q nL D A al n0 (zif (0 < x) P1 P2) pc L (.int x :: st) := fun μ H locs cells slots ls hI h hP => lv_if_gt F.hx F.hb hdg ht (fun q => kt μ H locs cells slots ls hI h (by have h9 := hP; unfold zif at h9; rw [if_pos q] at h9; exact h9)) (fun q => kf μ H locs cells slots ls hI h (by have h9 := hP; unfold zif at h9; rw [if_neg q] at h9; exact h9))
theorem Z.icmp_gt (F : ZF p R s m args meth c cc nL own nm ret D A al sz mc ms fr lo) [Decidable (y < x)] (hdg : decode cc pc = .ok (.if_icmp .gt off, 3)) (ht : (pc : Int) + off = (tgt : Int)) (kt : ZW p l e R s m args below meth c Q nL D A al n0 P1 tgt L st) (kf : ZW p l e R s m args below meth c Q nL D A al n0 P2 (pc + 3) L st) : ZW p l e R s m args below meth c Q nL D A al n0 (zif (y < x) P1 P2) pc L (.int y :: .int x :: st) := fun μ H locs cells slots ls hI h hP => lv_icmp_gt F.hx F.hb hdg ht (fun q => kt μ H locs cells slots ls hI h (by have h9 := hP; unfold zif at h9; rw [if_pos q] at h9; exact h9)) (fun q => kf μ H locs cells slots ls hI h (by have h9 := hP; unfold zif at h9; rw [if_neg q] at h9; exact h9))
theorem Z.if_le (F : ZF p R s m args meth c cc nL own nm ret D A al sz mc ms fr lo) [Decidable (x ≤ 0)] (hdg : decode cc pc = .ok (.ifCond .le off, 3)) (ht : (pc : Int) + off = (tgt : Int)) (kt : ZW p l e R s m args below meth c Q nL D A al n0 P1 tgt L st) (kf : ZW p l e R s m args below meth c Q nL D A al n0 P2 (pc + 3) L st) : ZW p l e R s m args below meth c Q nL D A al n0 (zif (x ≤ 0) P1 P2) pc L (.int x :: st) := fun μ H locs cells slots ls hI h hP => lv_if_le F.hx F.hb hdg ht (fun q => kt μ H locs cells slots ls hI h (by have h9 := hP; unfold zif at h9; rw [if_pos q] at h9; exact h9)) (fun q => kf μ H locs cells slots ls hI h (by have h9 := hP; unfold zif at h9; rw [if_neg q] at h9; exact h9))
theorem Z.icmp_le (F : ZF p R s m args meth c cc nL own nm ret D A al sz mc ms fr lo) [Decidable (x ≤ y)] (hdg : decode cc pc = .ok (.if_icmp .le off, 3)) (ht : (pc : Int) + off = (tgt : Int)) (kt : ZW p l e R s m args below meth c Q nL D A al n0 P1 tgt L st) (kf : ZW p l e R s m args below meth c Q nL D A al n0 P2 (pc + 3) L st) : ZW p l e R s m args below meth c Q nL D A al n0 (zif (x ≤ y) P1 P2) pc L (.int y :: .int x :: st) := fun μ H locs cells slots ls hI h hP => lv_icmp_le F.hx F.hb hdg ht (fun q => kt μ H locs cells slots ls hI h (by have h9 := hP; unfold zif at h9; rw [if_pos q] at h9; exact h9)) (fun q => kf μ H locs cells slots ls hI h (by have h9 := hP; unfold zif at h9; rw [if_neg q] at h9; exact h9))
theorem Z.goto (F : ZF p R s m args meth c cc nL own nm ret D A al sz mc ms fr lo) (hdg : decode cc pc = .ok (.goto off, 3)) (ht : (pc : Int) + off = (tgt : Int)) (k : ZW p l e R s m args below meth c Q nL D A al n0 P tgt L st) : ZW p l e R s m args below meth c Q nL D A al n0 P pc L st := fun μ H locs cells slots ls hI h hP => lv_goto F.hx F.hb hdg ht (k μ H locs cells slots ls hI h hP)
theorem Z.ifnull (F : ZF p R s m args meth c cc nL own nm ret D A al sz mc ms fr lo) {z : Nat} [Decidable (z = 0)] (hdg : decode cc pc = .ok (.ifnull off, 3)) (ht : (pc : Int) + off = (tgt : Int)) (kt : ZW p l e R s m args below meth c Q nL D A al n0 P1 tgt L st) (kf : ZW p l e R s m args below meth c Q nL D A al n0 P2 (pc + 3) L st) : ZW p l e R s m args below meth c Q nL D A al n0 (zif (z = 0) P1 P2) pc L (zv z :: st) := by
  intro μ H locs cells slots ls hI h hP
  unfold zif at hP
  cases z with
  | zero => rw [if_pos rfl] at hP; exact lv_ifnullN F.hx F.hb hdg ht (kt μ H locs cells slots ls hI h hP)
  | succ n => rw [if_neg (by omega)] at hP; exact lv_ifnull F.hx F.hb hdg (kf μ H locs cells slots ls hI h hP)
theorem Z.ifnonnull (F : ZF p R s m args meth c cc nL own nm ret D A al sz mc ms fr lo) {z : Nat} [Decidable (z = 0)] (hdg : decode cc pc = .ok (.ifnonnull off, 3)) (ht : (pc : Int) + off = (tgt : Int)) (kt : ZW p l e R s m args below meth c Q nL D A al n0 P1 tgt L st) (kf : ZW p l e R s m args below meth c Q nL D A al n0 P2 (pc + 3) L st) : ZW p l e R s m args below meth c Q nL D A al n0 (zif (z = 0) P2 P1) pc L (zv z :: st) := by
  intro μ H locs cells slots ls hI h hP
  unfold zif at hP
  cases z with
  | zero => rw [if_pos rfl] at hP; exact lv_ifnonnullN F.hx F.hb hdg (kf μ H locs cells slots ls hI h hP)
  | succ n => rw [if_neg (by omega)] at hP; exact lv_ifnonnull F.hx F.hb hdg ht (kt μ H locs cells slots ls hI h hP)
theorem Z.table (F : ZF p R s m args meth c cc nL own nm ret D A al sz mc ms fr lo) {dflt lo hi : Int} {offs : Array Int} {len : Nat} {Ps : List (ZM → Prop)} {tgts : List Nat} (hdg : decode cc pc = .ok (.tableswitch dflt lo hi offs, len)) (hlen : Ps.length = tgts.length) (hoff : offs.toList = tgts.map (fun (t : Nat) => (t : Int) - pc)) (hhi : hi = lo + (tgts.length : Int) - 1) (ht : (pc : Int) + dflt = (tgt : Int)) (kd : ZW p l e R s m args below meth c Q nL D A al n0 P tgt L st) (kk : ∀ (i : Nat) (P9 : ZM → Prop) (t9 : Nat), Ps[i]? = some P9 → tgts[i]? = some t9 → ZW p l e R s m args below meth c Q nL D A al n0 P9 t9 L st) : ZW p l e R s m args below meth c Q nL D A al n0 (zsw x lo Ps P) pc L (.int x :: st) := by
  intro μ H locs cells slots ls hI h hP
  unfold zsw at hP
  by_cases h1 : x.toInt < lo
  · rw [if_pos h1] at hP
    exact lv_tableOut F.hx F.hb hdg (Or.inl h1) ht (kd μ H locs cells slots ls hI h hP)
  · rw [if_neg h1] at hP
    by_cases h2 : hi < x.toInt
    · have h3 : Ps.length ≤ (x.toInt - lo).toNat := by omega
      rw [List.getD_eq_getElem?_getD, List.getElem?_eq_none h3] at hP
      exact lv_tableOut F.hx F.hb hdg (Or.inr h2) ht (kd μ H locs cells slots ls hI h hP)
    · have h3 : (x.toInt - lo).toNat < tgts.length := by omega
      have h4 : (x.toInt - lo).toNat < Ps.length := by omega
      rw [List.getD_eq_getElem?_getD, List.getElem?_eq_getElem h4] at hP
      have e1 : offs[(x.toInt - lo).toNat]? = some (((tgts[(x.toInt - lo).toNat] : Nat) : Int) - pc) := by
        rw [← Array.getElem?_toList, hoff, List.getElem?_map, List.getElem?_eq_getElem h3]
        rfl
      refine lv_tableIn F.hx F.hb hdg h1 h2 e1 (tgt := tgts[(x.toInt - lo).toNat]) (by omega) ?_
      exact kk _ _ _ (List.getElem?_eq_getElem h4) (List.getElem?_eq_getElem h3) μ H locs cells slots ls hI h hP
theorem Z.jn {τ : Type} {J : τ} {B : τ → ZM → Prop} (I : τ → Prop) (h1 : I J) (h2 : ∀ j, I j → ZW p l e R s m args below meth c Q nL D A al n0 (B j) pc L st) : ZW p l e R s m args below meth c Q nL D A al n0 (zjn J B) pc L st := h2 J h1
theorem Z.or (k1 : ZW p l e R s m args below meth c Q nL D A al n0 P1 pc L st) (k2 : ZW p l e R s m args below meth c Q nL D A al n0 P2 pc L st) : ZW p l e R s m args below meth c Q nL D A al n0 (zor P1 P2) pc L st := fun μ H locs cells slots ls hI h hP => hP.elim (k1 μ H locs cells slots ls hI h) (k2 μ H locs cells slots ls hI h)
theorem Z.w1 {α0 : Type} {b : (α0 → ZM → Prop) → α0 → ZM → Prop} {Lf : α0 → List (Nat × Value)} {sf : α0 → List Value} (hb : ∀ r : α0 → ZM → Prop, (∀ (x0 : α0), ZW p l e R s m args below meth c Q nL D A al n0 (r x0) pc (Lf x0) (sf x0)) → ∀ (x0 : α0), ZW p l e R s m args below meth c Q nL D A al n0 (b r x0) pc (Lf x0) (sf x0)) : ∀ (x0 : α0), ZW p l e R s m args below meth c Q nL D A al n0 (zw1 b x0) pc (Lf x0) (sf x0) := by
  have key : ∀ n, ∀ (x0 : α0), ZW p l e R s m args below meth c Q nL D A al n0 (zlp1 b n x0) pc (Lf x0) (sf x0) := by
    intro n
    induction n with
    | zero => intro x0 μ H locs cells slots ls hI h hP; exact hP.elim
    | succ n ih => exact hb (zlp1 b n) ih
  intro x0 μ H locs cells slots ls hI h hP
  obtain ⟨n, hn⟩ := hP
  exact key n x0 μ H locs cells slots ls hI h hn
theorem Z.w2 {α0 α1 : Type} {b : (α0 → α1 → ZM → Prop) → α0 → α1 → ZM → Prop} {Lf : α0 → α1 → List (Nat × Value)} {sf : α0 → α1 → List Value} (hb : ∀ r : α0 → α1 → ZM → Prop, (∀ (x0 : α0) (x1 : α1), ZW p l e R s m args below meth c Q nL D A al n0 (r x0 x1) pc (Lf x0 x1) (sf x0 x1)) → ∀ (x0 : α0) (x1 : α1), ZW p l e R s m args below meth c Q nL D A al n0 (b r x0 x1) pc (Lf x0 x1) (sf x0 x1)) : ∀ (x0 : α0) (x1 : α1), ZW p l e R s m args below meth c Q nL D A al n0 (zw2 b x0 x1) pc (Lf x0 x1) (sf x0 x1) := by
  have key : ∀ n, ∀ (x0 : α0) (x1 : α1), ZW p l e R s m args below meth c Q nL D A al n0 (zlp2 b n x0 x1) pc (Lf x0 x1) (sf x0 x1) := by
    intro n
    induction n with
    | zero => intro x0 x1 μ H locs cells slots ls hI h hP; exact hP.elim
    | succ n ih => exact hb (zlp2 b n) ih
  intro x0 x1 μ H locs cells slots ls hI h hP
  obtain ⟨n, hn⟩ := hP
  exact key n x0 x1 μ H locs cells slots ls hI h hn
theorem Z.w3 {α0 α1 α2 : Type} {b : (α0 → α1 → α2 → ZM → Prop) → α0 → α1 → α2 → ZM → Prop} {Lf : α0 → α1 → α2 → List (Nat × Value)} {sf : α0 → α1 → α2 → List Value} (hb : ∀ r : α0 → α1 → α2 → ZM → Prop, (∀ (x0 : α0) (x1 : α1) (x2 : α2), ZW p l e R s m args below meth c Q nL D A al n0 (r x0 x1 x2) pc (Lf x0 x1 x2) (sf x0 x1 x2)) → ∀ (x0 : α0) (x1 : α1) (x2 : α2), ZW p l e R s m args below meth c Q nL D A al n0 (b r x0 x1 x2) pc (Lf x0 x1 x2) (sf x0 x1 x2)) : ∀ (x0 : α0) (x1 : α1) (x2 : α2), ZW p l e R s m args below meth c Q nL D A al n0 (zw3 b x0 x1 x2) pc (Lf x0 x1 x2) (sf x0 x1 x2) := by
  have key : ∀ n, ∀ (x0 : α0) (x1 : α1) (x2 : α2), ZW p l e R s m args below meth c Q nL D A al n0 (zlp3 b n x0 x1 x2) pc (Lf x0 x1 x2) (sf x0 x1 x2) := by
    intro n
    induction n with
    | zero => intro x0 x1 x2 μ H locs cells slots ls hI h hP; exact hP.elim
    | succ n ih => exact hb (zlp3 b n) ih
  intro x0 x1 x2 μ H locs cells slots ls hI h hP
  obtain ⟨n, hn⟩ := hP
  exact key n x0 x1 x2 μ H locs cells slots ls hI h hn
theorem Z.w4 {α0 α1 α2 α3 : Type} {b : (α0 → α1 → α2 → α3 → ZM → Prop) → α0 → α1 → α2 → α3 → ZM → Prop} {Lf : α0 → α1 → α2 → α3 → List (Nat × Value)} {sf : α0 → α1 → α2 → α3 → List Value} (hb : ∀ r : α0 → α1 → α2 → α3 → ZM → Prop, (∀ (x0 : α0) (x1 : α1) (x2 : α2) (x3 : α3), ZW p l e R s m args below meth c Q nL D A al n0 (r x0 x1 x2 x3) pc (Lf x0 x1 x2 x3) (sf x0 x1 x2 x3)) → ∀ (x0 : α0) (x1 : α1) (x2 : α2) (x3 : α3), ZW p l e R s m args below meth c Q nL D A al n0 (b r x0 x1 x2 x3) pc (Lf x0 x1 x2 x3) (sf x0 x1 x2 x3)) : ∀ (x0 : α0) (x1 : α1) (x2 : α2) (x3 : α3), ZW p l e R s m args below meth c Q nL D A al n0 (zw4 b x0 x1 x2 x3) pc (Lf x0 x1 x2 x3) (sf x0 x1 x2 x3) := by
  have key : ∀ n, ∀ (x0 : α0) (x1 : α1) (x2 : α2) (x3 : α3), ZW p l e R s m args below meth c Q nL D A al n0 (zlp4 b n x0 x1 x2 x3) pc (Lf x0 x1 x2 x3) (sf x0 x1 x2 x3) := by
    intro n
    induction n with
    | zero => intro x0 x1 x2 x3 μ H locs cells slots ls hI h hP; exact hP.elim
    | succ n ih => exact hb (zlp4 b n) ih
  intro x0 x1 x2 x3 μ H locs cells slots ls hI h hP
  obtain ⟨n, hn⟩ := hP
  exact key n x0 x1 x2 x3 μ H locs cells slots ls hI h hn
theorem Z.w5 {α0 α1 α2 α3 α4 : Type} {b : (α0 → α1 → α2 → α3 → α4 → ZM → Prop) → α0 → α1 → α2 → α3 → α4 → ZM → Prop} {Lf : α0 → α1 → α2 → α3 → α4 → List (Nat × Value)} {sf : α0 → α1 → α2 → α3 → α4 → List Value} (hb : ∀ r : α0 → α1 → α2 → α3 → α4 → ZM → Prop, (∀ (x0 : α0) (x1 : α1) (x2 : α2) (x3 : α3) (x4 : α4), ZW p l e R s m args below meth c Q nL D A al n0 (r x0 x1 x2 x3 x4) pc (Lf x0 x1 x2 x3 x4) (sf x0 x1 x2 x3 x4)) → ∀ (x0 : α0) (x1 : α1) (x2 : α2) (x3 : α3) (x4 : α4), ZW p l e R s m args below meth c Q nL D A al n0 (b r x0 x1 x2 x3 x4) pc (Lf x0 x1 x2 x3 x4) (sf x0 x1 x2 x3 x4)) : ∀ (x0 : α0) (x1 : α1) (x2 : α2) (x3 : α3) (x4 : α4), ZW p l e R s m args below meth c Q nL D A al n0 (zw5 b x0 x1 x2 x3 x4) pc (Lf x0 x1 x2 x3 x4) (sf x0 x1 x2 x3 x4) := by
  have key : ∀ n, ∀ (x0 : α0) (x1 : α1) (x2 : α2) (x3 : α3) (x4 : α4), ZW p l e R s m args below meth c Q nL D A al n0 (zlp5 b n x0 x1 x2 x3 x4) pc (Lf x0 x1 x2 x3 x4) (sf x0 x1 x2 x3 x4) := by
    intro n
    induction n with
    | zero => intro x0 x1 x2 x3 x4 μ H locs cells slots ls hI h hP; exact hP.elim
    | succ n ih => exact hb (zlp5 b n) ih
  intro x0 x1 x2 x3 x4 μ H locs cells slots ls hI h hP
  obtain ⟨n, hn⟩ := hP
  exact key n x0 x1 x2 x3 x4 μ H locs cells slots ls hI h hn
theorem Z.w6 {α0 α1 α2 α3 α4 α5 : Type} {b : (α0 → α1 → α2 → α3 → α4 → α5 → ZM → Prop) → α0 → α1 → α2 → α3 → α4 → α5 → ZM → Prop} {Lf : α0 → α1 → α2 → α3 → α4 → α5 → List (Nat × Value)} {sf : α0 → α1 → α2 → α3 → α4 → α5 → List Value} (hb : ∀ r : α0 → α1 → α2 → α3 → α4 → α5 → ZM → Prop, (∀ (x0 : α0) (x1 : α1) (x2 : α2) (x3 : α3) (x4 : α4) (x5 : α5), ZW p l e R s m args below meth c Q nL D A al n0 (r x0 x1 x2 x3 x4 x5) pc (Lf x0 x1 x2 x3 x4 x5) (sf x0 x1 x2 x3 x4 x5)) → ∀ (x0 : α0) (x1 : α1) (x2 : α2) (x3 : α3) (x4 : α4) (x5 : α5), ZW p l e R s m args below meth c Q nL D A al n0 (b r x0 x1 x2 x3 x4 x5) pc (Lf x0 x1 x2 x3 x4 x5) (sf x0 x1 x2 x3 x4 x5)) : ∀ (x0 : α0) (x1 : α1) (x2 : α2) (x3 : α3) (x4 : α4) (x5 : α5), ZW p l e R s m args below meth c Q nL D A al n0 (zw6 b x0 x1 x2 x3 x4 x5) pc (Lf x0 x1 x2 x3 x4 x5) (sf x0 x1 x2 x3 x4 x5) := by
  have key : ∀ n, ∀ (x0 : α0) (x1 : α1) (x2 : α2) (x3 : α3) (x4 : α4) (x5 : α5), ZW p l e R s m args below meth c Q nL D A al n0 (zlp6 b n x0 x1 x2 x3 x4 x5) pc (Lf x0 x1 x2 x3 x4 x5) (sf x0 x1 x2 x3 x4 x5) := by
    intro n
    induction n with
    | zero => intro x0 x1 x2 x3 x4 x5 μ H locs cells slots ls hI h hP; exact hP.elim
    | succ n ih => exact hb (zlp6 b n) ih
  intro x0 x1 x2 x3 x4 x5 μ H locs cells slots ls hI h hP
  obtain ⟨n, hn⟩ := hP
  exact key n x0 x1 x2 x3 x4 x5 μ H locs cells slots ls hI h hn
theorem Z.w7 {α0 α1 α2 α3 α4 α5 α6 : Type} {b : (α0 → α1 → α2 → α3 → α4 → α5 → α6 → ZM → Prop) → α0 → α1 → α2 → α3 → α4 → α5 → α6 → ZM → Prop} {Lf : α0 → α1 → α2 → α3 → α4 → α5 → α6 → List (Nat × Value)} {sf : α0 → α1 → α2 → α3 → α4 → α5 → α6 → List Value} (hb : ∀ r : α0 → α1 → α2 → α3 → α4 → α5 → α6 → ZM → Prop, (∀ (x0 : α0) (x1 : α1) (x2 : α2) (x3 : α3) (x4 : α4) (x5 : α5) (x6 : α6), ZW p l e R s m args below meth c Q nL D A al n0 (r x0 x1 x2 x3 x4 x5 x6) pc (Lf x0 x1 x2 x3 x4 x5 x6) (sf x0 x1 x2 x3 x4 x5 x6)) → ∀ (x0 : α0) (x1 : α1) (x2 : α2) (x3 : α3) (x4 : α4) (x5 : α5) (x6 : α6), ZW p l e R s m args below meth c Q nL D A al n0 (b r x0 x1 x2 x3 x4 x5 x6) pc (Lf x0 x1 x2 x3 x4 x5 x6) (sf x0 x1 x2 x3 x4 x5 x6)) : ∀ (x0 : α0) (x1 : α1) (x2 : α2) (x3 : α3) (x4 : α4) (x5 : α5) (x6 : α6), ZW p l e R s m args below meth c Q nL D A al n0 (zw7 b x0 x1 x2 x3 x4 x5 x6) pc (Lf x0 x1 x2 x3 x4 x5 x6) (sf x0 x1 x2 x3 x4 x5 x6) := by
  have key : ∀ n, ∀ (x0 : α0) (x1 : α1) (x2 : α2) (x3 : α3) (x4 : α4) (x5 : α5) (x6 : α6), ZW p l e R s m args below meth c Q nL D A al n0 (zlp7 b n x0 x1 x2 x3 x4 x5 x6) pc (Lf x0 x1 x2 x3 x4 x5 x6) (sf x0 x1 x2 x3 x4 x5 x6) := by
    intro n
    induction n with
    | zero => intro x0 x1 x2 x3 x4 x5 x6 μ H locs cells slots ls hI h hP; exact hP.elim
    | succ n ih => exact hb (zlp7 b n) ih
  intro x0 x1 x2 x3 x4 x5 x6 μ H locs cells slots ls hI h hP
  obtain ⟨n, hn⟩ := hP
  exact key n x0 x1 x2 x3 x4 x5 x6 μ H locs cells slots ls hI h hn
theorem Z.w8 {α0 α1 α2 α3 α4 α5 α6 α7 : Type} {b : (α0 → α1 → α2 → α3 → α4 → α5 → α6 → α7 → ZM → Prop) → α0 → α1 → α2 → α3 → α4 → α5 → α6 → α7 → ZM → Prop} {Lf : α0 → α1 → α2 → α3 → α4 → α5 → α6 → α7 → List (Nat × Value)} {sf : α0 → α1 → α2 → α3 → α4 → α5 → α6 → α7 → List Value} (hb : ∀ r : α0 → α1 → α2 → α3 → α4 → α5 → α6 → α7 → ZM → Prop, (∀ (x0 : α0) (x1 : α1) (x2 : α2) (x3 : α3) (x4 : α4) (x5 : α5) (x6 : α6) (x7 : α7), ZW p l e R s m args below meth c Q nL D A al n0 (r x0 x1 x2 x3 x4 x5 x6 x7) pc (Lf x0 x1 x2 x3 x4 x5 x6 x7) (sf x0 x1 x2 x3 x4 x5 x6 x7)) → ∀ (x0 : α0) (x1 : α1) (x2 : α2) (x3 : α3) (x4 : α4) (x5 : α5) (x6 : α6) (x7 : α7), ZW p l e R s m args below meth c Q nL D A al n0 (b r x0 x1 x2 x3 x4 x5 x6 x7) pc (Lf x0 x1 x2 x3 x4 x5 x6 x7) (sf x0 x1 x2 x3 x4 x5 x6 x7)) : ∀ (x0 : α0) (x1 : α1) (x2 : α2) (x3 : α3) (x4 : α4) (x5 : α5) (x6 : α6) (x7 : α7), ZW p l e R s m args below meth c Q nL D A al n0 (zw8 b x0 x1 x2 x3 x4 x5 x6 x7) pc (Lf x0 x1 x2 x3 x4 x5 x6 x7) (sf x0 x1 x2 x3 x4 x5 x6 x7) := by
  have key : ∀ n, ∀ (x0 : α0) (x1 : α1) (x2 : α2) (x3 : α3) (x4 : α4) (x5 : α5) (x6 : α6) (x7 : α7), ZW p l e R s m args below meth c Q nL D A al n0 (zlp8 b n x0 x1 x2 x3 x4 x5 x6 x7) pc (Lf x0 x1 x2 x3 x4 x5 x6 x7) (sf x0 x1 x2 x3 x4 x5 x6 x7) := by
    intro n
    induction n with
    | zero => intro x0 x1 x2 x3 x4 x5 x6 x7 μ H locs cells slots ls hI h hP; exact hP.elim
    | succ n ih => exact hb (zlp8 b n) ih
  intro x0 x1 x2 x3 x4 x5 x6 x7 μ H locs cells slots ls hI h hP
  obtain ⟨n, hn⟩ := hP
  exact key n x0 x1 x2 x3 x4 x5 x6 x7 μ H locs cells slots ls hI h hn
end ZRows
