/-! MEMORY ROWS -/
section ZMem
variable {p : Program} {l : Launch} {e : Env} {R : Room} {s : State} {m : MethodId} {args : Array Value} {below : List Frame} {meth : Method} {c : Code} {Q : State → Prop} {nL : Nat} {D : ZD} {A : Nat → Prop} {al : Bool} {n0 : Nat × Nat × Nat} {cc : ByteArray} {own nm : String} {ret : Option FieldType} {sz mc ms fr lo : Nat}
variable {P : ZM → Prop} {pc i : Nat} {L : List (Nat × Value)} {st : List Value} {v x : Int32} {w : Int64} {H H1 : Heap} {locs : List Loc} {cells slots : Nat} {ls : Array Slot} {μ μ' : ZM}
theorem zce_o {D : ZD} {ci n : Nat} {I : Nat → Int32} {L : Nat → Int64} {R : Nat → Nat} (h : ci + 1 < 50) : zce D (ci + 1) n I L R = .inr (ci, zfs (zK ci) I L R) := by
  unfold zce
  rw [if_pos h]
  rfl
theorem zce_a {D : ZD} {t n : Nat} {I : Nat → Int32} {L : Nat → Int64} {R : Nat → Nat} : zce D (t + 50) n I L R = .inl (D.2.1 t, n, zarr t I L R) := by
  unfold zce
  rw [if_neg (by omega), Nat.add_sub_cancel]
theorem zone {D : va_G} {cl : List vw_C} {q : Nat × va_E} {H : Heap} (h : va_at D cl q H) : va_P D cl [q] H := by
  intro k x hx
  have hk : k < 1 := (List.getElem?_eq_some_iff.mp hx).1
  rw [show k = 0 by omega] at hx
  cases hx
  exact h
/-- the cell behind an address with a tag -/
theorem ZR.cell (h : ZR D A μ H) {z t : Nat} (ht : zT μ z = t) (h0 : t ≠ 0) : ∃ n, z = n + 1 ∧ A n ∧ va_at D.1 zCl (n, zce D t (zN μ z) (zI μ z) (zL μ z) (zR μ z)) H := by
  obtain ⟨n, h1, h2, h3⟩ := h.1 z (by rw [ht]; exact h0)
  exact ⟨n, h1, h2, by rw [ht] at h3; exact h3⟩
/-- one cell written -/
theorem ZR.put (h : ZR D A μ H) {n : Nat} (h1 : va_at D.1 zCl (n, zce D (zT μ (n + 1)) (zN μ (n + 1)) (zI μ' (n + 1)) (zL μ' (n + 1)) (zR μ' (n + 1))) H1) (hA : A n) (oq : ∀ q : Nat, q ≠ n → H1[q]? = H[q]?)
    (hT : zT μ' = zT μ) (hN : zN μ' = zN μ) (hE : zE μ' = zE μ) (hI : ∀ a, a ≠ n + 1 → zI μ' a = zI μ a ∧ zL μ' a = zL μ a ∧ zR μ' a = zR μ a) : ZR D A μ' H1 := by
  refine ⟨fun a ha => ?_, hE.trans h.2⟩
  rw [hT] at ha
  by_cases e : a = n + 1
  · subst e
    exact ⟨n, rfl, hA, by rw [hT, hN]; exact h1⟩
  · obtain ⟨k, h2, h3, h4⟩ := h.1 a ha
    obtain ⟨e1, e2, e3⟩ := hI a e
    refine ⟨k, h2, h3, ?_⟩
    rw [hT, hN, e1, e2, e3]
    exact h4.kept (oq k (by omega))
theorem ZB.put (h : ZB al n0 A R s cells slots μ H) (hz : H1.size = H.size) (h1 : zX μ' = zX μ) (h2 : zC μ' = zC μ) (h3 : zS μ' = zS μ) : ZB al n0 A R s cells slots μ' H1 := by
  unfold ZB at h ⊢
  rw [hz, h1, h2, h3]
  exact h
theorem zu_ne {α : Type} {f : Nat → Nat → α} {a b i : Nat} {v : α} (h : b ≠ a) : zu f a i v b = f b := by
  funext j
  simp [zu, h]
theorem zu_eq {α : Type} {f : Nat → Nat → α} {a i : Nat} {v : α} : zu f a i v a = fun j => if j = i then v else f a j := by
  funext j
  simp [zu]
theorem zu1_ne {α : Type} {f : Nat → α} {a b : Nat} {v : α} (h : b ≠ a) : zu1 f a v b = f b := by simp [zu1, h]
theorem zu1_eq {α : Type} {f : Nat → α} {a : Nat} {v : α} : zu1 f a v a = v := by simp [zu1]
theorem Z.getI (F : ZF p R s m args meth c cc nL own nm ret D A al sz mc ms fr lo) {ref C : String} {T : u_T} {N ci index kf : Nat} (hin : ∀ w ∈ u_ws C T N, w ∈ lw_all) (hc : zCl[ci]? = some (C, T, N)) (hci : ci + 1 < 50) (hk : kf < N) (hlink : Cond.fieldLink own index ref (T kf).2.1 (T kf).2.2.1 ∈ lw_all) (hsame : ∀ x, s.fieldFound? (T kf).1 (T kf).2.1 (T kf).2.2.1 = some x → s.fieldFound? ref (T kf).2.1 (T kf).2.2.1 = some x) (hkk : (zK ci)[kf]? = some 0) {z : Nat} {K : Int32 → ZM → Prop} (hdg : decode cc pc = .ok (.getfield index, 3)) (k : ∀ u, ZW p l e R s m args below meth c Q nL D A al n0 (K u) (pc + 3) L (.int u :: st)) : ZW p l e R s m args below meth c Q nL D A al n0 (zgI (ci + 1) z kf K) pc L (zv z :: st) := by
  intro μ H locs cells slots ls hI h hP
  obtain ⟨ht, hP⟩ := hP
  obtain ⟨n, rfl, hA, hat⟩ := hI.1.cell ht (Nat.succ_ne_zero _)
  rw [zce_o hci] at hat
  exact va_get F.hx F.hb F.hts hin F.hown F.hK (zone hat) 0 rfl hc kf hk (F.hts _ hlink) hsame (zfs_get hkk) hdg (k _ μ H locs cells slots ls hI h hP)
theorem Z.getL (F : ZF p R s m args meth c cc nL own nm ret D A al sz mc ms fr lo) {ref C : String} {T : u_T} {N ci index kf : Nat} (hin : ∀ w ∈ u_ws C T N, w ∈ lw_all) (hc : zCl[ci]? = some (C, T, N)) (hci : ci + 1 < 50) (hk : kf < N) (hlink : Cond.fieldLink own index ref (T kf).2.1 (T kf).2.2.1 ∈ lw_all) (hsame : ∀ x, s.fieldFound? (T kf).1 (T kf).2.1 (T kf).2.2.1 = some x → s.fieldFound? ref (T kf).2.1 (T kf).2.2.1 = some x) (hkk : (zK ci)[kf]? = some 1) {z : Nat} {K : Int64 → ZM → Prop} (hdg : decode cc pc = .ok (.getfield index, 3)) (k : ∀ u, ZW p l e R s m args below meth c Q nL D A al n0 (K u) (pc + 3) L (.long u :: st)) : ZW p l e R s m args below meth c Q nL D A al n0 (zgL (ci + 1) z kf K) pc L (zv z :: st) := by
  intro μ H locs cells slots ls hI h hP
  obtain ⟨ht, hP⟩ := hP
  obtain ⟨n, rfl, hA, hat⟩ := hI.1.cell ht (Nat.succ_ne_zero _)
  rw [zce_o hci] at hat
  exact va_get F.hx F.hb F.hts hin F.hown F.hK (zone hat) 0 rfl hc kf hk (F.hts _ hlink) hsame (zfs_get hkk) hdg (k _ μ H locs cells slots ls hI h hP)
theorem Z.getR (F : ZF p R s m args meth c cc nL own nm ret D A al sz mc ms fr lo) {ref C : String} {T : u_T} {N ci index kf : Nat} (hin : ∀ w ∈ u_ws C T N, w ∈ lw_all) (hc : zCl[ci]? = some (C, T, N)) (hci : ci + 1 < 50) (hk : kf < N) (hlink : Cond.fieldLink own index ref (T kf).2.1 (T kf).2.2.1 ∈ lw_all) (hsame : ∀ x, s.fieldFound? (T kf).1 (T kf).2.1 (T kf).2.2.1 = some x → s.fieldFound? ref (T kf).2.1 (T kf).2.2.1 = some x) (hkk : (zK ci)[kf]? = some 2) {z : Nat} {K : Nat → ZM → Prop} (hdg : decode cc pc = .ok (.getfield index, 3)) (k : ∀ u, ZW p l e R s m args below meth c Q nL D A al n0 (K u) (pc + 3) L (zv u :: st)) : ZW p l e R s m args below meth c Q nL D A al n0 (zgR (ci + 1) z kf K) pc L (zv z :: st) := by
  intro μ H locs cells slots ls hI h hP
  obtain ⟨ht, hP⟩ := hP
  obtain ⟨n, rfl, hA, hat⟩ := hI.1.cell ht (Nat.succ_ne_zero _)
  rw [zce_o hci] at hat
  exact va_get F.hx F.hb F.hts hin F.hown F.hK (zone hat) 0 rfl hc kf hk (F.hts _ hlink) hsame (zfs_get hkk) hdg (k _ μ H locs cells slots ls hI h hP)
theorem Z.getIN (F : ZF p R s m args meth c cc nL own nm ret D A al sz mc ms fr lo) {ref C : String} {T : u_T} {N ci index kf : Nat} (hin : ∀ w ∈ u_ws C T N, w ∈ lw_all) (hc : zCl[ci]? = some (C, T, N)) (hci : ci + 1 < 50) (hk : kf < N) {host : String} (hlink : (own, index, ref, (T kf).2.1, (T kf).2.2.1, host) ∈ zNf) (hsame : ∀ x, s.fieldFound? (T kf).1 (T kf).2.1 (T kf).2.2.1 = some x → s.fieldFound? ref (T kf).2.1 (T kf).2.2.1 = some x) (hkk : (zK ci)[kf]? = some 0) {z : Nat} {K : Int32 → ZM → Prop} (hdg : decode cc pc = .ok (.getfield index, 3)) (k : ∀ u, ZW p l e R s m args below meth c Q nL D A al n0 (K u) (pc + 3) L (.int u :: st)) : ZW p l e R s m args below meth c Q nL D A al n0 (zgI (ci + 1) z kf K) pc L (zv z :: st) := by
  intro μ H locs cells slots ls hI h hP
  obtain ⟨ht, hP⟩ := hP
  obtain ⟨n, rfl, hA, hat⟩ := hI.1.cell ht (Nat.succ_ne_zero _)
  rw [zce_o hci] at hat
  exact va_getN F.hx F.hb F.hts hin F.hown F.hK (zone hat) 0 rfl hc kf hk (va_Nw.use rfl (F.hS.2.1.1 _ hlink)) hsame (zfs_get hkk) hdg (k _ μ H locs cells slots ls hI h hP)
theorem Z.getLN (F : ZF p R s m args meth c cc nL own nm ret D A al sz mc ms fr lo) {ref C : String} {T : u_T} {N ci index kf : Nat} (hin : ∀ w ∈ u_ws C T N, w ∈ lw_all) (hc : zCl[ci]? = some (C, T, N)) (hci : ci + 1 < 50) (hk : kf < N) {host : String} (hlink : (own, index, ref, (T kf).2.1, (T kf).2.2.1, host) ∈ zNf) (hsame : ∀ x, s.fieldFound? (T kf).1 (T kf).2.1 (T kf).2.2.1 = some x → s.fieldFound? ref (T kf).2.1 (T kf).2.2.1 = some x) (hkk : (zK ci)[kf]? = some 1) {z : Nat} {K : Int64 → ZM → Prop} (hdg : decode cc pc = .ok (.getfield index, 3)) (k : ∀ u, ZW p l e R s m args below meth c Q nL D A al n0 (K u) (pc + 3) L (.long u :: st)) : ZW p l e R s m args below meth c Q nL D A al n0 (zgL (ci + 1) z kf K) pc L (zv z :: st) := by
  intro μ H locs cells slots ls hI h hP
  obtain ⟨ht, hP⟩ := hP
  obtain ⟨n, rfl, hA, hat⟩ := hI.1.cell ht (Nat.succ_ne_zero _)
  rw [zce_o hci] at hat
  exact va_getN F.hx F.hb F.hts hin F.hown F.hK (zone hat) 0 rfl hc kf hk (va_Nw.use rfl (F.hS.2.1.1 _ hlink)) hsame (zfs_get hkk) hdg (k _ μ H locs cells slots ls hI h hP)
theorem Z.getRN (F : ZF p R s m args meth c cc nL own nm ret D A al sz mc ms fr lo) {ref C : String} {T : u_T} {N ci index kf : Nat} (hin : ∀ w ∈ u_ws C T N, w ∈ lw_all) (hc : zCl[ci]? = some (C, T, N)) (hci : ci + 1 < 50) (hk : kf < N) {host : String} (hlink : (own, index, ref, (T kf).2.1, (T kf).2.2.1, host) ∈ zNf) (hsame : ∀ x, s.fieldFound? (T kf).1 (T kf).2.1 (T kf).2.2.1 = some x → s.fieldFound? ref (T kf).2.1 (T kf).2.2.1 = some x) (hkk : (zK ci)[kf]? = some 2) {z : Nat} {K : Nat → ZM → Prop} (hdg : decode cc pc = .ok (.getfield index, 3)) (k : ∀ u, ZW p l e R s m args below meth c Q nL D A al n0 (K u) (pc + 3) L (zv u :: st)) : ZW p l e R s m args below meth c Q nL D A al n0 (zgR (ci + 1) z kf K) pc L (zv z :: st) := by
  intro μ H locs cells slots ls hI h hP
  obtain ⟨ht, hP⟩ := hP
  obtain ⟨n, rfl, hA, hat⟩ := hI.1.cell ht (Nat.succ_ne_zero _)
  rw [zce_o hci] at hat
  exact va_getN F.hx F.hb F.hts hin F.hown F.hK (zone hat) 0 rfl hc kf hk (va_Nw.use rfl (F.hS.2.1.1 _ hlink)) hsame (zfs_get hkk) hdg (k _ μ H locs cells slots ls hI h hP)
theorem Z.put0 (F : ZF p R s m args meth c cc nL own nm ret D A al sz mc ms fr lo) {ref C : String} {T : u_T} {N ci index kf : Nat} (hin : ∀ w ∈ u_ws C T N, w ∈ lw_all) (hc : zCl[ci]? = some (C, T, N)) (hci : ci + 1 < 50) (hk : kf < N) (hlink : Cond.fieldLink own index ref (T kf).2.1 (T kf).2.2.1 ∈ lw_all) (hsame : ∀ x, s.fieldFound? (T kf).1 (T kf).2.1 (T kf).2.2.1 = some x → s.fieldFound? ref (T kf).2.1 (T kf).2.2.1 = some x) (ty0 : Nat → FieldType) (hty : ∀ k, k < N → parseFieldDescriptor (T k).2.2.1 = some (ty0 k)) (hnm : ∀ a, a < N → ∀ b, b < N → a ≠ b → (T a).2.1 ≠ (T b).2.1) (hfin : (T kf).2.2.2 = false) {ty : FieldType} {u : Value} (hd : parseFieldDescriptor (T kf).2.2.1 = some ty) (hn : narrow ty u = u) (hfit : fits ty u = true) {n : Nat} {fs : List Value} (hl : kf < fs.length) (hat : va_at D.1 zCl (n, .inr (ci, fs)) H) (hA : A n) (hS : va_S A s.heap H locs) (hdg : decode cc pc = .ok (.putfield index, 3))
    (kk : ∀ (H1 : Heap) (locs1 : List Loc), va_at D.1 zCl (n, .inr (ci, fs.set kf u)) H1 → H1.size = H.size → (∀ q : Nat, q ≠ n → H1[q]? = H[q]?) → va_S A s.heap H1 locs1 → W p l e R s m args below meth c H1 locs1 cells slots Q (F0 m (pc + 3) ls st)) : W p l e R s m args below meth c H locs cells slots Q (F0 m pc ls (u :: .ref n :: st)) := by
  have hap := va_apart (own := own) F.hts hin ty0 hty hnm F.hK hc
  obtain ⟨r, h1, cell, q1, q2, q3, q4⟩ := hat
  have hr : r = (C, T, N) := Option.some.inj (h1.symm.trans hc)
  subst hr
  obtain ⟨hSl, hfc, kC, hkC, hkind⟩ := F.hK.1 ci _ hc
  obtain ⟨cf, kf0, fi, f, hi, hsl⟩ := hSl kf hk
  have hlay := F.hts _ (hin _ (u_in_lay hk))
  unfold u_lay at hlay
  rw [if_neg (by rw [hfin]; decide)] at hlay
  have hst := (u_facts hfc hkC (u_lays F.hts hin hk) hi).1
  have h6 := u_store hfc hkC hkind hlay hi hd hn hfit
  refine W.putK F.hx F.hb (f := f) ⟨F.hown, (F.hts _ hlink), ⟨_, _, _, hsame _ hi⟩, hst⟩ (by rw [q2]; exact h6) q1 q3 (by rw [hsl]; exact k2_hasslot (q4 kf hk)) rfl rfl hdg fun H' e1 e2 e3 => ?_
  rw [hsl] at e1 ⊢
  exact kk H' _ ⟨_, hc, t_OB.to (V := updV (vp_V fs) kf u) ⟨_, e1, q2, q3, t_set q4 hap hk u⟩ (fun j _ => vp_updV_set hl u j)⟩ e2 e3 (hS.put e2 e3 hA)
theorem Z.put0N (F : ZF p R s m args meth c cc nL own nm ret D A al sz mc ms fr lo) {ref C : String} {T : u_T} {N ci index kf : Nat} (hin : ∀ w ∈ u_ws C T N, w ∈ lw_all) (hc : zCl[ci]? = some (C, T, N)) (hci : ci + 1 < 50) (hk : kf < N) {host : String} (hlink : (own, index, ref, (T kf).2.1, (T kf).2.2.1, host) ∈ zNf) (hsame : ∀ x, s.fieldFound? (T kf).1 (T kf).2.1 (T kf).2.2.1 = some x → s.fieldFound? ref (T kf).2.1 (T kf).2.2.1 = some x) (ty0 : Nat → FieldType) (hty : ∀ k, k < N → parseFieldDescriptor (T k).2.2.1 = some (ty0 k)) (hnm : ∀ a, a < N → ∀ b, b < N → a ≠ b → (T a).2.1 ≠ (T b).2.1) (hfin : (T kf).2.2.2 = false) {ty : FieldType} {u : Value} (hd : parseFieldDescriptor (T kf).2.2.1 = some ty) (hn : narrow ty u = u) (hfit : fits ty u = true) {n : Nat} {fs : List Value} (hl : kf < fs.length) (hat : va_at D.1 zCl (n, .inr (ci, fs)) H) (hA : A n) (hS : va_S A s.heap H locs) (hdg : decode cc pc = .ok (.putfield index, 3))
    (kk : ∀ (H1 : Heap) (locs1 : List Loc), va_at D.1 zCl (n, .inr (ci, fs.set kf u)) H1 → H1.size = H.size → (∀ q : Nat, q ≠ n → H1[q]? = H[q]?) → va_S A s.heap H1 locs1 → W p l e R s m args below meth c H1 locs1 cells slots Q (F0 m (pc + 3) ls st)) : W p l e R s m args below meth c H locs cells slots Q (F0 m pc ls (u :: .ref n :: st)) := by
  have hap := va_apart (own := own) F.hts hin ty0 hty hnm F.hK hc
  obtain ⟨r, h1, cell, q1, q2, q3, q4⟩ := hat
  have hr : r = (C, T, N) := Option.some.inj (h1.symm.trans hc)
  subst hr
  obtain ⟨hSl, hfc, kC, hkC, hkind⟩ := F.hK.1 ci _ hc
  obtain ⟨cf, kf0, fi, f, hi, hsl⟩ := hSl kf hk
  have hlay := F.hts _ (hin _ (u_in_lay hk))
  unfold u_lay at hlay
  rw [if_neg (by rw [hfin]; decide)] at hlay
  have hst := (u_facts hfc hkC (u_lays F.hts hin hk) hi).1
  have h6 := u_store hfc hkC hkind hlay hi hd hn hfit
  refine va_WputK F.hx F.hb (f := f) F.hown (va_Nw.use rfl (F.hS.2.1.1 _ hlink)) (hsame _ hi) hst (by rw [q2]; exact h6) q1 q3 (by rw [hsl]; exact k2_hasslot (q4 kf hk)) rfl rfl hdg fun H' e1 e2 e3 => ?_
  rw [hsl] at e1 ⊢
  exact kk H' _ ⟨_, hc, t_OB.to (V := updV (vp_V fs) kf u) ⟨_, e1, q2, q3, t_set q4 hap hk u⟩ (fun j _ => vp_updV_set hl u j)⟩ e2 e3 (hS.put e2 e3 hA)
theorem Z.put0F (F : ZF p R s m args meth c cc nL own nm ret D A al sz mc ms fr lo) {ref C : String} {T : u_T} {N ci index kf : Nat} (hin : ∀ w ∈ u_ws C T N, w ∈ lw_all) (hc : zCl[ci]? = some (C, T, N)) (hci : ci + 1 < 50) (hk : kf < N) (hlink : Cond.fieldLink own index ref (T kf).2.1 (T kf).2.2.1 ∈ lw_all) (hsame : ∀ x, s.fieldFound? (T kf).1 (T kf).2.1 (T kf).2.2.1 = some x → s.fieldFound? ref (T kf).2.1 (T kf).2.2.1 = some x) (ty0 : Nat → FieldType) (hty : ∀ k, k < N → parseFieldDescriptor (T k).2.2.1 = some (ty0 k)) (hnm : ∀ a, a < N → ∀ b, b < N → a ≠ b → (T a).2.1 ≠ (T b).2.1) (hfin : (T kf).2.2.2 = true) (hin2 : nm = "<init>") (hdecl : (T kf).1 = own) {ty : FieldType} {u : Value} (hd : parseFieldDescriptor (T kf).2.2.1 = some ty) (hn : narrow ty u = u) (hfit : fits ty u = true) {n : Nat} {fs : List Value} (hl : kf < fs.length) (hat : va_at D.1 zCl (n, .inr (ci, fs)) H) (hA : A n) (hS : va_S A s.heap H locs) (hdg : decode cc pc = .ok (.putfield index, 3))
    (kk : ∀ (H1 : Heap) (locs1 : List Loc), va_at D.1 zCl (n, .inr (ci, fs.set kf u)) H1 → H1.size = H.size → (∀ q : Nat, q ≠ n → H1[q]? = H[q]?) → va_S A s.heap H1 locs1 → W p l e R s m args below meth c H1 locs1 cells slots Q (F0 m (pc + 3) ls st)) : W p l e R s m args below meth c H locs cells slots Q (F0 m pc ls (u :: .ref n :: st)) := by
  have hap := va_apart (own := own) F.hts hin ty0 hty hnm F.hK hc
  obtain ⟨r, h1, cell, q1, q2, q3, q4⟩ := hat
  have hr : r = (C, T, N) := Option.some.inj (h1.symm.trans hc)
  subst hr
  obtain ⟨hSl, hfc, kC, hkC, hkind⟩ := F.hK.1 ci _ hc
  obtain ⟨cf, kf0, fi, f, hi, hsl⟩ := hSl kf hk
  have hlay := F.hts _ (hin _ (u_in_lay hk))
  unfold u_lay at hlay
  rw [if_pos hfin] at hlay
  have hst := (u_facts hfc hkC (u_lays F.hts hin hk) hi).1
  have hcf : m.cls = cf := by
    obtain ⟨_, _, c', _, _, _, -, -, hf', -, -, -, hown2, -⟩ := Cond.laysFinal_spec hlay
    have e1 : c' = cf := by have := hi.symm.trans hf'; simp at this; exact this.1.symm
    rw [hdecl] at hown2
    rw [← e1]; exact Option.some.inj (F.hown.symm.trans hown2)
  have h6 := u_fits hfc hkC hkind (Or.inr hlay) hi hd hn hfit
  refine W.putFinK F.hx F.hb F.hown (F.hts _ hlink) (hsame _ hi) hst hcf (F.hnm.trans hin2) (by rw [q2]; exact h6) q1 q3 (by rw [hsl]; exact k2_hasslot (q4 kf hk)) rfl rfl hdg fun H' e1 e2 e3 => ?_
  rw [hsl] at e1 ⊢
  exact kk H' _ ⟨_, hc, t_OB.to (V := updV (vp_V fs) kf u) ⟨_, e1, q2, q3, t_set q4 hap hk u⟩ (fun j _ => vp_updV_set hl u j)⟩ e2 e3 (hS.put e2 e3 hA)
theorem Z.putI (F : ZF p R s m args meth c cc nL own nm ret D A al sz mc ms fr lo) {ref C : String} {T : u_T} {N ci index kf : Nat} (hin : ∀ w ∈ u_ws C T N, w ∈ lw_all) (hc : zCl[ci]? = some (C, T, N)) (hci : ci + 1 < 50) (hk : kf < N) (hlink : Cond.fieldLink own index ref (T kf).2.1 (T kf).2.2.1 ∈ lw_all) (hsame : ∀ x, s.fieldFound? (T kf).1 (T kf).2.1 (T kf).2.2.1 = some x → s.fieldFound? ref (T kf).2.1 (T kf).2.2.1 = some x) (ty0 : Nat → FieldType) (hty : ∀ k, k < N → parseFieldDescriptor (T k).2.2.1 = some (ty0 k)) (hnm : ∀ a, a < N → ∀ b, b < N → a ≠ b → (T a).2.1 ≠ (T b).2.1) (hfin : (T kf).2.2.2 = false) (hd : parseFieldDescriptor (T kf).2.2.1 = some .int) (hkk : (zK ci)[kf]? = some 0) {z : Nat} {u : Int32} (hdg : decode cc pc = .ok (.putfield index, 3)) (k : ZW p l e R s m args below meth c Q nL D A al n0 P (pc + 3) L st) : ZW p l e R s m args below meth c Q nL D A al n0 (zpI (ci + 1) z kf u P) pc L (.int u :: zv z :: st) := by
  intro μ H locs cells slots ls hI h hP
  obtain ⟨ht, hP⟩ := hP
  skip
  obtain ⟨n, rfl, hA, hat⟩ := hI.1.cell ht (Nat.succ_ne_zero _)
  rw [zce_o hci] at hat
  refine Z.put0 F hin hc hci hk hlink hsame ty0 hty hnm hfin hd rfl rfl (by rw [zfs_len]; exact (List.getElem?_eq_some_iff.mp hkk).1) hat hA hI.2.1 hdg fun H1 locs1 e1 e2 e3 e4 => ?_
  refine k (zsI μ (n + 1) kf u) H1 locs1 cells slots ls ⟨hI.1.put (n := n) ?_ hA e3 rfl rfl rfl ?_, e4, hI.2.2.put e2 rfl rfl rfl⟩ h hP
  · rw [ht, zce_o hci]
    rw [zfs_setI hkk] at e1
    have e9 := e1
    simp only [zsI, zI_mk, zL_mk, zR_mk, zu_eq]
    exact e9
  · intro a ha
    simp only [zsI, zI_mk, zL_mk, zR_mk, zu_ne ha]
    exact ⟨trivial, trivial, trivial⟩
theorem Z.putZ (F : ZF p R s m args meth c cc nL own nm ret D A al sz mc ms fr lo) {ref C : String} {T : u_T} {N ci index kf : Nat} (hin : ∀ w ∈ u_ws C T N, w ∈ lw_all) (hc : zCl[ci]? = some (C, T, N)) (hci : ci + 1 < 50) (hk : kf < N) (hlink : Cond.fieldLink own index ref (T kf).2.1 (T kf).2.2.1 ∈ lw_all) (hsame : ∀ x, s.fieldFound? (T kf).1 (T kf).2.1 (T kf).2.2.1 = some x → s.fieldFound? ref (T kf).2.1 (T kf).2.2.1 = some x) (ty0 : Nat → FieldType) (hty : ∀ k, k < N → parseFieldDescriptor (T k).2.2.1 = some (ty0 k)) (hnm : ∀ a, a < N → ∀ b, b < N → a ≠ b → (T a).2.1 ≠ (T b).2.1) (hfin : (T kf).2.2.2 = false) (hd : parseFieldDescriptor (T kf).2.2.1 = some .boolean) (hkk : (zK ci)[kf]? = some 0) {z : Nat} {u : Int32} (hdg : decode cc pc = .ok (.putfield index, 3)) (k : ZW p l e R s m args below meth c Q nL D A al n0 P (pc + 3) L st) : ZW p l e R s m args below meth c Q nL D A al n0 (zpZ (ci + 1) z kf u P) pc L (.int u :: zv z :: st) := by
  intro μ H locs cells slots ls hI h hP
  obtain ⟨ht, hP⟩ := hP
  obtain ⟨hz, hP⟩ := hP
  obtain ⟨n, rfl, hA, hat⟩ := hI.1.cell ht (Nat.succ_ne_zero _)
  rw [zce_o hci] at hat
  refine Z.put0 F hin hc hci hk hlink hsame ty0 hty hnm hfin hd (by rcases hz with rfl | rfl <;> rfl) (by rcases hz with rfl | rfl <;> rfl) (by rw [zfs_len]; exact (List.getElem?_eq_some_iff.mp hkk).1) hat hA hI.2.1 hdg fun H1 locs1 e1 e2 e3 e4 => ?_
  refine k (zsI μ (n + 1) kf u) H1 locs1 cells slots ls ⟨hI.1.put (n := n) ?_ hA e3 rfl rfl rfl ?_, e4, hI.2.2.put e2 rfl rfl rfl⟩ h hP
  · rw [ht, zce_o hci]
    rw [zfs_setI hkk] at e1
    have e9 := e1
    simp only [zsI, zI_mk, zL_mk, zR_mk, zu_eq]
    exact e9
  · intro a ha
    simp only [zsI, zI_mk, zL_mk, zR_mk, zu_ne ha]
    exact ⟨trivial, trivial, trivial⟩
theorem Z.putL (F : ZF p R s m args meth c cc nL own nm ret D A al sz mc ms fr lo) {ref C : String} {T : u_T} {N ci index kf : Nat} (hin : ∀ w ∈ u_ws C T N, w ∈ lw_all) (hc : zCl[ci]? = some (C, T, N)) (hci : ci + 1 < 50) (hk : kf < N) (hlink : Cond.fieldLink own index ref (T kf).2.1 (T kf).2.2.1 ∈ lw_all) (hsame : ∀ x, s.fieldFound? (T kf).1 (T kf).2.1 (T kf).2.2.1 = some x → s.fieldFound? ref (T kf).2.1 (T kf).2.2.1 = some x) (ty0 : Nat → FieldType) (hty : ∀ k, k < N → parseFieldDescriptor (T k).2.2.1 = some (ty0 k)) (hnm : ∀ a, a < N → ∀ b, b < N → a ≠ b → (T a).2.1 ≠ (T b).2.1) (hfin : (T kf).2.2.2 = false) (hd : parseFieldDescriptor (T kf).2.2.1 = some .long) (hkk : (zK ci)[kf]? = some 1) {z : Nat} {u : Int64} (hdg : decode cc pc = .ok (.putfield index, 3)) (k : ZW p l e R s m args below meth c Q nL D A al n0 P (pc + 3) L st) : ZW p l e R s m args below meth c Q nL D A al n0 (zpL (ci + 1) z kf u P) pc L (.long u :: zv z :: st) := by
  intro μ H locs cells slots ls hI h hP
  obtain ⟨ht, hP⟩ := hP
  skip
  obtain ⟨n, rfl, hA, hat⟩ := hI.1.cell ht (Nat.succ_ne_zero _)
  rw [zce_o hci] at hat
  refine Z.put0 F hin hc hci hk hlink hsame ty0 hty hnm hfin hd rfl rfl (by rw [zfs_len]; exact (List.getElem?_eq_some_iff.mp hkk).1) hat hA hI.2.1 hdg fun H1 locs1 e1 e2 e3 e4 => ?_
  refine k (zsL μ (n + 1) kf u) H1 locs1 cells slots ls ⟨hI.1.put (n := n) ?_ hA e3 rfl rfl rfl ?_, e4, hI.2.2.put e2 rfl rfl rfl⟩ h hP
  · rw [ht, zce_o hci]
    rw [zfs_setL hkk] at e1
    have e9 := e1
    simp only [zsL, zI_mk, zL_mk, zR_mk, zu_eq]
    exact e9
  · intro a ha
    simp only [zsL, zI_mk, zL_mk, zR_mk, zu_ne ha]
    exact ⟨trivial, trivial, trivial⟩
theorem Z.putR (F : ZF p R s m args meth c cc nL own nm ret D A al sz mc ms fr lo) {ref C : String} {T : u_T} {N ci index kf : Nat} (hin : ∀ w ∈ u_ws C T N, w ∈ lw_all) (hc : zCl[ci]? = some (C, T, N)) (hci : ci + 1 < 50) (hk : kf < N) (hlink : Cond.fieldLink own index ref (T kf).2.1 (T kf).2.2.1 ∈ lw_all) (hsame : ∀ x, s.fieldFound? (T kf).1 (T kf).2.1 (T kf).2.2.1 = some x → s.fieldFound? ref (T kf).2.1 (T kf).2.2.1 = some x) (ty0 : Nat → FieldType) (hty : ∀ k, k < N → parseFieldDescriptor (T k).2.2.1 = some (ty0 k)) (hnm : ∀ a, a < N → ∀ b, b < N → a ≠ b → (T a).2.1 ≠ (T b).2.1) (hfin : (T kf).2.2.2 = false) {ty : FieldType} (hnr : ∀ u, narrow ty (zv u) = zv u) (hfr : ∀ u, fits ty (zv u) = true) (hd : parseFieldDescriptor (T kf).2.2.1 = some ty) (hkk : (zK ci)[kf]? = some 2) {z : Nat} {u : Nat} (hdg : decode cc pc = .ok (.putfield index, 3)) (k : ZW p l e R s m args below meth c Q nL D A al n0 P (pc + 3) L st) : ZW p l e R s m args below meth c Q nL D A al n0 (zpR (ci + 1) z kf u P) pc L (zv u :: zv z :: st) := by
  intro μ H locs cells slots ls hI h hP
  obtain ⟨ht, hP⟩ := hP
  skip
  obtain ⟨n, rfl, hA, hat⟩ := hI.1.cell ht (Nat.succ_ne_zero _)
  rw [zce_o hci] at hat
  refine Z.put0 F hin hc hci hk hlink hsame ty0 hty hnm hfin hd (hnr u) (hfr u) (by rw [zfs_len]; exact (List.getElem?_eq_some_iff.mp hkk).1) hat hA hI.2.1 hdg fun H1 locs1 e1 e2 e3 e4 => ?_
  refine k (zsR μ (n + 1) kf u) H1 locs1 cells slots ls ⟨hI.1.put (n := n) ?_ hA e3 rfl rfl rfl ?_, e4, hI.2.2.put e2 rfl rfl rfl⟩ h hP
  · rw [ht, zce_o hci]
    rw [zfs_setR hkk] at e1
    have e9 := e1
    simp only [zsR, zI_mk, zL_mk, zR_mk, zu_eq]
    exact e9
  · intro a ha
    simp only [zsR, zI_mk, zL_mk, zR_mk, zu_ne ha]
    exact ⟨trivial, trivial, trivial⟩
theorem Z.putIN (F : ZF p R s m args meth c cc nL own nm ret D A al sz mc ms fr lo) {ref C : String} {T : u_T} {N ci index kf : Nat} (hin : ∀ w ∈ u_ws C T N, w ∈ lw_all) (hc : zCl[ci]? = some (C, T, N)) (hci : ci + 1 < 50) (hk : kf < N) {host : String} (hlink : (own, index, ref, (T kf).2.1, (T kf).2.2.1, host) ∈ zNf) (hsame : ∀ x, s.fieldFound? (T kf).1 (T kf).2.1 (T kf).2.2.1 = some x → s.fieldFound? ref (T kf).2.1 (T kf).2.2.1 = some x) (ty0 : Nat → FieldType) (hty : ∀ k, k < N → parseFieldDescriptor (T k).2.2.1 = some (ty0 k)) (hnm : ∀ a, a < N → ∀ b, b < N → a ≠ b → (T a).2.1 ≠ (T b).2.1) (hfin : (T kf).2.2.2 = false) (hd : parseFieldDescriptor (T kf).2.2.1 = some .int) (hkk : (zK ci)[kf]? = some 0) {z : Nat} {u : Int32} (hdg : decode cc pc = .ok (.putfield index, 3)) (k : ZW p l e R s m args below meth c Q nL D A al n0 P (pc + 3) L st) : ZW p l e R s m args below meth c Q nL D A al n0 (zpI (ci + 1) z kf u P) pc L (.int u :: zv z :: st) := by
  intro μ H locs cells slots ls hI h hP
  obtain ⟨ht, hP⟩ := hP
  skip
  obtain ⟨n, rfl, hA, hat⟩ := hI.1.cell ht (Nat.succ_ne_zero _)
  rw [zce_o hci] at hat
  refine Z.put0N F hin hc hci hk hlink hsame ty0 hty hnm hfin hd rfl rfl (by rw [zfs_len]; exact (List.getElem?_eq_some_iff.mp hkk).1) hat hA hI.2.1 hdg fun H1 locs1 e1 e2 e3 e4 => ?_
  refine k (zsI μ (n + 1) kf u) H1 locs1 cells slots ls ⟨hI.1.put (n := n) ?_ hA e3 rfl rfl rfl ?_, e4, hI.2.2.put e2 rfl rfl rfl⟩ h hP
  · rw [ht, zce_o hci]
    rw [zfs_setI hkk] at e1
    have e9 := e1
    simp only [zsI, zI_mk, zL_mk, zR_mk, zu_eq]
    exact e9
  · intro a ha
    simp only [zsI, zI_mk, zL_mk, zR_mk, zu_ne ha]
    exact ⟨trivial, trivial, trivial⟩
theorem Z.putLN (F : ZF p R s m args meth c cc nL own nm ret D A al sz mc ms fr lo) {ref C : String} {T : u_T} {N ci index kf : Nat} (hin : ∀ w ∈ u_ws C T N, w ∈ lw_all) (hc : zCl[ci]? = some (C, T, N)) (hci : ci + 1 < 50) (hk : kf < N) {host : String} (hlink : (own, index, ref, (T kf).2.1, (T kf).2.2.1, host) ∈ zNf) (hsame : ∀ x, s.fieldFound? (T kf).1 (T kf).2.1 (T kf).2.2.1 = some x → s.fieldFound? ref (T kf).2.1 (T kf).2.2.1 = some x) (ty0 : Nat → FieldType) (hty : ∀ k, k < N → parseFieldDescriptor (T k).2.2.1 = some (ty0 k)) (hnm : ∀ a, a < N → ∀ b, b < N → a ≠ b → (T a).2.1 ≠ (T b).2.1) (hfin : (T kf).2.2.2 = false) (hd : parseFieldDescriptor (T kf).2.2.1 = some .long) (hkk : (zK ci)[kf]? = some 1) {z : Nat} {u : Int64} (hdg : decode cc pc = .ok (.putfield index, 3)) (k : ZW p l e R s m args below meth c Q nL D A al n0 P (pc + 3) L st) : ZW p l e R s m args below meth c Q nL D A al n0 (zpL (ci + 1) z kf u P) pc L (.long u :: zv z :: st) := by
  intro μ H locs cells slots ls hI h hP
  obtain ⟨ht, hP⟩ := hP
  skip
  obtain ⟨n, rfl, hA, hat⟩ := hI.1.cell ht (Nat.succ_ne_zero _)
  rw [zce_o hci] at hat
  refine Z.put0N F hin hc hci hk hlink hsame ty0 hty hnm hfin hd rfl rfl (by rw [zfs_len]; exact (List.getElem?_eq_some_iff.mp hkk).1) hat hA hI.2.1 hdg fun H1 locs1 e1 e2 e3 e4 => ?_
  refine k (zsL μ (n + 1) kf u) H1 locs1 cells slots ls ⟨hI.1.put (n := n) ?_ hA e3 rfl rfl rfl ?_, e4, hI.2.2.put e2 rfl rfl rfl⟩ h hP
  · rw [ht, zce_o hci]
    rw [zfs_setL hkk] at e1
    have e9 := e1
    simp only [zsL, zI_mk, zL_mk, zR_mk, zu_eq]
    exact e9
  · intro a ha
    simp only [zsL, zI_mk, zL_mk, zR_mk, zu_ne ha]
    exact ⟨trivial, trivial, trivial⟩
theorem Z.putRN (F : ZF p R s m args meth c cc nL own nm ret D A al sz mc ms fr lo) {ref C : String} {T : u_T} {N ci index kf : Nat} (hin : ∀ w ∈ u_ws C T N, w ∈ lw_all) (hc : zCl[ci]? = some (C, T, N)) (hci : ci + 1 < 50) (hk : kf < N) {host : String} (hlink : (own, index, ref, (T kf).2.1, (T kf).2.2.1, host) ∈ zNf) (hsame : ∀ x, s.fieldFound? (T kf).1 (T kf).2.1 (T kf).2.2.1 = some x → s.fieldFound? ref (T kf).2.1 (T kf).2.2.1 = some x) (ty0 : Nat → FieldType) (hty : ∀ k, k < N → parseFieldDescriptor (T k).2.2.1 = some (ty0 k)) (hnm : ∀ a, a < N → ∀ b, b < N → a ≠ b → (T a).2.1 ≠ (T b).2.1) (hfin : (T kf).2.2.2 = false) {ty : FieldType} (hnr : ∀ u, narrow ty (zv u) = zv u) (hfr : ∀ u, fits ty (zv u) = true) (hd : parseFieldDescriptor (T kf).2.2.1 = some ty) (hkk : (zK ci)[kf]? = some 2) {z : Nat} {u : Nat} (hdg : decode cc pc = .ok (.putfield index, 3)) (k : ZW p l e R s m args below meth c Q nL D A al n0 P (pc + 3) L st) : ZW p l e R s m args below meth c Q nL D A al n0 (zpR (ci + 1) z kf u P) pc L (zv u :: zv z :: st) := by
  intro μ H locs cells slots ls hI h hP
  obtain ⟨ht, hP⟩ := hP
  skip
  obtain ⟨n, rfl, hA, hat⟩ := hI.1.cell ht (Nat.succ_ne_zero _)
  rw [zce_o hci] at hat
  refine Z.put0N F hin hc hci hk hlink hsame ty0 hty hnm hfin hd (hnr u) (hfr u) (by rw [zfs_len]; exact (List.getElem?_eq_some_iff.mp hkk).1) hat hA hI.2.1 hdg fun H1 locs1 e1 e2 e3 e4 => ?_
  refine k (zsR μ (n + 1) kf u) H1 locs1 cells slots ls ⟨hI.1.put (n := n) ?_ hA e3 rfl rfl rfl ?_, e4, hI.2.2.put e2 rfl rfl rfl⟩ h hP
  · rw [ht, zce_o hci]
    rw [zfs_setR hkk] at e1
    have e9 := e1
    simp only [zsR, zI_mk, zL_mk, zR_mk, zu_eq]
    exact e9
  · intro a ha
    simp only [zsR, zI_mk, zL_mk, zR_mk, zu_ne ha]
    exact ⟨trivial, trivial, trivial⟩
theorem Z.putIF (F : ZF p R s m args meth c cc nL own nm ret D A al sz mc ms fr lo) {ref C : String} {T : u_T} {N ci index kf : Nat} (hin : ∀ w ∈ u_ws C T N, w ∈ lw_all) (hc : zCl[ci]? = some (C, T, N)) (hci : ci + 1 < 50) (hk : kf < N) (hlink : Cond.fieldLink own index ref (T kf).2.1 (T kf).2.2.1 ∈ lw_all) (hsame : ∀ x, s.fieldFound? (T kf).1 (T kf).2.1 (T kf).2.2.1 = some x → s.fieldFound? ref (T kf).2.1 (T kf).2.2.1 = some x) (ty0 : Nat → FieldType) (hty : ∀ k, k < N → parseFieldDescriptor (T k).2.2.1 = some (ty0 k)) (hnm : ∀ a, a < N → ∀ b, b < N → a ≠ b → (T a).2.1 ≠ (T b).2.1) (hfin : (T kf).2.2.2 = true) (hin2 : nm = "<init>") (hdecl : (T kf).1 = own) (hd : parseFieldDescriptor (T kf).2.2.1 = some .int) (hkk : (zK ci)[kf]? = some 0) {z : Nat} {u : Int32} (hdg : decode cc pc = .ok (.putfield index, 3)) (k : ZW p l e R s m args below meth c Q nL D A al n0 P (pc + 3) L st) : ZW p l e R s m args below meth c Q nL D A al n0 (zpI (ci + 1) z kf u P) pc L (.int u :: zv z :: st) := by
  intro μ H locs cells slots ls hI h hP
  obtain ⟨ht, hP⟩ := hP
  skip
  obtain ⟨n, rfl, hA, hat⟩ := hI.1.cell ht (Nat.succ_ne_zero _)
  rw [zce_o hci] at hat
  refine Z.put0F F hin hc hci hk hlink hsame ty0 hty hnm hfin hin2 hdecl hd rfl rfl (by rw [zfs_len]; exact (List.getElem?_eq_some_iff.mp hkk).1) hat hA hI.2.1 hdg fun H1 locs1 e1 e2 e3 e4 => ?_
  refine k (zsI μ (n + 1) kf u) H1 locs1 cells slots ls ⟨hI.1.put (n := n) ?_ hA e3 rfl rfl rfl ?_, e4, hI.2.2.put e2 rfl rfl rfl⟩ h hP
  · rw [ht, zce_o hci]
    rw [zfs_setI hkk] at e1
    have e9 := e1
    simp only [zsI, zI_mk, zL_mk, zR_mk, zu_eq]
    exact e9
  · intro a ha
    simp only [zsI, zI_mk, zL_mk, zR_mk, zu_ne ha]
    exact ⟨trivial, trivial, trivial⟩
theorem Z.putLF (F : ZF p R s m args meth c cc nL own nm ret D A al sz mc ms fr lo) {ref C : String} {T : u_T} {N ci index kf : Nat} (hin : ∀ w ∈ u_ws C T N, w ∈ lw_all) (hc : zCl[ci]? = some (C, T, N)) (hci : ci + 1 < 50) (hk : kf < N) (hlink : Cond.fieldLink own index ref (T kf).2.1 (T kf).2.2.1 ∈ lw_all) (hsame : ∀ x, s.fieldFound? (T kf).1 (T kf).2.1 (T kf).2.2.1 = some x → s.fieldFound? ref (T kf).2.1 (T kf).2.2.1 = some x) (ty0 : Nat → FieldType) (hty : ∀ k, k < N → parseFieldDescriptor (T k).2.2.1 = some (ty0 k)) (hnm : ∀ a, a < N → ∀ b, b < N → a ≠ b → (T a).2.1 ≠ (T b).2.1) (hfin : (T kf).2.2.2 = true) (hin2 : nm = "<init>") (hdecl : (T kf).1 = own) (hd : parseFieldDescriptor (T kf).2.2.1 = some .long) (hkk : (zK ci)[kf]? = some 1) {z : Nat} {u : Int64} (hdg : decode cc pc = .ok (.putfield index, 3)) (k : ZW p l e R s m args below meth c Q nL D A al n0 P (pc + 3) L st) : ZW p l e R s m args below meth c Q nL D A al n0 (zpL (ci + 1) z kf u P) pc L (.long u :: zv z :: st) := by
  intro μ H locs cells slots ls hI h hP
  obtain ⟨ht, hP⟩ := hP
  skip
  obtain ⟨n, rfl, hA, hat⟩ := hI.1.cell ht (Nat.succ_ne_zero _)
  rw [zce_o hci] at hat
  refine Z.put0F F hin hc hci hk hlink hsame ty0 hty hnm hfin hin2 hdecl hd rfl rfl (by rw [zfs_len]; exact (List.getElem?_eq_some_iff.mp hkk).1) hat hA hI.2.1 hdg fun H1 locs1 e1 e2 e3 e4 => ?_
  refine k (zsL μ (n + 1) kf u) H1 locs1 cells slots ls ⟨hI.1.put (n := n) ?_ hA e3 rfl rfl rfl ?_, e4, hI.2.2.put e2 rfl rfl rfl⟩ h hP
  · rw [ht, zce_o hci]
    rw [zfs_setL hkk] at e1
    have e9 := e1
    simp only [zsL, zI_mk, zL_mk, zR_mk, zu_eq]
    exact e9
  · intro a ha
    simp only [zsL, zI_mk, zL_mk, zR_mk, zu_ne ha]
    exact ⟨trivial, trivial, trivial⟩
theorem Z.putRF (F : ZF p R s m args meth c cc nL own nm ret D A al sz mc ms fr lo) {ref C : String} {T : u_T} {N ci index kf : Nat} (hin : ∀ w ∈ u_ws C T N, w ∈ lw_all) (hc : zCl[ci]? = some (C, T, N)) (hci : ci + 1 < 50) (hk : kf < N) (hlink : Cond.fieldLink own index ref (T kf).2.1 (T kf).2.2.1 ∈ lw_all) (hsame : ∀ x, s.fieldFound? (T kf).1 (T kf).2.1 (T kf).2.2.1 = some x → s.fieldFound? ref (T kf).2.1 (T kf).2.2.1 = some x) (ty0 : Nat → FieldType) (hty : ∀ k, k < N → parseFieldDescriptor (T k).2.2.1 = some (ty0 k)) (hnm : ∀ a, a < N → ∀ b, b < N → a ≠ b → (T a).2.1 ≠ (T b).2.1) (hfin : (T kf).2.2.2 = true) (hin2 : nm = "<init>") (hdecl : (T kf).1 = own) {ty : FieldType} (hnr : ∀ u, narrow ty (zv u) = zv u) (hfr : ∀ u, fits ty (zv u) = true) (hd : parseFieldDescriptor (T kf).2.2.1 = some ty) (hkk : (zK ci)[kf]? = some 2) {z : Nat} {u : Nat} (hdg : decode cc pc = .ok (.putfield index, 3)) (k : ZW p l e R s m args below meth c Q nL D A al n0 P (pc + 3) L st) : ZW p l e R s m args below meth c Q nL D A al n0 (zpR (ci + 1) z kf u P) pc L (zv u :: zv z :: st) := by
  intro μ H locs cells slots ls hI h hP
  obtain ⟨ht, hP⟩ := hP
  skip
  obtain ⟨n, rfl, hA, hat⟩ := hI.1.cell ht (Nat.succ_ne_zero _)
  rw [zce_o hci] at hat
  refine Z.put0F F hin hc hci hk hlink hsame ty0 hty hnm hfin hin2 hdecl hd (hnr u) (hfr u) (by rw [zfs_len]; exact (List.getElem?_eq_some_iff.mp hkk).1) hat hA hI.2.1 hdg fun H1 locs1 e1 e2 e3 e4 => ?_
  refine k (zsR μ (n + 1) kf u) H1 locs1 cells slots ls ⟨hI.1.put (n := n) ?_ hA e3 rfl rfl rfl ?_, e4, hI.2.2.put e2 rfl rfl rfl⟩ h hP
  · rw [ht, zce_o hci]
    rw [zfs_setR hkk] at e1
    have e9 := e1
    simp only [zsR, zI_mk, zL_mk, zR_mk, zu_eq]
    exact e9
  · intro a ha
    simp only [zsR, zI_mk, zL_mk, zR_mk, zu_ne ha]
    exact ⟨trivial, trivial, trivial⟩
theorem zv_nar {C : String} (u : Nat) : narrow (.object C) (zv u) = zv u := by cases u <;> rfl
theorem zv_fit {C : String} (u : Nat) : fits (.object C) (zv u) = true := by cases u <;> rfl
theorem zv_narA {t : FieldType} (u : Nat) : narrow (.array t) (zv u) = zv u := by cases u <;> rfl
theorem zv_fitA {t : FieldType} (u : Nat) : fits (.array t) (zv u) = true := by cases u <;> rfl
theorem Z.iald (F : ZF p R s m args meth c cc nL own nm ret D A al sz mc ms fr lo) {z : Nat} {j : Int32} {K : Int32 → ZM → Prop} (hdg : decode cc pc = .ok (.iaload, 1)) (k : ∀ u, ZW p l e R s m args below meth c Q nL D A al n0 (K u) (pc + 1) L (.int u :: st)) : ZW p l e R s m args below meth c Q nL D A al n0 (zaI 50 z j K) pc L (.int j :: zv z :: st) := by
  intro μ H locs cells slots ls hI h hP
  obtain ⟨ht, hj, hP⟩ := hP
  obtain ⟨n, rfl, hA, hat⟩ := hI.1.cell ht (by decide)
  rw [show 50 = 0 + 50 from rfl, zce_a] at hat
  exact va_iald F.hx F.hb F.hK (zone hat) 0 0 rfl rfl hj hdg (k _ μ H locs cells slots ls hI h hP)
theorem Z.bald (F : ZF p R s m args meth c cc nL own nm ret D A al sz mc ms fr lo) {z : Nat} {j : Int32} {K : Int32 → ZM → Prop} (hdg : decode cc pc = .ok (.baload, 1)) (k : ∀ u, ZW p l e R s m args below meth c Q nL D A al n0 (K u) (pc + 1) L (.int u :: st)) : ZW p l e R s m args below meth c Q nL D A al n0 (zaI 52 z j K) pc L (.int j :: zv z :: st) := by
  intro μ H locs cells slots ls hI h hP
  obtain ⟨ht, hj, hP⟩ := hP
  obtain ⟨n, rfl, hA, hat⟩ := hI.1.cell ht (by decide)
  rw [show 52 = 2 + 50 from rfl, zce_a] at hat
  exact va_bald F.hx F.hb F.hK (zone hat) 0 2 rfl rfl hj hdg (k _ μ H locs cells slots ls hI h hP)
theorem Z.lald (F : ZF p R s m args meth c cc nL own nm ret D A al sz mc ms fr lo) {z : Nat} {j : Int32} {K : Int64 → ZM → Prop} (hdg : decode cc pc = .ok (.laload, 1)) (k : ∀ u, ZW p l e R s m args below meth c Q nL D A al n0 (K u) (pc + 1) L (.long u :: st)) : ZW p l e R s m args below meth c Q nL D A al n0 (zaL 51 z j K) pc L (.int j :: zv z :: st) := by
  intro μ H locs cells slots ls hI h hP
  obtain ⟨ht, hj, hP⟩ := hP
  obtain ⟨n, rfl, hA, hat⟩ := hI.1.cell ht (by decide)
  rw [show 51 = 1 + 50 from rfl, zce_a] at hat
  exact va_lald F.hx F.hb F.hK (zone hat) 0 1 rfl rfl hj hdg (k _ μ H locs cells slots ls hI h hP)
theorem zarr_q {t : Nat} (h : 2 < t) {I : Nat → Int32} {L : Nat → Int64} {R : Nat → Nat} : zarr t I L R = .inr (.inr (.inr (.inr (fun j => zo (R j))))) := by
  unfold zarr
  rw [if_neg (by omega), if_neg (by omega)]
theorem Z.aald (F : ZF p R s m args meth c cc nL own nm ret D A al sz mc ms fr lo) {t : Nat} {ty : FieldType} (ht2 : 2 < t) (hta : (zAt D.2.1)[t]? = some (D.2.1 t, ty)) (href : ty.isReference = true) {z : Nat} {j : Int32} {K : Nat → ZM → Prop} (hdg : decode cc pc = .ok (.aaload, 1)) (k : ∀ u, ZW p l e R s m args below meth c Q nL D A al n0 (K u) (pc + 1) L (zv u :: st)) : ZW p l e R s m args below meth c Q nL D A al n0 (zaR (t + 50) z j K) pc L (.int j :: zv z :: st) := by
  intro μ H locs cells slots ls hI h hP
  obtain ⟨ht, hj, hP⟩ := hP
  obtain ⟨n, rfl, hA, hat⟩ := hI.1.cell ht (by omega)
  rw [zce_a, zarr_q ht2] at hat
  have hlt : j.toNatClampNeg < zN μ (n + 1) := Nat.not_le.mp fun q => hj (Or.inr q)
  exact W.aald (v := zv (zR μ (n + 1) j.toNatClampNeg)) (ty := ty) F.hx F.hb hat ((F.hK.2 t _ hta).1 _ (fun j => va_rf (zo (zR μ (n + 1) j)))) href (fun q => by cases q) (by show ¬ (j < 0 ∨ (arrV _ _ _).slots.size ≤ _); rw [arrV_size]; exact hj) (by show (arrV _ _ _).slots[_]? = _; rw [arrV_read _ _ hlt, zv_o]) rfl rfl hdg (k _ μ H locs cells slots ls hI h hP)
theorem Z.iast (F : ZF p R s m args meth c cc nL own nm ret D A al sz mc ms fr lo) {z : Nat} {j : Int32} {u : Int32} (hdg : decode cc pc = .ok (.iastore, 1)) (k : ZW p l e R s m args below meth c Q nL D A al n0 P (pc + 1) L st) : ZW p l e R s m args below meth c Q nL D A al n0 (zbI 50 z j u P) pc L (.int u :: .int j :: zv z :: st) := by
  intro μ H locs cells slots ls hI h hP
  obtain ⟨ht, hj, hP⟩ := hP
  obtain ⟨n, rfl, hA, hat⟩ := hI.1.cell ht (by decide)
  rw [show 50 = 0 + 50 from rfl, zce_a] at hat
  refine W.iast F.hx F.hb hat ((F.hK.2 0 _ rfl).1 _ (fun j => .int (zI μ (n + 1) j))) (fun q => by cases q) (by show ¬ (j < 0 ∨ (arrV _ _ _).slots.size ≤ _); rw [arrV_size]; exact hj) rfl rfl hdg fun H1 e1 e2 e3 => ?_
  refine k (zsI μ (n + 1) j.toNatClampNeg u) H1 _ cells slots ls ⟨hI.1.put (n := n) ?_ hA e3 rfl rfl rfl ?_, hI.2.1.put e2 e3 hA, hI.2.2.put e2 rfl rfl rfl⟩ h hP
  · rw [ht, show 50 = 0 + 50 from rfl, zce_a]
    show H1[n]? = some (vp_cell _ _)
    rw [e1]
    show some (Cell.setSlot (vp_cell (D.2.1 0) (zN μ (n + 1), _)) _ _) = some (vp_cell (D.2.1 0) (zN μ (n + 1), zarr 0 _ _ _))
    simp only [zsI, zI_mk, zL_mk, zR_mk, zu_eq, zarr]
    congr 1
    simp only [if_true, if_false, Nat.reduceEqDiff, true_or, or_true, or_false, false_or, vp_cell_i, arrV_store]
    congr 1
    funext q
    by_cases hq : q = j.toNatClampNeg
    · subst hq
      simp [updV, narrow]
    · simp [updV, hq]
  · intro a ha
    simp only [zsI, zI_mk, zL_mk, zR_mk, zu_ne ha]
    exact ⟨trivial, trivial, trivial⟩
theorem Z.bast (F : ZF p R s m args meth c cc nL own nm ret D A al sz mc ms fr lo) {z : Nat} {j : Int32} {u : Int32} (hdg : decode cc pc = .ok (.bastore, 1)) (k : ZW p l e R s m args below meth c Q nL D A al n0 P (pc + 1) L st) : ZW p l e R s m args below meth c Q nL D A al n0 (zbB 52 z j u P) pc L (.int u :: .int j :: zv z :: st) := by
  intro μ H locs cells slots ls hI h hP
  obtain ⟨ht, hj, hP⟩ := hP
  obtain ⟨n, rfl, hA, hat⟩ := hI.1.cell ht (by decide)
  rw [show 52 = 2 + 50 from rfl, zce_a] at hat
  refine W.bast F.hx F.hb hat ((F.hK.2 2 _ rfl).1 _ (fun j => .int (zI μ (n + 1) j))) (fun q => by cases q) (by show ¬ (j < 0 ∨ (arrV _ _ _).slots.size ≤ _); rw [arrV_size]; exact hj) rfl rfl hdg fun H1 e1 e2 e3 => ?_
  refine k (zsI μ (n + 1) j.toNatClampNeg u.toInt8.toInt32) H1 _ cells slots ls ⟨hI.1.put (n := n) ?_ hA e3 rfl rfl rfl ?_, hI.2.1.put e2 e3 hA, hI.2.2.put e2 rfl rfl rfl⟩ h hP
  · rw [ht, show 52 = 2 + 50 from rfl, zce_a]
    show H1[n]? = some (vp_cell _ _)
    rw [e1]
    show some (Cell.setSlot (vp_cell (D.2.1 2) (zN μ (n + 1), _)) _ _) = some (vp_cell (D.2.1 2) (zN μ (n + 1), zarr 2 _ _ _))
    simp only [zsI, zI_mk, zL_mk, zR_mk, zu_eq, zarr]
    congr 1
    simp only [if_true, if_false, Nat.reduceEqDiff, true_or, or_true, or_false, false_or, vp_cell_i, arrV_store]
    congr 1
    funext q
    by_cases hq : q = j.toNatClampNeg
    · subst hq
      simp [updV, narrow]
    · simp [updV, hq]
  · intro a ha
    simp only [zsI, zI_mk, zL_mk, zR_mk, zu_ne ha]
    exact ⟨trivial, trivial, trivial⟩
theorem Z.last (F : ZF p R s m args meth c cc nL own nm ret D A al sz mc ms fr lo) {z : Nat} {j : Int32} {u : Int64} (hdg : decode cc pc = .ok (.lastore, 1)) (k : ZW p l e R s m args below meth c Q nL D A al n0 P (pc + 1) L st) : ZW p l e R s m args below meth c Q nL D A al n0 (zbL 51 z j u P) pc L (.long u :: .int j :: zv z :: st) := by
  intro μ H locs cells slots ls hI h hP
  obtain ⟨ht, hj, hP⟩ := hP
  obtain ⟨n, rfl, hA, hat⟩ := hI.1.cell ht (by decide)
  rw [show 51 = 1 + 50 from rfl, zce_a] at hat
  refine W.last F.hx F.hb hat ((F.hK.2 1 _ rfl).1 _ (fun j => .long (zL μ (n + 1) j))) (fun q => by cases q) (by show ¬ (j < 0 ∨ (arrV _ _ _).slots.size ≤ _); rw [arrV_size]; exact hj) rfl rfl hdg fun H1 e1 e2 e3 => ?_
  refine k (zsL μ (n + 1) j.toNatClampNeg u) H1 _ cells slots ls ⟨hI.1.put (n := n) ?_ hA e3 rfl rfl rfl ?_, hI.2.1.put e2 e3 hA, hI.2.2.put e2 rfl rfl rfl⟩ h hP
  · rw [ht, show 51 = 1 + 50 from rfl, zce_a]
    show H1[n]? = some (vp_cell _ _)
    rw [e1]
    show some (Cell.setSlot (vp_cell (D.2.1 1) (zN μ (n + 1), _)) _ _) = some (vp_cell (D.2.1 1) (zN μ (n + 1), zarr 1 _ _ _))
    simp only [zsL, zI_mk, zL_mk, zR_mk, zu_eq, zarr]
    congr 1
    simp only [if_true, if_false, Nat.reduceEqDiff, true_or, or_true, or_false, false_or, vp_cell_l, arrV_store]
    congr 1
    funext q
    by_cases hq : q = j.toNatClampNeg
    · subst hq
      simp [updV, narrow]
    · simp [updV, hq]
  · intro a ha
    simp only [zsL, zI_mk, zL_mk, zR_mk, zu_ne ha]
    exact ⟨trivial, trivial, trivial⟩
theorem Z.aast (F : ZF p R s m args meth c cc nL own nm ret D A al sz mc ms fr lo) {t ci : Nat} {r : vw_C} (ht2 : 2 < t) (hta : (zAt D.2.1)[t]? = some (D.2.1 t, .object r.1)) (hc : zCl[ci]? = some r) (hci : ci + 1 < 50) {z u : Nat} {j : Int32} (hdg : decode cc pc = .ok (.aastore, 1)) (k : ZW p l e R s m args below meth c Q nL D A al n0 P (pc + 1) L st) : ZW p l e R s m args below meth c Q nL D A al n0 (zbR (t + 50) (ci + 1) z j u P) pc L (zv u :: .int j :: zv z :: st) := by
  intro μ H locs cells slots ls hI h hP
  obtain ⟨ht, hj, hu, hP⟩ := hP
  obtain ⟨n, rfl, hA, hat⟩ := hI.1.cell ht (by omega)
  obtain ⟨n9, rfl, hA9, hat9⟩ := hI.1.cell hu (by omega)
  rw [zce_a, zarr_q ht2] at hat
  rw [zce_o hci] at hat9
  have hlt : j.toNatClampNeg < zN μ (n + 1) := Nat.not_le.mp fun q => hj (Or.inr q)
  have h0 : ¬ j < 0 := fun q => hj (Or.inl q)
  obtain ⟨r', hr', cellV, g1, g2, g3, -⟩ := hat9
  have hcls := (F.hK.1 ci r hc).2
  obtain ⟨kA, comp, k1, k2, k3, -⟩ := (F.hK.2 t _ hta).2
  have hcomp : comp = D.1.1 ci := Option.some.inj (k3.symm.trans hcls.1)
  subst hcomp
  obtain ⟨kC, hkC, -⟩ := hcls.2
  refine W.aast F.hx F.hb hat (fun q h => by cases h) (fun h => by cases h) k1 k2 rfl hkC ⟨h0, by show _ < (arrV _ _ _).slots.size; rw [arrV_size]; exact hlt⟩ g1 (fun q h => by rw [g3] at h; cases h) (by rw [g2]; exact hkC) (by rw [g2]; exact va_assign hcls) rfl rfl hdg fun H1 e1 e2 e3 => ?_
  refine k (zsR μ (n + 1) j.toNatClampNeg (n9 + 1)) H1 _ cells slots ls ⟨hI.1.put (n := n) ?_ hA e3 rfl rfl rfl ?_, hI.2.1.put e2 e3 hA, hI.2.2.put e2 rfl rfl rfl⟩ h hP
  · rw [ht, zce_a, zarr_q ht2]
    show H1[n]? = some (vp_cell _ _)
    rw [e1]
    show some (Cell.setSlot (vp_cell _ _) _ _) = some (vp_cell _ _)
    rw [vp_cell_q, vp_cell_q, arrV_store]
    simp only [zsR, zI_mk, zL_mk, zR_mk, zu_eq]
    congr 2
    funext q
    by_cases hq : q = j.toNatClampNeg
    · subst hq
      simp [updV, va_rf, zo]
    · simp [updV, hq]
  · intro a ha
    simp only [zsR, zI_mk, zL_mk, zR_mk, zu_ne ha]
    exact ⟨trivial, trivial, trivial⟩
theorem Z.alen (F : ZF p R s m args meth c cc nL own nm ret D A al sz mc ms fr lo) {t : Nat} {ty : FieldType} (hta : (zAt D.2.1)[t]? = some (D.2.1 t, ty)) {z : Nat} {K : Int32 → ZM → Prop} (hdg : decode cc pc = .ok (.arraylength, 1)) (k : ∀ u, ZW p l e R s m args below meth c Q nL D A al n0 (K u) (pc + 1) L (.int u :: st)) : ZW p l e R s m args below meth c Q nL D A al n0 (zln (t + 50) z K) pc L (zv z :: st) := by
  intro μ H locs cells slots ls hI h hP
  obtain ⟨ht, hP⟩ := hP
  obtain ⟨n, rfl, hA, hat⟩ := hI.1.cell ht (by omega)
  rw [zce_a] at hat
  exact va_alen F.hx F.hb F.hK (zone hat) 0 t rfl hta (v := nI (zN μ (n + 1))) rfl hdg (k _ μ H locs cells slots ls hI h hP)
/-- a new cell -/
theorem ZI.fresh {D : ZD} {A : Nat → Prop} {n0 : Nat × Nat × Nat} {R : Room} {s : State} {cells slots : Nat} {μ : ZM} {H H1 : Heap} {locs : List Loc} {t n sl : Nat} (hI : ZI D A true n0 R s cells slots μ H locs) (h0 : t ≠ 0) (hsl : sl ≤ zS μ) (hc : 1 ≤ zC μ) (e1 : va_at D.1 zCl (H.size, zce D t n (fun _ => 0) (fun _ => 0) (fun _ => 0)) H1) (z1 : H1.size = H.size + 1) (o1 : ∀ q : Nat, q < H.size → H1[q]? = H[q]?) :
    ZI D A true n0 R s (cells + 1) (slots + sl) (znw μ t n sl) H1 locs := by
  obtain ⟨hR, hS, hB⟩ := hI
  unfold ZB at hB
  rw [if_pos rfl] at hB
  obtain ⟨b1, b2, b3, b4⟩ := hB
  refine ⟨⟨fun a ha => ?_, hR.2⟩, ⟨Nat.le_trans hS.1 (by omega), fun x h1 h2 => (o1 x (Nat.lt_of_lt_of_le h1 hS.1)).trans (hS.2.1 x h1 h2), hS.2.2⟩, ?_⟩
  · by_cases e : a = H.size + 1
    · subst e
      refine ⟨H.size, rfl, b2 _ hS.1, ?_⟩
      simp only [znw, zT_mk, zN_mk, zI_mk, zL_mk, zR_mk, b1, zu1_eq]
      exact e1
    · have ha' : zT μ a ≠ 0 := by
        simp only [znw, zT_mk, b1, zu1_ne e] at ha
        exact ha
      obtain ⟨k, h2, h3, h4⟩ := hR.1 a ha'
      refine ⟨k, h2, h3, ?_⟩
      simp only [znw, zT_mk, zN_mk, zI_mk, zL_mk, zR_mk, b1, zu1_ne e]
      exact h4.kept (o1 k h4.lt)
  · unfold ZB
    rw [if_pos rfl]
    simp only [znw, zX_mk, zC_mk, zS_mk]
    exact ⟨by omega, b2, by omega, by omega⟩
theorem Z.newO (F : ZF p R s m args meth c cc nL own nm ret D A true sz mc ms fr lo) {C : String} {T : u_T} {N ci index : Nat} (hin : ∀ w ∈ u_ws C T N, w ∈ lw_all) (ty0 : Nat → FieldType) (hty : ∀ k, k < N → parseFieldDescriptor (T k).2.2.1 = some (ty0 k)) (hc : zCl[ci]? = some (C, T, N)) (hci : ci + 1 < 50) (hcl : Cond.classLink own index C ∈ lw_all) (hinst : Cond.instantiable C N ∈ lw_all) (hini : Cond.initialized C ∈ lw_all)
    (hfs : ∀ j, j < N → defaultValue (ty0 j) = vp_V (zfs (zK ci) (fun _ => 0) (fun _ => 0) (fun _ => 0)) j) {K : Nat → ZM → Prop} (hdg : decode cc pc = .ok (.new index, 3)) (k : ∀ u, ZW p l e R s m args below meth c Q nL D A true n0 (K u) (pc + 3) L (zv u :: st)) : ZW p l e R s m args below meth c Q nL D A true n0 (znO (ci + 1) N K) pc L st := by
  intro μ H locs cells slots ls hI h hP
  obtain ⟨h1, h2, hP⟩ := hP
  have hKn := F.hK.1 ci _ hc
  have hB := hI.2.2
  unfold ZB at hB
  rw [if_pos rfl] at hB
  refine W.newcK F.hx F.hb F.hown (F.hts _ hcl) (F.hts _ hinst) (F.hts _ hini) rfl hdg (by omega) (by omega) hKn.2.1 rfl fun H1 kC hkC e1 z1 o1 => ?_
  have := k (zX μ) (znw μ (ci + 1) 0 N) H1 locs (cells + 1) (slots + N) ls (hI.fresh (Nat.succ_ne_zero _) h2 h1 (by rw [zce_o hci]; exact ⟨_, hc, (u_born ty0 F.hts hin hKn hkC e1 hty).to hfs⟩) z1 o1) h hP
  rw [hB.1] at this
  exact this
theorem Z.newA (F : ZF p R s m args meth c cc nL own nm ret D A true sz mc ms fr lo) {atype : ArrayType} {t : Nat} {ty : FieldType} (hat : newarray.typeOf atype = ty) (hcb : componentBytes ty ≤ 8) (hta : (zAt D.2.1)[t]? = some (D.2.1 t, ty)) (hra : ∀ U, va_RA U (D.2.1 t) ty → U.vm.findClass ("[" ++ ty.toString) = some (D.2.1 t)) (hq : Cond.arrayClass ty ∈ lw_all) (hdef : ∀ N cA, arrV cA N (fun _ => defaultValue ty) = vp_cell cA (N, zarr t (fun _ => 0) (fun _ => 0) (fun _ => 0)))
    {K : Nat → ZM → Prop} {n : Int32} (hdg : decode cc pc = .ok (.newarray atype, 2)) (k : ∀ u, ZW p l e R s m args below meth c Q nL D A true n0 (K u) (pc + 2) L (zv u :: st)) : ZW p l e R s m args below meth c Q nL D A true n0 (znA (t + 50) n K) pc L (.int n :: st) := by
  intro μ H locs cells slots ls hI h hP
  obtain ⟨h0, h9, h1, h2, hP⟩ := hP
  have hB := hI.2.2
  unfold ZB at hB
  rw [if_pos rfl] at hB
  subst hat
  have hb9 : n.toNatClampNeg * componentBytes (newarray.typeOf atype) ≤ 536870912 := Nat.le_trans (Nat.mul_le_mul h9 hcb) (by decide)
  refine va_newaK F.hx F.hb (F.hts _ hq) rfl hdg rfl h0 rfl hb9 (by omega) (by omega) rfl fun H1 cA e1 z1 o1 hAr hNm => ?_
  have hcA : cA = D.2.1 t := Option.some.inj (hNm.symm.trans (hra _ (F.hK.2 t _ hta).2))
  subst hcA
  have := k (zX μ) (znw μ (t + 50) n.toNatClampNeg n.toNatClampNeg) H1 locs (cells + 1) (slots + n.toNatClampNeg) ls (hI.fresh (by omega) h2 h1 (by rw [zce_a]; exact e1.trans (congrArg some (hdef _ _))) z1 o1) h hP
  rw [hB.1] at this
  exact this
theorem Z.newQ (F : ZF p R s m args meth c cc nL own nm ret D A true sz mc ms fr lo) {C : String} {t index : Nat} (ht2 : 2 < t) (hta : (zAt D.2.1)[t]? = some (D.2.1 t, .object C)) (hcl : Cond.classLink own index C ∈ lw_all) (hao : C ∈ zNo)
    {K : Nat → ZM → Prop} {n : Int32} (hdg : decode cc pc = .ok (.anewarray index, 3)) (k : ∀ u, ZW p l e R s m args below meth c Q nL D A true n0 (K u) (pc + 3) L (zv u :: st)) : ZW p l e R s m args below meth c Q nL D A true n0 (znA (t + 50) n K) pc L (.int n :: st) := by
  intro μ H locs cells slots ls hI h hP
  obtain ⟨h0, h9, h1, h2, hP⟩ := hP
  have hB := hI.2.2
  unfold ZB at hB
  rw [if_pos rfl] at hB
  refine W.anew F.hx F.hb F.hown (F.hts _ hcl) (va_AO.use (F.hS.2.1.2.2.2.2.2.1 _ hao)) rfl hdg rfl h0 (by omega) (by omega) (by omega) fun cA kA comp f1 f2 f3 f4 => ?_
  generalize hH1 : H.push ({ cls := cA, slots := Array.replicate n.toNatClampNeg .null, vm := .none } : Cell) = H1
  have z1 : H1.size = H.size + 1 := by rw [← hH1, Array.size_push]
  have e1 : H1[H.size]? = some (arrV cA n.toNatClampNeg (fun _ => .null)) := by rw [← hH1, Array.getElem?_push_size, ← arrV_new]
  have o1 : ∀ q : Nat, q < H.size → H1[q]? = H[q]? := fun q hq => by rw [← hH1, Array.getElem?_push, if_neg (Nat.ne_of_lt hq)]
  obtain ⟨kA9, comp9, g1, g2, g3, g4⟩ := (F.hK.2 t _ hta).2
  have hcA : cA = D.2.1 t := Option.some.inj (f1.symm.trans g4)
  subst hcA
  have := k (zX μ) (znw μ (t + 50) n.toNatClampNeg n.toNatClampNeg) H1 locs (cells + 1) (slots + n.toNatClampNeg) ls (hI.fresh (by omega) h2 h1 (by
    rw [zce_a, zarr_q ht2]
    show H1[H.size]? = some (vp_cell _ _)
    rw [vp_cell_q]
    exact e1) z1 o1) h hP
  rw [hB.1] at this
  exact this
end ZMem
