/-! A CALLEE WHOSE CLASS NO WORD CALLS INITIALISED: the four constants' own `holds`. The callee's frame is walked in place. -/
section ZU
def zR0 : Room := { frames := 0, cells := 0, slots := 0, locals := 0 }
theorem zBackU {l : Launch} {R : Room} {p : Program} {e : Env} {below : List Frame} {s : State} {sargs : Array Value} {y : MethodName} {len W0 : Nat} {bytes : ByteArray} {maxL : Nat} {ret : Option FieldType}
    {Pc : Array Value → State → Prop} {Qc : Array Value → State → Outcome → State → Prop} {free : Addr → Prop}
    (hy : plainName y.cls = true) (hblind : FrameBlind Pc) (hfr : 1 ≤ R.frames) (hlo : W0 + (maxL + 11) ≤ R.locals)
    (hcode : ∀ a' U, s.WarmedH U.vm → (Cond.code y bytes maxL ret).before a' U = true)
    (body : ∀ (s9 : State) (mk : MethodId) (a : Array Value) (below9 : List Frame) (meth9 : Method) (c9 : Code), s.WarmedH s9.vm → c9.code = bytes → c9.maxLocals = maxL → meth9.locks = false → meth9.sig.returnType = ret → s9.methodNamed? y = some mk → s9.vm.method? mk = some meth9 → Pc a s9 →
      W p l e zR0 s9 mk a below9 meth9 c9 s9.heap [] 0 0 (MQ below9 Qc a s9 0 0 free) (entryFrame mk a maxL)) :
    Free.Back l R p e below s sargs y len W0 (PreOf R 0 0 Pc) (PostOf Qc 0 0 free) := by
  intro m meth c A g ig mk a X hg hsize hdg hW hn hp
  obtain ⟨U, Ls, c0, s0⟩ := A
  dsimp only [Free.Pt.U, Free.Pt.locs, Free.Pt.cells, Free.Pt.slots] at X hn hp ⊢
  obtain ⟨methY, cY, hmY, hcY, hbY, hlY, hrY, hkY, -, -⟩ := Cond.code_spec hn (hcode a U X.warmed)
  have h : At U g.method c below := by rw [hg]; exact X.here
  obtain ⟨g0, hg0⟩ := Option.isSome_iff_exists.mp h.top
  obtain ⟨r0, hr0⟩ := State.topJava?_eq_some.mp hg0
  have hfs : (U.setTop g).frames = .java g :: U.frames.tail := State.frames_setTop' g h.top
  have hcf : (U.calling g mk a).frames = .invoking mk a :: (U.setTop g).frames := by rw [hfs]; exact State.frames_calling h.top g mk a
  have hcur := State.cur_lt_of_frames hcf
  have hroom : (U.calling g mk a).hasRoom e.platform zR0 = true := X.room_calling (g := g) (R' := zR0) hsize hmY hcY (by show 0 + 1 ≤ _; omega) (by show _ + 0 ≤ _; rw [hlY]; omega) hp.1 hp.2.1
  have hgc : (U.calling g mk a).code? g.method = some c := by
    have h1 := h.code
    rw [State.code?_eq] at h1 ⊢
    exact h1
  have hhe : (U.calling g mk a).hears mk (U.setTop g).frames = true := by rw [hfs]; simp [State.hears, hgc, hdg, Except.toOption]
  generalize hS1 : (U.calling g mk a).setFrames (.java (entryFrame mk a maxL) :: (U.setTop g).frames) = s1
  have hf1 : s1.frames = .java (entryFrame mk a maxL) :: (U.setTop g).frames := by rw [← hS1]; exact State.frames_setFrames _ hcur
  have ht1 := State.topJava?_of_frames hf1
  have hn9 : (U.calling g mk a).methodNamed? y = some mk := hn
  have hm9 : (U.calling g mk a).vm.method? mk = some methY := hmY
  have hAt : At s1 mk cY (U.setTop g).frames := by
    refine ⟨by rw [ht1]; rfl, ⟨[], by rw [hf1]; rfl⟩, ?_, ?_, ?_, ?_, ?_⟩
    · rw [← hS1]; exact h.running
    · rw [← hS1]; simpa [State.calling] using h.runnable
    · rw [← hS1]; simpa [State.calling] using h.alone
    · rw [State.code?_eq, ← hS1]
      show ((U.vm.method? mk).bind _) = _
      rw [hmY]
      exact hcY
    · rw [← hS1]
      exact State.plainMethod.of_named (s := U) (plainFor_of_name hy) hn hmY
  have hgo : (doInvoke e (U.setTop g) [] mk a).1 = s1.setTop (entryFrame mk a maxL) := by
    have hful := X.notFull (g := g) (vars := cY.maxLocals) hsize hfr (by rw [hlY]; omega)
    rw [(doInvoke_java (acts := []) (s := U.setTop g) (e := e) (meth := methY) (code := cY) hmY hcY hkY hful).1, State.setTop_self ht1, ← hS1]
    simp only [State.calling, State.pushFrame, State.setFrames_setFrames, hlY, entryFrame]
  obtain ⟨t9, ht9, -⟩ := State.frames_cons hcf
  have X9 : Stand p l e zR0 (U.calling g mk a) mk a (U.setTop g).frames methY cY s1 [] 0 0 := by
    refine ⟨X.admits, X.cas, X.clock, hcf, hroom, hhe, hm9, hcY, hAt, by rw [hf1]; rfl, by rw [← hS1]; exact State.WarmedH.refl _, by rw [← hS1, State.stackLimits_setFrames], by rw [← hS1, State.stackBytes_setFrames], ?_⟩
    rw [← hS1]
    exact (State.sameButNew.refl _ ht9).setFrames _ hcur
  obtain ⟨t2, st, o, hrun2, hend, hq, L, hfe, hL⟩ := body (U.calling g mk a) mk a (U.setTop g).frames methY cY X.warmed hbY hlY hkY hrY hn9 hm9 (hblind _ _ _ _ hp.2.2) s1 (by rw [← hS1]; rfl) X9
  obtain ⟨⟨v, rfl⟩, hW2, e2, q2, q3, q4, q5, q6⟩ := id hfe
  have hW' : U.WarmedH t2.vm := hW2
  rw [hfs] at hend
  obtain ⟨c2, i2, len2, hc2, hd2, hf2⟩ := hend
  have hcc : c2 = c := Option.some.inj (hc2.symm.trans ((show t2.code? g.method = U.code? g.method by rw [State.code?_eq, State.code?_eq, hW'.alike.method?]).trans h.code))
  subst hcc
  obtain rfl : len2 = len := by rw [hdg] at hd2; cases hd2; rfl
  subst hg
  have hmid : ∃ U2 : State, U2 = ({ U with heap := t2.heap, slotsUsed := t2.slotsUsed } : State) ∧ U.sameButNew U2 L 0 0 ∧ t2 = (U2.setVm t2.vm).setTop { g with pc := g.pc + len2, stack := v.toList ++ g.stack } := by
    refine ⟨_, rfl, ⟨?_, q2, q3, q4, q5, q6⟩, ?_⟩
    · obtain ⟨t, ht, -⟩ := State.frames_cons hr0
      show _ = { U.setFrames U.frames with heap := t2.heap, slotsUsed := t2.slotsUsed }
      rw [State.setFrames_self ht]
    · have hr2 : (({ U with heap := t2.heap, slotsUsed := t2.slotsUsed } : State).setVm t2.vm).frames = .java g0 :: r0 := hr0
      have e3 : t2 = ({ (U.calling g mk a).setFrames t2.frames with heap := t2.heap, slotsUsed := t2.slotsUsed } : State).setVm t2.vm := by
        have h5 : t2 = ({ t2 with vm := (U.calling g mk a).vm } : State).setVm t2.vm := rfl
        rw [e2] at h5
        exact h5
      refine e3.trans ?_
      rw [hf2, State.calling_eq h.top, State.setFrames_setFrames, State.setTop_of_frames _ hr2, hr0]
      rfl
  obtain ⟨U2, hU2, hsame, ht2⟩ := hmid
  have hsteps : Steps p.tables e below (doInvoke e (U.setTop g) [] mk a).1 t2 := by
    rw [hgo]
    obtain ⟨mid, hm2⟩ := h.above
    have hfr2 : (U.setTop g).frames = (.java g :: mid) ++ below := by rw [hfs, hm2]; rfl
    obtain ⟨n, hn1, hw⟩ := st
    exact ⟨n, hn1, fun k hk => by have := hw k hk; rw [hfr2] at this; exact this.weaken⟩
  refine ⟨v, ⟨U2.setVm t2.vm, Ls ++ L, c0 + 0, s0 + 0⟩, ?_, ?_, ?_⟩
  · rw [hU2] at hsame ⊢
    exact ⟨X.admits, X.cas, X.clock, X.frames, X.room, X.hears, X.method, X.code, (X.here.setHeapUsed t2.heap t2.slotsUsed).setVm hW'.alike, X.tail, State.WarmedH.trans X.warmed hW', X.limits, X.bytes, X.same.trans (hsame.setVm s.vm)⟩
  · exact ⟨g, mk, t2, L, by rw [hU2]; rfl, rfl, hq, rfl, hL, rfl, rfl⟩
  · rw [← ht2]
    exact hsteps
end ZU
/-- such a method's contract -/
def ZCiU (l : Launch) (y : MethodName) (cc : ByteArray) (maxL : Nat) (ret : Option FieldType) (av : List Value) (f : (Int32 → ZM → Prop) → ZM → Prop) : Prop :=
  ∀ (D : ZD) (A : Nat → Prop) (n0 : Nat × Nat × Nat) (sz : Nat) (K : Int32 → ZM → Prop) (μ : ZM) (p : Program) (e : Env) (s9 : State) (mk : MethodId) (below9 : List Frame) (meth9 : Method) (c9 : Code),
    p.tables.exec = Jvm.exec → (∀ w ∈ lw_all, w.before av.toArray s9 = true) → c9.code = cc → c9.maxLocals = maxL → meth9.locks = false → meth9.sig.returnType = ret → s9.methodNamed? y = some mk → s9.vm.method? mk = some meth9 → ZPreC D A false n0 0 0 sz (f K) μ s9 →
    W p l e zR0 s9 mk av.toArray below9 meth9 c9 s9.heap [] 0 0 (MQ below9 (va_Qi K (ZPost D A false n0 sz) A) av.toArray s9 0 0 A) (entryFrame mk av.toArray maxL)
section ZU2
variable {p : Program} {l : Launch} {e : Env} {R : Room} {s : State} {m : MethodId} {args : Array Value} {below : List Frame} {meth : Method} {c : Code} {Q : State → Prop} {nL : Nat} {D : ZD} {A : Nat → Prop} {al : Bool} {n0 : Nat × Nat × Nat} {cc : ByteArray} {own nm : String} {ret : Option FieldType} {sz mc ms fr lo : Nat}
variable {pc : Nat} {L : List (Nat × Value)} {st st0 : List Value}
theorem Z.metZU {y : MethodName} {maxL : Nat} {av : List Value} {L0 : List (Nat × Value)} {f : (Int32 → ZM → Prop) → ZM → Prop} (hla : lv_args 0 av = L0) (hsl : (lg_sl av).length ≤ maxL)
    (body : ∀ (p : Program) (e : Env) (R : Room) (s : State) (m : MethodId) (args : Array Value) (below : List Frame) (meth : Method) (c : Code) (D : ZD) (A : Nat → Prop) (n0 : Nat × Nat × Nat) (sz : Nat) (K : Int32 → ZM → Prop), ZF p R s m args meth c cc maxL y.cls y.name (some .boolean) D A false sz 0 0 0 0 → ZW p l e R s m args below meth c (MQ below (va_Qi K (ZPost D A false n0 sz) A) args s 0 0 A) maxL D A false n0 (f K) 0 L0 []) : ZCiU l y cc maxL (some .boolean) av f := by
  intro D A n0 sz K μ p e s m below meth c hx hts hcc hml hlk hret hn hm hv
  have hz : s.heap.size = sz := by
    have h2 := hv.2.2.1
    rw [if_neg (by decide)] at h2
    exact h2.1
  have F : ZF p zR0 s m av.toArray meth c cc maxL y.cls y.name (some .boolean) D A false sz 0 0 0 0 := ⟨hx, hcc, hml, findClass_of_methodNamed hn, hts, hv.1, hlk, hret, (name_of_methodNamed hn hm).1, rfl, rfl, fun _ => ⟨hz, rfl, rfl⟩, rfl, rfl⟩
  rw [lg_entry_eq]
  exact body p e zR0 s m av.toArray below meth c D A n0 sz K F μ s.heap [] 0 0 _ (Z.fst (ws := []) (fr := 0) (lo := 0) hv) (hla ▸ lv_entry av hsl) hv.2.2.2
theorem Z.sgnHU {i : Nat} {nm9 E : String} (F : ZF p R s m args meth c cc nL own nm ret D A al sz mc ms fr lo) (hE : ZSg i nm9 E D.2.2 A s s.heap) {n maxL9 index : Nat} {y : MethodName} {bytes : ByteArray} {ret9 : Option FieldType} {As : List Value} {x : MethodName} {z : Nat} {K : Int32 → ZM → Prop} {f : (Int32 → ZM → Prop) → ZM → Prop} (hM : ZCiU l y bytes maxL9 ret9 (zv z :: As) f) {owner : String} (hy : plainName y.cls = true) (h1 : Cond.methodLink own index x ∈ lw_all) (h2 : Cond.sameMethod x.cls owner x.name x.desc ∈ lw_all) (h3 : Cond.selects E x y ∈ lw_all) (h4 : Cond.instanceMethod y ∈ lw_all) (h5 : Cond.code y bytes maxL9 ret9 ∈ lw_all) (hz9 : (⟨owner, x.name, x.desc⟩ : MethodName) ∈ zNd) (hd : owner ≠ "java/lang/invoke/MethodHandle" ∧ owner ≠ "java/lang/invoke/VarHandle" ∧ (parseMethodDescriptor x.desc).map (fun d => d.parameters.length) = some n) (hn : As.length = n) (hst4 : zlw st) (hR : 1 ≤ fr ∧ 8 + (maxL9 + 11) ≤ lo) (hst : st0 = As.reverse ++ zv z :: st) (hdg : decode cc pc = .ok (.invokevirtual index, 3)) (k : ∀ r, ZW p l e R s m args below meth c Q nL D A al n0 (K r) (pc + 3) L (.int r :: st)) : ZW p l e R s m args below meth c Q nL D A al n0 (zis z i (f K)) pc L st0 := by
  refine Z.ri0 (a9 := (zv z :: As).toArray) _ (fun μ H locs cells slots ls hI h hP => ?_) k
  obtain ⟨hz, hP⟩ := hP
  rw [hI.1.2] at hz
  subst hz
  subst hst
  have hcell : ∃ cell : Cell, H[D.2.2 i]? = some cell ∧ cell.vm.isStatics = false ∧ s.vm.findClass E = some cell.cls := by
    obtain ⟨cell, g1, g2, g3, -⟩ := hE.2.1.kept hI.2.1.2.1
    exact ⟨cell, g1, g2, g3⟩
  obtain ⟨cellB, hcB, hoB, hclB⟩ := hcell
  intro T hT X
  have hws := pay_in F.hts (lw_meth h5)
  have hK := zBackU (p := p) (e := e) (R := R) (below := below) (s := s) (sargs := args) (len := 3) (W0 := 8) (bytes := bytes) (maxL := maxL9) (ret := ret9) (Pc := va_Pc (zv (D.2.2 i + 1) :: As) (ZPreC D A false (zX μ, zC μ, zS μ) 0 0 H.size (f K) μ)) (Qc := va_Qi K (ZPost D A false (zX μ, zC μ, zS μ) H.size) A) (free := A) hy zblind (by rw [F.hRf]; exact hR.1) (by rw [F.hRl]; exact hR.2) (fun a' U hW => hws _ List.mem_cons_self a' U hW)
    (fun s9 mk a below9 meth9 c9 hW g1 g2 g3 g4 g5 g6 hv => by
      obtain ⟨rfl, hv⟩ := hv
      exact hM D A _ _ K μ p e s9 mk below9 meth9 c9 F.hx (fun w hw => hws w (List.mem_cons_of_mem _ hw) _ _ hW) g1 g2 g3 g4 g5 g6 hv)
  have hd0 : va_Decl s ⟨owner, x.name, x.desc⟩ := va_Decl.abs (F.hS.2.1.2.2.1 _ hz9)
  obtain ⟨v, vm1, ⟨U', l2, c2, s2⟩, hW1, X', ⟨g', mk, t, L9, e1, e2, hq, h1', hL, h2', h3'⟩, stp⟩ := va_callVU X F.hx (C := E) (owner := owner) (bytes := bytes) (maxL := maxL9) (ret := ret9) (g := F0 m pc ls (As.reverse ++ zv (D.2.2 i + 1) :: st)) F.hown (F.hts _ h1) (F.hts _ h2) hd0 ⟨hd.1, hd.2.1⟩ (F.hts _ h3) (F.hts _ h4) (F.hts _ h5) hK (b := D.2.2 i) (by rw [hT]; exact hcB) hoB hclB rfl (h.1.trans F.hml.symm) (argsL := As) (rest := st) (fun sig hs => by
      have h9 := hd.2.2
      rw [hs] at h9
      exact hn.trans (Option.some.inj h9).symm) rfl (zroom hst4) (by rw [F.hb]; exact hdg)
    (fun vm1 hW1 => ⟨(Z.fits0 hI).1, (Z.fits0 hI).2, (Z.pre0 F hI hP) (T.setVm vm1) hT hW1⟩)
  dsimp only [Free.Pt.U, Free.Pt.locs, Free.Pt.cells, Free.Pt.slots] at X' e1 e2 h1' h2' h3' stp
  subst h1'; subst h2'; subst h3'
  exact ⟨v, (T.setVm vm1).calling g' mk (Value.ref (D.2.2 i) :: As).toArray, t, U', L9, hT, X', hL, e1, e2, hq, stp⟩
end ZU2
