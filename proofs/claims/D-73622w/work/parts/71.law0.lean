/-! THE CLAIM OUT OF ONE WALK OF THE LAW'S BODY. Your part is whole_start (and what it stands on); all else here is the same for every law, but numbers. -/
def R_law : String := "SafeBucketsLaw"
def lw_P (b : Addr) (xs : List Int32) (args : Array Value) (s : State) : Prop := args = #[.ref b] ∧ s.IntsAt b xs ∧ xs.length ≤ 144 ∧ (Jvm.Cond.and given_1 narrow_1).before args s = true ∧ modulesRight_1 s = true
def lw_Q (_ : Array Value) (s : State) (o : Outcome) (t : State) : Prop := o = .returned (some (.int 1)) ∧ Framed s o t [] 1200048 5501818
def lw_Z (below : List Frame) (a : Array Value) (s : State) : State → Prop := fun t => ∃ o, t.status = .running ∧ Ended t below o ∧ lw_Q a s o t
/-- the law's own end, with 1 on the stack, nothing written that was there before, its room as the claim has it -/
theorem lw_ret {p : Program} {l : Launch} {e : Env} {s : State} {m : MethodId} {below : List Frame} {meth : Method} {c : Code} {b : Nat} (hx : p.tables.exec = Jvm.exec) (hb : c.code = code) (hr : meth.sig.returnType = ret) (hlocks : meth.locks = false) {pc : Nat} {H : Heap} {ls : Array Slot} (hdg : decode code pc = .ok (.ireturn, 1)) : W p l e room_1 s m #[Value.ref b] below meth c H [] 1200048 5501818 (lw_Z below #[Value.ref b] s) (F0 m pc ls [.int 1]) := by
  intro T hT X
  obtain ⟨fs, hret, hrun, hended, hW, hframe⟩ := X.leave (v := some (.int 1)) (hlocks := hlocks) (fun h => by rw [hr] at h; cases h)
  have hmeth' : T.vm.method? m = some meth := X.method'
  refine ⟨T.setFrames fs, ?_, .returned (some (.int 1)), hrun, hended, rfl, ⟨_, rfl⟩, hW, hframe⟩
  jvm_step X.here [X.here.top, hx, hb, hdg, hmeth', hr, ret, narrow_b1]
  (try refine ⟨rfl, ?_⟩); (try refine ⟨rfl, ?_⟩)
  first | (intro acts; rw [hret _ acts rfl rfl rfl]) | rw [hret _ _ rfl rfl rfl]
  exact Steps.refl _
/-- what holds at the law's entry: the machine, the code, the tables' words (any of lw_tbl by 'hts w (by decide +kernel)'), the script of L ints xs at the cell b, what the Statement gives of the start (any of its parts by flat_of_before), and the start's premise that stands beside rest_1's words -/
def lw_At (p : Program) (s : State) (m : MethodId) (meth : Method) (c : Code) (b L : Nat) (xs : Nat → Int32) : Prop :=
  p.tables.exec = Jvm.exec ∧ c.code = code ∧ meth.sig.returnType = ret ∧ c.maxLocals = 7 ∧ s.vm.findClass R_law = some m.cls ∧ (∀ w ∈ lw_tbl, w.before #[Value.ref b] s = true) ∧ va_X b L xs s s.heap ∧ b < s.heap.size ∧ meth.locks = false ∧ (Jvm.Cond.and given_1 narrow_1).before #[Value.ref b] s = true ∧ modulesRight_1 s = true
def zsc (S : Nat → Int32) (N : Nat) (j : Int32) (K : Int32 → ZM → Prop) : ZM → Prop := fun μ => vp_in j N ∧ K (S j.toNatClampNeg) μ
def zsn (N : Nat) (K : Int32 → ZM → Prop) : ZM → Prop := K (Int32.ofNat N)
def zl1 : Int32 → ZM → Prop := fun r _ => r = 1
section ZLawRows
variable {p : Program} {l : Launch} {e : Env} {s : State} {m : MethodId} {below : List Frame} {meth : Method} {c : Code} {D : ZD} {n0 : Nat × Nat × Nat} {b N : Nat} {S : Nat → Int32} {Q : State → Prop} {nm : String}
variable {pc : Nat} {L : List (Nat × Value)} {st : List Value}
theorem Z.ssn (F : ZF p room_1 s m #[Value.ref b] meth c cL_law 7 "SafeBucketsLaw" nm (some .boolean) D (fun q => s.heap.size ≤ q) true s.heap.size 1200048 5501818 8192 100000) (G : va_X b N S s s.heap ∧ b < s.heap.size) {K : Int32 → ZM → Prop} (hdg : decode cL_law pc = .ok (.arraylength, 1)) (k : ∀ u, ZW p l e room_1 s m #[Value.ref b] below meth c Q 7 D (fun q => s.heap.size ≤ q) true n0 (K u) (pc + 1) L (.int u :: st)) : ZW p l e room_1 s m #[Value.ref b] below meth c Q 7 D (fun q => s.heap.size ≤ q) true n0 (zsn N K) pc L (zv (b + 1) :: st) := by
  intro μ H locs cells slots ls hI h hP
  exact va_slen F.hx F.hb G.1 G.2 (Nat.not_le.mpr G.2) hI.2.1 hdg (k _ μ H locs cells slots ls hI h hP)
theorem Z.ssl (F : ZF p room_1 s m #[Value.ref b] meth c cL_law 7 "SafeBucketsLaw" nm (some .boolean) D (fun q => s.heap.size ≤ q) true s.heap.size 1200048 5501818 8192 100000) (G : va_X b N S s s.heap ∧ b < s.heap.size) {j : Int32} {K : Int32 → ZM → Prop} (hdg : decode cL_law pc = .ok (.iaload, 1)) (k : ∀ u, ZW p l e room_1 s m #[Value.ref b] below meth c Q 7 D (fun q => s.heap.size ≤ q) true n0 (K u) (pc + 1) L (.int u :: st)) : ZW p l e room_1 s m #[Value.ref b] below meth c Q 7 D (fun q => s.heap.size ≤ q) true n0 (zsc S N j K) pc L (.int j :: zv (b + 1) :: st) := by
  intro μ H locs cells slots ls hI h hP
  exact va_sld F.hx F.hb G.1 G.2 (Nat.not_le.mpr G.2) hI.2.1 hP.1 hdg (k _ μ H locs cells slots ls hI h hP.2)
theorem Z.lawret {v : Int32} (F : ZF p room_1 s m #[Value.ref b] meth c cL_law 7 "SafeBucketsLaw" nm (some .boolean) D (fun q => s.heap.size ≤ q) true s.heap.size 1200048 5501818 8192 100000) (hdg : decode cL_law pc = .ok (.ireturn, 1)) : ZW p l e room_1 s m #[Value.ref b] below meth c (lw_Z below #[Value.ref b] s) 7 D (fun q => s.heap.size ≤ q) true n0 (zl1 v) pc L [.int v] := by
  intro μ H locs cells slots ls hI h hP
  have hP : v = 1 := hP
  subst hP
  refine va_forget (fun q hq => hI.2.1.2.2 q hq) ?_
  refine W.widen (k := 1200048) (n := 5501818) (Z.endB F hI).1 (Z.endB F hI).2 ?_
  exact lw_ret F.hx F.hb F.hr F.hlocks hdg
end ZLawRows
section ZSW
variable {p : Program} {l : Launch} {e : Env} {R : Room} {s : State} {m : MethodId} {args : Array Value} {below : List Frame} {meth : Method} {c : Code} {Q : State → Prop} {nL : Nat} {D : ZD} {A : Nat → Prop} {al : Bool} {n0 : Nat × Nat × Nat} {cc : ByteArray} {own nm : String} {ret : Option FieldType} {sz mc ms fr lo : Nat}
variable {P : ZM → Prop} {pc i : Nat} {L : List (Nat × Value)} {st st0 : List Value} {v x : Int32} {w : Int64} {H H1 : Heap} {locs : List Loc} {cells slots : Nat} {ls : Array Slot} {μ μ' : ZM}
theorem Z.SW1 (F : ZF p R s m args meth c cc nL own nm ret D A true sz mc ms fr lo) {fr9 lo9 mc9 ms9 n maxL9 index : Nat} {y : MethodName} {bytes : ByteArray} {ret9 : Option FieldType} {Pf : ZM → Prop} {Qc : Array Value → State → Outcome → State → Prop} {As : List Value} {hh : List (Nat × Nat × Nat × Nat)} (hI : ZI D A true n0 R s cells slots μ H locs) (hk9 : mc9 ≤ zC μ) (hn9 : ms9 ≤ zS μ) (hPf : Pf (zcs μ mc9 ms9)) (hM : Met l y (wsW_ y bytes maxL9 ret9 hh) { frames := fr9, cells := mc9, slots := ms9, locals := lo9 } (va_Pc (As) (ZPreC D A true (0, 0, 0) mc9 ms9 0 Pf (zcs μ mc9 ms9))) Qc mc9 ms9 A) (h1 : Cond.methodLink own index y ∈ lw_all) (h2 : Cond.static y ∈ lw_all) (h3 : Cond.initialized y.cls ∈ lw_all) (h5 : Cond.codeWith y bytes maxL9 ret9 hh ∈ lw_all) (hd : y.cls ≠ "java/lang/invoke/MethodHandle" ∧ y.cls ≠ "java/lang/invoke/VarHandle" ∧ (parseMethodDescriptor y.desc).map (fun d => d.parameters.length) = some n) (hn : As.length = n) (hls : ls.size = nL) (hst4 : zlw st) (hR : fr9 + 1 ≤ fr ∧ 8 + (maxL9 + 11) + lo9 ≤ lo) (hst : st0 = As.reverse ++ st) (hdg : decode cc pc = .ok (.invokestatic index, 3)) : va_Run p l e R s m args below meth c H locs cells slots mc9 ms9 (F0 m pc ls st0) st (Qc (As).toArray) A := by
  subst hst
  exact vx_runSW (As := As) F.fix hM (vx_cwSW n F.hts (lw_SW h1 h2 h3 h5) rfl rfl rfl hd (by rw [F.hRf, F.hRl]; exact hR)) ⟨zblind, Z.pre1 F hI hPf⟩ rfl hn hls rfl (zroom hst4) hdg (Z.fits1 hI hk9 hn9)
end ZSW
