/-! AN ARRAY OF ARRAYS -/
theorem zouter (cl : ClassId) (N h0 : Nat) : ∀ i, Free.Multi.outerC cl N h0 i = arrV cl N (fun j => if j < i then .ref (h0 + 1 + j) else .null)
  | 0 => (arrV_new cl N .null).trans (by simp)
  | i + 1 => by
    show (Free.Multi.outerC cl N h0 i).setSlot i (.ref (h0 + 1 + i)) = _
    rw [zouter cl N h0 i, arrV_store]
    congr 1
    funext j
    unfold updV
    by_cases hj : j = i
    · subst hj
      rw [if_pos rfl, if_pos (by omega)]
    · rw [if_neg hj]
      show (if j < i then Value.ref (h0 + 1 + j) else Value.null) = _
      by_cases h2 : j < i
      · rw [if_pos h2, if_pos (by omega)]
      · rw [if_neg h2, if_neg (by omega)]
theorem zarrX {cl : ClassId} {N : Nat} {f g : Nat → Value} (h : ∀ j, j < N → f j = g j) : arrV cl N f = arrV cl N g := by
  unfold arrV
  congr 1
  apply Array.ext
  · simp
  · intro i g1 g2
    simp only [Array.getElem_ofFn]
    exact h i (by simpa using g1)
section ZMulti
variable {p : Program} {l : Launch} {e : Env} {R : Room} {s : State} {m : MethodId} {args : Array Value} {below : List Frame} {meth : Method} {c : Code} {Q : State → Prop} {nL : Nat} {D : ZD} {A : Nat → Prop} {n0 : Nat × Nat × Nat} {cc : ByteArray} {own nm : String} {ret : Option FieldType} {sz mc ms fr lo : Nat}
variable {pc : Nat} {L : List (Nat × Value)} {st : List Value}
theorem Z.multi (F : ZF p R s m args meth c cc nL own nm ret D A true sz mc ms fr lo) {index t ti : Nat} {ty : FieldType} {K : Nat → ZM → Prop} {x y : Int32} (ht2 : 2 < t) (hta : (zAt D.2.1)[t]? = some (D.2.1 t, .array ty)) (hti : (zAt D.2.1)[ti]? = some (D.2.1 ti, ty)) (hts : (FieldType.array ty).toString = "[" ++ ty.toString) (hri : va_RA s (D.2.1 ti) ty → s.vm.findClass ("[" ++ ty.toString) = some (D.2.1 ti))
    (hcb : componentBytes ty ≤ 8) (hdf : fits ty (defaultValue ty) = true) (hdd : (defaultValue ty).isDefault = true) (hin : ∀ M, vp_cell (D.2.1 ti) (M, zarr ti (fun _ => 0) (fun _ => 0) (fun _ => 0)) = arrV (D.2.1 ti) M (fun _ => defaultValue ty))
    (hover : zAO (.array ty) s) (harr : Cond.arrayClass ty ∈ lw_all)
    (hq : Cond.classLink own index ("[" ++ (FieldType.array ty).toString) ∈ lw_all) (hdg : decode cc pc = .ok (.multianewarray index 2, 4)) (k : ∀ u, ZW p l e R s m args below meth c Q nL D A true n0 (K u) (pc + 4) L (zv u :: st)) : ZW p l e R s m args below meth c Q nL D A true n0 (zgr (t + 50) (ti + 50) y x K) pc L (.int x :: .int y :: st) := by
  intro μ H locs cells slots ls hI h hP
  obtain ⟨h0, h0', h9, h9', h1, h2, hP⟩ := hP
  obtain ⟨hR, hS, hB⟩ := hI
  unfold ZB at hB
  rw [if_pos rfl] at hB
  obtain ⟨b1, b2, b3, b4⟩ := hB
  intro T hT X
  have hq9 : x.toNatClampNeg * componentBytes ty ≤ 536870912 := Nat.le_trans (Nat.mul_le_mul h9' hcb) (by decide)
  obtain ⟨vm1, cA, comp, hW, f1, f2, -, -, X1, step⟩ := X.multianewarray2F F.hx F.hown (F.hts _ hq) (show (Cond.arrayOver (.array ty)).before args s = true from hover) (F.hts _ harr) (g := F0 m pc ls (.int x :: .int y :: st)) rfl (by rw [F.hb]; exact hdg) (n := y) (k := x) (rest := st) rfl h0 h0' (by omega) hq9 (by omega) hdf hdd (by omega) (by omega)
  have hcA : cA = D.2.1 t := Option.some.inj (f1.symm.trans (F.hK.2 t _ hta).2)
  have hco : comp = D.2.1 ti := by
    rw [hts] at f2
    exact Option.some.inj (f2.symm.trans (hri (F.hK.2 ti _ hti).2))
  subst hcA; subst hco
  generalize hN : y.toNatClampNeg = N at *
  generalize hM : x.toNatClampNeg = M at *
  have hsz : (T.setVm vm1).heap = H := hT
  have g1 := Free.Multi.fill_facts (T.setVm vm1) (D.2.1 t) (D.2.1 ti) N M (defaultValue ty) N
  have g2 := fun a (ha : a < (T.setVm vm1).heap.size) => Free.Multi.fill_old (T.setVm vm1) (D.2.1 t) (D.2.1 ti) N M (defaultValue ty) ha N
  have g3 := fun j (hj : j < N) => Free.Multi.fill_inner (T.setVm vm1) (D.2.1 t) (D.2.1 ti) N M (defaultValue ty) N j hj
  generalize hF : Free.Multi.fill (T.setVm vm1) (D.2.1 t) (D.2.1 ti) N M (defaultValue ty) N = T9 at *
  rw [hsz] at g1 g2 g3
  have o1 : Free.Multi.outerC (D.2.1 t) N H.size N = arrV (D.2.1 t) N (fun j => va_rf (zo (if j < N then zX μ + 1 + j else 0))) := by
    rw [zouter]
    refine zarrX fun j hj => ?_
    rw [if_pos hj, if_pos hj, b1, show H.size + 1 + 1 + j = (H.size + 1 + j) + 1 by omega]
    rfl
  have i1 : Free.Multi.innerC (D.2.1 ti) M (defaultValue ty) = arrV (D.2.1 ti) M (fun _ => defaultValue ty) := arrV_new _ _ _
  have hZ : ZI D A true n0 R s (cells + 1 + N) (slots + N + N * M) (zmg μ (t + 50) (ti + 50) N M) T9.heap locs := by
    refine ⟨⟨fun a ha => ?_, hR.2⟩, ⟨Nat.le_trans hS.1 (by omega), fun q p1 p2 => (g2 q (Nat.lt_of_lt_of_le p1 hS.1)).trans (hS.2.1 q p1 p2), hS.2.2⟩, ?_⟩
    · simp only [zmg, zT_mk, zN_mk, zI_mk, zL_mk, zR_mk, b1] at ha ⊢
      by_cases c1 : a = H.size + 1
      · subst c1
        refine ⟨H.size, rfl, b2 _ hS.1, ?_⟩
        have c2 : H.size + 1 ≤ H.size + 1 ∧ H.size + 1 ≤ H.size + 1 + N := ⟨Nat.le_refl _, by omega⟩
        simp only [if_true, c2, and_self, zce_a, zarr_q ht2]
        show T9.heap[H.size]? = some (vp_cell _ _)
        rw [g1.2.1, o1, vp_cell_q, b1]
      · by_cases c2 : H.size + 1 < a ∧ a ≤ H.size + 1 + N
        · obtain ⟨j, rfl⟩ : ∃ j, a = H.size + 1 + j + 1 := ⟨a - (H.size + 1) - 1, by omega⟩
          refine ⟨H.size + 1 + j, rfl, b2 _ (by have := hS.1; omega), ?_⟩
          have c3 : H.size + 1 ≤ H.size + 1 + j + 1 ∧ H.size + 1 + j + 1 ≤ H.size + 1 + N := ⟨by omega, c2.2⟩
          rw [if_neg c1, if_pos c2, if_neg c1, if_pos c2, if_pos c3, if_pos c3, if_neg c1, if_pos c2, zce_a]
          show T9.heap[H.size + 1 + j]? = some (vp_cell _ _)
          rw [g3 j (by omega), i1, hin]
        · have c3 : ¬ (H.size + 1 ≤ a ∧ a ≤ H.size + 1 + N) := by omega
          rw [if_neg c1, if_neg c2] at ha
          obtain ⟨q, h2', h3, h4⟩ := hR.1 a ha
          refine ⟨q, h2', h3, ?_⟩
          rw [if_neg c1, if_neg c2, if_neg c1, if_neg c2, if_neg c3, if_neg c3, if_neg c1, if_neg c2]
          exact h4.kept (g2 q h4.lt)
    · unfold ZB
      rw [if_pos rfl]
      simp only [zmg, zX_mk, zC_mk, zS_mk]
      exact ⟨by omega, b2, by omega, by omega⟩
  obtain ⟨t2, a1, a2⟩ := k (zX μ) (zmg μ (t + 50) (ti + 50) N M) T9.heap locs (cells + 1 + N) (slots + N + N * M) ls hZ h hP T9 rfl X1
  refine ⟨t2, step t2 ?_, a2⟩
  rw [b1] at a1
  rw [hT]
  exact a1
theorem Z.multi54 (F : ZF p R s m args meth c cc nL own nm ret D A true sz mc ms fr lo) {index : Nat} {K : Nat → ZM → Prop} {x y : Int32} (hq : Cond.classLink own index "[[J" ∈ lw_all) (hdg : decode cc pc = .ok (.multianewarray index 2, 4)) (k : ∀ u, ZW p l e R s m args below meth c Q nL D A true n0 (K u) (pc + 4) L (zv u :: st)) : ZW p l e R s m args below meth c Q nL D A true n0 (zgr 54 51 y x K) pc L (.int x :: .int y :: st) :=
  Z.multi F (t := 4) (ti := 1) (ty := .long) (by decide) rfl rfl rfl (fun h => h) (by decide) rfl rfl (fun _ => rfl) F.hS.2.1.2.2.2.2.2.2.1 q254 hq hdg k
theorem Z.multi55 (F : ZF p R s m args meth c cc nL own nm ret D A true sz mc ms fr lo) {index : Nat} {K : Nat → ZM → Prop} {x y : Int32} (hq : Cond.classLink own index "[[I" ∈ lw_all) (hdg : decode cc pc = .ok (.multianewarray index 2, 4)) (k : ∀ u, ZW p l e R s m args below meth c Q nL D A true n0 (K u) (pc + 4) L (zv u :: st)) : ZW p l e R s m args below meth c Q nL D A true n0 (zgr 55 50 y x K) pc L (.int x :: .int y :: st) :=
  Z.multi F (t := 5) (ti := 0) (ty := .int) (by decide) rfl rfl rfl (fun h => h) (by decide) rfl rfl (fun _ => rfl) F.hS.2.1.2.2.2.2.2.2.2 q253 hq hdg k
end ZMulti
