theorem zst_cl {s : State} {args : Array Value} (hts : ∀ w ∈ lw_all, w.before args s = true) : ∃ g : va_G, ∀ (c : Nat) (q : vw_C), zCl[c]? = some q → u_Kn s q.1 q.2.1 q.2.2 (g.1 c) (g.2 c) := by
  have H : ∀ ci : Nat, ∃ (cC : ClassId) (iS : Nat → Nat), ∀ q, zCl[ci]? = some q → u_Kn s q.1 q.2.1 q.2.2 cC iS := by
    intro ci
    match ci with
    | 0 => obtain ⟨c, j, h⟩ := u_known hts in_X1 (hts _ q166); exact ⟨c, j, fun q hq => by cases hq; exact h⟩
    | 1 => obtain ⟨c, j, h⟩ := u_known hts in_X2 (hts _ q186); exact ⟨c, j, fun q hq => by cases hq; exact h⟩
    | 2 => obtain ⟨c, j, h⟩ := u_known hts in_X3 (hts _ q193); exact ⟨c, j, fun q hq => by cases hq; exact h⟩
    | 3 => obtain ⟨c, j, h⟩ := u_known hts in_X4 (hts _ q200); exact ⟨c, j, fun q hq => by cases hq; exact h⟩
    | 4 => obtain ⟨c, j, h⟩ := u_known hts in_X7 (hts _ q207); exact ⟨c, j, fun q hq => by cases hq; exact h⟩
    | 5 => obtain ⟨c, j, h⟩ := u_known hts in_X8 (hts _ q322); exact ⟨c, j, fun q hq => by cases hq; exact h⟩
    | 6 => obtain ⟨c, j, h⟩ := u_known hts in_X9 (hts _ q1564); exact ⟨c, j, fun q hq => by cases hq; exact h⟩
    | 7 => obtain ⟨c, j, h⟩ := u_known hts in_X10 (hts _ q486); exact ⟨c, j, fun q hq => by cases hq; exact h⟩
    | 8 => obtain ⟨c, j, h⟩ := u_known hts in_X11 (hts _ q503); exact ⟨c, j, fun q hq => by cases hq; exact h⟩
    | 9 => obtain ⟨c, j, h⟩ := u_known hts in_X12 (hts _ q553); exact ⟨c, j, fun q hq => by cases hq; exact h⟩
    | 10 => obtain ⟨c, j, h⟩ := u_known hts in_X15 (hts _ q572); exact ⟨c, j, fun q hq => by cases hq; exact h⟩
    | 11 => obtain ⟨c, j, h⟩ := u_known hts in_X16 (hts _ q599); exact ⟨c, j, fun q hq => by cases hq; exact h⟩
    | 12 => obtain ⟨c, j, h⟩ := u_known hts in_X17 (hts _ q607); exact ⟨c, j, fun q hq => by cases hq; exact h⟩
    | 13 => obtain ⟨c, j, h⟩ := u_known hts in_X18 (hts _ q774); exact ⟨c, j, fun q hq => by cases hq; exact h⟩
    | 14 => obtain ⟨c, j, h⟩ := u_known hts in_X19 (hts _ q793); exact ⟨c, j, fun q hq => by cases hq; exact h⟩
    | 15 => obtain ⟨c, j, h⟩ := u_known hts in_X21 (hts _ q839); exact ⟨c, j, fun q hq => by cases hq; exact h⟩
    | 16 => obtain ⟨c, j, h⟩ := u_known hts in_X22 (hts _ q1230); exact ⟨c, j, fun q hq => by cases hq; exact h⟩
    | n + 17 => exact ⟨0, fun _ => 0, fun q hq => by simp at hq⟩
  obtain ⟨f, hf⟩ := Classical.axiomOfChoice H
  obtain ⟨g, hg⟩ := Classical.axiomOfChoice hf
  exact ⟨(f, g), hg⟩
theorem zarr_of {s : State} {c comp : ClassId} {k : Class} {ty : FieldType} (h1 : s.vm.classes[c]? = some k) (h2 : k.kind = .array comp ty) : ArrOfT s c ty := by
  intro n z
  unfold State.isArrayOf
  simp [arrV, h1, h2]
theorem zst_p {s : State} {args : Array Value} {ty : FieldType} (h : (Cond.arrayClass ty).before args s = true) : ∃ c, ArrOfT s c ty ∧ s.vm.findClass ("[" ++ ty.toString) = some c := by
  obtain ⟨c, k, comp, h1, h2, h3⟩ := Cond.arrayClass_spec h
  exact ⟨c, zarr_of h2 h3, h1⟩
theorem zst_o {s : State} {args : Array Value} {C : String} (h : (Cond.arrayOver (.object C)).before args s = true) : ∃ c, ArrOfT s c (.object C) ∧ va_RA s c (.object C) := by
  obtain ⟨comp, c, k, h1, -, h2, h3, h4⟩ := Cond.arrayOver_spec h
  exact ⟨c, zarr_of h2 h3, k, comp, h2, h3, h1, h4⟩
theorem zst_a {s : State} {args : Array Value} {t : FieldType} (h : (Cond.arrayOver (.array t)).before args s = true) : ∃ c, ArrOfT s c (.array t) ∧ va_RA s c (.array t) := by
  obtain ⟨comp, c, k, h1, h2, h3, h4⟩ := Cond.arrayOver_specA h
  exact ⟨c, zarr_of h2 h3, h4⟩
theorem zst_ar {s : State} {args : Array Value} (hts : ∀ w ∈ lw_tbl, w.before args s = true) : ∃ dA : Nat → ClassId, ∀ (k : Nat) (q : ClassId × FieldType), (zAt dA)[k]? = some q → ArrOfT s q.1 q.2 ∧ va_RA s q.1 q.2 := by
  have H : ∀ k : Nat, ∃ c : ClassId, ∀ q, (zAt (fun _ => c))[k]? = some q → ArrOfT s q.1 q.2 ∧ va_RA s q.1 q.2 := by
    intro k
    match k with
    | 0 => obtain ⟨c, h1, h2⟩ := zst_p (hts (.arrayClass .int) (lw_at lw_m1 138 rfl)); exact ⟨c, fun q hq => by cases hq; exact ⟨h1, h2⟩⟩
    | 1 => obtain ⟨c, h1, h2⟩ := zst_p (hts (.arrayClass .long) (lw_at lw_m1 139 rfl)); exact ⟨c, fun q hq => by cases hq; exact ⟨h1, h2⟩⟩
    | 2 => obtain ⟨c, h1, h2⟩ := zst_p (hts (.arrayClass .byte) (lw_at lw_m1 137 rfl)); exact ⟨c, fun q hq => by cases hq; exact ⟨h1, h2⟩⟩
    | 3 => obtain ⟨c, h1, h2⟩ := zst_o (hts (.arrayOver (.object "SafeBuckets$Where")) (lw_at lw_m1 65 rfl)); exact ⟨c, fun q hq => by cases hq; exact ⟨h1, h2⟩⟩
    | 4 => obtain ⟨c, h1, h2⟩ := zst_a (hts (.arrayOver (.array .long)) (lw_at lw_m1 67 rfl)); exact ⟨c, fun q hq => by cases hq; exact ⟨h1, h2⟩⟩
    | 5 => obtain ⟨c, h1, h2⟩ := zst_a (hts (.arrayOver (.array .int)) (lw_at lw_m1 69 rfl)); exact ⟨c, fun q hq => by cases hq; exact ⟨h1, h2⟩⟩
    | 6 => obtain ⟨c, h1, h2⟩ := zst_o (hts (.arrayOver (.object "SafeBuckets$Sheet")) (lw_at lw_m1 77 rfl)); exact ⟨c, fun q hq => by cases hq; exact ⟨h1, h2⟩⟩
    | 7 => obtain ⟨c, h1, h2⟩ := zst_o (hts (.arrayOver (.object "SafeBuckets$Column")) (lw_at lw_m1 84 rfl)); exact ⟨c, fun q hq => by cases hq; exact ⟨h1, h2⟩⟩
    | 8 => obtain ⟨c, h1, h2⟩ := zst_o (hts (.arrayOver (.object "SafeBuckets$Bucket")) (lw_at lw_m1 91 rfl)); exact ⟨c, fun q hq => by cases hq; exact ⟨h1, h2⟩⟩
    | 9 => obtain ⟨c, h1, h2⟩ := zst_o (hts (.arrayOver (.object "SafeBuckets$State")) (lw_at lw_m1 205 rfl)); exact ⟨c, fun q hq => by cases hq; exact ⟨h1, h2⟩⟩
    | 10 => obtain ⟨c, h1, h2⟩ := zst_o (hts (.arrayOver (.object "SafeBuckets$ToldTable")) (lw_at lw_m2 154 rfl)); exact ⟨c, fun q hq => by cases hq; exact ⟨h1, h2⟩⟩
    | 11 => obtain ⟨c, h1, h2⟩ := zst_o (hts (.arrayOver (.object "SafeBuckets$Line")) (lw_at lw_m2 156 rfl)); exact ⟨c, fun q hq => by cases hq; exact ⟨h1, h2⟩⟩
    | 12 => obtain ⟨c, h1, h2⟩ := zst_o (hts (.arrayOver (.object "SafeBuckets$Term")) (lw_at lw_m3 185 rfl)); exact ⟨c, fun q hq => by cases hq; exact ⟨h1, h2⟩⟩
    | 13 => obtain ⟨c, h1, h2⟩ := zst_o (hts (.arrayOver (.object "SafeBuckets$Unit")) (lw_at lw_m3 204 rfl)); exact ⟨c, fun q hq => by cases hq; exact ⟨h1, h2⟩⟩
    | n + 14 => exact ⟨0, fun q hq => by simp at hq⟩
  obtain ⟨dA, hd⟩ := Classical.axiomOfChoice H
  refine ⟨dA, fun k q hq => ?_⟩
  match k, hq with
  | 0, hq => cases hq; exact hd 0 _ rfl
  | 1, hq => cases hq; exact hd 1 _ rfl
  | 2, hq => cases hq; exact hd 2 _ rfl
  | 3, hq => cases hq; exact hd 3 _ rfl
  | 4, hq => cases hq; exact hd 4 _ rfl
  | 5, hq => cases hq; exact hd 5 _ rfl
  | 6, hq => cases hq; exact hd 6 _ rfl
  | 7, hq => cases hq; exact hd 7 _ rfl
  | 8, hq => cases hq; exact hd 8 _ rfl
  | 9, hq => cases hq; exact hd 9 _ rfl
  | 10, hq => cases hq; exact hd 10 _ rfl
  | 11, hq => cases hq; exact hd 11 _ rfl
  | 12, hq => cases hq; exact hd 12 _ rfl
  | 13, hq => cases hq; exact hd 13 _ rfl
  | n + 14, hq => simp at hq
theorem zst_in (ws : List Cond) (ps : List Nat) (hp : ws = ps.filterMap (fun i => lw_tbl[i]?)) : ∀ w ∈ ws, w ∈ lw_tbl := by
  intro w hw
  rw [hp] at hw
  obtain ⟨i, -, hi⟩ := List.mem_filterMap.mp hw
  exact List.mem_of_getElem? hi
theorem zst_nf : ∀ w ∈ zNf.map (fun q => Cond.fieldLinkNest q.1 q.2.1 q.2.2.1 q.2.2.2.1 q.2.2.2.2.1 q.2.2.2.2.2), w ∈ lw_tbl := zst_in _ [566, 525, 785, 782, 805, 802, 284, 299, 303, 521, 282, 277, 262, 258, 265, 305, 301, 274, 403, 298, 384, 382, 519, 524, 528, 513, 516, 801, 804, 2189, 786, 783, 264, 391, 520, 257, 400, 395, 261, 389, 522, 527, 515, 518, 281, 278, 2190, 276, 260, 256, 280] (by decide +kernel)
theorem zst_nm : ∀ w ∈ zNm.map (fun q => Cond.methodLinkNest q.1 q.2.1 q.2.2.1 q.2.2.2), w ∈ lw_tbl := zst_in _ [187, 319, 487, 211, 208, 214, 1235, 743, 719, 504, 775, 794, 751, 950, 884, 194, 758] (by decide +kernel)
theorem zst_nd : ∀ w ∈ zNd.map Cond.declares, w ∈ lw_tbl := zst_in _ [619, 1473, 1449, 1433, 1058, 1051, 1157, 1181, 732, 1542, 324, 326] (by decide +kernel)
theorem zst_nc : ∀ w ∈ zNc.map (fun q => Cond.castable q.1 q.2), w ∈ lw_tbl := zst_in _ [323, 2153, 2140, 554, 2157, 2141, 2163, 2142, 1541] (by decide +kernel)
theorem zst_ni : ∀ w ∈ zNi.flatMap (fun q => [Cond.declares q.2.1, .interfaceMethod q.2.1.cls q.2.1.cls q.2.1.name q.2.1.desc, .publicMethod q.2.2, .unhidden q.1 q.2.1.name q.2.1.desc, .castable q.1 q.2.1.cls]), w ∈ lw_tbl := zst_in _ [1473, 1472, 1482, 1481, 1442, 1449, 1448, 1458, 1457, 1442, 1433, 1432, 1445, 1444, 1442] (by decide +kernel)
theorem zst_no : ∀ w ∈ zNo.map (fun c => Cond.arrayOver (.object c)), w ∈ lw_tbl := zst_in _ [180, 192, 199, 206, 320, 509, 511, 780, 799] (by decide +kernel)
theorem zst_nw {s : State} {args : Array Value} (hts : ∀ w ∈ lw_tbl, w.before args s = true) : ZNw s := by
  refine ⟨fun q hq => va_Nw.of rfl (hts _ (zst_nf _ (List.mem_map.mpr ⟨q, hq, rfl⟩))), fun q hq => va_Nw.of rfl (hts _ (zst_nm _ (List.mem_map.mpr ⟨q, hq, rfl⟩))), fun q hq => va_Nw.of rfl (hts _ (zst_nd _ (List.mem_map.mpr ⟨q, hq, rfl⟩))), fun q hq => va_Nw.of rfl (hts _ (zst_nc _ (List.mem_map.mpr ⟨q, hq, rfl⟩))), fun q hq => ?_, fun c hc => va_AO.of (hts _ (zst_no _ (List.mem_map.mpr ⟨c, hc, rfl⟩))), hts (.arrayOver (.array .long)) q182, hts (.arrayOver (.array .int)) q184⟩
  have h : ∀ w ∈ [Cond.declares q.2.1, .interfaceMethod q.2.1.cls q.2.1.cls q.2.1.name q.2.1.desc, .publicMethod q.2.2, .unhidden q.1 q.2.1.name q.2.1.desc, .castable q.1 q.2.1.cls], w.before args s = true := fun w hw => hts w (zst_ni w (List.mem_flatMap.mpr ⟨q, hq, hw⟩))
  exact va_Fw.of (h _ (by simp)) (h _ (by simp)) (h _ (by simp)) (h _ (by simp)) (h _ (by simp))
theorem zst_sg {s : State} {args : Array Value} {A : Nat → Prop} (hA : ∀ a : Nat, a < s.heap.size → ¬ A a) {nm E : String} {i : Nat} (hl : (Cond.laysStatic "SafeBuckets$Sign" nm "LSafeBuckets$Sign;").before args s = true) (hini : (Cond.initialized "SafeBuckets$Sign").before args s = true)
    (hex : (Cond.exactly (.static "SafeBuckets$Sign" nm "LSafeBuckets$Sign;") E).before args s = true) (heq : (Cond.eq (.field (.static "SafeBuckets$Sign" nm "LSafeBuckets$Sign;") "SafeBuckets$Sign" "number" "I") (.int (nI i))).before args s = true) :
    ∃ a : Nat, va_Z "SafeBuckets$Sign" nm "LSafeBuckets$Sign;" (.ref a) A s s.heap ∧ va_O E a A s s.heap ∧ va_OF "SafeBuckets$Sign" "number" "I" (.int (nI i)) a A s s.heap := by
  obtain ⟨a, c, cell, k, q1, -⟩ := Cond.exactly_spec hex
  exact ⟨a, va_Zof hl hini q1 hA, va_Oof hex q1 hA, vk_OFof q1 (va_eqt heq) hA⟩
theorem zst_k {s : State} {b : Nat} (hts : ∀ w ∈ lw_tbl, w.before #[Value.ref b] s = true) (hgv : (Jvm.Cond.and given_1 narrow_1).before #[Value.ref b] s = true) : ∃ ad : Nat → Nat, ZCr ad s ∧ ZCh ad (fun q => s.heap.size ≤ q) s s.heap := by
  have hs := flat_of_before _ hgv
  have hA : ∀ a : Nat, a < s.heap.size → ¬ (fun q : Nat => s.heap.size ≤ q) a := fun a h => Nat.not_le.mpr h
  obtain ⟨a0, z0⟩ := zst_sg (i := 0) (E := "SafeBuckets$Sign$1") hA (hts _ q831) (hts _ (lw_all_tbl q144)) (hs _ (by decide +kernel)) (hs _ (by decide +kernel))
  obtain ⟨a1, z1⟩ := zst_sg (i := 1) (E := "SafeBuckets$Sign$2") hA (hts _ q833) (hts _ (lw_all_tbl q144)) (hs _ (by decide +kernel)) (hs _ (by decide +kernel))
  obtain ⟨a2, z2⟩ := zst_sg (i := 2) (E := "SafeBuckets$Sign$3") hA (hts _ q835) (hts _ (lw_all_tbl q144)) (hs _ (by decide +kernel)) (hs _ (by decide +kernel))
  obtain ⟨a3, z3⟩ := zst_sg (i := 3) (E := "SafeBuckets$Sign$4") hA (hts _ q837) (hts _ (lw_all_tbl q144)) (hs _ (by decide +kernel)) (hs _ (by decide +kernel))
  have hN : ∀ i : Nat, i < 3 → zLen.getD i 0 < 2 ^ 31 := by decide
  obtain ⟨adK, adV, hS, he⟩ := vk_Sof (args := #[Value.ref b]) (s := s) (N := 3) (A := fun q : Nat => s.heap.size ≤ q) (len := zLen) (byt := zByt) (tm := fun i => Term.string (["SafeBuckets$Rules", "SafeBuckets$ToldTable", "SafeBuckets$Line"].getD i "") 9) hN
    (fun i hi => match i, hi with | 0, _ => hs _ (by decide +kernel) | 1, _ => hs _ (by decide +kernel) | 2, _ => hs _ (by decide +kernel))
    (fun i hi => match i, hi with | 0, _ => hs _ (by decide +kernel) | 1, _ => hs _ (by decide +kernel) | 2, _ => hs _ (by decide +kernel))
    (fun i hi => match i, hi with | 0, _ => hs _ (by decide +kernel) | 1, _ => hs _ (by decide +kernel) | 2, _ => hs _ (by decide +kernel))
    (fun i hi => match i, hi with | 0, _ => hs _ (by decide +kernel) | 1, _ => hs _ (by decide +kernel) | 2, _ => hs _ (by decide +kernel))
    (fun i hi j hj => match i, hi, j, hj with | 0, _, 0, _ => hs _ (by decide +kernel) | 0, _, 1, _ => hs _ (by decide +kernel) | 0, _, 2, _ => hs _ (by decide +kernel) | 1, _, 0, _ => hs _ (by decide +kernel) | 2, _, 0, _ => hs _ (by decide +kernel) | 2, _, 1, _ => hs _ (by decide +kernel) | 2, _, 2, _ => hs _ (by decide +kernel) | 2, _, 3, _ => hs _ (by decide +kernel))
    (by
      intro i j hi hj hne
      have h1 : i = 0 ∨ i = 1 ∨ i = 2 := by omega
      have h2 : j = 0 ∨ j = 1 ∨ j = 2 := by omega
      rcases h1 with rfl | rfl | rfl <;> rcases h2 with rfl | rfl | rfl <;> first | exact absurd rfl hne | exact Or.inl (hs _ (by decide +kernel)) | exact Or.inr (hs _ (by decide +kernel))) hA
  refine ⟨fun i => if i < 4 then (if i = 0 then a0 else if i = 1 then a1 else if i = 2 then a2 else a3) else if i < 7 then adK (i - 4) else adV (i - 7), ⟨?_, ?_, ?_⟩, ⟨z0, z1, z2, z3⟩, ?_, ?_, ?_, ?_⟩
  · exact vk_R.of (hts (.stringRef "SafeBuckets$Rules" 9 "bdq") (lw_at lw_m3 33 rfl)) (he 0 (by decide))
  · exact vk_R.of (hts (.stringRef "SafeBuckets$ToldTable" 9 "v") (lw_at lw_m3 37 rfl)) (he 1 (by decide))
  · exact vk_R.of (hts (.stringRef "SafeBuckets$Line" 9 "tabn") (lw_at lw_m3 29 rfl)) (he 2 (by decide))
  · have e4 : ∀ i, i < 3 → (if 4 + i < 4 then (if 4 + i = 0 then a0 else if 4 + i = 1 then a1 else if 4 + i = 2 then a2 else a3) else if 4 + i < 7 then adK (4 + i - 4) else adV (4 + i - 7)) = adK i := by
      intro i hi
      rw [if_neg (by omega), if_pos (by omega), Nat.add_sub_cancel_left]
    have e7 : ∀ i, i < 3 → (if 7 + i < 4 then (if 7 + i = 0 then a0 else if 7 + i = 1 then a1 else if 7 + i = 2 then a2 else a3) else if 7 + i < 7 then adK (7 + i - 4) else adV (7 + i - 7)) = adV i := by
      intro i hi
      rw [if_neg (by omega), if_neg (by omega), Nat.add_sub_cancel_left]
    refine ⟨fun i hi => ?_, fun i j hi hj e => ?_⟩
    · simp only [e4 i hi, e7 i hi]
      exact hS.1 i hi
    · simp only [e4 i hi, e4 j hj] at e
      exact hS.2 i j hi hj e
  · exact va_Zof (hts _ q646) (hts _ (lw_all_tbl q135)) (va_eqt (hs _ (by decide +kernel))) hA
  · exact vx_Zqof (hts _ q346) (hts _ (lw_all_tbl q123)) (hs _ (by decide +kernel)) hA
  · exact vx_Zqof (hts _ q348) (hts _ (lw_all_tbl q123)) (hs _ (by decide +kernel)) hA
