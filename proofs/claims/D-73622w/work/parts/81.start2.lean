/-- the memory at the law's entry -/
def zM0 (ad : Nat → Nat) (x : Nat) : ZM := zmk (fun _ => 0) (fun _ => 0) (fun _ _ => 0) (fun _ _ => 0) (fun _ _ => 0) (fun i => ad i + 1) x 1200048 5501818
theorem zstart {p : Program} {e : Env} {s : State} {m : MethodId} {below : List Frame} {meth : Method} {c : Code} (l : Launch) (hflags : l.flags = flags0) {b L : Nat} {xs : Nat → Int32} (hf : ∀ ad x, 0 < x → f_L_law xs L zl1 (zM0 ad x)) (C0 : lw_At p s m meth c b L xs) : W p l e room_1 s m #[Value.ref b] below meth c s.heap [] 0 0 (lw_Z below #[Value.ref b] s) (entryFrame m ([Value.ref b] : List Value).toArray 7) := by
  obtain ⟨hx, hb, hr, hml, hown, hts, hX, hbl, hlocks, hgv, -⟩ := C0
  have htl : ∀ w ∈ lw_all, w.before #[Value.ref b] s = true := fun w h => hts w (lw_all_tbl h)
  obtain ⟨g, hg⟩ := zst_cl htl
  obtain ⟨dA, hd⟩ := zst_ar hts
  obtain ⟨ad, hcr, hch⟩ := zst_k hts hgv
  have hl : l.stackTraces = false := by
    unfold Launch.stackTraces
    rw [hflags]
    decide
  have F : ZF p room_1 s m #[Value.ref b] meth c cL_law 7 "SafeBucketsLaw" meth.name (some .boolean) ((g, dA, ad) : ZD) (fun q => s.heap.size ≤ q) true s.heap.size 1200048 5501818 8192 100000 :=
    ⟨hx, hb, hml, hown, htl, ⟨⟨hg, hd⟩, zst_nw hts, hcr, hch⟩, hlocks, hr, rfl, rfl, rfl, fun h => (Bool.noConfusion h), rfl, rfl⟩
  rw [lg_entry_eq]
  refine w_law (n0 := (0, 0, 0)) hl F ⟨hX, hbl⟩ (zM0 ad (s.heap.size + 1)) s.heap [] 0 0 _ ⟨⟨fun a h => absurd rfl h, rfl⟩, va_S.rf, ?_⟩ (lv_entry ([.ref b]) (n := 7) (Nat.le_of_ble_eq_true rfl)) (hf ad _ (Nat.succ_pos _))
  unfold ZB
  rw [if_pos rfl]
  exact ⟨rfl, fun q h => h, Nat.zero_add _, Nat.zero_add _⟩
