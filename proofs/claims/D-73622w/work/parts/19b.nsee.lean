/-! throw new NoSuchElementException() -/
def zNS : String := "java/util/NoSuchElementException"
theorem zns_good : ∀ w ∈ (vx_at0 "SafeBuckets" 217 "java/util/NoSuchElementException" ["java/lang/RuntimeException", "java/lang/Exception"]).filter goodWord, w ∈ lw_all :=
  lw_in _ [123, 341, 350, 354, 357, 359, 342, 343, 177, 178, 344, 349, 355, 371, 331, 372, 333, 373, 335, 345, 347, 337, 1551, 1552, 1553, 1554, 1554, 1555, 1556, 1557, 1557, 1558, 1559, 342, 1550, 1540, 1544, 353, 1545, 1546, 1547, 1548, 340, 339, 1549] (by decide +kernel) (by decide +kernel)
theorem zns_ini : (Cond.initialized "java/util/NoSuchElementException") ∈ lw_all := lw_g (lw_at lw_m1 32 rfl) rfl
def zthN (Kx : Nat → ZM → Prop) : ZM → Prop := fun μ => 1 ≤ zC μ ∧ 6 ≤ zS μ ∧ ∀ a x, zX μ ≤ x → Kx a (zmk (zT μ) (zN μ) (zI μ) (zL μ) (zR μ) (zE μ) x (zC μ) (zS μ))
section ZNsee
variable {p : Program} {l : Launch} {e : Env} {R : Room} {s : State} {m : MethodId} {args : Array Value} {below : List Frame} {meth : Method} {c : Code} {nL : Nat} {D : ZD} {A : Nat → Prop} {n0 : Nat × Nat × Nat} {cc : ByteArray} {own nm : String} {ret : Option FieldType} {sz mc ms fr lo : Nat}
variable {pc : Nat} {L : List (Nat × Value)} {st : List Value}
theorem Z.thrN (F : ZF p R s m args meth c cc nL "SafeBuckets" nm ret D A true sz mc ms fr lo) (hl : l.stackTraces = false) {Kx : Nat → ZM → Prop} {Qc : Array Value → State → Outcome → State → Prop} (d0 : decode cc pc = .ok (.new 215, 3)) (d3 : decode cc (pc + 3) = .ok (.dup, 1)) (d4 : decode cc (pc + 4) = .ok (.invokespecial 217, 3)) (d7 : decode cc (pc + 7) = .ok (.athrow, 1)) (hout : ∀ x ∈ c.exceptionTable.toList, covers x (pc + 7) = false) (hR : 6 ≤ fr ∧ 89 ≤ lo) (h4 : zlw st) : ZW p l e R s m args below meth c (vx_MQ below Qc (ZXC D A true n0 sz "java/util/NoSuchElementException" Kx) args s mc ms A) nL D A true n0 (zthN Kx) pc L st := by
  intro μ H locs cells slots ls hI h hP
  obtain ⟨h1, h2, hP⟩ := hP
  have hB := hI.2.2
  unfold ZB at hB
  rw [if_pos rfl] at hB
  obtain ⟨b1, b2, b3, b4⟩ := hB
  have h9 : (st.map fun v => v.category).sum ≤ 8 := h4
  refine vx_throw0 F.hx F.hb hl (own := "SafeBuckets") (cls := "java/util/NoSuchElementException") (names := ["java/lang/RuntimeException", "java/lang/Exception"]) (ik := 215) (ic := 217) (A := A) F.hown (by decide +kernel) (by decide +kernel) (F.hts _ q1539) (F.hts _ zns_ini) ?_ (by decide +kernel) F.hS.2.2.2.2.2.2.1 F.hS.2.2.2.2.2.2.2 hI.2.1 (h.1.trans F.hml.symm) d0 d3 d4 d7 hout (by rw [F.hRf]; show 2 + 3 < _; omega) (by rw [F.hRl]; show _ + (13 * (2 + 1) + 42) ≤ _; omega) (by omega) (by omega) F.hlocks ?_ hI.2.1.2.2 (by rw [← F.hRc]; omega) (by rw [← F.hRs]; omega)
  · exact vx_hat (fun w hw => F.hts w (zns_good w hw)) (B := [.declares ⟨"java/lang/RuntimeException", "<init>", "()V"⟩, .declares ⟨"java/lang/Exception", "<init>", "()V"⟩, .declares ⟨"java/lang/Throwable", "<init>", "()V"⟩, .castable "java/util/NoSuchElementException" "java/util/NoSuchElementException"]) (by decide +kernel)
      (vx_c (va_Nw.use rfl (F.hS.2.1.2.2.1 _ (by decide +kernel))) (vx_c (va_Nw.use rfl (F.hS.2.1.2.2.1 _ (by decide +kernel))) (vx_c (va_Nw.use rfl (F.hS.2.1.2.2.1 _ (by decide +kernel))) (vx_c (va_Nw.use rfl (F.hS.2.1.2.2.2.1 ("java/util/NoSuchElementException", "java/util/NoSuchElementException") (by decide +kernel))) vx_n))))
  · intro q9 t ha hs hk
    have hS : va_S A s.heap t.heap locs := ⟨Nat.le_trans hI.2.1.1 hs, fun q g1 g2 => (hk q (Nat.lt_of_lt_of_le g1 hI.2.1.1)).trans (hI.2.1.2.1 q g1 g2), hI.2.1.2.2⟩
    refine ⟨zmk (zT μ) (zN μ) (zI μ) (zL μ) (zR μ) (zE μ) (t.heap.size + 1) (zC μ) (zS μ), trivial, ⟨rfl, hP _ _ (by omega), ⟨⟨fun a ha => ?_, hI.1.2⟩, ?_⟩⟩, hS.F rfl⟩
    · obtain ⟨n, g1, g2, g3⟩ := hI.1.1 a ha
      exact ⟨n, g1, g2, g3.kept (hk n g3.lt)⟩
    · rw [if_pos rfl]
      rfl
end ZNsee
