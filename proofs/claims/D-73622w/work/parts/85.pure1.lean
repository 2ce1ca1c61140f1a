/-! PLAIN LAWS: loops by a falling measure -/
theorem zw0_rule {b : (ZM → Prop) → ZM → Prop} (P : ZM → Prop) (m : ZM → Nat) (h : ∀ (r : ZM → Prop) (μ : ZM), P μ → (∀ (μ' : ZM), P μ' → m μ' < m μ → r μ') → b r μ) {μ : ZM} (hP : P μ) : zw0 b μ := by
  have key : ∀ n (μ : ZM), P μ → m μ < n → zlp0 b n μ := by
    intro n
    induction n with
    | zero => intro μ hP hm; exact absurd hm (Nat.not_lt_zero _)
    | succ n ih => intro μ hP hm; exact h (zlp0 b n) μ hP (fun μ' hP' hm' => ih μ' hP' (by omega))
  exact ⟨m μ + 1, key _ μ hP (Nat.lt_succ_self _)⟩
theorem zw1_rule {α0 : Type} {b : (α0 → ZM → Prop) → α0 → ZM → Prop} (P : α0 → ZM → Prop) (m : α0 → ZM → Nat) (h : ∀ (r : α0 → ZM → Prop) (x0 : α0) (μ : ZM), P x0 μ → (∀ (y0 : α0) (μ' : ZM), P y0 μ' → m y0 μ' < m x0 μ → r y0 μ') → b r x0 μ) {x0 : α0} {μ : ZM} (hP : P x0 μ) : zw1 b x0 μ := by
  have key : ∀ n (x0 : α0) (μ : ZM), P x0 μ → m x0 μ < n → zlp1 b n x0 μ := by
    intro n
    induction n with
    | zero => intro x0 μ hP hm; exact absurd hm (Nat.not_lt_zero _)
    | succ n ih => intro x0 μ hP hm; exact h (zlp1 b n) x0 μ hP (fun y0 μ' hP' hm' => ih y0 μ' hP' (by omega))
  exact ⟨m x0 μ + 1, key _ _ μ hP (Nat.lt_succ_self _)⟩
theorem zw2_rule {α0 α1 : Type} {b : (α0 → α1 → ZM → Prop) → α0 → α1 → ZM → Prop} (P : α0 → α1 → ZM → Prop) (m : α0 → α1 → ZM → Nat) (h : ∀ (r : α0 → α1 → ZM → Prop) (x0 : α0) (x1 : α1) (μ : ZM), P x0 x1 μ → (∀ (y0 : α0) (y1 : α1) (μ' : ZM), P y0 y1 μ' → m y0 y1 μ' < m x0 x1 μ → r y0 y1 μ') → b r x0 x1 μ) {x0 : α0} {x1 : α1} {μ : ZM} (hP : P x0 x1 μ) : zw2 b x0 x1 μ := by
  have key : ∀ n (x0 : α0) (x1 : α1) (μ : ZM), P x0 x1 μ → m x0 x1 μ < n → zlp2 b n x0 x1 μ := by
    intro n
    induction n with
    | zero => intro x0 x1 μ hP hm; exact absurd hm (Nat.not_lt_zero _)
    | succ n ih => intro x0 x1 μ hP hm; exact h (zlp2 b n) x0 x1 μ hP (fun y0 y1 μ' hP' hm' => ih y0 y1 μ' hP' (by omega))
  exact ⟨m x0 x1 μ + 1, key _ _ _ μ hP (Nat.lt_succ_self _)⟩
theorem zw3_rule {α0 α1 α2 : Type} {b : (α0 → α1 → α2 → ZM → Prop) → α0 → α1 → α2 → ZM → Prop} (P : α0 → α1 → α2 → ZM → Prop) (m : α0 → α1 → α2 → ZM → Nat) (h : ∀ (r : α0 → α1 → α2 → ZM → Prop) (x0 : α0) (x1 : α1) (x2 : α2) (μ : ZM), P x0 x1 x2 μ → (∀ (y0 : α0) (y1 : α1) (y2 : α2) (μ' : ZM), P y0 y1 y2 μ' → m y0 y1 y2 μ' < m x0 x1 x2 μ → r y0 y1 y2 μ') → b r x0 x1 x2 μ) {x0 : α0} {x1 : α1} {x2 : α2} {μ : ZM} (hP : P x0 x1 x2 μ) : zw3 b x0 x1 x2 μ := by
  have key : ∀ n (x0 : α0) (x1 : α1) (x2 : α2) (μ : ZM), P x0 x1 x2 μ → m x0 x1 x2 μ < n → zlp3 b n x0 x1 x2 μ := by
    intro n
    induction n with
    | zero => intro x0 x1 x2 μ hP hm; exact absurd hm (Nat.not_lt_zero _)
    | succ n ih => intro x0 x1 x2 μ hP hm; exact h (zlp3 b n) x0 x1 x2 μ hP (fun y0 y1 y2 μ' hP' hm' => ih y0 y1 y2 μ' hP' (by omega))
  exact ⟨m x0 x1 x2 μ + 1, key _ _ _ _ μ hP (Nat.lt_succ_self _)⟩
theorem zw4_rule {α0 α1 α2 α3 : Type} {b : (α0 → α1 → α2 → α3 → ZM → Prop) → α0 → α1 → α2 → α3 → ZM → Prop} (P : α0 → α1 → α2 → α3 → ZM → Prop) (m : α0 → α1 → α2 → α3 → ZM → Nat) (h : ∀ (r : α0 → α1 → α2 → α3 → ZM → Prop) (x0 : α0) (x1 : α1) (x2 : α2) (x3 : α3) (μ : ZM), P x0 x1 x2 x3 μ → (∀ (y0 : α0) (y1 : α1) (y2 : α2) (y3 : α3) (μ' : ZM), P y0 y1 y2 y3 μ' → m y0 y1 y2 y3 μ' < m x0 x1 x2 x3 μ → r y0 y1 y2 y3 μ') → b r x0 x1 x2 x3 μ) {x0 : α0} {x1 : α1} {x2 : α2} {x3 : α3} {μ : ZM} (hP : P x0 x1 x2 x3 μ) : zw4 b x0 x1 x2 x3 μ := by
  have key : ∀ n (x0 : α0) (x1 : α1) (x2 : α2) (x3 : α3) (μ : ZM), P x0 x1 x2 x3 μ → m x0 x1 x2 x3 μ < n → zlp4 b n x0 x1 x2 x3 μ := by
    intro n
    induction n with
    | zero => intro x0 x1 x2 x3 μ hP hm; exact absurd hm (Nat.not_lt_zero _)
    | succ n ih => intro x0 x1 x2 x3 μ hP hm; exact h (zlp4 b n) x0 x1 x2 x3 μ hP (fun y0 y1 y2 y3 μ' hP' hm' => ih y0 y1 y2 y3 μ' hP' (by omega))
  exact ⟨m x0 x1 x2 x3 μ + 1, key _ _ _ _ _ μ hP (Nat.lt_succ_self _)⟩
theorem zw5_rule {α0 α1 α2 α3 α4 : Type} {b : (α0 → α1 → α2 → α3 → α4 → ZM → Prop) → α0 → α1 → α2 → α3 → α4 → ZM → Prop} (P : α0 → α1 → α2 → α3 → α4 → ZM → Prop) (m : α0 → α1 → α2 → α3 → α4 → ZM → Nat) (h : ∀ (r : α0 → α1 → α2 → α3 → α4 → ZM → Prop) (x0 : α0) (x1 : α1) (x2 : α2) (x3 : α3) (x4 : α4) (μ : ZM), P x0 x1 x2 x3 x4 μ → (∀ (y0 : α0) (y1 : α1) (y2 : α2) (y3 : α3) (y4 : α4) (μ' : ZM), P y0 y1 y2 y3 y4 μ' → m y0 y1 y2 y3 y4 μ' < m x0 x1 x2 x3 x4 μ → r y0 y1 y2 y3 y4 μ') → b r x0 x1 x2 x3 x4 μ) {x0 : α0} {x1 : α1} {x2 : α2} {x3 : α3} {x4 : α4} {μ : ZM} (hP : P x0 x1 x2 x3 x4 μ) : zw5 b x0 x1 x2 x3 x4 μ := by
  have key : ∀ n (x0 : α0) (x1 : α1) (x2 : α2) (x3 : α3) (x4 : α4) (μ : ZM), P x0 x1 x2 x3 x4 μ → m x0 x1 x2 x3 x4 μ < n → zlp5 b n x0 x1 x2 x3 x4 μ := by
    intro n
    induction n with
    | zero => intro x0 x1 x2 x3 x4 μ hP hm; exact absurd hm (Nat.not_lt_zero _)
    | succ n ih => intro x0 x1 x2 x3 x4 μ hP hm; exact h (zlp5 b n) x0 x1 x2 x3 x4 μ hP (fun y0 y1 y2 y3 y4 μ' hP' hm' => ih y0 y1 y2 y3 y4 μ' hP' (by omega))
  exact ⟨m x0 x1 x2 x3 x4 μ + 1, key _ _ _ _ _ _ μ hP (Nat.lt_succ_self _)⟩
theorem zw6_rule {α0 α1 α2 α3 α4 α5 : Type} {b : (α0 → α1 → α2 → α3 → α4 → α5 → ZM → Prop) → α0 → α1 → α2 → α3 → α4 → α5 → ZM → Prop} (P : α0 → α1 → α2 → α3 → α4 → α5 → ZM → Prop) (m : α0 → α1 → α2 → α3 → α4 → α5 → ZM → Nat) (h : ∀ (r : α0 → α1 → α2 → α3 → α4 → α5 → ZM → Prop) (x0 : α0) (x1 : α1) (x2 : α2) (x3 : α3) (x4 : α4) (x5 : α5) (μ : ZM), P x0 x1 x2 x3 x4 x5 μ → (∀ (y0 : α0) (y1 : α1) (y2 : α2) (y3 : α3) (y4 : α4) (y5 : α5) (μ' : ZM), P y0 y1 y2 y3 y4 y5 μ' → m y0 y1 y2 y3 y4 y5 μ' < m x0 x1 x2 x3 x4 x5 μ → r y0 y1 y2 y3 y4 y5 μ') → b r x0 x1 x2 x3 x4 x5 μ) {x0 : α0} {x1 : α1} {x2 : α2} {x3 : α3} {x4 : α4} {x5 : α5} {μ : ZM} (hP : P x0 x1 x2 x3 x4 x5 μ) : zw6 b x0 x1 x2 x3 x4 x5 μ := by
  have key : ∀ n (x0 : α0) (x1 : α1) (x2 : α2) (x3 : α3) (x4 : α4) (x5 : α5) (μ : ZM), P x0 x1 x2 x3 x4 x5 μ → m x0 x1 x2 x3 x4 x5 μ < n → zlp6 b n x0 x1 x2 x3 x4 x5 μ := by
    intro n
    induction n with
    | zero => intro x0 x1 x2 x3 x4 x5 μ hP hm; exact absurd hm (Nat.not_lt_zero _)
    | succ n ih => intro x0 x1 x2 x3 x4 x5 μ hP hm; exact h (zlp6 b n) x0 x1 x2 x3 x4 x5 μ hP (fun y0 y1 y2 y3 y4 y5 μ' hP' hm' => ih y0 y1 y2 y3 y4 y5 μ' hP' (by omega))
  exact ⟨m x0 x1 x2 x3 x4 x5 μ + 1, key _ _ _ _ _ _ _ μ hP (Nat.lt_succ_self _)⟩
theorem zw7_rule {α0 α1 α2 α3 α4 α5 α6 : Type} {b : (α0 → α1 → α2 → α3 → α4 → α5 → α6 → ZM → Prop) → α0 → α1 → α2 → α3 → α4 → α5 → α6 → ZM → Prop} (P : α0 → α1 → α2 → α3 → α4 → α5 → α6 → ZM → Prop) (m : α0 → α1 → α2 → α3 → α4 → α5 → α6 → ZM → Nat) (h : ∀ (r : α0 → α1 → α2 → α3 → α4 → α5 → α6 → ZM → Prop) (x0 : α0) (x1 : α1) (x2 : α2) (x3 : α3) (x4 : α4) (x5 : α5) (x6 : α6) (μ : ZM), P x0 x1 x2 x3 x4 x5 x6 μ → (∀ (y0 : α0) (y1 : α1) (y2 : α2) (y3 : α3) (y4 : α4) (y5 : α5) (y6 : α6) (μ' : ZM), P y0 y1 y2 y3 y4 y5 y6 μ' → m y0 y1 y2 y3 y4 y5 y6 μ' < m x0 x1 x2 x3 x4 x5 x6 μ → r y0 y1 y2 y3 y4 y5 y6 μ') → b r x0 x1 x2 x3 x4 x5 x6 μ) {x0 : α0} {x1 : α1} {x2 : α2} {x3 : α3} {x4 : α4} {x5 : α5} {x6 : α6} {μ : ZM} (hP : P x0 x1 x2 x3 x4 x5 x6 μ) : zw7 b x0 x1 x2 x3 x4 x5 x6 μ := by
  have key : ∀ n (x0 : α0) (x1 : α1) (x2 : α2) (x3 : α3) (x4 : α4) (x5 : α5) (x6 : α6) (μ : ZM), P x0 x1 x2 x3 x4 x5 x6 μ → m x0 x1 x2 x3 x4 x5 x6 μ < n → zlp7 b n x0 x1 x2 x3 x4 x5 x6 μ := by
    intro n
    induction n with
    | zero => intro x0 x1 x2 x3 x4 x5 x6 μ hP hm; exact absurd hm (Nat.not_lt_zero _)
    | succ n ih => intro x0 x1 x2 x3 x4 x5 x6 μ hP hm; exact h (zlp7 b n) x0 x1 x2 x3 x4 x5 x6 μ hP (fun y0 y1 y2 y3 y4 y5 y6 μ' hP' hm' => ih y0 y1 y2 y3 y4 y5 y6 μ' hP' (by omega))
  exact ⟨m x0 x1 x2 x3 x4 x5 x6 μ + 1, key _ _ _ _ _ _ _ _ μ hP (Nat.lt_succ_self _)⟩
theorem zw8_rule {α0 α1 α2 α3 α4 α5 α6 α7 : Type} {b : (α0 → α1 → α2 → α3 → α4 → α5 → α6 → α7 → ZM → Prop) → α0 → α1 → α2 → α3 → α4 → α5 → α6 → α7 → ZM → Prop} (P : α0 → α1 → α2 → α3 → α4 → α5 → α6 → α7 → ZM → Prop) (m : α0 → α1 → α2 → α3 → α4 → α5 → α6 → α7 → ZM → Nat) (h : ∀ (r : α0 → α1 → α2 → α3 → α4 → α5 → α6 → α7 → ZM → Prop) (x0 : α0) (x1 : α1) (x2 : α2) (x3 : α3) (x4 : α4) (x5 : α5) (x6 : α6) (x7 : α7) (μ : ZM), P x0 x1 x2 x3 x4 x5 x6 x7 μ → (∀ (y0 : α0) (y1 : α1) (y2 : α2) (y3 : α3) (y4 : α4) (y5 : α5) (y6 : α6) (y7 : α7) (μ' : ZM), P y0 y1 y2 y3 y4 y5 y6 y7 μ' → m y0 y1 y2 y3 y4 y5 y6 y7 μ' < m x0 x1 x2 x3 x4 x5 x6 x7 μ → r y0 y1 y2 y3 y4 y5 y6 y7 μ') → b r x0 x1 x2 x3 x4 x5 x6 x7 μ) {x0 : α0} {x1 : α1} {x2 : α2} {x3 : α3} {x4 : α4} {x5 : α5} {x6 : α6} {x7 : α7} {μ : ZM} (hP : P x0 x1 x2 x3 x4 x5 x6 x7 μ) : zw8 b x0 x1 x2 x3 x4 x5 x6 x7 μ := by
  have key : ∀ n (x0 : α0) (x1 : α1) (x2 : α2) (x3 : α3) (x4 : α4) (x5 : α5) (x6 : α6) (x7 : α7) (μ : ZM), P x0 x1 x2 x3 x4 x5 x6 x7 μ → m x0 x1 x2 x3 x4 x5 x6 x7 μ < n → zlp8 b n x0 x1 x2 x3 x4 x5 x6 x7 μ := by
    intro n
    induction n with
    | zero => intro x0 x1 x2 x3 x4 x5 x6 x7 μ hP hm; exact absurd hm (Nat.not_lt_zero _)
    | succ n ih => intro x0 x1 x2 x3 x4 x5 x6 x7 μ hP hm; exact h (zlp8 b n) x0 x1 x2 x3 x4 x5 x6 x7 μ hP (fun y0 y1 y2 y3 y4 y5 y6 y7 μ' hP' hm' => ih y0 y1 y2 y3 y4 y5 y6 y7 μ' hP' (by omega))
  exact ⟨m x0 x1 x2 x3 x4 x5 x6 x7 μ + 1, key _ _ _ _ _ _ _ _ _ μ hP (Nat.lt_succ_self _)⟩
