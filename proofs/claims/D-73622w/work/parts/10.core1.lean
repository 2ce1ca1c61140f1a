/-! MEMORY AS FUNCTIONS: references are numbers (0: null, n + 1: the cell at n); a tag says what stands at an address -/
abbrev ZM : Type := (Nat → Nat) × (Nat → Nat) × (Nat → Nat → Int32) × (Nat → Nat → Int64) × (Nat → Nat → Nat) × (Nat → Nat) × Nat × Nat × Nat
/-- the tags -/
def zT (μ : ZM) : Nat → Nat := μ.1
/-- an array's length -/
def zN (μ : ZM) : Nat → Nat := μ.2.1
def zI (μ : ZM) : Nat → Nat → Int32 := μ.2.2.1
def zL (μ : ZM) : Nat → Nat → Int64 := μ.2.2.2.1
def zR (μ : ZM) : Nat → Nat → Nat := μ.2.2.2.2.1
/-- the constant objects -/
def zE (μ : ZM) : Nat → Nat := μ.2.2.2.2.2.1
/-- the next address; cells and slots left -/
def zX (μ : ZM) : Nat := μ.2.2.2.2.2.2.1
def zC (μ : ZM) : Nat := μ.2.2.2.2.2.2.2.1
def zS (μ : ZM) : Nat := μ.2.2.2.2.2.2.2.2
def zmk (T N : Nat → Nat) (I : Nat → Nat → Int32) (L : Nat → Nat → Int64) (R : Nat → Nat → Nat) (E : Nat → Nat) (X C S : Nat) : ZM := (T, N, I, L, R, E, X, C, S)
def zu {α : Type} (f : Nat → Nat → α) (a i : Nat) (v : α) : Nat → Nat → α := fun b j => if b = a ∧ j = i then v else f b j
def zu1 {α : Type} (f : Nat → α) (a : Nat) (v : α) : Nat → α := fun b => if b = a then v else f b
def zsI (μ : ZM) (a i : Nat) (v : Int32) : ZM := zmk (zT μ) (zN μ) (zu (zI μ) a i v) (zL μ) (zR μ) (zE μ) (zX μ) (zC μ) (zS μ)
def zsL (μ : ZM) (a i : Nat) (v : Int64) : ZM := zmk (zT μ) (zN μ) (zI μ) (zu (zL μ) a i v) (zR μ) (zE μ) (zX μ) (zC μ) (zS μ)
def zsR (μ : ZM) (a i : Nat) (v : Nat) : ZM := zmk (zT μ) (zN μ) (zI μ) (zL μ) (zu (zR μ) a i v) (zE μ) (zX μ) (zC μ) (zS μ)
def zcs (μ : ZM) (k n : Nat) : ZM := zmk (zT μ) (zN μ) (zI μ) (zL μ) (zR μ) (zE μ) (zX μ) k n
/-- a new cell with tag t, length n, of sl slots -/
def znw (μ : ZM) (t n sl : Nat) : ZM := zmk (zu1 (zT μ) (zX μ) t) (zu1 (zN μ) (zX μ) n) (zu1 (zI μ) (zX μ) (fun _ => 0)) (zu1 (zL μ) (zX μ) (fun _ => 0)) (zu1 (zR μ) (zX μ) (fun _ => 0)) (zE μ) (zX μ + 1) (zC μ - 1) (zS μ - sl)
/-- an array's part copied -/
def zcp (μ : ZM) (a sp b dp n : Nat) : ZM := zmk (zT μ) (zN μ) (zu1 (zI μ) b (va_cpy (zI μ a) (zI μ b) sp dp n)) (zL μ) (zR μ) (zE μ) (zX μ) (zC μ) (zS μ)
section
variable {μ : ZM} {T N : Nat → Nat} {I : Nat → Nat → Int32} {L : Nat → Nat → Int64} {R : Nat → Nat → Nat} {E : Nat → Nat} {X C S a i j b k n t sl : Nat}
theorem zT_mk : zT (zmk T N I L R E X C S) = T := rfl
theorem zN_mk : zN (zmk T N I L R E X C S) = N := rfl
theorem zI_mk : zI (zmk T N I L R E X C S) = I := rfl
theorem zL_mk : zL (zmk T N I L R E X C S) = L := rfl
theorem zR_mk : zR (zmk T N I L R E X C S) = R := rfl
theorem zE_mk : zE (zmk T N I L R E X C S) = E := rfl
theorem zX_mk : zX (zmk T N I L R E X C S) = X := rfl
theorem zC_mk : zC (zmk T N I L R E X C S) = C := rfl
theorem zS_mk : zS (zmk T N I L R E X C S) = S := rfl
end
def zv : Nat → Value
  | 0 => .null
  | n + 1 => .ref n
def zo : Nat → Option Nat
  | 0 => none
  | n + 1 => some n
theorem zv_o (n : Nat) : va_rf (zo n) = zv n := by cases n <;> rfl
theorem zv_cat (n : Nat) : (zv n).category = 1 := by cases n <;> rfl
theorem zv_or (n : Nat) : zv n = .null ∨ ∃ a, zv n = .ref a := by
  cases n with
  | zero => exact Or.inl rfl
  | succ n => exact Or.inr ⟨n, rfl⟩
/-! what the computations are made of: a computation is told what to do with its answer, and says what must hold of the memory -/
def zif (c : Prop) [Decidable c] (P1 P2 : ZM → Prop) : ZM → Prop := fun μ => if c then P1 μ else P2 μ
def zjn {τ : Type} (J : τ) (B : τ → ZM → Prop) : ZM → Prop := B J
def zlet {α : Type} (x : α) (K : α → ZM → Prop) : ZM → Prop := K x
def zor (P1 P2 : ZM → Prop) : ZM → Prop := fun μ => P1 μ ∨ P2 μ
def zat (t b : Nat) (P : ZM → Prop) : ZM → Prop := fun μ => zT μ b = t ∧ P μ
def zis (e i : Nat) (P : ZM → Prop) : ZM → Prop := fun μ => e = zE μ i ∧ P μ
def znm {α : Type} (x : α) (P : α → ZM → Prop) : ZM → Prop := P x
def zne {α : Type} (y z : α) (P : ZM → Prop) : ZM → Prop := fun μ => ¬ y = z ∧ P μ
def zrz (v : Int32) (K : Int32 → ZM → Prop) : ZM → Prop := fun μ => (v = 0 ∨ v = 1) ∧ K v μ
def zgI (t a i : Nat) (K : Int32 → ZM → Prop) : ZM → Prop := fun μ => zT μ a = t ∧ K (zI μ a i) μ
def zgL (t a i : Nat) (K : Int64 → ZM → Prop) : ZM → Prop := fun μ => zT μ a = t ∧ K (zL μ a i) μ
def zgR (t a i : Nat) (K : Nat → ZM → Prop) : ZM → Prop := fun μ => zT μ a = t ∧ K (zR μ a i) μ
def zpI (t a i : Nat) (v : Int32) (P : ZM → Prop) : ZM → Prop := fun μ => zT μ a = t ∧ P (zsI μ a i v)
def zpZ (t a i : Nat) (v : Int32) (P : ZM → Prop) : ZM → Prop := fun μ => zT μ a = t ∧ (v = 0 ∨ v = 1) ∧ P (zsI μ a i v)
def zpL (t a i : Nat) (v : Int64) (P : ZM → Prop) : ZM → Prop := fun μ => zT μ a = t ∧ P (zsL μ a i v)
def zpR (t a i v : Nat) (P : ZM → Prop) : ZM → Prop := fun μ => zT μ a = t ∧ P (zsR μ a i v)
def zaI (t a : Nat) (j : Int32) (K : Int32 → ZM → Prop) : ZM → Prop := fun μ => zT μ a = t ∧ vp_in j (zN μ a) ∧ K (zI μ a j.toNatClampNeg) μ
def zaL (t a : Nat) (j : Int32) (K : Int64 → ZM → Prop) : ZM → Prop := fun μ => zT μ a = t ∧ vp_in j (zN μ a) ∧ K (zL μ a j.toNatClampNeg) μ
def zaR (t a : Nat) (j : Int32) (K : Nat → ZM → Prop) : ZM → Prop := fun μ => zT μ a = t ∧ vp_in j (zN μ a) ∧ K (zR μ a j.toNatClampNeg) μ
def zbI (t a : Nat) (j v : Int32) (P : ZM → Prop) : ZM → Prop := fun μ => zT μ a = t ∧ vp_in j (zN μ a) ∧ P (zsI μ a j.toNatClampNeg v)
def zbB (t a : Nat) (j v : Int32) (P : ZM → Prop) : ZM → Prop := fun μ => zT μ a = t ∧ vp_in j (zN μ a) ∧ P (zsI μ a j.toNatClampNeg v.toInt8.toInt32)
def zbL (t a : Nat) (j : Int32) (v : Int64) (P : ZM → Prop) : ZM → Prop := fun μ => zT μ a = t ∧ vp_in j (zN μ a) ∧ P (zsL μ a j.toNatClampNeg v)
def zbR (t u a : Nat) (j : Int32) (v : Nat) (P : ZM → Prop) : ZM → Prop := fun μ => zT μ a = t ∧ vp_in j (zN μ a) ∧ zT μ v = u ∧ P (zsR μ a j.toNatClampNeg v)
def zln (t a : Nat) (K : Int32 → ZM → Prop) : ZM → Prop := fun μ => zT μ a = t ∧ K (nI (zN μ a)) μ
def znO (t sl : Nat) (K : Nat → ZM → Prop) : ZM → Prop := fun μ => 1 ≤ zC μ ∧ sl ≤ zS μ ∧ K (zX μ) (znw μ t 0 sl)
def znA (t : Nat) (n : Int32) (K : Nat → ZM → Prop) : ZM → Prop := fun μ => ¬ n < 0 ∧ n.toNatClampNeg ≤ 65536 ∧ 1 ≤ zC μ ∧ n.toNatClampNeg ≤ zS μ ∧ K (zX μ) (znw μ t n.toNatClampNeg n.toNatClampNeg)
def zcy (a : Nat) (sp : Int32) (b : Nat) (dp n : Int32) (P : ZM → Prop) : ZM → Prop := fun μ => zT μ a = 50 ∧ zT μ b = 50 ∧ ¬ sp < 0 ∧ ¬ dp < 0 ∧ ¬ n < 0 ∧ sp.toNatClampNeg + n.toNatClampNeg ≤ zN μ a ∧ dp.toNatClampNeg + n.toNatClampNeg ≤ zN μ b ∧ P (zcp μ a sp.toNatClampNeg b dp.toNatClampNeg n.toNatClampNeg)
/-- a call that may make cells: at most k, of n slots -/
def zcl (k n : Nat) {α : Type} (f : (α → ZM → Prop) → ZM → Prop) (K : α → ZM → Prop) : ZM → Prop := fun μ => k ≤ zC μ ∧ n ≤ zS μ ∧ f (fun r μ' => K r (zcs μ' (zC μ - k) (zS μ - n))) (zcs μ k n)
def zclv (k n : Nat) (f : (ZM → Prop) → ZM → Prop) (P : ZM → Prop) : ZM → Prop := fun μ => k ≤ zC μ ∧ n ≤ zS μ ∧ f (fun μ' => P (zcs μ' (zC μ - k) (zS μ - n))) (zcs μ k n)
/-- the same, where it may throw -/
def zclx (k n : Nat) {α : Type} (f : (α → ZM → Prop) → (Nat → ZM → Prop) → ZM → Prop) (K : α → ZM → Prop) (Kx : Nat → ZM → Prop) : ZM → Prop := fun μ => k ≤ zC μ ∧ n ≤ zS μ ∧ f (fun r μ' => K r (zcs μ' (zC μ - k) (zS μ - n))) (fun r μ' => Kx r (zcs μ' (zC μ - k) (zS μ - n))) (zcs μ k n)
def zclvx (k n : Nat) (f : (ZM → Prop) → (Nat → ZM → Prop) → ZM → Prop) (P : ZM → Prop) (Kx : Nat → ZM → Prop) : ZM → Prop := fun μ => k ≤ zC μ ∧ n ≤ zS μ ∧ f (fun μ' => P (zcs μ' (zC μ - k) (zS μ - n))) (fun r μ' => Kx r (zcs μ' (zC μ - k) (zS μ - n))) (zcs μ k n)
/-- a table of branches -/
def zsw (x : Int32) (lo : Int) (Ps : List (ZM → Prop)) (d : ZM → Prop) : ZM → Prop := fun μ => if x.toInt < lo then d μ else (Ps.getD (x.toInt - lo).toNat d) μ
def zlp1 {α0 : Type} (b : (α0 → ZM → Prop) → α0 → ZM → Prop) : Nat → α0 → ZM → Prop
  | 0 => fun _ _ => False
  | n + 1 => b (zlp1 b n)
def zw1 {α0 : Type} (b : (α0 → ZM → Prop) → α0 → ZM → Prop) : α0 → ZM → Prop := fun x0 μ => ∃ n, zlp1 b n x0 μ
def zlp2 {α0 α1 : Type} (b : (α0 → α1 → ZM → Prop) → α0 → α1 → ZM → Prop) : Nat → α0 → α1 → ZM → Prop
  | 0 => fun _ _ _ => False
  | n + 1 => b (zlp2 b n)
def zw2 {α0 α1 : Type} (b : (α0 → α1 → ZM → Prop) → α0 → α1 → ZM → Prop) : α0 → α1 → ZM → Prop := fun x0 x1 μ => ∃ n, zlp2 b n x0 x1 μ
def zlp3 {α0 α1 α2 : Type} (b : (α0 → α1 → α2 → ZM → Prop) → α0 → α1 → α2 → ZM → Prop) : Nat → α0 → α1 → α2 → ZM → Prop
  | 0 => fun _ _ _ _ => False
  | n + 1 => b (zlp3 b n)
def zw3 {α0 α1 α2 : Type} (b : (α0 → α1 → α2 → ZM → Prop) → α0 → α1 → α2 → ZM → Prop) : α0 → α1 → α2 → ZM → Prop := fun x0 x1 x2 μ => ∃ n, zlp3 b n x0 x1 x2 μ
def zlp4 {α0 α1 α2 α3 : Type} (b : (α0 → α1 → α2 → α3 → ZM → Prop) → α0 → α1 → α2 → α3 → ZM → Prop) : Nat → α0 → α1 → α2 → α3 → ZM → Prop
  | 0 => fun _ _ _ _ _ => False
  | n + 1 => b (zlp4 b n)
def zw4 {α0 α1 α2 α3 : Type} (b : (α0 → α1 → α2 → α3 → ZM → Prop) → α0 → α1 → α2 → α3 → ZM → Prop) : α0 → α1 → α2 → α3 → ZM → Prop := fun x0 x1 x2 x3 μ => ∃ n, zlp4 b n x0 x1 x2 x3 μ
def zlp5 {α0 α1 α2 α3 α4 : Type} (b : (α0 → α1 → α2 → α3 → α4 → ZM → Prop) → α0 → α1 → α2 → α3 → α4 → ZM → Prop) : Nat → α0 → α1 → α2 → α3 → α4 → ZM → Prop
  | 0 => fun _ _ _ _ _ _ => False
  | n + 1 => b (zlp5 b n)
def zw5 {α0 α1 α2 α3 α4 : Type} (b : (α0 → α1 → α2 → α3 → α4 → ZM → Prop) → α0 → α1 → α2 → α3 → α4 → ZM → Prop) : α0 → α1 → α2 → α3 → α4 → ZM → Prop := fun x0 x1 x2 x3 x4 μ => ∃ n, zlp5 b n x0 x1 x2 x3 x4 μ
def zlp6 {α0 α1 α2 α3 α4 α5 : Type} (b : (α0 → α1 → α2 → α3 → α4 → α5 → ZM → Prop) → α0 → α1 → α2 → α3 → α4 → α5 → ZM → Prop) : Nat → α0 → α1 → α2 → α3 → α4 → α5 → ZM → Prop
  | 0 => fun _ _ _ _ _ _ _ => False
  | n + 1 => b (zlp6 b n)
def zw6 {α0 α1 α2 α3 α4 α5 : Type} (b : (α0 → α1 → α2 → α3 → α4 → α5 → ZM → Prop) → α0 → α1 → α2 → α3 → α4 → α5 → ZM → Prop) : α0 → α1 → α2 → α3 → α4 → α5 → ZM → Prop := fun x0 x1 x2 x3 x4 x5 μ => ∃ n, zlp6 b n x0 x1 x2 x3 x4 x5 μ
def zlp7 {α0 α1 α2 α3 α4 α5 α6 : Type} (b : (α0 → α1 → α2 → α3 → α4 → α5 → α6 → ZM → Prop) → α0 → α1 → α2 → α3 → α4 → α5 → α6 → ZM → Prop) : Nat → α0 → α1 → α2 → α3 → α4 → α5 → α6 → ZM → Prop
  | 0 => fun _ _ _ _ _ _ _ _ => False
  | n + 1 => b (zlp7 b n)
def zw7 {α0 α1 α2 α3 α4 α5 α6 : Type} (b : (α0 → α1 → α2 → α3 → α4 → α5 → α6 → ZM → Prop) → α0 → α1 → α2 → α3 → α4 → α5 → α6 → ZM → Prop) : α0 → α1 → α2 → α3 → α4 → α5 → α6 → ZM → Prop := fun x0 x1 x2 x3 x4 x5 x6 μ => ∃ n, zlp7 b n x0 x1 x2 x3 x4 x5 x6 μ
def zlp8 {α0 α1 α2 α3 α4 α5 α6 α7 : Type} (b : (α0 → α1 → α2 → α3 → α4 → α5 → α6 → α7 → ZM → Prop) → α0 → α1 → α2 → α3 → α4 → α5 → α6 → α7 → ZM → Prop) : Nat → α0 → α1 → α2 → α3 → α4 → α5 → α6 → α7 → ZM → Prop
  | 0 => fun _ _ _ _ _ _ _ _ _ => False
  | n + 1 => b (zlp8 b n)
def zw8 {α0 α1 α2 α3 α4 α5 α6 α7 : Type} (b : (α0 → α1 → α2 → α3 → α4 → α5 → α6 → α7 → ZM → Prop) → α0 → α1 → α2 → α3 → α4 → α5 → α6 → α7 → ZM → Prop) : α0 → α1 → α2 → α3 → α4 → α5 → α6 → α7 → ZM → Prop := fun x0 x1 x2 x3 x4 x5 x6 x7 μ => ∃ n, zlp8 b n x0 x1 x2 x3 x4 x5 x6 x7 μ
