/-! MORE COMPUTATIONS AND ROWS -/
def zno : ZM → Prop := fun _ => False
def zgE (i : Nat) (K : Nat → ZM → Prop) : ZM → Prop := fun μ => K (zE μ i) μ
def zall (K : Nat → ZM → Prop) : ZM → Prop := fun μ => ∀ u, K u μ
/-- indexOf in a constant text -/
def zixf : List Int32 → Int32 → Nat → Int32
  | [], _, _ => -1
  | b :: l, c, n => if b = c then nI n else zixf l c (n + 1)
def zix (s : Nat) (c : Int32) (K : Int32 → ZM → Prop) : ZM → Prop := fun μ => (s = zE μ 4 ∧ K (zixf [98, 100, 113] c 0) μ) ∨ (s = zE μ 5 ∧ K (zixf [118] c 0) μ) ∨ (s = zE μ 6 ∧ K (zixf [116, 97, 98, 110] c 0) μ)
/-- rows of an array of arrays, all new -/
def zmg (μ : ZM) (to ti n k : Nat) : ZM :=
  zmk (fun b => if b = zX μ then to else if zX μ < b ∧ b ≤ zX μ + n then ti else zT μ b) (fun b => if b = zX μ then n else if zX μ < b ∧ b ≤ zX μ + n then k else zN μ b)
    (fun b => if zX μ ≤ b ∧ b ≤ zX μ + n then fun _ => 0 else zI μ b) (fun b => if zX μ ≤ b ∧ b ≤ zX μ + n then fun _ => 0 else zL μ b)
    (fun b => if b = zX μ then (fun j => if j < n then zX μ + 1 + j else 0) else if zX μ < b ∧ b ≤ zX μ + n then fun _ => 0 else zR μ b) (zE μ) (zX μ + 1 + n) (zC μ - (1 + n)) (zS μ - (n + n * k))
def zgr (to ti : Nat) (n k : Int32) (K : Nat → ZM → Prop) : ZM → Prop := fun μ => ¬ n < 0 ∧ ¬ k < 0 ∧ n.toNatClampNeg ≤ 65536 ∧ k.toNatClampNeg ≤ 65536 ∧ 1 + n.toNatClampNeg ≤ zC μ ∧ n.toNatClampNeg + n.toNatClampNeg * k.toNatClampNeg ≤ zS μ ∧ K (zX μ) (zmg μ to ti n.toNatClampNeg k.toNatClampNeg)
/-- what may throw, the catcher first -/
def zclx' (k n : Nat) {α : Type} (f : (α → ZM → Prop) → (Nat → ZM → Prop) → ZM → Prop) (Kx : Nat → ZM → Prop) (K : α → ZM → Prop) : ZM → Prop := zclx k n f K Kx
def zclvx' (k n : Nat) (f : (ZM → Prop) → (Nat → ZM → Prop) → ZM → Prop) (Kx : Nat → ZM → Prop) (P : ZM → Prop) : ZM → Prop := zclvx k n f P Kx
def zlp0 (b : (ZM → Prop) → ZM → Prop) : Nat → ZM → Prop
  | 0 => fun _ => False
  | n + 1 => b (zlp0 b n)
def zw0 (b : (ZM → Prop) → ZM → Prop) : ZM → Prop := fun μ => ∃ n, zlp0 b n μ
def zthr (t z : Nat) (Kx : Nat → ZM → Prop) : ZM → Prop := zat t z (Kx z)
section ZMore
variable {p : Program} {l : Launch} {e : Env} {R : Room} {s : State} {m : MethodId} {args : Array Value} {below : List Frame} {meth : Method} {c : Code} {Q : State → Prop} {nL : Nat} {D : ZD} {A : Nat → Prop} {al : Bool} {n0 : Nat × Nat × Nat} {cc : ByteArray} {own nm : String} {ret : Option FieldType} {sz mc ms fr lo : Nat}
variable {P : ZM → Prop} {pc i : Nat} {L : List (Nat × Value)} {st st0 : List Value} {v x y : Int32} {w a b : Int64} {H H1 : Heap} {locs : List Loc} {cells slots : Nat} {ls : Array Slot} {μ μ' : ZM}
theorem Z.no : ZW p l e R s m args below meth c Q nL D A al n0 zno pc L st := fun μ H locs cells slots ls hI h hP => hP.elim
theorem Z.at {t z : Nat} (k : ZW p l e R s m args below meth c Q nL D A al n0 P pc L st) : ZW p l e R s m args below meth c Q nL D A al n0 (zat t z P) pc L st := fun μ H locs cells slots ls hI h hP => k μ H locs cells slots ls hI h hP.2
theorem Z.w0 {b : (ZM → Prop) → ZM → Prop} {Lf : List (Nat × Value)} {sf : List Value} (hb : ∀ r : ZM → Prop, (ZW p l e R s m args below meth c Q nL D A al n0 r pc Lf sf) → ZW p l e R s m args below meth c Q nL D A al n0 (b r) pc Lf sf) : ZW p l e R s m args below meth c Q nL D A al n0 (zw0 b) pc Lf sf := by
  have key : ∀ n, ZW p l e R s m args below meth c Q nL D A al n0 (zlp0 b n) pc Lf sf := by
    intro n
    induction n with
    | zero => intro μ H locs cells slots ls hI h hP; exact hP.elim
    | succ n ih => exact hb (zlp0 b n) ih
  intro μ H locs cells slots ls hI h hP
  obtain ⟨n, hn⟩ := hP
  exact key n μ H locs cells slots ls hI h hn
theorem Z.jn0 {J : ZM → Prop} {B : (ZM → Prop) → ZM → Prop} (Lf : List (Nat × Value)) (sf : List Value) (pcJ : Nat) (h1 : ZW p l e R s m args below meth c Q nL D A al n0 J pcJ Lf sf) (h2 : ∀ j : ZM → Prop, (ZW p l e R s m args below meth c Q nL D A al n0 j pcJ Lf sf) → ZW p l e R s m args below meth c Q nL D A al n0 (B j) pc L st) : ZW p l e R s m args below meth c Q nL D A al n0 (zjn J B) pc L st := h2 J h1
theorem Z.jn1 {α0 : Type} {J : α0 → ZM → Prop} {B : (α0 → ZM → Prop) → ZM → Prop} (Lf : α0 → List (Nat × Value)) (sf : α0 → List Value) (pcJ : Nat) (h1 : ∀ x0, ZW p l e R s m args below meth c Q nL D A al n0 (J x0) pcJ (Lf x0) (sf x0)) (h2 : ∀ j : α0 → ZM → Prop, (∀ x0, ZW p l e R s m args below meth c Q nL D A al n0 (j x0) pcJ (Lf x0) (sf x0)) → ZW p l e R s m args below meth c Q nL D A al n0 (B j) pc L st) : ZW p l e R s m args below meth c Q nL D A al n0 (zjn J B) pc L st := h2 J h1
theorem Z.jn2 {α0 α1 : Type} {J : α0 → α1 → ZM → Prop} {B : (α0 → α1 → ZM → Prop) → ZM → Prop} (Lf : α0 → α1 → List (Nat × Value)) (sf : α0 → α1 → List Value) (pcJ : Nat) (h1 : ∀ x0 x1, ZW p l e R s m args below meth c Q nL D A al n0 (J x0 x1) pcJ (Lf x0 x1) (sf x0 x1)) (h2 : ∀ j : α0 → α1 → ZM → Prop, (∀ x0 x1, ZW p l e R s m args below meth c Q nL D A al n0 (j x0 x1) pcJ (Lf x0 x1) (sf x0 x1)) → ZW p l e R s m args below meth c Q nL D A al n0 (B j) pc L st) : ZW p l e R s m args below meth c Q nL D A al n0 (zjn J B) pc L st := h2 J h1
theorem Z.jn3 {α0 α1 α2 : Type} {J : α0 → α1 → α2 → ZM → Prop} {B : (α0 → α1 → α2 → ZM → Prop) → ZM → Prop} (Lf : α0 → α1 → α2 → List (Nat × Value)) (sf : α0 → α1 → α2 → List Value) (pcJ : Nat) (h1 : ∀ x0 x1 x2, ZW p l e R s m args below meth c Q nL D A al n0 (J x0 x1 x2) pcJ (Lf x0 x1 x2) (sf x0 x1 x2)) (h2 : ∀ j : α0 → α1 → α2 → ZM → Prop, (∀ x0 x1 x2, ZW p l e R s m args below meth c Q nL D A al n0 (j x0 x1 x2) pcJ (Lf x0 x1 x2) (sf x0 x1 x2)) → ZW p l e R s m args below meth c Q nL D A al n0 (B j) pc L st) : ZW p l e R s m args below meth c Q nL D A al n0 (zjn J B) pc L st := h2 J h1
theorem Z.jn4 {α0 α1 α2 α3 : Type} {J : α0 → α1 → α2 → α3 → ZM → Prop} {B : (α0 → α1 → α2 → α3 → ZM → Prop) → ZM → Prop} (Lf : α0 → α1 → α2 → α3 → List (Nat × Value)) (sf : α0 → α1 → α2 → α3 → List Value) (pcJ : Nat) (h1 : ∀ x0 x1 x2 x3, ZW p l e R s m args below meth c Q nL D A al n0 (J x0 x1 x2 x3) pcJ (Lf x0 x1 x2 x3) (sf x0 x1 x2 x3)) (h2 : ∀ j : α0 → α1 → α2 → α3 → ZM → Prop, (∀ x0 x1 x2 x3, ZW p l e R s m args below meth c Q nL D A al n0 (j x0 x1 x2 x3) pcJ (Lf x0 x1 x2 x3) (sf x0 x1 x2 x3)) → ZW p l e R s m args below meth c Q nL D A al n0 (B j) pc L st) : ZW p l e R s m args below meth c Q nL D A al n0 (zjn J B) pc L st := h2 J h1
theorem Z.jn5 {α0 α1 α2 α3 α4 : Type} {J : α0 → α1 → α2 → α3 → α4 → ZM → Prop} {B : (α0 → α1 → α2 → α3 → α4 → ZM → Prop) → ZM → Prop} (Lf : α0 → α1 → α2 → α3 → α4 → List (Nat × Value)) (sf : α0 → α1 → α2 → α3 → α4 → List Value) (pcJ : Nat) (h1 : ∀ x0 x1 x2 x3 x4, ZW p l e R s m args below meth c Q nL D A al n0 (J x0 x1 x2 x3 x4) pcJ (Lf x0 x1 x2 x3 x4) (sf x0 x1 x2 x3 x4)) (h2 : ∀ j : α0 → α1 → α2 → α3 → α4 → ZM → Prop, (∀ x0 x1 x2 x3 x4, ZW p l e R s m args below meth c Q nL D A al n0 (j x0 x1 x2 x3 x4) pcJ (Lf x0 x1 x2 x3 x4) (sf x0 x1 x2 x3 x4)) → ZW p l e R s m args below meth c Q nL D A al n0 (B j) pc L st) : ZW p l e R s m args below meth c Q nL D A al n0 (zjn J B) pc L st := h2 J h1
theorem Z.jn6 {α0 α1 α2 α3 α4 α5 : Type} {J : α0 → α1 → α2 → α3 → α4 → α5 → ZM → Prop} {B : (α0 → α1 → α2 → α3 → α4 → α5 → ZM → Prop) → ZM → Prop} (Lf : α0 → α1 → α2 → α3 → α4 → α5 → List (Nat × Value)) (sf : α0 → α1 → α2 → α3 → α4 → α5 → List Value) (pcJ : Nat) (h1 : ∀ x0 x1 x2 x3 x4 x5, ZW p l e R s m args below meth c Q nL D A al n0 (J x0 x1 x2 x3 x4 x5) pcJ (Lf x0 x1 x2 x3 x4 x5) (sf x0 x1 x2 x3 x4 x5)) (h2 : ∀ j : α0 → α1 → α2 → α3 → α4 → α5 → ZM → Prop, (∀ x0 x1 x2 x3 x4 x5, ZW p l e R s m args below meth c Q nL D A al n0 (j x0 x1 x2 x3 x4 x5) pcJ (Lf x0 x1 x2 x3 x4 x5) (sf x0 x1 x2 x3 x4 x5)) → ZW p l e R s m args below meth c Q nL D A al n0 (B j) pc L st) : ZW p l e R s m args below meth c Q nL D A al n0 (zjn J B) pc L st := h2 J h1
theorem Z.jn7 {α0 α1 α2 α3 α4 α5 α6 : Type} {J : α0 → α1 → α2 → α3 → α4 → α5 → α6 → ZM → Prop} {B : (α0 → α1 → α2 → α3 → α4 → α5 → α6 → ZM → Prop) → ZM → Prop} (Lf : α0 → α1 → α2 → α3 → α4 → α5 → α6 → List (Nat × Value)) (sf : α0 → α1 → α2 → α3 → α4 → α5 → α6 → List Value) (pcJ : Nat) (h1 : ∀ x0 x1 x2 x3 x4 x5 x6, ZW p l e R s m args below meth c Q nL D A al n0 (J x0 x1 x2 x3 x4 x5 x6) pcJ (Lf x0 x1 x2 x3 x4 x5 x6) (sf x0 x1 x2 x3 x4 x5 x6)) (h2 : ∀ j : α0 → α1 → α2 → α3 → α4 → α5 → α6 → ZM → Prop, (∀ x0 x1 x2 x3 x4 x5 x6, ZW p l e R s m args below meth c Q nL D A al n0 (j x0 x1 x2 x3 x4 x5 x6) pcJ (Lf x0 x1 x2 x3 x4 x5 x6) (sf x0 x1 x2 x3 x4 x5 x6)) → ZW p l e R s m args below meth c Q nL D A al n0 (B j) pc L st) : ZW p l e R s m args below meth c Q nL D A al n0 (zjn J B) pc L st := h2 J h1
theorem Z.jn8 {α0 α1 α2 α3 α4 α5 α6 α7 : Type} {J : α0 → α1 → α2 → α3 → α4 → α5 → α6 → α7 → ZM → Prop} {B : (α0 → α1 → α2 → α3 → α4 → α5 → α6 → α7 → ZM → Prop) → ZM → Prop} (Lf : α0 → α1 → α2 → α3 → α4 → α5 → α6 → α7 → List (Nat × Value)) (sf : α0 → α1 → α2 → α3 → α4 → α5 → α6 → α7 → List Value) (pcJ : Nat) (h1 : ∀ x0 x1 x2 x3 x4 x5 x6 x7, ZW p l e R s m args below meth c Q nL D A al n0 (J x0 x1 x2 x3 x4 x5 x6 x7) pcJ (Lf x0 x1 x2 x3 x4 x5 x6 x7) (sf x0 x1 x2 x3 x4 x5 x6 x7)) (h2 : ∀ j : α0 → α1 → α2 → α3 → α4 → α5 → α6 → α7 → ZM → Prop, (∀ x0 x1 x2 x3 x4 x5 x6 x7, ZW p l e R s m args below meth c Q nL D A al n0 (j x0 x1 x2 x3 x4 x5 x6 x7) pcJ (Lf x0 x1 x2 x3 x4 x5 x6 x7) (sf x0 x1 x2 x3 x4 x5 x6 x7)) → ZW p l e R s m args below meth c Q nL D A al n0 (B j) pc L st) : ZW p l e R s m args below meth c Q nL D A al n0 (zjn J B) pc L st := h2 J h1
theorem Z.jn9 {α0 α1 α2 α3 α4 α5 α6 α7 α8 : Type} {J : α0 → α1 → α2 → α3 → α4 → α5 → α6 → α7 → α8 → ZM → Prop} {B : (α0 → α1 → α2 → α3 → α4 → α5 → α6 → α7 → α8 → ZM → Prop) → ZM → Prop} (Lf : α0 → α1 → α2 → α3 → α4 → α5 → α6 → α7 → α8 → List (Nat × Value)) (sf : α0 → α1 → α2 → α3 → α4 → α5 → α6 → α7 → α8 → List Value) (pcJ : Nat) (h1 : ∀ x0 x1 x2 x3 x4 x5 x6 x7 x8, ZW p l e R s m args below meth c Q nL D A al n0 (J x0 x1 x2 x3 x4 x5 x6 x7 x8) pcJ (Lf x0 x1 x2 x3 x4 x5 x6 x7 x8) (sf x0 x1 x2 x3 x4 x5 x6 x7 x8)) (h2 : ∀ j : α0 → α1 → α2 → α3 → α4 → α5 → α6 → α7 → α8 → ZM → Prop, (∀ x0 x1 x2 x3 x4 x5 x6 x7 x8, ZW p l e R s m args below meth c Q nL D A al n0 (j x0 x1 x2 x3 x4 x5 x6 x7 x8) pcJ (Lf x0 x1 x2 x3 x4 x5 x6 x7 x8) (sf x0 x1 x2 x3 x4 x5 x6 x7 x8)) → ZW p l e R s m args below meth c Q nL D A al n0 (B j) pc L st) : ZW p l e R s m args below meth c Q nL D A al n0 (zjn J B) pc L st := h2 J h1
theorem Z.sg0 (F : ZF p R s m args meth c cc nL own nm ret D A al sz mc ms fr lo) : ZSg 0 "EQUAL" "SafeBuckets$Sign$1" D.2.2 A s s.heap := F.hS.2.2.2.1.1
theorem Z.gsign0 (F : ZF p R s m args meth c cc nL own nm ret D A al sz mc ms fr lo) {index : Nat} (hq : Cond.fieldLink own index "SafeBuckets$Sign" "EQUAL" "LSafeBuckets$Sign;" ∈ lw_all) {K : Nat → ZM → Prop} (hdg : decode cc pc = .ok (.getstatic index, 3)) (k : ∀ u, ZW p l e R s m args below meth c Q nL D A al n0 (K u) (pc + 3) L (zv u :: st)) : ZW p l e R s m args below meth c Q nL D A al n0 (zgE 0 K) pc L st := by
  intro μ H locs cells slots ls hI h hP
  unfold zgE at hP
  rw [hI.1.2] at hP
  exact va_gets F.hx F.hb (Z.sg0 F).1 hI.2.1 F.hown (F.hts _ hq) (fun _ h => h) hdg (k _ μ H locs cells slots ls hI h hP)
theorem Z.sg1 (F : ZF p R s m args meth c cc nL own nm ret D A al sz mc ms fr lo) : ZSg 1 "LESS" "SafeBuckets$Sign$2" D.2.2 A s s.heap := F.hS.2.2.2.1.2.1
theorem Z.gsign1 (F : ZF p R s m args meth c cc nL own nm ret D A al sz mc ms fr lo) {index : Nat} (hq : Cond.fieldLink own index "SafeBuckets$Sign" "LESS" "LSafeBuckets$Sign;" ∈ lw_all) {K : Nat → ZM → Prop} (hdg : decode cc pc = .ok (.getstatic index, 3)) (k : ∀ u, ZW p l e R s m args below meth c Q nL D A al n0 (K u) (pc + 3) L (zv u :: st)) : ZW p l e R s m args below meth c Q nL D A al n0 (zgE 1 K) pc L st := by
  intro μ H locs cells slots ls hI h hP
  unfold zgE at hP
  rw [hI.1.2] at hP
  exact va_gets F.hx F.hb (Z.sg1 F).1 hI.2.1 F.hown (F.hts _ hq) (fun _ h => h) hdg (k _ μ H locs cells slots ls hI h hP)
theorem Z.sg2 (F : ZF p R s m args meth c cc nL own nm ret D A al sz mc ms fr lo) : ZSg 2 "MORE" "SafeBuckets$Sign$3" D.2.2 A s s.heap := F.hS.2.2.2.1.2.2.1
theorem Z.gsign2 (F : ZF p R s m args meth c cc nL own nm ret D A al sz mc ms fr lo) {index : Nat} (hq : Cond.fieldLink own index "SafeBuckets$Sign" "MORE" "LSafeBuckets$Sign;" ∈ lw_all) {K : Nat → ZM → Prop} (hdg : decode cc pc = .ok (.getstatic index, 3)) (k : ∀ u, ZW p l e R s m args below meth c Q nL D A al n0 (K u) (pc + 3) L (zv u :: st)) : ZW p l e R s m args below meth c Q nL D A al n0 (zgE 2 K) pc L st := by
  intro μ H locs cells slots ls hI h hP
  unfold zgE at hP
  rw [hI.1.2] at hP
  exact va_gets F.hx F.hb (Z.sg2 F).1 hI.2.1 F.hown (F.hts _ hq) (fun _ h => h) hdg (k _ μ H locs cells slots ls hI h hP)
theorem Z.sg3 (F : ZF p R s m args meth c cc nL own nm ret D A al sz mc ms fr lo) : ZSg 3 "MISSING" "SafeBuckets$Sign$4" D.2.2 A s s.heap := F.hS.2.2.2.1.2.2.2
theorem Z.gsign3 (F : ZF p R s m args meth c cc nL own nm ret D A al sz mc ms fr lo) {index : Nat} (hq : Cond.fieldLink own index "SafeBuckets$Sign" "MISSING" "LSafeBuckets$Sign;" ∈ lw_all) {K : Nat → ZM → Prop} (hdg : decode cc pc = .ok (.getstatic index, 3)) (k : ∀ u, ZW p l e R s m args below meth c Q nL D A al n0 (K u) (pc + 3) L (zv u :: st)) : ZW p l e R s m args below meth c Q nL D A al n0 (zgE 3 K) pc L st := by
  intro μ H locs cells slots ls hI h hP
  unfold zgE at hP
  rw [hI.1.2] at hP
  exact va_gets F.hx F.hb (Z.sg3 F).1 hI.2.1 F.hown (F.hts _ hq) (fun _ h => h) hdg (k _ μ H locs cells slots ls hI h hP)
theorem Z.lstr4 (F : ZF p R s m args meth c cc nL "SafeBuckets$Rules" nm ret D A al sz mc ms fr lo) {K : Nat → ZM → Prop} (hdg : decode cc pc = .ok (.ldc 9, 2)) (k : ∀ u, ZW p l e R s m args below meth c Q nL D A al n0 (K u) (pc + 2) L (zv u :: st)) : ZW p l e R s m args below meth c Q nL D A al n0 (zgE 4 K) pc L st := by
  intro μ H locs cells slots ls hI h hP
  unfold zgE at hP
  rw [hI.1.2] at hP
  exact va_ldcS F.hx F.hb F.hown F.hS.2.2.1.1 hdg (k _ μ H locs cells slots ls hI h hP)
theorem Z.lstr5 (F : ZF p R s m args meth c cc nL "SafeBuckets$ToldTable" nm ret D A al sz mc ms fr lo) {K : Nat → ZM → Prop} (hdg : decode cc pc = .ok (.ldc 9, 2)) (k : ∀ u, ZW p l e R s m args below meth c Q nL D A al n0 (K u) (pc + 2) L (zv u :: st)) : ZW p l e R s m args below meth c Q nL D A al n0 (zgE 5 K) pc L st := by
  intro μ H locs cells slots ls hI h hP
  unfold zgE at hP
  rw [hI.1.2] at hP
  exact va_ldcS F.hx F.hb F.hown F.hS.2.2.1.2.1 hdg (k _ μ H locs cells slots ls hI h hP)
theorem Z.lstr6 (F : ZF p R s m args meth c cc nL "SafeBuckets$Line" nm ret D A al sz mc ms fr lo) {K : Nat → ZM → Prop} (hdg : decode cc pc = .ok (.ldc 9, 2)) (k : ∀ u, ZW p l e R s m args below meth c Q nL D A al n0 (K u) (pc + 2) L (zv u :: st)) : ZW p l e R s m args below meth c Q nL D A al n0 (zgE 6 K) pc L st := by
  intro μ H locs cells slots ls hI h hP
  unfold zgE at hP
  rw [hI.1.2] at hP
  exact va_ldcS F.hx F.hb F.hown F.hS.2.2.1.2.2 hdg (k _ μ H locs cells slots ls hI h hP)
theorem Z.gthrU (F : ZF p R s m args meth c cc nL own nm ret D A al sz mc ms fr lo) {index : Nat} (hq : Cond.fieldLink own index "java/lang/Throwable" "UNASSIGNED_STACK" "[Ljava/lang/StackTraceElement;" ∈ lw_all) {K : Nat → ZM → Prop} (hdg : decode cc pc = .ok (.getstatic index, 3)) (k : ∀ u, ZW p l e R s m args below meth c Q nL D A al n0 (K u) (pc + 3) L (zv u :: st)) : ZW p l e R s m args below meth c Q nL D A al n0 (zall K) pc L st := by
  intro μ H locs cells slots ls hI h hP
  rcases (F.hS.2.2.2.2.2.2.1).1 with hZ | ⟨t, hZ⟩
  · exact va_gets F.hx F.hb hZ hI.2.1 F.hown (F.hts _ hq) (fun _ h => h) hdg (k 0 μ H locs cells slots ls hI h (hP 0))
  · exact va_gets F.hx F.hb hZ hI.2.1 F.hown (F.hts _ hq) (fun _ h => h) hdg (k (t + 1) μ H locs cells slots ls hI h (hP (t + 1)))
theorem Z.gthrS (F : ZF p R s m args meth c cc nL own nm ret D A al sz mc ms fr lo) {index : Nat} (hq : Cond.fieldLink own index "java/lang/Throwable" "SUPPRESSED_SENTINEL" "Ljava/util/List;" ∈ lw_all) {K : Nat → ZM → Prop} (hdg : decode cc pc = .ok (.getstatic index, 3)) (k : ∀ u, ZW p l e R s m args below meth c Q nL D A al n0 (K u) (pc + 3) L (zv u :: st)) : ZW p l e R s m args below meth c Q nL D A al n0 (zall K) pc L st := by
  intro μ H locs cells slots ls hI h hP
  rcases (F.hS.2.2.2.2.2.2.2).1 with hZ | ⟨t, hZ⟩
  · exact va_gets F.hx F.hb hZ hI.2.1 F.hown (F.hts _ hq) (fun _ h => h) hdg (k 0 μ H locs cells slots ls hI h (hP 0))
  · exact va_gets F.hx F.hb hZ hI.2.1 F.hown (F.hts _ hq) (fun _ h => h) hdg (k (t + 1) μ H locs cells slots ls hI h (hP (t + 1)))
theorem Z.sgn1 {i : Nat} {nm9 E : String} (F : ZF p R s m args meth c cc nL own nm ret D A al sz mc ms fr lo) (hE : ZSg i nm9 E D.2.2 A s s.heap) {index : Nat} {host : String} (hlink : (own, index, "SafeBuckets$Sign", "number", "I", host) ∈ zNf) {z : Nat} {j : Int32 → ZM → Prop} (hdg : decode cc pc = .ok (.getfield index, 3)) (k : ∀ u, ZW p l e R s m args below meth c Q nL D A al n0 (j u) (pc + 3) L (.int u :: st)) : ZW p l e R s m args below meth c Q nL D A al n0 (zis z i (j (nI i))) pc L (zv z :: st) := by
  intro μ H locs cells slots ls hI h hP
  obtain ⟨hz, hP⟩ := hP
  rw [hI.1.2] at hz
  subst hz
  obtain ⟨cf, kf, fi, f, cell, h1, h2, h3, h4, h5, h6⟩ := hE.2.2.kept hI.2.1.2.1
  exact va_Wgetf F.hx F.hb F.hown (va_Nw.use rfl (F.hS.2.1.1 _ hlink)) h1 h2 h3 h4 (v := .int (nI i)) h5 rfl rfl hdg (k _ μ H locs cells slots ls hI h hP)
theorem Z.sgn (F : ZF p R s m args meth c cc nL own nm ret D A al sz mc ms fr lo) {index : Nat} {host : String} (hlink : (own, index, "SafeBuckets$Sign", "number", "I", host) ∈ zNf) {z : Nat} {j : Int32 → ZM → Prop} (hdg : decode cc pc = .ok (.getfield index, 3)) (k : ∀ u, ZW p l e R s m args below meth c Q nL D A al n0 (j u) (pc + 3) L (.int u :: st)) : ZW p l e R s m args below meth c Q nL D A al n0 (zor (zis z 0 (j 0)) (zor (zis z 1 (j 1)) (zor (zis z 2 (j 2)) (zis z 3 (j 3))))) pc L (zv z :: st) :=
  fun μ H locs cells slots ls hI h hP => by
    rcases hP with hP | hP | hP | hP
    · exact Z.sgn1 F (Z.sg0 F) hlink hdg k μ H locs cells slots ls hI h hP
    · exact Z.sgn1 F (Z.sg1 F) hlink hdg k μ H locs cells slots ls hI h hP
    · exact Z.sgn1 F (Z.sg2 F) hlink hdg k μ H locs cells slots ls hI h hP
    · exact Z.sgn1 F (Z.sg3 F) hlink hdg k μ H locs cells slots ls hI h hP
theorem Z.newA50 (F : ZF p R s m args meth c cc nL own nm ret D A true sz mc ms fr lo) {K : Nat → ZM → Prop} {n : Int32} (hdg : decode cc pc = .ok (.newarray .int, 2)) (k : ∀ u, ZW p l e R s m args below meth c Q nL D A true n0 (K u) (pc + 2) L (zv u :: st)) : ZW p l e R s m args below meth c Q nL D A true n0 (znA 50 n K) pc L (.int n :: st) :=
  Z.newA F (atype := .int) (t := 0) (ty := .int) rfl (by decide) rfl (fun _ h => h) q253 (fun _ _ => rfl) hdg k
theorem Z.newA51 (F : ZF p R s m args meth c cc nL own nm ret D A true sz mc ms fr lo) {K : Nat → ZM → Prop} {n : Int32} (hdg : decode cc pc = .ok (.newarray .long, 2)) (k : ∀ u, ZW p l e R s m args below meth c Q nL D A true n0 (K u) (pc + 2) L (zv u :: st)) : ZW p l e R s m args below meth c Q nL D A true n0 (znA 51 n K) pc L (.int n :: st) :=
  Z.newA F (atype := .long) (t := 1) (ty := .long) rfl (by decide) rfl (fun _ h => h) q254 (fun _ _ => rfl) hdg k
theorem Z.newA52 (F : ZF p R s m args meth c cc nL own nm ret D A true sz mc ms fr lo) {K : Nat → ZM → Prop} {n : Int32} (hdg : decode cc pc = .ok (.newarray .byte, 2)) (k : ∀ u, ZW p l e R s m args below meth c Q nL D A true n0 (K u) (pc + 2) L (zv u :: st)) : ZW p l e R s m args below meth c Q nL D A true n0 (znA 52 n K) pc L (.int n :: st) :=
  Z.newA F (atype := .byte) (t := 2) (ty := .byte) rfl (by decide) rfl (fun _ h => h) q252 (fun _ _ => rfl) hdg k
theorem lw_U {own : String} {idx : Nat} {C owner : String} {x y : MethodName} {b : ByteArray} {L : Nat} {r : Option FieldType} (h1 : Cond.methodLink own idx x ∈ lw_all) (h2 : Cond.sameMethod x.cls owner x.name x.desc ∈ lw_all) (h3 : Cond.selects C x y ∈ lw_all) (h4 : Cond.instanceMethod y ∈ lw_all) (h6 : Cond.initialized y.cls ∈ lw_all) (h5 : Cond.code y b L r ∈ lw_all) : GoodIn lw_all (va_wsU own idx C owner x y (ws_ y b L r)) := by
  refine lw_app ?_ (lw_meth h5)
  intro w hw
  simp only [List.mem_cons, List.not_mem_nil, or_false] at hw
  rcases hw with e | e | e | e | e
  · rw [e]; exact h1
  · rw [e]; exact h2
  · rw [e]; exact h3
  · rw [e]; exact h4
  · rw [e]; exact h6
theorem lw_F {own : String} {idx : Nat} {C : String} {x y : MethodName} {b : ByteArray} {L : Nat} {r : Option FieldType} (h1 : Cond.methodLink own idx x ∈ lw_all) (h3 : Cond.selects C x y ∈ lw_all) (h4 : Cond.instanceMethod y ∈ lw_all) (h6 : Cond.initialized y.cls ∈ lw_all) (h5 : Cond.code y b L r ∈ lw_all) : GoodIn lw_all (va_wsF own idx C x y (ws_ y b L r)) := by
  refine lw_app ?_ (lw_meth h5)
  intro w hw
  simp only [List.mem_cons, List.not_mem_nil, or_false] at hw
  rcases hw with e | e | e | e
  · rw [e]; exact h1
  · rw [e]; exact h3
  · rw [e]; exact h4
  · rw [e]; exact h6
theorem lw_O {own : String} {idx : Nat} {C owner : String} {x y : MethodName} {b : ByteArray} {L : Nat} {r : Option FieldType} (h1 : Cond.methodLink own idx x ∈ lw_all) (h2 : Cond.sameMethod x.cls owner x.name x.desc ∈ lw_all) (h7 : Cond.instanceMethod ⟨owner, x.name, x.desc⟩ ∈ lw_all) (h3 : Cond.selects C x y ∈ lw_all) (h4 : Cond.instanceMethod y ∈ lw_all) (h6 : Cond.initialized y.cls ∈ lw_all) (h5 : Cond.code y b L r ∈ lw_all) : GoodIn lw_all (va_wsO own idx C owner x y (ws_ y b L r)) := by
  refine lw_app ?_ (lw_meth h5)
  intro w hw
  simp only [List.mem_cons, List.not_mem_nil, or_false] at hw
  rcases hw with e | e | e | e | e | e
  · rw [e]; exact h1
  · rw [e]; exact h2
  · rw [e]; exact h7
  · rw [e]; exact h3
  · rw [e]; exact h4
  · rw [e]; exact h6
theorem Z.U0 (F : ZF p R s m args meth c cc nL own nm ret D A al sz mc ms fr lo) {fr9 lo9 n maxL9 index : Nat} {y : MethodName} {bytes : ByteArray} {ret9 : Option FieldType} {Pf : ZM → Prop} {Qc : Array Value → State → Outcome → State → Prop} {As : List Value} (hI : ZI D A al n0 R s cells slots μ H locs) {x : MethodName} {ci b N : Nat} {C : String} {T : u_T} (hc : zCl[ci]? = some (C, T, N)) (hci : ci + 1 < 50) (ht : zT μ b = ci + 1) (hPf : Pf μ) (hM : Met l y (ws_ y bytes maxL9 ret9) { frames := fr9, cells := 0, slots := 0, locals := lo9 } (va_Pc (zv b :: As) (ZPreC D A false (zX μ, zC μ, zS μ) 0 0 H.size Pf μ)) Qc 0 0 A) {owner : String} (h1 : Cond.methodLink own index x ∈ lw_all) (h2 : Cond.sameMethod x.cls owner x.name x.desc ∈ lw_all) (h3 : Cond.selects C x y ∈ lw_all) (h4 : Cond.instanceMethod y ∈ lw_all) (h6 : Cond.initialized y.cls ∈ lw_all) (h5 : Cond.code y bytes maxL9 ret9 ∈ lw_all) (hyx : y = ⟨owner, x.name, x.desc⟩) (hd : owner ≠ "java/lang/invoke/MethodHandle" ∧ owner ≠ "java/lang/invoke/VarHandle" ∧ (parseMethodDescriptor x.desc).map (fun d => d.parameters.length) = some n) (hn : As.length = n) (hls : ls.size = nL) (hst4 : zlw st) (hR : fr9 + 1 ≤ fr ∧ 8 + (maxL9 + 11) + lo9 ≤ lo) (hst : st0 = As.reverse ++ zv b :: st) (hdg : decode cc pc = .ok (.invokevirtual index, 3)) : va_Run p l e R s m args below meth c H locs cells slots 0 0 (F0 m pc ls st0) st (Qc (zv b :: As).toArray) A := by
  obtain ⟨b0, rfl, hcell⟩ := Z.recv F hI hc hci ht
  subst hst
  exact va_runU (C := C) (b := b0) (As := As) F.fix hM (va_cwU n F.hts (lw_U h1 h2 h3 h4 h6 h5) rfl rfl rfl hyx hd (by rw [F.hRf, F.hRl]; exact hR)) ⟨zblind, hcell, Z.pre0 F hI hPf⟩ rfl hn hls rfl (zroom hst4) hdg (Z.fits0 hI)
theorem Z.UO0 (F : ZF p R s m args meth c cc nL own nm ret D A al sz mc ms fr lo) {fr9 lo9 n maxL9 index : Nat} {y : MethodName} {bytes : ByteArray} {ret9 : Option FieldType} {Pf : ZM → Prop} {Qc : Array Value → State → Outcome → State → Prop} {As : List Value} (hI : ZI D A al n0 R s cells slots μ H locs) {x : MethodName} {ci b N : Nat} {C : String} {T : u_T} (hc : zCl[ci]? = some (C, T, N)) (hci : ci + 1 < 50) (ht : zT μ b = ci + 1) (hPf : Pf μ) (hM : Met l y (ws_ y bytes maxL9 ret9) { frames := fr9, cells := 0, slots := 0, locals := lo9 } (va_Pc (zv b :: As) (ZPreC D A false (zX μ, zC μ, zS μ) 0 0 H.size Pf μ)) Qc 0 0 A) {owner : String} {b9 : ByteArray} {m9 : Nat} {r9 : Option FieldType} (h1 : Cond.methodLink own index x ∈ lw_all) (h2 : Cond.sameMethod x.cls owner x.name x.desc ∈ lw_all) (h7 : Cond.instanceMethod ⟨owner, x.name, x.desc⟩ ∈ lw_all) (h3 : Cond.selects C x y ∈ lw_all) (h4 : Cond.instanceMethod y ∈ lw_all) (h6 : Cond.initialized y.cls ∈ lw_all) (h8 : Cond.code ⟨owner, x.name, x.desc⟩ b9 m9 r9 ∈ lw_all) (h5 : Cond.code y bytes maxL9 ret9 ∈ lw_all) (hd : owner ≠ "java/lang/invoke/MethodHandle" ∧ owner ≠ "java/lang/invoke/VarHandle" ∧ (parseMethodDescriptor x.desc).map (fun d => d.parameters.length) = some n) (hn : As.length = n) (hls : ls.size = nL) (hst4 : zlw st) (hR : fr9 + 1 ≤ fr ∧ 8 + (maxL9 + 11) + lo9 ≤ lo) (hst : st0 = As.reverse ++ zv b :: st) (hdg : decode cc pc = .ok (.invokevirtual index, 3)) : va_Run p l e R s m args below meth c H locs cells slots 0 0 (F0 m pc ls st0) st (Qc (zv b :: As).toArray) A := by
  obtain ⟨b0, rfl, hcell⟩ := Z.recv F hI hc hci ht
  subst hst
  exact va_runU (C := C) (b := b0) (As := As) F.fix hM (va_cwO n F.hts (lw_O h1 h2 h7 h3 h4 h6 h5) rfl rfl rfl h8 hd (by rw [F.hRf, F.hRl]; exact hR)) ⟨zblind, hcell, Z.pre0 F hI hPf⟩ rfl hn hls rfl (zroom hst4) hdg (Z.fits0 hI)
theorem Z.UA0 (F : ZF p R s m args meth c cc nL own nm ret D A al sz mc ms fr lo) {fr9 lo9 n maxL9 index : Nat} {y : MethodName} {bytes : ByteArray} {ret9 : Option FieldType} {Pf : ZM → Prop} {Qc : Array Value → State → Outcome → State → Prop} {As : List Value} (hI : ZI D A al n0 R s cells slots μ H locs) {x : MethodName} {ci b N : Nat} {C : String} {T : u_T} (hc : zCl[ci]? = some (C, T, N)) (hci : ci + 1 < 50) (ht : zT μ b = ci + 1) (hPf : Pf μ) (hM : Met l y (ws_ y bytes maxL9 ret9) { frames := fr9, cells := 0, slots := 0, locals := lo9 } (va_Pc (zv b :: As) (ZPreC D A false (zX μ, zC μ, zS μ) 0 0 H.size Pf μ)) Qc 0 0 A) {owner : String} (h1 : Cond.methodLink own index x ∈ lw_all) (h2 : Cond.sameMethod x.cls owner x.name x.desc ∈ lw_all) (h3 : Cond.selects C x y ∈ lw_all) (h4 : Cond.instanceMethod y ∈ lw_all) (h6 : Cond.initialized y.cls ∈ lw_all) (h5 : Cond.code y bytes maxL9 ret9 ∈ lw_all) (hz : (⟨owner, x.name, x.desc⟩ : MethodName) ∈ zNd) (hd : owner ≠ "java/lang/invoke/MethodHandle" ∧ owner ≠ "java/lang/invoke/VarHandle" ∧ (parseMethodDescriptor x.desc).map (fun d => d.parameters.length) = some n) (hn : As.length = n) (hls : ls.size = nL) (hst4 : zlw st) (hR : fr9 + 1 ≤ fr ∧ 8 + (maxL9 + 11) + lo9 ≤ lo) (hst : st0 = As.reverse ++ zv b :: st) (hdg : decode cc pc = .ok (.invokevirtual index, 3)) : va_Run p l e R s m args below meth c H locs cells slots 0 0 (F0 m pc ls st0) st (Qc (zv b :: As).toArray) A := by
  obtain ⟨b0, rfl, hcell⟩ := Z.recv F hI hc hci ht
  subst hst
  exact va_runU (C := C) (b := b0) (As := As) F.fix hM (va_cwA n F.hts (lw_U h1 h2 h3 h4 h6 h5) rfl rfl rfl (F.hS.2.1.2.2.1 _ hz) hd (by rw [F.hRf, F.hRl]; exact hR)) ⟨zblind, hcell, Z.pre0 F hI hPf⟩ rfl hn hls rfl (zroom hst4) hdg (Z.fits0 hI)
theorem Z.IF0 (F : ZF p R s m args meth c cc nL own nm ret D A al sz mc ms fr lo) {fr9 lo9 n maxL9 index : Nat} {y : MethodName} {bytes : ByteArray} {ret9 : Option FieldType} {Pf : ZM → Prop} {Qc : Array Value → State → Outcome → State → Prop} {As : List Value} {count : Nat} (hI : ZI D A al n0 R s cells slots μ H locs) {x : MethodName} {ci b N : Nat} {C : String} {T : u_T} (hc : zCl[ci]? = some (C, T, N)) (hci : ci + 1 < 50) (ht : zT μ b = ci + 1) (hPf : Pf μ) (hM : Met l y (ws_ y bytes maxL9 ret9) { frames := fr9, cells := 0, slots := 0, locals := lo9 } (va_Pc (zv b :: As) (ZPreC D A false (zX μ, zC μ, zS μ) 0 0 H.size Pf μ)) Qc 0 0 A) (h1 : Cond.methodLink own index x ∈ lw_all) (h3 : Cond.selects C x y ∈ lw_all) (h4 : Cond.instanceMethod y ∈ lw_all) (h6 : Cond.initialized y.cls ∈ lw_all) (h5 : Cond.code y bytes maxL9 ret9 ∈ lw_all) (hz : (C, x, y) ∈ zNi) (hd : x.cls ≠ "java/lang/invoke/MethodHandle" ∧ x.cls ≠ "java/lang/invoke/VarHandle" ∧ (parseMethodDescriptor x.desc).map (fun d => d.parameters.length) = some n) (hn : As.length = n) (hls : ls.size = nL) (hst4 : zlw st) (hR : fr9 + 1 ≤ fr ∧ 8 + (maxL9 + 11) + lo9 ≤ lo) (hst : st0 = As.reverse ++ zv b :: st) (hdg : decode cc pc = .ok (.invokeinterface index count, 5)) : va_Run5 p l e R s m args below meth c H locs cells slots 0 0 (F0 m pc ls st0) st (Qc (zv b :: As).toArray) A := by
  obtain ⟨b0, rfl, hcell⟩ := Z.recv F hI hc hci ht
  subst hst
  exact va_runF (C := C) (b := b0) (As := As) (F.hK.1 ci _ hc).2 F.fix hM (va_cwF n F.hts (lw_F h1 h3 h4 h6 h5) rfl rfl rfl (F.hS.2.1.2.2.2.2.1 _ hz) hd (by rw [F.hRf, F.hRl]; exact hR)) ⟨zblind, hcell, Z.pre0 F hI hPf⟩ rfl hn hls rfl (zroom hst4) hdg (Z.fits0 hI)
/-- super.m(..), where the superclass has it from its own -/
theorem zsub1 {s : State} {a b : ClassId} {k c9 : Class} (hk : s.vm.classes[a]? = some k) (h : k.super = some b) (hb : s.vm.classes[b]? = some c9) : s.vm.isSubclass a b = true := by
  obtain ⟨n, hn⟩ : ∃ n, s.vm.classes.size = n + 1 := by
    have h1 := (Array.getElem?_eq_some_iff.mp hb).1
    exact ⟨s.vm.classes.size - 1, by omega⟩
  unfold Vm.isSubclass
  rw [hn]
  simp [Vm.isSubclassAux, hk, h]
theorem Z.SU0 (F : ZF p R s m args meth c cc nL own nm ret D A al sz mc ms fr lo) {fr9 lo9 n maxL9 index : Nat} {y : MethodName} {bytes : ByteArray} {ret9 : Option FieldType} {Pf : ZM → Prop} {Qc : Array Value → State → Outcome → State → Prop} {As : List Value} (hI : ZI D A al n0 R s cells slots μ H locs) {x : MethodName} {ci b N : Nat} {C : String} {T : u_T} (hc : zCl[ci]? = some (C, T, N)) (hci : ci + 1 < 50) (ht : zT μ b = ci + 1) (hPf : Pf μ) (hM : Met l y (ws_ y bytes maxL9 ret9) { frames := fr9, cells := 0, slots := 0, locals := lo9 } (va_Pc (zv b :: As) (ZPreC D A false (zX μ, zC μ, zS μ) 0 0 H.size Pf μ)) Qc 0 0 A) (h1 : Cond.methodLink own index x ∈ lw_all) (h2 : Cond.sameMethod x.cls y.cls x.name x.desc ∈ lw_all) (h3 : Cond.superclass own x.cls ∈ lw_all) (h7 : Cond.superclass x.cls y.cls ∈ lw_all) (h4 : Cond.instanceMethod y ∈ lw_all) (h6 : Cond.initialized y.cls ∈ lw_all) (h5 : Cond.code y bytes maxL9 ret9 ∈ lw_all) (hd : (x.name ≠ "<init>" ∧ y.name = x.name ∧ y.desc = x.desc) ∧ (parseMethodDescriptor y.desc).map (fun d => d.parameters.length) = some n) (hn : As.length = n) (hls : ls.size = nL) (hst4 : zlw st) (hR : fr9 + 1 ≤ fr ∧ 8 + (maxL9 + 11) + lo9 ≤ lo) (hst : st0 = As.reverse ++ zv b :: st) (hdg : decode cc pc = .ok (.invokespecial index, 3)) : va_Run p l e R s m args below meth c H locs cells slots 0 0 (F0 m pc ls st0) st (Qc (zv b :: As).toArray) A := by
  obtain ⟨b0, rfl, hcell⟩ := Z.recv F hI hc hci ht
  subst hst
  obtain ⟨hfc, kB, hkB, -⟩ := (F.hK.1 ci _ hc).2
  obtain ⟨cellB, hcB, hoB, hclB⟩ := hcell
  have hkB : s.vm.classes[cellB.cls]? = some kB := by rw [Option.some.inj (hclB.symm.trans hfc)]; exact hkB
  have hws := pay_in F.hts (lw_meth h5)
  have hK : Free.Back l R p e below s args y 3 8 (PreOf R 0 0 _) (PostOf Qc 0 0 A) := back_of (bytes := bytes) (maxL := maxL9) (ret := ret9) hM zblind rfl rfl (by rw [F.hRf]; exact hR.1) (by rw [F.hRl]; exact hR.2) hws List.mem_cons_self (fun a' U hW => word_at hW (Or.inl (by first | rfl | simp [Cond.onTables, Cond.keeps, Cond.steady])) (F.hts _ h6))
  intro T hT X
  obtain ⟨mk, methM, hnamed, hmethM, hstM, habM⟩ := Cond.instanceMethod_spec (F.hts _ h4)
  obtain ⟨methM', cM, hmethM', -, -, -, -, -, -, hsigM⟩ := Cond.code_spec hnamed (F.hts _ h5)
  cases hmethM.symm.trans hmethM'
  obtain ⟨ps, dk, kp, hps, hdk, hkp, hsuper, -, -, hnid⟩ := Cond.superclass_spec F.hown (F.hts _ h3)
  obtain ⟨p2, k2, kp2, hp2, hk2, hkp2, hsuper2, -, -, -⟩ := Cond.superclass_spec hps (F.hts _ h7)
  have hpm : p2 = mk.cls := Option.some.inj (hp2.symm.trans (findClass_of_methodNamed hnamed))
  have hn2 : s.methodNamed? ⟨y.cls, x.name, x.desc⟩ = some mk := by rw [← hd.1.2.1, ← hd.1.2.2]; exact hnamed
  have hlen : As.length = methM.sig.parameters.length := by
    have h9 := hd.2
    rw [hsigM] at h9
    exact hn.trans (Option.some.inj h9).symm
  obtain ⟨vm1, X1, hstep1⟩ := X.invokespecialUp F.hx F.hown (F.hts _ h1) (F.hts _ h2) hn2 hmethM hstM habM hd.1.1 hdk hnid hps hsuper (by rw [← hpm]; exact zsub1 hk2 hsuper2 hkp2) (a := b0) (cell := cellB) (by rw [hT]; exact hcB)
    (fun z h => by rw [h] at hoB; cases hoB) hkB (g := F0 m pc ls (As.reverse ++ zv (b0 + 1) :: st)) rfl (argsL := As) (rest := st) hlen rfl (by rw [F.hb]; exact hdg)
  obtain ⟨v, ⟨U', l2, c2, s2⟩, X', ⟨g', mk', t, L9, e1, e2, hq, h1', hL, h2', h3'⟩, stp⟩ := hK m meth c ⟨T.setVm vm1, locs, cells, slots⟩ { (F0 m pc ls (As.reverse ++ zv (b0 + 1) :: st)) with stack := st } (.invokespecial index) mk (Value.ref b0 :: As).toArray X1 rfl (hls.trans F.hml.symm) (by rw [F.hb]; exact hdg) (zroom hst4) (X1.named hnamed)
    ⟨(Z.fits0 hI).1, (Z.fits0 hI).2, (Z.pre0 F hI hPf) (T.setVm vm1) hT X1.warmed⟩
  dsimp only [Free.Pt.U, Free.Pt.locs, Free.Pt.cells, Free.Pt.slots] at X' e1 e2 h1' h2' h3' stp
  subst h1'; subst h2'; subst h3'
  exact ⟨v, (T.setVm vm1).calling g' mk' (Value.ref b0 :: As).toArray, t, U', L9, hT, X', hL, e1, e2, hq, fun target h => hstep1 _ (by rw [doInvoke_state]; exact stp.trans h)⟩
theorem Z.athrowC {E : String} {T : u_T} {N ci z : Nat} {Kx : Nat → ZM → Prop} (F : ZF p R s m args meth c cc nL own nm ret D A al sz mc ms fr lo) (hc : zCl[ci]? = some (E, T, N)) (hci : ci + 1 < 50) (hdg : decode cc pc = .ok (.athrow, 1)) (k : ZX p l e R s m args below meth c Q nL D A al n0 E Kx pc L) : ZW p l e R s m args below meth c Q nL D A al n0 (zthr (ci + 1) z Kx) pc L (zv z :: st) := Z.athrow F hc hci hdg k
end ZMore
theorem df_X1 : ∀ j, j < 29 → defaultValue (tyX1 j) = vp_V (zfs (zK 0) (fun _ => 0) (fun _ => 0) (fun _ => 0)) j := by
  intro j hj
  match j, hj with
  | 0, _ => rfl
  | 1, _ => rfl
  | 2, _ => rfl
  | 3, _ => rfl
  | 4, _ => rfl
  | 5, _ => rfl
  | 6, _ => rfl
  | 7, _ => rfl
  | 8, _ => rfl
  | 9, _ => rfl
  | 10, _ => rfl
  | 11, _ => rfl
  | 12, _ => rfl
  | 13, _ => rfl
  | 14, _ => rfl
  | 15, _ => rfl
  | 16, _ => rfl
  | 17, _ => rfl
  | 18, _ => rfl
  | 19, _ => rfl
  | 20, _ => rfl
  | 21, _ => rfl
  | 22, _ => rfl
  | 23, _ => rfl
  | 24, _ => rfl
  | 25, _ => rfl
  | 26, _ => rfl
  | 27, _ => rfl
  | 28, _ => rfl
  | n + 29, h => exact absurd h (by omega)
theorem df_X2 : ∀ j, j < 5 → defaultValue (tyX2 j) = vp_V (zfs (zK 1) (fun _ => 0) (fun _ => 0) (fun _ => 0)) j := by
  intro j hj
  match j, hj with
  | 0, _ => rfl
  | 1, _ => rfl
  | 2, _ => rfl
  | 3, _ => rfl
  | 4, _ => rfl
  | n + 5, h => exact absurd h (by omega)
theorem df_X3 : ∀ j, j < 5 → defaultValue (tyX3 j) = vp_V (zfs (zK 2) (fun _ => 0) (fun _ => 0) (fun _ => 0)) j := by
  intro j hj
  match j, hj with
  | 0, _ => rfl
  | 1, _ => rfl
  | 2, _ => rfl
  | 3, _ => rfl
  | 4, _ => rfl
  | n + 5, h => exact absurd h (by omega)
theorem df_X4 : ∀ j, j < 3 → defaultValue (tyX4 j) = vp_V (zfs (zK 3) (fun _ => 0) (fun _ => 0) (fun _ => 0)) j := by
  intro j hj
  match j, hj with
  | 0, _ => rfl
  | 1, _ => rfl
  | 2, _ => rfl
  | n + 3, h => exact absurd h (by omega)
theorem df_X7 : ∀ j, j < 4 → defaultValue (tyX7 j) = vp_V (zfs (zK 4) (fun _ => 0) (fun _ => 0) (fun _ => 0)) j := by
  intro j hj
  match j, hj with
  | 0, _ => rfl
  | 1, _ => rfl
  | 2, _ => rfl
  | 3, _ => rfl
  | n + 4, h => exact absurd h (by omega)
theorem df_X8 : ∀ j, j < 6 → defaultValue (tyX8 j) = vp_V (zfs (zK 5) (fun _ => 0) (fun _ => 0) (fun _ => 0)) j := by
  intro j hj
  match j, hj with
  | 0, _ => rfl
  | 1, _ => rfl
  | 2, _ => rfl
  | 3, _ => rfl
  | 4, _ => rfl
  | 5, _ => rfl
  | n + 6, h => exact absurd h (by omega)
theorem df_X9 : ∀ j, j < 33 → defaultValue (tyX9 j) = vp_V (zfs (zK 6) (fun _ => 0) (fun _ => 0) (fun _ => 0)) j := by
  intro j hj
  match j, hj with
  | 0, _ => rfl
  | 1, _ => rfl
  | 2, _ => rfl
  | 3, _ => rfl
  | 4, _ => rfl
  | 5, _ => rfl
  | 6, _ => rfl
  | 7, _ => rfl
  | 8, _ => rfl
  | 9, _ => rfl
  | 10, _ => rfl
  | 11, _ => rfl
  | 12, _ => rfl
  | 13, _ => rfl
  | 14, _ => rfl
  | 15, _ => rfl
  | 16, _ => rfl
  | 17, _ => rfl
  | 18, _ => rfl
  | 19, _ => rfl
  | 20, _ => rfl
  | 21, _ => rfl
  | 22, _ => rfl
  | 23, _ => rfl
  | 24, _ => rfl
  | 25, _ => rfl
  | 26, _ => rfl
  | 27, _ => rfl
  | 28, _ => rfl
  | 29, _ => rfl
  | 30, _ => rfl
  | 31, _ => rfl
  | 32, _ => rfl
  | n + 33, h => exact absurd h (by omega)
theorem df_X10 : ∀ j, j < 2 → defaultValue (tyX10 j) = vp_V (zfs (zK 7) (fun _ => 0) (fun _ => 0) (fun _ => 0)) j := by
  intro j hj
  match j, hj with
  | 0, _ => rfl
  | 1, _ => rfl
  | n + 2, h => exact absurd h (by omega)
theorem df_X11 : ∀ j, j < 5 → defaultValue (tyX11 j) = vp_V (zfs (zK 8) (fun _ => 0) (fun _ => 0) (fun _ => 0)) j := by
  intro j hj
  match j, hj with
  | 0, _ => rfl
  | 1, _ => rfl
  | 2, _ => rfl
  | 3, _ => rfl
  | 4, _ => rfl
  | n + 5, h => exact absurd h (by omega)
theorem df_X12 : ∀ j, j < 7 → defaultValue (tyX12 j) = vp_V (zfs (zK 9) (fun _ => 0) (fun _ => 0) (fun _ => 0)) j := by
  intro j hj
  match j, hj with
  | 0, _ => rfl
  | 1, _ => rfl
  | 2, _ => rfl
  | 3, _ => rfl
  | 4, _ => rfl
  | 5, _ => rfl
  | 6, _ => rfl
  | n + 7, h => exact absurd h (by omega)
theorem df_X15 : ∀ j, j < 1 → defaultValue (tyX15 j) = vp_V (zfs (zK 10) (fun _ => 0) (fun _ => 0) (fun _ => 0)) j := by
  intro j hj
  match j, hj with
  | 0, _ => rfl
  | n + 1, h => exact absurd h (by omega)
theorem df_X16 : ∀ j, j < 1 → defaultValue (tyX16 j) = vp_V (zfs (zK 11) (fun _ => 0) (fun _ => 0) (fun _ => 0)) j := by
  intro j hj
  match j, hj with
  | 0, _ => rfl
  | n + 1, h => exact absurd h (by omega)
theorem df_X17 : ∀ j, j < 1 → defaultValue (tyX17 j) = vp_V (zfs (zK 12) (fun _ => 0) (fun _ => 0) (fun _ => 0)) j := by
  intro j hj
  match j, hj with
  | 0, _ => rfl
  | n + 1, h => exact absurd h (by omega)
theorem df_X18 : ∀ j, j < 2 → defaultValue (tyX18 j) = vp_V (zfs (zK 13) (fun _ => 0) (fun _ => 0) (fun _ => 0)) j := by
  intro j hj
  match j, hj with
  | 0, _ => rfl
  | 1, _ => rfl
  | n + 2, h => exact absurd h (by omega)
theorem df_X19 : ∀ j, j < 2 → defaultValue (tyX19 j) = vp_V (zfs (zK 14) (fun _ => 0) (fun _ => 0) (fun _ => 0)) j := by
  intro j hj
  match j, hj with
  | 0, _ => rfl
  | 1, _ => rfl
  | n + 2, h => exact absurd h (by omega)
theorem df_X21 : ∀ j, j < 3 → defaultValue (tyX21 j) = vp_V (zfs (zK 15) (fun _ => 0) (fun _ => 0) (fun _ => 0)) j := by
  intro j hj
  match j, hj with
  | 0, _ => rfl
  | 1, _ => rfl
  | 2, _ => rfl
  | n + 3, h => exact absurd h (by omega)
theorem df_X22 : ∀ j, j < 2 → defaultValue (tyX22 j) = vp_V (zfs (zK 16) (fun _ => 0) (fun _ => 0) (fun _ => 0)) j := by
  intro j hj
  match j, hj with
  | 0, _ => rfl
  | 1, _ => rfl
  | n + 2, h => exact absurd h (by omega)
