abbrev ZD : Type := va_G × (Nat → ClassId) × (Nat → Nat)
abbrev zCl : List vw_C := [(RX1, TX1, 29), (RX2, TX2, 5), (RX3, TX3, 5), (RX4, TX4, 3), (RX7, TX7, 4), (RX8, TX8, 6), (RX9, TX9, 33), (RX10, TX10, 2), (RX11, TX11, 5), (RX12, TX12, 7), (RX15, TX15, 1), (RX16, TX16, 1), (RX17, TX17, 1), (RX18, TX18, 2), (RX19, TX19, 2), (RX21, TX21, 3), (RX22, TX22, 2)]
abbrev zAt (dA : Nat → ClassId) : List (ClassId × FieldType) := [(dA 0, .int), (dA 1, .long), (dA 2, .byte), (dA 3, (.object "SafeBuckets$Where")), (dA 4, (.array .long)), (dA 5, (.array .int)), (dA 6, (.object "SafeBuckets$Sheet")), (dA 7, (.object "SafeBuckets$Column")), (dA 8, (.object "SafeBuckets$Bucket")), (dA 9, (.object "SafeBuckets$State")), (dA 10, (.object "SafeBuckets$ToldTable")), (dA 11, (.object "SafeBuckets$Line")), (dA 12, (.object "SafeBuckets$Term")), (dA 13, (.object "SafeBuckets$Unit"))]
/-- the fields' kinds: 0 int, 1 long, 2 reference -/
def zK (c : Nat) : List Nat := match c with
  | 0 => [2, 0, 2, 2, 0, 2, 2, 2, 2, 2, 2, 2, 2, 0, 0, 2, 2, 2, 2, 0, 0, 1, 2, 2, 0, 0, 2, 2, 0]
  | 1 => [2, 2, 0, 0, 2]
  | 2 => [2, 2, 0, 0, 2]
  | 3 => [2, 0, 0]
  | 4 => [0, 0, 0, 0]
  | 5 => [2, 2, 2, 2, 2, 0]
  | 6 => [0, 2, 0, 0, 0, 2, 2, 2, 0, 0, 2, 2, 0, 2, 2, 0, 2, 2, 2, 0, 2, 2, 2, 0, 1, 2, 0, 0, 0, 2, 2, 2, 0]
  | 7 => [0, 2]
  | 8 => [2, 2, 2, 0, 0]
  | 9 => [2, 2, 2, 2, 2, 0, 0]
  | 10 => [2]
  | 11 => [2]
  | 12 => [2]
  | 13 => [2, 0]
  | 14 => [2, 0]
  | 15 => [0, 0, 2]
  | 16 => [0, 2]
  | _ => []
def zNf : List (String × Nat × String × String × String × String) := [("SafeBuckets", 120, "SafeBuckets$Wrong", "at", "I", "SafeBuckets"), ("SafeBuckets", 139, "SafeBuckets$Book", "many", "I", "SafeBuckets"), ("SafeBuckets", 147, "SafeBuckets$Where", "many", "I", "SafeBuckets"), ("SafeBuckets", 148, "SafeBuckets$Where", "terms", "[LSafeBuckets$Term;", "SafeBuckets"), ("SafeBuckets", 152, "SafeBuckets$Term", "many", "I", "SafeBuckets"), ("SafeBuckets", 155, "SafeBuckets$Term", "units", "[LSafeBuckets$Unit;", "SafeBuckets"), ("SafeBuckets", 164, "SafeBuckets$Sheet", "values", "I", "SafeBuckets"), ("SafeBuckets", 198, "SafeBuckets$State", "sheets", "[LSafeBuckets$Sheet;", "SafeBuckets"), ("SafeBuckets", 204, "SafeBuckets$State", "budget", "I", "SafeBuckets"), ("SafeBuckets", 207, "SafeBuckets$Book", "rules", "LSafeBuckets$Rules;", "SafeBuckets"), ("SafeBuckets", 222, "SafeBuckets$Sheet", "rows", "I", "SafeBuckets"), ("SafeBuckets", 242, "SafeBuckets$Sheet", "columns", "[LSafeBuckets$Column;", "SafeBuckets"), ("SafeBuckets", 246, "SafeBuckets$Column", "many", "I", "SafeBuckets"), ("SafeBuckets", 249, "SafeBuckets$Column", "buckets", "[LSafeBuckets$Bucket;", "SafeBuckets"), ("SafeBuckets", 262, "SafeBuckets$Column", "drift", "I", "SafeBuckets"), ("SafeBuckets", 344, "SafeBuckets$State", "noteMany", "I", "SafeBuckets"), ("SafeBuckets", 347, "SafeBuckets$State", "notes", "[I", "SafeBuckets"), ("SafeBuckets", 463, "SafeBuckets$Sheet", "cells", "[I", "SafeBuckets"), ("SafeBuckets$Lease", 23, "SafeBuckets", "now", "LSafeBuckets$State;", "SafeBuckets"), ("SafeBuckets$Lease", 27, "SafeBuckets$State", "sheets", "[LSafeBuckets$Sheet;", "SafeBuckets"), ("SafeBuckets$Reader", 19, "SafeBuckets", "length", "I", "SafeBuckets"), ("SafeBuckets$Reader", 22, "SafeBuckets", "tape", "[B", "SafeBuckets"), ("SafeBuckets$Reader", 69, "SafeBuckets$Book", "rules", "LSafeBuckets$Rules;", "SafeBuckets"), ("SafeBuckets$Reader", 75, "SafeBuckets$Book", "many", "I", "SafeBuckets"), ("SafeBuckets$Reader", 78, "SafeBuckets$Book", "lineMany", "I", "SafeBuckets"), ("SafeBuckets$Reader", 84, "SafeBuckets$Book", "tables", "[LSafeBuckets$ToldTable;", "SafeBuckets"), ("SafeBuckets$Reader", 91, "SafeBuckets$Book", "lines", "[LSafeBuckets$Line;", "SafeBuckets"), ("SafeBuckets$Reader", 123, "SafeBuckets$Term", "units", "[LSafeBuckets$Unit;", "SafeBuckets"), ("SafeBuckets$Reader", 129, "SafeBuckets$Term", "many", "I", "SafeBuckets"), ("SafeBuckets$Reader", 132, "SafeBuckets$Sign", "number", "I", "SafeBuckets"), ("SafeBuckets$Reader", 139, "SafeBuckets$Where", "many", "I", "SafeBuckets"), ("SafeBuckets$Reader", 143, "SafeBuckets$Where", "terms", "[LSafeBuckets$Term;", "SafeBuckets"), ("SafeBuckets$Sheet", 74, "SafeBuckets$Column", "drift", "I", "SafeBuckets"), ("SafeBuckets$Sheet", 83, "SafeBuckets", "book", "LSafeBuckets$Book;", "SafeBuckets"), ("SafeBuckets$Sheet", 87, "SafeBuckets$Book", "rules", "LSafeBuckets$Rules;", "SafeBuckets"), ("SafeBuckets$Sheet", 107, "SafeBuckets$Column", "buckets", "[LSafeBuckets$Bucket;", "SafeBuckets"), ("SafeBuckets$Sheet", 114, "SafeBuckets", "next", "[[I", "SafeBuckets"), ("SafeBuckets$Sheet", 127, "SafeBuckets", "counts", "[I", "SafeBuckets"), ("SafeBuckets$Sheet", 133, "SafeBuckets$Column", "many", "I", "SafeBuckets"), ("SafeBuckets$State", 28, "SafeBuckets", "book", "LSafeBuckets$Book;", "SafeBuckets"), ("SafeBuckets$State", 32, "SafeBuckets$Book", "many", "I", "SafeBuckets"), ("SafeBuckets$State", 46, "SafeBuckets$Book", "lineMany", "I", "SafeBuckets"), ("SafeBuckets$State", 49, "SafeBuckets$Book", "lines", "[LSafeBuckets$Line;", "SafeBuckets"), ("SafeBuckets$State", 65, "SafeBuckets$Book", "rules", "LSafeBuckets$Rules;", "SafeBuckets"), ("SafeBuckets$State", 88, "SafeBuckets$Sheet", "rows", "I", "SafeBuckets"), ("SafeBuckets$Term", 25, "SafeBuckets$Sheet", "rows", "I", "SafeBuckets"), ("SafeBuckets$Unit", 22, "SafeBuckets$Sign", "number", "I", "SafeBuckets"), ("SafeBuckets$Unit", 47, "SafeBuckets$Sheet", "columns", "[LSafeBuckets$Column;", "SafeBuckets"), ("SafeBuckets$Unit", 51, "SafeBuckets$Column", "many", "I", "SafeBuckets"), ("SafeBuckets$Unit", 56, "SafeBuckets$Column", "buckets", "[LSafeBuckets$Bucket;", "SafeBuckets"), ("SafeBuckets$Where", 38, "SafeBuckets$Sheet", "rows", "I", "SafeBuckets")]
def zNm : List (String × Nat × MethodName × String) := [("SafeBuckets", 56, ⟨"SafeBuckets$State", "<init>", "(LSafeBuckets;)V"⟩, "SafeBuckets"), ("SafeBuckets", 68, ⟨"SafeBuckets$Sheet", "<init>", "(LSafeBuckets;)V"⟩, "SafeBuckets"), ("SafeBuckets", 103, ⟨"SafeBuckets$Reader", "<init>", "(LSafeBuckets;)V"⟩, "SafeBuckets"), ("SafeBuckets$Bucket", 1, ⟨"SafeBuckets$Kept", "<init>", "()V"⟩, "SafeBuckets"), ("SafeBuckets$Column", 17, ⟨"SafeBuckets$Bucket", "<init>", "()V"⟩, "SafeBuckets"), ("SafeBuckets$Kept", 1, ⟨"SafeBuckets$Span", "<init>", "()V"⟩, "SafeBuckets"), ("SafeBuckets$Lease", 19, ⟨"SafeBuckets", "traces", "(I)V"⟩, "SafeBuckets"), ("SafeBuckets$Line", 21, ⟨"SafeBuckets", "isIn", "(JJJ)Z"⟩, "SafeBuckets"), ("SafeBuckets$Reader", 55, ⟨"SafeBuckets", "has", "(II)Z"⟩, "SafeBuckets"), ("SafeBuckets$Reader", 101, ⟨"SafeBuckets$Book", "<init>", "()V"⟩, "SafeBuckets"), ("SafeBuckets$Reader", 137, ⟨"SafeBuckets$Where", "<init>", "()V"⟩, "SafeBuckets"), ("SafeBuckets$Reader", 138, ⟨"SafeBuckets$Term", "<init>", "()V"⟩, "SafeBuckets"), ("SafeBuckets$Rules", 21, ⟨"SafeBuckets", "isIn", "(JJJ)Z"⟩, "SafeBuckets"), ("SafeBuckets$Sheet", 43, ⟨"SafeBuckets", "isIn", "(JJJ)Z"⟩, "SafeBuckets"), ("SafeBuckets$Sheet", 103, ⟨"SafeBuckets", "lays", "(LSafeBuckets$Sheet;II)V"⟩, "SafeBuckets"), ("SafeBuckets$State", 17, ⟨"SafeBuckets$Sheet", "<init>", "(LSafeBuckets;)V"⟩, "SafeBuckets"), ("SafeBuckets$ToldTable", 19, ⟨"SafeBuckets", "isIn", "(JJJ)Z"⟩, "SafeBuckets")]
def zNd : List MethodName := [⟨"SafeBuckets$Clause", "items", "()Ljava/lang/String;"⟩, ⟨"SafeBuckets$Condition", "holds", "(II)Z"⟩, ⟨"SafeBuckets$Condition", "lower", "(LSafeBuckets$Sheet;)I"⟩, ⟨"SafeBuckets$Condition", "upper", "(LSafeBuckets$Sheet;)I"⟩, ⟨"SafeBuckets$Kept", "goesDown", "(I)V"⟩, ⟨"SafeBuckets$Kept", "goesUp", "(I)V"⟩, ⟨"SafeBuckets$Sign", "holds", "(II)Z"⟩, ⟨"SafeBuckets$Span", "width", "()I"⟩, ⟨"SafeBuckets$Told", "isWell", "(II)Z"⟩, ⟨"java/lang/RuntimeException", "<init>", "()V"⟩, ⟨"java/lang/Exception", "<init>", "()V"⟩, ⟨"java/lang/Throwable", "<init>", "()V"⟩]
def zNc : List (String × String) := [("SafeBuckets$TooLong", "SafeBuckets$TooLong"), ("SafeBuckets$TooLong", "java/lang/Object"), ("SafeBuckets$TooLong", "java/lang/Throwable"), ("SafeBuckets$Wrong", "SafeBuckets$Wrong"), ("SafeBuckets$Wrong", "java/lang/Object"), ("SafeBuckets$Wrong", "java/lang/Throwable"), ("java/util/NoSuchElementException", "java/lang/Object"), ("java/util/NoSuchElementException", "java/lang/Throwable"), ("java/util/NoSuchElementException", "java/util/NoSuchElementException")]
def zNi : List (String × MethodName × MethodName) := [("SafeBuckets$Where", ⟨"SafeBuckets$Condition", "holds", "(II)Z"⟩, ⟨"SafeBuckets$Where", "holds", "(II)Z"⟩), ("SafeBuckets$Where", ⟨"SafeBuckets$Condition", "lower", "(LSafeBuckets$Sheet;)I"⟩, ⟨"SafeBuckets$Where", "lower", "(LSafeBuckets$Sheet;)I"⟩), ("SafeBuckets$Where", ⟨"SafeBuckets$Condition", "upper", "(LSafeBuckets$Sheet;)I"⟩, ⟨"SafeBuckets$Where", "upper", "(LSafeBuckets$Sheet;)I"⟩)]
def zNo : List String := ["SafeBuckets$Where", "SafeBuckets$Sheet", "SafeBuckets$Column", "SafeBuckets$Bucket", "SafeBuckets$State", "SafeBuckets$ToldTable", "SafeBuckets$Line", "SafeBuckets$Term", "SafeBuckets$Unit"]
/-- the constants: the four signs, the three texts of items and their bytes, what a throw asks of Throwable's statics -/
def ZSg (i : Nat) (nm E : String) (ad : Nat → Nat) (A : Nat → Prop) (U : State) (H : Heap) : Prop := va_Z "SafeBuckets$Sign" nm "LSafeBuckets$Sign;" (.ref (ad i)) A U H ∧ va_O E (ad i) A U H ∧ va_OF "SafeBuckets$Sign" "number" "I" (.int (nI i)) (ad i) A U H
theorem ZSg.moved {i : Nat} {nm E : String} {ad : Nat → Nat} {A : Nat → Prop} {u U : State} {H : Heap} (hvm : u.vm.Alike U.vm) (h : ZSg i nm E ad A u H) : ZSg i nm E ad A U H := ⟨va_Z.moved hvm h.1, va_O.moved hvm h.2.1, va_OF.moved hvm h.2.2⟩
theorem ZSg.kept {i : Nat} {nm E : String} {ad : Nat → Nat} {A : Nat → Prop} {U : State} {H H1 : Heap} (h : ZSg i nm E ad A U H) (hq : ∀ a : Nat, a < H.size → ¬ A a → H1[a]? = H[a]?) : ZSg i nm E ad A U H1 := ⟨h.1.kept hq, h.2.1.kept hq, h.2.2.kept hq⟩
theorem ZSg.narrow {i : Nat} {nm E : String} {ad : Nat → Nat} {A B : Nat → Prop} {U : State} {H : Heap} (h : ZSg i nm E ad A U H) (hAB : ∀ q, B q → A q) : ZSg i nm E ad B U H := ⟨h.1.narrow hAB, h.2.1.narrow hAB, h.2.2.narrow hAB⟩
def zLen : List Nat := [3, 1, 4]
def zByt : List (List Int32) := [[98, 100, 113], [118], [116, 97, 98, 110]]
def ZCh (ad : Nat → Nat) (A : Nat → Prop) (U : State) (H : Heap) : Prop :=
  (ZSg 0 "EQUAL" "SafeBuckets$Sign$1" ad A U H ∧ ZSg 1 "LESS" "SafeBuckets$Sign$2" ad A U H ∧ ZSg 2 "MORE" "SafeBuckets$Sign$3" ad A U H ∧ ZSg 3 "MISSING" "SafeBuckets$Sign$4" ad A U H) ∧
  vk_S 3 zLen zByt (fun i => ad (4 + i)) (fun i => ad (7 + i)) A U H ∧
  (va_Z "java/lang/String" "COMPACT_STRINGS" "Z" (.int 1) A U H ∧ vx_Zq "java/lang/Throwable" "UNASSIGNED_STACK" "[Ljava/lang/StackTraceElement;" A U H ∧ vx_Zq "java/lang/Throwable" "SUPPRESSED_SENTINEL" "Ljava/util/List;" A U H)
theorem ZCh.moved {ad : Nat → Nat} {A : Nat → Prop} {u U : State} {H : Heap} (hvm : u.vm.Alike U.vm) (h : ZCh ad A u H) : ZCh ad A U H :=
  ⟨⟨h.1.1.moved hvm, h.1.2.1.moved hvm, h.1.2.2.1.moved hvm, h.1.2.2.2.moved hvm⟩, vk_S.moved hvm h.2.1, va_Z.moved hvm h.2.2.1, vx_Zq.moved hvm h.2.2.2.1, vx_Zq.moved hvm h.2.2.2.2⟩
theorem ZCh.kept {ad : Nat → Nat} {A : Nat → Prop} {U : State} {H H1 : Heap} (h : ZCh ad A U H) (hq : ∀ a : Nat, a < H.size → ¬ A a → H1[a]? = H[a]?) : ZCh ad A U H1 :=
  ⟨⟨h.1.1.kept hq, h.1.2.1.kept hq, h.1.2.2.1.kept hq, h.1.2.2.2.kept hq⟩, h.2.1.kept hq, h.2.2.1.kept hq, h.2.2.2.1.kept hq, h.2.2.2.2.kept hq⟩
theorem ZCh.narrow {ad : Nat → Nat} {A B : Nat → Prop} {U : State} {H : Heap} (h : ZCh ad A U H) (hAB : ∀ q, B q → A q) : ZCh ad B U H :=
  ⟨⟨h.1.1.narrow hAB, h.1.2.1.narrow hAB, h.1.2.2.1.narrow hAB, h.1.2.2.2.narrow hAB⟩, h.2.1.narrow hAB, h.2.2.1.narrow hAB, h.2.2.2.1.narrow hAB, h.2.2.2.2.narrow hAB⟩
def ZCr (ad : Nat → Nat) (U : State) : Prop := vk_R "SafeBuckets$Rules" 9 "bdq" (ad 4) U ∧ vk_R "SafeBuckets$ToldTable" 9 "v" (ad 5) U ∧ vk_R "SafeBuckets$Line" 9 "tabn" (ad 6) U
/-- what the tables say that doesn't ride in the lists -/
def zAO (ty : FieldType) (U : State) : Prop := (Cond.arrayOver ty).before #[] U = true
theorem zAO.moved {ty : FieldType} {u U : State} (hvm : u.vm.Alike U.vm) (h : zAO ty u) : zAO ty U := by
  have h1 : (Cond.arrayOver ty).before #[] (u.setVm U.vm) = true := by rw [Cond.arrayOver_setVmC hvm]; exact h
  exact h1
theorem zCast.moved {a b : String} {u U : State} (hvm : u.vm.Alike U.vm) (h : va_Nw (.castable a b) u) : va_Nw (.castable a b) U := va_tabs rfl (rfl : (u.setVm U.vm).vm = U.vm) (by rw [Cond.castable_setVm hvm]; exact h)
/-- the tables' words that don't ride in the lists -/
def ZNw (U : State) : Prop := (∀ q ∈ zNf, va_Nw (.fieldLinkNest q.1 q.2.1 q.2.2.1 q.2.2.2.1 q.2.2.2.2.1 q.2.2.2.2.2) U) ∧ (∀ q ∈ zNm, va_Nw (.methodLinkNest q.1 q.2.1 q.2.2.1 q.2.2.2) U) ∧ (∀ x ∈ zNd, va_Nw (.declares x) U) ∧ (∀ q ∈ zNc, va_Nw (.castable q.1 q.2) U) ∧ (∀ q ∈ zNi, va_Fw q.1 q.2.1 q.2.2 U) ∧ (∀ c ∈ zNo, va_AO c U) ∧ zAO (.array .long) U ∧ zAO (.array .int) U
theorem zNi_ok : ∀ q ∈ zNi, q.2.1.cls ≠ "java/lang/invoke/MethodHandle" ∧ q.2.1.cls ≠ "java/lang/invoke/VarHandle" := by decide +kernel
theorem ZNw.warm {s U : State} (hW : s.WarmedH U.vm) (h : ZNw s) : ZNw U :=
  ⟨fun q hq => va_Nw.warmF hW (h.1 q hq), fun q hq => va_Nw.warmM hW (h.2.1 q hq), fun x hx => va_Nw.warmD hW (h.2.2.1 x hx), fun q hq => zCast.moved hW.alike (h.2.2.2.1 q hq), fun q hq => va_Fw.moved (zNi_ok q hq) hW.alike (h.2.2.2.2.1 q hq), fun c hc => va_AO.moved hW.alike (h.2.2.2.2.2.1 c hc), zAO.moved hW.alike h.2.2.2.2.2.2.1, zAO.moved hW.alike h.2.2.2.2.2.2.2⟩
theorem ZNw.same {u U : State} (hv : U.vm = u.vm) (h : ZNw u) : ZNw U := by
  have ha : u.vm.Alike U.vm := by rw [hv]; exact Vm.Alike.refl _
  exact ⟨fun q hq => va_Nw.same rfl hv.symm (h.1 q hq), fun q hq => va_Nw.same rfl hv.symm (h.2.1 q hq), fun x hx => va_Nw.same rfl hv.symm (h.2.2.1 x hx), fun q hq => va_Nw.same rfl hv.symm (h.2.2.2.1 q hq), fun q hq => va_Fw.moved (zNi_ok q hq) ha (h.2.2.2.2.1 q hq), fun c hc => va_AO.moved ha (h.2.2.2.2.2.1 c hc), zAO.moved ha h.2.2.2.2.2.2.1, zAO.moved ha h.2.2.2.2.2.2.2⟩
/-- what stays of a state all through a run -/
def ZS (D : ZD) (A : Nat → Prop) (U : State) : Prop := va_K D.1 zCl (zAt D.2.1) U ∧ ZNw U ∧ ZCr D.2.2 U ∧ ZCh D.2.2 A U U.heap
theorem ZCr.same {ad : Nat → Nat} {u U : State} (hv : U.vm = u.vm) (h : ZCr ad u) : ZCr ad U := ⟨vk_R.same hv h.1, vk_R.same hv h.2.1, vk_R.same hv h.2.2⟩
theorem ZCr.warm {ad : Nat → Nat} {s U : State} (hW : s.WarmedH U.vm) (h : ZCr ad s) : ZCr ad U := ⟨vk_R.warm hW h.1, vk_R.warm hW h.2.1, vk_R.warm hW h.2.2⟩
theorem ZS.calling {D : ZD} {A : Nat → Prop} {U : State} {g : JFrame} {mk : MethodId} {a : Array Value} (h : ZS D A U) : ZS D A (U.calling g mk a) :=
  ⟨va_K.moved (u := U) (Vm.Alike.refl U.vm) h.1, ZNw.same (u := U) rfl h.2.1, ZCr.same (u := U) rfl h.2.2.1, ZCh.moved (u := U) (Vm.Alike.refl U.vm) h.2.2.2⟩
/-- seen later, from a heap in which nothing outside A has changed, for a smaller B -/
theorem ZS.later {D : ZD} {A B : Nat → Prop} {s U : State} {locs : List Loc} (hW : s.WarmedH U.vm) (hS : va_S A s.heap U.heap locs) (hAB : ∀ q, B q → A q) (h : ZS D A s) : ZS D B U :=
  ⟨va_K.moved hW.alike h.1, h.2.1.warm hW, h.2.2.1.warm hW, ((h.2.2.2.moved hW.alike).kept hS.2.1).narrow hAB⟩
/-! an object's fields as a list -/
def zfs (ks : List Nat) (I : Nat → Int32) (L : Nat → Int64) (R : Nat → Nat) : List Value := ks.mapIdx fun i k => if k = 0 then .int (I i) else if k = 1 then .long (L i) else zv (R i)
theorem zfs_get {ks : List Nat} {I : Nat → Int32} {L : Nat → Int64} {R : Nat → Nat} {i k : Nat} (h : ks[i]? = some k) : (zfs ks I L R)[i]? = some (if k = 0 then .int (I i) else if k = 1 then .long (L i) else zv (R i)) := by
  simp [zfs, h]
theorem zfs_len {ks : List Nat} {I : Nat → Int32} {L : Nat → Int64} {R : Nat → Nat} : (zfs ks I L R).length = ks.length := by simp [zfs]
theorem zfs_ext {ks : List Nat} {I I' : Nat → Int32} {L L' : Nat → Int64} {R R' : Nat → Nat} (h : ∀ i k, ks[i]? = some k → (if k = 0 then Value.int (I i) else if k = 1 then .long (L i) else zv (R i)) = (if k = 0 then .int (I' i) else if k = 1 then .long (L' i) else zv (R' i))) : zfs ks I L R = zfs ks I' L' R' := by
  apply List.ext_getElem?
  intro i
  cases hk : ks[i]? with
  | none => simp [zfs, hk]
  | some k => rw [zfs_get hk, zfs_get hk, h i k hk]
theorem zfs_setI {ks : List Nat} {I : Nat → Int32} {L : Nat → Int64} {R : Nat → Nat} {i : Nat} {v : Int32} (h : ks[i]? = some 0) : (zfs ks I L R).set i (.int v) = zfs ks (fun j => if j = i then v else I j) L R := by
  apply List.ext_getElem?
  intro j
  rw [List.getElem?_set]
  have hl : i < ks.length := (List.getElem?_eq_some_iff.mp h).1
  cases hk : ks[j]? with
  | none =>
    have hij : i ≠ j := by intro e; subst e; rw [h] at hk; cases hk
    rw [if_neg hij]
    simp [zfs, hk]
  | some k =>
    by_cases hij : i = j
    · subst hij
      rw [h] at hk; cases hk
      rw [if_pos rfl, if_pos (by rw [zfs_len]; exact hl), zfs_get h]
      simp
    · have hji : ¬ j = i := fun e => hij e.symm
      rw [if_neg hij, zfs_get hk, zfs_get hk]
      simp only [hji, if_false]
theorem zfs_setL {ks : List Nat} {I : Nat → Int32} {L : Nat → Int64} {R : Nat → Nat} {i : Nat} {v : Int64} (h : ks[i]? = some 1) : (zfs ks I L R).set i (.long v) = zfs ks I (fun j => if j = i then v else L j) R := by
  apply List.ext_getElem?
  intro j
  rw [List.getElem?_set]
  have hl : i < ks.length := (List.getElem?_eq_some_iff.mp h).1
  cases hk : ks[j]? with
  | none =>
    have hij : i ≠ j := by intro e; subst e; rw [h] at hk; cases hk
    rw [if_neg hij]
    simp [zfs, hk]
  | some k =>
    by_cases hij : i = j
    · subst hij
      rw [h] at hk; cases hk
      rw [if_pos rfl, if_pos (by rw [zfs_len]; exact hl), zfs_get h]
      simp
    · have hji : ¬ j = i := fun e => hij e.symm
      rw [if_neg hij, zfs_get hk, zfs_get hk]
      simp only [hji, if_false]
theorem zfs_setR {ks : List Nat} {I : Nat → Int32} {L : Nat → Int64} {R : Nat → Nat} {i v : Nat} (h : ks[i]? = some 2) : (zfs ks I L R).set i (zv v) = zfs ks I L (fun j => if j = i then v else R j) := by
  apply List.ext_getElem?
  intro j
  rw [List.getElem?_set]
  have hl : i < ks.length := (List.getElem?_eq_some_iff.mp h).1
  cases hk : ks[j]? with
  | none =>
    have hij : i ≠ j := by intro e; subst e; rw [h] at hk; cases hk
    rw [if_neg hij]
    simp [zfs, hk]
  | some k =>
    by_cases hij : i = j
    · subst hij
      rw [h] at hk; cases hk
      rw [if_pos rfl, if_pos (by rw [zfs_len]; exact hl), zfs_get h]
      simp
    · have hji : ¬ j = i := fun e => hij e.symm
      rw [if_neg hij, zfs_get hk, zfs_get hk]
      simp only [hji, if_false]
/-- an array's contents -/
def zarr (t : Nat) (I : Nat → Int32) (L : Nat → Int64) (R : Nat → Nat) : (Nat → Int32) ⊕ (Nat → Int64) ⊕ (Nat → UInt32) ⊕ (Nat → UInt64) ⊕ (Nat → Option Nat) :=
  if t = 0 ∨ t = 2 then .inl I else if t = 1 then .inr (.inl L) else .inr (.inr (.inr (.inr (fun j => zo (R j)))))
/-- the cell with tag t -/
def zce (D : ZD) (t n : Nat) (I : Nat → Int32) (L : Nat → Int64) (R : Nat → Nat) : va_E :=
  if t < 50 then .inr (t - 1, zfs (zK (t - 1)) I L R) else .inl (D.2.1 (t - 50), n, zarr (t - 50) I L R)
/-- the memory is what the heap holds -/
def ZR (D : ZD) (A : Nat → Prop) (μ : ZM) (H : Heap) : Prop :=
  (∀ a, zT μ a ≠ 0 → ∃ n, a = n + 1 ∧ A n ∧ va_at D.1 zCl (n, zce D (zT μ a) (zN μ a) (zI μ a) (zL μ a) (zR μ a)) H) ∧ zE μ = fun i => D.2.2 i + 1
/-- how a method may make cells (al): its room, and what is left of it -/
def ZB (al : Bool) (n0 : Nat × Nat × Nat) (A : Nat → Prop) (R : Room) (s : State) (cells slots : Nat) (μ : ZM) (H : Heap) : Prop :=
  if al = true then zX μ = H.size + 1 ∧ (∀ q, s.heap.size ≤ q → A q) ∧ cells + zC μ = R.cells ∧ slots + zS μ = R.slots
  else H.size = s.heap.size ∧ cells = 0 ∧ slots = 0 ∧ (zX μ, zC μ, zS μ) = n0
def ZI (D : ZD) (A : Nat → Prop) (al : Bool) (n0 : Nat × Nat × Nat) (R : Room) (s : State) (cells slots : Nat) (μ : ZM) (H : Heap) (locs : List Loc) : Prop :=
  ZR D A μ H ∧ va_S A s.heap H locs ∧ ZB al n0 A R s cells slots μ H
/-- what is fixed all through a method's body -/
def ZF (p : Program) (R : Room) (s : State) (m : MethodId) (args : Array Value) (meth : Method) (c : Code) (cc : ByteArray) (nL : Nat) (own nm : String) (ret : Option FieldType) (D : ZD) (A : Nat → Prop) (al : Bool) (sz mc ms fr lo : Nat) : Prop :=
  p.tables.exec = Jvm.exec ∧ c.code = cc ∧ c.maxLocals = nL ∧ s.vm.findClass own = some m.cls ∧ (∀ w ∈ lw_all, w.before args s = true) ∧ ZS D A s ∧ meth.locks = false ∧ meth.sig.returnType = ret ∧ meth.name = nm ∧ R.cells = mc ∧ R.slots = ms ∧ (al = false → s.heap.size = sz ∧ mc = 0 ∧ ms = 0) ∧ R.frames = fr ∧ R.locals = lo
/-- THE JUDGEMENT: in every memory of which P holds, the machine at this frame comes to a state with Q -/
def ZW (p : Program) (l : Launch) (e : Env) (R : Room) (s : State) (m : MethodId) (args : Array Value) (below : List Frame) (meth : Method) (c : Code) (Q : State → Prop) (nL : Nat) (D : ZD) (A : Nat → Prop) (al : Bool) (n0 : Nat × Nat × Nat) (P : ZM → Prop) (pc : Nat) (L : List (Nat × Value)) (st : List Value) : Prop :=
  ∀ (μ : ZM) (H : Heap) (locs : List Loc) (cells slots : Nat) (ls : Array Slot), ZI D A al n0 R s cells slots μ H locs → lv_has ls nL L → P μ → W p l e R s m args below meth c H locs cells slots Q (F0 m pc ls st)
