/-! SafeBuckets$State -/
set_option maxRecDepth 100000
def RX2 : String := "SafeBuckets$State"
def TX2 : u_T := fun k => match k with
  | 0 => ("SafeBuckets$State", "sheets", "[LSafeBuckets$Sheet;", true)
  | 1 => ("SafeBuckets$State", "notes", "[I", true)
  | 2 => ("SafeBuckets$State", "budget", "I", false)
  | 3 => ("SafeBuckets$State", "noteMany", "I", false)
  | _ => ("SafeBuckets$State", "this$0", "LSafeBuckets;", true)
def tyX2 : Nat → FieldType := fun k => match k with
  | 0 => .array (.object "SafeBuckets$Sheet")
  | 1 => .array .int
  | 2 => .int
  | 3 => .int
  | _ => .object "SafeBuckets"
abbrev wsX20 : List Cond := u_ws RX2 TX2 5
theorem nmX2 : ∀ a, a < 5 → ∀ b, b < 5 → a ≠ b → (TX2 a).2.1 ≠ (TX2 b).2.1 := by decide +kernel
theorem tyX2_ok : ∀ k, k < 5 → parseFieldDescriptor (TX2 k).2.2.1 = some (tyX2 k) := by decide +kernel
abbrev cX2_init : ByteArray := prog_19_method_1_code
def yX2_init : MethodName := ⟨RX2, "<init>", "(LSafeBuckets;)V"⟩
def dkwX2_init_2 : List UInt8 := [42, 180, 0, 3, 183, 0, 17, 83, 181, 0, 20, 42, 17, 0, 180, 188, 10, 181, 0, 24, 177]
abbrev dktX2_init_2 : List UInt8 := dkwX2_init_2 ++ []
def dkwX2_init_1 : List UInt8 := [183, 0, 17, 83, 89, 4, 187, 0, 15, 89, 42, 180, 0, 3, 183, 0, 17, 83, 89, 5, 187, 0, 15, 89]
abbrev dktX2_init_1 : List UInt8 := dkwX2_init_1 ++ dktX2_init_2
def dkwX2_init_0 : List UInt8 := [42, 43, 181, 0, 3, 42, 183, 0, 9, 42, 6, 189, 0, 15, 89, 3, 187, 0, 15, 89, 42, 180, 0, 3]
abbrev dktX2_init_0 : List UInt8 := dkwX2_init_0 ++ dktX2_init_1
theorem dksX2_init_0 : cX2_init.data.toList.drop 0 = dktX2_init_0 := by decide +kernel
theorem dksX2_init_1 : cX2_init.data.toList.drop 24 = dktX2_init_1 := dk_seg dksX2_init_0 24 rfl rfl
theorem dksX2_init_2 : cX2_init.data.toList.drop 48 = dktX2_init_2 := dk_seg dksX2_init_1 24 rfl rfl
theorem dX2_init_0 : decode cX2_init 0 = .ok (.aload_n 0, 1) := dk_42 (dk_at dksX2_init_0 0 rfl rfl)
theorem dX2_init_1 : decode cX2_init 1 = .ok (.aload_n 1, 1) := dk_43 (dk_at dksX2_init_0 1 rfl rfl)
theorem dX2_init_2 : decode cX2_init 2 = .ok (.putfield 3, 3) := dk_181 0 3 (dk_at dksX2_init_0 2 rfl rfl)
theorem dX2_init_5 : decode cX2_init 5 = .ok (.aload_n 0, 1) := dk_42 (dk_at dksX2_init_0 5 rfl rfl)
theorem dX2_init_6 : decode cX2_init 6 = .ok (.invokespecial 9, 3) := dk_183 0 9 (dk_at dksX2_init_0 6 rfl rfl)
theorem dX2_init_9 : decode cX2_init 9 = .ok (.aload_n 0, 1) := dk_42 (dk_at dksX2_init_0 9 rfl rfl)
theorem dX2_init_10 : decode cX2_init 10 = .ok (.iconst 3, 1) := dk_6 (dk_at dksX2_init_0 10 rfl rfl)
theorem dX2_init_11 : decode cX2_init 11 = .ok (.anewarray 15, 3) := dk_189 0 15 (dk_at dksX2_init_0 11 rfl rfl)
theorem dX2_init_14 : decode cX2_init 14 = .ok (.dup, 1) := dk_89 (dk_at dksX2_init_0 14 rfl rfl)
theorem dX2_init_15 : decode cX2_init 15 = .ok (.iconst 0, 1) := dk_3 (dk_at dksX2_init_0 15 rfl rfl)
theorem dX2_init_16 : decode cX2_init 16 = .ok (.new 15, 3) := dk_187 0 15 (dk_at dksX2_init_0 16 rfl rfl)
theorem dX2_init_19 : decode cX2_init 19 = .ok (.dup, 1) := dk_89 (dk_at dksX2_init_0 19 rfl rfl)
theorem dX2_init_20 : decode cX2_init 20 = .ok (.aload_n 0, 1) := dk_42 (dk_at dksX2_init_0 20 rfl rfl)
theorem dX2_init_21 : decode cX2_init 21 = .ok (.getfield 3, 3) := dk_180 0 3 (dk_at dksX2_init_0 21 rfl rfl)
theorem dX2_init_24 : decode cX2_init 24 = .ok (.invokespecial 17, 3) := dk_183 0 17 (dk_at dksX2_init_1 0 rfl rfl)
theorem dX2_init_27 : decode cX2_init 27 = .ok (.aastore, 1) := dk_83 (dk_at dksX2_init_1 3 rfl rfl)
theorem dX2_init_28 : decode cX2_init 28 = .ok (.dup, 1) := dk_89 (dk_at dksX2_init_1 4 rfl rfl)
theorem dX2_init_29 : decode cX2_init 29 = .ok (.iconst 1, 1) := dk_4 (dk_at dksX2_init_1 5 rfl rfl)
theorem dX2_init_30 : decode cX2_init 30 = .ok (.new 15, 3) := dk_187 0 15 (dk_at dksX2_init_1 6 rfl rfl)
theorem dX2_init_33 : decode cX2_init 33 = .ok (.dup, 1) := dk_89 (dk_at dksX2_init_1 9 rfl rfl)
theorem dX2_init_34 : decode cX2_init 34 = .ok (.aload_n 0, 1) := dk_42 (dk_at dksX2_init_1 10 rfl rfl)
theorem dX2_init_35 : decode cX2_init 35 = .ok (.getfield 3, 3) := dk_180 0 3 (dk_at dksX2_init_1 11 rfl rfl)
theorem dX2_init_38 : decode cX2_init 38 = .ok (.invokespecial 17, 3) := dk_183 0 17 (dk_at dksX2_init_1 14 rfl rfl)
theorem dX2_init_41 : decode cX2_init 41 = .ok (.aastore, 1) := dk_83 (dk_at dksX2_init_1 17 rfl rfl)
theorem dX2_init_42 : decode cX2_init 42 = .ok (.dup, 1) := dk_89 (dk_at dksX2_init_1 18 rfl rfl)
theorem dX2_init_43 : decode cX2_init 43 = .ok (.iconst 2, 1) := dk_5 (dk_at dksX2_init_1 19 rfl rfl)
theorem dX2_init_44 : decode cX2_init 44 = .ok (.new 15, 3) := dk_187 0 15 (dk_at dksX2_init_1 20 rfl rfl)
theorem dX2_init_47 : decode cX2_init 47 = .ok (.dup, 1) := dk_89 (dk_at dksX2_init_1 23 rfl rfl)
theorem dX2_init_48 : decode cX2_init 48 = .ok (.aload_n 0, 1) := dk_42 (dk_at dksX2_init_2 0 rfl rfl)
theorem dX2_init_49 : decode cX2_init 49 = .ok (.getfield 3, 3) := dk_180 0 3 (dk_at dksX2_init_2 1 rfl rfl)
theorem dX2_init_52 : decode cX2_init 52 = .ok (.invokespecial 17, 3) := dk_183 0 17 (dk_at dksX2_init_2 4 rfl rfl)
theorem dX2_init_55 : decode cX2_init 55 = .ok (.aastore, 1) := dk_83 (dk_at dksX2_init_2 7 rfl rfl)
theorem dX2_init_56 : decode cX2_init 56 = .ok (.putfield 20, 3) := dk_181 0 20 (dk_at dksX2_init_2 8 rfl rfl)
theorem dX2_init_59 : decode cX2_init 59 = .ok (.aload_n 0, 1) := dk_42 (dk_at dksX2_init_2 11 rfl rfl)
theorem dX2_init_60 : decode cX2_init 60 = .ok (.sipush 180, 3) := dk_17 0 180 (dk_at dksX2_init_2 12 rfl rfl)
theorem dX2_init_63 : decode cX2_init 63 = .ok (.newarray .int, 2) := dk_188_10 (dk_at dksX2_init_2 15 rfl rfl)
theorem dX2_init_65 : decode cX2_init 65 = .ok (.putfield 24, 3) := dk_181 0 24 (dk_at dksX2_init_2 17 rfl rfl)
theorem dX2_init_68 : decode cX2_init 68 = .ok (.return_, 1) := dk_177 (dk_at dksX2_init_2 20 rfl rfl)
abbrev cX2_starts : ByteArray := prog_19_method_2_code
def yX2_starts : MethodName := ⟨RX2, "starts", "()V"⟩
def dkwX2_starts_7 : List UInt8 := [181, 0, 75, 177]
abbrev dktX2_starts_7 : List UInt8 := dkwX2_starts_7 ++ []
def dkwX2_starts_6 : List UInt8 := [167, 255, 216, 42, 42, 180, 0, 3, 180, 0, 28, 180, 0, 65, 180, 0, 69, 5, 46, 181, 0, 72, 42, 3]
abbrev dktX2_starts_6 : List UInt8 := dkwX2_starts_6 ++ dktX2_starts_7
def dkwX2_starts_5 : List UInt8 := [28, 5, 162, 0, 19, 42, 180, 0, 20, 27, 50, 28, 182, 0, 62, 132, 2, 1, 167, 255, 238, 132, 1, 1]
abbrev dktX2_starts_5 : List UInt8 := dkwX2_starts_5 ++ dktX2_starts_6
def dkwX2_starts_4 : List UInt8 := [132, 1, 1, 167, 255, 203, 3, 60, 27, 42, 180, 0, 3, 180, 0, 28, 180, 0, 32, 162, 0, 32, 3, 61]
abbrev dktX2_starts_4 : List UInt8 := dkwX2_starts_4 ++ dktX2_starts_5
def dkwX2_starts_3 : List UInt8 := [180, 0, 53, 77, 42, 180, 0, 20, 44, 3, 46, 50, 44, 4, 46, 44, 5, 46, 44, 6, 46, 182, 0, 58]
abbrev dktX2_starts_3 : List UInt8 := dkwX2_starts_3 ++ dktX2_starts_4
def dkwX2_starts_2 : List UInt8 := [180, 0, 3, 180, 0, 28, 180, 0, 46, 162, 0, 45, 42, 180, 0, 3, 180, 0, 28, 180, 0, 49, 27, 50]
abbrev dktX2_starts_2 : List UInt8 := dkwX2_starts_2 ++ dktX2_starts_3
def dkwX2_starts_1 : List UInt8 := [180, 0, 3, 180, 0, 28, 27, 182, 0, 38, 182, 0, 42, 132, 1, 1, 167, 255, 219, 3, 60, 27, 42]
abbrev dktX2_starts_1 : List UInt8 := dkwX2_starts_1 ++ dktX2_starts_2
def dkwX2_starts_0 : List UInt8 := [3, 60, 27, 42, 180, 0, 3, 180, 0, 28, 180, 0, 32, 162, 0, 29, 42, 180, 0, 20, 27, 50, 42]
abbrev dktX2_starts_0 : List UInt8 := dkwX2_starts_0 ++ dktX2_starts_1
theorem dksX2_starts_0 : cX2_starts.data.toList.drop 0 = dktX2_starts_0 := by decide +kernel
theorem dksX2_starts_1 : cX2_starts.data.toList.drop 23 = dktX2_starts_1 := dk_seg dksX2_starts_0 23 rfl rfl
theorem dksX2_starts_2 : cX2_starts.data.toList.drop 46 = dktX2_starts_2 := dk_seg dksX2_starts_1 23 rfl rfl
theorem dksX2_starts_3 : cX2_starts.data.toList.drop 70 = dktX2_starts_3 := dk_seg dksX2_starts_2 24 rfl rfl
theorem dksX2_starts_4 : cX2_starts.data.toList.drop 94 = dktX2_starts_4 := dk_seg dksX2_starts_3 24 rfl rfl
theorem dksX2_starts_5 : cX2_starts.data.toList.drop 118 = dktX2_starts_5 := dk_seg dksX2_starts_4 24 rfl rfl
theorem dksX2_starts_6 : cX2_starts.data.toList.drop 142 = dktX2_starts_6 := dk_seg dksX2_starts_5 24 rfl rfl
theorem dksX2_starts_7 : cX2_starts.data.toList.drop 166 = dktX2_starts_7 := dk_seg dksX2_starts_6 24 rfl rfl
theorem dX2_starts_0 : decode cX2_starts 0 = .ok (.iconst 0, 1) := dk_3 (dk_at dksX2_starts_0 0 rfl rfl)
theorem dX2_starts_1 : decode cX2_starts 1 = .ok (.istore_n 1, 1) := dk_60 (dk_at dksX2_starts_0 1 rfl rfl)
theorem dX2_starts_2 : decode cX2_starts 2 = .ok (.iload_n 1, 1) := dk_27 (dk_at dksX2_starts_0 2 rfl rfl)
theorem dX2_starts_3 : decode cX2_starts 3 = .ok (.aload_n 0, 1) := dk_42 (dk_at dksX2_starts_0 3 rfl rfl)
theorem dX2_starts_4 : decode cX2_starts 4 = .ok (.getfield 3, 3) := dk_180 0 3 (dk_at dksX2_starts_0 4 rfl rfl)
theorem dX2_starts_7 : decode cX2_starts 7 = .ok (.getfield 28, 3) := dk_180 0 28 (dk_at dksX2_starts_0 7 rfl rfl)
theorem dX2_starts_10 : decode cX2_starts 10 = .ok (.getfield 32, 3) := dk_180 0 32 (dk_at dksX2_starts_0 10 rfl rfl)
theorem dX2_starts_13 : decode cX2_starts 13 = .ok (.if_icmp .ge 29, 3) := dk_162 0 29 (dk_at dksX2_starts_0 13 rfl rfl)
theorem dX2_starts_16 : decode cX2_starts 16 = .ok (.aload_n 0, 1) := dk_42 (dk_at dksX2_starts_0 16 rfl rfl)
theorem dX2_starts_17 : decode cX2_starts 17 = .ok (.getfield 20, 3) := dk_180 0 20 (dk_at dksX2_starts_0 17 rfl rfl)
theorem dX2_starts_20 : decode cX2_starts 20 = .ok (.iload_n 1, 1) := dk_27 (dk_at dksX2_starts_0 20 rfl rfl)
theorem dX2_starts_21 : decode cX2_starts 21 = .ok (.aaload, 1) := dk_50 (dk_at dksX2_starts_0 21 rfl rfl)
theorem dX2_starts_22 : decode cX2_starts 22 = .ok (.aload_n 0, 1) := dk_42 (dk_at dksX2_starts_0 22 rfl rfl)
theorem dX2_starts_23 : decode cX2_starts 23 = .ok (.getfield 3, 3) := dk_180 0 3 (dk_at dksX2_starts_1 0 rfl rfl)
theorem dX2_starts_26 : decode cX2_starts 26 = .ok (.getfield 28, 3) := dk_180 0 28 (dk_at dksX2_starts_1 3 rfl rfl)
theorem dX2_starts_29 : decode cX2_starts 29 = .ok (.iload_n 1, 1) := dk_27 (dk_at dksX2_starts_1 6 rfl rfl)
theorem dX2_starts_30 : decode cX2_starts 30 = .ok (.invokevirtual 38, 3) := dk_182 0 38 (dk_at dksX2_starts_1 7 rfl rfl)
theorem dX2_starts_33 : decode cX2_starts 33 = .ok (.invokevirtual 42, 3) := dk_182 0 42 (dk_at dksX2_starts_1 10 rfl rfl)
theorem dX2_starts_36 : decode cX2_starts 36 = .ok (.iinc 1 1, 3) := dk_132 1 1 (dk_at dksX2_starts_1 13 rfl rfl)
theorem dX2_starts_39 : decode cX2_starts 39 = .ok (.goto (-37), 3) := dk_167 255 219 (dk_at dksX2_starts_1 16 rfl rfl)
theorem dX2_starts_42 : decode cX2_starts 42 = .ok (.iconst 0, 1) := dk_3 (dk_at dksX2_starts_1 19 rfl rfl)
theorem dX2_starts_43 : decode cX2_starts 43 = .ok (.istore_n 1, 1) := dk_60 (dk_at dksX2_starts_1 20 rfl rfl)
theorem dX2_starts_44 : decode cX2_starts 44 = .ok (.iload_n 1, 1) := dk_27 (dk_at dksX2_starts_1 21 rfl rfl)
theorem dX2_starts_45 : decode cX2_starts 45 = .ok (.aload_n 0, 1) := dk_42 (dk_at dksX2_starts_1 22 rfl rfl)
theorem dX2_starts_46 : decode cX2_starts 46 = .ok (.getfield 3, 3) := dk_180 0 3 (dk_at dksX2_starts_2 0 rfl rfl)
theorem dX2_starts_49 : decode cX2_starts 49 = .ok (.getfield 28, 3) := dk_180 0 28 (dk_at dksX2_starts_2 3 rfl rfl)
theorem dX2_starts_52 : decode cX2_starts 52 = .ok (.getfield 46, 3) := dk_180 0 46 (dk_at dksX2_starts_2 6 rfl rfl)
theorem dX2_starts_55 : decode cX2_starts 55 = .ok (.if_icmp .ge 45, 3) := dk_162 0 45 (dk_at dksX2_starts_2 9 rfl rfl)
theorem dX2_starts_58 : decode cX2_starts 58 = .ok (.aload_n 0, 1) := dk_42 (dk_at dksX2_starts_2 12 rfl rfl)
theorem dX2_starts_59 : decode cX2_starts 59 = .ok (.getfield 3, 3) := dk_180 0 3 (dk_at dksX2_starts_2 13 rfl rfl)
theorem dX2_starts_62 : decode cX2_starts 62 = .ok (.getfield 28, 3) := dk_180 0 28 (dk_at dksX2_starts_2 16 rfl rfl)
theorem dX2_starts_65 : decode cX2_starts 65 = .ok (.getfield 49, 3) := dk_180 0 49 (dk_at dksX2_starts_2 19 rfl rfl)
theorem dX2_starts_68 : decode cX2_starts 68 = .ok (.iload_n 1, 1) := dk_27 (dk_at dksX2_starts_2 22 rfl rfl)
theorem dX2_starts_69 : decode cX2_starts 69 = .ok (.aaload, 1) := dk_50 (dk_at dksX2_starts_2 23 rfl rfl)
theorem dX2_starts_70 : decode cX2_starts 70 = .ok (.getfield 53, 3) := dk_180 0 53 (dk_at dksX2_starts_3 0 rfl rfl)
theorem dX2_starts_73 : decode cX2_starts 73 = .ok (.astore_n 2, 1) := dk_77 (dk_at dksX2_starts_3 3 rfl rfl)
theorem dX2_starts_74 : decode cX2_starts 74 = .ok (.aload_n 0, 1) := dk_42 (dk_at dksX2_starts_3 4 rfl rfl)
theorem dX2_starts_75 : decode cX2_starts 75 = .ok (.getfield 20, 3) := dk_180 0 20 (dk_at dksX2_starts_3 5 rfl rfl)
theorem dX2_starts_78 : decode cX2_starts 78 = .ok (.aload_n 2, 1) := dk_44 (dk_at dksX2_starts_3 8 rfl rfl)
theorem dX2_starts_79 : decode cX2_starts 79 = .ok (.iconst 0, 1) := dk_3 (dk_at dksX2_starts_3 9 rfl rfl)
theorem dX2_starts_80 : decode cX2_starts 80 = .ok (.iaload, 1) := dk_46 (dk_at dksX2_starts_3 10 rfl rfl)
theorem dX2_starts_81 : decode cX2_starts 81 = .ok (.aaload, 1) := dk_50 (dk_at dksX2_starts_3 11 rfl rfl)
theorem dX2_starts_82 : decode cX2_starts 82 = .ok (.aload_n 2, 1) := dk_44 (dk_at dksX2_starts_3 12 rfl rfl)
theorem dX2_starts_83 : decode cX2_starts 83 = .ok (.iconst 1, 1) := dk_4 (dk_at dksX2_starts_3 13 rfl rfl)
theorem dX2_starts_84 : decode cX2_starts 84 = .ok (.iaload, 1) := dk_46 (dk_at dksX2_starts_3 14 rfl rfl)
theorem dX2_starts_85 : decode cX2_starts 85 = .ok (.aload_n 2, 1) := dk_44 (dk_at dksX2_starts_3 15 rfl rfl)
theorem dX2_starts_86 : decode cX2_starts 86 = .ok (.iconst 2, 1) := dk_5 (dk_at dksX2_starts_3 16 rfl rfl)
theorem dX2_starts_87 : decode cX2_starts 87 = .ok (.iaload, 1) := dk_46 (dk_at dksX2_starts_3 17 rfl rfl)
theorem dX2_starts_88 : decode cX2_starts 88 = .ok (.aload_n 2, 1) := dk_44 (dk_at dksX2_starts_3 18 rfl rfl)
theorem dX2_starts_89 : decode cX2_starts 89 = .ok (.iconst 3, 1) := dk_6 (dk_at dksX2_starts_3 19 rfl rfl)
theorem dX2_starts_90 : decode cX2_starts 90 = .ok (.iaload, 1) := dk_46 (dk_at dksX2_starts_3 20 rfl rfl)
theorem dX2_starts_91 : decode cX2_starts 91 = .ok (.invokevirtual 58, 3) := dk_182 0 58 (dk_at dksX2_starts_3 21 rfl rfl)
theorem dX2_starts_94 : decode cX2_starts 94 = .ok (.iinc 1 1, 3) := dk_132 1 1 (dk_at dksX2_starts_4 0 rfl rfl)
theorem dX2_starts_97 : decode cX2_starts 97 = .ok (.goto (-53), 3) := dk_167 255 203 (dk_at dksX2_starts_4 3 rfl rfl)
theorem dX2_starts_100 : decode cX2_starts 100 = .ok (.iconst 0, 1) := dk_3 (dk_at dksX2_starts_4 6 rfl rfl)
theorem dX2_starts_101 : decode cX2_starts 101 = .ok (.istore_n 1, 1) := dk_60 (dk_at dksX2_starts_4 7 rfl rfl)
theorem dX2_starts_102 : decode cX2_starts 102 = .ok (.iload_n 1, 1) := dk_27 (dk_at dksX2_starts_4 8 rfl rfl)
theorem dX2_starts_103 : decode cX2_starts 103 = .ok (.aload_n 0, 1) := dk_42 (dk_at dksX2_starts_4 9 rfl rfl)
theorem dX2_starts_104 : decode cX2_starts 104 = .ok (.getfield 3, 3) := dk_180 0 3 (dk_at dksX2_starts_4 10 rfl rfl)
theorem dX2_starts_107 : decode cX2_starts 107 = .ok (.getfield 28, 3) := dk_180 0 28 (dk_at dksX2_starts_4 13 rfl rfl)
theorem dX2_starts_110 : decode cX2_starts 110 = .ok (.getfield 32, 3) := dk_180 0 32 (dk_at dksX2_starts_4 16 rfl rfl)
theorem dX2_starts_113 : decode cX2_starts 113 = .ok (.if_icmp .ge 32, 3) := dk_162 0 32 (dk_at dksX2_starts_4 19 rfl rfl)
theorem dX2_starts_116 : decode cX2_starts 116 = .ok (.iconst 0, 1) := dk_3 (dk_at dksX2_starts_4 22 rfl rfl)
theorem dX2_starts_117 : decode cX2_starts 117 = .ok (.istore_n 2, 1) := dk_61 (dk_at dksX2_starts_4 23 rfl rfl)
theorem dX2_starts_118 : decode cX2_starts 118 = .ok (.iload_n 2, 1) := dk_28 (dk_at dksX2_starts_5 0 rfl rfl)
theorem dX2_starts_119 : decode cX2_starts 119 = .ok (.iconst 2, 1) := dk_5 (dk_at dksX2_starts_5 1 rfl rfl)
theorem dX2_starts_120 : decode cX2_starts 120 = .ok (.if_icmp .ge 19, 3) := dk_162 0 19 (dk_at dksX2_starts_5 2 rfl rfl)
theorem dX2_starts_123 : decode cX2_starts 123 = .ok (.aload_n 0, 1) := dk_42 (dk_at dksX2_starts_5 5 rfl rfl)
theorem dX2_starts_124 : decode cX2_starts 124 = .ok (.getfield 20, 3) := dk_180 0 20 (dk_at dksX2_starts_5 6 rfl rfl)
theorem dX2_starts_127 : decode cX2_starts 127 = .ok (.iload_n 1, 1) := dk_27 (dk_at dksX2_starts_5 9 rfl rfl)
theorem dX2_starts_128 : decode cX2_starts 128 = .ok (.aaload, 1) := dk_50 (dk_at dksX2_starts_5 10 rfl rfl)
theorem dX2_starts_129 : decode cX2_starts 129 = .ok (.iload_n 2, 1) := dk_28 (dk_at dksX2_starts_5 11 rfl rfl)
theorem dX2_starts_130 : decode cX2_starts 130 = .ok (.invokevirtual 62, 3) := dk_182 0 62 (dk_at dksX2_starts_5 12 rfl rfl)
theorem dX2_starts_133 : decode cX2_starts 133 = .ok (.iinc 2 1, 3) := dk_132 2 1 (dk_at dksX2_starts_5 15 rfl rfl)
theorem dX2_starts_136 : decode cX2_starts 136 = .ok (.goto (-18), 3) := dk_167 255 238 (dk_at dksX2_starts_5 18 rfl rfl)
theorem dX2_starts_139 : decode cX2_starts 139 = .ok (.iinc 1 1, 3) := dk_132 1 1 (dk_at dksX2_starts_5 21 rfl rfl)
theorem dX2_starts_142 : decode cX2_starts 142 = .ok (.goto (-40), 3) := dk_167 255 216 (dk_at dksX2_starts_6 0 rfl rfl)
theorem dX2_starts_145 : decode cX2_starts 145 = .ok (.aload_n 0, 1) := dk_42 (dk_at dksX2_starts_6 3 rfl rfl)
theorem dX2_starts_146 : decode cX2_starts 146 = .ok (.aload_n 0, 1) := dk_42 (dk_at dksX2_starts_6 4 rfl rfl)
theorem dX2_starts_147 : decode cX2_starts 147 = .ok (.getfield 3, 3) := dk_180 0 3 (dk_at dksX2_starts_6 5 rfl rfl)
theorem dX2_starts_150 : decode cX2_starts 150 = .ok (.getfield 28, 3) := dk_180 0 28 (dk_at dksX2_starts_6 8 rfl rfl)
theorem dX2_starts_153 : decode cX2_starts 153 = .ok (.getfield 65, 3) := dk_180 0 65 (dk_at dksX2_starts_6 11 rfl rfl)
theorem dX2_starts_156 : decode cX2_starts 156 = .ok (.getfield 69, 3) := dk_180 0 69 (dk_at dksX2_starts_6 14 rfl rfl)
theorem dX2_starts_159 : decode cX2_starts 159 = .ok (.iconst 2, 1) := dk_5 (dk_at dksX2_starts_6 17 rfl rfl)
theorem dX2_starts_160 : decode cX2_starts 160 = .ok (.iaload, 1) := dk_46 (dk_at dksX2_starts_6 18 rfl rfl)
theorem dX2_starts_161 : decode cX2_starts 161 = .ok (.putfield 72, 3) := dk_181 0 72 (dk_at dksX2_starts_6 19 rfl rfl)
theorem dX2_starts_164 : decode cX2_starts 164 = .ok (.aload_n 0, 1) := dk_42 (dk_at dksX2_starts_6 22 rfl rfl)
theorem dX2_starts_165 : decode cX2_starts 165 = .ok (.iconst 0, 1) := dk_3 (dk_at dksX2_starts_6 23 rfl rfl)
theorem dX2_starts_166 : decode cX2_starts 166 = .ok (.putfield 75, 3) := dk_181 0 75 (dk_at dksX2_starts_7 0 rfl rfl)
theorem dX2_starts_169 : decode cX2_starts 169 = .ok (.return_, 1) := dk_177 (dk_at dksX2_starts_7 3 rfl rfl)
abbrev cX2_becomes : ByteArray := prog_19_method_3_code
def yX2_becomes : MethodName := ⟨RX2, "becomes", "(LSafeBuckets$State;)V"⟩
def dkwX2_becomes_3 : List UInt8 := [181, 0, 75, 177]
abbrev dktX2_becomes_3 : List UInt8 := dkwX2_becomes_3 ++ []
def dkwX2_becomes_2 : List UInt8 := [6, 43, 180, 0, 75, 104, 184, 0, 82, 42, 43, 180, 0, 72, 181, 0, 72, 42, 43, 180, 0, 75]
abbrev dktX2_becomes_2 : List UInt8 := dkwX2_becomes_2 ++ dktX2_becomes_3
def dkwX2_becomes_1 : List UInt8 := [180, 0, 20, 28, 50, 182, 0, 78, 132, 2, 1, 167, 255, 224, 43, 180, 0, 24, 3, 42, 180, 0, 24, 3]
abbrev dktX2_becomes_1 : List UInt8 := dkwX2_becomes_1 ++ dktX2_becomes_2
def dkwX2_becomes_0 : List UInt8 := [3, 61, 28, 42, 180, 0, 3, 180, 0, 28, 180, 0, 32, 162, 0, 24, 42, 180, 0, 20, 28, 50, 43]
abbrev dktX2_becomes_0 : List UInt8 := dkwX2_becomes_0 ++ dktX2_becomes_1
theorem dksX2_becomes_0 : cX2_becomes.data.toList.drop 0 = dktX2_becomes_0 := by decide +kernel
theorem dksX2_becomes_1 : cX2_becomes.data.toList.drop 23 = dktX2_becomes_1 := dk_seg dksX2_becomes_0 23 rfl rfl
theorem dksX2_becomes_2 : cX2_becomes.data.toList.drop 47 = dktX2_becomes_2 := dk_seg dksX2_becomes_1 24 rfl rfl
theorem dksX2_becomes_3 : cX2_becomes.data.toList.drop 69 = dktX2_becomes_3 := dk_seg dksX2_becomes_2 22 rfl rfl
theorem dX2_becomes_0 : decode cX2_becomes 0 = .ok (.iconst 0, 1) := dk_3 (dk_at dksX2_becomes_0 0 rfl rfl)
theorem dX2_becomes_1 : decode cX2_becomes 1 = .ok (.istore_n 2, 1) := dk_61 (dk_at dksX2_becomes_0 1 rfl rfl)
theorem dX2_becomes_2 : decode cX2_becomes 2 = .ok (.iload_n 2, 1) := dk_28 (dk_at dksX2_becomes_0 2 rfl rfl)
theorem dX2_becomes_3 : decode cX2_becomes 3 = .ok (.aload_n 0, 1) := dk_42 (dk_at dksX2_becomes_0 3 rfl rfl)
theorem dX2_becomes_4 : decode cX2_becomes 4 = .ok (.getfield 3, 3) := dk_180 0 3 (dk_at dksX2_becomes_0 4 rfl rfl)
theorem dX2_becomes_7 : decode cX2_becomes 7 = .ok (.getfield 28, 3) := dk_180 0 28 (dk_at dksX2_becomes_0 7 rfl rfl)
theorem dX2_becomes_10 : decode cX2_becomes 10 = .ok (.getfield 32, 3) := dk_180 0 32 (dk_at dksX2_becomes_0 10 rfl rfl)
theorem dX2_becomes_13 : decode cX2_becomes 13 = .ok (.if_icmp .ge 24, 3) := dk_162 0 24 (dk_at dksX2_becomes_0 13 rfl rfl)
theorem dX2_becomes_16 : decode cX2_becomes 16 = .ok (.aload_n 0, 1) := dk_42 (dk_at dksX2_becomes_0 16 rfl rfl)
theorem dX2_becomes_17 : decode cX2_becomes 17 = .ok (.getfield 20, 3) := dk_180 0 20 (dk_at dksX2_becomes_0 17 rfl rfl)
theorem dX2_becomes_20 : decode cX2_becomes 20 = .ok (.iload_n 2, 1) := dk_28 (dk_at dksX2_becomes_0 20 rfl rfl)
theorem dX2_becomes_21 : decode cX2_becomes 21 = .ok (.aaload, 1) := dk_50 (dk_at dksX2_becomes_0 21 rfl rfl)
theorem dX2_becomes_22 : decode cX2_becomes 22 = .ok (.aload_n 1, 1) := dk_43 (dk_at dksX2_becomes_0 22 rfl rfl)
theorem dX2_becomes_23 : decode cX2_becomes 23 = .ok (.getfield 20, 3) := dk_180 0 20 (dk_at dksX2_becomes_1 0 rfl rfl)
theorem dX2_becomes_26 : decode cX2_becomes 26 = .ok (.iload_n 2, 1) := dk_28 (dk_at dksX2_becomes_1 3 rfl rfl)
theorem dX2_becomes_27 : decode cX2_becomes 27 = .ok (.aaload, 1) := dk_50 (dk_at dksX2_becomes_1 4 rfl rfl)
theorem dX2_becomes_28 : decode cX2_becomes 28 = .ok (.invokevirtual 78, 3) := dk_182 0 78 (dk_at dksX2_becomes_1 5 rfl rfl)
theorem dX2_becomes_31 : decode cX2_becomes 31 = .ok (.iinc 2 1, 3) := dk_132 2 1 (dk_at dksX2_becomes_1 8 rfl rfl)
theorem dX2_becomes_34 : decode cX2_becomes 34 = .ok (.goto (-32), 3) := dk_167 255 224 (dk_at dksX2_becomes_1 11 rfl rfl)
theorem dX2_becomes_37 : decode cX2_becomes 37 = .ok (.aload_n 1, 1) := dk_43 (dk_at dksX2_becomes_1 14 rfl rfl)
theorem dX2_becomes_38 : decode cX2_becomes 38 = .ok (.getfield 24, 3) := dk_180 0 24 (dk_at dksX2_becomes_1 15 rfl rfl)
theorem dX2_becomes_41 : decode cX2_becomes 41 = .ok (.iconst 0, 1) := dk_3 (dk_at dksX2_becomes_1 18 rfl rfl)
theorem dX2_becomes_42 : decode cX2_becomes 42 = .ok (.aload_n 0, 1) := dk_42 (dk_at dksX2_becomes_1 19 rfl rfl)
theorem dX2_becomes_43 : decode cX2_becomes 43 = .ok (.getfield 24, 3) := dk_180 0 24 (dk_at dksX2_becomes_1 20 rfl rfl)
theorem dX2_becomes_46 : decode cX2_becomes 46 = .ok (.iconst 0, 1) := dk_3 (dk_at dksX2_becomes_1 23 rfl rfl)
theorem dX2_becomes_47 : decode cX2_becomes 47 = .ok (.iconst 3, 1) := dk_6 (dk_at dksX2_becomes_2 0 rfl rfl)
theorem dX2_becomes_48 : decode cX2_becomes 48 = .ok (.aload_n 1, 1) := dk_43 (dk_at dksX2_becomes_2 1 rfl rfl)
theorem dX2_becomes_49 : decode cX2_becomes 49 = .ok (.getfield 75, 3) := dk_180 0 75 (dk_at dksX2_becomes_2 2 rfl rfl)
theorem dX2_becomes_52 : decode cX2_becomes 52 = .ok (.imul, 1) := dk_104 (dk_at dksX2_becomes_2 5 rfl rfl)
theorem dX2_becomes_53 : decode cX2_becomes 53 = .ok (.invokestatic 82, 3) := dk_184 0 82 (dk_at dksX2_becomes_2 6 rfl rfl)
theorem dX2_becomes_56 : decode cX2_becomes 56 = .ok (.aload_n 0, 1) := dk_42 (dk_at dksX2_becomes_2 9 rfl rfl)
theorem dX2_becomes_57 : decode cX2_becomes 57 = .ok (.aload_n 1, 1) := dk_43 (dk_at dksX2_becomes_2 10 rfl rfl)
theorem dX2_becomes_58 : decode cX2_becomes 58 = .ok (.getfield 72, 3) := dk_180 0 72 (dk_at dksX2_becomes_2 11 rfl rfl)
theorem dX2_becomes_61 : decode cX2_becomes 61 = .ok (.putfield 72, 3) := dk_181 0 72 (dk_at dksX2_becomes_2 14 rfl rfl)
theorem dX2_becomes_64 : decode cX2_becomes 64 = .ok (.aload_n 0, 1) := dk_42 (dk_at dksX2_becomes_2 17 rfl rfl)
theorem dX2_becomes_65 : decode cX2_becomes 65 = .ok (.aload_n 1, 1) := dk_43 (dk_at dksX2_becomes_2 18 rfl rfl)
theorem dX2_becomes_66 : decode cX2_becomes 66 = .ok (.getfield 75, 3) := dk_180 0 75 (dk_at dksX2_becomes_2 19 rfl rfl)
theorem dX2_becomes_69 : decode cX2_becomes 69 = .ok (.putfield 75, 3) := dk_181 0 75 (dk_at dksX2_becomes_3 0 rfl rfl)
theorem dX2_becomes_72 : decode cX2_becomes 72 = .ok (.return_, 1) := dk_177 (dk_at dksX2_becomes_3 3 rfl rfl)
abbrev cX2_notes : ByteArray := prog_19_method_4_code
def yX2_notes : MethodName := ⟨RX2, "notes", "(III)V"⟩
def dkwX2_notes_3 : List UInt8 := [104, 5, 96, 29, 79, 42, 89, 180, 0, 75, 4, 96, 181, 0, 75, 177]
abbrev dktX2_notes_3 : List UInt8 := dkwX2_notes_3 ++ []
def dkwX2_notes_2 : List UInt8 := [79, 42, 180, 0, 24, 6, 42, 180, 0, 75, 104, 4, 96, 28, 79, 42, 180, 0, 24, 6, 42, 180, 0, 75]
abbrev dktX2_notes_2 : List UInt8 := dkwX2_notes_2 ++ dktX2_notes_3
def dkwX2_notes_1 : List UInt8 := [184, 0, 82, 42, 89, 180, 0, 75, 4, 100, 181, 0, 75, 42, 180, 0, 24, 6, 42, 180, 0, 75, 104, 27]
abbrev dktX2_notes_1 : List UInt8 := dkwX2_notes_1 ++ dktX2_notes_2
def dkwX2_notes_0 : List UInt8 := [42, 180, 0, 75, 16, 60, 160, 0, 29, 42, 180, 0, 24, 6, 42, 180, 0, 24, 3, 17, 0, 177]
abbrev dktX2_notes_0 : List UInt8 := dkwX2_notes_0 ++ dktX2_notes_1
theorem dksX2_notes_0 : cX2_notes.data.toList.drop 0 = dktX2_notes_0 := by decide +kernel
theorem dksX2_notes_1 : cX2_notes.data.toList.drop 22 = dktX2_notes_1 := dk_seg dksX2_notes_0 22 rfl rfl
theorem dksX2_notes_2 : cX2_notes.data.toList.drop 46 = dktX2_notes_2 := dk_seg dksX2_notes_1 24 rfl rfl
theorem dksX2_notes_3 : cX2_notes.data.toList.drop 70 = dktX2_notes_3 := dk_seg dksX2_notes_2 24 rfl rfl
theorem dX2_notes_0 : decode cX2_notes 0 = .ok (.aload_n 0, 1) := dk_42 (dk_at dksX2_notes_0 0 rfl rfl)
theorem dX2_notes_1 : decode cX2_notes 1 = .ok (.getfield 75, 3) := dk_180 0 75 (dk_at dksX2_notes_0 1 rfl rfl)
theorem dX2_notes_4 : decode cX2_notes 4 = .ok (.bipush 60, 2) := dk_16 60 (dk_at dksX2_notes_0 4 rfl rfl)
theorem dX2_notes_6 : decode cX2_notes 6 = .ok (.if_icmp .ne 29, 3) := dk_160 0 29 (dk_at dksX2_notes_0 6 rfl rfl)
theorem dX2_notes_9 : decode cX2_notes 9 = .ok (.aload_n 0, 1) := dk_42 (dk_at dksX2_notes_0 9 rfl rfl)
theorem dX2_notes_10 : decode cX2_notes 10 = .ok (.getfield 24, 3) := dk_180 0 24 (dk_at dksX2_notes_0 10 rfl rfl)
theorem dX2_notes_13 : decode cX2_notes 13 = .ok (.iconst 3, 1) := dk_6 (dk_at dksX2_notes_0 13 rfl rfl)
theorem dX2_notes_14 : decode cX2_notes 14 = .ok (.aload_n 0, 1) := dk_42 (dk_at dksX2_notes_0 14 rfl rfl)
theorem dX2_notes_15 : decode cX2_notes 15 = .ok (.getfield 24, 3) := dk_180 0 24 (dk_at dksX2_notes_0 15 rfl rfl)
theorem dX2_notes_18 : decode cX2_notes 18 = .ok (.iconst 0, 1) := dk_3 (dk_at dksX2_notes_0 18 rfl rfl)
theorem dX2_notes_19 : decode cX2_notes 19 = .ok (.sipush 177, 3) := dk_17 0 177 (dk_at dksX2_notes_0 19 rfl rfl)
theorem dX2_notes_22 : decode cX2_notes 22 = .ok (.invokestatic 82, 3) := dk_184 0 82 (dk_at dksX2_notes_1 0 rfl rfl)
theorem dX2_notes_25 : decode cX2_notes 25 = .ok (.aload_n 0, 1) := dk_42 (dk_at dksX2_notes_1 3 rfl rfl)
theorem dX2_notes_26 : decode cX2_notes 26 = .ok (.dup, 1) := dk_89 (dk_at dksX2_notes_1 4 rfl rfl)
theorem dX2_notes_27 : decode cX2_notes 27 = .ok (.getfield 75, 3) := dk_180 0 75 (dk_at dksX2_notes_1 5 rfl rfl)
theorem dX2_notes_30 : decode cX2_notes 30 = .ok (.iconst 1, 1) := dk_4 (dk_at dksX2_notes_1 8 rfl rfl)
theorem dX2_notes_31 : decode cX2_notes 31 = .ok (.isub, 1) := dk_100 (dk_at dksX2_notes_1 9 rfl rfl)
theorem dX2_notes_32 : decode cX2_notes 32 = .ok (.putfield 75, 3) := dk_181 0 75 (dk_at dksX2_notes_1 10 rfl rfl)
theorem dX2_notes_35 : decode cX2_notes 35 = .ok (.aload_n 0, 1) := dk_42 (dk_at dksX2_notes_1 13 rfl rfl)
theorem dX2_notes_36 : decode cX2_notes 36 = .ok (.getfield 24, 3) := dk_180 0 24 (dk_at dksX2_notes_1 14 rfl rfl)
theorem dX2_notes_39 : decode cX2_notes 39 = .ok (.iconst 3, 1) := dk_6 (dk_at dksX2_notes_1 17 rfl rfl)
theorem dX2_notes_40 : decode cX2_notes 40 = .ok (.aload_n 0, 1) := dk_42 (dk_at dksX2_notes_1 18 rfl rfl)
theorem dX2_notes_41 : decode cX2_notes 41 = .ok (.getfield 75, 3) := dk_180 0 75 (dk_at dksX2_notes_1 19 rfl rfl)
theorem dX2_notes_44 : decode cX2_notes 44 = .ok (.imul, 1) := dk_104 (dk_at dksX2_notes_1 22 rfl rfl)
theorem dX2_notes_45 : decode cX2_notes 45 = .ok (.iload_n 1, 1) := dk_27 (dk_at dksX2_notes_1 23 rfl rfl)
theorem dX2_notes_46 : decode cX2_notes 46 = .ok (.iastore, 1) := dk_79 (dk_at dksX2_notes_2 0 rfl rfl)
theorem dX2_notes_47 : decode cX2_notes 47 = .ok (.aload_n 0, 1) := dk_42 (dk_at dksX2_notes_2 1 rfl rfl)
theorem dX2_notes_48 : decode cX2_notes 48 = .ok (.getfield 24, 3) := dk_180 0 24 (dk_at dksX2_notes_2 2 rfl rfl)
theorem dX2_notes_51 : decode cX2_notes 51 = .ok (.iconst 3, 1) := dk_6 (dk_at dksX2_notes_2 5 rfl rfl)
theorem dX2_notes_52 : decode cX2_notes 52 = .ok (.aload_n 0, 1) := dk_42 (dk_at dksX2_notes_2 6 rfl rfl)
theorem dX2_notes_53 : decode cX2_notes 53 = .ok (.getfield 75, 3) := dk_180 0 75 (dk_at dksX2_notes_2 7 rfl rfl)
theorem dX2_notes_56 : decode cX2_notes 56 = .ok (.imul, 1) := dk_104 (dk_at dksX2_notes_2 10 rfl rfl)
theorem dX2_notes_57 : decode cX2_notes 57 = .ok (.iconst 1, 1) := dk_4 (dk_at dksX2_notes_2 11 rfl rfl)
theorem dX2_notes_58 : decode cX2_notes 58 = .ok (.iadd, 1) := dk_96 (dk_at dksX2_notes_2 12 rfl rfl)
theorem dX2_notes_59 : decode cX2_notes 59 = .ok (.iload_n 2, 1) := dk_28 (dk_at dksX2_notes_2 13 rfl rfl)
theorem dX2_notes_60 : decode cX2_notes 60 = .ok (.iastore, 1) := dk_79 (dk_at dksX2_notes_2 14 rfl rfl)
theorem dX2_notes_61 : decode cX2_notes 61 = .ok (.aload_n 0, 1) := dk_42 (dk_at dksX2_notes_2 15 rfl rfl)
theorem dX2_notes_62 : decode cX2_notes 62 = .ok (.getfield 24, 3) := dk_180 0 24 (dk_at dksX2_notes_2 16 rfl rfl)
theorem dX2_notes_65 : decode cX2_notes 65 = .ok (.iconst 3, 1) := dk_6 (dk_at dksX2_notes_2 19 rfl rfl)
theorem dX2_notes_66 : decode cX2_notes 66 = .ok (.aload_n 0, 1) := dk_42 (dk_at dksX2_notes_2 20 rfl rfl)
theorem dX2_notes_67 : decode cX2_notes 67 = .ok (.getfield 75, 3) := dk_180 0 75 (dk_at dksX2_notes_2 21 rfl rfl)
theorem dX2_notes_70 : decode cX2_notes 70 = .ok (.imul, 1) := dk_104 (dk_at dksX2_notes_3 0 rfl rfl)
theorem dX2_notes_71 : decode cX2_notes 71 = .ok (.iconst 2, 1) := dk_5 (dk_at dksX2_notes_3 1 rfl rfl)
theorem dX2_notes_72 : decode cX2_notes 72 = .ok (.iadd, 1) := dk_96 (dk_at dksX2_notes_3 2 rfl rfl)
theorem dX2_notes_73 : decode cX2_notes 73 = .ok (.iload_n 3, 1) := dk_29 (dk_at dksX2_notes_3 3 rfl rfl)
theorem dX2_notes_74 : decode cX2_notes 74 = .ok (.iastore, 1) := dk_79 (dk_at dksX2_notes_3 4 rfl rfl)
theorem dX2_notes_75 : decode cX2_notes 75 = .ok (.aload_n 0, 1) := dk_42 (dk_at dksX2_notes_3 5 rfl rfl)
theorem dX2_notes_76 : decode cX2_notes 76 = .ok (.dup, 1) := dk_89 (dk_at dksX2_notes_3 6 rfl rfl)
theorem dX2_notes_77 : decode cX2_notes 77 = .ok (.getfield 75, 3) := dk_180 0 75 (dk_at dksX2_notes_3 7 rfl rfl)
theorem dX2_notes_80 : decode cX2_notes 80 = .ok (.iconst 1, 1) := dk_4 (dk_at dksX2_notes_3 10 rfl rfl)
theorem dX2_notes_81 : decode cX2_notes 81 = .ok (.iadd, 1) := dk_96 (dk_at dksX2_notes_3 11 rfl rfl)
theorem dX2_notes_82 : decode cX2_notes 82 = .ok (.putfield 75, 3) := dk_181 0 75 (dk_at dksX2_notes_3 12 rfl rfl)
theorem dX2_notes_85 : decode cX2_notes 85 = .ok (.return_, 1) := dk_177 (dk_at dksX2_notes_3 15 rfl rfl)
abbrev cX2_rows : ByteArray := prog_19_method_5_code
def yX2_rows : MethodName := ⟨RX2, "rows", "()I"⟩
def dkwX2_rows_1 : List UInt8 := [50, 180, 0, 88, 96, 60, 132, 2, 1, 167, 255, 227, 27, 172]
abbrev dktX2_rows_1 : List UInt8 := dkwX2_rows_1 ++ []
def dkwX2_rows_0 : List UInt8 := [3, 60, 3, 61, 28, 42, 180, 0, 3, 180, 0, 28, 180, 0, 32, 162, 0, 21, 27, 42, 180, 0, 20, 28]
abbrev dktX2_rows_0 : List UInt8 := dkwX2_rows_0 ++ dktX2_rows_1
theorem dksX2_rows_0 : cX2_rows.data.toList.drop 0 = dktX2_rows_0 := by decide +kernel
theorem dksX2_rows_1 : cX2_rows.data.toList.drop 24 = dktX2_rows_1 := dk_seg dksX2_rows_0 24 rfl rfl
theorem dX2_rows_0 : decode cX2_rows 0 = .ok (.iconst 0, 1) := dk_3 (dk_at dksX2_rows_0 0 rfl rfl)
theorem dX2_rows_1 : decode cX2_rows 1 = .ok (.istore_n 1, 1) := dk_60 (dk_at dksX2_rows_0 1 rfl rfl)
theorem dX2_rows_2 : decode cX2_rows 2 = .ok (.iconst 0, 1) := dk_3 (dk_at dksX2_rows_0 2 rfl rfl)
theorem dX2_rows_3 : decode cX2_rows 3 = .ok (.istore_n 2, 1) := dk_61 (dk_at dksX2_rows_0 3 rfl rfl)
theorem dX2_rows_4 : decode cX2_rows 4 = .ok (.iload_n 2, 1) := dk_28 (dk_at dksX2_rows_0 4 rfl rfl)
theorem dX2_rows_5 : decode cX2_rows 5 = .ok (.aload_n 0, 1) := dk_42 (dk_at dksX2_rows_0 5 rfl rfl)
theorem dX2_rows_6 : decode cX2_rows 6 = .ok (.getfield 3, 3) := dk_180 0 3 (dk_at dksX2_rows_0 6 rfl rfl)
theorem dX2_rows_9 : decode cX2_rows 9 = .ok (.getfield 28, 3) := dk_180 0 28 (dk_at dksX2_rows_0 9 rfl rfl)
theorem dX2_rows_12 : decode cX2_rows 12 = .ok (.getfield 32, 3) := dk_180 0 32 (dk_at dksX2_rows_0 12 rfl rfl)
theorem dX2_rows_15 : decode cX2_rows 15 = .ok (.if_icmp .ge 21, 3) := dk_162 0 21 (dk_at dksX2_rows_0 15 rfl rfl)
theorem dX2_rows_18 : decode cX2_rows 18 = .ok (.iload_n 1, 1) := dk_27 (dk_at dksX2_rows_0 18 rfl rfl)
theorem dX2_rows_19 : decode cX2_rows 19 = .ok (.aload_n 0, 1) := dk_42 (dk_at dksX2_rows_0 19 rfl rfl)
theorem dX2_rows_20 : decode cX2_rows 20 = .ok (.getfield 20, 3) := dk_180 0 20 (dk_at dksX2_rows_0 20 rfl rfl)
theorem dX2_rows_23 : decode cX2_rows 23 = .ok (.iload_n 2, 1) := dk_28 (dk_at dksX2_rows_0 23 rfl rfl)
theorem dX2_rows_24 : decode cX2_rows 24 = .ok (.aaload, 1) := dk_50 (dk_at dksX2_rows_1 0 rfl rfl)
theorem dX2_rows_25 : decode cX2_rows 25 = .ok (.getfield 88, 3) := dk_180 0 88 (dk_at dksX2_rows_1 1 rfl rfl)
theorem dX2_rows_28 : decode cX2_rows 28 = .ok (.iadd, 1) := dk_96 (dk_at dksX2_rows_1 4 rfl rfl)
theorem dX2_rows_29 : decode cX2_rows 29 = .ok (.istore_n 1, 1) := dk_60 (dk_at dksX2_rows_1 5 rfl rfl)
theorem dX2_rows_30 : decode cX2_rows 30 = .ok (.iinc 2 1, 3) := dk_132 2 1 (dk_at dksX2_rows_1 6 rfl rfl)
theorem dX2_rows_33 : decode cX2_rows 33 = .ok (.goto (-29), 3) := dk_167 255 227 (dk_at dksX2_rows_1 9 rfl rfl)
theorem dX2_rows_36 : decode cX2_rows 36 = .ok (.iload_n 1, 1) := dk_27 (dk_at dksX2_rows_1 12 rfl rfl)
theorem dX2_rows_37 : decode cX2_rows 37 = .ok (.ireturn, 1) := dk_172 (dk_at dksX2_rows_1 13 rfl rfl)
theorem q117 : (Jvm.Cond.initialized "SafeBuckets$State") ∈ lw_all := lw_g (lw_at lw_m1 2 rfl) rfl
theorem q186 : (Jvm.Cond.instantiable "SafeBuckets$State" (5 : Nat)) ∈ lw_all := lw_g (lw_at lw_m1 71 rfl) rfl
theorem q188 : (Jvm.Cond.instanceMethod ({ cls := "SafeBuckets$State", name := "<init>", desc := "(LSafeBuckets;)V" } : Jvm.MethodName)) ∈ lw_all := lw_g (lw_at lw_m1 73 rfl) rfl
theorem q189 : (Jvm.Cond.code ({ cls := "SafeBuckets$State", name := "<init>", desc := "(LSafeBuckets;)V" } : Jvm.MethodName) prog_19_method_1_code (2 : Nat) (Option.none : Option Jvm.ClassFile.FieldType)) ∈ lw_all := lw_g (lw_at lw_m1 74 rfl) rfl
theorem q190 : (Jvm.Cond.methodLink "SafeBuckets$State" (9 : Nat) ({ cls := "java/lang/Object", name := "<init>", desc := "()V" } : Jvm.MethodName)) ∈ lw_all := lw_g (lw_at lw_m1 75 rfl) rfl
theorem q191 : (Jvm.Cond.classLink "SafeBuckets$State" (15 : Nat) "SafeBuckets$Sheet") ∈ lw_all := lw_g (lw_at lw_m1 76 rfl) rfl
theorem q194 : (Jvm.Cond.methodLinkNest "SafeBuckets$State" (17 : Nat) ({ cls := "SafeBuckets$Sheet", name := "<init>", desc := "(LSafeBuckets;)V" } : Jvm.MethodName) "SafeBuckets") ∈ lw_tbl := lw_at lw_m1 79 rfl
theorem q281 : (Jvm.Cond.fieldLinkNest "SafeBuckets$State" (88 : Nat) "SafeBuckets$Sheet" "rows" "I" "SafeBuckets") ∈ lw_tbl := lw_at lw_m1 166 rfl
theorem q297 : (Jvm.Cond.fieldLink "SafeBuckets$State" (20 : Nat) "SafeBuckets$State" "sheets" "[LSafeBuckets$Sheet;") ∈ lw_all := lw_g (lw_at lw_m1 182 rfl) rfl
theorem q300 : (Jvm.Cond.fieldLink "SafeBuckets$State" (24 : Nat) "SafeBuckets$State" "notes" "[I") ∈ lw_all := lw_g (lw_at lw_m1 185 rfl) rfl
theorem q302 : (Jvm.Cond.fieldLink "SafeBuckets$State" (72 : Nat) "SafeBuckets$State" "budget" "I") ∈ lw_all := lw_g (lw_at lw_m1 187 rfl) rfl
theorem q304 : (Jvm.Cond.fieldLink "SafeBuckets$State" (75 : Nat) "SafeBuckets$State" "noteMany" "I") ∈ lw_all := lw_g (lw_at lw_m1 189 rfl) rfl
theorem q306 : (Jvm.Cond.fieldLink "SafeBuckets$State" (3 : Nat) "SafeBuckets$State" "this$0" "LSafeBuckets;") ∈ lw_all := lw_g (lw_at lw_m1 191 rfl) rfl
theorem q307 : (Jvm.Cond.laysFinal "SafeBuckets$State" "SafeBuckets$State" "sheets" "[LSafeBuckets$Sheet;") ∈ lw_all := lw_g (lw_at lw_m1 192 rfl) rfl
theorem q308 : (Jvm.Cond.soleField "SafeBuckets$State" "sheets") ∈ lw_all := lw_g (lw_at lw_m1 193 rfl) rfl
theorem q309 : (Jvm.Cond.laysFinal "SafeBuckets$State" "SafeBuckets$State" "notes" "[I") ∈ lw_all := lw_g (lw_at lw_m1 194 rfl) rfl
theorem q310 : (Jvm.Cond.soleField "SafeBuckets$State" "notes") ∈ lw_all := lw_g (lw_at lw_m1 195 rfl) rfl
theorem q311 : (Jvm.Cond.lays "SafeBuckets$State" "SafeBuckets$State" "budget" "I") ∈ lw_all := lw_g (lw_at lw_m1 196 rfl) rfl
theorem q312 : (Jvm.Cond.soleField "SafeBuckets$State" "budget") ∈ lw_all := lw_g (lw_at lw_m1 197 rfl) rfl
theorem q313 : (Jvm.Cond.lays "SafeBuckets$State" "SafeBuckets$State" "noteMany" "I") ∈ lw_all := lw_g (lw_at lw_m1 198 rfl) rfl
theorem q314 : (Jvm.Cond.soleField "SafeBuckets$State" "noteMany") ∈ lw_all := lw_g (lw_at lw_m1 199 rfl) rfl
theorem q315 : (Jvm.Cond.laysFinal "SafeBuckets$State" "SafeBuckets$State" "this$0" "LSafeBuckets;") ∈ lw_all := lw_g (lw_at lw_m1 200 rfl) rfl
theorem q316 : (Jvm.Cond.soleField "SafeBuckets$State" "this$0") ∈ lw_all := lw_g (lw_at lw_m1 201 rfl) rfl
theorem q317 : (Jvm.Cond.superclass "SafeBuckets$State" "java/lang/Object") ∈ lw_all := lw_g (lw_at lw_m1 202 rfl) rfl
theorem q389 : (Jvm.Cond.fieldLinkNest "SafeBuckets$State" (28 : Nat) "SafeBuckets" "book" "LSafeBuckets$Book;" "SafeBuckets") ∈ lw_tbl := lw_at lw_m2 34 rfl
theorem q515 : (Jvm.Cond.fieldLinkNest "SafeBuckets$State" (49 : Nat) "SafeBuckets$Book" "lines" "[LSafeBuckets$Line;" "SafeBuckets") ∈ lw_tbl := lw_at lw_m2 160 rfl
theorem q518 : (Jvm.Cond.fieldLinkNest "SafeBuckets$State" (65 : Nat) "SafeBuckets$Book" "rules" "LSafeBuckets$Rules;" "SafeBuckets") ∈ lw_tbl := lw_at lw_m2 163 rfl
theorem q522 : (Jvm.Cond.fieldLinkNest "SafeBuckets$State" (32 : Nat) "SafeBuckets$Book" "many" "I" "SafeBuckets") ∈ lw_tbl := lw_at lw_m2 167 rfl
theorem q527 : (Jvm.Cond.fieldLinkNest "SafeBuckets$State" (46 : Nat) "SafeBuckets$Book" "lineMany" "I" "SafeBuckets") ∈ lw_tbl := lw_at lw_m2 172 rfl
theorem q588 : (Jvm.Cond.fieldLink "SafeBuckets$State" (53 : Nat) "SafeBuckets$Line" "values" "[I") ∈ lw_all := lw_g (lw_at lw_m2 233 rfl) rfl
theorem q589 : (Jvm.Cond.fieldLink "SafeBuckets$State" (69 : Nat) "SafeBuckets$Rules" "values" "[I") ∈ lw_all := lw_g (lw_at lw_m2 234 rfl) rfl
theorem q860 : (Jvm.Cond.instanceMethod ({ cls := "SafeBuckets$State", name := "starts", desc := "()V" } : Jvm.MethodName)) ∈ lw_all := lw_g (lw_at lw_m4 25 rfl) rfl
theorem q861 : (Jvm.Cond.selects "SafeBuckets$State" ({ cls := "SafeBuckets$State", name := "starts", desc := "()V" } : Jvm.MethodName) ({ cls := "SafeBuckets$State", name := "starts", desc := "()V" } : Jvm.MethodName)) ∈ lw_all := lw_g (lw_at lw_m4 26 rfl) rfl
theorem q862 : (Jvm.Cond.code ({ cls := "SafeBuckets$State", name := "starts", desc := "()V" } : Jvm.MethodName) prog_19_method_2_code (3 : Nat) (Option.none : Option Jvm.ClassFile.FieldType)) ∈ lw_all := lw_g (lw_at lw_m4 27 rfl) rfl
theorem q863 : (Jvm.Cond.methodLink "SafeBuckets$State" (38 : Nat) ({ cls := "SafeBuckets$Book", name := "valuesOf", desc := "(I)I" } : Jvm.MethodName)) ∈ lw_all := lw_g (lw_at lw_m4 28 rfl) rfl
theorem q867 : (Jvm.Cond.methodLink "SafeBuckets$State" (42 : Nat) ({ cls := "SafeBuckets$Sheet", name := "starts", desc := "(I)V" } : Jvm.MethodName)) ∈ lw_all := lw_g (lw_at lw_m4 32 rfl) rfl
theorem q871 : (Jvm.Cond.methodLink "SafeBuckets$State" (58 : Nat) ({ cls := "SafeBuckets$Sheet", name := "tells", desc := "(III)V" } : Jvm.MethodName)) ∈ lw_all := lw_g (lw_at lw_m4 36 rfl) rfl
theorem q879 : (Jvm.Cond.methodLink "SafeBuckets$State" (62 : Nat) ({ cls := "SafeBuckets$Sheet", name := "builds", desc := "(I)V" } : Jvm.MethodName)) ∈ lw_all := lw_g (lw_at lw_m4 44 rfl) rfl
theorem q1020 : (Jvm.Cond.instanceMethod ({ cls := "SafeBuckets$State", name := "becomes", desc := "(LSafeBuckets$State;)V" } : Jvm.MethodName)) ∈ lw_all := lw_g (lw_at lw_m4 185 rfl) rfl
theorem q1021 : (Jvm.Cond.selects "SafeBuckets$State" ({ cls := "SafeBuckets$State", name := "becomes", desc := "(LSafeBuckets$State;)V" } : Jvm.MethodName) ({ cls := "SafeBuckets$State", name := "becomes", desc := "(LSafeBuckets$State;)V" } : Jvm.MethodName)) ∈ lw_all := lw_g (lw_at lw_m4 186 rfl) rfl
theorem q1022 : (Jvm.Cond.code ({ cls := "SafeBuckets$State", name := "becomes", desc := "(LSafeBuckets$State;)V" } : Jvm.MethodName) prog_19_method_3_code (3 : Nat) (Option.none : Option Jvm.ClassFile.FieldType)) ∈ lw_all := lw_g (lw_at lw_m4 187 rfl) rfl
theorem q1023 : (Jvm.Cond.methodLink "SafeBuckets$State" (78 : Nat) ({ cls := "SafeBuckets$Sheet", name := "becomes", desc := "(LSafeBuckets$Sheet;)V" } : Jvm.MethodName)) ∈ lw_all := lw_g (lw_at lw_m4 188 rfl) rfl
theorem q1038 : (Jvm.Cond.methodLink "SafeBuckets$State" (82 : Nat) ({ cls := "java/lang/System", name := "arraycopy", desc := "(Ljava/lang/Object;ILjava/lang/Object;II)V" } : Jvm.MethodName)) ∈ lw_all := lw_g (lw_at lw_m4 203 rfl) rfl
theorem q1067 : (Jvm.Cond.instanceMethod ({ cls := "SafeBuckets$State", name := "notes", desc := "(III)V" } : Jvm.MethodName)) ∈ lw_all := lw_g (lw_at lw_m4 232 rfl) rfl
theorem q1068 : (Jvm.Cond.selects "SafeBuckets$State" ({ cls := "SafeBuckets$State", name := "notes", desc := "(III)V" } : Jvm.MethodName) ({ cls := "SafeBuckets$State", name := "notes", desc := "(III)V" } : Jvm.MethodName)) ∈ lw_all := lw_g (lw_at lw_m4 233 rfl) rfl
theorem q1069 : (Jvm.Cond.code ({ cls := "SafeBuckets$State", name := "notes", desc := "(III)V" } : Jvm.MethodName) prog_19_method_4_code (4 : Nat) (Option.none : Option Jvm.ClassFile.FieldType)) ∈ lw_all := lw_g (lw_at lw_m4 234 rfl) rfl
theorem q1111 : (Jvm.Cond.instanceMethod ({ cls := "SafeBuckets$State", name := "rows", desc := "()I" } : Jvm.MethodName)) ∈ lw_all := lw_g (lw_at lw_m5 36 rfl) rfl
theorem q1112 : (Jvm.Cond.selects "SafeBuckets$State" ({ cls := "SafeBuckets$State", name := "rows", desc := "()I" } : Jvm.MethodName) ({ cls := "SafeBuckets$State", name := "rows", desc := "()I" } : Jvm.MethodName)) ∈ lw_all := lw_g (lw_at lw_m5 37 rfl) rfl
theorem q1113 : (Jvm.Cond.code ({ cls := "SafeBuckets$State", name := "rows", desc := "()I" } : Jvm.MethodName) prog_19_method_5_code (3 : Nat) (Option.some Jvm.ClassFile.FieldType.int)) ∈ lw_all := lw_g (lw_at lw_m5 38 rfl) rfl
theorem q1360 : (Jvm.Cond.selects "SafeBuckets$State" ({ cls := "java/lang/Object", name := "getClass", desc := "()Ljava/lang/Class;" } : Jvm.MethodName) ({ cls := "java/lang/Object", name := "getClass", desc := "()Ljava/lang/Class;" } : Jvm.MethodName)) ∈ lw_all := lw_g (lw_at lw_m6 45 rfl) rfl
theorem q2147 : (Jvm.Cond.castable "SafeBuckets$State" "java/lang/Object") ∈ lw_tbl := lw_at lw_m9 112 rfl
theorem in_X2 : ∀ w ∈ wsX20, w ∈ lw_all := lw_in wsX20 [307, 309, 311, 313, 315] (by decide +kernel) (by decide +kernel)

/-! SafeBuckets$Sheet -/
set_option maxRecDepth 100000
def RX3 : String := "SafeBuckets$Sheet"
def TX3 : u_T := fun k => match k with
  | 0 => ("SafeBuckets$Sheet", "cells", "[I", true)
  | 1 => ("SafeBuckets$Sheet", "columns", "[LSafeBuckets$Column;", true)
  | 2 => ("SafeBuckets$Sheet", "rows", "I", false)
  | 3 => ("SafeBuckets$Sheet", "values", "I", false)
  | _ => ("SafeBuckets$Sheet", "this$0", "LSafeBuckets;", true)
def tyX3 : Nat → FieldType := fun k => match k with
  | 0 => .array .int
  | 1 => .array (.object "SafeBuckets$Column")
  | 2 => .int
  | 3 => .int
  | _ => .object "SafeBuckets"
abbrev wsX30 : List Cond := u_ws RX3 TX3 5
theorem nmX3 : ∀ a, a < 5 → ∀ b, b < 5 → a ≠ b → (TX3 a).2.1 ≠ (TX3 b).2.1 := by decide +kernel
theorem tyX3_ok : ∀ k, k < 5 → parseFieldDescriptor (TX3 k).2.2.1 = some (tyX3 k) := by decide +kernel
abbrev cX3_init : ByteArray := prog_12_method_1_code
def yX3_init : MethodName := ⟨RX3, "<init>", "(LSafeBuckets;)V"⟩
def dkwX3_init_1 : List UInt8 := [3, 187, 0, 19, 89, 183, 0, 21, 83, 89, 4, 187, 0, 19, 89, 183, 0, 21, 83, 181, 0, 22, 177]
abbrev dktX3_init_1 : List UInt8 := dkwX3_init_1 ++ []
def dkwX3_init_0 : List UInt8 := [42, 43, 181, 0, 3, 42, 183, 0, 9, 42, 17, 1, 33, 188, 10, 181, 0, 15, 42, 5, 189, 0, 19, 89]
abbrev dktX3_init_0 : List UInt8 := dkwX3_init_0 ++ dktX3_init_1
theorem dksX3_init_0 : cX3_init.data.toList.drop 0 = dktX3_init_0 := by decide +kernel
theorem dksX3_init_1 : cX3_init.data.toList.drop 24 = dktX3_init_1 := dk_seg dksX3_init_0 24 rfl rfl
theorem dX3_init_0 : decode cX3_init 0 = .ok (.aload_n 0, 1) := dk_42 (dk_at dksX3_init_0 0 rfl rfl)
theorem dX3_init_1 : decode cX3_init 1 = .ok (.aload_n 1, 1) := dk_43 (dk_at dksX3_init_0 1 rfl rfl)
theorem dX3_init_2 : decode cX3_init 2 = .ok (.putfield 3, 3) := dk_181 0 3 (dk_at dksX3_init_0 2 rfl rfl)
theorem dX3_init_5 : decode cX3_init 5 = .ok (.aload_n 0, 1) := dk_42 (dk_at dksX3_init_0 5 rfl rfl)
theorem dX3_init_6 : decode cX3_init 6 = .ok (.invokespecial 9, 3) := dk_183 0 9 (dk_at dksX3_init_0 6 rfl rfl)
theorem dX3_init_9 : decode cX3_init 9 = .ok (.aload_n 0, 1) := dk_42 (dk_at dksX3_init_0 9 rfl rfl)
theorem dX3_init_10 : decode cX3_init 10 = .ok (.sipush 289, 3) := dk_17 1 33 (dk_at dksX3_init_0 10 rfl rfl)
theorem dX3_init_13 : decode cX3_init 13 = .ok (.newarray .int, 2) := dk_188_10 (dk_at dksX3_init_0 13 rfl rfl)
theorem dX3_init_15 : decode cX3_init 15 = .ok (.putfield 15, 3) := dk_181 0 15 (dk_at dksX3_init_0 15 rfl rfl)
theorem dX3_init_18 : decode cX3_init 18 = .ok (.aload_n 0, 1) := dk_42 (dk_at dksX3_init_0 18 rfl rfl)
theorem dX3_init_19 : decode cX3_init 19 = .ok (.iconst 2, 1) := dk_5 (dk_at dksX3_init_0 19 rfl rfl)
theorem dX3_init_20 : decode cX3_init 20 = .ok (.anewarray 19, 3) := dk_189 0 19 (dk_at dksX3_init_0 20 rfl rfl)
theorem dX3_init_23 : decode cX3_init 23 = .ok (.dup, 1) := dk_89 (dk_at dksX3_init_0 23 rfl rfl)
theorem dX3_init_24 : decode cX3_init 24 = .ok (.iconst 0, 1) := dk_3 (dk_at dksX3_init_1 0 rfl rfl)
theorem dX3_init_25 : decode cX3_init 25 = .ok (.new 19, 3) := dk_187 0 19 (dk_at dksX3_init_1 1 rfl rfl)
theorem dX3_init_28 : decode cX3_init 28 = .ok (.dup, 1) := dk_89 (dk_at dksX3_init_1 4 rfl rfl)
theorem dX3_init_29 : decode cX3_init 29 = .ok (.invokespecial 21, 3) := dk_183 0 21 (dk_at dksX3_init_1 5 rfl rfl)
theorem dX3_init_32 : decode cX3_init 32 = .ok (.aastore, 1) := dk_83 (dk_at dksX3_init_1 8 rfl rfl)
theorem dX3_init_33 : decode cX3_init 33 = .ok (.dup, 1) := dk_89 (dk_at dksX3_init_1 9 rfl rfl)
theorem dX3_init_34 : decode cX3_init 34 = .ok (.iconst 1, 1) := dk_4 (dk_at dksX3_init_1 10 rfl rfl)
theorem dX3_init_35 : decode cX3_init 35 = .ok (.new 19, 3) := dk_187 0 19 (dk_at dksX3_init_1 11 rfl rfl)
theorem dX3_init_38 : decode cX3_init 38 = .ok (.dup, 1) := dk_89 (dk_at dksX3_init_1 14 rfl rfl)
theorem dX3_init_39 : decode cX3_init 39 = .ok (.invokespecial 21, 3) := dk_183 0 21 (dk_at dksX3_init_1 15 rfl rfl)
theorem dX3_init_42 : decode cX3_init 42 = .ok (.aastore, 1) := dk_83 (dk_at dksX3_init_1 18 rfl rfl)
theorem dX3_init_43 : decode cX3_init 43 = .ok (.putfield 22, 3) := dk_181 0 22 (dk_at dksX3_init_1 19 rfl rfl)
theorem dX3_init_46 : decode cX3_init 46 = .ok (.return_, 1) := dk_177 (dk_at dksX3_init_1 22 rfl rfl)
abbrev cX3_starts : ByteArray := prog_12_method_3_code
def yX3_starts : MethodName := ⟨RX3, "starts", "(I)V"⟩
def dkwX3_starts_1 : List UInt8 := [181, 0, 26, 42, 27, 181, 0, 30, 177]
abbrev dktX3_starts_1 : List UInt8 := dkwX3_starts_1 ++ []
def dkwX3_starts_0 : List UInt8 := [3, 61, 28, 17, 1, 33, 162, 0, 16, 42, 180, 0, 15, 28, 3, 79, 132, 2, 1, 167, 255, 239, 42, 3]
abbrev dktX3_starts_0 : List UInt8 := dkwX3_starts_0 ++ dktX3_starts_1
theorem dksX3_starts_0 : cX3_starts.data.toList.drop 0 = dktX3_starts_0 := by decide +kernel
theorem dksX3_starts_1 : cX3_starts.data.toList.drop 24 = dktX3_starts_1 := dk_seg dksX3_starts_0 24 rfl rfl
theorem dX3_starts_0 : decode cX3_starts 0 = .ok (.iconst 0, 1) := dk_3 (dk_at dksX3_starts_0 0 rfl rfl)
theorem dX3_starts_1 : decode cX3_starts 1 = .ok (.istore_n 2, 1) := dk_61 (dk_at dksX3_starts_0 1 rfl rfl)
theorem dX3_starts_2 : decode cX3_starts 2 = .ok (.iload_n 2, 1) := dk_28 (dk_at dksX3_starts_0 2 rfl rfl)
theorem dX3_starts_3 : decode cX3_starts 3 = .ok (.sipush 289, 3) := dk_17 1 33 (dk_at dksX3_starts_0 3 rfl rfl)
theorem dX3_starts_6 : decode cX3_starts 6 = .ok (.if_icmp .ge 16, 3) := dk_162 0 16 (dk_at dksX3_starts_0 6 rfl rfl)
theorem dX3_starts_9 : decode cX3_starts 9 = .ok (.aload_n 0, 1) := dk_42 (dk_at dksX3_starts_0 9 rfl rfl)
theorem dX3_starts_10 : decode cX3_starts 10 = .ok (.getfield 15, 3) := dk_180 0 15 (dk_at dksX3_starts_0 10 rfl rfl)
theorem dX3_starts_13 : decode cX3_starts 13 = .ok (.iload_n 2, 1) := dk_28 (dk_at dksX3_starts_0 13 rfl rfl)
theorem dX3_starts_14 : decode cX3_starts 14 = .ok (.iconst 0, 1) := dk_3 (dk_at dksX3_starts_0 14 rfl rfl)
theorem dX3_starts_15 : decode cX3_starts 15 = .ok (.iastore, 1) := dk_79 (dk_at dksX3_starts_0 15 rfl rfl)
theorem dX3_starts_16 : decode cX3_starts 16 = .ok (.iinc 2 1, 3) := dk_132 2 1 (dk_at dksX3_starts_0 16 rfl rfl)
theorem dX3_starts_19 : decode cX3_starts 19 = .ok (.goto (-17), 3) := dk_167 255 239 (dk_at dksX3_starts_0 19 rfl rfl)
theorem dX3_starts_22 : decode cX3_starts 22 = .ok (.aload_n 0, 1) := dk_42 (dk_at dksX3_starts_0 22 rfl rfl)
theorem dX3_starts_23 : decode cX3_starts 23 = .ok (.iconst 0, 1) := dk_3 (dk_at dksX3_starts_0 23 rfl rfl)
theorem dX3_starts_24 : decode cX3_starts 24 = .ok (.putfield 26, 3) := dk_181 0 26 (dk_at dksX3_starts_1 0 rfl rfl)
theorem dX3_starts_27 : decode cX3_starts 27 = .ok (.aload_n 0, 1) := dk_42 (dk_at dksX3_starts_1 3 rfl rfl)
theorem dX3_starts_28 : decode cX3_starts 28 = .ok (.iload_n 1, 1) := dk_27 (dk_at dksX3_starts_1 4 rfl rfl)
theorem dX3_starts_29 : decode cX3_starts 29 = .ok (.putfield 30, 3) := dk_181 0 30 (dk_at dksX3_starts_1 5 rfl rfl)
theorem dX3_starts_32 : decode cX3_starts 32 = .ok (.return_, 1) := dk_177 (dk_at dksX3_starts_1 8 rfl rfl)
abbrev cX3_tells : ByteArray := prog_12_method_9_code
def yX3_tells : MethodName := ⟨RX3, "tells", "(III)V"⟩
def dkwX3_tells_1 : List UInt8 := [181, 0, 26, 177]
abbrev dktX3_tells_1 : List UInt8 := dkwX3_tells_1 ++ []
def dkwX3_tells_0 : List UInt8 := [42, 180, 0, 15, 42, 27, 28, 182, 0, 47, 92, 46, 29, 96, 79, 42, 89, 180, 0, 26, 29, 96]
abbrev dktX3_tells_0 : List UInt8 := dkwX3_tells_0 ++ dktX3_tells_1
theorem dksX3_tells_0 : cX3_tells.data.toList.drop 0 = dktX3_tells_0 := by decide +kernel
theorem dksX3_tells_1 : cX3_tells.data.toList.drop 22 = dktX3_tells_1 := dk_seg dksX3_tells_0 22 rfl rfl
theorem dX3_tells_0 : decode cX3_tells 0 = .ok (.aload_n 0, 1) := dk_42 (dk_at dksX3_tells_0 0 rfl rfl)
theorem dX3_tells_1 : decode cX3_tells 1 = .ok (.getfield 15, 3) := dk_180 0 15 (dk_at dksX3_tells_0 1 rfl rfl)
theorem dX3_tells_4 : decode cX3_tells 4 = .ok (.aload_n 0, 1) := dk_42 (dk_at dksX3_tells_0 4 rfl rfl)
theorem dX3_tells_5 : decode cX3_tells 5 = .ok (.iload_n 1, 1) := dk_27 (dk_at dksX3_tells_0 5 rfl rfl)
theorem dX3_tells_6 : decode cX3_tells 6 = .ok (.iload_n 2, 1) := dk_28 (dk_at dksX3_tells_0 6 rfl rfl)
theorem dX3_tells_7 : decode cX3_tells 7 = .ok (.invokevirtual 47, 3) := dk_182 0 47 (dk_at dksX3_tells_0 7 rfl rfl)
theorem dX3_tells_10 : decode cX3_tells 10 = .ok (.dup2, 1) := dk_92 (dk_at dksX3_tells_0 10 rfl rfl)
theorem dX3_tells_11 : decode cX3_tells 11 = .ok (.iaload, 1) := dk_46 (dk_at dksX3_tells_0 11 rfl rfl)
theorem dX3_tells_12 : decode cX3_tells 12 = .ok (.iload_n 3, 1) := dk_29 (dk_at dksX3_tells_0 12 rfl rfl)
theorem dX3_tells_13 : decode cX3_tells 13 = .ok (.iadd, 1) := dk_96 (dk_at dksX3_tells_0 13 rfl rfl)
theorem dX3_tells_14 : decode cX3_tells 14 = .ok (.iastore, 1) := dk_79 (dk_at dksX3_tells_0 14 rfl rfl)
theorem dX3_tells_15 : decode cX3_tells 15 = .ok (.aload_n 0, 1) := dk_42 (dk_at dksX3_tells_0 15 rfl rfl)
theorem dX3_tells_16 : decode cX3_tells 16 = .ok (.dup, 1) := dk_89 (dk_at dksX3_tells_0 16 rfl rfl)
theorem dX3_tells_17 : decode cX3_tells 17 = .ok (.getfield 26, 3) := dk_180 0 26 (dk_at dksX3_tells_0 17 rfl rfl)
theorem dX3_tells_20 : decode cX3_tells 20 = .ok (.iload_n 3, 1) := dk_29 (dk_at dksX3_tells_0 20 rfl rfl)
theorem dX3_tells_21 : decode cX3_tells 21 = .ok (.iadd, 1) := dk_96 (dk_at dksX3_tells_0 21 rfl rfl)
theorem dX3_tells_22 : decode cX3_tells 22 = .ok (.putfield 26, 3) := dk_181 0 26 (dk_at dksX3_tells_1 0 rfl rfl)
theorem dX3_tells_25 : decode cX3_tells 25 = .ok (.return_, 1) := dk_177 (dk_at dksX3_tells_1 3 rfl rfl)
abbrev cX3_place : ByteArray := prog_12_method_2_code
def yX3_place : MethodName := ⟨RX3, "place", "(II)I"⟩
def dkwX3_place_1 : List UInt8 := [28, 96, 172]
abbrev dktX3_place_1 : List UInt8 := dkwX3_place_1 ++ []
def dkwX3_place_0 : List UInt8 := [16, 17, 27, 2, 160, 0, 8, 16, 16, 167, 0, 4, 27, 104, 28, 2, 160, 0, 8, 16, 16, 167, 0, 4]
abbrev dktX3_place_0 : List UInt8 := dkwX3_place_0 ++ dktX3_place_1
theorem dksX3_place_0 : cX3_place.data.toList.drop 0 = dktX3_place_0 := by decide +kernel
theorem dksX3_place_1 : cX3_place.data.toList.drop 24 = dktX3_place_1 := dk_seg dksX3_place_0 24 rfl rfl
theorem dX3_place_0 : decode cX3_place 0 = .ok (.bipush 17, 2) := dk_16 17 (dk_at dksX3_place_0 0 rfl rfl)
theorem dX3_place_2 : decode cX3_place 2 = .ok (.iload_n 1, 1) := dk_27 (dk_at dksX3_place_0 2 rfl rfl)
theorem dX3_place_3 : decode cX3_place 3 = .ok (.iconst (-1), 1) := dk_2 (dk_at dksX3_place_0 3 rfl rfl)
theorem dX3_place_4 : decode cX3_place 4 = .ok (.if_icmp .ne 8, 3) := dk_160 0 8 (dk_at dksX3_place_0 4 rfl rfl)
theorem dX3_place_7 : decode cX3_place 7 = .ok (.bipush 16, 2) := dk_16 16 (dk_at dksX3_place_0 7 rfl rfl)
theorem dX3_place_9 : decode cX3_place 9 = .ok (.goto 4, 3) := dk_167 0 4 (dk_at dksX3_place_0 9 rfl rfl)
theorem dX3_place_12 : decode cX3_place 12 = .ok (.iload_n 1, 1) := dk_27 (dk_at dksX3_place_0 12 rfl rfl)
theorem dX3_place_13 : decode cX3_place 13 = .ok (.imul, 1) := dk_104 (dk_at dksX3_place_0 13 rfl rfl)
theorem dX3_place_14 : decode cX3_place 14 = .ok (.iload_n 2, 1) := dk_28 (dk_at dksX3_place_0 14 rfl rfl)
theorem dX3_place_15 : decode cX3_place 15 = .ok (.iconst (-1), 1) := dk_2 (dk_at dksX3_place_0 15 rfl rfl)
theorem dX3_place_16 : decode cX3_place 16 = .ok (.if_icmp .ne 8, 3) := dk_160 0 8 (dk_at dksX3_place_0 16 rfl rfl)
theorem dX3_place_19 : decode cX3_place 19 = .ok (.bipush 16, 2) := dk_16 16 (dk_at dksX3_place_0 19 rfl rfl)
theorem dX3_place_21 : decode cX3_place 21 = .ok (.goto 4, 3) := dk_167 0 4 (dk_at dksX3_place_0 21 rfl rfl)
theorem dX3_place_24 : decode cX3_place 24 = .ok (.iload_n 2, 1) := dk_28 (dk_at dksX3_place_1 0 rfl rfl)
theorem dX3_place_25 : decode cX3_place 25 = .ok (.iadd, 1) := dk_96 (dk_at dksX3_place_1 1 rfl rfl)
theorem dX3_place_26 : decode cX3_place 26 = .ok (.ireturn, 1) := dk_172 (dk_at dksX3_place_1 2 rfl rfl)
abbrev cX3_builds : ByteArray := prog_12_method_11_code
def yX3_builds : MethodName := ⟨RX3, "builds", "(I)V"⟩
def dkwX3_builds_8 : List UInt8 := [181, 0, 133, 44, 3, 181, 0, 74, 177]
abbrev dktX3_builds_8 : List UInt8 := dkwX3_builds_8 ++ []
def dkwX3_builds_7 : List UInt8 := [132, 7, 1, 167, 255, 200, 25, 6, 180, 0, 118, 4, 96, 54, 4, 132, 5, 1, 167, 255, 122, 44, 29]
abbrev dktX3_builds_7 : List UInt8 := dkwX3_builds_7 ++ dktX3_builds_8
def dkwX3_builds_6 : List UInt8 := [25, 6, 25, 6, 180, 0, 124, 42, 180, 0, 3, 180, 0, 127, 21, 7, 46, 184, 0, 130, 181, 0, 124]
abbrev dktX3_builds_6 : List UInt8 := dkwX3_builds_6 ++ dktX3_builds_7
def dkwX3_builds_5 : List UInt8 := [163, 0, 52, 25, 6, 89, 180, 0, 121, 42, 180, 0, 3, 180, 0, 127, 21, 7, 46, 96, 181, 0, 121]
abbrev dktX3_builds_5 : List UInt8 := dkwX3_builds_5 ++ dktX3_builds_6
def dkwX3_builds_4 : List UInt8 := [181, 0, 121, 25, 6, 3, 181, 0, 124, 25, 6, 180, 0, 111, 54, 7, 21, 7, 25, 6, 180, 0, 118]
abbrev dktX3_builds_4 : List UInt8 := dkwX3_builds_4 ++ dktX3_builds_5
def dkwX3_builds_3 : List UInt8 := [180, 0, 3, 180, 0, 114, 29, 21, 5, 100, 50, 21, 4, 46, 4, 100, 181, 0, 118, 25, 6, 3]
abbrev dktX3_builds_3 : List UInt8 := dkwX3_builds_3 ++ dktX3_builds_4
def dkwX3_builds_2 : List UInt8 := [29, 162, 0, 134, 44, 180, 0, 107, 21, 5, 50, 58, 6, 25, 6, 21, 4, 181, 0, 111, 25, 6, 42]
abbrev dktX3_builds_2 : List UInt8 := dkwX3_builds_2 ++ dktX3_builds_3
def dkwX3_builds_1 : List UInt8 := [3, 46, 184, 0, 100, 62, 42, 180, 0, 3, 42, 27, 29, 182, 0, 103, 3, 54, 4, 3, 54, 5, 21, 5]
abbrev dktX3_builds_1 : List UInt8 := dkwX3_builds_1 ++ dktX3_builds_2
def dkwX3_builds_0 : List UInt8 := [42, 180, 0, 22, 27, 50, 77, 42, 180, 0, 30, 42, 180, 0, 3, 180, 0, 83, 180, 0, 87, 180, 0, 93]
abbrev dktX3_builds_0 : List UInt8 := dkwX3_builds_0 ++ dktX3_builds_1
theorem dksX3_builds_0 : cX3_builds.data.toList.drop 0 = dktX3_builds_0 := by decide +kernel
theorem dksX3_builds_1 : cX3_builds.data.toList.drop 24 = dktX3_builds_1 := dk_seg dksX3_builds_0 24 rfl rfl
theorem dksX3_builds_2 : cX3_builds.data.toList.drop 48 = dktX3_builds_2 := dk_seg dksX3_builds_1 24 rfl rfl
theorem dksX3_builds_3 : cX3_builds.data.toList.drop 71 = dktX3_builds_3 := dk_seg dksX3_builds_2 23 rfl rfl
theorem dksX3_builds_4 : cX3_builds.data.toList.drop 93 = dktX3_builds_4 := dk_seg dksX3_builds_3 22 rfl rfl
theorem dksX3_builds_5 : cX3_builds.data.toList.drop 116 = dktX3_builds_5 := dk_seg dksX3_builds_4 23 rfl rfl
theorem dksX3_builds_6 : cX3_builds.data.toList.drop 139 = dktX3_builds_6 := dk_seg dksX3_builds_5 23 rfl rfl
theorem dksX3_builds_7 : cX3_builds.data.toList.drop 162 = dktX3_builds_7 := dk_seg dksX3_builds_6 23 rfl rfl
theorem dksX3_builds_8 : cX3_builds.data.toList.drop 185 = dktX3_builds_8 := dk_seg dksX3_builds_7 23 rfl rfl
theorem dX3_builds_0 : decode cX3_builds 0 = .ok (.aload_n 0, 1) := dk_42 (dk_at dksX3_builds_0 0 rfl rfl)
theorem dX3_builds_1 : decode cX3_builds 1 = .ok (.getfield 22, 3) := dk_180 0 22 (dk_at dksX3_builds_0 1 rfl rfl)
theorem dX3_builds_4 : decode cX3_builds 4 = .ok (.iload_n 1, 1) := dk_27 (dk_at dksX3_builds_0 4 rfl rfl)
theorem dX3_builds_5 : decode cX3_builds 5 = .ok (.aaload, 1) := dk_50 (dk_at dksX3_builds_0 5 rfl rfl)
theorem dX3_builds_6 : decode cX3_builds 6 = .ok (.astore_n 2, 1) := dk_77 (dk_at dksX3_builds_0 6 rfl rfl)
theorem dX3_builds_7 : decode cX3_builds 7 = .ok (.aload_n 0, 1) := dk_42 (dk_at dksX3_builds_0 7 rfl rfl)
theorem dX3_builds_8 : decode cX3_builds 8 = .ok (.getfield 30, 3) := dk_180 0 30 (dk_at dksX3_builds_0 8 rfl rfl)
theorem dX3_builds_11 : decode cX3_builds 11 = .ok (.aload_n 0, 1) := dk_42 (dk_at dksX3_builds_0 11 rfl rfl)
theorem dX3_builds_12 : decode cX3_builds 12 = .ok (.getfield 3, 3) := dk_180 0 3 (dk_at dksX3_builds_0 12 rfl rfl)
theorem dX3_builds_15 : decode cX3_builds 15 = .ok (.getfield 83, 3) := dk_180 0 83 (dk_at dksX3_builds_0 15 rfl rfl)
theorem dX3_builds_18 : decode cX3_builds 18 = .ok (.getfield 87, 3) := dk_180 0 87 (dk_at dksX3_builds_0 18 rfl rfl)
theorem dX3_builds_21 : decode cX3_builds 21 = .ok (.getfield 93, 3) := dk_180 0 93 (dk_at dksX3_builds_0 21 rfl rfl)
theorem dX3_builds_24 : decode cX3_builds 24 = .ok (.iconst 0, 1) := dk_3 (dk_at dksX3_builds_1 0 rfl rfl)
theorem dX3_builds_25 : decode cX3_builds 25 = .ok (.iaload, 1) := dk_46 (dk_at dksX3_builds_1 1 rfl rfl)
theorem dX3_builds_26 : decode cX3_builds 26 = .ok (.invokestatic 100, 3) := dk_184 0 100 (dk_at dksX3_builds_1 2 rfl rfl)
theorem dX3_builds_29 : decode cX3_builds 29 = .ok (.istore_n 3, 1) := dk_62 (dk_at dksX3_builds_1 5 rfl rfl)
theorem dX3_builds_30 : decode cX3_builds 30 = .ok (.aload_n 0, 1) := dk_42 (dk_at dksX3_builds_1 6 rfl rfl)
theorem dX3_builds_31 : decode cX3_builds 31 = .ok (.getfield 3, 3) := dk_180 0 3 (dk_at dksX3_builds_1 7 rfl rfl)
theorem dX3_builds_34 : decode cX3_builds 34 = .ok (.aload_n 0, 1) := dk_42 (dk_at dksX3_builds_1 10 rfl rfl)
theorem dX3_builds_35 : decode cX3_builds 35 = .ok (.iload_n 1, 1) := dk_27 (dk_at dksX3_builds_1 11 rfl rfl)
theorem dX3_builds_36 : decode cX3_builds 36 = .ok (.iload_n 3, 1) := dk_29 (dk_at dksX3_builds_1 12 rfl rfl)
theorem dX3_builds_37 : decode cX3_builds 37 = .ok (.invokevirtual 103, 3) := dk_182 0 103 (dk_at dksX3_builds_1 13 rfl rfl)
theorem dX3_builds_40 : decode cX3_builds 40 = .ok (.iconst 0, 1) := dk_3 (dk_at dksX3_builds_1 16 rfl rfl)
theorem dX3_builds_41 : decode cX3_builds 41 = .ok (.istore 4, 2) := dk_54 4 (dk_at dksX3_builds_1 17 rfl rfl)
theorem dX3_builds_43 : decode cX3_builds 43 = .ok (.iconst 0, 1) := dk_3 (dk_at dksX3_builds_1 19 rfl rfl)
theorem dX3_builds_44 : decode cX3_builds 44 = .ok (.istore 5, 2) := dk_54 5 (dk_at dksX3_builds_1 20 rfl rfl)
theorem dX3_builds_46 : decode cX3_builds 46 = .ok (.iload 5, 2) := dk_21 5 (dk_at dksX3_builds_1 22 rfl rfl)
theorem dX3_builds_48 : decode cX3_builds 48 = .ok (.iload_n 3, 1) := dk_29 (dk_at dksX3_builds_2 0 rfl rfl)
theorem dX3_builds_49 : decode cX3_builds 49 = .ok (.if_icmp .ge 134, 3) := dk_162 0 134 (dk_at dksX3_builds_2 1 rfl rfl)
theorem dX3_builds_52 : decode cX3_builds 52 = .ok (.aload_n 2, 1) := dk_44 (dk_at dksX3_builds_2 4 rfl rfl)
theorem dX3_builds_53 : decode cX3_builds 53 = .ok (.getfield 107, 3) := dk_180 0 107 (dk_at dksX3_builds_2 5 rfl rfl)
theorem dX3_builds_56 : decode cX3_builds 56 = .ok (.iload 5, 2) := dk_21 5 (dk_at dksX3_builds_2 8 rfl rfl)
theorem dX3_builds_58 : decode cX3_builds 58 = .ok (.aaload, 1) := dk_50 (dk_at dksX3_builds_2 10 rfl rfl)
theorem dX3_builds_59 : decode cX3_builds 59 = .ok (.astore 6, 2) := dk_58 6 (dk_at dksX3_builds_2 11 rfl rfl)
theorem dX3_builds_61 : decode cX3_builds 61 = .ok (.aload 6, 2) := dk_25 6 (dk_at dksX3_builds_2 13 rfl rfl)
theorem dX3_builds_63 : decode cX3_builds 63 = .ok (.iload 4, 2) := dk_21 4 (dk_at dksX3_builds_2 15 rfl rfl)
theorem dX3_builds_65 : decode cX3_builds 65 = .ok (.putfield 111, 3) := dk_181 0 111 (dk_at dksX3_builds_2 17 rfl rfl)
theorem dX3_builds_68 : decode cX3_builds 68 = .ok (.aload 6, 2) := dk_25 6 (dk_at dksX3_builds_2 20 rfl rfl)
theorem dX3_builds_70 : decode cX3_builds 70 = .ok (.aload_n 0, 1) := dk_42 (dk_at dksX3_builds_2 22 rfl rfl)
theorem dX3_builds_71 : decode cX3_builds 71 = .ok (.getfield 3, 3) := dk_180 0 3 (dk_at dksX3_builds_3 0 rfl rfl)
theorem dX3_builds_74 : decode cX3_builds 74 = .ok (.getfield 114, 3) := dk_180 0 114 (dk_at dksX3_builds_3 3 rfl rfl)
theorem dX3_builds_77 : decode cX3_builds 77 = .ok (.iload_n 3, 1) := dk_29 (dk_at dksX3_builds_3 6 rfl rfl)
theorem dX3_builds_78 : decode cX3_builds 78 = .ok (.iload 5, 2) := dk_21 5 (dk_at dksX3_builds_3 7 rfl rfl)
theorem dX3_builds_80 : decode cX3_builds 80 = .ok (.isub, 1) := dk_100 (dk_at dksX3_builds_3 9 rfl rfl)
theorem dX3_builds_81 : decode cX3_builds 81 = .ok (.aaload, 1) := dk_50 (dk_at dksX3_builds_3 10 rfl rfl)
theorem dX3_builds_82 : decode cX3_builds 82 = .ok (.iload 4, 2) := dk_21 4 (dk_at dksX3_builds_3 11 rfl rfl)
theorem dX3_builds_84 : decode cX3_builds 84 = .ok (.iaload, 1) := dk_46 (dk_at dksX3_builds_3 13 rfl rfl)
theorem dX3_builds_85 : decode cX3_builds 85 = .ok (.iconst 1, 1) := dk_4 (dk_at dksX3_builds_3 14 rfl rfl)
theorem dX3_builds_86 : decode cX3_builds 86 = .ok (.isub, 1) := dk_100 (dk_at dksX3_builds_3 15 rfl rfl)
theorem dX3_builds_87 : decode cX3_builds 87 = .ok (.putfield 118, 3) := dk_181 0 118 (dk_at dksX3_builds_3 16 rfl rfl)
theorem dX3_builds_90 : decode cX3_builds 90 = .ok (.aload 6, 2) := dk_25 6 (dk_at dksX3_builds_3 19 rfl rfl)
theorem dX3_builds_92 : decode cX3_builds 92 = .ok (.iconst 0, 1) := dk_3 (dk_at dksX3_builds_3 21 rfl rfl)
theorem dX3_builds_93 : decode cX3_builds 93 = .ok (.putfield 121, 3) := dk_181 0 121 (dk_at dksX3_builds_4 0 rfl rfl)
theorem dX3_builds_96 : decode cX3_builds 96 = .ok (.aload 6, 2) := dk_25 6 (dk_at dksX3_builds_4 3 rfl rfl)
theorem dX3_builds_98 : decode cX3_builds 98 = .ok (.iconst 0, 1) := dk_3 (dk_at dksX3_builds_4 5 rfl rfl)
theorem dX3_builds_99 : decode cX3_builds 99 = .ok (.putfield 124, 3) := dk_181 0 124 (dk_at dksX3_builds_4 6 rfl rfl)
theorem dX3_builds_102 : decode cX3_builds 102 = .ok (.aload 6, 2) := dk_25 6 (dk_at dksX3_builds_4 9 rfl rfl)
theorem dX3_builds_104 : decode cX3_builds 104 = .ok (.getfield 111, 3) := dk_180 0 111 (dk_at dksX3_builds_4 11 rfl rfl)
theorem dX3_builds_107 : decode cX3_builds 107 = .ok (.istore 7, 2) := dk_54 7 (dk_at dksX3_builds_4 14 rfl rfl)
theorem dX3_builds_109 : decode cX3_builds 109 = .ok (.iload 7, 2) := dk_21 7 (dk_at dksX3_builds_4 16 rfl rfl)
theorem dX3_builds_111 : decode cX3_builds 111 = .ok (.aload 6, 2) := dk_25 6 (dk_at dksX3_builds_4 18 rfl rfl)
theorem dX3_builds_113 : decode cX3_builds 113 = .ok (.getfield 118, 3) := dk_180 0 118 (dk_at dksX3_builds_4 20 rfl rfl)
theorem dX3_builds_116 : decode cX3_builds 116 = .ok (.if_icmp .gt 52, 3) := dk_163 0 52 (dk_at dksX3_builds_5 0 rfl rfl)
theorem dX3_builds_119 : decode cX3_builds 119 = .ok (.aload 6, 2) := dk_25 6 (dk_at dksX3_builds_5 3 rfl rfl)
theorem dX3_builds_121 : decode cX3_builds 121 = .ok (.dup, 1) := dk_89 (dk_at dksX3_builds_5 5 rfl rfl)
theorem dX3_builds_122 : decode cX3_builds 122 = .ok (.getfield 121, 3) := dk_180 0 121 (dk_at dksX3_builds_5 6 rfl rfl)
theorem dX3_builds_125 : decode cX3_builds 125 = .ok (.aload_n 0, 1) := dk_42 (dk_at dksX3_builds_5 9 rfl rfl)
theorem dX3_builds_126 : decode cX3_builds 126 = .ok (.getfield 3, 3) := dk_180 0 3 (dk_at dksX3_builds_5 10 rfl rfl)
theorem dX3_builds_129 : decode cX3_builds 129 = .ok (.getfield 127, 3) := dk_180 0 127 (dk_at dksX3_builds_5 13 rfl rfl)
theorem dX3_builds_132 : decode cX3_builds 132 = .ok (.iload 7, 2) := dk_21 7 (dk_at dksX3_builds_5 16 rfl rfl)
theorem dX3_builds_134 : decode cX3_builds 134 = .ok (.iaload, 1) := dk_46 (dk_at dksX3_builds_5 18 rfl rfl)
theorem dX3_builds_135 : decode cX3_builds 135 = .ok (.iadd, 1) := dk_96 (dk_at dksX3_builds_5 19 rfl rfl)
theorem dX3_builds_136 : decode cX3_builds 136 = .ok (.putfield 121, 3) := dk_181 0 121 (dk_at dksX3_builds_5 20 rfl rfl)
theorem dX3_builds_139 : decode cX3_builds 139 = .ok (.aload 6, 2) := dk_25 6 (dk_at dksX3_builds_6 0 rfl rfl)
theorem dX3_builds_141 : decode cX3_builds 141 = .ok (.aload 6, 2) := dk_25 6 (dk_at dksX3_builds_6 2 rfl rfl)
theorem dX3_builds_143 : decode cX3_builds 143 = .ok (.getfield 124, 3) := dk_180 0 124 (dk_at dksX3_builds_6 4 rfl rfl)
theorem dX3_builds_146 : decode cX3_builds 146 = .ok (.aload_n 0, 1) := dk_42 (dk_at dksX3_builds_6 7 rfl rfl)
theorem dX3_builds_147 : decode cX3_builds 147 = .ok (.getfield 3, 3) := dk_180 0 3 (dk_at dksX3_builds_6 8 rfl rfl)
theorem dX3_builds_150 : decode cX3_builds 150 = .ok (.getfield 127, 3) := dk_180 0 127 (dk_at dksX3_builds_6 11 rfl rfl)
theorem dX3_builds_153 : decode cX3_builds 153 = .ok (.iload 7, 2) := dk_21 7 (dk_at dksX3_builds_6 14 rfl rfl)
theorem dX3_builds_155 : decode cX3_builds 155 = .ok (.iaload, 1) := dk_46 (dk_at dksX3_builds_6 16 rfl rfl)
theorem dX3_builds_156 : decode cX3_builds 156 = .ok (.invokestatic 130, 3) := dk_184 0 130 (dk_at dksX3_builds_6 17 rfl rfl)
theorem dX3_builds_159 : decode cX3_builds 159 = .ok (.putfield 124, 3) := dk_181 0 124 (dk_at dksX3_builds_6 20 rfl rfl)
theorem dX3_builds_162 : decode cX3_builds 162 = .ok (.iinc 7 1, 3) := dk_132 7 1 (dk_at dksX3_builds_7 0 rfl rfl)
theorem dX3_builds_165 : decode cX3_builds 165 = .ok (.goto (-56), 3) := dk_167 255 200 (dk_at dksX3_builds_7 3 rfl rfl)
theorem dX3_builds_168 : decode cX3_builds 168 = .ok (.aload 6, 2) := dk_25 6 (dk_at dksX3_builds_7 6 rfl rfl)
theorem dX3_builds_170 : decode cX3_builds 170 = .ok (.getfield 118, 3) := dk_180 0 118 (dk_at dksX3_builds_7 8 rfl rfl)
theorem dX3_builds_173 : decode cX3_builds 173 = .ok (.iconst 1, 1) := dk_4 (dk_at dksX3_builds_7 11 rfl rfl)
theorem dX3_builds_174 : decode cX3_builds 174 = .ok (.iadd, 1) := dk_96 (dk_at dksX3_builds_7 12 rfl rfl)
theorem dX3_builds_175 : decode cX3_builds 175 = .ok (.istore 4, 2) := dk_54 4 (dk_at dksX3_builds_7 13 rfl rfl)
theorem dX3_builds_177 : decode cX3_builds 177 = .ok (.iinc 5 1, 3) := dk_132 5 1 (dk_at dksX3_builds_7 15 rfl rfl)
theorem dX3_builds_180 : decode cX3_builds 180 = .ok (.goto (-134), 3) := dk_167 255 122 (dk_at dksX3_builds_7 18 rfl rfl)
theorem dX3_builds_183 : decode cX3_builds 183 = .ok (.aload_n 2, 1) := dk_44 (dk_at dksX3_builds_7 21 rfl rfl)
theorem dX3_builds_184 : decode cX3_builds 184 = .ok (.iload_n 3, 1) := dk_29 (dk_at dksX3_builds_7 22 rfl rfl)
theorem dX3_builds_185 : decode cX3_builds 185 = .ok (.putfield 133, 3) := dk_181 0 133 (dk_at dksX3_builds_8 0 rfl rfl)
theorem dX3_builds_188 : decode cX3_builds 188 = .ok (.aload_n 2, 1) := dk_44 (dk_at dksX3_builds_8 3 rfl rfl)
theorem dX3_builds_189 : decode cX3_builds 189 = .ok (.iconst 0, 1) := dk_3 (dk_at dksX3_builds_8 4 rfl rfl)
theorem dX3_builds_190 : decode cX3_builds 190 = .ok (.putfield 74, 3) := dk_181 0 74 (dk_at dksX3_builds_8 5 rfl rfl)
theorem dX3_builds_193 : decode cX3_builds 193 = .ok (.return_, 1) := dk_177 (dk_at dksX3_builds_8 8 rfl rfl)
abbrev cX3_count : ByteArray := prog_12_method_7_code
def yX3_count : MethodName := ⟨RX3, "count", "(II)I"⟩
def dkwX3_count_1 : List UInt8 := [182, 0, 51, 167, 0, 10, 42, 21, 4, 28, 182, 0, 51, 96, 62, 132, 4, 1, 167, 255, 220, 29, 172]
abbrev dktX3_count_1 : List UInt8 := dkwX3_count_1 ++ []
def dkwX3_count_0 : List UInt8 := [3, 62, 2, 54, 4, 21, 4, 42, 180, 0, 30, 162, 0, 33, 29, 27, 154, 0, 13, 42, 28, 21, 4]
abbrev dktX3_count_0 : List UInt8 := dkwX3_count_0 ++ dktX3_count_1
theorem dksX3_count_0 : cX3_count.data.toList.drop 0 = dktX3_count_0 := by decide +kernel
theorem dksX3_count_1 : cX3_count.data.toList.drop 23 = dktX3_count_1 := dk_seg dksX3_count_0 23 rfl rfl
theorem dX3_count_0 : decode cX3_count 0 = .ok (.iconst 0, 1) := dk_3 (dk_at dksX3_count_0 0 rfl rfl)
theorem dX3_count_1 : decode cX3_count 1 = .ok (.istore_n 3, 1) := dk_62 (dk_at dksX3_count_0 1 rfl rfl)
theorem dX3_count_2 : decode cX3_count 2 = .ok (.iconst (-1), 1) := dk_2 (dk_at dksX3_count_0 2 rfl rfl)
theorem dX3_count_3 : decode cX3_count 3 = .ok (.istore 4, 2) := dk_54 4 (dk_at dksX3_count_0 3 rfl rfl)
theorem dX3_count_5 : decode cX3_count 5 = .ok (.iload 4, 2) := dk_21 4 (dk_at dksX3_count_0 5 rfl rfl)
theorem dX3_count_7 : decode cX3_count 7 = .ok (.aload_n 0, 1) := dk_42 (dk_at dksX3_count_0 7 rfl rfl)
theorem dX3_count_8 : decode cX3_count 8 = .ok (.getfield 30, 3) := dk_180 0 30 (dk_at dksX3_count_0 8 rfl rfl)
theorem dX3_count_11 : decode cX3_count 11 = .ok (.if_icmp .ge 33, 3) := dk_162 0 33 (dk_at dksX3_count_0 11 rfl rfl)
theorem dX3_count_14 : decode cX3_count 14 = .ok (.iload_n 3, 1) := dk_29 (dk_at dksX3_count_0 14 rfl rfl)
theorem dX3_count_15 : decode cX3_count 15 = .ok (.iload_n 1, 1) := dk_27 (dk_at dksX3_count_0 15 rfl rfl)
theorem dX3_count_16 : decode cX3_count 16 = .ok (.ifCond .ne 13, 3) := dk_154 0 13 (dk_at dksX3_count_0 16 rfl rfl)
theorem dX3_count_19 : decode cX3_count 19 = .ok (.aload_n 0, 1) := dk_42 (dk_at dksX3_count_0 19 rfl rfl)
theorem dX3_count_20 : decode cX3_count 20 = .ok (.iload_n 2, 1) := dk_28 (dk_at dksX3_count_0 20 rfl rfl)
theorem dX3_count_21 : decode cX3_count 21 = .ok (.iload 4, 2) := dk_21 4 (dk_at dksX3_count_0 21 rfl rfl)
theorem dX3_count_23 : decode cX3_count 23 = .ok (.invokevirtual 51, 3) := dk_182 0 51 (dk_at dksX3_count_1 0 rfl rfl)
theorem dX3_count_26 : decode cX3_count 26 = .ok (.goto 10, 3) := dk_167 0 10 (dk_at dksX3_count_1 3 rfl rfl)
theorem dX3_count_29 : decode cX3_count 29 = .ok (.aload_n 0, 1) := dk_42 (dk_at dksX3_count_1 6 rfl rfl)
theorem dX3_count_30 : decode cX3_count 30 = .ok (.iload 4, 2) := dk_21 4 (dk_at dksX3_count_1 7 rfl rfl)
theorem dX3_count_32 : decode cX3_count 32 = .ok (.iload_n 2, 1) := dk_28 (dk_at dksX3_count_1 9 rfl rfl)
theorem dX3_count_33 : decode cX3_count 33 = .ok (.invokevirtual 51, 3) := dk_182 0 51 (dk_at dksX3_count_1 10 rfl rfl)
theorem dX3_count_36 : decode cX3_count 36 = .ok (.iadd, 1) := dk_96 (dk_at dksX3_count_1 13 rfl rfl)
theorem dX3_count_37 : decode cX3_count 37 = .ok (.istore_n 3, 1) := dk_62 (dk_at dksX3_count_1 14 rfl rfl)
theorem dX3_count_38 : decode cX3_count 38 = .ok (.iinc 4 1, 3) := dk_132 4 1 (dk_at dksX3_count_1 15 rfl rfl)
theorem dX3_count_41 : decode cX3_count 41 = .ok (.goto (-36), 3) := dk_167 255 220 (dk_at dksX3_count_1 18 rfl rfl)
theorem dX3_count_44 : decode cX3_count 44 = .ok (.iload_n 3, 1) := dk_29 (dk_at dksX3_count_1 21 rfl rfl)
theorem dX3_count_45 : decode cX3_count 45 = .ok (.ireturn, 1) := dk_172 (dk_at dksX3_count_1 22 rfl rfl)
abbrev cX3_alike : ByteArray := prog_12_method_6_code
def yX3_alike : MethodName := ⟨RX3, "alike", "(II)I"⟩
def dkwX3_alike_0 : List UInt8 := [42, 180, 0, 15, 42, 27, 28, 182, 0, 47, 46, 172]
abbrev dktX3_alike_0 : List UInt8 := dkwX3_alike_0 ++ []
theorem dksX3_alike_0 : cX3_alike.data.toList.drop 0 = dktX3_alike_0 := by decide +kernel
theorem dX3_alike_0 : decode cX3_alike 0 = .ok (.aload_n 0, 1) := dk_42 (dk_at dksX3_alike_0 0 rfl rfl)
theorem dX3_alike_1 : decode cX3_alike 1 = .ok (.getfield 15, 3) := dk_180 0 15 (dk_at dksX3_alike_0 1 rfl rfl)
theorem dX3_alike_4 : decode cX3_alike 4 = .ok (.aload_n 0, 1) := dk_42 (dk_at dksX3_alike_0 4 rfl rfl)
theorem dX3_alike_5 : decode cX3_alike 5 = .ok (.iload_n 1, 1) := dk_27 (dk_at dksX3_alike_0 5 rfl rfl)
theorem dX3_alike_6 : decode cX3_alike 6 = .ok (.iload_n 2, 1) := dk_28 (dk_at dksX3_alike_0 6 rfl rfl)
theorem dX3_alike_7 : decode cX3_alike 7 = .ok (.invokevirtual 47, 3) := dk_182 0 47 (dk_at dksX3_alike_0 7 rfl rfl)
theorem dX3_alike_10 : decode cX3_alike 10 = .ok (.iaload, 1) := dk_46 (dk_at dksX3_alike_0 10 rfl rfl)
theorem dX3_alike_11 : decode cX3_alike 11 = .ok (.ireturn, 1) := dk_172 (dk_at dksX3_alike_0 11 rfl rfl)
abbrev cX3_isValue : ByteArray := prog_12_method_5_code
def yX3_isValue : MethodName := ⟨RX3, "isValue", "(I)Z"⟩
def dkwX3_isValue_1 : List UInt8 := [167, 0, 4, 3, 172]
abbrev dktX3_isValue_1 : List UInt8 := dkwX3_isValue_1 ++ []
def dkwX3_isValue_0 : List UInt8 := [27, 2, 159, 0, 19, 27, 133, 9, 42, 180, 0, 30, 4, 100, 133, 184, 0, 43, 153, 0, 7, 4]
abbrev dktX3_isValue_0 : List UInt8 := dkwX3_isValue_0 ++ dktX3_isValue_1
theorem dksX3_isValue_0 : cX3_isValue.data.toList.drop 0 = dktX3_isValue_0 := by decide +kernel
theorem dksX3_isValue_1 : cX3_isValue.data.toList.drop 22 = dktX3_isValue_1 := dk_seg dksX3_isValue_0 22 rfl rfl
theorem dX3_isValue_0 : decode cX3_isValue 0 = .ok (.iload_n 1, 1) := dk_27 (dk_at dksX3_isValue_0 0 rfl rfl)
theorem dX3_isValue_1 : decode cX3_isValue 1 = .ok (.iconst (-1), 1) := dk_2 (dk_at dksX3_isValue_0 1 rfl rfl)
theorem dX3_isValue_2 : decode cX3_isValue 2 = .ok (.if_icmp .eq 19, 3) := dk_159 0 19 (dk_at dksX3_isValue_0 2 rfl rfl)
theorem dX3_isValue_5 : decode cX3_isValue 5 = .ok (.iload_n 1, 1) := dk_27 (dk_at dksX3_isValue_0 5 rfl rfl)
theorem dX3_isValue_6 : decode cX3_isValue 6 = .ok (.i2l, 1) := dk_133 (dk_at dksX3_isValue_0 6 rfl rfl)
theorem dX3_isValue_7 : decode cX3_isValue 7 = .ok (.lconst 0, 1) := dk_9 (dk_at dksX3_isValue_0 7 rfl rfl)
theorem dX3_isValue_8 : decode cX3_isValue 8 = .ok (.aload_n 0, 1) := dk_42 (dk_at dksX3_isValue_0 8 rfl rfl)
theorem dX3_isValue_9 : decode cX3_isValue 9 = .ok (.getfield 30, 3) := dk_180 0 30 (dk_at dksX3_isValue_0 9 rfl rfl)
theorem dX3_isValue_12 : decode cX3_isValue 12 = .ok (.iconst 1, 1) := dk_4 (dk_at dksX3_isValue_0 12 rfl rfl)
theorem dX3_isValue_13 : decode cX3_isValue 13 = .ok (.isub, 1) := dk_100 (dk_at dksX3_isValue_0 13 rfl rfl)
theorem dX3_isValue_14 : decode cX3_isValue 14 = .ok (.i2l, 1) := dk_133 (dk_at dksX3_isValue_0 14 rfl rfl)
theorem dX3_isValue_15 : decode cX3_isValue 15 = .ok (.invokestatic 43, 3) := dk_184 0 43 (dk_at dksX3_isValue_0 15 rfl rfl)
theorem dX3_isValue_18 : decode cX3_isValue 18 = .ok (.ifCond .eq 7, 3) := dk_153 0 7 (dk_at dksX3_isValue_0 18 rfl rfl)
theorem dX3_isValue_21 : decode cX3_isValue 21 = .ok (.iconst 1, 1) := dk_4 (dk_at dksX3_isValue_0 21 rfl rfl)
theorem dX3_isValue_22 : decode cX3_isValue 22 = .ok (.goto 4, 3) := dk_167 0 4 (dk_at dksX3_isValue_1 0 rfl rfl)
theorem dX3_isValue_25 : decode cX3_isValue 25 = .ok (.iconst 0, 1) := dk_3 (dk_at dksX3_isValue_1 3 rfl rfl)
theorem dX3_isValue_26 : decode cX3_isValue 26 = .ok (.ireturn, 1) := dk_172 (dk_at dksX3_isValue_1 4 rfl rfl)
abbrev cX3_becomes : ByteArray := prog_12_method_4_code
def yX3_becomes : MethodName := ⟨RX3, "becomes", "(LSafeBuckets$Sheet;)V"⟩
def dkwX3_becomes_2 : List UInt8 := [180, 0, 22, 28, 50, 182, 0, 39, 132, 2, 1, 167, 255, 233, 177]
abbrev dktX3_becomes_2 : List UInt8 := dkwX3_becomes_2 ++ []
def dkwX3_becomes_1 : List UInt8 := [42, 43, 180, 0, 30, 181, 0, 30, 3, 61, 28, 5, 162, 0, 24, 42, 180, 0, 22, 28, 50, 43]
abbrev dktX3_becomes_1 : List UInt8 := dkwX3_becomes_1 ++ dktX3_becomes_2
def dkwX3_becomes_0 : List UInt8 := [43, 180, 0, 15, 3, 42, 180, 0, 15, 3, 17, 1, 33, 184, 0, 33, 42, 43, 180, 0, 26, 181, 0, 26]
abbrev dktX3_becomes_0 : List UInt8 := dkwX3_becomes_0 ++ dktX3_becomes_1
theorem dksX3_becomes_0 : cX3_becomes.data.toList.drop 0 = dktX3_becomes_0 := by decide +kernel
theorem dksX3_becomes_1 : cX3_becomes.data.toList.drop 24 = dktX3_becomes_1 := dk_seg dksX3_becomes_0 24 rfl rfl
theorem dksX3_becomes_2 : cX3_becomes.data.toList.drop 46 = dktX3_becomes_2 := dk_seg dksX3_becomes_1 22 rfl rfl
theorem dX3_becomes_0 : decode cX3_becomes 0 = .ok (.aload_n 1, 1) := dk_43 (dk_at dksX3_becomes_0 0 rfl rfl)
theorem dX3_becomes_1 : decode cX3_becomes 1 = .ok (.getfield 15, 3) := dk_180 0 15 (dk_at dksX3_becomes_0 1 rfl rfl)
theorem dX3_becomes_4 : decode cX3_becomes 4 = .ok (.iconst 0, 1) := dk_3 (dk_at dksX3_becomes_0 4 rfl rfl)
theorem dX3_becomes_5 : decode cX3_becomes 5 = .ok (.aload_n 0, 1) := dk_42 (dk_at dksX3_becomes_0 5 rfl rfl)
theorem dX3_becomes_6 : decode cX3_becomes 6 = .ok (.getfield 15, 3) := dk_180 0 15 (dk_at dksX3_becomes_0 6 rfl rfl)
theorem dX3_becomes_9 : decode cX3_becomes 9 = .ok (.iconst 0, 1) := dk_3 (dk_at dksX3_becomes_0 9 rfl rfl)
theorem dX3_becomes_10 : decode cX3_becomes 10 = .ok (.sipush 289, 3) := dk_17 1 33 (dk_at dksX3_becomes_0 10 rfl rfl)
theorem dX3_becomes_13 : decode cX3_becomes 13 = .ok (.invokestatic 33, 3) := dk_184 0 33 (dk_at dksX3_becomes_0 13 rfl rfl)
theorem dX3_becomes_16 : decode cX3_becomes 16 = .ok (.aload_n 0, 1) := dk_42 (dk_at dksX3_becomes_0 16 rfl rfl)
theorem dX3_becomes_17 : decode cX3_becomes 17 = .ok (.aload_n 1, 1) := dk_43 (dk_at dksX3_becomes_0 17 rfl rfl)
theorem dX3_becomes_18 : decode cX3_becomes 18 = .ok (.getfield 26, 3) := dk_180 0 26 (dk_at dksX3_becomes_0 18 rfl rfl)
theorem dX3_becomes_21 : decode cX3_becomes 21 = .ok (.putfield 26, 3) := dk_181 0 26 (dk_at dksX3_becomes_0 21 rfl rfl)
theorem dX3_becomes_24 : decode cX3_becomes 24 = .ok (.aload_n 0, 1) := dk_42 (dk_at dksX3_becomes_1 0 rfl rfl)
theorem dX3_becomes_25 : decode cX3_becomes 25 = .ok (.aload_n 1, 1) := dk_43 (dk_at dksX3_becomes_1 1 rfl rfl)
theorem dX3_becomes_26 : decode cX3_becomes 26 = .ok (.getfield 30, 3) := dk_180 0 30 (dk_at dksX3_becomes_1 2 rfl rfl)
theorem dX3_becomes_29 : decode cX3_becomes 29 = .ok (.putfield 30, 3) := dk_181 0 30 (dk_at dksX3_becomes_1 5 rfl rfl)
theorem dX3_becomes_32 : decode cX3_becomes 32 = .ok (.iconst 0, 1) := dk_3 (dk_at dksX3_becomes_1 8 rfl rfl)
theorem dX3_becomes_33 : decode cX3_becomes 33 = .ok (.istore_n 2, 1) := dk_61 (dk_at dksX3_becomes_1 9 rfl rfl)
theorem dX3_becomes_34 : decode cX3_becomes 34 = .ok (.iload_n 2, 1) := dk_28 (dk_at dksX3_becomes_1 10 rfl rfl)
theorem dX3_becomes_35 : decode cX3_becomes 35 = .ok (.iconst 2, 1) := dk_5 (dk_at dksX3_becomes_1 11 rfl rfl)
theorem dX3_becomes_36 : decode cX3_becomes 36 = .ok (.if_icmp .ge 24, 3) := dk_162 0 24 (dk_at dksX3_becomes_1 12 rfl rfl)
theorem dX3_becomes_39 : decode cX3_becomes 39 = .ok (.aload_n 0, 1) := dk_42 (dk_at dksX3_becomes_1 15 rfl rfl)
theorem dX3_becomes_40 : decode cX3_becomes 40 = .ok (.getfield 22, 3) := dk_180 0 22 (dk_at dksX3_becomes_1 16 rfl rfl)
theorem dX3_becomes_43 : decode cX3_becomes 43 = .ok (.iload_n 2, 1) := dk_28 (dk_at dksX3_becomes_1 19 rfl rfl)
theorem dX3_becomes_44 : decode cX3_becomes 44 = .ok (.aaload, 1) := dk_50 (dk_at dksX3_becomes_1 20 rfl rfl)
theorem dX3_becomes_45 : decode cX3_becomes 45 = .ok (.aload_n 1, 1) := dk_43 (dk_at dksX3_becomes_1 21 rfl rfl)
theorem dX3_becomes_46 : decode cX3_becomes 46 = .ok (.getfield 22, 3) := dk_180 0 22 (dk_at dksX3_becomes_2 0 rfl rfl)
theorem dX3_becomes_49 : decode cX3_becomes 49 = .ok (.iload_n 2, 1) := dk_28 (dk_at dksX3_becomes_2 3 rfl rfl)
theorem dX3_becomes_50 : decode cX3_becomes 50 = .ok (.aaload, 1) := dk_50 (dk_at dksX3_becomes_2 4 rfl rfl)
theorem dX3_becomes_51 : decode cX3_becomes 51 = .ok (.invokevirtual 39, 3) := dk_182 0 39 (dk_at dksX3_becomes_2 5 rfl rfl)
theorem dX3_becomes_54 : decode cX3_becomes 54 = .ok (.iinc 2 1, 3) := dk_132 2 1 (dk_at dksX3_becomes_2 8 rfl rfl)
theorem dX3_becomes_57 : decode cX3_becomes 57 = .ok (.goto (-23), 3) := dk_167 255 233 (dk_at dksX3_becomes_2 11 rfl rfl)
theorem dX3_becomes_60 : decode cX3_becomes 60 = .ok (.return_, 1) := dk_177 (dk_at dksX3_becomes_2 14 rfl rfl)
abbrev cX3_comes : ByteArray := prog_12_method_10_code
def yX3_comes : MethodName := ⟨RX3, "comes", "(III)V"⟩
def dkwX3_comes_6 : List UInt8 := [182, 0, 97, 132, 4, 1, 167, 255, 213, 177]
abbrev dktX3_comes_6 : List UInt8 := dkwX3_comes_6 ++ []
def dkwX3_comes_5 : List UInt8 := [180, 0, 74, 42, 180, 0, 3, 180, 0, 83, 180, 0, 87, 180, 0, 93, 4, 46, 164, 0, 9, 42, 21, 4]
abbrev dktX3_comes_5 : List UInt8 := dkwX3_comes_5 ++ dktX3_comes_6
def dkwX3_comes_4 : List UInt8 := [132, 4, 1, 167, 255, 173, 3, 54, 4, 21, 4, 5, 162, 0, 43, 42, 180, 0, 22, 21, 4, 50]
abbrev dktX3_comes_4 : List UInt8 := dkwX3_comes_4 ++ dktX3_comes_5
def dkwX3_comes_3 : List UInt8 := [182, 0, 71, 42, 180, 0, 22, 21, 4, 50, 89, 180, 0, 74, 29, 184, 0, 77, 96, 181, 0, 74]
abbrev dktX3_comes_3 : List UInt8 := dkwX3_comes_3 ++ dktX3_comes_4
def dkwX3_comes_2 : List UInt8 := [182, 0, 61, 58, 6, 29, 158, 0, 12, 25, 6, 29, 182, 0, 65, 167, 0, 10, 25, 6, 29, 116]
abbrev dktX3_comes_2 : List UInt8 := dkwX3_comes_2 ++ dktX3_comes_3
def dkwX3_comes_1 : List UInt8 := [167, 0, 4, 28, 54, 5, 21, 5, 2, 160, 0, 6, 167, 0, 56, 42, 180, 0, 22, 21, 4, 50, 21, 5]
abbrev dktX3_comes_1 : List UInt8 := dkwX3_comes_1 ++ dktX3_comes_2
def dkwX3_comes_0 : List UInt8 := [42, 27, 28, 29, 182, 0, 57, 3, 54, 4, 21, 4, 5, 162, 0, 83, 21, 4, 154, 0, 7, 27]
abbrev dktX3_comes_0 : List UInt8 := dkwX3_comes_0 ++ dktX3_comes_1
theorem dksX3_comes_0 : cX3_comes.data.toList.drop 0 = dktX3_comes_0 := by decide +kernel
theorem dksX3_comes_1 : cX3_comes.data.toList.drop 22 = dktX3_comes_1 := dk_seg dksX3_comes_0 22 rfl rfl
theorem dksX3_comes_2 : cX3_comes.data.toList.drop 46 = dktX3_comes_2 := dk_seg dksX3_comes_1 24 rfl rfl
theorem dksX3_comes_3 : cX3_comes.data.toList.drop 68 = dktX3_comes_3 := dk_seg dksX3_comes_2 22 rfl rfl
theorem dksX3_comes_4 : cX3_comes.data.toList.drop 90 = dktX3_comes_4 := dk_seg dksX3_comes_3 22 rfl rfl
theorem dksX3_comes_5 : cX3_comes.data.toList.drop 112 = dktX3_comes_5 := dk_seg dksX3_comes_4 22 rfl rfl
theorem dksX3_comes_6 : cX3_comes.data.toList.drop 136 = dktX3_comes_6 := dk_seg dksX3_comes_5 24 rfl rfl
theorem dX3_comes_0 : decode cX3_comes 0 = .ok (.aload_n 0, 1) := dk_42 (dk_at dksX3_comes_0 0 rfl rfl)
theorem dX3_comes_1 : decode cX3_comes 1 = .ok (.iload_n 1, 1) := dk_27 (dk_at dksX3_comes_0 1 rfl rfl)
theorem dX3_comes_2 : decode cX3_comes 2 = .ok (.iload_n 2, 1) := dk_28 (dk_at dksX3_comes_0 2 rfl rfl)
theorem dX3_comes_3 : decode cX3_comes 3 = .ok (.iload_n 3, 1) := dk_29 (dk_at dksX3_comes_0 3 rfl rfl)
theorem dX3_comes_4 : decode cX3_comes 4 = .ok (.invokevirtual 57, 3) := dk_182 0 57 (dk_at dksX3_comes_0 4 rfl rfl)
theorem dX3_comes_7 : decode cX3_comes 7 = .ok (.iconst 0, 1) := dk_3 (dk_at dksX3_comes_0 7 rfl rfl)
theorem dX3_comes_8 : decode cX3_comes 8 = .ok (.istore 4, 2) := dk_54 4 (dk_at dksX3_comes_0 8 rfl rfl)
theorem dX3_comes_10 : decode cX3_comes 10 = .ok (.iload 4, 2) := dk_21 4 (dk_at dksX3_comes_0 10 rfl rfl)
theorem dX3_comes_12 : decode cX3_comes 12 = .ok (.iconst 2, 1) := dk_5 (dk_at dksX3_comes_0 12 rfl rfl)
theorem dX3_comes_13 : decode cX3_comes 13 = .ok (.if_icmp .ge 83, 3) := dk_162 0 83 (dk_at dksX3_comes_0 13 rfl rfl)
theorem dX3_comes_16 : decode cX3_comes 16 = .ok (.iload 4, 2) := dk_21 4 (dk_at dksX3_comes_0 16 rfl rfl)
theorem dX3_comes_18 : decode cX3_comes 18 = .ok (.ifCond .ne 7, 3) := dk_154 0 7 (dk_at dksX3_comes_0 18 rfl rfl)
theorem dX3_comes_21 : decode cX3_comes 21 = .ok (.iload_n 1, 1) := dk_27 (dk_at dksX3_comes_0 21 rfl rfl)
theorem dX3_comes_22 : decode cX3_comes 22 = .ok (.goto 4, 3) := dk_167 0 4 (dk_at dksX3_comes_1 0 rfl rfl)
theorem dX3_comes_25 : decode cX3_comes 25 = .ok (.iload_n 2, 1) := dk_28 (dk_at dksX3_comes_1 3 rfl rfl)
theorem dX3_comes_26 : decode cX3_comes 26 = .ok (.istore 5, 2) := dk_54 5 (dk_at dksX3_comes_1 4 rfl rfl)
theorem dX3_comes_28 : decode cX3_comes 28 = .ok (.iload 5, 2) := dk_21 5 (dk_at dksX3_comes_1 6 rfl rfl)
theorem dX3_comes_30 : decode cX3_comes 30 = .ok (.iconst (-1), 1) := dk_2 (dk_at dksX3_comes_1 8 rfl rfl)
theorem dX3_comes_31 : decode cX3_comes 31 = .ok (.if_icmp .ne 6, 3) := dk_160 0 6 (dk_at dksX3_comes_1 9 rfl rfl)
theorem dX3_comes_34 : decode cX3_comes 34 = .ok (.goto 56, 3) := dk_167 0 56 (dk_at dksX3_comes_1 12 rfl rfl)
theorem dX3_comes_37 : decode cX3_comes 37 = .ok (.aload_n 0, 1) := dk_42 (dk_at dksX3_comes_1 15 rfl rfl)
theorem dX3_comes_38 : decode cX3_comes 38 = .ok (.getfield 22, 3) := dk_180 0 22 (dk_at dksX3_comes_1 16 rfl rfl)
theorem dX3_comes_41 : decode cX3_comes 41 = .ok (.iload 4, 2) := dk_21 4 (dk_at dksX3_comes_1 19 rfl rfl)
theorem dX3_comes_43 : decode cX3_comes 43 = .ok (.aaload, 1) := dk_50 (dk_at dksX3_comes_1 21 rfl rfl)
theorem dX3_comes_44 : decode cX3_comes 44 = .ok (.iload 5, 2) := dk_21 5 (dk_at dksX3_comes_1 22 rfl rfl)
theorem dX3_comes_46 : decode cX3_comes 46 = .ok (.invokevirtual 61, 3) := dk_182 0 61 (dk_at dksX3_comes_2 0 rfl rfl)
theorem dX3_comes_49 : decode cX3_comes 49 = .ok (.astore 6, 2) := dk_58 6 (dk_at dksX3_comes_2 3 rfl rfl)
theorem dX3_comes_51 : decode cX3_comes 51 = .ok (.iload_n 3, 1) := dk_29 (dk_at dksX3_comes_2 5 rfl rfl)
theorem dX3_comes_52 : decode cX3_comes 52 = .ok (.ifCond .le 12, 3) := dk_158 0 12 (dk_at dksX3_comes_2 6 rfl rfl)
theorem dX3_comes_55 : decode cX3_comes 55 = .ok (.aload 6, 2) := dk_25 6 (dk_at dksX3_comes_2 9 rfl rfl)
theorem dX3_comes_57 : decode cX3_comes 57 = .ok (.iload_n 3, 1) := dk_29 (dk_at dksX3_comes_2 11 rfl rfl)
theorem dX3_comes_58 : decode cX3_comes 58 = .ok (.invokevirtual 65, 3) := dk_182 0 65 (dk_at dksX3_comes_2 12 rfl rfl)
theorem dX3_comes_61 : decode cX3_comes 61 = .ok (.goto 10, 3) := dk_167 0 10 (dk_at dksX3_comes_2 15 rfl rfl)
theorem dX3_comes_64 : decode cX3_comes 64 = .ok (.aload 6, 2) := dk_25 6 (dk_at dksX3_comes_2 18 rfl rfl)
theorem dX3_comes_66 : decode cX3_comes 66 = .ok (.iload_n 3, 1) := dk_29 (dk_at dksX3_comes_2 20 rfl rfl)
theorem dX3_comes_67 : decode cX3_comes 67 = .ok (.ineg, 1) := dk_116 (dk_at dksX3_comes_2 21 rfl rfl)
theorem dX3_comes_68 : decode cX3_comes 68 = .ok (.invokevirtual 71, 3) := dk_182 0 71 (dk_at dksX3_comes_3 0 rfl rfl)
theorem dX3_comes_71 : decode cX3_comes 71 = .ok (.aload_n 0, 1) := dk_42 (dk_at dksX3_comes_3 3 rfl rfl)
theorem dX3_comes_72 : decode cX3_comes 72 = .ok (.getfield 22, 3) := dk_180 0 22 (dk_at dksX3_comes_3 4 rfl rfl)
theorem dX3_comes_75 : decode cX3_comes 75 = .ok (.iload 4, 2) := dk_21 4 (dk_at dksX3_comes_3 7 rfl rfl)
theorem dX3_comes_77 : decode cX3_comes 77 = .ok (.aaload, 1) := dk_50 (dk_at dksX3_comes_3 9 rfl rfl)
theorem dX3_comes_78 : decode cX3_comes 78 = .ok (.dup, 1) := dk_89 (dk_at dksX3_comes_3 10 rfl rfl)
theorem dX3_comes_79 : decode cX3_comes 79 = .ok (.getfield 74, 3) := dk_180 0 74 (dk_at dksX3_comes_3 11 rfl rfl)
theorem dX3_comes_82 : decode cX3_comes 82 = .ok (.iload_n 3, 1) := dk_29 (dk_at dksX3_comes_3 14 rfl rfl)
theorem dX3_comes_83 : decode cX3_comes 83 = .ok (.invokestatic 77, 3) := dk_184 0 77 (dk_at dksX3_comes_3 15 rfl rfl)
theorem dX3_comes_86 : decode cX3_comes 86 = .ok (.iadd, 1) := dk_96 (dk_at dksX3_comes_3 18 rfl rfl)
theorem dX3_comes_87 : decode cX3_comes 87 = .ok (.putfield 74, 3) := dk_181 0 74 (dk_at dksX3_comes_3 19 rfl rfl)
theorem dX3_comes_90 : decode cX3_comes 90 = .ok (.iinc 4 1, 3) := dk_132 4 1 (dk_at dksX3_comes_4 0 rfl rfl)
theorem dX3_comes_93 : decode cX3_comes 93 = .ok (.goto (-83), 3) := dk_167 255 173 (dk_at dksX3_comes_4 3 rfl rfl)
theorem dX3_comes_96 : decode cX3_comes 96 = .ok (.iconst 0, 1) := dk_3 (dk_at dksX3_comes_4 6 rfl rfl)
theorem dX3_comes_97 : decode cX3_comes 97 = .ok (.istore 4, 2) := dk_54 4 (dk_at dksX3_comes_4 7 rfl rfl)
theorem dX3_comes_99 : decode cX3_comes 99 = .ok (.iload 4, 2) := dk_21 4 (dk_at dksX3_comes_4 9 rfl rfl)
theorem dX3_comes_101 : decode cX3_comes 101 = .ok (.iconst 2, 1) := dk_5 (dk_at dksX3_comes_4 11 rfl rfl)
theorem dX3_comes_102 : decode cX3_comes 102 = .ok (.if_icmp .ge 43, 3) := dk_162 0 43 (dk_at dksX3_comes_4 12 rfl rfl)
theorem dX3_comes_105 : decode cX3_comes 105 = .ok (.aload_n 0, 1) := dk_42 (dk_at dksX3_comes_4 15 rfl rfl)
theorem dX3_comes_106 : decode cX3_comes 106 = .ok (.getfield 22, 3) := dk_180 0 22 (dk_at dksX3_comes_4 16 rfl rfl)
theorem dX3_comes_109 : decode cX3_comes 109 = .ok (.iload 4, 2) := dk_21 4 (dk_at dksX3_comes_4 19 rfl rfl)
theorem dX3_comes_111 : decode cX3_comes 111 = .ok (.aaload, 1) := dk_50 (dk_at dksX3_comes_4 21 rfl rfl)
theorem dX3_comes_112 : decode cX3_comes 112 = .ok (.getfield 74, 3) := dk_180 0 74 (dk_at dksX3_comes_5 0 rfl rfl)
theorem dX3_comes_115 : decode cX3_comes 115 = .ok (.aload_n 0, 1) := dk_42 (dk_at dksX3_comes_5 3 rfl rfl)
theorem dX3_comes_116 : decode cX3_comes 116 = .ok (.getfield 3, 3) := dk_180 0 3 (dk_at dksX3_comes_5 4 rfl rfl)
theorem dX3_comes_119 : decode cX3_comes 119 = .ok (.getfield 83, 3) := dk_180 0 83 (dk_at dksX3_comes_5 7 rfl rfl)
theorem dX3_comes_122 : decode cX3_comes 122 = .ok (.getfield 87, 3) := dk_180 0 87 (dk_at dksX3_comes_5 10 rfl rfl)
theorem dX3_comes_125 : decode cX3_comes 125 = .ok (.getfield 93, 3) := dk_180 0 93 (dk_at dksX3_comes_5 13 rfl rfl)
theorem dX3_comes_128 : decode cX3_comes 128 = .ok (.iconst 1, 1) := dk_4 (dk_at dksX3_comes_5 16 rfl rfl)
theorem dX3_comes_129 : decode cX3_comes 129 = .ok (.iaload, 1) := dk_46 (dk_at dksX3_comes_5 17 rfl rfl)
theorem dX3_comes_130 : decode cX3_comes 130 = .ok (.if_icmp .le 9, 3) := dk_164 0 9 (dk_at dksX3_comes_5 18 rfl rfl)
theorem dX3_comes_133 : decode cX3_comes 133 = .ok (.aload_n 0, 1) := dk_42 (dk_at dksX3_comes_5 21 rfl rfl)
theorem dX3_comes_134 : decode cX3_comes 134 = .ok (.iload 4, 2) := dk_21 4 (dk_at dksX3_comes_5 22 rfl rfl)
theorem dX3_comes_136 : decode cX3_comes 136 = .ok (.invokevirtual 97, 3) := dk_182 0 97 (dk_at dksX3_comes_6 0 rfl rfl)
theorem dX3_comes_139 : decode cX3_comes 139 = .ok (.iinc 4 1, 3) := dk_132 4 1 (dk_at dksX3_comes_6 3 rfl rfl)
theorem dX3_comes_142 : decode cX3_comes 142 = .ok (.goto (-43), 3) := dk_167 255 213 (dk_at dksX3_comes_6 6 rfl rfl)
theorem dX3_comes_145 : decode cX3_comes 145 = .ok (.return_, 1) := dk_177 (dk_at dksX3_comes_6 9 rfl rfl)
abbrev cX3_missing : ByteArray := prog_12_method_8_code
def yX3_missing : MethodName := ⟨RX3, "missing", "(I)I"⟩
def dkwX3_missing_0 : List UInt8 := [42, 27, 2, 182, 0, 54, 172]
abbrev dktX3_missing_0 : List UInt8 := dkwX3_missing_0 ++ []
theorem dksX3_missing_0 : cX3_missing.data.toList.drop 0 = dktX3_missing_0 := by decide +kernel
theorem dX3_missing_0 : decode cX3_missing 0 = .ok (.aload_n 0, 1) := dk_42 (dk_at dksX3_missing_0 0 rfl rfl)
theorem dX3_missing_1 : decode cX3_missing 1 = .ok (.iload_n 1, 1) := dk_27 (dk_at dksX3_missing_0 1 rfl rfl)
theorem dX3_missing_2 : decode cX3_missing 2 = .ok (.iconst (-1), 1) := dk_2 (dk_at dksX3_missing_0 2 rfl rfl)
theorem dX3_missing_3 : decode cX3_missing 3 = .ok (.invokevirtual 54, 3) := dk_182 0 54 (dk_at dksX3_missing_0 3 rfl rfl)
theorem dX3_missing_6 : decode cX3_missing 6 = .ok (.ireturn, 1) := dk_172 (dk_at dksX3_missing_0 6 rfl rfl)
theorem q118 : (Jvm.Cond.initialized "SafeBuckets$Sheet") ∈ lw_all := lw_g (lw_at lw_m1 3 rfl) rfl
theorem q193 : (Jvm.Cond.instantiable "SafeBuckets$Sheet" (5 : Nat)) ∈ lw_all := lw_g (lw_at lw_m1 78 rfl) rfl
theorem q195 : (Jvm.Cond.instanceMethod ({ cls := "SafeBuckets$Sheet", name := "<init>", desc := "(LSafeBuckets;)V" } : Jvm.MethodName)) ∈ lw_all := lw_g (lw_at lw_m1 80 rfl) rfl
theorem q196 : (Jvm.Cond.code ({ cls := "SafeBuckets$Sheet", name := "<init>", desc := "(LSafeBuckets;)V" } : Jvm.MethodName) prog_12_method_1_code (2 : Nat) (Option.none : Option Jvm.ClassFile.FieldType)) ∈ lw_all := lw_g (lw_at lw_m1 81 rfl) rfl
theorem q197 : (Jvm.Cond.methodLink "SafeBuckets$Sheet" (9 : Nat) ({ cls := "java/lang/Object", name := "<init>", desc := "()V" } : Jvm.MethodName)) ∈ lw_all := lw_g (lw_at lw_m1 82 rfl) rfl
theorem q198 : (Jvm.Cond.classLink "SafeBuckets$Sheet" (19 : Nat) "SafeBuckets$Column") ∈ lw_all := lw_g (lw_at lw_m1 83 rfl) rfl
theorem q201 : (Jvm.Cond.methodLink "SafeBuckets$Sheet" (21 : Nat) ({ cls := "SafeBuckets$Column", name := "<init>", desc := "()V" } : Jvm.MethodName)) ∈ lw_all := lw_g (lw_at lw_m1 86 rfl) rfl
theorem q222 : (Jvm.Cond.fieldLink "SafeBuckets$Sheet" (121 : Nat) "SafeBuckets$Bucket" "total" "I") ∈ lw_all := lw_g (lw_at lw_m1 107 rfl) rfl
theorem q228 : (Jvm.Cond.fieldLink "SafeBuckets$Sheet" (124 : Nat) "SafeBuckets$Bucket" "greatest" "I") ∈ lw_all := lw_g (lw_at lw_m1 113 rfl) rfl
theorem q234 : (Jvm.Cond.fieldLink "SafeBuckets$Sheet" (111 : Nat) "SafeBuckets$Bucket" "from" "I") ∈ lw_all := lw_g (lw_at lw_m1 119 rfl) rfl
theorem q241 : (Jvm.Cond.fieldLink "SafeBuckets$Sheet" (118 : Nat) "SafeBuckets$Bucket" "to" "I") ∈ lw_all := lw_g (lw_at lw_m1 126 rfl) rfl
theorem q257 : (Jvm.Cond.fieldLinkNest "SafeBuckets$Sheet" (107 : Nat) "SafeBuckets$Column" "buckets" "[LSafeBuckets$Bucket;" "SafeBuckets") ∈ lw_tbl := lw_at lw_m1 142 rfl
theorem q261 : (Jvm.Cond.fieldLinkNest "SafeBuckets$Sheet" (133 : Nat) "SafeBuckets$Column" "many" "I" "SafeBuckets") ∈ lw_tbl := lw_at lw_m1 146 rfl
theorem q264 : (Jvm.Cond.fieldLinkNest "SafeBuckets$Sheet" (74 : Nat) "SafeBuckets$Column" "drift" "I" "SafeBuckets") ∈ lw_tbl := lw_at lw_m1 149 rfl
theorem q273 : (Jvm.Cond.fieldLink "SafeBuckets$Sheet" (15 : Nat) "SafeBuckets$Sheet" "cells" "[I") ∈ lw_all := lw_g (lw_at lw_m1 158 rfl) rfl
theorem q275 : (Jvm.Cond.fieldLink "SafeBuckets$Sheet" (22 : Nat) "SafeBuckets$Sheet" "columns" "[LSafeBuckets$Column;") ∈ lw_all := lw_g (lw_at lw_m1 160 rfl) rfl
theorem q279 : (Jvm.Cond.fieldLink "SafeBuckets$Sheet" (26 : Nat) "SafeBuckets$Sheet" "rows" "I") ∈ lw_all := lw_g (lw_at lw_m1 164 rfl) rfl
theorem q283 : (Jvm.Cond.fieldLink "SafeBuckets$Sheet" (30 : Nat) "SafeBuckets$Sheet" "values" "I") ∈ lw_all := lw_g (lw_at lw_m1 168 rfl) rfl
theorem q285 : (Jvm.Cond.fieldLink "SafeBuckets$Sheet" (3 : Nat) "SafeBuckets$Sheet" "this$0" "LSafeBuckets;") ∈ lw_all := lw_g (lw_at lw_m1 170 rfl) rfl
theorem q286 : (Jvm.Cond.laysFinal "SafeBuckets$Sheet" "SafeBuckets$Sheet" "cells" "[I") ∈ lw_all := lw_g (lw_at lw_m1 171 rfl) rfl
theorem q287 : (Jvm.Cond.soleField "SafeBuckets$Sheet" "cells") ∈ lw_all := lw_g (lw_at lw_m1 172 rfl) rfl
theorem q288 : (Jvm.Cond.laysFinal "SafeBuckets$Sheet" "SafeBuckets$Sheet" "columns" "[LSafeBuckets$Column;") ∈ lw_all := lw_g (lw_at lw_m1 173 rfl) rfl
theorem q289 : (Jvm.Cond.soleField "SafeBuckets$Sheet" "columns") ∈ lw_all := lw_g (lw_at lw_m1 174 rfl) rfl
theorem q290 : (Jvm.Cond.lays "SafeBuckets$Sheet" "SafeBuckets$Sheet" "rows" "I") ∈ lw_all := lw_g (lw_at lw_m1 175 rfl) rfl
theorem q291 : (Jvm.Cond.soleField "SafeBuckets$Sheet" "rows") ∈ lw_all := lw_g (lw_at lw_m1 176 rfl) rfl
theorem q292 : (Jvm.Cond.lays "SafeBuckets$Sheet" "SafeBuckets$Sheet" "values" "I") ∈ lw_all := lw_g (lw_at lw_m1 177 rfl) rfl
theorem q293 : (Jvm.Cond.soleField "SafeBuckets$Sheet" "values") ∈ lw_all := lw_g (lw_at lw_m1 178 rfl) rfl
theorem q294 : (Jvm.Cond.laysFinal "SafeBuckets$Sheet" "SafeBuckets$Sheet" "this$0" "LSafeBuckets;") ∈ lw_all := lw_g (lw_at lw_m1 179 rfl) rfl
theorem q295 : (Jvm.Cond.soleField "SafeBuckets$Sheet" "this$0") ∈ lw_all := lw_g (lw_at lw_m1 180 rfl) rfl
theorem q296 : (Jvm.Cond.superclass "SafeBuckets$Sheet" "java/lang/Object") ∈ lw_all := lw_g (lw_at lw_m1 181 rfl) rfl
theorem q391 : (Jvm.Cond.fieldLinkNest "SafeBuckets$Sheet" (83 : Nat) "SafeBuckets" "book" "LSafeBuckets$Book;" "SafeBuckets") ∈ lw_tbl := lw_at lw_m2 36 rfl
theorem q395 : (Jvm.Cond.fieldLinkNest "SafeBuckets$Sheet" (127 : Nat) "SafeBuckets" "counts" "[I" "SafeBuckets") ∈ lw_tbl := lw_at lw_m2 40 rfl
theorem q400 : (Jvm.Cond.fieldLinkNest "SafeBuckets$Sheet" (114 : Nat) "SafeBuckets" "next" "[[I" "SafeBuckets") ∈ lw_tbl := lw_at lw_m2 45 rfl
theorem q520 : (Jvm.Cond.fieldLinkNest "SafeBuckets$Sheet" (87 : Nat) "SafeBuckets$Book" "rules" "LSafeBuckets$Rules;" "SafeBuckets") ∈ lw_tbl := lw_at lw_m2 165 rfl
theorem q593 : (Jvm.Cond.fieldLink "SafeBuckets$Sheet" (93 : Nat) "SafeBuckets$Rules" "values" "[I") ∈ lw_all := lw_g (lw_at lw_m2 238 rfl) rfl
theorem q868 : (Jvm.Cond.instanceMethod ({ cls := "SafeBuckets$Sheet", name := "starts", desc := "(I)V" } : Jvm.MethodName)) ∈ lw_all := lw_g (lw_at lw_m4 33 rfl) rfl
theorem q869 : (Jvm.Cond.selects "SafeBuckets$Sheet" ({ cls := "SafeBuckets$Sheet", name := "starts", desc := "(I)V" } : Jvm.MethodName) ({ cls := "SafeBuckets$Sheet", name := "starts", desc := "(I)V" } : Jvm.MethodName)) ∈ lw_all := lw_g (lw_at lw_m4 34 rfl) rfl
theorem q870 : (Jvm.Cond.code ({ cls := "SafeBuckets$Sheet", name := "starts", desc := "(I)V" } : Jvm.MethodName) prog_12_method_3_code (3 : Nat) (Option.none : Option Jvm.ClassFile.FieldType)) ∈ lw_all := lw_g (lw_at lw_m4 35 rfl) rfl
theorem q872 : (Jvm.Cond.instanceMethod ({ cls := "SafeBuckets$Sheet", name := "tells", desc := "(III)V" } : Jvm.MethodName)) ∈ lw_all := lw_g (lw_at lw_m4 37 rfl) rfl
theorem q873 : (Jvm.Cond.selects "SafeBuckets$Sheet" ({ cls := "SafeBuckets$Sheet", name := "tells", desc := "(III)V" } : Jvm.MethodName) ({ cls := "SafeBuckets$Sheet", name := "tells", desc := "(III)V" } : Jvm.MethodName)) ∈ lw_all := lw_g (lw_at lw_m4 38 rfl) rfl
theorem q874 : (Jvm.Cond.code ({ cls := "SafeBuckets$Sheet", name := "tells", desc := "(III)V" } : Jvm.MethodName) prog_12_method_9_code (4 : Nat) (Option.none : Option Jvm.ClassFile.FieldType)) ∈ lw_all := lw_g (lw_at lw_m4 39 rfl) rfl
theorem q875 : (Jvm.Cond.methodLink "SafeBuckets$Sheet" (47 : Nat) ({ cls := "SafeBuckets$Sheet", name := "place", desc := "(II)I" } : Jvm.MethodName)) ∈ lw_all := lw_g (lw_at lw_m4 40 rfl) rfl
theorem q876 : (Jvm.Cond.privateMethod ({ cls := "SafeBuckets$Sheet", name := "place", desc := "(II)I" } : Jvm.MethodName)) ∈ lw_tbl := lw_at lw_m4 41 rfl
theorem q877 : (Jvm.Cond.instanceMethod ({ cls := "SafeBuckets$Sheet", name := "place", desc := "(II)I" } : Jvm.MethodName)) ∈ lw_all := lw_g (lw_at lw_m4 42 rfl) rfl
theorem q878 : (Jvm.Cond.code ({ cls := "SafeBuckets$Sheet", name := "place", desc := "(II)I" } : Jvm.MethodName) prog_12_method_2_code (3 : Nat) (Option.some Jvm.ClassFile.FieldType.int)) ∈ lw_all := lw_g (lw_at lw_m4 43 rfl) rfl
theorem q880 : (Jvm.Cond.instanceMethod ({ cls := "SafeBuckets$Sheet", name := "builds", desc := "(I)V" } : Jvm.MethodName)) ∈ lw_all := lw_g (lw_at lw_m4 45 rfl) rfl
theorem q881 : (Jvm.Cond.selects "SafeBuckets$Sheet" ({ cls := "SafeBuckets$Sheet", name := "builds", desc := "(I)V" } : Jvm.MethodName) ({ cls := "SafeBuckets$Sheet", name := "builds", desc := "(I)V" } : Jvm.MethodName)) ∈ lw_all := lw_g (lw_at lw_m4 46 rfl) rfl
theorem q882 : (Jvm.Cond.code ({ cls := "SafeBuckets$Sheet", name := "builds", desc := "(I)V" } : Jvm.MethodName) prog_12_method_11_code (8 : Nat) (Option.none : Option Jvm.ClassFile.FieldType)) ∈ lw_all := lw_g (lw_at lw_m4 47 rfl) rfl
theorem q883 : (Jvm.Cond.methodLink "SafeBuckets$Sheet" (100 : Nat) ({ cls := "java/lang/Math", name := "min", desc := "(II)I" } : Jvm.MethodName)) ∈ lw_all := lw_g (lw_at lw_m4 48 rfl) rfl
theorem q884 : (Jvm.Cond.methodLinkNest "SafeBuckets$Sheet" (103 : Nat) ({ cls := "SafeBuckets", name := "lays", desc := "(LSafeBuckets$Sheet;II)V" } : Jvm.MethodName) "SafeBuckets") ∈ lw_tbl := lw_at lw_m4 49 rfl
theorem q893 : (Jvm.Cond.instanceMethod ({ cls := "SafeBuckets$Sheet", name := "count", desc := "(II)I" } : Jvm.MethodName)) ∈ lw_all := lw_g (lw_at lw_m4 58 rfl) rfl
theorem q894 : (Jvm.Cond.selects "SafeBuckets$Sheet" ({ cls := "SafeBuckets$Sheet", name := "count", desc := "(II)I" } : Jvm.MethodName) ({ cls := "SafeBuckets$Sheet", name := "count", desc := "(II)I" } : Jvm.MethodName)) ∈ lw_all := lw_g (lw_at lw_m4 59 rfl) rfl
theorem q895 : (Jvm.Cond.code ({ cls := "SafeBuckets$Sheet", name := "count", desc := "(II)I" } : Jvm.MethodName) prog_12_method_7_code (5 : Nat) (Option.some Jvm.ClassFile.FieldType.int)) ∈ lw_all := lw_g (lw_at lw_m4 60 rfl) rfl
theorem q896 : (Jvm.Cond.methodLink "SafeBuckets$Sheet" (51 : Nat) ({ cls := "SafeBuckets$Sheet", name := "alike", desc := "(II)I" } : Jvm.MethodName)) ∈ lw_all := lw_g (lw_at lw_m4 61 rfl) rfl
theorem q897 : (Jvm.Cond.instanceMethod ({ cls := "SafeBuckets$Sheet", name := "alike", desc := "(II)I" } : Jvm.MethodName)) ∈ lw_all := lw_g (lw_at lw_m4 62 rfl) rfl
theorem q898 : (Jvm.Cond.selects "SafeBuckets$Sheet" ({ cls := "SafeBuckets$Sheet", name := "alike", desc := "(II)I" } : Jvm.MethodName) ({ cls := "SafeBuckets$Sheet", name := "alike", desc := "(II)I" } : Jvm.MethodName)) ∈ lw_all := lw_g (lw_at lw_m4 63 rfl) rfl
theorem q899 : (Jvm.Cond.code ({ cls := "SafeBuckets$Sheet", name := "alike", desc := "(II)I" } : Jvm.MethodName) prog_12_method_6_code (3 : Nat) (Option.some Jvm.ClassFile.FieldType.int)) ∈ lw_all := lw_g (lw_at lw_m4 64 rfl) rfl
theorem q910 : (Jvm.Cond.methodLink "SafeBuckets$Sheet" (130 : Nat) ({ cls := "java/lang/Math", name := "max", desc := "(II)I" } : Jvm.MethodName)) ∈ lw_all := lw_g (lw_at lw_m4 75 rfl) rfl
theorem q947 : (Jvm.Cond.instanceMethod ({ cls := "SafeBuckets$Sheet", name := "isValue", desc := "(I)Z" } : Jvm.MethodName)) ∈ lw_all := lw_g (lw_at lw_m4 112 rfl) rfl
theorem q948 : (Jvm.Cond.selects "SafeBuckets$Sheet" ({ cls := "SafeBuckets$Sheet", name := "isValue", desc := "(I)Z" } : Jvm.MethodName) ({ cls := "SafeBuckets$Sheet", name := "isValue", desc := "(I)Z" } : Jvm.MethodName)) ∈ lw_all := lw_g (lw_at lw_m4 113 rfl) rfl
theorem q949 : (Jvm.Cond.code ({ cls := "SafeBuckets$Sheet", name := "isValue", desc := "(I)Z" } : Jvm.MethodName) prog_12_method_5_code (2 : Nat) (Option.some Jvm.ClassFile.FieldType.boolean)) ∈ lw_all := lw_g (lw_at lw_m4 114 rfl) rfl
theorem q950 : (Jvm.Cond.methodLinkNest "SafeBuckets$Sheet" (43 : Nat) ({ cls := "SafeBuckets", name := "isIn", desc := "(JJJ)Z" } : Jvm.MethodName) "SafeBuckets") ∈ lw_tbl := lw_at lw_m4 115 rfl
theorem q1024 : (Jvm.Cond.instanceMethod ({ cls := "SafeBuckets$Sheet", name := "becomes", desc := "(LSafeBuckets$Sheet;)V" } : Jvm.MethodName)) ∈ lw_all := lw_g (lw_at lw_m4 189 rfl) rfl
theorem q1025 : (Jvm.Cond.selects "SafeBuckets$Sheet" ({ cls := "SafeBuckets$Sheet", name := "becomes", desc := "(LSafeBuckets$Sheet;)V" } : Jvm.MethodName) ({ cls := "SafeBuckets$Sheet", name := "becomes", desc := "(LSafeBuckets$Sheet;)V" } : Jvm.MethodName)) ∈ lw_all := lw_g (lw_at lw_m4 190 rfl) rfl
theorem q1026 : (Jvm.Cond.code ({ cls := "SafeBuckets$Sheet", name := "becomes", desc := "(LSafeBuckets$Sheet;)V" } : Jvm.MethodName) prog_12_method_4_code (3 : Nat) (Option.none : Option Jvm.ClassFile.FieldType)) ∈ lw_all := lw_g (lw_at lw_m4 191 rfl) rfl
theorem q1027 : (Jvm.Cond.methodLink "SafeBuckets$Sheet" (33 : Nat) ({ cls := "java/lang/System", name := "arraycopy", desc := "(Ljava/lang/Object;ILjava/lang/Object;II)V" } : Jvm.MethodName)) ∈ lw_all := lw_g (lw_at lw_m4 192 rfl) rfl
theorem q1030 : (Jvm.Cond.methodLink "SafeBuckets$Sheet" (39 : Nat) ({ cls := "SafeBuckets$Column", name := "becomes", desc := "(LSafeBuckets$Column;)V" } : Jvm.MethodName)) ∈ lw_all := lw_g (lw_at lw_m4 195 rfl) rfl
theorem q1041 : (Jvm.Cond.instanceMethod ({ cls := "SafeBuckets$Sheet", name := "comes", desc := "(III)V" } : Jvm.MethodName)) ∈ lw_all := lw_g (lw_at lw_m4 206 rfl) rfl
theorem q1042 : (Jvm.Cond.selects "SafeBuckets$Sheet" ({ cls := "SafeBuckets$Sheet", name := "comes", desc := "(III)V" } : Jvm.MethodName) ({ cls := "SafeBuckets$Sheet", name := "comes", desc := "(III)V" } : Jvm.MethodName)) ∈ lw_all := lw_g (lw_at lw_m4 207 rfl) rfl
theorem q1043 : (Jvm.Cond.code ({ cls := "SafeBuckets$Sheet", name := "comes", desc := "(III)V" } : Jvm.MethodName) prog_12_method_10_code (7 : Nat) (Option.none : Option Jvm.ClassFile.FieldType)) ∈ lw_all := lw_g (lw_at lw_m4 208 rfl) rfl
theorem q1044 : (Jvm.Cond.methodLink "SafeBuckets$Sheet" (57 : Nat) ({ cls := "SafeBuckets$Sheet", name := "tells", desc := "(III)V" } : Jvm.MethodName)) ∈ lw_all := lw_g (lw_at lw_m4 209 rfl) rfl
theorem q1045 : (Jvm.Cond.methodLink "SafeBuckets$Sheet" (61 : Nat) ({ cls := "SafeBuckets$Column", name := "of", desc := "(I)LSafeBuckets$Bucket;" } : Jvm.MethodName)) ∈ lw_all := lw_g (lw_at lw_m4 210 rfl) rfl
theorem q1049 : (Jvm.Cond.methodLink "SafeBuckets$Sheet" (65 : Nat) ({ cls := "SafeBuckets$Bucket", name := "goesUp", desc := "(I)V" } : Jvm.MethodName)) ∈ lw_all := lw_g (lw_at lw_m4 214 rfl) rfl
theorem q1056 : (Jvm.Cond.methodLink "SafeBuckets$Sheet" (71 : Nat) ({ cls := "SafeBuckets$Bucket", name := "goesDown", desc := "(I)V" } : Jvm.MethodName)) ∈ lw_all := lw_g (lw_at lw_m4 221 rfl) rfl
theorem q1062 : (Jvm.Cond.methodLink "SafeBuckets$Sheet" (77 : Nat) ({ cls := "java/lang/Math", name := "abs", desc := "(I)I" } : Jvm.MethodName)) ∈ lw_all := lw_g (lw_at lw_m4 227 rfl) rfl
theorem q1065 : (Jvm.Cond.methodLink "SafeBuckets$Sheet" (97 : Nat) ({ cls := "SafeBuckets$Sheet", name := "builds", desc := "(I)V" } : Jvm.MethodName)) ∈ lw_all := lw_g (lw_at lw_m4 230 rfl) rfl
theorem q1148 : (Jvm.Cond.instanceMethod ({ cls := "SafeBuckets$Sheet", name := "missing", desc := "(I)I" } : Jvm.MethodName)) ∈ lw_all := lw_g (lw_at lw_m5 73 rfl) rfl
theorem q1149 : (Jvm.Cond.selects "SafeBuckets$Sheet" ({ cls := "SafeBuckets$Sheet", name := "missing", desc := "(I)I" } : Jvm.MethodName) ({ cls := "SafeBuckets$Sheet", name := "missing", desc := "(I)I" } : Jvm.MethodName)) ∈ lw_all := lw_g (lw_at lw_m5 74 rfl) rfl
theorem q1150 : (Jvm.Cond.code ({ cls := "SafeBuckets$Sheet", name := "missing", desc := "(I)I" } : Jvm.MethodName) prog_12_method_8_code (2 : Nat) (Option.some Jvm.ClassFile.FieldType.int)) ∈ lw_all := lw_g (lw_at lw_m5 75 rfl) rfl
theorem q1151 : (Jvm.Cond.methodLink "SafeBuckets$Sheet" (54 : Nat) ({ cls := "SafeBuckets$Sheet", name := "count", desc := "(II)I" } : Jvm.MethodName)) ∈ lw_all := lw_g (lw_at lw_m5 76 rfl) rfl
theorem q1355 : (Jvm.Cond.selects "SafeBuckets$Sheet" ({ cls := "java/lang/Object", name := "getClass", desc := "()Ljava/lang/Class;" } : Jvm.MethodName) ({ cls := "java/lang/Object", name := "getClass", desc := "()Ljava/lang/Class;" } : Jvm.MethodName)) ∈ lw_all := lw_g (lw_at lw_m6 40 rfl) rfl
theorem q2144 : (Jvm.Cond.castable "SafeBuckets$Sheet" "java/lang/Object") ∈ lw_tbl := lw_at lw_m9 109 rfl
theorem in_X3 : ∀ w ∈ wsX30, w ∈ lw_all := lw_in wsX30 [286, 288, 290, 292, 294] (by decide +kernel) (by decide +kernel)

/-! SafeBuckets$Column -/
set_option maxRecDepth 100000
def RX4 : String := "SafeBuckets$Column"
def TX4 : u_T := fun k => match k with
  | 0 => ("SafeBuckets$Column", "buckets", "[LSafeBuckets$Bucket;", true)
  | 1 => ("SafeBuckets$Column", "many", "I", false)
  | _ => ("SafeBuckets$Column", "drift", "I", false)
def tyX4 : Nat → FieldType := fun k => match k with
  | 0 => .array (.object "SafeBuckets$Bucket")
  | 1 => .int
  | _ => .int
abbrev wsX40 : List Cond := u_ws RX4 TX4 3
theorem nmX4 : ∀ a, a < 3 → ∀ b, b < 3 → a ≠ b → (TX4 a).2.1 ≠ (TX4 b).2.1 := by decide +kernel
theorem tyX4_ok : ∀ k, k < 3 → parseFieldDescriptor (TX4 k).2.2.1 = some (tyX4 k) := by decide +kernel
abbrev cX4_init : ByteArray := prog_5_method_1_code
def yX4_init : MethodName := ⟨RX4, "<init>", "()V"⟩
def dkwX4_init_1 : List UInt8 := [180, 0, 11, 27, 187, 0, 9, 89, 183, 0, 17, 83, 132, 1, 1, 167, 255, 234, 177]
abbrev dktX4_init_1 : List UInt8 := dkwX4_init_1 ++ []
def dkwX4_init_0 : List UInt8 := [42, 183, 0, 3, 42, 16, 8, 189, 0, 9, 181, 0, 11, 3, 60, 27, 16, 8, 162, 0, 22, 42]
abbrev dktX4_init_0 : List UInt8 := dkwX4_init_0 ++ dktX4_init_1
theorem dksX4_init_0 : cX4_init.data.toList.drop 0 = dktX4_init_0 := by decide +kernel
theorem dksX4_init_1 : cX4_init.data.toList.drop 22 = dktX4_init_1 := dk_seg dksX4_init_0 22 rfl rfl
theorem dX4_init_0 : decode cX4_init 0 = .ok (.aload_n 0, 1) := dk_42 (dk_at dksX4_init_0 0 rfl rfl)
theorem dX4_init_1 : decode cX4_init 1 = .ok (.invokespecial 3, 3) := dk_183 0 3 (dk_at dksX4_init_0 1 rfl rfl)
theorem dX4_init_4 : decode cX4_init 4 = .ok (.aload_n 0, 1) := dk_42 (dk_at dksX4_init_0 4 rfl rfl)
theorem dX4_init_5 : decode cX4_init 5 = .ok (.bipush 8, 2) := dk_16 8 (dk_at dksX4_init_0 5 rfl rfl)
theorem dX4_init_7 : decode cX4_init 7 = .ok (.anewarray 9, 3) := dk_189 0 9 (dk_at dksX4_init_0 7 rfl rfl)
theorem dX4_init_10 : decode cX4_init 10 = .ok (.putfield 11, 3) := dk_181 0 11 (dk_at dksX4_init_0 10 rfl rfl)
theorem dX4_init_13 : decode cX4_init 13 = .ok (.iconst 0, 1) := dk_3 (dk_at dksX4_init_0 13 rfl rfl)
theorem dX4_init_14 : decode cX4_init 14 = .ok (.istore_n 1, 1) := dk_60 (dk_at dksX4_init_0 14 rfl rfl)
theorem dX4_init_15 : decode cX4_init 15 = .ok (.iload_n 1, 1) := dk_27 (dk_at dksX4_init_0 15 rfl rfl)
theorem dX4_init_16 : decode cX4_init 16 = .ok (.bipush 8, 2) := dk_16 8 (dk_at dksX4_init_0 16 rfl rfl)
theorem dX4_init_18 : decode cX4_init 18 = .ok (.if_icmp .ge 22, 3) := dk_162 0 22 (dk_at dksX4_init_0 18 rfl rfl)
theorem dX4_init_21 : decode cX4_init 21 = .ok (.aload_n 0, 1) := dk_42 (dk_at dksX4_init_0 21 rfl rfl)
theorem dX4_init_22 : decode cX4_init 22 = .ok (.getfield 11, 3) := dk_180 0 11 (dk_at dksX4_init_1 0 rfl rfl)
theorem dX4_init_25 : decode cX4_init 25 = .ok (.iload_n 1, 1) := dk_27 (dk_at dksX4_init_1 3 rfl rfl)
theorem dX4_init_26 : decode cX4_init 26 = .ok (.new 9, 3) := dk_187 0 9 (dk_at dksX4_init_1 4 rfl rfl)
theorem dX4_init_29 : decode cX4_init 29 = .ok (.dup, 1) := dk_89 (dk_at dksX4_init_1 7 rfl rfl)
theorem dX4_init_30 : decode cX4_init 30 = .ok (.invokespecial 17, 3) := dk_183 0 17 (dk_at dksX4_init_1 8 rfl rfl)
theorem dX4_init_33 : decode cX4_init 33 = .ok (.aastore, 1) := dk_83 (dk_at dksX4_init_1 11 rfl rfl)
theorem dX4_init_34 : decode cX4_init 34 = .ok (.iinc 1 1, 3) := dk_132 1 1 (dk_at dksX4_init_1 12 rfl rfl)
theorem dX4_init_37 : decode cX4_init 37 = .ok (.goto (-22), 3) := dk_167 255 234 (dk_at dksX4_init_1 15 rfl rfl)
theorem dX4_init_40 : decode cX4_init 40 = .ok (.return_, 1) := dk_177 (dk_at dksX4_init_1 18 rfl rfl)
abbrev cX4_becomes : ByteArray := prog_5_method_3_code
def yX4_becomes : MethodName := ⟨RX4, "becomes", "(LSafeBuckets$Column;)V"⟩
def dkwX4_becomes_2 : List UInt8 := [177]
abbrev dktX4_becomes_2 : List UInt8 := dkwX4_becomes_2 ++ []
def dkwX4_becomes_1 : List UInt8 := [162, 0, 24, 42, 180, 0, 11, 28, 50, 43, 180, 0, 11, 28, 50, 182, 0, 28, 132, 2, 1, 167, 255, 230]
abbrev dktX4_becomes_1 : List UInt8 := dkwX4_becomes_1 ++ dktX4_becomes_2
def dkwX4_becomes_0 : List UInt8 := [42, 43, 180, 0, 22, 181, 0, 22, 42, 43, 180, 0, 25, 181, 0, 25, 3, 61, 28, 43, 180, 0, 22]
abbrev dktX4_becomes_0 : List UInt8 := dkwX4_becomes_0 ++ dktX4_becomes_1
theorem dksX4_becomes_0 : cX4_becomes.data.toList.drop 0 = dktX4_becomes_0 := by decide +kernel
theorem dksX4_becomes_1 : cX4_becomes.data.toList.drop 23 = dktX4_becomes_1 := dk_seg dksX4_becomes_0 23 rfl rfl
theorem dksX4_becomes_2 : cX4_becomes.data.toList.drop 47 = dktX4_becomes_2 := dk_seg dksX4_becomes_1 24 rfl rfl
theorem dX4_becomes_0 : decode cX4_becomes 0 = .ok (.aload_n 0, 1) := dk_42 (dk_at dksX4_becomes_0 0 rfl rfl)
theorem dX4_becomes_1 : decode cX4_becomes 1 = .ok (.aload_n 1, 1) := dk_43 (dk_at dksX4_becomes_0 1 rfl rfl)
theorem dX4_becomes_2 : decode cX4_becomes 2 = .ok (.getfield 22, 3) := dk_180 0 22 (dk_at dksX4_becomes_0 2 rfl rfl)
theorem dX4_becomes_5 : decode cX4_becomes 5 = .ok (.putfield 22, 3) := dk_181 0 22 (dk_at dksX4_becomes_0 5 rfl rfl)
theorem dX4_becomes_8 : decode cX4_becomes 8 = .ok (.aload_n 0, 1) := dk_42 (dk_at dksX4_becomes_0 8 rfl rfl)
theorem dX4_becomes_9 : decode cX4_becomes 9 = .ok (.aload_n 1, 1) := dk_43 (dk_at dksX4_becomes_0 9 rfl rfl)
theorem dX4_becomes_10 : decode cX4_becomes 10 = .ok (.getfield 25, 3) := dk_180 0 25 (dk_at dksX4_becomes_0 10 rfl rfl)
theorem dX4_becomes_13 : decode cX4_becomes 13 = .ok (.putfield 25, 3) := dk_181 0 25 (dk_at dksX4_becomes_0 13 rfl rfl)
theorem dX4_becomes_16 : decode cX4_becomes 16 = .ok (.iconst 0, 1) := dk_3 (dk_at dksX4_becomes_0 16 rfl rfl)
theorem dX4_becomes_17 : decode cX4_becomes 17 = .ok (.istore_n 2, 1) := dk_61 (dk_at dksX4_becomes_0 17 rfl rfl)
theorem dX4_becomes_18 : decode cX4_becomes 18 = .ok (.iload_n 2, 1) := dk_28 (dk_at dksX4_becomes_0 18 rfl rfl)
theorem dX4_becomes_19 : decode cX4_becomes 19 = .ok (.aload_n 1, 1) := dk_43 (dk_at dksX4_becomes_0 19 rfl rfl)
theorem dX4_becomes_20 : decode cX4_becomes 20 = .ok (.getfield 22, 3) := dk_180 0 22 (dk_at dksX4_becomes_0 20 rfl rfl)
theorem dX4_becomes_23 : decode cX4_becomes 23 = .ok (.if_icmp .ge 24, 3) := dk_162 0 24 (dk_at dksX4_becomes_1 0 rfl rfl)
theorem dX4_becomes_26 : decode cX4_becomes 26 = .ok (.aload_n 0, 1) := dk_42 (dk_at dksX4_becomes_1 3 rfl rfl)
theorem dX4_becomes_27 : decode cX4_becomes 27 = .ok (.getfield 11, 3) := dk_180 0 11 (dk_at dksX4_becomes_1 4 rfl rfl)
theorem dX4_becomes_30 : decode cX4_becomes 30 = .ok (.iload_n 2, 1) := dk_28 (dk_at dksX4_becomes_1 7 rfl rfl)
theorem dX4_becomes_31 : decode cX4_becomes 31 = .ok (.aaload, 1) := dk_50 (dk_at dksX4_becomes_1 8 rfl rfl)
theorem dX4_becomes_32 : decode cX4_becomes 32 = .ok (.aload_n 1, 1) := dk_43 (dk_at dksX4_becomes_1 9 rfl rfl)
theorem dX4_becomes_33 : decode cX4_becomes 33 = .ok (.getfield 11, 3) := dk_180 0 11 (dk_at dksX4_becomes_1 10 rfl rfl)
theorem dX4_becomes_36 : decode cX4_becomes 36 = .ok (.iload_n 2, 1) := dk_28 (dk_at dksX4_becomes_1 13 rfl rfl)
theorem dX4_becomes_37 : decode cX4_becomes 37 = .ok (.aaload, 1) := dk_50 (dk_at dksX4_becomes_1 14 rfl rfl)
theorem dX4_becomes_38 : decode cX4_becomes 38 = .ok (.invokevirtual 28, 3) := dk_182 0 28 (dk_at dksX4_becomes_1 15 rfl rfl)
theorem dX4_becomes_41 : decode cX4_becomes 41 = .ok (.iinc 2 1, 3) := dk_132 2 1 (dk_at dksX4_becomes_1 18 rfl rfl)
theorem dX4_becomes_44 : decode cX4_becomes 44 = .ok (.goto (-26), 3) := dk_167 255 230 (dk_at dksX4_becomes_1 21 rfl rfl)
theorem dX4_becomes_47 : decode cX4_becomes 47 = .ok (.return_, 1) := dk_177 (dk_at dksX4_becomes_2 0 rfl rfl)
abbrev cX4_of : ByteArray := prog_5_method_2_code
def yX4_of : MethodName := ⟨RX4, "of", "(I)LSafeBuckets$Bucket;"⟩
def dkwX4_of_1 : List UInt8 := [180, 0, 11, 28, 50, 176]
abbrev dktX4_of_1 : List UInt8 := dkwX4_of_1 ++ []
def dkwX4_of_0 : List UInt8 := [3, 61, 42, 180, 0, 11, 28, 50, 180, 0, 18, 27, 162, 0, 9, 132, 2, 1, 167, 255, 240, 42]
abbrev dktX4_of_0 : List UInt8 := dkwX4_of_0 ++ dktX4_of_1
theorem dksX4_of_0 : cX4_of.data.toList.drop 0 = dktX4_of_0 := by decide +kernel
theorem dksX4_of_1 : cX4_of.data.toList.drop 22 = dktX4_of_1 := dk_seg dksX4_of_0 22 rfl rfl
theorem dX4_of_0 : decode cX4_of 0 = .ok (.iconst 0, 1) := dk_3 (dk_at dksX4_of_0 0 rfl rfl)
theorem dX4_of_1 : decode cX4_of 1 = .ok (.istore_n 2, 1) := dk_61 (dk_at dksX4_of_0 1 rfl rfl)
theorem dX4_of_2 : decode cX4_of 2 = .ok (.aload_n 0, 1) := dk_42 (dk_at dksX4_of_0 2 rfl rfl)
theorem dX4_of_3 : decode cX4_of 3 = .ok (.getfield 11, 3) := dk_180 0 11 (dk_at dksX4_of_0 3 rfl rfl)
theorem dX4_of_6 : decode cX4_of 6 = .ok (.iload_n 2, 1) := dk_28 (dk_at dksX4_of_0 6 rfl rfl)
theorem dX4_of_7 : decode cX4_of 7 = .ok (.aaload, 1) := dk_50 (dk_at dksX4_of_0 7 rfl rfl)
theorem dX4_of_8 : decode cX4_of 8 = .ok (.getfield 18, 3) := dk_180 0 18 (dk_at dksX4_of_0 8 rfl rfl)
theorem dX4_of_11 : decode cX4_of 11 = .ok (.iload_n 1, 1) := dk_27 (dk_at dksX4_of_0 11 rfl rfl)
theorem dX4_of_12 : decode cX4_of 12 = .ok (.if_icmp .ge 9, 3) := dk_162 0 9 (dk_at dksX4_of_0 12 rfl rfl)
theorem dX4_of_15 : decode cX4_of 15 = .ok (.iinc 2 1, 3) := dk_132 2 1 (dk_at dksX4_of_0 15 rfl rfl)
theorem dX4_of_18 : decode cX4_of 18 = .ok (.goto (-16), 3) := dk_167 255 240 (dk_at dksX4_of_0 18 rfl rfl)
theorem dX4_of_21 : decode cX4_of 21 = .ok (.aload_n 0, 1) := dk_42 (dk_at dksX4_of_0 21 rfl rfl)
theorem dX4_of_22 : decode cX4_of 22 = .ok (.getfield 11, 3) := dk_180 0 11 (dk_at dksX4_of_1 0 rfl rfl)
theorem dX4_of_25 : decode cX4_of 25 = .ok (.iload_n 2, 1) := dk_28 (dk_at dksX4_of_1 3 rfl rfl)
theorem dX4_of_26 : decode cX4_of 26 = .ok (.aaload, 1) := dk_50 (dk_at dksX4_of_1 4 rfl rfl)
theorem dX4_of_27 : decode cX4_of 27 = .ok (.areturn, 1) := dk_176 (dk_at dksX4_of_1 5 rfl rfl)
abbrev cX4_greatest : ByteArray := prog_5_method_4_code
def yX4_greatest : MethodName := ⟨RX4, "greatest", "()I"⟩
def dkwX4_greatest_1 : List UInt8 := [184, 0, 35, 60, 132, 2, 1, 167, 255, 231, 27, 172]
abbrev dktX4_greatest_1 : List UInt8 := dkwX4_greatest_1 ++ []
def dkwX4_greatest_0 : List UInt8 := [3, 60, 3, 61, 28, 42, 180, 0, 22, 162, 0, 23, 27, 42, 180, 0, 11, 28, 50, 180, 0, 32]
abbrev dktX4_greatest_0 : List UInt8 := dkwX4_greatest_0 ++ dktX4_greatest_1
theorem dksX4_greatest_0 : cX4_greatest.data.toList.drop 0 = dktX4_greatest_0 := by decide +kernel
theorem dksX4_greatest_1 : cX4_greatest.data.toList.drop 22 = dktX4_greatest_1 := dk_seg dksX4_greatest_0 22 rfl rfl
theorem dX4_greatest_0 : decode cX4_greatest 0 = .ok (.iconst 0, 1) := dk_3 (dk_at dksX4_greatest_0 0 rfl rfl)
theorem dX4_greatest_1 : decode cX4_greatest 1 = .ok (.istore_n 1, 1) := dk_60 (dk_at dksX4_greatest_0 1 rfl rfl)
theorem dX4_greatest_2 : decode cX4_greatest 2 = .ok (.iconst 0, 1) := dk_3 (dk_at dksX4_greatest_0 2 rfl rfl)
theorem dX4_greatest_3 : decode cX4_greatest 3 = .ok (.istore_n 2, 1) := dk_61 (dk_at dksX4_greatest_0 3 rfl rfl)
theorem dX4_greatest_4 : decode cX4_greatest 4 = .ok (.iload_n 2, 1) := dk_28 (dk_at dksX4_greatest_0 4 rfl rfl)
theorem dX4_greatest_5 : decode cX4_greatest 5 = .ok (.aload_n 0, 1) := dk_42 (dk_at dksX4_greatest_0 5 rfl rfl)
theorem dX4_greatest_6 : decode cX4_greatest 6 = .ok (.getfield 22, 3) := dk_180 0 22 (dk_at dksX4_greatest_0 6 rfl rfl)
theorem dX4_greatest_9 : decode cX4_greatest 9 = .ok (.if_icmp .ge 23, 3) := dk_162 0 23 (dk_at dksX4_greatest_0 9 rfl rfl)
theorem dX4_greatest_12 : decode cX4_greatest 12 = .ok (.iload_n 1, 1) := dk_27 (dk_at dksX4_greatest_0 12 rfl rfl)
theorem dX4_greatest_13 : decode cX4_greatest 13 = .ok (.aload_n 0, 1) := dk_42 (dk_at dksX4_greatest_0 13 rfl rfl)
theorem dX4_greatest_14 : decode cX4_greatest 14 = .ok (.getfield 11, 3) := dk_180 0 11 (dk_at dksX4_greatest_0 14 rfl rfl)
theorem dX4_greatest_17 : decode cX4_greatest 17 = .ok (.iload_n 2, 1) := dk_28 (dk_at dksX4_greatest_0 17 rfl rfl)
theorem dX4_greatest_18 : decode cX4_greatest 18 = .ok (.aaload, 1) := dk_50 (dk_at dksX4_greatest_0 18 rfl rfl)
theorem dX4_greatest_19 : decode cX4_greatest 19 = .ok (.getfield 32, 3) := dk_180 0 32 (dk_at dksX4_greatest_0 19 rfl rfl)
theorem dX4_greatest_22 : decode cX4_greatest 22 = .ok (.invokestatic 35, 3) := dk_184 0 35 (dk_at dksX4_greatest_1 0 rfl rfl)
theorem dX4_greatest_25 : decode cX4_greatest 25 = .ok (.istore_n 1, 1) := dk_60 (dk_at dksX4_greatest_1 3 rfl rfl)
theorem dX4_greatest_26 : decode cX4_greatest 26 = .ok (.iinc 2 1, 3) := dk_132 2 1 (dk_at dksX4_greatest_1 4 rfl rfl)
theorem dX4_greatest_29 : decode cX4_greatest 29 = .ok (.goto (-25), 3) := dk_167 255 231 (dk_at dksX4_greatest_1 7 rfl rfl)
theorem dX4_greatest_32 : decode cX4_greatest 32 = .ok (.iload_n 1, 1) := dk_27 (dk_at dksX4_greatest_1 10 rfl rfl)
theorem dX4_greatest_33 : decode cX4_greatest 33 = .ok (.ireturn, 1) := dk_172 (dk_at dksX4_greatest_1 11 rfl rfl)
theorem q119 : (Jvm.Cond.initialized "SafeBuckets$Column") ∈ lw_all := lw_g (lw_at lw_m1 4 rfl) rfl
theorem q200 : (Jvm.Cond.instantiable "SafeBuckets$Column" (3 : Nat)) ∈ lw_all := lw_g (lw_at lw_m1 85 rfl) rfl
theorem q202 : (Jvm.Cond.instanceMethod ({ cls := "SafeBuckets$Column", name := "<init>", desc := "()V" } : Jvm.MethodName)) ∈ lw_all := lw_g (lw_at lw_m1 87 rfl) rfl
theorem q203 : (Jvm.Cond.code ({ cls := "SafeBuckets$Column", name := "<init>", desc := "()V" } : Jvm.MethodName) prog_5_method_1_code (2 : Nat) (Option.none : Option Jvm.ClassFile.FieldType)) ∈ lw_all := lw_g (lw_at lw_m1 88 rfl) rfl
theorem q204 : (Jvm.Cond.methodLink "SafeBuckets$Column" (3 : Nat) ({ cls := "java/lang/Object", name := "<init>", desc := "()V" } : Jvm.MethodName)) ∈ lw_all := lw_g (lw_at lw_m1 89 rfl) rfl
theorem q205 : (Jvm.Cond.classLink "SafeBuckets$Column" (9 : Nat) "SafeBuckets$Bucket") ∈ lw_all := lw_g (lw_at lw_m1 90 rfl) rfl
theorem q208 : (Jvm.Cond.methodLinkNest "SafeBuckets$Column" (17 : Nat) ({ cls := "SafeBuckets$Bucket", name := "<init>", desc := "()V" } : Jvm.MethodName) "SafeBuckets") ∈ lw_tbl := lw_at lw_m1 93 rfl
theorem q227 : (Jvm.Cond.fieldLink "SafeBuckets$Column" (32 : Nat) "SafeBuckets$Bucket" "greatest" "I") ∈ lw_all := lw_g (lw_at lw_m1 112 rfl) rfl
theorem q237 : (Jvm.Cond.fieldLink "SafeBuckets$Column" (18 : Nat) "SafeBuckets$Bucket" "to" "I") ∈ lw_all := lw_g (lw_at lw_m1 122 rfl) rfl
theorem q255 : (Jvm.Cond.fieldLink "SafeBuckets$Column" (11 : Nat) "SafeBuckets$Column" "buckets" "[LSafeBuckets$Bucket;") ∈ lw_all := lw_g (lw_at lw_m1 140 rfl) rfl
theorem q259 : (Jvm.Cond.fieldLink "SafeBuckets$Column" (22 : Nat) "SafeBuckets$Column" "many" "I") ∈ lw_all := lw_g (lw_at lw_m1 144 rfl) rfl
theorem q263 : (Jvm.Cond.fieldLink "SafeBuckets$Column" (25 : Nat) "SafeBuckets$Column" "drift" "I") ∈ lw_all := lw_g (lw_at lw_m1 148 rfl) rfl
theorem q266 : (Jvm.Cond.laysFinal "SafeBuckets$Column" "SafeBuckets$Column" "buckets" "[LSafeBuckets$Bucket;") ∈ lw_all := lw_g (lw_at lw_m1 151 rfl) rfl
theorem q267 : (Jvm.Cond.soleField "SafeBuckets$Column" "buckets") ∈ lw_all := lw_g (lw_at lw_m1 152 rfl) rfl
theorem q268 : (Jvm.Cond.lays "SafeBuckets$Column" "SafeBuckets$Column" "many" "I") ∈ lw_all := lw_g (lw_at lw_m1 153 rfl) rfl
theorem q269 : (Jvm.Cond.soleField "SafeBuckets$Column" "many") ∈ lw_all := lw_g (lw_at lw_m1 154 rfl) rfl
theorem q270 : (Jvm.Cond.lays "SafeBuckets$Column" "SafeBuckets$Column" "drift" "I") ∈ lw_all := lw_g (lw_at lw_m1 155 rfl) rfl
theorem q271 : (Jvm.Cond.soleField "SafeBuckets$Column" "drift") ∈ lw_all := lw_g (lw_at lw_m1 156 rfl) rfl
theorem q272 : (Jvm.Cond.superclass "SafeBuckets$Column" "java/lang/Object") ∈ lw_all := lw_g (lw_at lw_m1 157 rfl) rfl
theorem q1031 : (Jvm.Cond.instanceMethod ({ cls := "SafeBuckets$Column", name := "becomes", desc := "(LSafeBuckets$Column;)V" } : Jvm.MethodName)) ∈ lw_all := lw_g (lw_at lw_m4 196 rfl) rfl
theorem q1032 : (Jvm.Cond.selects "SafeBuckets$Column" ({ cls := "SafeBuckets$Column", name := "becomes", desc := "(LSafeBuckets$Column;)V" } : Jvm.MethodName) ({ cls := "SafeBuckets$Column", name := "becomes", desc := "(LSafeBuckets$Column;)V" } : Jvm.MethodName)) ∈ lw_all := lw_g (lw_at lw_m4 197 rfl) rfl
theorem q1033 : (Jvm.Cond.code ({ cls := "SafeBuckets$Column", name := "becomes", desc := "(LSafeBuckets$Column;)V" } : Jvm.MethodName) prog_5_method_3_code (3 : Nat) (Option.none : Option Jvm.ClassFile.FieldType)) ∈ lw_all := lw_g (lw_at lw_m4 198 rfl) rfl
theorem q1034 : (Jvm.Cond.methodLink "SafeBuckets$Column" (28 : Nat) ({ cls := "SafeBuckets$Bucket", name := "becomes", desc := "(LSafeBuckets$Bucket;)V" } : Jvm.MethodName)) ∈ lw_all := lw_g (lw_at lw_m4 199 rfl) rfl
theorem q1046 : (Jvm.Cond.instanceMethod ({ cls := "SafeBuckets$Column", name := "of", desc := "(I)LSafeBuckets$Bucket;" } : Jvm.MethodName)) ∈ lw_all := lw_g (lw_at lw_m4 211 rfl) rfl
theorem q1047 : (Jvm.Cond.selects "SafeBuckets$Column" ({ cls := "SafeBuckets$Column", name := "of", desc := "(I)LSafeBuckets$Bucket;" } : Jvm.MethodName) ({ cls := "SafeBuckets$Column", name := "of", desc := "(I)LSafeBuckets$Bucket;" } : Jvm.MethodName)) ∈ lw_all := lw_g (lw_at lw_m4 212 rfl) rfl
theorem q1048 : (Jvm.Cond.code ({ cls := "SafeBuckets$Column", name := "of", desc := "(I)LSafeBuckets$Bucket;" } : Jvm.MethodName) prog_5_method_2_code (3 : Nat) (Option.some (Jvm.ClassFile.FieldType.object "SafeBuckets$Bucket"))) ∈ lw_all := lw_g (lw_at lw_m4 213 rfl) rfl
theorem q1350 : (Jvm.Cond.selects "SafeBuckets$Column" ({ cls := "java/lang/Object", name := "getClass", desc := "()Ljava/lang/Class;" } : Jvm.MethodName) ({ cls := "java/lang/Object", name := "getClass", desc := "()Ljava/lang/Class;" } : Jvm.MethodName)) ∈ lw_all := lw_g (lw_at lw_m6 35 rfl) rfl
theorem q1411 : (Jvm.Cond.instanceMethod ({ cls := "SafeBuckets$Column", name := "greatest", desc := "()I" } : Jvm.MethodName)) ∈ lw_all := lw_g (lw_at lw_m6 96 rfl) rfl
theorem q1412 : (Jvm.Cond.selects "SafeBuckets$Column" ({ cls := "SafeBuckets$Column", name := "greatest", desc := "()I" } : Jvm.MethodName) ({ cls := "SafeBuckets$Column", name := "greatest", desc := "()I" } : Jvm.MethodName)) ∈ lw_all := lw_g (lw_at lw_m6 97 rfl) rfl
theorem q1413 : (Jvm.Cond.code ({ cls := "SafeBuckets$Column", name := "greatest", desc := "()I" } : Jvm.MethodName) prog_5_method_4_code (3 : Nat) (Option.some Jvm.ClassFile.FieldType.int)) ∈ lw_all := lw_g (lw_at lw_m6 98 rfl) rfl
theorem q1414 : (Jvm.Cond.methodLink "SafeBuckets$Column" (35 : Nat) ({ cls := "java/lang/Math", name := "max", desc := "(II)I" } : Jvm.MethodName)) ∈ lw_all := lw_g (lw_at lw_m6 99 rfl) rfl
theorem q2145 : (Jvm.Cond.castable "SafeBuckets$Column" "java/lang/Object") ∈ lw_tbl := lw_at lw_m9 110 rfl
theorem in_X4 : ∀ w ∈ wsX40, w ∈ lw_all := lw_in wsX40 [266, 268, 270] (by decide +kernel) (by decide +kernel)

/-! SafeBuckets$Span -/
set_option maxRecDepth 100000
def RX5 : String := "SafeBuckets$Span"
abbrev cX5_init : ByteArray := prog_18_method_1_code
def yX5_init : MethodName := ⟨RX5, "<init>", "()V"⟩
theorem dX5_init_0 : decode cX5_init 0 = .ok (.aload_n 0, 1) := by decide +kernel
theorem dX5_init_1 : decode cX5_init 1 = .ok (.invokespecial 1, 3) := by decide +kernel
theorem dX5_init_4 : decode cX5_init 4 = .ok (.return_, 1) := by decide +kernel
abbrev cX5_width : ByteArray := prog_18_method_2_code
def yX5_width : MethodName := ⟨RX5, "width", "()I"⟩
def dkwX5_width_0 : List UInt8 := [42, 180, 0, 7, 42, 180, 0, 13, 100, 4, 96, 172]
abbrev dktX5_width_0 : List UInt8 := dkwX5_width_0 ++ []
theorem dksX5_width_0 : cX5_width.data.toList.drop 0 = dktX5_width_0 := by decide +kernel
theorem dX5_width_0 : decode cX5_width 0 = .ok (.aload_n 0, 1) := dk_42 (dk_at dksX5_width_0 0 rfl rfl)
theorem dX5_width_1 : decode cX5_width 1 = .ok (.getfield 7, 3) := dk_180 0 7 (dk_at dksX5_width_0 1 rfl rfl)
theorem dX5_width_4 : decode cX5_width 4 = .ok (.aload_n 0, 1) := dk_42 (dk_at dksX5_width_0 4 rfl rfl)
theorem dX5_width_5 : decode cX5_width 5 = .ok (.getfield 13, 3) := dk_180 0 13 (dk_at dksX5_width_0 5 rfl rfl)
theorem dX5_width_8 : decode cX5_width 8 = .ok (.isub, 1) := dk_100 (dk_at dksX5_width_0 8 rfl rfl)
theorem dX5_width_9 : decode cX5_width 9 = .ok (.iconst 1, 1) := dk_4 (dk_at dksX5_width_0 9 rfl rfl)
theorem dX5_width_10 : decode cX5_width 10 = .ok (.iadd, 1) := dk_96 (dk_at dksX5_width_0 10 rfl rfl)
theorem dX5_width_11 : decode cX5_width 11 = .ok (.ireturn, 1) := dk_172 (dk_at dksX5_width_0 11 rfl rfl)
abbrev cX5_common : ByteArray := prog_18_method_3_code
def yX5_common : MethodName := ⟨RX5, "common", "(LSafeBuckets$Span;LSafeBuckets$Span;)I"⟩
def dkwX5_common_1 : List UInt8 := [4, 96, 184, 0, 22, 172]
abbrev dktX5_common_1 : List UInt8 := dkwX5_common_1 ++ []
def dkwX5_common_0 : List UInt8 := [3, 42, 180, 0, 7, 43, 180, 0, 7, 184, 0, 16, 42, 180, 0, 13, 43, 180, 0, 13, 184, 0, 22, 100]
abbrev dktX5_common_0 : List UInt8 := dkwX5_common_0 ++ dktX5_common_1
theorem dksX5_common_0 : cX5_common.data.toList.drop 0 = dktX5_common_0 := by decide +kernel
theorem dksX5_common_1 : cX5_common.data.toList.drop 24 = dktX5_common_1 := dk_seg dksX5_common_0 24 rfl rfl
theorem dX5_common_0 : decode cX5_common 0 = .ok (.iconst 0, 1) := dk_3 (dk_at dksX5_common_0 0 rfl rfl)
theorem dX5_common_1 : decode cX5_common 1 = .ok (.aload_n 0, 1) := dk_42 (dk_at dksX5_common_0 1 rfl rfl)
theorem dX5_common_2 : decode cX5_common 2 = .ok (.getfield 7, 3) := dk_180 0 7 (dk_at dksX5_common_0 2 rfl rfl)
theorem dX5_common_5 : decode cX5_common 5 = .ok (.aload_n 1, 1) := dk_43 (dk_at dksX5_common_0 5 rfl rfl)
theorem dX5_common_6 : decode cX5_common 6 = .ok (.getfield 7, 3) := dk_180 0 7 (dk_at dksX5_common_0 6 rfl rfl)
theorem dX5_common_9 : decode cX5_common 9 = .ok (.invokestatic 16, 3) := dk_184 0 16 (dk_at dksX5_common_0 9 rfl rfl)
theorem dX5_common_12 : decode cX5_common 12 = .ok (.aload_n 0, 1) := dk_42 (dk_at dksX5_common_0 12 rfl rfl)
theorem dX5_common_13 : decode cX5_common 13 = .ok (.getfield 13, 3) := dk_180 0 13 (dk_at dksX5_common_0 13 rfl rfl)
theorem dX5_common_16 : decode cX5_common 16 = .ok (.aload_n 1, 1) := dk_43 (dk_at dksX5_common_0 16 rfl rfl)
theorem dX5_common_17 : decode cX5_common 17 = .ok (.getfield 13, 3) := dk_180 0 13 (dk_at dksX5_common_0 17 rfl rfl)
theorem dX5_common_20 : decode cX5_common 20 = .ok (.invokestatic 22, 3) := dk_184 0 22 (dk_at dksX5_common_0 20 rfl rfl)
theorem dX5_common_23 : decode cX5_common 23 = .ok (.isub, 1) := dk_100 (dk_at dksX5_common_0 23 rfl rfl)
theorem dX5_common_24 : decode cX5_common 24 = .ok (.iconst 1, 1) := dk_4 (dk_at dksX5_common_1 0 rfl rfl)
theorem dX5_common_25 : decode cX5_common 25 = .ok (.iadd, 1) := dk_96 (dk_at dksX5_common_1 1 rfl rfl)
theorem dX5_common_26 : decode cX5_common 26 = .ok (.invokestatic 22, 3) := dk_184 0 22 (dk_at dksX5_common_1 2 rfl rfl)
theorem dX5_common_29 : decode cX5_common 29 = .ok (.ireturn, 1) := dk_172 (dk_at dksX5_common_1 5 rfl rfl)
theorem q120 : (Jvm.Cond.initialized "SafeBuckets$Span") ∈ lw_all := lw_g (lw_at lw_m1 5 rfl) rfl
theorem q215 : (Jvm.Cond.instanceMethod ({ cls := "SafeBuckets$Span", name := "<init>", desc := "()V" } : Jvm.MethodName)) ∈ lw_all := lw_g (lw_at lw_m1 100 rfl) rfl
theorem q216 : (Jvm.Cond.code ({ cls := "SafeBuckets$Span", name := "<init>", desc := "()V" } : Jvm.MethodName) prog_18_method_1_code (1 : Nat) (Option.none : Option Jvm.ClassFile.FieldType)) ∈ lw_all := lw_g (lw_at lw_m1 101 rfl) rfl
theorem q217 : (Jvm.Cond.methodLink "SafeBuckets$Span" (1 : Nat) ({ cls := "java/lang/Object", name := "<init>", desc := "()V" } : Jvm.MethodName)) ∈ lw_all := lw_g (lw_at lw_m1 102 rfl) rfl
theorem q230 : (Jvm.Cond.fieldLink "SafeBuckets$Span" (13 : Nat) "SafeBuckets$Span" "from" "I") ∈ lw_all := lw_g (lw_at lw_m1 115 rfl) rfl
theorem q236 : (Jvm.Cond.fieldLink "SafeBuckets$Span" (7 : Nat) "SafeBuckets$Span" "to" "I") ∈ lw_all := lw_g (lw_at lw_m1 121 rfl) rfl
theorem q248 : (Jvm.Cond.soleField "SafeBuckets$Span" "from") ∈ lw_all := lw_g (lw_at lw_m1 133 rfl) rfl
theorem q250 : (Jvm.Cond.soleField "SafeBuckets$Span" "to") ∈ lw_all := lw_g (lw_at lw_m1 135 rfl) rfl
theorem q1181 : (Jvm.Cond.declares ({ cls := "SafeBuckets$Span", name := "width", desc := "()I" } : Jvm.MethodName)) ∈ lw_tbl := lw_at lw_m5 106 rfl
theorem q1183 : (Jvm.Cond.instanceMethod ({ cls := "SafeBuckets$Span", name := "width", desc := "()I" } : Jvm.MethodName)) ∈ lw_all := lw_g (lw_at lw_m5 108 rfl) rfl
theorem q1184 : (Jvm.Cond.code ({ cls := "SafeBuckets$Span", name := "width", desc := "()I" } : Jvm.MethodName) prog_18_method_2_code (1 : Nat) (Option.some Jvm.ClassFile.FieldType.int)) ∈ lw_all := lw_g (lw_at lw_m5 109 rfl) rfl
theorem q1394 : (Jvm.Cond.static ({ cls := "SafeBuckets$Span", name := "common", desc := "(LSafeBuckets$Span;LSafeBuckets$Span;)I" } : Jvm.MethodName)) ∈ lw_all := lw_g (lw_at lw_m6 79 rfl) rfl
theorem q1395 : (Jvm.Cond.code ({ cls := "SafeBuckets$Span", name := "common", desc := "(LSafeBuckets$Span;LSafeBuckets$Span;)I" } : Jvm.MethodName) prog_18_method_3_code (2 : Nat) (Option.some Jvm.ClassFile.FieldType.int)) ∈ lw_all := lw_g (lw_at lw_m6 80 rfl) rfl
theorem q1396 : (Jvm.Cond.methodLink "SafeBuckets$Span" (16 : Nat) ({ cls := "java/lang/Math", name := "min", desc := "(II)I" } : Jvm.MethodName)) ∈ lw_all := lw_g (lw_at lw_m6 81 rfl) rfl
theorem q1397 : (Jvm.Cond.methodLink "SafeBuckets$Span" (22 : Nat) ({ cls := "java/lang/Math", name := "max", desc := "(II)I" } : Jvm.MethodName)) ∈ lw_all := lw_g (lw_at lw_m6 82 rfl) rfl

/-! SafeBuckets$Kept -/
set_option maxRecDepth 100000
def RX6 : String := "SafeBuckets$Kept"
abbrev cX6_init : ByteArray := prog_7_method_1_code
def yX6_init : MethodName := ⟨RX6, "<init>", "()V"⟩
theorem dX6_init_0 : decode cX6_init 0 = .ok (.aload_n 0, 1) := by decide +kernel
theorem dX6_init_1 : decode cX6_init 1 = .ok (.invokespecial 1, 3) := by decide +kernel
theorem dX6_init_4 : decode cX6_init 4 = .ok (.return_, 1) := by decide +kernel
abbrev cX6_goesUp : ByteArray := prog_7_method_2_code
def yX6_goesUp : MethodName := ⟨RX6, "goesUp", "(I)V"⟩
def dkwX6_goesUp_1 : List UInt8 := [181, 0, 13, 177]
abbrev dktX6_goesUp_1 : List UInt8 := dkwX6_goesUp_1 ++ []
def dkwX6_goesUp_0 : List UInt8 := [42, 89, 180, 0, 7, 27, 96, 181, 0, 7, 42, 42, 180, 0, 7, 42, 180, 0, 13, 27, 96, 184, 0, 16]
abbrev dktX6_goesUp_0 : List UInt8 := dkwX6_goesUp_0 ++ dktX6_goesUp_1
theorem dksX6_goesUp_0 : cX6_goesUp.data.toList.drop 0 = dktX6_goesUp_0 := by decide +kernel
theorem dksX6_goesUp_1 : cX6_goesUp.data.toList.drop 24 = dktX6_goesUp_1 := dk_seg dksX6_goesUp_0 24 rfl rfl
theorem dX6_goesUp_0 : decode cX6_goesUp 0 = .ok (.aload_n 0, 1) := dk_42 (dk_at dksX6_goesUp_0 0 rfl rfl)
theorem dX6_goesUp_1 : decode cX6_goesUp 1 = .ok (.dup, 1) := dk_89 (dk_at dksX6_goesUp_0 1 rfl rfl)
theorem dX6_goesUp_2 : decode cX6_goesUp 2 = .ok (.getfield 7, 3) := dk_180 0 7 (dk_at dksX6_goesUp_0 2 rfl rfl)
theorem dX6_goesUp_5 : decode cX6_goesUp 5 = .ok (.iload_n 1, 1) := dk_27 (dk_at dksX6_goesUp_0 5 rfl rfl)
theorem dX6_goesUp_6 : decode cX6_goesUp 6 = .ok (.iadd, 1) := dk_96 (dk_at dksX6_goesUp_0 6 rfl rfl)
theorem dX6_goesUp_7 : decode cX6_goesUp 7 = .ok (.putfield 7, 3) := dk_181 0 7 (dk_at dksX6_goesUp_0 7 rfl rfl)
theorem dX6_goesUp_10 : decode cX6_goesUp 10 = .ok (.aload_n 0, 1) := dk_42 (dk_at dksX6_goesUp_0 10 rfl rfl)
theorem dX6_goesUp_11 : decode cX6_goesUp 11 = .ok (.aload_n 0, 1) := dk_42 (dk_at dksX6_goesUp_0 11 rfl rfl)
theorem dX6_goesUp_12 : decode cX6_goesUp 12 = .ok (.getfield 7, 3) := dk_180 0 7 (dk_at dksX6_goesUp_0 12 rfl rfl)
theorem dX6_goesUp_15 : decode cX6_goesUp 15 = .ok (.aload_n 0, 1) := dk_42 (dk_at dksX6_goesUp_0 15 rfl rfl)
theorem dX6_goesUp_16 : decode cX6_goesUp 16 = .ok (.getfield 13, 3) := dk_180 0 13 (dk_at dksX6_goesUp_0 16 rfl rfl)
theorem dX6_goesUp_19 : decode cX6_goesUp 19 = .ok (.iload_n 1, 1) := dk_27 (dk_at dksX6_goesUp_0 19 rfl rfl)
theorem dX6_goesUp_20 : decode cX6_goesUp 20 = .ok (.iadd, 1) := dk_96 (dk_at dksX6_goesUp_0 20 rfl rfl)
theorem dX6_goesUp_21 : decode cX6_goesUp 21 = .ok (.invokestatic 16, 3) := dk_184 0 16 (dk_at dksX6_goesUp_0 21 rfl rfl)
theorem dX6_goesUp_24 : decode cX6_goesUp 24 = .ok (.putfield 13, 3) := dk_181 0 13 (dk_at dksX6_goesUp_1 0 rfl rfl)
theorem dX6_goesUp_27 : decode cX6_goesUp 27 = .ok (.return_, 1) := dk_177 (dk_at dksX6_goesUp_1 3 rfl rfl)
abbrev cX6_goesDown : ByteArray := prog_7_method_3_code
def yX6_goesDown : MethodName := ⟨RX6, "goesDown", "(I)V"⟩
def dkwX6_goesDown_1 : List UInt8 := [181, 0, 13, 177]
abbrev dktX6_goesDown_1 : List UInt8 := dkwX6_goesDown_1 ++ []
def dkwX6_goesDown_0 : List UInt8 := [42, 89, 180, 0, 7, 27, 100, 181, 0, 7, 42, 42, 180, 0, 7, 42, 180, 0, 13, 184, 0, 16]
abbrev dktX6_goesDown_0 : List UInt8 := dkwX6_goesDown_0 ++ dktX6_goesDown_1
theorem dksX6_goesDown_0 : cX6_goesDown.data.toList.drop 0 = dktX6_goesDown_0 := by decide +kernel
theorem dksX6_goesDown_1 : cX6_goesDown.data.toList.drop 22 = dktX6_goesDown_1 := dk_seg dksX6_goesDown_0 22 rfl rfl
theorem dX6_goesDown_0 : decode cX6_goesDown 0 = .ok (.aload_n 0, 1) := dk_42 (dk_at dksX6_goesDown_0 0 rfl rfl)
theorem dX6_goesDown_1 : decode cX6_goesDown 1 = .ok (.dup, 1) := dk_89 (dk_at dksX6_goesDown_0 1 rfl rfl)
theorem dX6_goesDown_2 : decode cX6_goesDown 2 = .ok (.getfield 7, 3) := dk_180 0 7 (dk_at dksX6_goesDown_0 2 rfl rfl)
theorem dX6_goesDown_5 : decode cX6_goesDown 5 = .ok (.iload_n 1, 1) := dk_27 (dk_at dksX6_goesDown_0 5 rfl rfl)
theorem dX6_goesDown_6 : decode cX6_goesDown 6 = .ok (.isub, 1) := dk_100 (dk_at dksX6_goesDown_0 6 rfl rfl)
theorem dX6_goesDown_7 : decode cX6_goesDown 7 = .ok (.putfield 7, 3) := dk_181 0 7 (dk_at dksX6_goesDown_0 7 rfl rfl)
theorem dX6_goesDown_10 : decode cX6_goesDown 10 = .ok (.aload_n 0, 1) := dk_42 (dk_at dksX6_goesDown_0 10 rfl rfl)
theorem dX6_goesDown_11 : decode cX6_goesDown 11 = .ok (.aload_n 0, 1) := dk_42 (dk_at dksX6_goesDown_0 11 rfl rfl)
theorem dX6_goesDown_12 : decode cX6_goesDown 12 = .ok (.getfield 7, 3) := dk_180 0 7 (dk_at dksX6_goesDown_0 12 rfl rfl)
theorem dX6_goesDown_15 : decode cX6_goesDown 15 = .ok (.aload_n 0, 1) := dk_42 (dk_at dksX6_goesDown_0 15 rfl rfl)
theorem dX6_goesDown_16 : decode cX6_goesDown 16 = .ok (.getfield 13, 3) := dk_180 0 13 (dk_at dksX6_goesDown_0 16 rfl rfl)
theorem dX6_goesDown_19 : decode cX6_goesDown 19 = .ok (.invokestatic 16, 3) := dk_184 0 16 (dk_at dksX6_goesDown_0 19 rfl rfl)
theorem dX6_goesDown_22 : decode cX6_goesDown 22 = .ok (.putfield 13, 3) := dk_181 0 13 (dk_at dksX6_goesDown_1 0 rfl rfl)
theorem dX6_goesDown_25 : decode cX6_goesDown 25 = .ok (.return_, 1) := dk_177 (dk_at dksX6_goesDown_1 3 rfl rfl)
theorem q121 : (Jvm.Cond.initialized "SafeBuckets$Kept") ∈ lw_all := lw_g (lw_at lw_m1 6 rfl) rfl
theorem q212 : (Jvm.Cond.instanceMethod ({ cls := "SafeBuckets$Kept", name := "<init>", desc := "()V" } : Jvm.MethodName)) ∈ lw_all := lw_g (lw_at lw_m1 97 rfl) rfl
theorem q213 : (Jvm.Cond.code ({ cls := "SafeBuckets$Kept", name := "<init>", desc := "()V" } : Jvm.MethodName) prog_7_method_1_code (1 : Nat) (Option.none : Option Jvm.ClassFile.FieldType)) ∈ lw_all := lw_g (lw_at lw_m1 98 rfl) rfl
theorem q214 : (Jvm.Cond.methodLinkNest "SafeBuckets$Kept" (1 : Nat) ({ cls := "SafeBuckets$Span", name := "<init>", desc := "()V" } : Jvm.MethodName) "SafeBuckets") ∈ lw_tbl := lw_at lw_m1 99 rfl
theorem q218 : (Jvm.Cond.fieldLink "SafeBuckets$Kept" (7 : Nat) "SafeBuckets$Kept" "total" "I") ∈ lw_all := lw_g (lw_at lw_m1 103 rfl) rfl
theorem q224 : (Jvm.Cond.fieldLink "SafeBuckets$Kept" (13 : Nat) "SafeBuckets$Kept" "greatest" "I") ∈ lw_all := lw_g (lw_at lw_m1 109 rfl) rfl
theorem q244 : (Jvm.Cond.soleField "SafeBuckets$Kept" "total") ∈ lw_all := lw_g (lw_at lw_m1 129 rfl) rfl
theorem q246 : (Jvm.Cond.soleField "SafeBuckets$Kept" "greatest") ∈ lw_all := lw_g (lw_at lw_m1 131 rfl) rfl
theorem q1051 : (Jvm.Cond.declares ({ cls := "SafeBuckets$Kept", name := "goesUp", desc := "(I)V" } : Jvm.MethodName)) ∈ lw_tbl := lw_at lw_m4 216 rfl
theorem q1053 : (Jvm.Cond.instanceMethod ({ cls := "SafeBuckets$Kept", name := "goesUp", desc := "(I)V" } : Jvm.MethodName)) ∈ lw_all := lw_g (lw_at lw_m4 218 rfl) rfl
theorem q1054 : (Jvm.Cond.code ({ cls := "SafeBuckets$Kept", name := "goesUp", desc := "(I)V" } : Jvm.MethodName) prog_7_method_2_code (2 : Nat) (Option.none : Option Jvm.ClassFile.FieldType)) ∈ lw_all := lw_g (lw_at lw_m4 219 rfl) rfl
theorem q1055 : (Jvm.Cond.methodLink "SafeBuckets$Kept" (16 : Nat) ({ cls := "java/lang/Math", name := "min", desc := "(II)I" } : Jvm.MethodName)) ∈ lw_all := lw_g (lw_at lw_m4 220 rfl) rfl
theorem q1058 : (Jvm.Cond.declares ({ cls := "SafeBuckets$Kept", name := "goesDown", desc := "(I)V" } : Jvm.MethodName)) ∈ lw_tbl := lw_at lw_m4 223 rfl
theorem q1060 : (Jvm.Cond.instanceMethod ({ cls := "SafeBuckets$Kept", name := "goesDown", desc := "(I)V" } : Jvm.MethodName)) ∈ lw_all := lw_g (lw_at lw_m4 225 rfl) rfl
theorem q1061 : (Jvm.Cond.code ({ cls := "SafeBuckets$Kept", name := "goesDown", desc := "(I)V" } : Jvm.MethodName) prog_7_method_3_code (2 : Nat) (Option.none : Option Jvm.ClassFile.FieldType)) ∈ lw_all := lw_g (lw_at lw_m4 226 rfl) rfl
theorem q1180 : (Jvm.Cond.sameMethod "SafeBuckets$Kept" "SafeBuckets$Span" "width" "()I") ∈ lw_all := lw_g (lw_at lw_m5 105 rfl) rfl
theorem q1182 : (Jvm.Cond.superclass "SafeBuckets$Kept" "SafeBuckets$Span") ∈ lw_all := lw_g (lw_at lw_m5 107 rfl) rfl

/-! SafeBuckets$Bucket -/
set_option maxRecDepth 100000
def RX7 : String := "SafeBuckets$Bucket"
def TX7 : u_T := fun k => match k with
  | 0 => ("SafeBuckets$Span", "from", "I", false)
  | 1 => ("SafeBuckets$Span", "to", "I", false)
  | 2 => ("SafeBuckets$Kept", "total", "I", false)
  | _ => ("SafeBuckets$Kept", "greatest", "I", false)
def tyX7 : Nat → FieldType := fun k => match k with
  | 0 => .int
  | 1 => .int
  | 2 => .int
  | _ => .int
abbrev wsX70 : List Cond := u_ws RX7 TX7 4
theorem nmX7 : ∀ a, a < 4 → ∀ b, b < 4 → a ≠ b → (TX7 a).2.1 ≠ (TX7 b).2.1 := by decide +kernel
theorem tyX7_ok : ∀ k, k < 4 → parseFieldDescriptor (TX7 k).2.2.1 = some (tyX7 k) := by decide +kernel
abbrev cX7_init : ByteArray := prog_3_method_1_code
def yX7_init : MethodName := ⟨RX7, "<init>", "()V"⟩
theorem dX7_init_0 : decode cX7_init 0 = .ok (.aload_n 0, 1) := by decide +kernel
theorem dX7_init_1 : decode cX7_init 1 = .ok (.invokespecial 1, 3) := by decide +kernel
theorem dX7_init_4 : decode cX7_init 4 = .ok (.return_, 1) := by decide +kernel
abbrev cX7_told : ByteArray := prog_3_method_6_code
def yX7_told : MethodName := ⟨RX7, "told", "(I)I"⟩
def dkwX7_told_1 : List UInt8 := [5, 160, 0, 10, 42, 180, 0, 26, 167, 0, 7, 42, 180, 0, 29, 172]
abbrev dktX7_told_1 : List UInt8 := dkwX7_told_1 ++ []
def dkwX7_told_0 : List UInt8 := [27, 154, 0, 10, 42, 180, 0, 17, 167, 0, 31, 27, 4, 160, 0, 10, 42, 180, 0, 23, 167, 0, 19, 27]
abbrev dktX7_told_0 : List UInt8 := dkwX7_told_0 ++ dktX7_told_1
theorem dksX7_told_0 : cX7_told.data.toList.drop 0 = dktX7_told_0 := by decide +kernel
theorem dksX7_told_1 : cX7_told.data.toList.drop 24 = dktX7_told_1 := dk_seg dksX7_told_0 24 rfl rfl
theorem dX7_told_0 : decode cX7_told 0 = .ok (.iload_n 1, 1) := dk_27 (dk_at dksX7_told_0 0 rfl rfl)
theorem dX7_told_1 : decode cX7_told 1 = .ok (.ifCond .ne 10, 3) := dk_154 0 10 (dk_at dksX7_told_0 1 rfl rfl)
theorem dX7_told_4 : decode cX7_told 4 = .ok (.aload_n 0, 1) := dk_42 (dk_at dksX7_told_0 4 rfl rfl)
theorem dX7_told_5 : decode cX7_told 5 = .ok (.getfield 17, 3) := dk_180 0 17 (dk_at dksX7_told_0 5 rfl rfl)
theorem dX7_told_8 : decode cX7_told 8 = .ok (.goto 31, 3) := dk_167 0 31 (dk_at dksX7_told_0 8 rfl rfl)
theorem dX7_told_11 : decode cX7_told 11 = .ok (.iload_n 1, 1) := dk_27 (dk_at dksX7_told_0 11 rfl rfl)
theorem dX7_told_12 : decode cX7_told 12 = .ok (.iconst 1, 1) := dk_4 (dk_at dksX7_told_0 12 rfl rfl)
theorem dX7_told_13 : decode cX7_told 13 = .ok (.if_icmp .ne 10, 3) := dk_160 0 10 (dk_at dksX7_told_0 13 rfl rfl)
theorem dX7_told_16 : decode cX7_told 16 = .ok (.aload_n 0, 1) := dk_42 (dk_at dksX7_told_0 16 rfl rfl)
theorem dX7_told_17 : decode cX7_told 17 = .ok (.getfield 23, 3) := dk_180 0 23 (dk_at dksX7_told_0 17 rfl rfl)
theorem dX7_told_20 : decode cX7_told 20 = .ok (.goto 19, 3) := dk_167 0 19 (dk_at dksX7_told_0 20 rfl rfl)
theorem dX7_told_23 : decode cX7_told 23 = .ok (.iload_n 1, 1) := dk_27 (dk_at dksX7_told_0 23 rfl rfl)
theorem dX7_told_24 : decode cX7_told 24 = .ok (.iconst 2, 1) := dk_5 (dk_at dksX7_told_1 0 rfl rfl)
theorem dX7_told_25 : decode cX7_told 25 = .ok (.if_icmp .ne 10, 3) := dk_160 0 10 (dk_at dksX7_told_1 1 rfl rfl)
theorem dX7_told_28 : decode cX7_told 28 = .ok (.aload_n 0, 1) := dk_42 (dk_at dksX7_told_1 4 rfl rfl)
theorem dX7_told_29 : decode cX7_told 29 = .ok (.getfield 26, 3) := dk_180 0 26 (dk_at dksX7_told_1 5 rfl rfl)
theorem dX7_told_32 : decode cX7_told 32 = .ok (.goto 7, 3) := dk_167 0 7 (dk_at dksX7_told_1 8 rfl rfl)
theorem dX7_told_35 : decode cX7_told 35 = .ok (.aload_n 0, 1) := dk_42 (dk_at dksX7_told_1 11 rfl rfl)
theorem dX7_told_36 : decode cX7_told 36 = .ok (.getfield 29, 3) := dk_180 0 29 (dk_at dksX7_told_1 12 rfl rfl)
theorem dX7_told_39 : decode cX7_told 39 = .ok (.ireturn, 1) := dk_172 (dk_at dksX7_told_1 15 rfl rfl)
abbrev cX7_becomes : ByteArray := prog_3_method_3_code
def yX7_becomes : MethodName := ⟨RX7, "becomes", "(LSafeBuckets$Bucket;)V"⟩
def dkwX7_becomes_1 : List UInt8 := [42, 43, 180, 0, 29, 181, 0, 29, 177]
abbrev dktX7_becomes_1 : List UInt8 := dkwX7_becomes_1 ++ []
def dkwX7_becomes_0 : List UInt8 := [42, 43, 180, 0, 17, 181, 0, 17, 42, 43, 180, 0, 23, 181, 0, 23, 42, 43, 180, 0, 26, 181, 0, 26]
abbrev dktX7_becomes_0 : List UInt8 := dkwX7_becomes_0 ++ dktX7_becomes_1
theorem dksX7_becomes_0 : cX7_becomes.data.toList.drop 0 = dktX7_becomes_0 := by decide +kernel
theorem dksX7_becomes_1 : cX7_becomes.data.toList.drop 24 = dktX7_becomes_1 := dk_seg dksX7_becomes_0 24 rfl rfl
theorem dX7_becomes_0 : decode cX7_becomes 0 = .ok (.aload_n 0, 1) := dk_42 (dk_at dksX7_becomes_0 0 rfl rfl)
theorem dX7_becomes_1 : decode cX7_becomes 1 = .ok (.aload_n 1, 1) := dk_43 (dk_at dksX7_becomes_0 1 rfl rfl)
theorem dX7_becomes_2 : decode cX7_becomes 2 = .ok (.getfield 17, 3) := dk_180 0 17 (dk_at dksX7_becomes_0 2 rfl rfl)
theorem dX7_becomes_5 : decode cX7_becomes 5 = .ok (.putfield 17, 3) := dk_181 0 17 (dk_at dksX7_becomes_0 5 rfl rfl)
theorem dX7_becomes_8 : decode cX7_becomes 8 = .ok (.aload_n 0, 1) := dk_42 (dk_at dksX7_becomes_0 8 rfl rfl)
theorem dX7_becomes_9 : decode cX7_becomes 9 = .ok (.aload_n 1, 1) := dk_43 (dk_at dksX7_becomes_0 9 rfl rfl)
theorem dX7_becomes_10 : decode cX7_becomes 10 = .ok (.getfield 23, 3) := dk_180 0 23 (dk_at dksX7_becomes_0 10 rfl rfl)
theorem dX7_becomes_13 : decode cX7_becomes 13 = .ok (.putfield 23, 3) := dk_181 0 23 (dk_at dksX7_becomes_0 13 rfl rfl)
theorem dX7_becomes_16 : decode cX7_becomes 16 = .ok (.aload_n 0, 1) := dk_42 (dk_at dksX7_becomes_0 16 rfl rfl)
theorem dX7_becomes_17 : decode cX7_becomes 17 = .ok (.aload_n 1, 1) := dk_43 (dk_at dksX7_becomes_0 17 rfl rfl)
theorem dX7_becomes_18 : decode cX7_becomes 18 = .ok (.getfield 26, 3) := dk_180 0 26 (dk_at dksX7_becomes_0 18 rfl rfl)
theorem dX7_becomes_21 : decode cX7_becomes 21 = .ok (.putfield 26, 3) := dk_181 0 26 (dk_at dksX7_becomes_0 21 rfl rfl)
theorem dX7_becomes_24 : decode cX7_becomes 24 = .ok (.aload_n 0, 1) := dk_42 (dk_at dksX7_becomes_1 0 rfl rfl)
theorem dX7_becomes_25 : decode cX7_becomes 25 = .ok (.aload_n 1, 1) := dk_43 (dk_at dksX7_becomes_1 1 rfl rfl)
theorem dX7_becomes_26 : decode cX7_becomes 26 = .ok (.getfield 29, 3) := dk_180 0 29 (dk_at dksX7_becomes_1 2 rfl rfl)
theorem dX7_becomes_29 : decode cX7_becomes 29 = .ok (.putfield 29, 3) := dk_181 0 29 (dk_at dksX7_becomes_1 5 rfl rfl)
theorem dX7_becomes_32 : decode cX7_becomes 32 = .ok (.return_, 1) := dk_177 (dk_at dksX7_becomes_1 8 rfl rfl)
abbrev cX7_least : ByteArray := prog_3_method_4_code
def yX7_least : MethodName := ⟨RX7, "least", "(I)I"⟩
def dkwX7_least_1 : List UInt8 := [100, 184, 0, 11, 172]
abbrev dktX7_least_1 : List UInt8 := dkwX7_least_1 ++ []
def dkwX7_least_0 : List UInt8 := [27, 154, 0, 7, 3, 167, 0, 23, 3, 42, 180, 0, 26, 42, 180, 0, 29, 42, 182, 0, 32, 27, 100, 104]
abbrev dktX7_least_0 : List UInt8 := dkwX7_least_0 ++ dktX7_least_1
theorem dksX7_least_0 : cX7_least.data.toList.drop 0 = dktX7_least_0 := by decide +kernel
theorem dksX7_least_1 : cX7_least.data.toList.drop 24 = dktX7_least_1 := dk_seg dksX7_least_0 24 rfl rfl
theorem dX7_least_0 : decode cX7_least 0 = .ok (.iload_n 1, 1) := dk_27 (dk_at dksX7_least_0 0 rfl rfl)
theorem dX7_least_1 : decode cX7_least 1 = .ok (.ifCond .ne 7, 3) := dk_154 0 7 (dk_at dksX7_least_0 1 rfl rfl)
theorem dX7_least_4 : decode cX7_least 4 = .ok (.iconst 0, 1) := dk_3 (dk_at dksX7_least_0 4 rfl rfl)
theorem dX7_least_5 : decode cX7_least 5 = .ok (.goto 23, 3) := dk_167 0 23 (dk_at dksX7_least_0 5 rfl rfl)
theorem dX7_least_8 : decode cX7_least 8 = .ok (.iconst 0, 1) := dk_3 (dk_at dksX7_least_0 8 rfl rfl)
theorem dX7_least_9 : decode cX7_least 9 = .ok (.aload_n 0, 1) := dk_42 (dk_at dksX7_least_0 9 rfl rfl)
theorem dX7_least_10 : decode cX7_least 10 = .ok (.getfield 26, 3) := dk_180 0 26 (dk_at dksX7_least_0 10 rfl rfl)
theorem dX7_least_13 : decode cX7_least 13 = .ok (.aload_n 0, 1) := dk_42 (dk_at dksX7_least_0 13 rfl rfl)
theorem dX7_least_14 : decode cX7_least 14 = .ok (.getfield 29, 3) := dk_180 0 29 (dk_at dksX7_least_0 14 rfl rfl)
theorem dX7_least_17 : decode cX7_least 17 = .ok (.aload_n 0, 1) := dk_42 (dk_at dksX7_least_0 17 rfl rfl)
theorem dX7_least_18 : decode cX7_least 18 = .ok (.invokevirtual 32, 3) := dk_182 0 32 (dk_at dksX7_least_0 18 rfl rfl)
theorem dX7_least_21 : decode cX7_least 21 = .ok (.iload_n 1, 1) := dk_27 (dk_at dksX7_least_0 21 rfl rfl)
theorem dX7_least_22 : decode cX7_least 22 = .ok (.isub, 1) := dk_100 (dk_at dksX7_least_0 22 rfl rfl)
theorem dX7_least_23 : decode cX7_least 23 = .ok (.imul, 1) := dk_104 (dk_at dksX7_least_0 23 rfl rfl)
theorem dX7_least_24 : decode cX7_least 24 = .ok (.isub, 1) := dk_100 (dk_at dksX7_least_1 0 rfl rfl)
theorem dX7_least_25 : decode cX7_least 25 = .ok (.invokestatic 11, 3) := dk_184 0 11 (dk_at dksX7_least_1 1 rfl rfl)
theorem dX7_least_28 : decode cX7_least 28 = .ok (.ireturn, 1) := dk_172 (dk_at dksX7_least_1 4 rfl rfl)
abbrev cX7_width : ByteArray := prog_3_method_2_code
def yX7_width : MethodName := ⟨RX7, "width", "()I"⟩
def dkwX7_width_0 : List UInt8 := [4, 42, 183, 0, 7, 184, 0, 11, 172]
abbrev dktX7_width_0 : List UInt8 := dkwX7_width_0 ++ []
theorem dksX7_width_0 : cX7_width.data.toList.drop 0 = dktX7_width_0 := by decide +kernel
theorem dX7_width_0 : decode cX7_width 0 = .ok (.iconst 1, 1) := dk_4 (dk_at dksX7_width_0 0 rfl rfl)
theorem dX7_width_1 : decode cX7_width 1 = .ok (.aload_n 0, 1) := dk_42 (dk_at dksX7_width_0 1 rfl rfl)
theorem dX7_width_2 : decode cX7_width 2 = .ok (.invokespecial 7, 3) := dk_183 0 7 (dk_at dksX7_width_0 2 rfl rfl)
theorem dX7_width_5 : decode cX7_width 5 = .ok (.invokestatic 11, 3) := dk_184 0 11 (dk_at dksX7_width_0 5 rfl rfl)
theorem dX7_width_8 : decode cX7_width 8 = .ok (.ireturn, 1) := dk_172 (dk_at dksX7_width_0 8 rfl rfl)
abbrev cX7_most : ByteArray := prog_3_method_5_code
def yX7_most : MethodName := ⟨RX7, "most", "(I)I"⟩
def dkwX7_most_0 : List UInt8 := [42, 180, 0, 26, 42, 180, 0, 29, 27, 104, 184, 0, 33, 172]
abbrev dktX7_most_0 : List UInt8 := dkwX7_most_0 ++ []
theorem dksX7_most_0 : cX7_most.data.toList.drop 0 = dktX7_most_0 := by decide +kernel
theorem dX7_most_0 : decode cX7_most 0 = .ok (.aload_n 0, 1) := dk_42 (dk_at dksX7_most_0 0 rfl rfl)
theorem dX7_most_1 : decode cX7_most 1 = .ok (.getfield 26, 3) := dk_180 0 26 (dk_at dksX7_most_0 1 rfl rfl)
theorem dX7_most_4 : decode cX7_most 4 = .ok (.aload_n 0, 1) := dk_42 (dk_at dksX7_most_0 4 rfl rfl)
theorem dX7_most_5 : decode cX7_most 5 = .ok (.getfield 29, 3) := dk_180 0 29 (dk_at dksX7_most_0 5 rfl rfl)
theorem dX7_most_8 : decode cX7_most 8 = .ok (.iload_n 1, 1) := dk_27 (dk_at dksX7_most_0 8 rfl rfl)
theorem dX7_most_9 : decode cX7_most 9 = .ok (.imul, 1) := dk_104 (dk_at dksX7_most_0 9 rfl rfl)
theorem dX7_most_10 : decode cX7_most 10 = .ok (.invokestatic 33, 3) := dk_184 0 33 (dk_at dksX7_most_0 10 rfl rfl)
theorem dX7_most_13 : decode cX7_most 13 = .ok (.ireturn, 1) := dk_172 (dk_at dksX7_most_0 13 rfl rfl)
theorem q122 : (Jvm.Cond.initialized "SafeBuckets$Bucket") ∈ lw_all := lw_g (lw_at lw_m1 7 rfl) rfl
theorem q207 : (Jvm.Cond.instantiable "SafeBuckets$Bucket" (4 : Nat)) ∈ lw_all := lw_g (lw_at lw_m1 92 rfl) rfl
theorem q209 : (Jvm.Cond.instanceMethod ({ cls := "SafeBuckets$Bucket", name := "<init>", desc := "()V" } : Jvm.MethodName)) ∈ lw_all := lw_g (lw_at lw_m1 94 rfl) rfl
theorem q210 : (Jvm.Cond.code ({ cls := "SafeBuckets$Bucket", name := "<init>", desc := "()V" } : Jvm.MethodName) prog_3_method_1_code (1 : Nat) (Option.none : Option Jvm.ClassFile.FieldType)) ∈ lw_all := lw_g (lw_at lw_m1 95 rfl) rfl
theorem q211 : (Jvm.Cond.methodLinkNest "SafeBuckets$Bucket" (1 : Nat) ({ cls := "SafeBuckets$Kept", name := "<init>", desc := "()V" } : Jvm.MethodName) "SafeBuckets") ∈ lw_tbl := lw_at lw_m1 96 rfl
theorem q219 : (Jvm.Cond.fieldLink "SafeBuckets$Bucket" (26 : Nat) "SafeBuckets$Bucket" "total" "I") ∈ lw_all := lw_g (lw_at lw_m1 104 rfl) rfl
theorem q220 : (Jvm.Cond.sameField "SafeBuckets$Bucket" "SafeBuckets$Kept" "total" "I") ∈ lw_all := lw_g (lw_at lw_m1 105 rfl) rfl
theorem q225 : (Jvm.Cond.fieldLink "SafeBuckets$Bucket" (29 : Nat) "SafeBuckets$Bucket" "greatest" "I") ∈ lw_all := lw_g (lw_at lw_m1 110 rfl) rfl
theorem q226 : (Jvm.Cond.sameField "SafeBuckets$Bucket" "SafeBuckets$Kept" "greatest" "I") ∈ lw_all := lw_g (lw_at lw_m1 111 rfl) rfl
theorem q231 : (Jvm.Cond.fieldLink "SafeBuckets$Bucket" (17 : Nat) "SafeBuckets$Bucket" "from" "I") ∈ lw_all := lw_g (lw_at lw_m1 116 rfl) rfl
theorem q232 : (Jvm.Cond.sameField "SafeBuckets$Bucket" "SafeBuckets$Span" "from" "I") ∈ lw_all := lw_g (lw_at lw_m1 117 rfl) rfl
theorem q238 : (Jvm.Cond.sameField "SafeBuckets$Bucket" "SafeBuckets$Span" "to" "I") ∈ lw_all := lw_g (lw_at lw_m1 123 rfl) rfl
theorem q239 : (Jvm.Cond.fieldLink "SafeBuckets$Bucket" (23 : Nat) "SafeBuckets$Bucket" "to" "I") ∈ lw_all := lw_g (lw_at lw_m1 124 rfl) rfl
theorem q243 : (Jvm.Cond.lays "SafeBuckets$Bucket" "SafeBuckets$Kept" "total" "I") ∈ lw_all := lw_g (lw_at lw_m1 128 rfl) rfl
theorem q245 : (Jvm.Cond.lays "SafeBuckets$Bucket" "SafeBuckets$Kept" "greatest" "I") ∈ lw_all := lw_g (lw_at lw_m1 130 rfl) rfl
theorem q247 : (Jvm.Cond.lays "SafeBuckets$Bucket" "SafeBuckets$Span" "from" "I") ∈ lw_all := lw_g (lw_at lw_m1 132 rfl) rfl
theorem q249 : (Jvm.Cond.lays "SafeBuckets$Bucket" "SafeBuckets$Span" "to" "I") ∈ lw_all := lw_g (lw_at lw_m1 134 rfl) rfl
theorem q251 : (Jvm.Cond.superclass "SafeBuckets$Bucket" "SafeBuckets$Kept") ∈ lw_all := lw_g (lw_at lw_m1 136 rfl) rfl
theorem q965 : (Jvm.Cond.instanceMethod ({ cls := "SafeBuckets$Bucket", name := "told", desc := "(I)I" } : Jvm.MethodName)) ∈ lw_all := lw_g (lw_at lw_m4 130 rfl) rfl
theorem q966 : (Jvm.Cond.selects "SafeBuckets$Bucket" ({ cls := "SafeBuckets$Bucket", name := "told", desc := "(I)I" } : Jvm.MethodName) ({ cls := "SafeBuckets$Bucket", name := "told", desc := "(I)I" } : Jvm.MethodName)) ∈ lw_all := lw_g (lw_at lw_m4 131 rfl) rfl
theorem q967 : (Jvm.Cond.code ({ cls := "SafeBuckets$Bucket", name := "told", desc := "(I)I" } : Jvm.MethodName) prog_3_method_6_code (2 : Nat) (Option.some Jvm.ClassFile.FieldType.int)) ∈ lw_all := lw_g (lw_at lw_m4 132 rfl) rfl
theorem q1035 : (Jvm.Cond.instanceMethod ({ cls := "SafeBuckets$Bucket", name := "becomes", desc := "(LSafeBuckets$Bucket;)V" } : Jvm.MethodName)) ∈ lw_all := lw_g (lw_at lw_m4 200 rfl) rfl
theorem q1036 : (Jvm.Cond.selects "SafeBuckets$Bucket" ({ cls := "SafeBuckets$Bucket", name := "becomes", desc := "(LSafeBuckets$Bucket;)V" } : Jvm.MethodName) ({ cls := "SafeBuckets$Bucket", name := "becomes", desc := "(LSafeBuckets$Bucket;)V" } : Jvm.MethodName)) ∈ lw_all := lw_g (lw_at lw_m4 201 rfl) rfl
theorem q1037 : (Jvm.Cond.code ({ cls := "SafeBuckets$Bucket", name := "becomes", desc := "(LSafeBuckets$Bucket;)V" } : Jvm.MethodName) prog_3_method_3_code (2 : Nat) (Option.none : Option Jvm.ClassFile.FieldType)) ∈ lw_all := lw_g (lw_at lw_m4 202 rfl) rfl
theorem q1050 : (Jvm.Cond.sameMethod "SafeBuckets$Bucket" "SafeBuckets$Kept" "goesUp" "(I)V") ∈ lw_all := lw_g (lw_at lw_m4 215 rfl) rfl
theorem q1052 : (Jvm.Cond.selects "SafeBuckets$Bucket" ({ cls := "SafeBuckets$Bucket", name := "goesUp", desc := "(I)V" } : Jvm.MethodName) ({ cls := "SafeBuckets$Kept", name := "goesUp", desc := "(I)V" } : Jvm.MethodName)) ∈ lw_all := lw_g (lw_at lw_m4 217 rfl) rfl
theorem q1057 : (Jvm.Cond.sameMethod "SafeBuckets$Bucket" "SafeBuckets$Kept" "goesDown" "(I)V") ∈ lw_all := lw_g (lw_at lw_m4 222 rfl) rfl
theorem q1059 : (Jvm.Cond.selects "SafeBuckets$Bucket" ({ cls := "SafeBuckets$Bucket", name := "goesDown", desc := "(I)V" } : Jvm.MethodName) ({ cls := "SafeBuckets$Kept", name := "goesDown", desc := "(I)V" } : Jvm.MethodName)) ∈ lw_all := lw_g (lw_at lw_m4 224 rfl) rfl
theorem q1172 : (Jvm.Cond.instanceMethod ({ cls := "SafeBuckets$Bucket", name := "least", desc := "(I)I" } : Jvm.MethodName)) ∈ lw_all := lw_g (lw_at lw_m5 97 rfl) rfl
theorem q1173 : (Jvm.Cond.selects "SafeBuckets$Bucket" ({ cls := "SafeBuckets$Bucket", name := "least", desc := "(I)I" } : Jvm.MethodName) ({ cls := "SafeBuckets$Bucket", name := "least", desc := "(I)I" } : Jvm.MethodName)) ∈ lw_all := lw_g (lw_at lw_m5 98 rfl) rfl
theorem q1174 : (Jvm.Cond.code ({ cls := "SafeBuckets$Bucket", name := "least", desc := "(I)I" } : Jvm.MethodName) prog_3_method_4_code (2 : Nat) (Option.some Jvm.ClassFile.FieldType.int)) ∈ lw_all := lw_g (lw_at lw_m5 99 rfl) rfl
theorem q1175 : (Jvm.Cond.methodLink "SafeBuckets$Bucket" (32 : Nat) ({ cls := "SafeBuckets$Bucket", name := "width", desc := "()I" } : Jvm.MethodName)) ∈ lw_all := lw_g (lw_at lw_m5 100 rfl) rfl
theorem q1176 : (Jvm.Cond.instanceMethod ({ cls := "SafeBuckets$Bucket", name := "width", desc := "()I" } : Jvm.MethodName)) ∈ lw_all := lw_g (lw_at lw_m5 101 rfl) rfl
theorem q1177 : (Jvm.Cond.selects "SafeBuckets$Bucket" ({ cls := "SafeBuckets$Bucket", name := "width", desc := "()I" } : Jvm.MethodName) ({ cls := "SafeBuckets$Bucket", name := "width", desc := "()I" } : Jvm.MethodName)) ∈ lw_all := lw_g (lw_at lw_m5 102 rfl) rfl
theorem q1178 : (Jvm.Cond.code ({ cls := "SafeBuckets$Bucket", name := "width", desc := "()I" } : Jvm.MethodName) prog_3_method_2_code (1 : Nat) (Option.some Jvm.ClassFile.FieldType.int)) ∈ lw_all := lw_g (lw_at lw_m5 103 rfl) rfl
theorem q1179 : (Jvm.Cond.methodLink "SafeBuckets$Bucket" (7 : Nat) ({ cls := "SafeBuckets$Kept", name := "width", desc := "()I" } : Jvm.MethodName)) ∈ lw_all := lw_g (lw_at lw_m5 104 rfl) rfl
theorem q1185 : (Jvm.Cond.methodLink "SafeBuckets$Bucket" (11 : Nat) ({ cls := "java/lang/Math", name := "max", desc := "(II)I" } : Jvm.MethodName)) ∈ lw_all := lw_g (lw_at lw_m5 110 rfl) rfl
theorem q1201 : (Jvm.Cond.instanceMethod ({ cls := "SafeBuckets$Bucket", name := "most", desc := "(I)I" } : Jvm.MethodName)) ∈ lw_all := lw_g (lw_at lw_m5 126 rfl) rfl
theorem q1202 : (Jvm.Cond.selects "SafeBuckets$Bucket" ({ cls := "SafeBuckets$Bucket", name := "most", desc := "(I)I" } : Jvm.MethodName) ({ cls := "SafeBuckets$Bucket", name := "most", desc := "(I)I" } : Jvm.MethodName)) ∈ lw_all := lw_g (lw_at lw_m5 127 rfl) rfl
theorem q1203 : (Jvm.Cond.code ({ cls := "SafeBuckets$Bucket", name := "most", desc := "(I)I" } : Jvm.MethodName) prog_3_method_5_code (2 : Nat) (Option.some Jvm.ClassFile.FieldType.int)) ∈ lw_all := lw_g (lw_at lw_m5 128 rfl) rfl
theorem q1204 : (Jvm.Cond.methodLink "SafeBuckets$Bucket" (33 : Nat) ({ cls := "java/lang/Math", name := "min", desc := "(II)I" } : Jvm.MethodName)) ∈ lw_all := lw_g (lw_at lw_m5 129 rfl) rfl
theorem q1349 : (Jvm.Cond.selects "SafeBuckets$Bucket" ({ cls := "java/lang/Object", name := "getClass", desc := "()Ljava/lang/Class;" } : Jvm.MethodName) ({ cls := "java/lang/Object", name := "getClass", desc := "()Ljava/lang/Class;" } : Jvm.MethodName)) ∈ lw_all := lw_g (lw_at lw_m6 34 rfl) rfl
theorem q2146 : (Jvm.Cond.castable "SafeBuckets$Bucket" "java/lang/Object") ∈ lw_tbl := lw_at lw_m9 111 rfl
theorem in_X7 : ∀ w ∈ wsX70, w ∈ lw_all := lw_in wsX70 [247, 249, 243, 245] (by decide +kernel) (by decide +kernel)

/-! SafeBuckets$TooLong -/
set_option maxRecDepth 100000
def RX8 : String := "SafeBuckets$TooLong"
def TX8 : u_T := fun k => match k with
  | 0 => ("java/lang/Throwable", "cause", "Ljava/lang/Throwable;", false)
  | 1 => ("java/lang/Throwable", "stackTrace", "[Ljava/lang/StackTraceElement;", false)
  | 2 => ("java/lang/Throwable", "suppressedExceptions", "Ljava/util/List;", false)
  | 3 => ("java/lang/Throwable", "detailMessage", "Ljava/lang/String;", false)
  | 4 => ("java/lang/Throwable", "backtrace", "Ljava/lang/Object;", false)
  | _ => ("java/lang/Throwable", "depth", "I", false)
def tyX8 : Nat → FieldType := fun k => match k with
  | 0 => .object "java/lang/Throwable"
  | 1 => .array (.object "java/lang/StackTraceElement")
  | 2 => .object "java/util/List"
  | 3 => .object "java/lang/String"
  | 4 => .object "java/lang/Object"
  | _ => .int
abbrev wsX80 : List Cond := u_ws RX8 TX8 6
theorem nmX8 : ∀ a, a < 6 → ∀ b, b < 6 → a ≠ b → (TX8 a).2.1 ≠ (TX8 b).2.1 := by decide +kernel
theorem tyX8_ok : ∀ k, k < 6 → parseFieldDescriptor (TX8 k).2.2.1 = some (tyX8 k) := by decide +kernel
abbrev cX8_init : ByteArray := prog_23_method_1_code
def yX8_init : MethodName := ⟨RX8, "<init>", "()V"⟩
def dkwX8_init_0 : List UInt8 := [42, 1, 1, 3, 3, 183, 0, 1, 177]
abbrev dktX8_init_0 : List UInt8 := dkwX8_init_0 ++ []
theorem dksX8_init_0 : cX8_init.data.toList.drop 0 = dktX8_init_0 := by decide +kernel
theorem dX8_init_0 : decode cX8_init 0 = .ok (.aload_n 0, 1) := dk_42 (dk_at dksX8_init_0 0 rfl rfl)
theorem dX8_init_1 : decode cX8_init 1 = .ok (.aconst_null, 1) := dk_1 (dk_at dksX8_init_0 1 rfl rfl)
theorem dX8_init_2 : decode cX8_init 2 = .ok (.aconst_null, 1) := dk_1 (dk_at dksX8_init_0 2 rfl rfl)
theorem dX8_init_3 : decode cX8_init 3 = .ok (.iconst 0, 1) := dk_3 (dk_at dksX8_init_0 3 rfl rfl)
theorem dX8_init_4 : decode cX8_init 4 = .ok (.iconst 0, 1) := dk_3 (dk_at dksX8_init_0 4 rfl rfl)
theorem dX8_init_5 : decode cX8_init 5 = .ok (.invokespecial 1, 3) := dk_183 0 1 (dk_at dksX8_init_0 5 rfl rfl)
theorem dX8_init_8 : decode cX8_init 8 = .ok (.return_, 1) := dk_177 (dk_at dksX8_init_0 8 rfl rfl)
theorem q125 : (Jvm.Cond.initialized "SafeBuckets$TooLong") ∈ lw_all := lw_g (lw_at lw_m1 10 rfl) rfl
theorem q322 : (Jvm.Cond.instantiable "SafeBuckets$TooLong" (6 : Nat)) ∈ lw_all := lw_g (lw_at lw_m1 207 rfl) rfl
theorem q323 : (Jvm.Cond.castable "SafeBuckets$TooLong" "SafeBuckets$TooLong") ∈ lw_tbl := lw_at lw_m1 208 rfl
theorem q328 : (Jvm.Cond.selects "SafeBuckets$TooLong" ({ cls := "java/lang/Throwable", name := "fillInStackTrace", desc := "(I)Ljava/lang/Throwable;" } : Jvm.MethodName) ({ cls := "java/lang/Throwable", name := "fillInStackTrace", desc := "(I)Ljava/lang/Throwable;" } : Jvm.MethodName)) ∈ lw_all := lw_g (lw_at lw_m1 213 rfl) rfl
theorem q329 : (Jvm.Cond.selects "SafeBuckets$TooLong" ({ cls := "java/lang/Throwable", name := "fillInStackTrace", desc := "()Ljava/lang/Throwable;" } : Jvm.MethodName) ({ cls := "java/lang/Throwable", name := "fillInStackTrace", desc := "()Ljava/lang/Throwable;" } : Jvm.MethodName)) ∈ lw_all := lw_g (lw_at lw_m1 214 rfl) rfl
theorem q330 : (Jvm.Cond.lays "SafeBuckets$TooLong" "java/lang/Throwable" "cause" "Ljava/lang/Throwable;") ∈ lw_all := lw_g (lw_at lw_m1 215 rfl) rfl
theorem q332 : (Jvm.Cond.lays "SafeBuckets$TooLong" "java/lang/Throwable" "stackTrace" "[Ljava/lang/StackTraceElement;") ∈ lw_all := lw_g (lw_at lw_m1 217 rfl) rfl
theorem q334 : (Jvm.Cond.lays "SafeBuckets$TooLong" "java/lang/Throwable" "suppressedExceptions" "Ljava/util/List;") ∈ lw_all := lw_g (lw_at lw_m1 219 rfl) rfl
theorem q336 : (Jvm.Cond.lays "SafeBuckets$TooLong" "java/lang/Throwable" "detailMessage" "Ljava/lang/String;") ∈ lw_all := lw_g (lw_at lw_m1 221 rfl) rfl
theorem q338 : (Jvm.Cond.lays "SafeBuckets$TooLong" "java/lang/Throwable" "backtrace" "Ljava/lang/Object;") ∈ lw_all := lw_g (lw_at lw_m1 223 rfl) rfl
theorem q361 : (Jvm.Cond.instanceMethod ({ cls := "SafeBuckets$TooLong", name := "<init>", desc := "()V" } : Jvm.MethodName)) ∈ lw_all := lw_g (lw_at lw_m2 6 rfl) rfl
theorem q362 : (Jvm.Cond.code ({ cls := "SafeBuckets$TooLong", name := "<init>", desc := "()V" } : Jvm.MethodName) prog_23_method_1_code (1 : Nat) (Option.none : Option Jvm.ClassFile.FieldType)) ∈ lw_all := lw_g (lw_at lw_m2 7 rfl) rfl
theorem q363 : (Jvm.Cond.methodLink "SafeBuckets$TooLong" (1 : Nat) ({ cls := "java/lang/Exception", name := "<init>", desc := "(Ljava/lang/String;Ljava/lang/Throwable;ZZ)V" } : Jvm.MethodName)) ∈ lw_all := lw_g (lw_at lw_m2 8 rfl) rfl
theorem q378 : (Jvm.Cond.lays "SafeBuckets$TooLong" "java/lang/Throwable" "depth" "I") ∈ lw_all := lw_g (lw_at lw_m2 23 rfl) rfl
theorem q381 : (Jvm.Cond.superclass "SafeBuckets$TooLong" "java/lang/Exception") ∈ lw_all := lw_g (lw_at lw_m2 26 rfl) rfl
theorem q1273 : (Jvm.Cond.selects "SafeBuckets$TooLong" ({ cls := "java/lang/Throwable", name := "addSuppressed", desc := "(Ljava/lang/Throwable;)V" } : Jvm.MethodName) ({ cls := "java/lang/Throwable", name := "addSuppressed", desc := "(Ljava/lang/Throwable;)V" } : Jvm.MethodName)) ∈ lw_all := lw_g (lw_at lw_m5 198 rfl) rfl
theorem q1363 : (Jvm.Cond.selects "SafeBuckets$TooLong" ({ cls := "java/lang/Object", name := "getClass", desc := "()Ljava/lang/Class;" } : Jvm.MethodName) ({ cls := "java/lang/Object", name := "getClass", desc := "()Ljava/lang/Class;" } : Jvm.MethodName)) ∈ lw_all := lw_g (lw_at lw_m6 48 rfl) rfl
theorem q2140 : (Jvm.Cond.castable "SafeBuckets$TooLong" "java/lang/Throwable") ∈ lw_tbl := lw_at lw_m9 105 rfl
theorem q2153 : (Jvm.Cond.castable "SafeBuckets$TooLong" "java/lang/Object") ∈ lw_tbl := lw_at lw_m9 118 rfl
theorem in_X8 : ∀ w ∈ wsX80, w ∈ lw_all := lw_in wsX80 [330, 332, 334, 336, 338, 378] (by decide +kernel) (by decide +kernel)

/-! SafeBuckets$Reader -/
set_option maxRecDepth 100000
def RX10 : String := "SafeBuckets$Reader"
def TX10 : u_T := fun k => match k with
  | 0 => ("SafeBuckets$Reader", "at", "I", false)
  | _ => ("SafeBuckets$Reader", "this$0", "LSafeBuckets;", true)
def tyX10 : Nat → FieldType := fun k => match k with
  | 0 => .int
  | _ => .object "SafeBuckets"
abbrev wsX100 : List Cond := u_ws RX10 TX10 2
theorem nmX10 : ∀ a, a < 2 → ∀ b, b < 2 → a ≠ b → (TX10 a).2.1 ≠ (TX10 b).2.1 := by decide +kernel
theorem tyX10_ok : ∀ k, k < 2 → parseFieldDescriptor (TX10 k).2.2.1 = some (tyX10 k) := by decide +kernel
abbrev cX10_init : ByteArray := prog_10_method_1_code
def yX10_init : MethodName := ⟨RX10, "<init>", "(LSafeBuckets;)V"⟩
def dkwX10_init_0 : List UInt8 := [42, 43, 181, 0, 3, 42, 183, 0, 9, 177]
abbrev dktX10_init_0 : List UInt8 := dkwX10_init_0 ++ []
theorem dksX10_init_0 : cX10_init.data.toList.drop 0 = dktX10_init_0 := by decide +kernel
theorem dX10_init_0 : decode cX10_init 0 = .ok (.aload_n 0, 1) := dk_42 (dk_at dksX10_init_0 0 rfl rfl)
theorem dX10_init_1 : decode cX10_init 1 = .ok (.aload_n 1, 1) := dk_43 (dk_at dksX10_init_0 1 rfl rfl)
theorem dX10_init_2 : decode cX10_init 2 = .ok (.putfield 3, 3) := dk_181 0 3 (dk_at dksX10_init_0 2 rfl rfl)
theorem dX10_init_5 : decode cX10_init 5 = .ok (.aload_n 0, 1) := dk_42 (dk_at dksX10_init_0 5 rfl rfl)
theorem dX10_init_6 : decode cX10_init 6 = .ok (.invokespecial 9, 3) := dk_183 0 9 (dk_at dksX10_init_0 6 rfl rfl)
theorem dX10_init_9 : decode cX10_init 9 = .ok (.return_, 1) := dk_177 (dk_at dksX10_init_0 9 rfl rfl)
abbrev cX10_book : ByteArray := prog_10_method_9_code
def yX10_book : MethodName := ⟨RX10, "book", "()LSafeBuckets$Book;"⟩
def dkwX10_book_2 : List UInt8 := [154, 0, 15, 187, 0, 26, 89, 42, 180, 0, 15, 183, 0, 28, 191, 43, 176]
abbrev dktX10_book_2 : List UInt8 := dkwX10_book_2 ++ []
def dkwX10_book_1 : List UInt8 := [180, 0, 15, 4, 96, 181, 0, 15, 42, 43, 182, 0, 102, 167, 255, 232, 42, 182, 0, 106, 43, 182, 0, 109]
abbrev dktX10_book_1 : List UInt8 := dkwX10_book_1 ++ dktX10_book_2
def dkwX10_book_0 : List UInt8 := [187, 0, 70, 89, 183, 0, 101, 76, 42, 43, 182, 0, 102, 42, 182, 0, 31, 16, 59, 160, 0, 21, 42, 89]
abbrev dktX10_book_0 : List UInt8 := dkwX10_book_0 ++ dktX10_book_1
theorem dksX10_book_0 : cX10_book.data.toList.drop 0 = dktX10_book_0 := by decide +kernel
theorem dksX10_book_1 : cX10_book.data.toList.drop 24 = dktX10_book_1 := dk_seg dksX10_book_0 24 rfl rfl
theorem dksX10_book_2 : cX10_book.data.toList.drop 48 = dktX10_book_2 := dk_seg dksX10_book_1 24 rfl rfl
theorem dX10_book_0 : decode cX10_book 0 = .ok (.new 70, 3) := dk_187 0 70 (dk_at dksX10_book_0 0 rfl rfl)
theorem dX10_book_3 : decode cX10_book 3 = .ok (.dup, 1) := dk_89 (dk_at dksX10_book_0 3 rfl rfl)
theorem dX10_book_4 : decode cX10_book 4 = .ok (.invokespecial 101, 3) := dk_183 0 101 (dk_at dksX10_book_0 4 rfl rfl)
theorem dX10_book_7 : decode cX10_book 7 = .ok (.astore_n 1, 1) := dk_76 (dk_at dksX10_book_0 7 rfl rfl)
theorem dX10_book_8 : decode cX10_book 8 = .ok (.aload_n 0, 1) := dk_42 (dk_at dksX10_book_0 8 rfl rfl)
theorem dX10_book_9 : decode cX10_book 9 = .ok (.aload_n 1, 1) := dk_43 (dk_at dksX10_book_0 9 rfl rfl)
theorem dX10_book_10 : decode cX10_book 10 = .ok (.invokevirtual 102, 3) := dk_182 0 102 (dk_at dksX10_book_0 10 rfl rfl)
theorem dX10_book_13 : decode cX10_book 13 = .ok (.aload_n 0, 1) := dk_42 (dk_at dksX10_book_0 13 rfl rfl)
theorem dX10_book_14 : decode cX10_book 14 = .ok (.invokevirtual 31, 3) := dk_182 0 31 (dk_at dksX10_book_0 14 rfl rfl)
theorem dX10_book_17 : decode cX10_book 17 = .ok (.bipush 59, 2) := dk_16 59 (dk_at dksX10_book_0 17 rfl rfl)
theorem dX10_book_19 : decode cX10_book 19 = .ok (.if_icmp .ne 21, 3) := dk_160 0 21 (dk_at dksX10_book_0 19 rfl rfl)
theorem dX10_book_22 : decode cX10_book 22 = .ok (.aload_n 0, 1) := dk_42 (dk_at dksX10_book_0 22 rfl rfl)
theorem dX10_book_23 : decode cX10_book 23 = .ok (.dup, 1) := dk_89 (dk_at dksX10_book_0 23 rfl rfl)
theorem dX10_book_24 : decode cX10_book 24 = .ok (.getfield 15, 3) := dk_180 0 15 (dk_at dksX10_book_1 0 rfl rfl)
theorem dX10_book_27 : decode cX10_book 27 = .ok (.iconst 1, 1) := dk_4 (dk_at dksX10_book_1 3 rfl rfl)
theorem dX10_book_28 : decode cX10_book 28 = .ok (.iadd, 1) := dk_96 (dk_at dksX10_book_1 4 rfl rfl)
theorem dX10_book_29 : decode cX10_book 29 = .ok (.putfield 15, 3) := dk_181 0 15 (dk_at dksX10_book_1 5 rfl rfl)
theorem dX10_book_32 : decode cX10_book 32 = .ok (.aload_n 0, 1) := dk_42 (dk_at dksX10_book_1 8 rfl rfl)
theorem dX10_book_33 : decode cX10_book 33 = .ok (.aload_n 1, 1) := dk_43 (dk_at dksX10_book_1 9 rfl rfl)
theorem dX10_book_34 : decode cX10_book 34 = .ok (.invokevirtual 102, 3) := dk_182 0 102 (dk_at dksX10_book_1 10 rfl rfl)
theorem dX10_book_37 : decode cX10_book 37 = .ok (.goto (-24), 3) := dk_167 255 232 (dk_at dksX10_book_1 13 rfl rfl)
theorem dX10_book_40 : decode cX10_book 40 = .ok (.aload_n 0, 1) := dk_42 (dk_at dksX10_book_1 16 rfl rfl)
theorem dX10_book_41 : decode cX10_book 41 = .ok (.invokevirtual 106, 3) := dk_182 0 106 (dk_at dksX10_book_1 17 rfl rfl)
theorem dX10_book_44 : decode cX10_book 44 = .ok (.aload_n 1, 1) := dk_43 (dk_at dksX10_book_1 20 rfl rfl)
theorem dX10_book_45 : decode cX10_book 45 = .ok (.invokevirtual 109, 3) := dk_182 0 109 (dk_at dksX10_book_1 21 rfl rfl)
theorem dX10_book_48 : decode cX10_book 48 = .ok (.ifCond .ne 15, 3) := dk_154 0 15 (dk_at dksX10_book_2 0 rfl rfl)
theorem dX10_book_51 : decode cX10_book 51 = .ok (.new 26, 3) := dk_187 0 26 (dk_at dksX10_book_2 3 rfl rfl)
theorem dX10_book_54 : decode cX10_book 54 = .ok (.dup, 1) := dk_89 (dk_at dksX10_book_2 6 rfl rfl)
theorem dX10_book_55 : decode cX10_book 55 = .ok (.aload_n 0, 1) := dk_42 (dk_at dksX10_book_2 7 rfl rfl)
theorem dX10_book_56 : decode cX10_book 56 = .ok (.getfield 15, 3) := dk_180 0 15 (dk_at dksX10_book_2 8 rfl rfl)
theorem dX10_book_59 : decode cX10_book 59 = .ok (.invokespecial 28, 3) := dk_183 0 28 (dk_at dksX10_book_2 11 rfl rfl)
theorem dX10_book_62 : decode cX10_book 62 = .ok (.athrow, 1) := dk_191 (dk_at dksX10_book_2 14 rfl rfl)
theorem dX10_book_63 : decode cX10_book 63 = .ok (.aload_n 1, 1) := dk_43 (dk_at dksX10_book_2 15 rfl rfl)
theorem dX10_book_64 : decode cX10_book 64 = .ok (.areturn, 1) := dk_176 (dk_at dksX10_book_2 16 rfl rfl)
abbrev cX10_clause : ByteArray := prog_10_method_8_code
def yX10_clause : MethodName := ⟨RX10, "clause", "(LSafeBuckets$Book;)V"⟩
def dkwX10_clause_7 : List UInt8 := [42, 45, 182, 0, 98, 177]
abbrev dktX10_clause_7 : List UInt8 := dkwX10_clause_7 ++ []
def dkwX10_clause_6 : List UInt8 := [183, 0, 97, 83, 43, 180, 0, 91, 43, 180, 0, 78, 50, 78, 43, 89, 180, 0, 78, 4, 96, 181, 0, 78]
abbrev dktX10_clause_6 : List UInt8 := dkwX10_clause_6 ++ dktX10_clause_7
def dkwX10_clause_5 : List UInt8 := [180, 0, 75, 4, 96, 181, 0, 75, 167, 0, 39, 43, 180, 0, 91, 43, 180, 0, 78, 187, 0, 95, 89]
abbrev dktX10_clause_5 : List UInt8 := dkwX10_clause_5 ++ dktX10_clause_6
def dkwX10_clause_4 : List UInt8 := [43, 180, 0, 75, 187, 0, 88, 89, 183, 0, 90, 83, 43, 180, 0, 84, 43, 180, 0, 75, 50, 78, 43, 89]
abbrev dktX10_clause_4 : List UInt8 := dkwX10_clause_4 ++ dktX10_clause_5
def dkwX10_clause_3 : List UInt8 := [183, 0, 83, 181, 0, 69, 43, 180, 0, 69, 78, 167, 0, 84, 28, 16, 116, 160, 0, 42, 43, 180, 0, 84]
abbrev dktX10_clause_3 : List UInt8 := dkwX10_clause_3 ++ dktX10_clause_4
def dkwX10_clause_2 : List UInt8 := [162, 0, 7, 4, 167, 0, 4, 3, 182, 0, 39, 61, 28, 16, 115, 160, 0, 22, 43, 187, 0, 81, 89]
abbrev dktX10_clause_2 : List UInt8 := dkwX10_clause_2 ++ dktX10_clause_3
def dkwX10_clause_1 : List UInt8 := [160, 0, 11, 43, 180, 0, 75, 6, 161, 0, 18, 28, 16, 114, 160, 0, 16, 43, 180, 0, 78, 16, 20]
abbrev dktX10_clause_1 : List UInt8 := dkwX10_clause_1 ++ dktX10_clause_2
def dkwX10_clause_0 : List UInt8 := [42, 182, 0, 31, 61, 42, 28, 16, 115, 160, 0, 10, 43, 180, 0, 69, 198, 0, 32, 28, 16, 116]
abbrev dktX10_clause_0 : List UInt8 := dkwX10_clause_0 ++ dktX10_clause_1
theorem dksX10_clause_0 : cX10_clause.data.toList.drop 0 = dktX10_clause_0 := by decide +kernel
theorem dksX10_clause_1 : cX10_clause.data.toList.drop 22 = dktX10_clause_1 := dk_seg dksX10_clause_0 22 rfl rfl
theorem dksX10_clause_2 : cX10_clause.data.toList.drop 45 = dktX10_clause_2 := dk_seg dksX10_clause_1 23 rfl rfl
theorem dksX10_clause_3 : cX10_clause.data.toList.drop 68 = dktX10_clause_3 := dk_seg dksX10_clause_2 23 rfl rfl
theorem dksX10_clause_4 : cX10_clause.data.toList.drop 92 = dktX10_clause_4 := dk_seg dksX10_clause_3 24 rfl rfl
theorem dksX10_clause_5 : cX10_clause.data.toList.drop 116 = dktX10_clause_5 := dk_seg dksX10_clause_4 24 rfl rfl
theorem dksX10_clause_6 : cX10_clause.data.toList.drop 139 = dktX10_clause_6 := dk_seg dksX10_clause_5 23 rfl rfl
theorem dksX10_clause_7 : cX10_clause.data.toList.drop 163 = dktX10_clause_7 := dk_seg dksX10_clause_6 24 rfl rfl
theorem dX10_clause_0 : decode cX10_clause 0 = .ok (.aload_n 0, 1) := dk_42 (dk_at dksX10_clause_0 0 rfl rfl)
theorem dX10_clause_1 : decode cX10_clause 1 = .ok (.invokevirtual 31, 3) := dk_182 0 31 (dk_at dksX10_clause_0 1 rfl rfl)
theorem dX10_clause_4 : decode cX10_clause 4 = .ok (.istore_n 2, 1) := dk_61 (dk_at dksX10_clause_0 4 rfl rfl)
theorem dX10_clause_5 : decode cX10_clause 5 = .ok (.aload_n 0, 1) := dk_42 (dk_at dksX10_clause_0 5 rfl rfl)
theorem dX10_clause_6 : decode cX10_clause 6 = .ok (.iload_n 2, 1) := dk_28 (dk_at dksX10_clause_0 6 rfl rfl)
theorem dX10_clause_7 : decode cX10_clause 7 = .ok (.bipush 115, 2) := dk_16 115 (dk_at dksX10_clause_0 7 rfl rfl)
theorem dX10_clause_9 : decode cX10_clause 9 = .ok (.if_icmp .ne 10, 3) := dk_160 0 10 (dk_at dksX10_clause_0 9 rfl rfl)
theorem dX10_clause_12 : decode cX10_clause 12 = .ok (.aload_n 1, 1) := dk_43 (dk_at dksX10_clause_0 12 rfl rfl)
theorem dX10_clause_13 : decode cX10_clause 13 = .ok (.getfield 69, 3) := dk_180 0 69 (dk_at dksX10_clause_0 13 rfl rfl)
theorem dX10_clause_16 : decode cX10_clause 16 = .ok (.ifnull 32, 3) := dk_198 0 32 (dk_at dksX10_clause_0 16 rfl rfl)
theorem dX10_clause_19 : decode cX10_clause 19 = .ok (.iload_n 2, 1) := dk_28 (dk_at dksX10_clause_0 19 rfl rfl)
theorem dX10_clause_20 : decode cX10_clause 20 = .ok (.bipush 116, 2) := dk_16 116 (dk_at dksX10_clause_0 20 rfl rfl)
theorem dX10_clause_22 : decode cX10_clause 22 = .ok (.if_icmp .ne 11, 3) := dk_160 0 11 (dk_at dksX10_clause_1 0 rfl rfl)
theorem dX10_clause_25 : decode cX10_clause 25 = .ok (.aload_n 1, 1) := dk_43 (dk_at dksX10_clause_1 3 rfl rfl)
theorem dX10_clause_26 : decode cX10_clause 26 = .ok (.getfield 75, 3) := dk_180 0 75 (dk_at dksX10_clause_1 4 rfl rfl)
theorem dX10_clause_29 : decode cX10_clause 29 = .ok (.iconst 3, 1) := dk_6 (dk_at dksX10_clause_1 7 rfl rfl)
theorem dX10_clause_30 : decode cX10_clause 30 = .ok (.if_icmp .lt 18, 3) := dk_161 0 18 (dk_at dksX10_clause_1 8 rfl rfl)
theorem dX10_clause_33 : decode cX10_clause 33 = .ok (.iload_n 2, 1) := dk_28 (dk_at dksX10_clause_1 11 rfl rfl)
theorem dX10_clause_34 : decode cX10_clause 34 = .ok (.bipush 114, 2) := dk_16 114 (dk_at dksX10_clause_1 12 rfl rfl)
theorem dX10_clause_36 : decode cX10_clause 36 = .ok (.if_icmp .ne 16, 3) := dk_160 0 16 (dk_at dksX10_clause_1 14 rfl rfl)
theorem dX10_clause_39 : decode cX10_clause 39 = .ok (.aload_n 1, 1) := dk_43 (dk_at dksX10_clause_1 17 rfl rfl)
theorem dX10_clause_40 : decode cX10_clause 40 = .ok (.getfield 78, 3) := dk_180 0 78 (dk_at dksX10_clause_1 18 rfl rfl)
theorem dX10_clause_43 : decode cX10_clause 43 = .ok (.bipush 20, 2) := dk_16 20 (dk_at dksX10_clause_1 21 rfl rfl)
theorem dX10_clause_45 : decode cX10_clause 45 = .ok (.if_icmp .ge 7, 3) := dk_162 0 7 (dk_at dksX10_clause_2 0 rfl rfl)
theorem dX10_clause_48 : decode cX10_clause 48 = .ok (.iconst 1, 1) := dk_4 (dk_at dksX10_clause_2 3 rfl rfl)
theorem dX10_clause_49 : decode cX10_clause 49 = .ok (.goto 4, 3) := dk_167 0 4 (dk_at dksX10_clause_2 4 rfl rfl)
theorem dX10_clause_52 : decode cX10_clause 52 = .ok (.iconst 0, 1) := dk_3 (dk_at dksX10_clause_2 7 rfl rfl)
theorem dX10_clause_53 : decode cX10_clause 53 = .ok (.invokevirtual 39, 3) := dk_182 0 39 (dk_at dksX10_clause_2 8 rfl rfl)
theorem dX10_clause_56 : decode cX10_clause 56 = .ok (.istore_n 2, 1) := dk_61 (dk_at dksX10_clause_2 11 rfl rfl)
theorem dX10_clause_57 : decode cX10_clause 57 = .ok (.iload_n 2, 1) := dk_28 (dk_at dksX10_clause_2 12 rfl rfl)
theorem dX10_clause_58 : decode cX10_clause 58 = .ok (.bipush 115, 2) := dk_16 115 (dk_at dksX10_clause_2 13 rfl rfl)
theorem dX10_clause_60 : decode cX10_clause 60 = .ok (.if_icmp .ne 22, 3) := dk_160 0 22 (dk_at dksX10_clause_2 15 rfl rfl)
theorem dX10_clause_63 : decode cX10_clause 63 = .ok (.aload_n 1, 1) := dk_43 (dk_at dksX10_clause_2 18 rfl rfl)
theorem dX10_clause_64 : decode cX10_clause 64 = .ok (.new 81, 3) := dk_187 0 81 (dk_at dksX10_clause_2 19 rfl rfl)
theorem dX10_clause_67 : decode cX10_clause 67 = .ok (.dup, 1) := dk_89 (dk_at dksX10_clause_2 22 rfl rfl)
theorem dX10_clause_68 : decode cX10_clause 68 = .ok (.invokespecial 83, 3) := dk_183 0 83 (dk_at dksX10_clause_3 0 rfl rfl)
theorem dX10_clause_71 : decode cX10_clause 71 = .ok (.putfield 69, 3) := dk_181 0 69 (dk_at dksX10_clause_3 3 rfl rfl)
theorem dX10_clause_74 : decode cX10_clause 74 = .ok (.aload_n 1, 1) := dk_43 (dk_at dksX10_clause_3 6 rfl rfl)
theorem dX10_clause_75 : decode cX10_clause 75 = .ok (.getfield 69, 3) := dk_180 0 69 (dk_at dksX10_clause_3 7 rfl rfl)
theorem dX10_clause_78 : decode cX10_clause 78 = .ok (.astore_n 3, 1) := dk_78 (dk_at dksX10_clause_3 10 rfl rfl)
theorem dX10_clause_79 : decode cX10_clause 79 = .ok (.goto 84, 3) := dk_167 0 84 (dk_at dksX10_clause_3 11 rfl rfl)
theorem dX10_clause_82 : decode cX10_clause 82 = .ok (.iload_n 2, 1) := dk_28 (dk_at dksX10_clause_3 14 rfl rfl)
theorem dX10_clause_83 : decode cX10_clause 83 = .ok (.bipush 116, 2) := dk_16 116 (dk_at dksX10_clause_3 15 rfl rfl)
theorem dX10_clause_85 : decode cX10_clause 85 = .ok (.if_icmp .ne 42, 3) := dk_160 0 42 (dk_at dksX10_clause_3 17 rfl rfl)
theorem dX10_clause_88 : decode cX10_clause 88 = .ok (.aload_n 1, 1) := dk_43 (dk_at dksX10_clause_3 20 rfl rfl)
theorem dX10_clause_89 : decode cX10_clause 89 = .ok (.getfield 84, 3) := dk_180 0 84 (dk_at dksX10_clause_3 21 rfl rfl)
theorem dX10_clause_92 : decode cX10_clause 92 = .ok (.aload_n 1, 1) := dk_43 (dk_at dksX10_clause_4 0 rfl rfl)
theorem dX10_clause_93 : decode cX10_clause 93 = .ok (.getfield 75, 3) := dk_180 0 75 (dk_at dksX10_clause_4 1 rfl rfl)
theorem dX10_clause_96 : decode cX10_clause 96 = .ok (.new 88, 3) := dk_187 0 88 (dk_at dksX10_clause_4 4 rfl rfl)
theorem dX10_clause_99 : decode cX10_clause 99 = .ok (.dup, 1) := dk_89 (dk_at dksX10_clause_4 7 rfl rfl)
theorem dX10_clause_100 : decode cX10_clause 100 = .ok (.invokespecial 90, 3) := dk_183 0 90 (dk_at dksX10_clause_4 8 rfl rfl)
theorem dX10_clause_103 : decode cX10_clause 103 = .ok (.aastore, 1) := dk_83 (dk_at dksX10_clause_4 11 rfl rfl)
theorem dX10_clause_104 : decode cX10_clause 104 = .ok (.aload_n 1, 1) := dk_43 (dk_at dksX10_clause_4 12 rfl rfl)
theorem dX10_clause_105 : decode cX10_clause 105 = .ok (.getfield 84, 3) := dk_180 0 84 (dk_at dksX10_clause_4 13 rfl rfl)
theorem dX10_clause_108 : decode cX10_clause 108 = .ok (.aload_n 1, 1) := dk_43 (dk_at dksX10_clause_4 16 rfl rfl)
theorem dX10_clause_109 : decode cX10_clause 109 = .ok (.getfield 75, 3) := dk_180 0 75 (dk_at dksX10_clause_4 17 rfl rfl)
theorem dX10_clause_112 : decode cX10_clause 112 = .ok (.aaload, 1) := dk_50 (dk_at dksX10_clause_4 20 rfl rfl)
theorem dX10_clause_113 : decode cX10_clause 113 = .ok (.astore_n 3, 1) := dk_78 (dk_at dksX10_clause_4 21 rfl rfl)
theorem dX10_clause_114 : decode cX10_clause 114 = .ok (.aload_n 1, 1) := dk_43 (dk_at dksX10_clause_4 22 rfl rfl)
theorem dX10_clause_115 : decode cX10_clause 115 = .ok (.dup, 1) := dk_89 (dk_at dksX10_clause_4 23 rfl rfl)
theorem dX10_clause_116 : decode cX10_clause 116 = .ok (.getfield 75, 3) := dk_180 0 75 (dk_at dksX10_clause_5 0 rfl rfl)
theorem dX10_clause_119 : decode cX10_clause 119 = .ok (.iconst 1, 1) := dk_4 (dk_at dksX10_clause_5 3 rfl rfl)
theorem dX10_clause_120 : decode cX10_clause 120 = .ok (.iadd, 1) := dk_96 (dk_at dksX10_clause_5 4 rfl rfl)
theorem dX10_clause_121 : decode cX10_clause 121 = .ok (.putfield 75, 3) := dk_181 0 75 (dk_at dksX10_clause_5 5 rfl rfl)
theorem dX10_clause_124 : decode cX10_clause 124 = .ok (.goto 39, 3) := dk_167 0 39 (dk_at dksX10_clause_5 8 rfl rfl)
theorem dX10_clause_127 : decode cX10_clause 127 = .ok (.aload_n 1, 1) := dk_43 (dk_at dksX10_clause_5 11 rfl rfl)
theorem dX10_clause_128 : decode cX10_clause 128 = .ok (.getfield 91, 3) := dk_180 0 91 (dk_at dksX10_clause_5 12 rfl rfl)
theorem dX10_clause_131 : decode cX10_clause 131 = .ok (.aload_n 1, 1) := dk_43 (dk_at dksX10_clause_5 15 rfl rfl)
theorem dX10_clause_132 : decode cX10_clause 132 = .ok (.getfield 78, 3) := dk_180 0 78 (dk_at dksX10_clause_5 16 rfl rfl)
theorem dX10_clause_135 : decode cX10_clause 135 = .ok (.new 95, 3) := dk_187 0 95 (dk_at dksX10_clause_5 19 rfl rfl)
theorem dX10_clause_138 : decode cX10_clause 138 = .ok (.dup, 1) := dk_89 (dk_at dksX10_clause_5 22 rfl rfl)
theorem dX10_clause_139 : decode cX10_clause 139 = .ok (.invokespecial 97, 3) := dk_183 0 97 (dk_at dksX10_clause_6 0 rfl rfl)
theorem dX10_clause_142 : decode cX10_clause 142 = .ok (.aastore, 1) := dk_83 (dk_at dksX10_clause_6 3 rfl rfl)
theorem dX10_clause_143 : decode cX10_clause 143 = .ok (.aload_n 1, 1) := dk_43 (dk_at dksX10_clause_6 4 rfl rfl)
theorem dX10_clause_144 : decode cX10_clause 144 = .ok (.getfield 91, 3) := dk_180 0 91 (dk_at dksX10_clause_6 5 rfl rfl)
theorem dX10_clause_147 : decode cX10_clause 147 = .ok (.aload_n 1, 1) := dk_43 (dk_at dksX10_clause_6 8 rfl rfl)
theorem dX10_clause_148 : decode cX10_clause 148 = .ok (.getfield 78, 3) := dk_180 0 78 (dk_at dksX10_clause_6 9 rfl rfl)
theorem dX10_clause_151 : decode cX10_clause 151 = .ok (.aaload, 1) := dk_50 (dk_at dksX10_clause_6 12 rfl rfl)
theorem dX10_clause_152 : decode cX10_clause 152 = .ok (.astore_n 3, 1) := dk_78 (dk_at dksX10_clause_6 13 rfl rfl)
theorem dX10_clause_153 : decode cX10_clause 153 = .ok (.aload_n 1, 1) := dk_43 (dk_at dksX10_clause_6 14 rfl rfl)
theorem dX10_clause_154 : decode cX10_clause 154 = .ok (.dup, 1) := dk_89 (dk_at dksX10_clause_6 15 rfl rfl)
theorem dX10_clause_155 : decode cX10_clause 155 = .ok (.getfield 78, 3) := dk_180 0 78 (dk_at dksX10_clause_6 16 rfl rfl)
theorem dX10_clause_158 : decode cX10_clause 158 = .ok (.iconst 1, 1) := dk_4 (dk_at dksX10_clause_6 19 rfl rfl)
theorem dX10_clause_159 : decode cX10_clause 159 = .ok (.iadd, 1) := dk_96 (dk_at dksX10_clause_6 20 rfl rfl)
theorem dX10_clause_160 : decode cX10_clause 160 = .ok (.putfield 78, 3) := dk_181 0 78 (dk_at dksX10_clause_6 21 rfl rfl)
theorem dX10_clause_163 : decode cX10_clause 163 = .ok (.aload_n 0, 1) := dk_42 (dk_at dksX10_clause_7 0 rfl rfl)
theorem dX10_clause_164 : decode cX10_clause 164 = .ok (.aload_n 3, 1) := dk_45 (dk_at dksX10_clause_7 1 rfl rfl)
theorem dX10_clause_165 : decode cX10_clause 165 = .ok (.invokevirtual 98, 3) := dk_182 0 98 (dk_at dksX10_clause_7 2 rfl rfl)
theorem dX10_clause_168 : decode cX10_clause 168 = .ok (.return_, 1) := dk_177 (dk_at dksX10_clause_7 5 rfl rfl)
abbrev cX10_peek : ByteArray := prog_10_method_2_code
def yX10_peek : MethodName := ⟨RX10, "peek", "()I"⟩
def dkwX10_peek_3 : List UInt8 := [51, 17, 0, 255, 126, 167, 0, 4, 2, 172]
abbrev dktX10_peek_3 : List UInt8 := dkwX10_peek_3 ++ []
def dkwX10_peek_2 : List UInt8 := [180, 0, 15, 42, 180, 0, 3, 180, 0, 19, 162, 0, 22, 42, 180, 0, 3, 180, 0, 22, 42, 180, 0, 15]
abbrev dktX10_peek_2 : List UInt8 := dkwX10_peek_2 ++ dktX10_peek_3
def dkwX10_peek_1 : List UInt8 := [180, 0, 15, 51, 16, 32, 160, 0, 16, 42, 89, 180, 0, 15, 4, 96, 181, 0, 15, 167, 255, 215, 42]
abbrev dktX10_peek_1 : List UInt8 := dkwX10_peek_1 ++ dktX10_peek_2
def dkwX10_peek_0 : List UInt8 := [42, 180, 0, 15, 42, 180, 0, 3, 180, 0, 19, 162, 0, 33, 42, 180, 0, 3, 180, 0, 22, 42]
abbrev dktX10_peek_0 : List UInt8 := dkwX10_peek_0 ++ dktX10_peek_1
theorem dksX10_peek_0 : cX10_peek.data.toList.drop 0 = dktX10_peek_0 := by decide +kernel
theorem dksX10_peek_1 : cX10_peek.data.toList.drop 22 = dktX10_peek_1 := dk_seg dksX10_peek_0 22 rfl rfl
theorem dksX10_peek_2 : cX10_peek.data.toList.drop 45 = dktX10_peek_2 := dk_seg dksX10_peek_1 23 rfl rfl
theorem dksX10_peek_3 : cX10_peek.data.toList.drop 69 = dktX10_peek_3 := dk_seg dksX10_peek_2 24 rfl rfl
theorem dX10_peek_0 : decode cX10_peek 0 = .ok (.aload_n 0, 1) := dk_42 (dk_at dksX10_peek_0 0 rfl rfl)
theorem dX10_peek_1 : decode cX10_peek 1 = .ok (.getfield 15, 3) := dk_180 0 15 (dk_at dksX10_peek_0 1 rfl rfl)
theorem dX10_peek_4 : decode cX10_peek 4 = .ok (.aload_n 0, 1) := dk_42 (dk_at dksX10_peek_0 4 rfl rfl)
theorem dX10_peek_5 : decode cX10_peek 5 = .ok (.getfield 3, 3) := dk_180 0 3 (dk_at dksX10_peek_0 5 rfl rfl)
theorem dX10_peek_8 : decode cX10_peek 8 = .ok (.getfield 19, 3) := dk_180 0 19 (dk_at dksX10_peek_0 8 rfl rfl)
theorem dX10_peek_11 : decode cX10_peek 11 = .ok (.if_icmp .ge 33, 3) := dk_162 0 33 (dk_at dksX10_peek_0 11 rfl rfl)
theorem dX10_peek_14 : decode cX10_peek 14 = .ok (.aload_n 0, 1) := dk_42 (dk_at dksX10_peek_0 14 rfl rfl)
theorem dX10_peek_15 : decode cX10_peek 15 = .ok (.getfield 3, 3) := dk_180 0 3 (dk_at dksX10_peek_0 15 rfl rfl)
theorem dX10_peek_18 : decode cX10_peek 18 = .ok (.getfield 22, 3) := dk_180 0 22 (dk_at dksX10_peek_0 18 rfl rfl)
theorem dX10_peek_21 : decode cX10_peek 21 = .ok (.aload_n 0, 1) := dk_42 (dk_at dksX10_peek_0 21 rfl rfl)
theorem dX10_peek_22 : decode cX10_peek 22 = .ok (.getfield 15, 3) := dk_180 0 15 (dk_at dksX10_peek_1 0 rfl rfl)
theorem dX10_peek_25 : decode cX10_peek 25 = .ok (.baload, 1) := dk_51 (dk_at dksX10_peek_1 3 rfl rfl)
theorem dX10_peek_26 : decode cX10_peek 26 = .ok (.bipush 32, 2) := dk_16 32 (dk_at dksX10_peek_1 4 rfl rfl)
theorem dX10_peek_28 : decode cX10_peek 28 = .ok (.if_icmp .ne 16, 3) := dk_160 0 16 (dk_at dksX10_peek_1 6 rfl rfl)
theorem dX10_peek_31 : decode cX10_peek 31 = .ok (.aload_n 0, 1) := dk_42 (dk_at dksX10_peek_1 9 rfl rfl)
theorem dX10_peek_32 : decode cX10_peek 32 = .ok (.dup, 1) := dk_89 (dk_at dksX10_peek_1 10 rfl rfl)
theorem dX10_peek_33 : decode cX10_peek 33 = .ok (.getfield 15, 3) := dk_180 0 15 (dk_at dksX10_peek_1 11 rfl rfl)
theorem dX10_peek_36 : decode cX10_peek 36 = .ok (.iconst 1, 1) := dk_4 (dk_at dksX10_peek_1 14 rfl rfl)
theorem dX10_peek_37 : decode cX10_peek 37 = .ok (.iadd, 1) := dk_96 (dk_at dksX10_peek_1 15 rfl rfl)
theorem dX10_peek_38 : decode cX10_peek 38 = .ok (.putfield 15, 3) := dk_181 0 15 (dk_at dksX10_peek_1 16 rfl rfl)
theorem dX10_peek_41 : decode cX10_peek 41 = .ok (.goto (-41), 3) := dk_167 255 215 (dk_at dksX10_peek_1 19 rfl rfl)
theorem dX10_peek_44 : decode cX10_peek 44 = .ok (.aload_n 0, 1) := dk_42 (dk_at dksX10_peek_1 22 rfl rfl)
theorem dX10_peek_45 : decode cX10_peek 45 = .ok (.getfield 15, 3) := dk_180 0 15 (dk_at dksX10_peek_2 0 rfl rfl)
theorem dX10_peek_48 : decode cX10_peek 48 = .ok (.aload_n 0, 1) := dk_42 (dk_at dksX10_peek_2 3 rfl rfl)
theorem dX10_peek_49 : decode cX10_peek 49 = .ok (.getfield 3, 3) := dk_180 0 3 (dk_at dksX10_peek_2 4 rfl rfl)
theorem dX10_peek_52 : decode cX10_peek 52 = .ok (.getfield 19, 3) := dk_180 0 19 (dk_at dksX10_peek_2 7 rfl rfl)
theorem dX10_peek_55 : decode cX10_peek 55 = .ok (.if_icmp .ge 22, 3) := dk_162 0 22 (dk_at dksX10_peek_2 10 rfl rfl)
theorem dX10_peek_58 : decode cX10_peek 58 = .ok (.aload_n 0, 1) := dk_42 (dk_at dksX10_peek_2 13 rfl rfl)
theorem dX10_peek_59 : decode cX10_peek 59 = .ok (.getfield 3, 3) := dk_180 0 3 (dk_at dksX10_peek_2 14 rfl rfl)
theorem dX10_peek_62 : decode cX10_peek 62 = .ok (.getfield 22, 3) := dk_180 0 22 (dk_at dksX10_peek_2 17 rfl rfl)
theorem dX10_peek_65 : decode cX10_peek 65 = .ok (.aload_n 0, 1) := dk_42 (dk_at dksX10_peek_2 20 rfl rfl)
theorem dX10_peek_66 : decode cX10_peek 66 = .ok (.getfield 15, 3) := dk_180 0 15 (dk_at dksX10_peek_2 21 rfl rfl)
theorem dX10_peek_69 : decode cX10_peek 69 = .ok (.baload, 1) := dk_51 (dk_at dksX10_peek_3 0 rfl rfl)
theorem dX10_peek_70 : decode cX10_peek 70 = .ok (.sipush 255, 3) := dk_17 0 255 (dk_at dksX10_peek_3 1 rfl rfl)
theorem dX10_peek_73 : decode cX10_peek 73 = .ok (.iand, 1) := dk_126 (dk_at dksX10_peek_3 4 rfl rfl)
theorem dX10_peek_74 : decode cX10_peek 74 = .ok (.goto 4, 3) := dk_167 0 4 (dk_at dksX10_peek_3 5 rfl rfl)
theorem dX10_peek_77 : decode cX10_peek 77 = .ok (.iconst (-1), 1) := dk_2 (dk_at dksX10_peek_3 8 rfl rfl)
theorem dX10_peek_78 : decode cX10_peek 78 = .ok (.ireturn, 1) := dk_172 (dk_at dksX10_peek_3 9 rfl rfl)
abbrev cX10_take : ByteArray := prog_10_method_3_code
def yX10_take : MethodName := ⟨RX10, "take", "(Z)I"⟩
def dkwX10_take_2 : List UInt8 := [42, 180, 0, 15, 4, 100, 51, 172]
abbrev dktX10_take_2 : List UInt8 := dkwX10_take_2 ++ []
def dkwX10_take_1 : List UInt8 := [180, 0, 15, 183, 0, 28, 191, 42, 89, 180, 0, 15, 4, 96, 181, 0, 15, 42, 180, 0, 3, 180, 0, 22]
abbrev dktX10_take_1 : List UInt8 := dkwX10_take_1 ++ dktX10_take_2
def dkwX10_take_0 : List UInt8 := [27, 153, 0, 17, 42, 180, 0, 15, 42, 180, 0, 3, 180, 0, 19, 161, 0, 15, 187, 0, 26, 89, 42]
abbrev dktX10_take_0 : List UInt8 := dkwX10_take_0 ++ dktX10_take_1
theorem dksX10_take_0 : cX10_take.data.toList.drop 0 = dktX10_take_0 := by decide +kernel
theorem dksX10_take_1 : cX10_take.data.toList.drop 23 = dktX10_take_1 := dk_seg dksX10_take_0 23 rfl rfl
theorem dksX10_take_2 : cX10_take.data.toList.drop 47 = dktX10_take_2 := dk_seg dksX10_take_1 24 rfl rfl
theorem dX10_take_0 : decode cX10_take 0 = .ok (.iload_n 1, 1) := dk_27 (dk_at dksX10_take_0 0 rfl rfl)
theorem dX10_take_1 : decode cX10_take 1 = .ok (.ifCond .eq 17, 3) := dk_153 0 17 (dk_at dksX10_take_0 1 rfl rfl)
theorem dX10_take_4 : decode cX10_take 4 = .ok (.aload_n 0, 1) := dk_42 (dk_at dksX10_take_0 4 rfl rfl)
theorem dX10_take_5 : decode cX10_take 5 = .ok (.getfield 15, 3) := dk_180 0 15 (dk_at dksX10_take_0 5 rfl rfl)
theorem dX10_take_8 : decode cX10_take 8 = .ok (.aload_n 0, 1) := dk_42 (dk_at dksX10_take_0 8 rfl rfl)
theorem dX10_take_9 : decode cX10_take 9 = .ok (.getfield 3, 3) := dk_180 0 3 (dk_at dksX10_take_0 9 rfl rfl)
theorem dX10_take_12 : decode cX10_take 12 = .ok (.getfield 19, 3) := dk_180 0 19 (dk_at dksX10_take_0 12 rfl rfl)
theorem dX10_take_15 : decode cX10_take 15 = .ok (.if_icmp .lt 15, 3) := dk_161 0 15 (dk_at dksX10_take_0 15 rfl rfl)
theorem dX10_take_18 : decode cX10_take 18 = .ok (.new 26, 3) := dk_187 0 26 (dk_at dksX10_take_0 18 rfl rfl)
theorem dX10_take_21 : decode cX10_take 21 = .ok (.dup, 1) := dk_89 (dk_at dksX10_take_0 21 rfl rfl)
theorem dX10_take_22 : decode cX10_take 22 = .ok (.aload_n 0, 1) := dk_42 (dk_at dksX10_take_0 22 rfl rfl)
theorem dX10_take_23 : decode cX10_take 23 = .ok (.getfield 15, 3) := dk_180 0 15 (dk_at dksX10_take_1 0 rfl rfl)
theorem dX10_take_26 : decode cX10_take 26 = .ok (.invokespecial 28, 3) := dk_183 0 28 (dk_at dksX10_take_1 3 rfl rfl)
theorem dX10_take_29 : decode cX10_take 29 = .ok (.athrow, 1) := dk_191 (dk_at dksX10_take_1 6 rfl rfl)
theorem dX10_take_30 : decode cX10_take 30 = .ok (.aload_n 0, 1) := dk_42 (dk_at dksX10_take_1 7 rfl rfl)
theorem dX10_take_31 : decode cX10_take 31 = .ok (.dup, 1) := dk_89 (dk_at dksX10_take_1 8 rfl rfl)
theorem dX10_take_32 : decode cX10_take 32 = .ok (.getfield 15, 3) := dk_180 0 15 (dk_at dksX10_take_1 9 rfl rfl)
theorem dX10_take_35 : decode cX10_take 35 = .ok (.iconst 1, 1) := dk_4 (dk_at dksX10_take_1 12 rfl rfl)
theorem dX10_take_36 : decode cX10_take 36 = .ok (.iadd, 1) := dk_96 (dk_at dksX10_take_1 13 rfl rfl)
theorem dX10_take_37 : decode cX10_take 37 = .ok (.putfield 15, 3) := dk_181 0 15 (dk_at dksX10_take_1 14 rfl rfl)
theorem dX10_take_40 : decode cX10_take 40 = .ok (.aload_n 0, 1) := dk_42 (dk_at dksX10_take_1 17 rfl rfl)
theorem dX10_take_41 : decode cX10_take 41 = .ok (.getfield 3, 3) := dk_180 0 3 (dk_at dksX10_take_1 18 rfl rfl)
theorem dX10_take_44 : decode cX10_take 44 = .ok (.getfield 22, 3) := dk_180 0 22 (dk_at dksX10_take_1 21 rfl rfl)
theorem dX10_take_47 : decode cX10_take 47 = .ok (.aload_n 0, 1) := dk_42 (dk_at dksX10_take_2 0 rfl rfl)
theorem dX10_take_48 : decode cX10_take 48 = .ok (.getfield 15, 3) := dk_180 0 15 (dk_at dksX10_take_2 1 rfl rfl)
theorem dX10_take_51 : decode cX10_take 51 = .ok (.iconst 1, 1) := dk_4 (dk_at dksX10_take_2 4 rfl rfl)
theorem dX10_take_52 : decode cX10_take 52 = .ok (.isub, 1) := dk_100 (dk_at dksX10_take_2 5 rfl rfl)
theorem dX10_take_53 : decode cX10_take 53 = .ok (.baload, 1) := dk_51 (dk_at dksX10_take_2 6 rfl rfl)
theorem dX10_take_54 : decode cX10_take 54 = .ok (.ireturn, 1) := dk_172 (dk_at dksX10_take_2 7 rfl rfl)
abbrev cX10_items : ByteArray := prog_10_method_7_code
def yX10_items : MethodName := ⟨RX10, "items", "(LSafeBuckets$Clause;)V"⟩
def dkwX10_items_5 : List UInt8 := [182, 0, 49, 54, 4, 167, 255, 158, 177]
abbrev dktX10_items_5 : List UInt8 := dkwX10_items_5 ++ []
def dkwX10_items_4 : List UInt8 := [100, 183, 0, 28, 191, 42, 182, 0, 31, 62, 29, 2, 160, 0, 7, 2, 167, 0, 11, 43, 182, 0, 43, 29]
abbrev dktX10_items_4 : List UInt8 := dkwX10_items_4 ++ dktX10_items_5
def dkwX10_items_3 : List UInt8 := [21, 4, 43, 180, 0, 59, 21, 4, 46, 182, 0, 66, 154, 0, 17, 187, 0, 26, 89, 42, 180, 0, 15, 4]
abbrev dktX10_items_3 : List UInt8 := dkwX10_items_3 ++ dktX10_items_4
def dkwX10_items_2 : List UInt8 := [182, 0, 39, 62, 28, 4, 21, 4, 120, 128, 61, 43, 180, 0, 59, 21, 4, 42, 6, 182, 0, 63, 79, 43]
abbrev dktX10_items_2 : List UInt8 := dkwX10_items_2 ++ dktX10_items_3
def dkwX10_items_1 : List UInt8 := [54, 4, 21, 4, 2, 159, 0, 98, 42, 28, 21, 4, 184, 0, 55, 154, 0, 7, 4, 167, 0, 4, 3]
abbrev dktX10_items_1 : List UInt8 := dkwX10_items_1 ++ dktX10_items_2
def dkwX10_items_0 : List UInt8 := [3, 61, 42, 182, 0, 31, 62, 29, 2, 160, 0, 7, 2, 167, 0, 11, 43, 182, 0, 43, 29, 182, 0, 49]
abbrev dktX10_items_0 : List UInt8 := dkwX10_items_0 ++ dktX10_items_1
theorem dksX10_items_0 : cX10_items.data.toList.drop 0 = dktX10_items_0 := by decide +kernel
theorem dksX10_items_1 : cX10_items.data.toList.drop 24 = dktX10_items_1 := dk_seg dksX10_items_0 24 rfl rfl
theorem dksX10_items_2 : cX10_items.data.toList.drop 47 = dktX10_items_2 := dk_seg dksX10_items_1 23 rfl rfl
theorem dksX10_items_3 : cX10_items.data.toList.drop 71 = dktX10_items_3 := dk_seg dksX10_items_2 24 rfl rfl
theorem dksX10_items_4 : cX10_items.data.toList.drop 95 = dktX10_items_4 := dk_seg dksX10_items_3 24 rfl rfl
theorem dksX10_items_5 : cX10_items.data.toList.drop 119 = dktX10_items_5 := dk_seg dksX10_items_4 24 rfl rfl
theorem dX10_items_0 : decode cX10_items 0 = .ok (.iconst 0, 1) := dk_3 (dk_at dksX10_items_0 0 rfl rfl)
theorem dX10_items_1 : decode cX10_items 1 = .ok (.istore_n 2, 1) := dk_61 (dk_at dksX10_items_0 1 rfl rfl)
theorem dX10_items_2 : decode cX10_items 2 = .ok (.aload_n 0, 1) := dk_42 (dk_at dksX10_items_0 2 rfl rfl)
theorem dX10_items_3 : decode cX10_items 3 = .ok (.invokevirtual 31, 3) := dk_182 0 31 (dk_at dksX10_items_0 3 rfl rfl)
theorem dX10_items_6 : decode cX10_items 6 = .ok (.istore_n 3, 1) := dk_62 (dk_at dksX10_items_0 6 rfl rfl)
theorem dX10_items_7 : decode cX10_items 7 = .ok (.iload_n 3, 1) := dk_29 (dk_at dksX10_items_0 7 rfl rfl)
theorem dX10_items_8 : decode cX10_items 8 = .ok (.iconst (-1), 1) := dk_2 (dk_at dksX10_items_0 8 rfl rfl)
theorem dX10_items_9 : decode cX10_items 9 = .ok (.if_icmp .ne 7, 3) := dk_160 0 7 (dk_at dksX10_items_0 9 rfl rfl)
theorem dX10_items_12 : decode cX10_items 12 = .ok (.iconst (-1), 1) := dk_2 (dk_at dksX10_items_0 12 rfl rfl)
theorem dX10_items_13 : decode cX10_items 13 = .ok (.goto 11, 3) := dk_167 0 11 (dk_at dksX10_items_0 13 rfl rfl)
theorem dX10_items_16 : decode cX10_items 16 = .ok (.aload_n 1, 1) := dk_43 (dk_at dksX10_items_0 16 rfl rfl)
theorem dX10_items_17 : decode cX10_items 17 = .ok (.invokevirtual 43, 3) := dk_182 0 43 (dk_at dksX10_items_0 17 rfl rfl)
theorem dX10_items_20 : decode cX10_items 20 = .ok (.iload_n 3, 1) := dk_29 (dk_at dksX10_items_0 20 rfl rfl)
theorem dX10_items_21 : decode cX10_items 21 = .ok (.invokevirtual 49, 3) := dk_182 0 49 (dk_at dksX10_items_0 21 rfl rfl)
theorem dX10_items_24 : decode cX10_items 24 = .ok (.istore 4, 2) := dk_54 4 (dk_at dksX10_items_1 0 rfl rfl)
theorem dX10_items_26 : decode cX10_items 26 = .ok (.iload 4, 2) := dk_21 4 (dk_at dksX10_items_1 2 rfl rfl)
theorem dX10_items_28 : decode cX10_items 28 = .ok (.iconst (-1), 1) := dk_2 (dk_at dksX10_items_1 4 rfl rfl)
theorem dX10_items_29 : decode cX10_items 29 = .ok (.if_icmp .eq 98, 3) := dk_159 0 98 (dk_at dksX10_items_1 5 rfl rfl)
theorem dX10_items_32 : decode cX10_items 32 = .ok (.aload_n 0, 1) := dk_42 (dk_at dksX10_items_1 8 rfl rfl)
theorem dX10_items_33 : decode cX10_items 33 = .ok (.iload_n 2, 1) := dk_28 (dk_at dksX10_items_1 9 rfl rfl)
theorem dX10_items_34 : decode cX10_items 34 = .ok (.iload 4, 2) := dk_21 4 (dk_at dksX10_items_1 10 rfl rfl)
theorem dX10_items_36 : decode cX10_items 36 = .ok (.invokestatic 55, 3) := dk_184 0 55 (dk_at dksX10_items_1 12 rfl rfl)
theorem dX10_items_39 : decode cX10_items 39 = .ok (.ifCond .ne 7, 3) := dk_154 0 7 (dk_at dksX10_items_1 15 rfl rfl)
theorem dX10_items_42 : decode cX10_items 42 = .ok (.iconst 1, 1) := dk_4 (dk_at dksX10_items_1 18 rfl rfl)
theorem dX10_items_43 : decode cX10_items 43 = .ok (.goto 4, 3) := dk_167 0 4 (dk_at dksX10_items_1 19 rfl rfl)
theorem dX10_items_46 : decode cX10_items 46 = .ok (.iconst 0, 1) := dk_3 (dk_at dksX10_items_1 22 rfl rfl)
theorem dX10_items_47 : decode cX10_items 47 = .ok (.invokevirtual 39, 3) := dk_182 0 39 (dk_at dksX10_items_2 0 rfl rfl)
theorem dX10_items_50 : decode cX10_items 50 = .ok (.istore_n 3, 1) := dk_62 (dk_at dksX10_items_2 3 rfl rfl)
theorem dX10_items_51 : decode cX10_items 51 = .ok (.iload_n 2, 1) := dk_28 (dk_at dksX10_items_2 4 rfl rfl)
theorem dX10_items_52 : decode cX10_items 52 = .ok (.iconst 1, 1) := dk_4 (dk_at dksX10_items_2 5 rfl rfl)
theorem dX10_items_53 : decode cX10_items 53 = .ok (.iload 4, 2) := dk_21 4 (dk_at dksX10_items_2 6 rfl rfl)
theorem dX10_items_55 : decode cX10_items 55 = .ok (.ishl, 1) := dk_120 (dk_at dksX10_items_2 8 rfl rfl)
theorem dX10_items_56 : decode cX10_items 56 = .ok (.ior, 1) := dk_128 (dk_at dksX10_items_2 9 rfl rfl)
theorem dX10_items_57 : decode cX10_items 57 = .ok (.istore_n 2, 1) := dk_61 (dk_at dksX10_items_2 10 rfl rfl)
theorem dX10_items_58 : decode cX10_items 58 = .ok (.aload_n 1, 1) := dk_43 (dk_at dksX10_items_2 11 rfl rfl)
theorem dX10_items_59 : decode cX10_items 59 = .ok (.getfield 59, 3) := dk_180 0 59 (dk_at dksX10_items_2 12 rfl rfl)
theorem dX10_items_62 : decode cX10_items 62 = .ok (.iload 4, 2) := dk_21 4 (dk_at dksX10_items_2 15 rfl rfl)
theorem dX10_items_64 : decode cX10_items 64 = .ok (.aload_n 0, 1) := dk_42 (dk_at dksX10_items_2 17 rfl rfl)
theorem dX10_items_65 : decode cX10_items 65 = .ok (.iconst 3, 1) := dk_6 (dk_at dksX10_items_2 18 rfl rfl)
theorem dX10_items_66 : decode cX10_items 66 = .ok (.invokevirtual 63, 3) := dk_182 0 63 (dk_at dksX10_items_2 19 rfl rfl)
theorem dX10_items_69 : decode cX10_items 69 = .ok (.iastore, 1) := dk_79 (dk_at dksX10_items_2 22 rfl rfl)
theorem dX10_items_70 : decode cX10_items 70 = .ok (.aload_n 1, 1) := dk_43 (dk_at dksX10_items_2 23 rfl rfl)
theorem dX10_items_71 : decode cX10_items 71 = .ok (.iload 4, 2) := dk_21 4 (dk_at dksX10_items_3 0 rfl rfl)
theorem dX10_items_73 : decode cX10_items 73 = .ok (.aload_n 1, 1) := dk_43 (dk_at dksX10_items_3 2 rfl rfl)
theorem dX10_items_74 : decode cX10_items 74 = .ok (.getfield 59, 3) := dk_180 0 59 (dk_at dksX10_items_3 3 rfl rfl)
theorem dX10_items_77 : decode cX10_items 77 = .ok (.iload 4, 2) := dk_21 4 (dk_at dksX10_items_3 6 rfl rfl)
theorem dX10_items_79 : decode cX10_items 79 = .ok (.iaload, 1) := dk_46 (dk_at dksX10_items_3 8 rfl rfl)
theorem dX10_items_80 : decode cX10_items 80 = .ok (.invokevirtual 66, 3) := dk_182 0 66 (dk_at dksX10_items_3 9 rfl rfl)
theorem dX10_items_83 : decode cX10_items 83 = .ok (.ifCond .ne 17, 3) := dk_154 0 17 (dk_at dksX10_items_3 12 rfl rfl)
theorem dX10_items_86 : decode cX10_items 86 = .ok (.new 26, 3) := dk_187 0 26 (dk_at dksX10_items_3 15 rfl rfl)
theorem dX10_items_89 : decode cX10_items 89 = .ok (.dup, 1) := dk_89 (dk_at dksX10_items_3 18 rfl rfl)
theorem dX10_items_90 : decode cX10_items 90 = .ok (.aload_n 0, 1) := dk_42 (dk_at dksX10_items_3 19 rfl rfl)
theorem dX10_items_91 : decode cX10_items 91 = .ok (.getfield 15, 3) := dk_180 0 15 (dk_at dksX10_items_3 20 rfl rfl)
theorem dX10_items_94 : decode cX10_items 94 = .ok (.iconst 1, 1) := dk_4 (dk_at dksX10_items_3 23 rfl rfl)
theorem dX10_items_95 : decode cX10_items 95 = .ok (.isub, 1) := dk_100 (dk_at dksX10_items_4 0 rfl rfl)
theorem dX10_items_96 : decode cX10_items 96 = .ok (.invokespecial 28, 3) := dk_183 0 28 (dk_at dksX10_items_4 1 rfl rfl)
theorem dX10_items_99 : decode cX10_items 99 = .ok (.athrow, 1) := dk_191 (dk_at dksX10_items_4 4 rfl rfl)
theorem dX10_items_100 : decode cX10_items 100 = .ok (.aload_n 0, 1) := dk_42 (dk_at dksX10_items_4 5 rfl rfl)
theorem dX10_items_101 : decode cX10_items 101 = .ok (.invokevirtual 31, 3) := dk_182 0 31 (dk_at dksX10_items_4 6 rfl rfl)
theorem dX10_items_104 : decode cX10_items 104 = .ok (.istore_n 3, 1) := dk_62 (dk_at dksX10_items_4 9 rfl rfl)
theorem dX10_items_105 : decode cX10_items 105 = .ok (.iload_n 3, 1) := dk_29 (dk_at dksX10_items_4 10 rfl rfl)
theorem dX10_items_106 : decode cX10_items 106 = .ok (.iconst (-1), 1) := dk_2 (dk_at dksX10_items_4 11 rfl rfl)
theorem dX10_items_107 : decode cX10_items 107 = .ok (.if_icmp .ne 7, 3) := dk_160 0 7 (dk_at dksX10_items_4 12 rfl rfl)
theorem dX10_items_110 : decode cX10_items 110 = .ok (.iconst (-1), 1) := dk_2 (dk_at dksX10_items_4 15 rfl rfl)
theorem dX10_items_111 : decode cX10_items 111 = .ok (.goto 11, 3) := dk_167 0 11 (dk_at dksX10_items_4 16 rfl rfl)
theorem dX10_items_114 : decode cX10_items 114 = .ok (.aload_n 1, 1) := dk_43 (dk_at dksX10_items_4 19 rfl rfl)
theorem dX10_items_115 : decode cX10_items 115 = .ok (.invokevirtual 43, 3) := dk_182 0 43 (dk_at dksX10_items_4 20 rfl rfl)
theorem dX10_items_118 : decode cX10_items 118 = .ok (.iload_n 3, 1) := dk_29 (dk_at dksX10_items_4 23 rfl rfl)
theorem dX10_items_119 : decode cX10_items 119 = .ok (.invokevirtual 49, 3) := dk_182 0 49 (dk_at dksX10_items_5 0 rfl rfl)
theorem dX10_items_122 : decode cX10_items 122 = .ok (.istore 4, 2) := dk_54 4 (dk_at dksX10_items_5 3 rfl rfl)
theorem dX10_items_124 : decode cX10_items 124 = .ok (.goto (-98), 3) := dk_167 255 158 (dk_at dksX10_items_5 5 rfl rfl)
theorem dX10_items_127 : decode cX10_items 127 = .ok (.return_, 1) := dk_177 (dk_at dksX10_items_5 8 rfl rfl)
abbrev cX10_number : ByteArray := prog_10_method_6_code
def yX10_number : MethodName := ⟨RX10, "number", "(I)I"⟩
def dkwX10_number_3 : List UInt8 := [191, 29, 172]
abbrev dktX10_number_3 : List UInt8 := dkwX10_number_3 ++ []
def dkwX10_number_2 : List UInt8 := [132, 4, 1, 167, 255, 226, 42, 182, 0, 35, 153, 0, 15, 187, 0, 26, 89, 42, 180, 0, 15, 183, 0, 28]
abbrev dktX10_number_2 : List UInt8 := dkwX10_number_2 ++ dktX10_number_3
def dkwX10_number_1 : List UInt8 := [162, 0, 30, 42, 182, 0, 35, 153, 0, 23, 16, 10, 29, 104, 42, 4, 182, 0, 39, 96, 16, 48, 100, 62]
abbrev dktX10_number_1 : List UInt8 := dkwX10_number_1 ++ dktX10_number_2
def dkwX10_number_0 : List UInt8 := [42, 182, 0, 31, 61, 42, 42, 182, 0, 35, 182, 0, 39, 16, 48, 100, 62, 4, 54, 4, 21, 4, 27]
abbrev dktX10_number_0 : List UInt8 := dkwX10_number_0 ++ dktX10_number_1
theorem dksX10_number_0 : cX10_number.data.toList.drop 0 = dktX10_number_0 := by decide +kernel
theorem dksX10_number_1 : cX10_number.data.toList.drop 23 = dktX10_number_1 := dk_seg dksX10_number_0 23 rfl rfl
theorem dksX10_number_2 : cX10_number.data.toList.drop 47 = dktX10_number_2 := dk_seg dksX10_number_1 24 rfl rfl
theorem dksX10_number_3 : cX10_number.data.toList.drop 71 = dktX10_number_3 := dk_seg dksX10_number_2 24 rfl rfl
theorem dX10_number_0 : decode cX10_number 0 = .ok (.aload_n 0, 1) := dk_42 (dk_at dksX10_number_0 0 rfl rfl)
theorem dX10_number_1 : decode cX10_number 1 = .ok (.invokevirtual 31, 3) := dk_182 0 31 (dk_at dksX10_number_0 1 rfl rfl)
theorem dX10_number_4 : decode cX10_number 4 = .ok (.istore_n 2, 1) := dk_61 (dk_at dksX10_number_0 4 rfl rfl)
theorem dX10_number_5 : decode cX10_number 5 = .ok (.aload_n 0, 1) := dk_42 (dk_at dksX10_number_0 5 rfl rfl)
theorem dX10_number_6 : decode cX10_number 6 = .ok (.aload_n 0, 1) := dk_42 (dk_at dksX10_number_0 6 rfl rfl)
theorem dX10_number_7 : decode cX10_number 7 = .ok (.invokevirtual 35, 3) := dk_182 0 35 (dk_at dksX10_number_0 7 rfl rfl)
theorem dX10_number_10 : decode cX10_number 10 = .ok (.invokevirtual 39, 3) := dk_182 0 39 (dk_at dksX10_number_0 10 rfl rfl)
theorem dX10_number_13 : decode cX10_number 13 = .ok (.bipush 48, 2) := dk_16 48 (dk_at dksX10_number_0 13 rfl rfl)
theorem dX10_number_15 : decode cX10_number 15 = .ok (.isub, 1) := dk_100 (dk_at dksX10_number_0 15 rfl rfl)
theorem dX10_number_16 : decode cX10_number 16 = .ok (.istore_n 3, 1) := dk_62 (dk_at dksX10_number_0 16 rfl rfl)
theorem dX10_number_17 : decode cX10_number 17 = .ok (.iconst 1, 1) := dk_4 (dk_at dksX10_number_0 17 rfl rfl)
theorem dX10_number_18 : decode cX10_number 18 = .ok (.istore 4, 2) := dk_54 4 (dk_at dksX10_number_0 18 rfl rfl)
theorem dX10_number_20 : decode cX10_number 20 = .ok (.iload 4, 2) := dk_21 4 (dk_at dksX10_number_0 20 rfl rfl)
theorem dX10_number_22 : decode cX10_number 22 = .ok (.iload_n 1, 1) := dk_27 (dk_at dksX10_number_0 22 rfl rfl)
theorem dX10_number_23 : decode cX10_number 23 = .ok (.if_icmp .ge 30, 3) := dk_162 0 30 (dk_at dksX10_number_1 0 rfl rfl)
theorem dX10_number_26 : decode cX10_number 26 = .ok (.aload_n 0, 1) := dk_42 (dk_at dksX10_number_1 3 rfl rfl)
theorem dX10_number_27 : decode cX10_number 27 = .ok (.invokevirtual 35, 3) := dk_182 0 35 (dk_at dksX10_number_1 4 rfl rfl)
theorem dX10_number_30 : decode cX10_number 30 = .ok (.ifCond .eq 23, 3) := dk_153 0 23 (dk_at dksX10_number_1 7 rfl rfl)
theorem dX10_number_33 : decode cX10_number 33 = .ok (.bipush 10, 2) := dk_16 10 (dk_at dksX10_number_1 10 rfl rfl)
theorem dX10_number_35 : decode cX10_number 35 = .ok (.iload_n 3, 1) := dk_29 (dk_at dksX10_number_1 12 rfl rfl)
theorem dX10_number_36 : decode cX10_number 36 = .ok (.imul, 1) := dk_104 (dk_at dksX10_number_1 13 rfl rfl)
theorem dX10_number_37 : decode cX10_number 37 = .ok (.aload_n 0, 1) := dk_42 (dk_at dksX10_number_1 14 rfl rfl)
theorem dX10_number_38 : decode cX10_number 38 = .ok (.iconst 1, 1) := dk_4 (dk_at dksX10_number_1 15 rfl rfl)
theorem dX10_number_39 : decode cX10_number 39 = .ok (.invokevirtual 39, 3) := dk_182 0 39 (dk_at dksX10_number_1 16 rfl rfl)
theorem dX10_number_42 : decode cX10_number 42 = .ok (.iadd, 1) := dk_96 (dk_at dksX10_number_1 19 rfl rfl)
theorem dX10_number_43 : decode cX10_number 43 = .ok (.bipush 48, 2) := dk_16 48 (dk_at dksX10_number_1 20 rfl rfl)
theorem dX10_number_45 : decode cX10_number 45 = .ok (.isub, 1) := dk_100 (dk_at dksX10_number_1 22 rfl rfl)
theorem dX10_number_46 : decode cX10_number 46 = .ok (.istore_n 3, 1) := dk_62 (dk_at dksX10_number_1 23 rfl rfl)
theorem dX10_number_47 : decode cX10_number 47 = .ok (.iinc 4 1, 3) := dk_132 4 1 (dk_at dksX10_number_2 0 rfl rfl)
theorem dX10_number_50 : decode cX10_number 50 = .ok (.goto (-30), 3) := dk_167 255 226 (dk_at dksX10_number_2 3 rfl rfl)
theorem dX10_number_53 : decode cX10_number 53 = .ok (.aload_n 0, 1) := dk_42 (dk_at dksX10_number_2 6 rfl rfl)
theorem dX10_number_54 : decode cX10_number 54 = .ok (.invokevirtual 35, 3) := dk_182 0 35 (dk_at dksX10_number_2 7 rfl rfl)
theorem dX10_number_57 : decode cX10_number 57 = .ok (.ifCond .eq 15, 3) := dk_153 0 15 (dk_at dksX10_number_2 10 rfl rfl)
theorem dX10_number_60 : decode cX10_number 60 = .ok (.new 26, 3) := dk_187 0 26 (dk_at dksX10_number_2 13 rfl rfl)
theorem dX10_number_63 : decode cX10_number 63 = .ok (.dup, 1) := dk_89 (dk_at dksX10_number_2 16 rfl rfl)
theorem dX10_number_64 : decode cX10_number 64 = .ok (.aload_n 0, 1) := dk_42 (dk_at dksX10_number_2 17 rfl rfl)
theorem dX10_number_65 : decode cX10_number 65 = .ok (.getfield 15, 3) := dk_180 0 15 (dk_at dksX10_number_2 18 rfl rfl)
theorem dX10_number_68 : decode cX10_number 68 = .ok (.invokespecial 28, 3) := dk_183 0 28 (dk_at dksX10_number_2 21 rfl rfl)
theorem dX10_number_71 : decode cX10_number 71 = .ok (.athrow, 1) := dk_191 (dk_at dksX10_number_3 0 rfl rfl)
theorem dX10_number_72 : decode cX10_number 72 = .ok (.iload_n 3, 1) := dk_29 (dk_at dksX10_number_3 1 rfl rfl)
theorem dX10_number_73 : decode cX10_number 73 = .ok (.ireturn, 1) := dk_172 (dk_at dksX10_number_3 2 rfl rfl)
abbrev cX10_isDigit : ByteArray := prog_10_method_4_code
def yX10_isDigit : MethodName := ⟨RX10, "isDigit", "()Z"⟩
def dkwX10_isDigit_2 : List UInt8 := [163, 0, 7, 4, 167, 0, 4, 3, 172]
abbrev dktX10_isDigit_2 : List UInt8 := dkwX10_isDigit_2 ++ []
def dkwX10_isDigit_1 : List UInt8 := [180, 0, 15, 51, 16, 48, 161, 0, 24, 42, 180, 0, 3, 180, 0, 22, 42, 180, 0, 15, 51, 16, 57]
abbrev dktX10_isDigit_1 : List UInt8 := dkwX10_isDigit_1 ++ dktX10_isDigit_2
def dkwX10_isDigit_0 : List UInt8 := [42, 180, 0, 15, 42, 180, 0, 3, 180, 0, 19, 162, 0, 41, 42, 180, 0, 3, 180, 0, 22, 42]
abbrev dktX10_isDigit_0 : List UInt8 := dkwX10_isDigit_0 ++ dktX10_isDigit_1
theorem dksX10_isDigit_0 : cX10_isDigit.data.toList.drop 0 = dktX10_isDigit_0 := by decide +kernel
theorem dksX10_isDigit_1 : cX10_isDigit.data.toList.drop 22 = dktX10_isDigit_1 := dk_seg dksX10_isDigit_0 22 rfl rfl
theorem dksX10_isDigit_2 : cX10_isDigit.data.toList.drop 45 = dktX10_isDigit_2 := dk_seg dksX10_isDigit_1 23 rfl rfl
theorem dX10_isDigit_0 : decode cX10_isDigit 0 = .ok (.aload_n 0, 1) := dk_42 (dk_at dksX10_isDigit_0 0 rfl rfl)
theorem dX10_isDigit_1 : decode cX10_isDigit 1 = .ok (.getfield 15, 3) := dk_180 0 15 (dk_at dksX10_isDigit_0 1 rfl rfl)
theorem dX10_isDigit_4 : decode cX10_isDigit 4 = .ok (.aload_n 0, 1) := dk_42 (dk_at dksX10_isDigit_0 4 rfl rfl)
theorem dX10_isDigit_5 : decode cX10_isDigit 5 = .ok (.getfield 3, 3) := dk_180 0 3 (dk_at dksX10_isDigit_0 5 rfl rfl)
theorem dX10_isDigit_8 : decode cX10_isDigit 8 = .ok (.getfield 19, 3) := dk_180 0 19 (dk_at dksX10_isDigit_0 8 rfl rfl)
theorem dX10_isDigit_11 : decode cX10_isDigit 11 = .ok (.if_icmp .ge 41, 3) := dk_162 0 41 (dk_at dksX10_isDigit_0 11 rfl rfl)
theorem dX10_isDigit_14 : decode cX10_isDigit 14 = .ok (.aload_n 0, 1) := dk_42 (dk_at dksX10_isDigit_0 14 rfl rfl)
theorem dX10_isDigit_15 : decode cX10_isDigit 15 = .ok (.getfield 3, 3) := dk_180 0 3 (dk_at dksX10_isDigit_0 15 rfl rfl)
theorem dX10_isDigit_18 : decode cX10_isDigit 18 = .ok (.getfield 22, 3) := dk_180 0 22 (dk_at dksX10_isDigit_0 18 rfl rfl)
theorem dX10_isDigit_21 : decode cX10_isDigit 21 = .ok (.aload_n 0, 1) := dk_42 (dk_at dksX10_isDigit_0 21 rfl rfl)
theorem dX10_isDigit_22 : decode cX10_isDigit 22 = .ok (.getfield 15, 3) := dk_180 0 15 (dk_at dksX10_isDigit_1 0 rfl rfl)
theorem dX10_isDigit_25 : decode cX10_isDigit 25 = .ok (.baload, 1) := dk_51 (dk_at dksX10_isDigit_1 3 rfl rfl)
theorem dX10_isDigit_26 : decode cX10_isDigit 26 = .ok (.bipush 48, 2) := dk_16 48 (dk_at dksX10_isDigit_1 4 rfl rfl)
theorem dX10_isDigit_28 : decode cX10_isDigit 28 = .ok (.if_icmp .lt 24, 3) := dk_161 0 24 (dk_at dksX10_isDigit_1 6 rfl rfl)
theorem dX10_isDigit_31 : decode cX10_isDigit 31 = .ok (.aload_n 0, 1) := dk_42 (dk_at dksX10_isDigit_1 9 rfl rfl)
theorem dX10_isDigit_32 : decode cX10_isDigit 32 = .ok (.getfield 3, 3) := dk_180 0 3 (dk_at dksX10_isDigit_1 10 rfl rfl)
theorem dX10_isDigit_35 : decode cX10_isDigit 35 = .ok (.getfield 22, 3) := dk_180 0 22 (dk_at dksX10_isDigit_1 13 rfl rfl)
theorem dX10_isDigit_38 : decode cX10_isDigit 38 = .ok (.aload_n 0, 1) := dk_42 (dk_at dksX10_isDigit_1 16 rfl rfl)
theorem dX10_isDigit_39 : decode cX10_isDigit 39 = .ok (.getfield 15, 3) := dk_180 0 15 (dk_at dksX10_isDigit_1 17 rfl rfl)
theorem dX10_isDigit_42 : decode cX10_isDigit 42 = .ok (.baload, 1) := dk_51 (dk_at dksX10_isDigit_1 20 rfl rfl)
theorem dX10_isDigit_43 : decode cX10_isDigit 43 = .ok (.bipush 57, 2) := dk_16 57 (dk_at dksX10_isDigit_1 21 rfl rfl)
theorem dX10_isDigit_45 : decode cX10_isDigit 45 = .ok (.if_icmp .gt 7, 3) := dk_163 0 7 (dk_at dksX10_isDigit_2 0 rfl rfl)
theorem dX10_isDigit_48 : decode cX10_isDigit 48 = .ok (.iconst 1, 1) := dk_4 (dk_at dksX10_isDigit_2 3 rfl rfl)
theorem dX10_isDigit_49 : decode cX10_isDigit 49 = .ok (.goto 4, 3) := dk_167 0 4 (dk_at dksX10_isDigit_2 4 rfl rfl)
theorem dX10_isDigit_52 : decode cX10_isDigit 52 = .ok (.iconst 0, 1) := dk_3 (dk_at dksX10_isDigit_2 7 rfl rfl)
theorem dX10_isDigit_53 : decode cX10_isDigit 53 = .ok (.ireturn, 1) := dk_172 (dk_at dksX10_isDigit_2 8 rfl rfl)
abbrev cX10_ends : ByteArray := prog_10_method_5_code
def yX10_ends : MethodName := ⟨RX10, "ends", "()V"⟩
def dkwX10_ends_0 : List UInt8 := [42, 182, 0, 31, 2, 159, 0, 15, 187, 0, 26, 89, 42, 180, 0, 15, 183, 0, 28, 191, 177]
abbrev dktX10_ends_0 : List UInt8 := dkwX10_ends_0 ++ []
theorem dksX10_ends_0 : cX10_ends.data.toList.drop 0 = dktX10_ends_0 := by decide +kernel
theorem dX10_ends_0 : decode cX10_ends 0 = .ok (.aload_n 0, 1) := dk_42 (dk_at dksX10_ends_0 0 rfl rfl)
theorem dX10_ends_1 : decode cX10_ends 1 = .ok (.invokevirtual 31, 3) := dk_182 0 31 (dk_at dksX10_ends_0 1 rfl rfl)
theorem dX10_ends_4 : decode cX10_ends 4 = .ok (.iconst (-1), 1) := dk_2 (dk_at dksX10_ends_0 4 rfl rfl)
theorem dX10_ends_5 : decode cX10_ends 5 = .ok (.if_icmp .eq 15, 3) := dk_159 0 15 (dk_at dksX10_ends_0 5 rfl rfl)
theorem dX10_ends_8 : decode cX10_ends 8 = .ok (.new 26, 3) := dk_187 0 26 (dk_at dksX10_ends_0 8 rfl rfl)
theorem dX10_ends_11 : decode cX10_ends 11 = .ok (.dup, 1) := dk_89 (dk_at dksX10_ends_0 11 rfl rfl)
theorem dX10_ends_12 : decode cX10_ends 12 = .ok (.aload_n 0, 1) := dk_42 (dk_at dksX10_ends_0 12 rfl rfl)
theorem dX10_ends_13 : decode cX10_ends 13 = .ok (.getfield 15, 3) := dk_180 0 15 (dk_at dksX10_ends_0 13 rfl rfl)
theorem dX10_ends_16 : decode cX10_ends 16 = .ok (.invokespecial 28, 3) := dk_183 0 28 (dk_at dksX10_ends_0 16 rfl rfl)
theorem dX10_ends_19 : decode cX10_ends 19 = .ok (.athrow, 1) := dk_191 (dk_at dksX10_ends_0 19 rfl rfl)
theorem dX10_ends_20 : decode cX10_ends 20 = .ok (.return_, 1) := dk_177 (dk_at dksX10_ends_0 20 rfl rfl)
abbrev cX10_where : ByteArray := prog_10_method_11_code
def yX10_where : MethodName := ⟨RX10, "where", "()LSafeBuckets$Where;"⟩
def dkwX10_where_5 : List UInt8 := [180, 0, 15, 4, 96, 181, 0, 15, 167, 255, 140, 42, 182, 0, 106, 43, 176]
abbrev dktX10_where_5 : List UInt8 := dkwX10_where_5 ++ []
def dkwX10_where_4 : List UInt8 := [167, 255, 231, 42, 182, 0, 31, 16, 124, 160, 0, 7, 4, 167, 0, 4, 3, 61, 28, 153, 0, 13, 42, 89]
abbrev dktX10_where_4 : List UInt8 := dkwX10_where_4 ++ dktX10_where_5
def dkwX10_where_3 : List UInt8 := [182, 0, 31, 16, 38, 160, 0, 22, 42, 89, 180, 0, 15, 4, 96, 181, 0, 15, 42, 43, 45, 182, 0, 147]
abbrev dktX10_where_3 : List UInt8 := dkwX10_where_3 ++ dktX10_where_4
def dkwX10_where_2 : List UInt8 := [43, 180, 0, 139, 45, 83, 43, 89, 180, 0, 139, 4, 96, 181, 0, 139, 42, 43, 45, 182, 0, 147, 42]
abbrev dktX10_where_2 : List UInt8 := dkwX10_where_2 ++ dktX10_where_3
def dkwX10_where_1 : List UInt8 := [180, 0, 139, 16, 6, 160, 0, 15, 187, 0, 26, 89, 42, 182, 0, 140, 183, 0, 28, 191, 43, 180, 0, 143]
abbrev dktX10_where_1 : List UInt8 := dkwX10_where_1 ++ dktX10_where_2
def dkwX10_where_0 : List UInt8 := [187, 0, 113, 89, 183, 0, 137, 76, 4, 61, 28, 153, 0, 118, 187, 0, 124, 89, 183, 0, 138, 78, 43]
abbrev dktX10_where_0 : List UInt8 := dkwX10_where_0 ++ dktX10_where_1
theorem dksX10_where_0 : cX10_where.data.toList.drop 0 = dktX10_where_0 := by decide +kernel
theorem dksX10_where_1 : cX10_where.data.toList.drop 23 = dktX10_where_1 := dk_seg dksX10_where_0 23 rfl rfl
theorem dksX10_where_2 : cX10_where.data.toList.drop 47 = dktX10_where_2 := dk_seg dksX10_where_1 24 rfl rfl
theorem dksX10_where_3 : cX10_where.data.toList.drop 70 = dktX10_where_3 := dk_seg dksX10_where_2 23 rfl rfl
theorem dksX10_where_4 : cX10_where.data.toList.drop 94 = dktX10_where_4 := dk_seg dksX10_where_3 24 rfl rfl
theorem dksX10_where_5 : cX10_where.data.toList.drop 118 = dktX10_where_5 := dk_seg dksX10_where_4 24 rfl rfl
theorem dX10_where_0 : decode cX10_where 0 = .ok (.new 113, 3) := dk_187 0 113 (dk_at dksX10_where_0 0 rfl rfl)
theorem dX10_where_3 : decode cX10_where 3 = .ok (.dup, 1) := dk_89 (dk_at dksX10_where_0 3 rfl rfl)
theorem dX10_where_4 : decode cX10_where 4 = .ok (.invokespecial 137, 3) := dk_183 0 137 (dk_at dksX10_where_0 4 rfl rfl)
theorem dX10_where_7 : decode cX10_where 7 = .ok (.astore_n 1, 1) := dk_76 (dk_at dksX10_where_0 7 rfl rfl)
theorem dX10_where_8 : decode cX10_where 8 = .ok (.iconst 1, 1) := dk_4 (dk_at dksX10_where_0 8 rfl rfl)
theorem dX10_where_9 : decode cX10_where 9 = .ok (.istore_n 2, 1) := dk_61 (dk_at dksX10_where_0 9 rfl rfl)
theorem dX10_where_10 : decode cX10_where 10 = .ok (.iload_n 2, 1) := dk_28 (dk_at dksX10_where_0 10 rfl rfl)
theorem dX10_where_11 : decode cX10_where 11 = .ok (.ifCond .eq 118, 3) := dk_153 0 118 (dk_at dksX10_where_0 11 rfl rfl)
theorem dX10_where_14 : decode cX10_where 14 = .ok (.new 124, 3) := dk_187 0 124 (dk_at dksX10_where_0 14 rfl rfl)
theorem dX10_where_17 : decode cX10_where 17 = .ok (.dup, 1) := dk_89 (dk_at dksX10_where_0 17 rfl rfl)
theorem dX10_where_18 : decode cX10_where 18 = .ok (.invokespecial 138, 3) := dk_183 0 138 (dk_at dksX10_where_0 18 rfl rfl)
theorem dX10_where_21 : decode cX10_where 21 = .ok (.astore_n 3, 1) := dk_78 (dk_at dksX10_where_0 21 rfl rfl)
theorem dX10_where_22 : decode cX10_where 22 = .ok (.aload_n 1, 1) := dk_43 (dk_at dksX10_where_0 22 rfl rfl)
theorem dX10_where_23 : decode cX10_where 23 = .ok (.getfield 139, 3) := dk_180 0 139 (dk_at dksX10_where_1 0 rfl rfl)
theorem dX10_where_26 : decode cX10_where 26 = .ok (.bipush 6, 2) := dk_16 6 (dk_at dksX10_where_1 3 rfl rfl)
theorem dX10_where_28 : decode cX10_where 28 = .ok (.if_icmp .ne 15, 3) := dk_160 0 15 (dk_at dksX10_where_1 5 rfl rfl)
theorem dX10_where_31 : decode cX10_where 31 = .ok (.new 26, 3) := dk_187 0 26 (dk_at dksX10_where_1 8 rfl rfl)
theorem dX10_where_34 : decode cX10_where 34 = .ok (.dup, 1) := dk_89 (dk_at dksX10_where_1 11 rfl rfl)
theorem dX10_where_35 : decode cX10_where 35 = .ok (.aload_n 0, 1) := dk_42 (dk_at dksX10_where_1 12 rfl rfl)
theorem dX10_where_36 : decode cX10_where 36 = .ok (.invokevirtual 140, 3) := dk_182 0 140 (dk_at dksX10_where_1 13 rfl rfl)
theorem dX10_where_39 : decode cX10_where 39 = .ok (.invokespecial 28, 3) := dk_183 0 28 (dk_at dksX10_where_1 16 rfl rfl)
theorem dX10_where_42 : decode cX10_where 42 = .ok (.athrow, 1) := dk_191 (dk_at dksX10_where_1 19 rfl rfl)
theorem dX10_where_43 : decode cX10_where 43 = .ok (.aload_n 1, 1) := dk_43 (dk_at dksX10_where_1 20 rfl rfl)
theorem dX10_where_44 : decode cX10_where 44 = .ok (.getfield 143, 3) := dk_180 0 143 (dk_at dksX10_where_1 21 rfl rfl)
theorem dX10_where_47 : decode cX10_where 47 = .ok (.aload_n 1, 1) := dk_43 (dk_at dksX10_where_2 0 rfl rfl)
theorem dX10_where_48 : decode cX10_where 48 = .ok (.getfield 139, 3) := dk_180 0 139 (dk_at dksX10_where_2 1 rfl rfl)
theorem dX10_where_51 : decode cX10_where 51 = .ok (.aload_n 3, 1) := dk_45 (dk_at dksX10_where_2 4 rfl rfl)
theorem dX10_where_52 : decode cX10_where 52 = .ok (.aastore, 1) := dk_83 (dk_at dksX10_where_2 5 rfl rfl)
theorem dX10_where_53 : decode cX10_where 53 = .ok (.aload_n 1, 1) := dk_43 (dk_at dksX10_where_2 6 rfl rfl)
theorem dX10_where_54 : decode cX10_where 54 = .ok (.dup, 1) := dk_89 (dk_at dksX10_where_2 7 rfl rfl)
theorem dX10_where_55 : decode cX10_where 55 = .ok (.getfield 139, 3) := dk_180 0 139 (dk_at dksX10_where_2 8 rfl rfl)
theorem dX10_where_58 : decode cX10_where 58 = .ok (.iconst 1, 1) := dk_4 (dk_at dksX10_where_2 11 rfl rfl)
theorem dX10_where_59 : decode cX10_where 59 = .ok (.iadd, 1) := dk_96 (dk_at dksX10_where_2 12 rfl rfl)
theorem dX10_where_60 : decode cX10_where 60 = .ok (.putfield 139, 3) := dk_181 0 139 (dk_at dksX10_where_2 13 rfl rfl)
theorem dX10_where_63 : decode cX10_where 63 = .ok (.aload_n 0, 1) := dk_42 (dk_at dksX10_where_2 16 rfl rfl)
theorem dX10_where_64 : decode cX10_where 64 = .ok (.aload_n 1, 1) := dk_43 (dk_at dksX10_where_2 17 rfl rfl)
theorem dX10_where_65 : decode cX10_where 65 = .ok (.aload_n 3, 1) := dk_45 (dk_at dksX10_where_2 18 rfl rfl)
theorem dX10_where_66 : decode cX10_where 66 = .ok (.invokevirtual 147, 3) := dk_182 0 147 (dk_at dksX10_where_2 19 rfl rfl)
theorem dX10_where_69 : decode cX10_where 69 = .ok (.aload_n 0, 1) := dk_42 (dk_at dksX10_where_2 22 rfl rfl)
theorem dX10_where_70 : decode cX10_where 70 = .ok (.invokevirtual 31, 3) := dk_182 0 31 (dk_at dksX10_where_3 0 rfl rfl)
theorem dX10_where_73 : decode cX10_where 73 = .ok (.bipush 38, 2) := dk_16 38 (dk_at dksX10_where_3 3 rfl rfl)
theorem dX10_where_75 : decode cX10_where 75 = .ok (.if_icmp .ne 22, 3) := dk_160 0 22 (dk_at dksX10_where_3 5 rfl rfl)
theorem dX10_where_78 : decode cX10_where 78 = .ok (.aload_n 0, 1) := dk_42 (dk_at dksX10_where_3 8 rfl rfl)
theorem dX10_where_79 : decode cX10_where 79 = .ok (.dup, 1) := dk_89 (dk_at dksX10_where_3 9 rfl rfl)
theorem dX10_where_80 : decode cX10_where 80 = .ok (.getfield 15, 3) := dk_180 0 15 (dk_at dksX10_where_3 10 rfl rfl)
theorem dX10_where_83 : decode cX10_where 83 = .ok (.iconst 1, 1) := dk_4 (dk_at dksX10_where_3 13 rfl rfl)
theorem dX10_where_84 : decode cX10_where 84 = .ok (.iadd, 1) := dk_96 (dk_at dksX10_where_3 14 rfl rfl)
theorem dX10_where_85 : decode cX10_where 85 = .ok (.putfield 15, 3) := dk_181 0 15 (dk_at dksX10_where_3 15 rfl rfl)
theorem dX10_where_88 : decode cX10_where 88 = .ok (.aload_n 0, 1) := dk_42 (dk_at dksX10_where_3 18 rfl rfl)
theorem dX10_where_89 : decode cX10_where 89 = .ok (.aload_n 1, 1) := dk_43 (dk_at dksX10_where_3 19 rfl rfl)
theorem dX10_where_90 : decode cX10_where 90 = .ok (.aload_n 3, 1) := dk_45 (dk_at dksX10_where_3 20 rfl rfl)
theorem dX10_where_91 : decode cX10_where 91 = .ok (.invokevirtual 147, 3) := dk_182 0 147 (dk_at dksX10_where_3 21 rfl rfl)
theorem dX10_where_94 : decode cX10_where 94 = .ok (.goto (-25), 3) := dk_167 255 231 (dk_at dksX10_where_4 0 rfl rfl)
theorem dX10_where_97 : decode cX10_where 97 = .ok (.aload_n 0, 1) := dk_42 (dk_at dksX10_where_4 3 rfl rfl)
theorem dX10_where_98 : decode cX10_where 98 = .ok (.invokevirtual 31, 3) := dk_182 0 31 (dk_at dksX10_where_4 4 rfl rfl)
theorem dX10_where_101 : decode cX10_where 101 = .ok (.bipush 124, 2) := dk_16 124 (dk_at dksX10_where_4 7 rfl rfl)
theorem dX10_where_103 : decode cX10_where 103 = .ok (.if_icmp .ne 7, 3) := dk_160 0 7 (dk_at dksX10_where_4 9 rfl rfl)
theorem dX10_where_106 : decode cX10_where 106 = .ok (.iconst 1, 1) := dk_4 (dk_at dksX10_where_4 12 rfl rfl)
theorem dX10_where_107 : decode cX10_where 107 = .ok (.goto 4, 3) := dk_167 0 4 (dk_at dksX10_where_4 13 rfl rfl)
theorem dX10_where_110 : decode cX10_where 110 = .ok (.iconst 0, 1) := dk_3 (dk_at dksX10_where_4 16 rfl rfl)
theorem dX10_where_111 : decode cX10_where 111 = .ok (.istore_n 2, 1) := dk_61 (dk_at dksX10_where_4 17 rfl rfl)
theorem dX10_where_112 : decode cX10_where 112 = .ok (.iload_n 2, 1) := dk_28 (dk_at dksX10_where_4 18 rfl rfl)
theorem dX10_where_113 : decode cX10_where 113 = .ok (.ifCond .eq 13, 3) := dk_153 0 13 (dk_at dksX10_where_4 19 rfl rfl)
theorem dX10_where_116 : decode cX10_where 116 = .ok (.aload_n 0, 1) := dk_42 (dk_at dksX10_where_4 22 rfl rfl)
theorem dX10_where_117 : decode cX10_where 117 = .ok (.dup, 1) := dk_89 (dk_at dksX10_where_4 23 rfl rfl)
theorem dX10_where_118 : decode cX10_where 118 = .ok (.getfield 15, 3) := dk_180 0 15 (dk_at dksX10_where_5 0 rfl rfl)
theorem dX10_where_121 : decode cX10_where 121 = .ok (.iconst 1, 1) := dk_4 (dk_at dksX10_where_5 3 rfl rfl)
theorem dX10_where_122 : decode cX10_where 122 = .ok (.iadd, 1) := dk_96 (dk_at dksX10_where_5 4 rfl rfl)
theorem dX10_where_123 : decode cX10_where 123 = .ok (.putfield 15, 3) := dk_181 0 15 (dk_at dksX10_where_5 5 rfl rfl)
theorem dX10_where_126 : decode cX10_where 126 = .ok (.goto (-116), 3) := dk_167 255 140 (dk_at dksX10_where_5 8 rfl rfl)
theorem dX10_where_129 : decode cX10_where 129 = .ok (.aload_n 0, 1) := dk_42 (dk_at dksX10_where_5 11 rfl rfl)
theorem dX10_where_130 : decode cX10_where 130 = .ok (.invokevirtual 106, 3) := dk_182 0 106 (dk_at dksX10_where_5 12 rfl rfl)
theorem dX10_where_133 : decode cX10_where 133 = .ok (.aload_n 1, 1) := dk_43 (dk_at dksX10_where_5 15 rfl rfl)
theorem dX10_where_134 : decode cX10_where 134 = .ok (.areturn, 1) := dk_176 (dk_at dksX10_where_5 16 rfl rfl)
abbrev cX10_peekAt : ByteArray := prog_10_method_12_code
def yX10_peekAt : MethodName := ⟨RX10, "peekAt", "()I"⟩
def dkwX10_peekAt_0 : List UInt8 := [42, 182, 0, 31, 60, 42, 180, 0, 15, 172]
abbrev dktX10_peekAt_0 : List UInt8 := dkwX10_peekAt_0 ++ []
theorem dksX10_peekAt_0 : cX10_peekAt.data.toList.drop 0 = dktX10_peekAt_0 := by decide +kernel
theorem dX10_peekAt_0 : decode cX10_peekAt 0 = .ok (.aload_n 0, 1) := dk_42 (dk_at dksX10_peekAt_0 0 rfl rfl)
theorem dX10_peekAt_1 : decode cX10_peekAt 1 = .ok (.invokevirtual 31, 3) := dk_182 0 31 (dk_at dksX10_peekAt_0 1 rfl rfl)
theorem dX10_peekAt_4 : decode cX10_peekAt 4 = .ok (.istore_n 1, 1) := dk_60 (dk_at dksX10_peekAt_0 4 rfl rfl)
theorem dX10_peekAt_5 : decode cX10_peekAt 5 = .ok (.aload_n 0, 1) := dk_42 (dk_at dksX10_peekAt_0 5 rfl rfl)
theorem dX10_peekAt_6 : decode cX10_peekAt 6 = .ok (.getfield 15, 3) := dk_180 0 15 (dk_at dksX10_peekAt_0 6 rfl rfl)
theorem dX10_peekAt_9 : decode cX10_peekAt 9 = .ok (.ireturn, 1) := dk_172 (dk_at dksX10_peekAt_0 9 rfl rfl)
abbrev cX10_unit : ByteArray := prog_10_method_10_code
def yX10_unit : MethodName := ⟨RX10, "unit", "(LSafeBuckets$Where;LSafeBuckets$Term;)V"⟩
def dkwX10_unit_4 : List UInt8 := [42, 5, 182, 0, 63, 183, 0, 134, 83, 44, 89, 180, 0, 129, 4, 96, 181, 0, 129, 177]
abbrev dktX10_unit_4 : List UInt8 := dkwX10_unit_4 ++ []
def dkwX10_unit_3 : List UInt8 := [180, 0, 129, 187, 0, 130, 89, 21, 4, 25, 5, 25, 5, 180, 0, 132, 6, 160, 0, 7, 3, 167, 0, 8]
abbrev dktX10_unit_3 : List UInt8 := dkwX10_unit_3 ++ dktX10_unit_4
def dkwX10_unit_2 : List UInt8 := [58, 5, 42, 25, 5, 198, 0, 7, 4, 167, 0, 4, 3, 182, 0, 39, 62, 44, 180, 0, 123, 44]
abbrev dktX10_unit_2 : List UInt8 := dkwX10_unit_2 ++ dktX10_unit_3
def dkwX10_unit_1 : List UInt8 := [162, 0, 7, 4, 167, 0, 4, 3, 182, 0, 39, 16, 97, 100, 54, 4, 42, 182, 0, 31, 184, 0, 117]
abbrev dktX10_unit_1 : List UInt8 := dkwX10_unit_1 ++ dktX10_unit_2
def dkwX10_unit_0 : List UInt8 := [42, 182, 0, 31, 62, 42, 29, 16, 97, 159, 0, 9, 29, 16, 98, 160, 0, 16, 43, 182, 0, 112, 16, 6]
abbrev dktX10_unit_0 : List UInt8 := dkwX10_unit_0 ++ dktX10_unit_1
theorem dksX10_unit_0 : cX10_unit.data.toList.drop 0 = dktX10_unit_0 := by decide +kernel
theorem dksX10_unit_1 : cX10_unit.data.toList.drop 24 = dktX10_unit_1 := dk_seg dksX10_unit_0 24 rfl rfl
theorem dksX10_unit_2 : cX10_unit.data.toList.drop 47 = dktX10_unit_2 := dk_seg dksX10_unit_1 23 rfl rfl
theorem dksX10_unit_3 : cX10_unit.data.toList.drop 69 = dktX10_unit_3 := dk_seg dksX10_unit_2 22 rfl rfl
theorem dksX10_unit_4 : cX10_unit.data.toList.drop 93 = dktX10_unit_4 := dk_seg dksX10_unit_3 24 rfl rfl
theorem dX10_unit_0 : decode cX10_unit 0 = .ok (.aload_n 0, 1) := dk_42 (dk_at dksX10_unit_0 0 rfl rfl)
theorem dX10_unit_1 : decode cX10_unit 1 = .ok (.invokevirtual 31, 3) := dk_182 0 31 (dk_at dksX10_unit_0 1 rfl rfl)
theorem dX10_unit_4 : decode cX10_unit 4 = .ok (.istore_n 3, 1) := dk_62 (dk_at dksX10_unit_0 4 rfl rfl)
theorem dX10_unit_5 : decode cX10_unit 5 = .ok (.aload_n 0, 1) := dk_42 (dk_at dksX10_unit_0 5 rfl rfl)
theorem dX10_unit_6 : decode cX10_unit 6 = .ok (.iload_n 3, 1) := dk_29 (dk_at dksX10_unit_0 6 rfl rfl)
theorem dX10_unit_7 : decode cX10_unit 7 = .ok (.bipush 97, 2) := dk_16 97 (dk_at dksX10_unit_0 7 rfl rfl)
theorem dX10_unit_9 : decode cX10_unit 9 = .ok (.if_icmp .eq 9, 3) := dk_159 0 9 (dk_at dksX10_unit_0 9 rfl rfl)
theorem dX10_unit_12 : decode cX10_unit 12 = .ok (.iload_n 3, 1) := dk_29 (dk_at dksX10_unit_0 12 rfl rfl)
theorem dX10_unit_13 : decode cX10_unit 13 = .ok (.bipush 98, 2) := dk_16 98 (dk_at dksX10_unit_0 13 rfl rfl)
theorem dX10_unit_15 : decode cX10_unit 15 = .ok (.if_icmp .ne 16, 3) := dk_160 0 16 (dk_at dksX10_unit_0 15 rfl rfl)
theorem dX10_unit_18 : decode cX10_unit 18 = .ok (.aload_n 1, 1) := dk_43 (dk_at dksX10_unit_0 18 rfl rfl)
theorem dX10_unit_19 : decode cX10_unit 19 = .ok (.invokevirtual 112, 3) := dk_182 0 112 (dk_at dksX10_unit_0 19 rfl rfl)
theorem dX10_unit_22 : decode cX10_unit 22 = .ok (.bipush 6, 2) := dk_16 6 (dk_at dksX10_unit_0 22 rfl rfl)
theorem dX10_unit_24 : decode cX10_unit 24 = .ok (.if_icmp .ge 7, 3) := dk_162 0 7 (dk_at dksX10_unit_1 0 rfl rfl)
theorem dX10_unit_27 : decode cX10_unit 27 = .ok (.iconst 1, 1) := dk_4 (dk_at dksX10_unit_1 3 rfl rfl)
theorem dX10_unit_28 : decode cX10_unit 28 = .ok (.goto 4, 3) := dk_167 0 4 (dk_at dksX10_unit_1 4 rfl rfl)
theorem dX10_unit_31 : decode cX10_unit 31 = .ok (.iconst 0, 1) := dk_3 (dk_at dksX10_unit_1 7 rfl rfl)
theorem dX10_unit_32 : decode cX10_unit 32 = .ok (.invokevirtual 39, 3) := dk_182 0 39 (dk_at dksX10_unit_1 8 rfl rfl)
theorem dX10_unit_35 : decode cX10_unit 35 = .ok (.bipush 97, 2) := dk_16 97 (dk_at dksX10_unit_1 11 rfl rfl)
theorem dX10_unit_37 : decode cX10_unit 37 = .ok (.isub, 1) := dk_100 (dk_at dksX10_unit_1 13 rfl rfl)
theorem dX10_unit_38 : decode cX10_unit 38 = .ok (.istore 4, 2) := dk_54 4 (dk_at dksX10_unit_1 14 rfl rfl)
theorem dX10_unit_40 : decode cX10_unit 40 = .ok (.aload_n 0, 1) := dk_42 (dk_at dksX10_unit_1 16 rfl rfl)
theorem dX10_unit_41 : decode cX10_unit 41 = .ok (.invokevirtual 31, 3) := dk_182 0 31 (dk_at dksX10_unit_1 17 rfl rfl)
theorem dX10_unit_44 : decode cX10_unit 44 = .ok (.invokestatic 117, 3) := dk_184 0 117 (dk_at dksX10_unit_1 20 rfl rfl)
theorem dX10_unit_47 : decode cX10_unit 47 = .ok (.astore 5, 2) := dk_58 5 (dk_at dksX10_unit_2 0 rfl rfl)
theorem dX10_unit_49 : decode cX10_unit 49 = .ok (.aload_n 0, 1) := dk_42 (dk_at dksX10_unit_2 2 rfl rfl)
theorem dX10_unit_50 : decode cX10_unit 50 = .ok (.aload 5, 2) := dk_25 5 (dk_at dksX10_unit_2 3 rfl rfl)
theorem dX10_unit_52 : decode cX10_unit 52 = .ok (.ifnull 7, 3) := dk_198 0 7 (dk_at dksX10_unit_2 5 rfl rfl)
theorem dX10_unit_55 : decode cX10_unit 55 = .ok (.iconst 1, 1) := dk_4 (dk_at dksX10_unit_2 8 rfl rfl)
theorem dX10_unit_56 : decode cX10_unit 56 = .ok (.goto 4, 3) := dk_167 0 4 (dk_at dksX10_unit_2 9 rfl rfl)
theorem dX10_unit_59 : decode cX10_unit 59 = .ok (.iconst 0, 1) := dk_3 (dk_at dksX10_unit_2 12 rfl rfl)
theorem dX10_unit_60 : decode cX10_unit 60 = .ok (.invokevirtual 39, 3) := dk_182 0 39 (dk_at dksX10_unit_2 13 rfl rfl)
theorem dX10_unit_63 : decode cX10_unit 63 = .ok (.istore_n 3, 1) := dk_62 (dk_at dksX10_unit_2 16 rfl rfl)
theorem dX10_unit_64 : decode cX10_unit 64 = .ok (.aload_n 2, 1) := dk_44 (dk_at dksX10_unit_2 17 rfl rfl)
theorem dX10_unit_65 : decode cX10_unit 65 = .ok (.getfield 123, 3) := dk_180 0 123 (dk_at dksX10_unit_2 18 rfl rfl)
theorem dX10_unit_68 : decode cX10_unit 68 = .ok (.aload_n 2, 1) := dk_44 (dk_at dksX10_unit_2 21 rfl rfl)
theorem dX10_unit_69 : decode cX10_unit 69 = .ok (.getfield 129, 3) := dk_180 0 129 (dk_at dksX10_unit_3 0 rfl rfl)
theorem dX10_unit_72 : decode cX10_unit 72 = .ok (.new 130, 3) := dk_187 0 130 (dk_at dksX10_unit_3 3 rfl rfl)
theorem dX10_unit_75 : decode cX10_unit 75 = .ok (.dup, 1) := dk_89 (dk_at dksX10_unit_3 6 rfl rfl)
theorem dX10_unit_76 : decode cX10_unit 76 = .ok (.iload 4, 2) := dk_21 4 (dk_at dksX10_unit_3 7 rfl rfl)
theorem dX10_unit_78 : decode cX10_unit 78 = .ok (.aload 5, 2) := dk_25 5 (dk_at dksX10_unit_3 9 rfl rfl)
theorem dX10_unit_80 : decode cX10_unit 80 = .ok (.aload 5, 2) := dk_25 5 (dk_at dksX10_unit_3 11 rfl rfl)
theorem dX10_unit_82 : decode cX10_unit 82 = .ok (.getfield 132, 3) := dk_180 0 132 (dk_at dksX10_unit_3 13 rfl rfl)
theorem dX10_unit_85 : decode cX10_unit 85 = .ok (.iconst 3, 1) := dk_6 (dk_at dksX10_unit_3 16 rfl rfl)
theorem dX10_unit_86 : decode cX10_unit 86 = .ok (.if_icmp .ne 7, 3) := dk_160 0 7 (dk_at dksX10_unit_3 17 rfl rfl)
theorem dX10_unit_89 : decode cX10_unit 89 = .ok (.iconst 0, 1) := dk_3 (dk_at dksX10_unit_3 20 rfl rfl)
theorem dX10_unit_90 : decode cX10_unit 90 = .ok (.goto 8, 3) := dk_167 0 8 (dk_at dksX10_unit_3 21 rfl rfl)
theorem dX10_unit_93 : decode cX10_unit 93 = .ok (.aload_n 0, 1) := dk_42 (dk_at dksX10_unit_4 0 rfl rfl)
theorem dX10_unit_94 : decode cX10_unit 94 = .ok (.iconst 2, 1) := dk_5 (dk_at dksX10_unit_4 1 rfl rfl)
theorem dX10_unit_95 : decode cX10_unit 95 = .ok (.invokevirtual 63, 3) := dk_182 0 63 (dk_at dksX10_unit_4 2 rfl rfl)
theorem dX10_unit_98 : decode cX10_unit 98 = .ok (.invokespecial 134, 3) := dk_183 0 134 (dk_at dksX10_unit_4 5 rfl rfl)
theorem dX10_unit_101 : decode cX10_unit 101 = .ok (.aastore, 1) := dk_83 (dk_at dksX10_unit_4 8 rfl rfl)
theorem dX10_unit_102 : decode cX10_unit 102 = .ok (.aload_n 2, 1) := dk_44 (dk_at dksX10_unit_4 9 rfl rfl)
theorem dX10_unit_103 : decode cX10_unit 103 = .ok (.dup, 1) := dk_89 (dk_at dksX10_unit_4 10 rfl rfl)
theorem dX10_unit_104 : decode cX10_unit 104 = .ok (.getfield 129, 3) := dk_180 0 129 (dk_at dksX10_unit_4 11 rfl rfl)
theorem dX10_unit_107 : decode cX10_unit 107 = .ok (.iconst 1, 1) := dk_4 (dk_at dksX10_unit_4 14 rfl rfl)
theorem dX10_unit_108 : decode cX10_unit 108 = .ok (.iadd, 1) := dk_96 (dk_at dksX10_unit_4 15 rfl rfl)
theorem dX10_unit_109 : decode cX10_unit 109 = .ok (.putfield 129, 3) := dk_181 0 129 (dk_at dksX10_unit_4 16 rfl rfl)
theorem dX10_unit_112 : decode cX10_unit 112 = .ok (.return_, 1) := dk_177 (dk_at dksX10_unit_4 19 rfl rfl)
theorem q127 : (Jvm.Cond.initialized "SafeBuckets$Reader") ∈ lw_all := lw_g (lw_at lw_m1 12 rfl) rfl
theorem q382 : (Jvm.Cond.fieldLinkNest "SafeBuckets$Reader" (22 : Nat) "SafeBuckets" "tape" "[B" "SafeBuckets") ∈ lw_tbl := lw_at lw_m2 27 rfl
theorem q384 : (Jvm.Cond.fieldLinkNest "SafeBuckets$Reader" (19 : Nat) "SafeBuckets" "length" "I" "SafeBuckets") ∈ lw_tbl := lw_at lw_m2 29 rfl
theorem q486 : (Jvm.Cond.instantiable "SafeBuckets$Reader" (2 : Nat)) ∈ lw_all := lw_g (lw_at lw_m2 131 rfl) rfl
theorem q488 : (Jvm.Cond.instanceMethod ({ cls := "SafeBuckets$Reader", name := "<init>", desc := "(LSafeBuckets;)V" } : Jvm.MethodName)) ∈ lw_all := lw_g (lw_at lw_m2 133 rfl) rfl
theorem q489 : (Jvm.Cond.code ({ cls := "SafeBuckets$Reader", name := "<init>", desc := "(LSafeBuckets;)V" } : Jvm.MethodName) prog_10_method_1_code (2 : Nat) (Option.none : Option Jvm.ClassFile.FieldType)) ∈ lw_all := lw_g (lw_at lw_m2 134 rfl) rfl
theorem q490 : (Jvm.Cond.methodLink "SafeBuckets$Reader" (9 : Nat) ({ cls := "java/lang/Object", name := "<init>", desc := "()V" } : Jvm.MethodName)) ∈ lw_all := lw_g (lw_at lw_m2 135 rfl) rfl
theorem q491 : (Jvm.Cond.fieldLink "SafeBuckets$Reader" (15 : Nat) "SafeBuckets$Reader" "at" "I") ∈ lw_all := lw_g (lw_at lw_m2 136 rfl) rfl
theorem q492 : (Jvm.Cond.fieldLink "SafeBuckets$Reader" (3 : Nat) "SafeBuckets$Reader" "this$0" "LSafeBuckets;") ∈ lw_all := lw_g (lw_at lw_m2 137 rfl) rfl
theorem q493 : (Jvm.Cond.lays "SafeBuckets$Reader" "SafeBuckets$Reader" "at" "I") ∈ lw_all := lw_g (lw_at lw_m2 138 rfl) rfl
theorem q494 : (Jvm.Cond.soleField "SafeBuckets$Reader" "at") ∈ lw_all := lw_g (lw_at lw_m2 139 rfl) rfl
theorem q495 : (Jvm.Cond.laysFinal "SafeBuckets$Reader" "SafeBuckets$Reader" "this$0" "LSafeBuckets;") ∈ lw_all := lw_g (lw_at lw_m2 140 rfl) rfl
theorem q496 : (Jvm.Cond.soleField "SafeBuckets$Reader" "this$0") ∈ lw_all := lw_g (lw_at lw_m2 141 rfl) rfl
theorem q497 : (Jvm.Cond.superclass "SafeBuckets$Reader" "java/lang/Object") ∈ lw_all := lw_g (lw_at lw_m2 142 rfl) rfl
theorem q499 : (Jvm.Cond.instanceMethod ({ cls := "SafeBuckets$Reader", name := "book", desc := "()LSafeBuckets$Book;" } : Jvm.MethodName)) ∈ lw_all := lw_g (lw_at lw_m2 144 rfl) rfl
theorem q500 : (Jvm.Cond.selects "SafeBuckets$Reader" ({ cls := "SafeBuckets$Reader", name := "book", desc := "()LSafeBuckets$Book;" } : Jvm.MethodName) ({ cls := "SafeBuckets$Reader", name := "book", desc := "()LSafeBuckets$Book;" } : Jvm.MethodName)) ∈ lw_all := lw_g (lw_at lw_m2 145 rfl) rfl
theorem q501 : (Jvm.Cond.code ({ cls := "SafeBuckets$Reader", name := "book", desc := "()LSafeBuckets$Book;" } : Jvm.MethodName) prog_10_method_9_code (2 : Nat) (Option.some (Jvm.ClassFile.FieldType.object "SafeBuckets$Book"))) ∈ lw_all := lw_g (lw_at lw_m2 146 rfl) rfl
theorem q502 : (Jvm.Cond.classLink "SafeBuckets$Reader" (70 : Nat) "SafeBuckets$Book") ∈ lw_all := lw_g (lw_at lw_m2 147 rfl) rfl
theorem q504 : (Jvm.Cond.methodLinkNest "SafeBuckets$Reader" (101 : Nat) ({ cls := "SafeBuckets$Book", name := "<init>", desc := "()V" } : Jvm.MethodName) "SafeBuckets") ∈ lw_tbl := lw_at lw_m2 149 rfl
theorem q513 : (Jvm.Cond.fieldLinkNest "SafeBuckets$Reader" (84 : Nat) "SafeBuckets$Book" "tables" "[LSafeBuckets$ToldTable;" "SafeBuckets") ∈ lw_tbl := lw_at lw_m2 158 rfl
theorem q516 : (Jvm.Cond.fieldLinkNest "SafeBuckets$Reader" (91 : Nat) "SafeBuckets$Book" "lines" "[LSafeBuckets$Line;" "SafeBuckets") ∈ lw_tbl := lw_at lw_m2 161 rfl
theorem q519 : (Jvm.Cond.fieldLinkNest "SafeBuckets$Reader" (69 : Nat) "SafeBuckets$Book" "rules" "LSafeBuckets$Rules;" "SafeBuckets") ∈ lw_tbl := lw_at lw_m2 164 rfl
theorem q524 : (Jvm.Cond.fieldLinkNest "SafeBuckets$Reader" (75 : Nat) "SafeBuckets$Book" "many" "I" "SafeBuckets") ∈ lw_tbl := lw_at lw_m2 169 rfl
theorem q528 : (Jvm.Cond.fieldLinkNest "SafeBuckets$Reader" (78 : Nat) "SafeBuckets$Book" "lineMany" "I" "SafeBuckets") ∈ lw_tbl := lw_at lw_m2 173 rfl
theorem q540 : (Jvm.Cond.methodLink "SafeBuckets$Reader" (102 : Nat) ({ cls := "SafeBuckets$Reader", name := "clause", desc := "(LSafeBuckets$Book;)V" } : Jvm.MethodName)) ∈ lw_all := lw_g (lw_at lw_m2 185 rfl) rfl
theorem q541 : (Jvm.Cond.privateMethod ({ cls := "SafeBuckets$Reader", name := "clause", desc := "(LSafeBuckets$Book;)V" } : Jvm.MethodName)) ∈ lw_tbl := lw_at lw_m2 186 rfl
theorem q542 : (Jvm.Cond.instanceMethod ({ cls := "SafeBuckets$Reader", name := "clause", desc := "(LSafeBuckets$Book;)V" } : Jvm.MethodName)) ∈ lw_all := lw_g (lw_at lw_m2 187 rfl) rfl
theorem q543 : (Jvm.Cond.code ({ cls := "SafeBuckets$Reader", name := "clause", desc := "(LSafeBuckets$Book;)V" } : Jvm.MethodName) prog_10_method_8_code (4 : Nat) (Option.none : Option Jvm.ClassFile.FieldType)) ∈ lw_all := lw_g (lw_at lw_m2 188 rfl) rfl
theorem q544 : (Jvm.Cond.methodLink "SafeBuckets$Reader" (31 : Nat) ({ cls := "SafeBuckets$Reader", name := "peek", desc := "()I" } : Jvm.MethodName)) ∈ lw_all := lw_g (lw_at lw_m2 189 rfl) rfl
theorem q545 : (Jvm.Cond.privateMethod ({ cls := "SafeBuckets$Reader", name := "peek", desc := "()I" } : Jvm.MethodName)) ∈ lw_tbl := lw_at lw_m2 190 rfl
theorem q546 : (Jvm.Cond.instanceMethod ({ cls := "SafeBuckets$Reader", name := "peek", desc := "()I" } : Jvm.MethodName)) ∈ lw_all := lw_g (lw_at lw_m2 191 rfl) rfl
theorem q547 : (Jvm.Cond.code ({ cls := "SafeBuckets$Reader", name := "peek", desc := "()I" } : Jvm.MethodName) prog_10_method_2_code (1 : Nat) (Option.some Jvm.ClassFile.FieldType.int)) ∈ lw_all := lw_g (lw_at lw_m2 192 rfl) rfl
theorem q548 : (Jvm.Cond.methodLink "SafeBuckets$Reader" (39 : Nat) ({ cls := "SafeBuckets$Reader", name := "take", desc := "(Z)I" } : Jvm.MethodName)) ∈ lw_all := lw_g (lw_at lw_m2 193 rfl) rfl
theorem q549 : (Jvm.Cond.privateMethod ({ cls := "SafeBuckets$Reader", name := "take", desc := "(Z)I" } : Jvm.MethodName)) ∈ lw_tbl := lw_at lw_m2 194 rfl
theorem q550 : (Jvm.Cond.instanceMethod ({ cls := "SafeBuckets$Reader", name := "take", desc := "(Z)I" } : Jvm.MethodName)) ∈ lw_all := lw_g (lw_at lw_m2 195 rfl) rfl
theorem q551 : (Jvm.Cond.code ({ cls := "SafeBuckets$Reader", name := "take", desc := "(Z)I" } : Jvm.MethodName) prog_10_method_3_code (2 : Nat) (Option.some Jvm.ClassFile.FieldType.int)) ∈ lw_all := lw_g (lw_at lw_m2 196 rfl) rfl
theorem q552 : (Jvm.Cond.classLink "SafeBuckets$Reader" (26 : Nat) "SafeBuckets$Wrong") ∈ lw_all := lw_g (lw_at lw_m2 197 rfl) rfl
theorem q561 : (Jvm.Cond.methodLink "SafeBuckets$Reader" (28 : Nat) ({ cls := "SafeBuckets$Wrong", name := "<init>", desc := "(I)V" } : Jvm.MethodName)) ∈ lw_all := lw_g (lw_at lw_m2 206 rfl) rfl
theorem q571 : (Jvm.Cond.classLink "SafeBuckets$Reader" (81 : Nat) "SafeBuckets$Rules") ∈ lw_all := lw_g (lw_at lw_m2 216 rfl) rfl
theorem q573 : (Jvm.Cond.methodLink "SafeBuckets$Reader" (83 : Nat) ({ cls := "SafeBuckets$Rules", name := "<init>", desc := "()V" } : Jvm.MethodName)) ∈ lw_all := lw_g (lw_at lw_m2 218 rfl) rfl
theorem q591 : (Jvm.Cond.fieldLink "SafeBuckets$Reader" (59 : Nat) "SafeBuckets$Clause" "values" "[I") ∈ lw_all := lw_g (lw_at lw_m2 236 rfl) rfl
theorem q598 : (Jvm.Cond.classLink "SafeBuckets$Reader" (88 : Nat) "SafeBuckets$ToldTable") ∈ lw_all := lw_g (lw_at lw_m3 3 rfl) rfl
theorem q600 : (Jvm.Cond.methodLink "SafeBuckets$Reader" (90 : Nat) ({ cls := "SafeBuckets$ToldTable", name := "<init>", desc := "()V" } : Jvm.MethodName)) ∈ lw_all := lw_g (lw_at lw_m3 5 rfl) rfl
theorem q606 : (Jvm.Cond.classLink "SafeBuckets$Reader" (95 : Nat) "SafeBuckets$Line") ∈ lw_all := lw_g (lw_at lw_m3 11 rfl) rfl
theorem q608 : (Jvm.Cond.methodLink "SafeBuckets$Reader" (97 : Nat) ({ cls := "SafeBuckets$Line", name := "<init>", desc := "()V" } : Jvm.MethodName)) ∈ lw_all := lw_g (lw_at lw_m3 13 rfl) rfl
theorem q614 : (Jvm.Cond.methodLink "SafeBuckets$Reader" (98 : Nat) ({ cls := "SafeBuckets$Reader", name := "items", desc := "(LSafeBuckets$Clause;)V" } : Jvm.MethodName)) ∈ lw_all := lw_g (lw_at lw_m3 19 rfl) rfl
theorem q615 : (Jvm.Cond.privateMethod ({ cls := "SafeBuckets$Reader", name := "items", desc := "(LSafeBuckets$Clause;)V" } : Jvm.MethodName)) ∈ lw_tbl := lw_at lw_m3 20 rfl
theorem q616 : (Jvm.Cond.instanceMethod ({ cls := "SafeBuckets$Reader", name := "items", desc := "(LSafeBuckets$Clause;)V" } : Jvm.MethodName)) ∈ lw_all := lw_g (lw_at lw_m3 21 rfl) rfl
theorem q617 : (Jvm.Cond.code ({ cls := "SafeBuckets$Reader", name := "items", desc := "(LSafeBuckets$Clause;)V" } : Jvm.MethodName) prog_10_method_7_code (5 : Nat) (Option.none : Option Jvm.ClassFile.FieldType)) ∈ lw_all := lw_g (lw_at lw_m3 22 rfl) rfl
theorem q618 : (Jvm.Cond.methodLink "SafeBuckets$Reader" (43 : Nat) ({ cls := "SafeBuckets$Clause", name := "items", desc := "()Ljava/lang/String;" } : Jvm.MethodName)) ∈ lw_all := lw_g (lw_at lw_m3 23 rfl) rfl
theorem q633 : (Jvm.Cond.methodLink "SafeBuckets$Reader" (49 : Nat) ({ cls := "java/lang/String", name := "indexOf", desc := "(I)I" } : Jvm.MethodName)) ∈ lw_all := lw_g (lw_at lw_m3 38 rfl) rfl
theorem q719 : (Jvm.Cond.methodLinkNest "SafeBuckets$Reader" (55 : Nat) ({ cls := "SafeBuckets", name := "has", desc := "(II)Z" } : Jvm.MethodName) "SafeBuckets") ∈ lw_tbl := lw_at lw_m3 124 rfl
theorem q722 : (Jvm.Cond.methodLink "SafeBuckets$Reader" (63 : Nat) ({ cls := "SafeBuckets$Reader", name := "number", desc := "(I)I" } : Jvm.MethodName)) ∈ lw_all := lw_g (lw_at lw_m3 127 rfl) rfl
theorem q723 : (Jvm.Cond.privateMethod ({ cls := "SafeBuckets$Reader", name := "number", desc := "(I)I" } : Jvm.MethodName)) ∈ lw_tbl := lw_at lw_m3 128 rfl
theorem q724 : (Jvm.Cond.instanceMethod ({ cls := "SafeBuckets$Reader", name := "number", desc := "(I)I" } : Jvm.MethodName)) ∈ lw_all := lw_g (lw_at lw_m3 129 rfl) rfl
theorem q725 : (Jvm.Cond.code ({ cls := "SafeBuckets$Reader", name := "number", desc := "(I)I" } : Jvm.MethodName) prog_10_method_6_code (5 : Nat) (Option.some Jvm.ClassFile.FieldType.int)) ∈ lw_all := lw_g (lw_at lw_m3 130 rfl) rfl
theorem q726 : (Jvm.Cond.methodLink "SafeBuckets$Reader" (35 : Nat) ({ cls := "SafeBuckets$Reader", name := "isDigit", desc := "()Z" } : Jvm.MethodName)) ∈ lw_all := lw_g (lw_at lw_m3 131 rfl) rfl
theorem q727 : (Jvm.Cond.privateMethod ({ cls := "SafeBuckets$Reader", name := "isDigit", desc := "()Z" } : Jvm.MethodName)) ∈ lw_tbl := lw_at lw_m3 132 rfl
theorem q728 : (Jvm.Cond.instanceMethod ({ cls := "SafeBuckets$Reader", name := "isDigit", desc := "()Z" } : Jvm.MethodName)) ∈ lw_all := lw_g (lw_at lw_m3 133 rfl) rfl
theorem q729 : (Jvm.Cond.code ({ cls := "SafeBuckets$Reader", name := "isDigit", desc := "()Z" } : Jvm.MethodName) prog_10_method_4_code (1 : Nat) (Option.some Jvm.ClassFile.FieldType.boolean)) ∈ lw_all := lw_g (lw_at lw_m3 134 rfl) rfl
theorem q730 : (Jvm.Cond.methodLink "SafeBuckets$Reader" (66 : Nat) ({ cls := "SafeBuckets$Clause", name := "isWell", desc := "(II)Z" } : Jvm.MethodName)) ∈ lw_all := lw_g (lw_at lw_m3 135 rfl) rfl
theorem q759 : (Jvm.Cond.methodLink "SafeBuckets$Reader" (106 : Nat) ({ cls := "SafeBuckets$Reader", name := "ends", desc := "()V" } : Jvm.MethodName)) ∈ lw_all := lw_g (lw_at lw_m3 164 rfl) rfl
theorem q760 : (Jvm.Cond.privateMethod ({ cls := "SafeBuckets$Reader", name := "ends", desc := "()V" } : Jvm.MethodName)) ∈ lw_tbl := lw_at lw_m3 165 rfl
theorem q761 : (Jvm.Cond.instanceMethod ({ cls := "SafeBuckets$Reader", name := "ends", desc := "()V" } : Jvm.MethodName)) ∈ lw_all := lw_g (lw_at lw_m3 166 rfl) rfl
theorem q762 : (Jvm.Cond.code ({ cls := "SafeBuckets$Reader", name := "ends", desc := "()V" } : Jvm.MethodName) prog_10_method_5_code (1 : Nat) (Option.none : Option Jvm.ClassFile.FieldType)) ∈ lw_all := lw_g (lw_at lw_m3 167 rfl) rfl
theorem q763 : (Jvm.Cond.methodLink "SafeBuckets$Reader" (109 : Nat) ({ cls := "SafeBuckets$Book", name := "isWhole", desc := "()Z" } : Jvm.MethodName)) ∈ lw_all := lw_g (lw_at lw_m3 168 rfl) rfl
theorem q770 : (Jvm.Cond.instanceMethod ({ cls := "SafeBuckets$Reader", name := "where", desc := "()LSafeBuckets$Where;" } : Jvm.MethodName)) ∈ lw_all := lw_g (lw_at lw_m3 175 rfl) rfl
theorem q771 : (Jvm.Cond.selects "SafeBuckets$Reader" ({ cls := "SafeBuckets$Reader", name := "where", desc := "()LSafeBuckets$Where;" } : Jvm.MethodName) ({ cls := "SafeBuckets$Reader", name := "where", desc := "()LSafeBuckets$Where;" } : Jvm.MethodName)) ∈ lw_all := lw_g (lw_at lw_m3 176 rfl) rfl
theorem q772 : (Jvm.Cond.code ({ cls := "SafeBuckets$Reader", name := "where", desc := "()LSafeBuckets$Where;" } : Jvm.MethodName) prog_10_method_11_code (4 : Nat) (Option.some (Jvm.ClassFile.FieldType.object "SafeBuckets$Where"))) ∈ lw_all := lw_g (lw_at lw_m3 177 rfl) rfl
theorem q773 : (Jvm.Cond.classLink "SafeBuckets$Reader" (113 : Nat) "SafeBuckets$Where") ∈ lw_all := lw_g (lw_at lw_m3 178 rfl) rfl
theorem q775 : (Jvm.Cond.methodLinkNest "SafeBuckets$Reader" (137 : Nat) ({ cls := "SafeBuckets$Where", name := "<init>", desc := "()V" } : Jvm.MethodName) "SafeBuckets") ∈ lw_tbl := lw_at lw_m3 180 rfl
theorem q783 : (Jvm.Cond.fieldLinkNest "SafeBuckets$Reader" (143 : Nat) "SafeBuckets$Where" "terms" "[LSafeBuckets$Term;" "SafeBuckets") ∈ lw_tbl := lw_at lw_m3 188 rfl
theorem q786 : (Jvm.Cond.fieldLinkNest "SafeBuckets$Reader" (139 : Nat) "SafeBuckets$Where" "many" "I" "SafeBuckets") ∈ lw_tbl := lw_at lw_m3 191 rfl
theorem q792 : (Jvm.Cond.classLink "SafeBuckets$Reader" (124 : Nat) "SafeBuckets$Term") ∈ lw_all := lw_g (lw_at lw_m3 197 rfl) rfl
theorem q794 : (Jvm.Cond.methodLinkNest "SafeBuckets$Reader" (138 : Nat) ({ cls := "SafeBuckets$Term", name := "<init>", desc := "()V" } : Jvm.MethodName) "SafeBuckets") ∈ lw_tbl := lw_at lw_m3 199 rfl
theorem q801 : (Jvm.Cond.fieldLinkNest "SafeBuckets$Reader" (123 : Nat) "SafeBuckets$Term" "units" "[LSafeBuckets$Unit;" "SafeBuckets") ∈ lw_tbl := lw_at lw_m3 206 rfl
theorem q804 : (Jvm.Cond.fieldLinkNest "SafeBuckets$Reader" (129 : Nat) "SafeBuckets$Term" "many" "I" "SafeBuckets") ∈ lw_tbl := lw_at lw_m3 209 rfl
theorem q811 : (Jvm.Cond.methodLink "SafeBuckets$Reader" (140 : Nat) ({ cls := "SafeBuckets$Reader", name := "peekAt", desc := "()I" } : Jvm.MethodName)) ∈ lw_all := lw_g (lw_at lw_m3 216 rfl) rfl
theorem q812 : (Jvm.Cond.privateMethod ({ cls := "SafeBuckets$Reader", name := "peekAt", desc := "()I" } : Jvm.MethodName)) ∈ lw_tbl := lw_at lw_m3 217 rfl
theorem q813 : (Jvm.Cond.instanceMethod ({ cls := "SafeBuckets$Reader", name := "peekAt", desc := "()I" } : Jvm.MethodName)) ∈ lw_all := lw_g (lw_at lw_m3 218 rfl) rfl
theorem q814 : (Jvm.Cond.code ({ cls := "SafeBuckets$Reader", name := "peekAt", desc := "()I" } : Jvm.MethodName) prog_10_method_12_code (2 : Nat) (Option.some Jvm.ClassFile.FieldType.int)) ∈ lw_all := lw_g (lw_at lw_m3 219 rfl) rfl
theorem q815 : (Jvm.Cond.methodLink "SafeBuckets$Reader" (147 : Nat) ({ cls := "SafeBuckets$Reader", name := "unit", desc := "(LSafeBuckets$Where;LSafeBuckets$Term;)V" } : Jvm.MethodName)) ∈ lw_all := lw_g (lw_at lw_m3 220 rfl) rfl
theorem q816 : (Jvm.Cond.privateMethod ({ cls := "SafeBuckets$Reader", name := "unit", desc := "(LSafeBuckets$Where;LSafeBuckets$Term;)V" } : Jvm.MethodName)) ∈ lw_tbl := lw_at lw_m3 221 rfl
theorem q817 : (Jvm.Cond.instanceMethod ({ cls := "SafeBuckets$Reader", name := "unit", desc := "(LSafeBuckets$Where;LSafeBuckets$Term;)V" } : Jvm.MethodName)) ∈ lw_all := lw_g (lw_at lw_m3 222 rfl) rfl
theorem q818 : (Jvm.Cond.code ({ cls := "SafeBuckets$Reader", name := "unit", desc := "(LSafeBuckets$Where;LSafeBuckets$Term;)V" } : Jvm.MethodName) prog_10_method_10_code (6 : Nat) (Option.none : Option Jvm.ClassFile.FieldType)) ∈ lw_all := lw_g (lw_at lw_m3 223 rfl) rfl
theorem q819 : (Jvm.Cond.methodLink "SafeBuckets$Reader" (112 : Nat) ({ cls := "SafeBuckets$Where", name := "size", desc := "()I" } : Jvm.MethodName)) ∈ lw_all := lw_g (lw_at lw_m3 224 rfl) rfl
theorem q827 : (Jvm.Cond.methodLink "SafeBuckets$Reader" (117 : Nat) ({ cls := "SafeBuckets$Sign", name := "of", desc := "(I)LSafeBuckets$Sign;" } : Jvm.MethodName)) ∈ lw_all := lw_g (lw_at lw_m3 232 rfl) rfl
theorem q838 : (Jvm.Cond.classLink "SafeBuckets$Reader" (130 : Nat) "SafeBuckets$Unit") ∈ lw_all := lw_g (lw_at lw_m4 3 rfl) rfl
theorem q840 : (Jvm.Cond.methodLink "SafeBuckets$Reader" (134 : Nat) ({ cls := "SafeBuckets$Unit", name := "<init>", desc := "(ILSafeBuckets$Sign;I)V" } : Jvm.MethodName)) ∈ lw_all := lw_g (lw_at lw_m4 5 rfl) rfl
theorem q1353 : (Jvm.Cond.selects "SafeBuckets$Reader" ({ cls := "java/lang/Object", name := "getClass", desc := "()Ljava/lang/Class;" } : Jvm.MethodName) ({ cls := "java/lang/Object", name := "getClass", desc := "()Ljava/lang/Class;" } : Jvm.MethodName)) ∈ lw_all := lw_g (lw_at lw_m6 38 rfl) rfl
theorem q2155 : (Jvm.Cond.castable "SafeBuckets$Reader" "java/lang/Object") ∈ lw_tbl := lw_at lw_m9 120 rfl
theorem q2189 : (Jvm.Cond.fieldLinkNest "SafeBuckets$Reader" (132 : Nat) "SafeBuckets$Sign" "number" "I" "SafeBuckets") ∈ lw_tbl := lw_at lw_m9 154 rfl
theorem in_X10 : ∀ w ∈ wsX100, w ∈ lw_all := lw_in wsX100 [493, 495] (by decide +kernel) (by decide +kernel)

/-! SafeBuckets$Book -/
set_option maxRecDepth 100000
def RX11 : String := "SafeBuckets$Book"
def TX11 : u_T := fun k => match k with
  | 0 => ("SafeBuckets$Book", "tables", "[LSafeBuckets$ToldTable;", true)
  | 1 => ("SafeBuckets$Book", "lines", "[LSafeBuckets$Line;", true)
  | 2 => ("SafeBuckets$Book", "rules", "LSafeBuckets$Rules;", false)
  | 3 => ("SafeBuckets$Book", "many", "I", false)
  | _ => ("SafeBuckets$Book", "lineMany", "I", false)
def tyX11 : Nat → FieldType := fun k => match k with
  | 0 => .array (.object "SafeBuckets$ToldTable")
  | 1 => .array (.object "SafeBuckets$Line")
  | 2 => .object "SafeBuckets$Rules"
  | 3 => .int
  | _ => .int
abbrev wsX110 : List Cond := u_ws RX11 TX11 5
theorem nmX11 : ∀ a, a < 5 → ∀ b, b < 5 → a ≠ b → (TX11 a).2.1 ≠ (TX11 b).2.1 := by decide +kernel
theorem tyX11_ok : ∀ k, k < 5 → parseFieldDescriptor (TX11 k).2.2.1 = some (tyX11 k) := by decide +kernel
abbrev cX11_init : ByteArray := prog_2_method_1_code
def yX11_init : MethodName := ⟨RX11, "<init>", "()V"⟩
def dkwX11_init_0 : List UInt8 := [42, 183, 0, 3, 42, 6, 189, 0, 9, 181, 0, 11, 42, 16, 20, 189, 0, 17, 181, 0, 19, 177]
abbrev dktX11_init_0 : List UInt8 := dkwX11_init_0 ++ []
theorem dksX11_init_0 : cX11_init.data.toList.drop 0 = dktX11_init_0 := by decide +kernel
theorem dX11_init_0 : decode cX11_init 0 = .ok (.aload_n 0, 1) := dk_42 (dk_at dksX11_init_0 0 rfl rfl)
theorem dX11_init_1 : decode cX11_init 1 = .ok (.invokespecial 3, 3) := dk_183 0 3 (dk_at dksX11_init_0 1 rfl rfl)
theorem dX11_init_4 : decode cX11_init 4 = .ok (.aload_n 0, 1) := dk_42 (dk_at dksX11_init_0 4 rfl rfl)
theorem dX11_init_5 : decode cX11_init 5 = .ok (.iconst 3, 1) := dk_6 (dk_at dksX11_init_0 5 rfl rfl)
theorem dX11_init_6 : decode cX11_init 6 = .ok (.anewarray 9, 3) := dk_189 0 9 (dk_at dksX11_init_0 6 rfl rfl)
theorem dX11_init_9 : decode cX11_init 9 = .ok (.putfield 11, 3) := dk_181 0 11 (dk_at dksX11_init_0 9 rfl rfl)
theorem dX11_init_12 : decode cX11_init 12 = .ok (.aload_n 0, 1) := dk_42 (dk_at dksX11_init_0 12 rfl rfl)
theorem dX11_init_13 : decode cX11_init 13 = .ok (.bipush 20, 2) := dk_16 20 (dk_at dksX11_init_0 13 rfl rfl)
theorem dX11_init_15 : decode cX11_init 15 = .ok (.anewarray 17, 3) := dk_189 0 17 (dk_at dksX11_init_0 15 rfl rfl)
theorem dX11_init_18 : decode cX11_init 18 = .ok (.putfield 19, 3) := dk_181 0 19 (dk_at dksX11_init_0 18 rfl rfl)
theorem dX11_init_21 : decode cX11_init 21 = .ok (.return_, 1) := dk_177 (dk_at dksX11_init_0 21 rfl rfl)
abbrev cX11_isWhole : ByteArray := prog_2_method_2_code
def yX11_isWhole : MethodName := ⟨RX11, "isWhole", "()Z"⟩
def dkwX11_isWhole_4 : List UInt8 := [158, 0, 7, 4, 167, 0, 4, 3, 172]
abbrev dktX11_isWhole_4 : List UInt8 := dkwX11_isWhole_4 ++ []
def dkwX11_isWhole_3 : List UInt8 := [162, 0, 10, 44, 5, 46, 29, 161, 0, 5, 3, 172, 132, 1, 1, 167, 255, 193, 42, 180, 0, 38]
abbrev dktX11_isWhole_3 : List UInt8 := dkwX11_isWhole_3 ++ dktX11_isWhole_4
def dkwX11_isWhole_2 : List UInt8 := [161, 0, 5, 3, 172, 42, 180, 0, 11, 44, 3, 46, 50, 180, 0, 41, 3, 46, 62, 44, 4, 46, 29]
abbrev dktX11_isWhole_2 : List UInt8 := dkwX11_isWhole_2 ++ dktX11_isWhole_3
def dkwX11_isWhole_1 : List UInt8 := [180, 0, 30, 162, 0, 61, 42, 180, 0, 19, 27, 50, 180, 0, 34, 77, 44, 3, 46, 42, 180, 0, 38]
abbrev dktX11_isWhole_1 : List UInt8 := dkwX11_isWhole_1 ++ dktX11_isWhole_2
def dkwX11_isWhole_0 : List UInt8 := [42, 180, 0, 23, 199, 0, 14, 42, 187, 0, 27, 89, 183, 0, 29, 181, 0, 23, 3, 60, 27, 42]
abbrev dktX11_isWhole_0 : List UInt8 := dkwX11_isWhole_0 ++ dktX11_isWhole_1
theorem dksX11_isWhole_0 : cX11_isWhole.data.toList.drop 0 = dktX11_isWhole_0 := by decide +kernel
theorem dksX11_isWhole_1 : cX11_isWhole.data.toList.drop 22 = dktX11_isWhole_1 := dk_seg dksX11_isWhole_0 22 rfl rfl
theorem dksX11_isWhole_2 : cX11_isWhole.data.toList.drop 45 = dktX11_isWhole_2 := dk_seg dksX11_isWhole_1 23 rfl rfl
theorem dksX11_isWhole_3 : cX11_isWhole.data.toList.drop 68 = dktX11_isWhole_3 := dk_seg dksX11_isWhole_2 23 rfl rfl
theorem dksX11_isWhole_4 : cX11_isWhole.data.toList.drop 90 = dktX11_isWhole_4 := dk_seg dksX11_isWhole_3 22 rfl rfl
theorem dX11_isWhole_0 : decode cX11_isWhole 0 = .ok (.aload_n 0, 1) := dk_42 (dk_at dksX11_isWhole_0 0 rfl rfl)
theorem dX11_isWhole_1 : decode cX11_isWhole 1 = .ok (.getfield 23, 3) := dk_180 0 23 (dk_at dksX11_isWhole_0 1 rfl rfl)
theorem dX11_isWhole_4 : decode cX11_isWhole 4 = .ok (.ifnonnull 14, 3) := dk_199 0 14 (dk_at dksX11_isWhole_0 4 rfl rfl)
theorem dX11_isWhole_7 : decode cX11_isWhole 7 = .ok (.aload_n 0, 1) := dk_42 (dk_at dksX11_isWhole_0 7 rfl rfl)
theorem dX11_isWhole_8 : decode cX11_isWhole 8 = .ok (.new 27, 3) := dk_187 0 27 (dk_at dksX11_isWhole_0 8 rfl rfl)
theorem dX11_isWhole_11 : decode cX11_isWhole 11 = .ok (.dup, 1) := dk_89 (dk_at dksX11_isWhole_0 11 rfl rfl)
theorem dX11_isWhole_12 : decode cX11_isWhole 12 = .ok (.invokespecial 29, 3) := dk_183 0 29 (dk_at dksX11_isWhole_0 12 rfl rfl)
theorem dX11_isWhole_15 : decode cX11_isWhole 15 = .ok (.putfield 23, 3) := dk_181 0 23 (dk_at dksX11_isWhole_0 15 rfl rfl)
theorem dX11_isWhole_18 : decode cX11_isWhole 18 = .ok (.iconst 0, 1) := dk_3 (dk_at dksX11_isWhole_0 18 rfl rfl)
theorem dX11_isWhole_19 : decode cX11_isWhole 19 = .ok (.istore_n 1, 1) := dk_60 (dk_at dksX11_isWhole_0 19 rfl rfl)
theorem dX11_isWhole_20 : decode cX11_isWhole 20 = .ok (.iload_n 1, 1) := dk_27 (dk_at dksX11_isWhole_0 20 rfl rfl)
theorem dX11_isWhole_21 : decode cX11_isWhole 21 = .ok (.aload_n 0, 1) := dk_42 (dk_at dksX11_isWhole_0 21 rfl rfl)
theorem dX11_isWhole_22 : decode cX11_isWhole 22 = .ok (.getfield 30, 3) := dk_180 0 30 (dk_at dksX11_isWhole_1 0 rfl rfl)
theorem dX11_isWhole_25 : decode cX11_isWhole 25 = .ok (.if_icmp .ge 61, 3) := dk_162 0 61 (dk_at dksX11_isWhole_1 3 rfl rfl)
theorem dX11_isWhole_28 : decode cX11_isWhole 28 = .ok (.aload_n 0, 1) := dk_42 (dk_at dksX11_isWhole_1 6 rfl rfl)
theorem dX11_isWhole_29 : decode cX11_isWhole 29 = .ok (.getfield 19, 3) := dk_180 0 19 (dk_at dksX11_isWhole_1 7 rfl rfl)
theorem dX11_isWhole_32 : decode cX11_isWhole 32 = .ok (.iload_n 1, 1) := dk_27 (dk_at dksX11_isWhole_1 10 rfl rfl)
theorem dX11_isWhole_33 : decode cX11_isWhole 33 = .ok (.aaload, 1) := dk_50 (dk_at dksX11_isWhole_1 11 rfl rfl)
theorem dX11_isWhole_34 : decode cX11_isWhole 34 = .ok (.getfield 34, 3) := dk_180 0 34 (dk_at dksX11_isWhole_1 12 rfl rfl)
theorem dX11_isWhole_37 : decode cX11_isWhole 37 = .ok (.astore_n 2, 1) := dk_77 (dk_at dksX11_isWhole_1 15 rfl rfl)
theorem dX11_isWhole_38 : decode cX11_isWhole 38 = .ok (.aload_n 2, 1) := dk_44 (dk_at dksX11_isWhole_1 16 rfl rfl)
theorem dX11_isWhole_39 : decode cX11_isWhole 39 = .ok (.iconst 0, 1) := dk_3 (dk_at dksX11_isWhole_1 17 rfl rfl)
theorem dX11_isWhole_40 : decode cX11_isWhole 40 = .ok (.iaload, 1) := dk_46 (dk_at dksX11_isWhole_1 18 rfl rfl)
theorem dX11_isWhole_41 : decode cX11_isWhole 41 = .ok (.aload_n 0, 1) := dk_42 (dk_at dksX11_isWhole_1 19 rfl rfl)
theorem dX11_isWhole_42 : decode cX11_isWhole 42 = .ok (.getfield 38, 3) := dk_180 0 38 (dk_at dksX11_isWhole_1 20 rfl rfl)
theorem dX11_isWhole_45 : decode cX11_isWhole 45 = .ok (.if_icmp .lt 5, 3) := dk_161 0 5 (dk_at dksX11_isWhole_2 0 rfl rfl)
theorem dX11_isWhole_48 : decode cX11_isWhole 48 = .ok (.iconst 0, 1) := dk_3 (dk_at dksX11_isWhole_2 3 rfl rfl)
theorem dX11_isWhole_49 : decode cX11_isWhole 49 = .ok (.ireturn, 1) := dk_172 (dk_at dksX11_isWhole_2 4 rfl rfl)
theorem dX11_isWhole_50 : decode cX11_isWhole 50 = .ok (.aload_n 0, 1) := dk_42 (dk_at dksX11_isWhole_2 5 rfl rfl)
theorem dX11_isWhole_51 : decode cX11_isWhole 51 = .ok (.getfield 11, 3) := dk_180 0 11 (dk_at dksX11_isWhole_2 6 rfl rfl)
theorem dX11_isWhole_54 : decode cX11_isWhole 54 = .ok (.aload_n 2, 1) := dk_44 (dk_at dksX11_isWhole_2 9 rfl rfl)
theorem dX11_isWhole_55 : decode cX11_isWhole 55 = .ok (.iconst 0, 1) := dk_3 (dk_at dksX11_isWhole_2 10 rfl rfl)
theorem dX11_isWhole_56 : decode cX11_isWhole 56 = .ok (.iaload, 1) := dk_46 (dk_at dksX11_isWhole_2 11 rfl rfl)
theorem dX11_isWhole_57 : decode cX11_isWhole 57 = .ok (.aaload, 1) := dk_50 (dk_at dksX11_isWhole_2 12 rfl rfl)
theorem dX11_isWhole_58 : decode cX11_isWhole 58 = .ok (.getfield 41, 3) := dk_180 0 41 (dk_at dksX11_isWhole_2 13 rfl rfl)
theorem dX11_isWhole_61 : decode cX11_isWhole 61 = .ok (.iconst 0, 1) := dk_3 (dk_at dksX11_isWhole_2 16 rfl rfl)
theorem dX11_isWhole_62 : decode cX11_isWhole 62 = .ok (.iaload, 1) := dk_46 (dk_at dksX11_isWhole_2 17 rfl rfl)
theorem dX11_isWhole_63 : decode cX11_isWhole 63 = .ok (.istore_n 3, 1) := dk_62 (dk_at dksX11_isWhole_2 18 rfl rfl)
theorem dX11_isWhole_64 : decode cX11_isWhole 64 = .ok (.aload_n 2, 1) := dk_44 (dk_at dksX11_isWhole_2 19 rfl rfl)
theorem dX11_isWhole_65 : decode cX11_isWhole 65 = .ok (.iconst 1, 1) := dk_4 (dk_at dksX11_isWhole_2 20 rfl rfl)
theorem dX11_isWhole_66 : decode cX11_isWhole 66 = .ok (.iaload, 1) := dk_46 (dk_at dksX11_isWhole_2 21 rfl rfl)
theorem dX11_isWhole_67 : decode cX11_isWhole 67 = .ok (.iload_n 3, 1) := dk_29 (dk_at dksX11_isWhole_2 22 rfl rfl)
theorem dX11_isWhole_68 : decode cX11_isWhole 68 = .ok (.if_icmp .ge 10, 3) := dk_162 0 10 (dk_at dksX11_isWhole_3 0 rfl rfl)
theorem dX11_isWhole_71 : decode cX11_isWhole 71 = .ok (.aload_n 2, 1) := dk_44 (dk_at dksX11_isWhole_3 3 rfl rfl)
theorem dX11_isWhole_72 : decode cX11_isWhole 72 = .ok (.iconst 2, 1) := dk_5 (dk_at dksX11_isWhole_3 4 rfl rfl)
theorem dX11_isWhole_73 : decode cX11_isWhole 73 = .ok (.iaload, 1) := dk_46 (dk_at dksX11_isWhole_3 5 rfl rfl)
theorem dX11_isWhole_74 : decode cX11_isWhole 74 = .ok (.iload_n 3, 1) := dk_29 (dk_at dksX11_isWhole_3 6 rfl rfl)
theorem dX11_isWhole_75 : decode cX11_isWhole 75 = .ok (.if_icmp .lt 5, 3) := dk_161 0 5 (dk_at dksX11_isWhole_3 7 rfl rfl)
theorem dX11_isWhole_78 : decode cX11_isWhole 78 = .ok (.iconst 0, 1) := dk_3 (dk_at dksX11_isWhole_3 10 rfl rfl)
theorem dX11_isWhole_79 : decode cX11_isWhole 79 = .ok (.ireturn, 1) := dk_172 (dk_at dksX11_isWhole_3 11 rfl rfl)
theorem dX11_isWhole_80 : decode cX11_isWhole 80 = .ok (.iinc 1 1, 3) := dk_132 1 1 (dk_at dksX11_isWhole_3 12 rfl rfl)
theorem dX11_isWhole_83 : decode cX11_isWhole 83 = .ok (.goto (-63), 3) := dk_167 255 193 (dk_at dksX11_isWhole_3 15 rfl rfl)
theorem dX11_isWhole_86 : decode cX11_isWhole 86 = .ok (.aload_n 0, 1) := dk_42 (dk_at dksX11_isWhole_3 18 rfl rfl)
theorem dX11_isWhole_87 : decode cX11_isWhole 87 = .ok (.getfield 38, 3) := dk_180 0 38 (dk_at dksX11_isWhole_3 19 rfl rfl)
theorem dX11_isWhole_90 : decode cX11_isWhole 90 = .ok (.ifCond .le 7, 3) := dk_158 0 7 (dk_at dksX11_isWhole_4 0 rfl rfl)
theorem dX11_isWhole_93 : decode cX11_isWhole 93 = .ok (.iconst 1, 1) := dk_4 (dk_at dksX11_isWhole_4 3 rfl rfl)
theorem dX11_isWhole_94 : decode cX11_isWhole 94 = .ok (.goto 4, 3) := dk_167 0 4 (dk_at dksX11_isWhole_4 4 rfl rfl)
theorem dX11_isWhole_97 : decode cX11_isWhole 97 = .ok (.iconst 0, 1) := dk_3 (dk_at dksX11_isWhole_4 7 rfl rfl)
theorem dX11_isWhole_98 : decode cX11_isWhole 98 = .ok (.ireturn, 1) := dk_172 (dk_at dksX11_isWhole_4 8 rfl rfl)
abbrev cX11_valuesOf : ByteArray := prog_2_method_3_code
def yX11_valuesOf : MethodName := ⟨RX11, "valuesOf", "(I)I"⟩
def dkwX11_valuesOf_0 : List UInt8 := [42, 180, 0, 11, 27, 50, 180, 0, 41, 3, 46, 172]
abbrev dktX11_valuesOf_0 : List UInt8 := dkwX11_valuesOf_0 ++ []
theorem dksX11_valuesOf_0 : cX11_valuesOf.data.toList.drop 0 = dktX11_valuesOf_0 := by decide +kernel
theorem dX11_valuesOf_0 : decode cX11_valuesOf 0 = .ok (.aload_n 0, 1) := dk_42 (dk_at dksX11_valuesOf_0 0 rfl rfl)
theorem dX11_valuesOf_1 : decode cX11_valuesOf 1 = .ok (.getfield 11, 3) := dk_180 0 11 (dk_at dksX11_valuesOf_0 1 rfl rfl)
theorem dX11_valuesOf_4 : decode cX11_valuesOf 4 = .ok (.iload_n 1, 1) := dk_27 (dk_at dksX11_valuesOf_0 4 rfl rfl)
theorem dX11_valuesOf_5 : decode cX11_valuesOf 5 = .ok (.aaload, 1) := dk_50 (dk_at dksX11_valuesOf_0 5 rfl rfl)
theorem dX11_valuesOf_6 : decode cX11_valuesOf 6 = .ok (.getfield 41, 3) := dk_180 0 41 (dk_at dksX11_valuesOf_0 6 rfl rfl)
theorem dX11_valuesOf_9 : decode cX11_valuesOf 9 = .ok (.iconst 0, 1) := dk_3 (dk_at dksX11_valuesOf_0 9 rfl rfl)
theorem dX11_valuesOf_10 : decode cX11_valuesOf 10 = .ok (.iaload, 1) := dk_46 (dk_at dksX11_valuesOf_0 10 rfl rfl)
theorem dX11_valuesOf_11 : decode cX11_valuesOf 11 = .ok (.ireturn, 1) := dk_172 (dk_at dksX11_valuesOf_0 11 rfl rfl)
theorem q128 : (Jvm.Cond.initialized "SafeBuckets$Book") ∈ lw_all := lw_g (lw_at lw_m1 13 rfl) rfl
theorem q503 : (Jvm.Cond.instantiable "SafeBuckets$Book" (5 : Nat)) ∈ lw_all := lw_g (lw_at lw_m2 148 rfl) rfl
theorem q505 : (Jvm.Cond.instanceMethod ({ cls := "SafeBuckets$Book", name := "<init>", desc := "()V" } : Jvm.MethodName)) ∈ lw_all := lw_g (lw_at lw_m2 150 rfl) rfl
theorem q506 : (Jvm.Cond.code ({ cls := "SafeBuckets$Book", name := "<init>", desc := "()V" } : Jvm.MethodName) prog_2_method_1_code (1 : Nat) (Option.none : Option Jvm.ClassFile.FieldType)) ∈ lw_all := lw_g (lw_at lw_m2 151 rfl) rfl
theorem q507 : (Jvm.Cond.methodLink "SafeBuckets$Book" (3 : Nat) ({ cls := "java/lang/Object", name := "<init>", desc := "()V" } : Jvm.MethodName)) ∈ lw_all := lw_g (lw_at lw_m2 152 rfl) rfl
theorem q508 : (Jvm.Cond.classLink "SafeBuckets$Book" (9 : Nat) "SafeBuckets$ToldTable") ∈ lw_all := lw_g (lw_at lw_m2 153 rfl) rfl
theorem q510 : (Jvm.Cond.classLink "SafeBuckets$Book" (17 : Nat) "SafeBuckets$Line") ∈ lw_all := lw_g (lw_at lw_m2 155 rfl) rfl
theorem q512 : (Jvm.Cond.fieldLink "SafeBuckets$Book" (11 : Nat) "SafeBuckets$Book" "tables" "[LSafeBuckets$ToldTable;") ∈ lw_all := lw_g (lw_at lw_m2 157 rfl) rfl
theorem q514 : (Jvm.Cond.fieldLink "SafeBuckets$Book" (19 : Nat) "SafeBuckets$Book" "lines" "[LSafeBuckets$Line;") ∈ lw_all := lw_g (lw_at lw_m2 159 rfl) rfl
theorem q517 : (Jvm.Cond.fieldLink "SafeBuckets$Book" (23 : Nat) "SafeBuckets$Book" "rules" "LSafeBuckets$Rules;") ∈ lw_all := lw_g (lw_at lw_m2 162 rfl) rfl
theorem q523 : (Jvm.Cond.fieldLink "SafeBuckets$Book" (38 : Nat) "SafeBuckets$Book" "many" "I") ∈ lw_all := lw_g (lw_at lw_m2 168 rfl) rfl
theorem q526 : (Jvm.Cond.fieldLink "SafeBuckets$Book" (30 : Nat) "SafeBuckets$Book" "lineMany" "I") ∈ lw_all := lw_g (lw_at lw_m2 171 rfl) rfl
theorem q529 : (Jvm.Cond.laysFinal "SafeBuckets$Book" "SafeBuckets$Book" "tables" "[LSafeBuckets$ToldTable;") ∈ lw_all := lw_g (lw_at lw_m2 174 rfl) rfl
theorem q530 : (Jvm.Cond.soleField "SafeBuckets$Book" "tables") ∈ lw_all := lw_g (lw_at lw_m2 175 rfl) rfl
theorem q531 : (Jvm.Cond.laysFinal "SafeBuckets$Book" "SafeBuckets$Book" "lines" "[LSafeBuckets$Line;") ∈ lw_all := lw_g (lw_at lw_m2 176 rfl) rfl
theorem q532 : (Jvm.Cond.soleField "SafeBuckets$Book" "lines") ∈ lw_all := lw_g (lw_at lw_m2 177 rfl) rfl
theorem q533 : (Jvm.Cond.lays "SafeBuckets$Book" "SafeBuckets$Book" "rules" "LSafeBuckets$Rules;") ∈ lw_all := lw_g (lw_at lw_m2 178 rfl) rfl
theorem q534 : (Jvm.Cond.soleField "SafeBuckets$Book" "rules") ∈ lw_all := lw_g (lw_at lw_m2 179 rfl) rfl
theorem q535 : (Jvm.Cond.lays "SafeBuckets$Book" "SafeBuckets$Book" "many" "I") ∈ lw_all := lw_g (lw_at lw_m2 180 rfl) rfl
theorem q536 : (Jvm.Cond.soleField "SafeBuckets$Book" "many") ∈ lw_all := lw_g (lw_at lw_m2 181 rfl) rfl
theorem q537 : (Jvm.Cond.lays "SafeBuckets$Book" "SafeBuckets$Book" "lineMany" "I") ∈ lw_all := lw_g (lw_at lw_m2 182 rfl) rfl
theorem q538 : (Jvm.Cond.soleField "SafeBuckets$Book" "lineMany") ∈ lw_all := lw_g (lw_at lw_m2 183 rfl) rfl
theorem q539 : (Jvm.Cond.superclass "SafeBuckets$Book" "java/lang/Object") ∈ lw_all := lw_g (lw_at lw_m2 184 rfl) rfl
theorem q584 : (Jvm.Cond.fieldLink "SafeBuckets$Book" (34 : Nat) "SafeBuckets$Line" "values" "[I") ∈ lw_all := lw_g (lw_at lw_m2 229 rfl) rfl
theorem q586 : (Jvm.Cond.fieldLink "SafeBuckets$Book" (41 : Nat) "SafeBuckets$ToldTable" "values" "[I") ∈ lw_all := lw_g (lw_at lw_m2 231 rfl) rfl
theorem q764 : (Jvm.Cond.instanceMethod ({ cls := "SafeBuckets$Book", name := "isWhole", desc := "()Z" } : Jvm.MethodName)) ∈ lw_all := lw_g (lw_at lw_m3 169 rfl) rfl
theorem q765 : (Jvm.Cond.selects "SafeBuckets$Book" ({ cls := "SafeBuckets$Book", name := "isWhole", desc := "()Z" } : Jvm.MethodName) ({ cls := "SafeBuckets$Book", name := "isWhole", desc := "()Z" } : Jvm.MethodName)) ∈ lw_all := lw_g (lw_at lw_m3 170 rfl) rfl
theorem q766 : (Jvm.Cond.code ({ cls := "SafeBuckets$Book", name := "isWhole", desc := "()Z" } : Jvm.MethodName) prog_2_method_2_code (4 : Nat) (Option.some Jvm.ClassFile.FieldType.boolean)) ∈ lw_all := lw_g (lw_at lw_m3 171 rfl) rfl
theorem q767 : (Jvm.Cond.classLink "SafeBuckets$Book" (27 : Nat) "SafeBuckets$Rules") ∈ lw_all := lw_g (lw_at lw_m3 172 rfl) rfl
theorem q768 : (Jvm.Cond.methodLink "SafeBuckets$Book" (29 : Nat) ({ cls := "SafeBuckets$Rules", name := "<init>", desc := "()V" } : Jvm.MethodName)) ∈ lw_all := lw_g (lw_at lw_m3 173 rfl) rfl
theorem q864 : (Jvm.Cond.instanceMethod ({ cls := "SafeBuckets$Book", name := "valuesOf", desc := "(I)I" } : Jvm.MethodName)) ∈ lw_all := lw_g (lw_at lw_m4 29 rfl) rfl
theorem q865 : (Jvm.Cond.selects "SafeBuckets$Book" ({ cls := "SafeBuckets$Book", name := "valuesOf", desc := "(I)I" } : Jvm.MethodName) ({ cls := "SafeBuckets$Book", name := "valuesOf", desc := "(I)I" } : Jvm.MethodName)) ∈ lw_all := lw_g (lw_at lw_m4 30 rfl) rfl
theorem q866 : (Jvm.Cond.code ({ cls := "SafeBuckets$Book", name := "valuesOf", desc := "(I)I" } : Jvm.MethodName) prog_2_method_3_code (2 : Nat) (Option.some Jvm.ClassFile.FieldType.int)) ∈ lw_all := lw_g (lw_at lw_m4 31 rfl) rfl
theorem q1348 : (Jvm.Cond.selects "SafeBuckets$Book" ({ cls := "java/lang/Object", name := "getClass", desc := "()Ljava/lang/Class;" } : Jvm.MethodName) ({ cls := "java/lang/Object", name := "getClass", desc := "()Ljava/lang/Class;" } : Jvm.MethodName)) ∈ lw_all := lw_g (lw_at lw_m6 33 rfl) rfl
theorem q2156 : (Jvm.Cond.castable "SafeBuckets$Book" "java/lang/Object") ∈ lw_tbl := lw_at lw_m9 121 rfl
theorem in_X11 : ∀ w ∈ wsX110, w ∈ lw_all := lw_in wsX110 [529, 531, 533, 535, 537] (by decide +kernel) (by decide +kernel)

/-! SafeBuckets$Wrong -/
set_option maxRecDepth 100000
def RX12 : String := "SafeBuckets$Wrong"
def TX12 : u_T := fun k => match k with
  | 0 => ("java/lang/Throwable", "cause", "Ljava/lang/Throwable;", false)
  | 1 => ("java/lang/Throwable", "stackTrace", "[Ljava/lang/StackTraceElement;", false)
  | 2 => ("java/lang/Throwable", "suppressedExceptions", "Ljava/util/List;", false)
  | 3 => ("java/lang/Throwable", "detailMessage", "Ljava/lang/String;", false)
  | 4 => ("java/lang/Throwable", "backtrace", "Ljava/lang/Object;", false)
  | 5 => ("java/lang/Throwable", "depth", "I", false)
  | _ => ("SafeBuckets$Wrong", "at", "I", true)
def tyX12 : Nat → FieldType := fun k => match k with
  | 0 => .object "java/lang/Throwable"
  | 1 => .array (.object "java/lang/StackTraceElement")
  | 2 => .object "java/util/List"
  | 3 => .object "java/lang/String"
  | 4 => .object "java/lang/Object"
  | 5 => .int
  | _ => .int
abbrev wsX120 : List Cond := u_ws RX12 TX12 7
theorem nmX12 : ∀ a, a < 7 → ∀ b, b < 7 → a ≠ b → (TX12 a).2.1 ≠ (TX12 b).2.1 := by decide +kernel
theorem tyX12_ok : ∀ k, k < 7 → parseFieldDescriptor (TX12 k).2.2.1 = some (tyX12 k) := by decide +kernel
abbrev cX12_init : ByteArray := prog_26_method_1_code
def yX12_init : MethodName := ⟨RX12, "<init>", "(I)V"⟩
def dkwX12_init_0 : List UInt8 := [42, 1, 1, 3, 3, 183, 0, 1, 42, 27, 181, 0, 7, 177]
abbrev dktX12_init_0 : List UInt8 := dkwX12_init_0 ++ []
theorem dksX12_init_0 : cX12_init.data.toList.drop 0 = dktX12_init_0 := by decide +kernel
theorem dX12_init_0 : decode cX12_init 0 = .ok (.aload_n 0, 1) := dk_42 (dk_at dksX12_init_0 0 rfl rfl)
theorem dX12_init_1 : decode cX12_init 1 = .ok (.aconst_null, 1) := dk_1 (dk_at dksX12_init_0 1 rfl rfl)
theorem dX12_init_2 : decode cX12_init 2 = .ok (.aconst_null, 1) := dk_1 (dk_at dksX12_init_0 2 rfl rfl)
theorem dX12_init_3 : decode cX12_init 3 = .ok (.iconst 0, 1) := dk_3 (dk_at dksX12_init_0 3 rfl rfl)
theorem dX12_init_4 : decode cX12_init 4 = .ok (.iconst 0, 1) := dk_3 (dk_at dksX12_init_0 4 rfl rfl)
theorem dX12_init_5 : decode cX12_init 5 = .ok (.invokespecial 1, 3) := dk_183 0 1 (dk_at dksX12_init_0 5 rfl rfl)
theorem dX12_init_8 : decode cX12_init 8 = .ok (.aload_n 0, 1) := dk_42 (dk_at dksX12_init_0 8 rfl rfl)
theorem dX12_init_9 : decode cX12_init 9 = .ok (.iload_n 1, 1) := dk_27 (dk_at dksX12_init_0 9 rfl rfl)
theorem dX12_init_10 : decode cX12_init 10 = .ok (.putfield 7, 3) := dk_181 0 7 (dk_at dksX12_init_0 10 rfl rfl)
theorem dX12_init_13 : decode cX12_init 13 = .ok (.return_, 1) := dk_177 (dk_at dksX12_init_0 13 rfl rfl)
theorem q129 : (Jvm.Cond.initialized "SafeBuckets$Wrong") ∈ lw_all := lw_g (lw_at lw_m1 14 rfl) rfl
theorem q352 : (Jvm.Cond.selects "SafeBuckets$Wrong" ({ cls := "java/lang/Throwable", name := "fillInStackTrace", desc := "()Ljava/lang/Throwable;" } : Jvm.MethodName) ({ cls := "java/lang/Throwable", name := "fillInStackTrace", desc := "()Ljava/lang/Throwable;" } : Jvm.MethodName)) ∈ lw_all := lw_g (lw_at lw_m1 237 rfl) rfl
theorem q553 : (Jvm.Cond.instantiable "SafeBuckets$Wrong" (7 : Nat)) ∈ lw_all := lw_g (lw_at lw_m2 198 rfl) rfl
theorem q554 : (Jvm.Cond.castable "SafeBuckets$Wrong" "SafeBuckets$Wrong") ∈ lw_tbl := lw_at lw_m2 199 rfl
theorem q555 : (Jvm.Cond.selects "SafeBuckets$Wrong" ({ cls := "java/lang/Throwable", name := "fillInStackTrace", desc := "(I)Ljava/lang/Throwable;" } : Jvm.MethodName) ({ cls := "java/lang/Throwable", name := "fillInStackTrace", desc := "(I)Ljava/lang/Throwable;" } : Jvm.MethodName)) ∈ lw_all := lw_g (lw_at lw_m2 200 rfl) rfl
theorem q556 : (Jvm.Cond.lays "SafeBuckets$Wrong" "java/lang/Throwable" "cause" "Ljava/lang/Throwable;") ∈ lw_all := lw_g (lw_at lw_m2 201 rfl) rfl
theorem q557 : (Jvm.Cond.lays "SafeBuckets$Wrong" "java/lang/Throwable" "stackTrace" "[Ljava/lang/StackTraceElement;") ∈ lw_all := lw_g (lw_at lw_m2 202 rfl) rfl
theorem q558 : (Jvm.Cond.lays "SafeBuckets$Wrong" "java/lang/Throwable" "suppressedExceptions" "Ljava/util/List;") ∈ lw_all := lw_g (lw_at lw_m2 203 rfl) rfl
theorem q559 : (Jvm.Cond.lays "SafeBuckets$Wrong" "java/lang/Throwable" "detailMessage" "Ljava/lang/String;") ∈ lw_all := lw_g (lw_at lw_m2 204 rfl) rfl
theorem q560 : (Jvm.Cond.lays "SafeBuckets$Wrong" "java/lang/Throwable" "backtrace" "Ljava/lang/Object;") ∈ lw_all := lw_g (lw_at lw_m2 205 rfl) rfl
theorem q562 : (Jvm.Cond.instanceMethod ({ cls := "SafeBuckets$Wrong", name := "<init>", desc := "(I)V" } : Jvm.MethodName)) ∈ lw_all := lw_g (lw_at lw_m2 207 rfl) rfl
theorem q563 : (Jvm.Cond.code ({ cls := "SafeBuckets$Wrong", name := "<init>", desc := "(I)V" } : Jvm.MethodName) prog_26_method_1_code (2 : Nat) (Option.none : Option Jvm.ClassFile.FieldType)) ∈ lw_all := lw_g (lw_at lw_m2 208 rfl) rfl
theorem q564 : (Jvm.Cond.methodLink "SafeBuckets$Wrong" (1 : Nat) ({ cls := "java/lang/Exception", name := "<init>", desc := "(Ljava/lang/String;Ljava/lang/Throwable;ZZ)V" } : Jvm.MethodName)) ∈ lw_all := lw_g (lw_at lw_m2 209 rfl) rfl
theorem q565 : (Jvm.Cond.fieldLink "SafeBuckets$Wrong" (7 : Nat) "SafeBuckets$Wrong" "at" "I") ∈ lw_all := lw_g (lw_at lw_m2 210 rfl) rfl
theorem q567 : (Jvm.Cond.laysFinal "SafeBuckets$Wrong" "SafeBuckets$Wrong" "at" "I") ∈ lw_all := lw_g (lw_at lw_m2 212 rfl) rfl
theorem q568 : (Jvm.Cond.soleField "SafeBuckets$Wrong" "at") ∈ lw_all := lw_g (lw_at lw_m2 213 rfl) rfl
theorem q569 : (Jvm.Cond.lays "SafeBuckets$Wrong" "java/lang/Throwable" "depth" "I") ∈ lw_all := lw_g (lw_at lw_m2 214 rfl) rfl
theorem q570 : (Jvm.Cond.superclass "SafeBuckets$Wrong" "java/lang/Exception") ∈ lw_all := lw_g (lw_at lw_m2 215 rfl) rfl
theorem q1274 : (Jvm.Cond.selects "SafeBuckets$Wrong" ({ cls := "java/lang/Throwable", name := "addSuppressed", desc := "(Ljava/lang/Throwable;)V" } : Jvm.MethodName) ({ cls := "java/lang/Throwable", name := "addSuppressed", desc := "(Ljava/lang/Throwable;)V" } : Jvm.MethodName)) ∈ lw_all := lw_g (lw_at lw_m5 199 rfl) rfl
theorem q1366 : (Jvm.Cond.selects "SafeBuckets$Wrong" ({ cls := "java/lang/Object", name := "getClass", desc := "()Ljava/lang/Class;" } : Jvm.MethodName) ({ cls := "java/lang/Object", name := "getClass", desc := "()Ljava/lang/Class;" } : Jvm.MethodName)) ∈ lw_all := lw_g (lw_at lw_m6 51 rfl) rfl
theorem q2141 : (Jvm.Cond.castable "SafeBuckets$Wrong" "java/lang/Throwable") ∈ lw_tbl := lw_at lw_m9 106 rfl
theorem q2157 : (Jvm.Cond.castable "SafeBuckets$Wrong" "java/lang/Object") ∈ lw_tbl := lw_at lw_m9 122 rfl
theorem in_X12 : ∀ w ∈ wsX120, w ∈ lw_all := lw_in wsX120 [556, 557, 558, 559, 560, 569, 567] (by decide +kernel) (by decide +kernel)

/-! SafeBuckets$Told -/
set_option maxRecDepth 100000
def RX13 : String := "SafeBuckets$Told"
abbrev cX13_init : ByteArray := prog_21_method_1_code
def yX13_init : MethodName := ⟨RX13, "<init>", "([I)V"⟩
def dkwX13_init_0 : List UInt8 := [42, 183, 0, 1, 42, 43, 181, 0, 7, 177]
abbrev dktX13_init_0 : List UInt8 := dkwX13_init_0 ++ []
theorem dksX13_init_0 : cX13_init.data.toList.drop 0 = dktX13_init_0 := by decide +kernel
theorem dX13_init_0 : decode cX13_init 0 = .ok (.aload_n 0, 1) := dk_42 (dk_at dksX13_init_0 0 rfl rfl)
theorem dX13_init_1 : decode cX13_init 1 = .ok (.invokespecial 1, 3) := dk_183 0 1 (dk_at dksX13_init_0 1 rfl rfl)
theorem dX13_init_4 : decode cX13_init 4 = .ok (.aload_n 0, 1) := dk_42 (dk_at dksX13_init_0 4 rfl rfl)
theorem dX13_init_5 : decode cX13_init 5 = .ok (.aload_n 1, 1) := dk_43 (dk_at dksX13_init_0 5 rfl rfl)
theorem dX13_init_6 : decode cX13_init 6 = .ok (.putfield 7, 3) := dk_181 0 7 (dk_at dksX13_init_0 6 rfl rfl)
theorem dX13_init_9 : decode cX13_init 9 = .ok (.return_, 1) := dk_177 (dk_at dksX13_init_0 9 rfl rfl)
abbrev cX13_isWell : ByteArray := prog_21_method_2_code
def yX13_isWell : MethodName := ⟨RX13, "isWell", "(II)Z"⟩
def dkwX13_isWell_0 : List UInt8 := [28, 155, 0, 7, 4, 167, 0, 4, 3, 172]
abbrev dktX13_isWell_0 : List UInt8 := dkwX13_isWell_0 ++ []
theorem dksX13_isWell_0 : cX13_isWell.data.toList.drop 0 = dktX13_isWell_0 := by decide +kernel
theorem dX13_isWell_0 : decode cX13_isWell 0 = .ok (.iload_n 2, 1) := dk_28 (dk_at dksX13_isWell_0 0 rfl rfl)
theorem dX13_isWell_1 : decode cX13_isWell 1 = .ok (.ifCond .lt 7, 3) := dk_155 0 7 (dk_at dksX13_isWell_0 1 rfl rfl)
theorem dX13_isWell_4 : decode cX13_isWell 4 = .ok (.iconst 1, 1) := dk_4 (dk_at dksX13_isWell_0 4 rfl rfl)
theorem dX13_isWell_5 : decode cX13_isWell 5 = .ok (.goto 4, 3) := dk_167 0 4 (dk_at dksX13_isWell_0 5 rfl rfl)
theorem dX13_isWell_8 : decode cX13_isWell 8 = .ok (.iconst 0, 1) := dk_3 (dk_at dksX13_isWell_0 8 rfl rfl)
theorem dX13_isWell_9 : decode cX13_isWell 9 = .ok (.ireturn, 1) := dk_172 (dk_at dksX13_isWell_0 9 rfl rfl)
theorem q130 : (Jvm.Cond.initialized "SafeBuckets$Told") ∈ lw_all := lw_g (lw_at lw_m1 15 rfl) rfl
theorem q580 : (Jvm.Cond.instanceMethod ({ cls := "SafeBuckets$Told", name := "<init>", desc := "([I)V" } : Jvm.MethodName)) ∈ lw_all := lw_g (lw_at lw_m2 225 rfl) rfl
theorem q581 : (Jvm.Cond.code ({ cls := "SafeBuckets$Told", name := "<init>", desc := "([I)V" } : Jvm.MethodName) prog_21_method_1_code (2 : Nat) (Option.none : Option Jvm.ClassFile.FieldType)) ∈ lw_all := lw_g (lw_at lw_m2 226 rfl) rfl
theorem q582 : (Jvm.Cond.methodLink "SafeBuckets$Told" (1 : Nat) ({ cls := "java/lang/Object", name := "<init>", desc := "()V" } : Jvm.MethodName)) ∈ lw_all := lw_g (lw_at lw_m2 227 rfl) rfl
theorem q583 : (Jvm.Cond.fieldLink "SafeBuckets$Told" (7 : Nat) "SafeBuckets$Told" "values" "[I") ∈ lw_all := lw_g (lw_at lw_m2 228 rfl) rfl
theorem q596 : (Jvm.Cond.soleField "SafeBuckets$Told" "values") ∈ lw_all := lw_g (lw_at lw_m3 1 rfl) rfl
theorem q732 : (Jvm.Cond.declares ({ cls := "SafeBuckets$Told", name := "isWell", desc := "(II)Z" } : Jvm.MethodName)) ∈ lw_tbl := lw_at lw_m3 137 rfl
theorem q738 : (Jvm.Cond.instanceMethod ({ cls := "SafeBuckets$Told", name := "isWell", desc := "(II)Z" } : Jvm.MethodName)) ∈ lw_all := lw_g (lw_at lw_m3 143 rfl) rfl
theorem q739 : (Jvm.Cond.code ({ cls := "SafeBuckets$Told", name := "isWell", desc := "(II)Z" } : Jvm.MethodName) prog_21_method_2_code (3 : Nat) (Option.some Jvm.ClassFile.FieldType.boolean)) ∈ lw_all := lw_g (lw_at lw_m3 144 rfl) rfl

/-! SafeBuckets$Clause -/
set_option maxRecDepth 100000
def RX14 : String := "SafeBuckets$Clause"
abbrev cX14_init : ByteArray := prog_4_method_1_code
def yX14_init : MethodName := ⟨RX14, "<init>", "([I)V"⟩
def dkwX14_init_0 : List UInt8 := [42, 43, 183, 0, 1, 177]
abbrev dktX14_init_0 : List UInt8 := dkwX14_init_0 ++ []
theorem dksX14_init_0 : cX14_init.data.toList.drop 0 = dktX14_init_0 := by decide +kernel
theorem dX14_init_0 : decode cX14_init 0 = .ok (.aload_n 0, 1) := dk_42 (dk_at dksX14_init_0 0 rfl rfl)
theorem dX14_init_1 : decode cX14_init 1 = .ok (.aload_n 1, 1) := dk_43 (dk_at dksX14_init_0 1 rfl rfl)
theorem dX14_init_2 : decode cX14_init 2 = .ok (.invokespecial 1, 3) := dk_183 0 1 (dk_at dksX14_init_0 2 rfl rfl)
theorem dX14_init_5 : decode cX14_init 5 = .ok (.return_, 1) := dk_177 (dk_at dksX14_init_0 5 rfl rfl)
theorem q131 : (Jvm.Cond.initialized "SafeBuckets$Clause") ∈ lw_all := lw_g (lw_at lw_m1 16 rfl) rfl
theorem q577 : (Jvm.Cond.instanceMethod ({ cls := "SafeBuckets$Clause", name := "<init>", desc := "([I)V" } : Jvm.MethodName)) ∈ lw_all := lw_g (lw_at lw_m2 222 rfl) rfl
theorem q578 : (Jvm.Cond.code ({ cls := "SafeBuckets$Clause", name := "<init>", desc := "([I)V" } : Jvm.MethodName) prog_4_method_1_code (2 : Nat) (Option.none : Option Jvm.ClassFile.FieldType)) ∈ lw_all := lw_g (lw_at lw_m2 223 rfl) rfl
theorem q579 : (Jvm.Cond.methodLink "SafeBuckets$Clause" (1 : Nat) ({ cls := "SafeBuckets$Told", name := "<init>", desc := "([I)V" } : Jvm.MethodName)) ∈ lw_all := lw_g (lw_at lw_m2 224 rfl) rfl
theorem q592 : (Jvm.Cond.sameField "SafeBuckets$Clause" "SafeBuckets$Told" "values" "[I") ∈ lw_all := lw_g (lw_at lw_m2 237 rfl) rfl
theorem q619 : (Jvm.Cond.declares ({ cls := "SafeBuckets$Clause", name := "items", desc := "()Ljava/lang/String;" } : Jvm.MethodName)) ∈ lw_tbl := lw_at lw_m3 24 rfl
theorem q620 : (Jvm.Cond.sameMethod "SafeBuckets$Clause" "SafeBuckets$Clause" "items" "()Ljava/lang/String;") ∈ lw_all := lw_g (lw_at lw_m3 25 rfl) rfl
theorem q731 : (Jvm.Cond.sameMethod "SafeBuckets$Clause" "SafeBuckets$Told" "isWell" "(II)Z") ∈ lw_all := lw_g (lw_at lw_m3 136 rfl) rfl
theorem q737 : (Jvm.Cond.superclass "SafeBuckets$Clause" "SafeBuckets$Told") ∈ lw_all := lw_g (lw_at lw_m3 142 rfl) rfl

/-! SafeBuckets$Rules -/
set_option maxRecDepth 100000
def RX15 : String := "SafeBuckets$Rules"
def TX15 : u_T := fun k => match k with
  | _ => ("SafeBuckets$Told", "values", "[I", true)
def tyX15 : Nat → FieldType := fun k => match k with
  | _ => .array .int
abbrev wsX150 : List Cond := u_ws RX15 TX15 1
theorem nmX15 : ∀ a, a < 1 → ∀ b, b < 1 → a ≠ b → (TX15 a).2.1 ≠ (TX15 b).2.1 := by decide +kernel
theorem tyX15_ok : ∀ k, k < 1 → parseFieldDescriptor (TX15 k).2.2.1 = some (tyX15 k) := by decide +kernel
abbrev cX15_init : ByteArray := prog_11_method_1_code
def yX15_init : MethodName := ⟨RX15, "<init>", "()V"⟩
def dkwX15_init_0 : List UInt8 := [42, 6, 188, 10, 89, 3, 6, 79, 89, 4, 16, 20, 79, 89, 5, 17, 3, 231, 79, 183, 0, 3, 177]
abbrev dktX15_init_0 : List UInt8 := dkwX15_init_0 ++ []
theorem dksX15_init_0 : cX15_init.data.toList.drop 0 = dktX15_init_0 := by decide +kernel
theorem dX15_init_0 : decode cX15_init 0 = .ok (.aload_n 0, 1) := dk_42 (dk_at dksX15_init_0 0 rfl rfl)
theorem dX15_init_1 : decode cX15_init 1 = .ok (.iconst 3, 1) := dk_6 (dk_at dksX15_init_0 1 rfl rfl)
theorem dX15_init_2 : decode cX15_init 2 = .ok (.newarray .int, 2) := dk_188_10 (dk_at dksX15_init_0 2 rfl rfl)
theorem dX15_init_4 : decode cX15_init 4 = .ok (.dup, 1) := dk_89 (dk_at dksX15_init_0 4 rfl rfl)
theorem dX15_init_5 : decode cX15_init 5 = .ok (.iconst 0, 1) := dk_3 (dk_at dksX15_init_0 5 rfl rfl)
theorem dX15_init_6 : decode cX15_init 6 = .ok (.iconst 3, 1) := dk_6 (dk_at dksX15_init_0 6 rfl rfl)
theorem dX15_init_7 : decode cX15_init 7 = .ok (.iastore, 1) := dk_79 (dk_at dksX15_init_0 7 rfl rfl)
theorem dX15_init_8 : decode cX15_init 8 = .ok (.dup, 1) := dk_89 (dk_at dksX15_init_0 8 rfl rfl)
theorem dX15_init_9 : decode cX15_init 9 = .ok (.iconst 1, 1) := dk_4 (dk_at dksX15_init_0 9 rfl rfl)
theorem dX15_init_10 : decode cX15_init 10 = .ok (.bipush 20, 2) := dk_16 20 (dk_at dksX15_init_0 10 rfl rfl)
theorem dX15_init_12 : decode cX15_init 12 = .ok (.iastore, 1) := dk_79 (dk_at dksX15_init_0 12 rfl rfl)
theorem dX15_init_13 : decode cX15_init 13 = .ok (.dup, 1) := dk_89 (dk_at dksX15_init_0 13 rfl rfl)
theorem dX15_init_14 : decode cX15_init 14 = .ok (.iconst 2, 1) := dk_5 (dk_at dksX15_init_0 14 rfl rfl)
theorem dX15_init_15 : decode cX15_init 15 = .ok (.sipush 999, 3) := dk_17 3 231 (dk_at dksX15_init_0 15 rfl rfl)
theorem dX15_init_18 : decode cX15_init 18 = .ok (.iastore, 1) := dk_79 (dk_at dksX15_init_0 18 rfl rfl)
theorem dX15_init_19 : decode cX15_init 19 = .ok (.invokespecial 3, 3) := dk_183 0 3 (dk_at dksX15_init_0 19 rfl rfl)
theorem dX15_init_22 : decode cX15_init 22 = .ok (.return_, 1) := dk_177 (dk_at dksX15_init_0 22 rfl rfl)
abbrev cX15_items : ByteArray := prog_11_method_2_code
def yX15_items : MethodName := ⟨RX15, "items", "()Ljava/lang/String;"⟩
theorem dX15_items_0 : decode cX15_items 0 = .ok (.ldc 9, 2) := by decide +kernel
theorem dX15_items_2 : decode cX15_items 2 = .ok (.areturn, 1) := by decide +kernel
abbrev cX15_isWell : ByteArray := prog_11_method_3_code
def yX15_isWell : MethodName := ⟨RX15, "isWell", "(II)Z"⟩
def dkwX15_isWell_2 : List UInt8 := [184, 0, 21, 153, 0, 7, 4, 167, 0, 4, 3, 172]
abbrev dktX15_isWell_2 : List UInt8 := dkwX15_isWell_2 ++ []
def dkwX15_isWell_1 : List UInt8 := [154, 0, 9, 20, 0, 15, 167, 0, 17, 27, 4, 160, 0, 9, 20, 0, 17, 167, 0, 6, 20, 0, 19]
abbrev dktX15_isWell_1 : List UInt8 := dkwX15_isWell_1 ++ dktX15_isWell_2
def dkwX15_isWell_0 : List UInt8 := [42, 27, 28, 183, 0, 11, 153, 0, 49, 28, 133, 27, 4, 160, 0, 7, 9, 167, 0, 4, 10, 27]
abbrev dktX15_isWell_0 : List UInt8 := dkwX15_isWell_0 ++ dktX15_isWell_1
theorem dksX15_isWell_0 : cX15_isWell.data.toList.drop 0 = dktX15_isWell_0 := by decide +kernel
theorem dksX15_isWell_1 : cX15_isWell.data.toList.drop 22 = dktX15_isWell_1 := dk_seg dksX15_isWell_0 22 rfl rfl
theorem dksX15_isWell_2 : cX15_isWell.data.toList.drop 45 = dktX15_isWell_2 := dk_seg dksX15_isWell_1 23 rfl rfl
theorem dX15_isWell_0 : decode cX15_isWell 0 = .ok (.aload_n 0, 1) := dk_42 (dk_at dksX15_isWell_0 0 rfl rfl)
theorem dX15_isWell_1 : decode cX15_isWell 1 = .ok (.iload_n 1, 1) := dk_27 (dk_at dksX15_isWell_0 1 rfl rfl)
theorem dX15_isWell_2 : decode cX15_isWell 2 = .ok (.iload_n 2, 1) := dk_28 (dk_at dksX15_isWell_0 2 rfl rfl)
theorem dX15_isWell_3 : decode cX15_isWell 3 = .ok (.invokespecial 11, 3) := dk_183 0 11 (dk_at dksX15_isWell_0 3 rfl rfl)
theorem dX15_isWell_6 : decode cX15_isWell 6 = .ok (.ifCond .eq 49, 3) := dk_153 0 49 (dk_at dksX15_isWell_0 6 rfl rfl)
theorem dX15_isWell_9 : decode cX15_isWell 9 = .ok (.iload_n 2, 1) := dk_28 (dk_at dksX15_isWell_0 9 rfl rfl)
theorem dX15_isWell_10 : decode cX15_isWell 10 = .ok (.i2l, 1) := dk_133 (dk_at dksX15_isWell_0 10 rfl rfl)
theorem dX15_isWell_11 : decode cX15_isWell 11 = .ok (.iload_n 1, 1) := dk_27 (dk_at dksX15_isWell_0 11 rfl rfl)
theorem dX15_isWell_12 : decode cX15_isWell 12 = .ok (.iconst 1, 1) := dk_4 (dk_at dksX15_isWell_0 12 rfl rfl)
theorem dX15_isWell_13 : decode cX15_isWell 13 = .ok (.if_icmp .ne 7, 3) := dk_160 0 7 (dk_at dksX15_isWell_0 13 rfl rfl)
theorem dX15_isWell_16 : decode cX15_isWell 16 = .ok (.lconst 0, 1) := dk_9 (dk_at dksX15_isWell_0 16 rfl rfl)
theorem dX15_isWell_17 : decode cX15_isWell 17 = .ok (.goto 4, 3) := dk_167 0 4 (dk_at dksX15_isWell_0 17 rfl rfl)
theorem dX15_isWell_20 : decode cX15_isWell 20 = .ok (.lconst 1, 1) := dk_10 (dk_at dksX15_isWell_0 20 rfl rfl)
theorem dX15_isWell_21 : decode cX15_isWell 21 = .ok (.iload_n 1, 1) := dk_27 (dk_at dksX15_isWell_0 21 rfl rfl)
theorem dX15_isWell_22 : decode cX15_isWell 22 = .ok (.ifCond .ne 9, 3) := dk_154 0 9 (dk_at dksX15_isWell_1 0 rfl rfl)
theorem dX15_isWell_25 : decode cX15_isWell 25 = .ok (.ldc2_w 15, 3) := dk_20 0 15 (dk_at dksX15_isWell_1 3 rfl rfl)
theorem dX15_isWell_28 : decode cX15_isWell 28 = .ok (.goto 17, 3) := dk_167 0 17 (dk_at dksX15_isWell_1 6 rfl rfl)
theorem dX15_isWell_31 : decode cX15_isWell 31 = .ok (.iload_n 1, 1) := dk_27 (dk_at dksX15_isWell_1 9 rfl rfl)
theorem dX15_isWell_32 : decode cX15_isWell 32 = .ok (.iconst 1, 1) := dk_4 (dk_at dksX15_isWell_1 10 rfl rfl)
theorem dX15_isWell_33 : decode cX15_isWell 33 = .ok (.if_icmp .ne 9, 3) := dk_160 0 9 (dk_at dksX15_isWell_1 11 rfl rfl)
theorem dX15_isWell_36 : decode cX15_isWell 36 = .ok (.ldc2_w 17, 3) := dk_20 0 17 (dk_at dksX15_isWell_1 14 rfl rfl)
theorem dX15_isWell_39 : decode cX15_isWell 39 = .ok (.goto 6, 3) := dk_167 0 6 (dk_at dksX15_isWell_1 17 rfl rfl)
theorem dX15_isWell_42 : decode cX15_isWell 42 = .ok (.ldc2_w 19, 3) := dk_20 0 19 (dk_at dksX15_isWell_1 20 rfl rfl)
theorem dX15_isWell_45 : decode cX15_isWell 45 = .ok (.invokestatic 21, 3) := dk_184 0 21 (dk_at dksX15_isWell_2 0 rfl rfl)
theorem dX15_isWell_48 : decode cX15_isWell 48 = .ok (.ifCond .eq 7, 3) := dk_153 0 7 (dk_at dksX15_isWell_2 3 rfl rfl)
theorem dX15_isWell_51 : decode cX15_isWell 51 = .ok (.iconst 1, 1) := dk_4 (dk_at dksX15_isWell_2 6 rfl rfl)
theorem dX15_isWell_52 : decode cX15_isWell 52 = .ok (.goto 4, 3) := dk_167 0 4 (dk_at dksX15_isWell_2 7 rfl rfl)
theorem dX15_isWell_55 : decode cX15_isWell 55 = .ok (.iconst 0, 1) := dk_3 (dk_at dksX15_isWell_2 10 rfl rfl)
theorem dX15_isWell_56 : decode cX15_isWell 56 = .ok (.ireturn, 1) := dk_172 (dk_at dksX15_isWell_2 11 rfl rfl)
theorem q132 : (Jvm.Cond.initialized "SafeBuckets$Rules") ∈ lw_all := lw_g (lw_at lw_m1 17 rfl) rfl
theorem q572 : (Jvm.Cond.instantiable "SafeBuckets$Rules" (1 : Nat)) ∈ lw_all := lw_g (lw_at lw_m2 217 rfl) rfl
theorem q574 : (Jvm.Cond.instanceMethod ({ cls := "SafeBuckets$Rules", name := "<init>", desc := "()V" } : Jvm.MethodName)) ∈ lw_all := lw_g (lw_at lw_m2 219 rfl) rfl
theorem q575 : (Jvm.Cond.code ({ cls := "SafeBuckets$Rules", name := "<init>", desc := "()V" } : Jvm.MethodName) prog_11_method_1_code (1 : Nat) (Option.none : Option Jvm.ClassFile.FieldType)) ∈ lw_all := lw_g (lw_at lw_m2 220 rfl) rfl
theorem q576 : (Jvm.Cond.methodLink "SafeBuckets$Rules" (3 : Nat) ({ cls := "SafeBuckets$Clause", name := "<init>", desc := "([I)V" } : Jvm.MethodName)) ∈ lw_all := lw_g (lw_at lw_m2 221 rfl) rfl
theorem q590 : (Jvm.Cond.sameField "SafeBuckets$Rules" "SafeBuckets$Told" "values" "[I") ∈ lw_all := lw_g (lw_at lw_m2 235 rfl) rfl
theorem q595 : (Jvm.Cond.laysFinal "SafeBuckets$Rules" "SafeBuckets$Told" "values" "[I") ∈ lw_all := lw_g (lw_at lw_m3 0 rfl) rfl
theorem q597 : (Jvm.Cond.superclass "SafeBuckets$Rules" "SafeBuckets$Clause") ∈ lw_all := lw_g (lw_at lw_m3 2 rfl) rfl
theorem q625 : (Jvm.Cond.selects "SafeBuckets$Rules" ({ cls := "SafeBuckets$Clause", name := "items", desc := "()Ljava/lang/String;" } : Jvm.MethodName) ({ cls := "SafeBuckets$Rules", name := "items", desc := "()Ljava/lang/String;" } : Jvm.MethodName)) ∈ lw_all := lw_g (lw_at lw_m3 30 rfl) rfl
theorem q626 : (Jvm.Cond.instanceMethod ({ cls := "SafeBuckets$Rules", name := "items", desc := "()Ljava/lang/String;" } : Jvm.MethodName)) ∈ lw_all := lw_g (lw_at lw_m3 31 rfl) rfl
theorem q627 : (Jvm.Cond.code ({ cls := "SafeBuckets$Rules", name := "items", desc := "()Ljava/lang/String;" } : Jvm.MethodName) prog_11_method_2_code (1 : Nat) (Option.some (Jvm.ClassFile.FieldType.object "java/lang/String"))) ∈ lw_all := lw_g (lw_at lw_m3 32 rfl) rfl
theorem q628 : (Jvm.Cond.stringRef "SafeBuckets$Rules" (9 : Nat) "bdq") ∈ lw_tbl := lw_at lw_m3 33 rfl
theorem q744 : (Jvm.Cond.selects "SafeBuckets$Rules" ({ cls := "SafeBuckets$Clause", name := "isWell", desc := "(II)Z" } : Jvm.MethodName) ({ cls := "SafeBuckets$Rules", name := "isWell", desc := "(II)Z" } : Jvm.MethodName)) ∈ lw_all := lw_g (lw_at lw_m3 149 rfl) rfl
theorem q745 : (Jvm.Cond.instanceMethod ({ cls := "SafeBuckets$Rules", name := "isWell", desc := "(II)Z" } : Jvm.MethodName)) ∈ lw_all := lw_g (lw_at lw_m3 150 rfl) rfl
theorem q746 : (Jvm.Cond.code ({ cls := "SafeBuckets$Rules", name := "isWell", desc := "(II)Z" } : Jvm.MethodName) prog_11_method_3_code (3 : Nat) (Option.some Jvm.ClassFile.FieldType.boolean)) ∈ lw_all := lw_g (lw_at lw_m3 151 rfl) rfl
theorem q747 : (Jvm.Cond.methodLink "SafeBuckets$Rules" (11 : Nat) ({ cls := "SafeBuckets$Clause", name := "isWell", desc := "(II)Z" } : Jvm.MethodName)) ∈ lw_all := lw_g (lw_at lw_m3 152 rfl) rfl
theorem q748 : (Jvm.Cond.constantLong "SafeBuckets$Rules" (15 : Nat) (8 : Int64)) ∈ lw_all := lw_g (lw_at lw_m3 153 rfl) rfl
theorem q749 : (Jvm.Cond.constantLong "SafeBuckets$Rules" (17 : Nat) (99 : Int64)) ∈ lw_all := lw_g (lw_at lw_m3 154 rfl) rfl
theorem q750 : (Jvm.Cond.constantLong "SafeBuckets$Rules" (19 : Nat) (999 : Int64)) ∈ lw_all := lw_g (lw_at lw_m3 155 rfl) rfl
theorem q751 : (Jvm.Cond.methodLinkNest "SafeBuckets$Rules" (21 : Nat) ({ cls := "SafeBuckets", name := "isIn", desc := "(JJJ)Z" } : Jvm.MethodName) "SafeBuckets") ∈ lw_tbl := lw_at lw_m3 156 rfl
theorem q1354 : (Jvm.Cond.selects "SafeBuckets$Rules" ({ cls := "java/lang/Object", name := "getClass", desc := "()Ljava/lang/Class;" } : Jvm.MethodName) ({ cls := "java/lang/Object", name := "getClass", desc := "()Ljava/lang/Class;" } : Jvm.MethodName)) ∈ lw_all := lw_g (lw_at lw_m6 39 rfl) rfl
theorem q2158 : (Jvm.Cond.castable "SafeBuckets$Rules" "java/lang/Object") ∈ lw_tbl := lw_at lw_m9 123 rfl
theorem in_X15 : ∀ w ∈ wsX150, w ∈ lw_all := lw_in wsX150 [595] (by decide +kernel) (by decide +kernel)

/-! SafeBuckets$ToldTable -/
set_option maxRecDepth 100000
def RX16 : String := "SafeBuckets$ToldTable"
def TX16 : u_T := fun k => match k with
  | _ => ("SafeBuckets$Told", "values", "[I", true)
def tyX16 : Nat → FieldType := fun k => match k with
  | _ => .array .int
abbrev wsX160 : List Cond := u_ws RX16 TX16 1
theorem nmX16 : ∀ a, a < 1 → ∀ b, b < 1 → a ≠ b → (TX16 a).2.1 ≠ (TX16 b).2.1 := by decide +kernel
theorem tyX16_ok : ∀ k, k < 1 → parseFieldDescriptor (TX16 k).2.2.1 = some (tyX16 k) := by decide +kernel
abbrev cX16_init : ByteArray := prog_22_method_1_code
def yX16_init : MethodName := ⟨RX16, "<init>", "()V"⟩
def dkwX16_init_0 : List UInt8 := [42, 4, 188, 10, 89, 3, 16, 8, 79, 183, 0, 3, 177]
abbrev dktX16_init_0 : List UInt8 := dkwX16_init_0 ++ []
theorem dksX16_init_0 : cX16_init.data.toList.drop 0 = dktX16_init_0 := by decide +kernel
theorem dX16_init_0 : decode cX16_init 0 = .ok (.aload_n 0, 1) := dk_42 (dk_at dksX16_init_0 0 rfl rfl)
theorem dX16_init_1 : decode cX16_init 1 = .ok (.iconst 1, 1) := dk_4 (dk_at dksX16_init_0 1 rfl rfl)
theorem dX16_init_2 : decode cX16_init 2 = .ok (.newarray .int, 2) := dk_188_10 (dk_at dksX16_init_0 2 rfl rfl)
theorem dX16_init_4 : decode cX16_init 4 = .ok (.dup, 1) := dk_89 (dk_at dksX16_init_0 4 rfl rfl)
theorem dX16_init_5 : decode cX16_init 5 = .ok (.iconst 0, 1) := dk_3 (dk_at dksX16_init_0 5 rfl rfl)
theorem dX16_init_6 : decode cX16_init 6 = .ok (.bipush 8, 2) := dk_16 8 (dk_at dksX16_init_0 6 rfl rfl)
theorem dX16_init_8 : decode cX16_init 8 = .ok (.iastore, 1) := dk_79 (dk_at dksX16_init_0 8 rfl rfl)
theorem dX16_init_9 : decode cX16_init 9 = .ok (.invokespecial 3, 3) := dk_183 0 3 (dk_at dksX16_init_0 9 rfl rfl)
theorem dX16_init_12 : decode cX16_init 12 = .ok (.return_, 1) := dk_177 (dk_at dksX16_init_0 12 rfl rfl)
abbrev cX16_items : ByteArray := prog_22_method_2_code
def yX16_items : MethodName := ⟨RX16, "items", "()Ljava/lang/String;"⟩
theorem dX16_items_0 : decode cX16_items 0 = .ok (.ldc 9, 2) := by decide +kernel
theorem dX16_items_2 : decode cX16_items 2 = .ok (.areturn, 1) := by decide +kernel
abbrev cX16_isWell : ByteArray := prog_22_method_3_code
def yX16_isWell : MethodName := ⟨RX16, "isWell", "(II)Z"⟩
def dkwX16_isWell_1 : List UInt8 := [167, 0, 4, 3, 172]
abbrev dktX16_isWell_1 : List UInt8 := dkwX16_isWell_1 ++ []
def dkwX16_isWell_0 : List UInt8 := [42, 27, 28, 183, 0, 11, 153, 0, 21, 28, 133, 20, 0, 15, 20, 0, 17, 184, 0, 19, 153, 0, 7, 4]
abbrev dktX16_isWell_0 : List UInt8 := dkwX16_isWell_0 ++ dktX16_isWell_1
theorem dksX16_isWell_0 : cX16_isWell.data.toList.drop 0 = dktX16_isWell_0 := by decide +kernel
theorem dksX16_isWell_1 : cX16_isWell.data.toList.drop 24 = dktX16_isWell_1 := dk_seg dksX16_isWell_0 24 rfl rfl
theorem dX16_isWell_0 : decode cX16_isWell 0 = .ok (.aload_n 0, 1) := dk_42 (dk_at dksX16_isWell_0 0 rfl rfl)
theorem dX16_isWell_1 : decode cX16_isWell 1 = .ok (.iload_n 1, 1) := dk_27 (dk_at dksX16_isWell_0 1 rfl rfl)
theorem dX16_isWell_2 : decode cX16_isWell 2 = .ok (.iload_n 2, 1) := dk_28 (dk_at dksX16_isWell_0 2 rfl rfl)
theorem dX16_isWell_3 : decode cX16_isWell 3 = .ok (.invokespecial 11, 3) := dk_183 0 11 (dk_at dksX16_isWell_0 3 rfl rfl)
theorem dX16_isWell_6 : decode cX16_isWell 6 = .ok (.ifCond .eq 21, 3) := dk_153 0 21 (dk_at dksX16_isWell_0 6 rfl rfl)
theorem dX16_isWell_9 : decode cX16_isWell 9 = .ok (.iload_n 2, 1) := dk_28 (dk_at dksX16_isWell_0 9 rfl rfl)
theorem dX16_isWell_10 : decode cX16_isWell 10 = .ok (.i2l, 1) := dk_133 (dk_at dksX16_isWell_0 10 rfl rfl)
theorem dX16_isWell_11 : decode cX16_isWell 11 = .ok (.ldc2_w 15, 3) := dk_20 0 15 (dk_at dksX16_isWell_0 11 rfl rfl)
theorem dX16_isWell_14 : decode cX16_isWell 14 = .ok (.ldc2_w 17, 3) := dk_20 0 17 (dk_at dksX16_isWell_0 14 rfl rfl)
theorem dX16_isWell_17 : decode cX16_isWell 17 = .ok (.invokestatic 19, 3) := dk_184 0 19 (dk_at dksX16_isWell_0 17 rfl rfl)
theorem dX16_isWell_20 : decode cX16_isWell 20 = .ok (.ifCond .eq 7, 3) := dk_153 0 7 (dk_at dksX16_isWell_0 20 rfl rfl)
theorem dX16_isWell_23 : decode cX16_isWell 23 = .ok (.iconst 1, 1) := dk_4 (dk_at dksX16_isWell_0 23 rfl rfl)
theorem dX16_isWell_24 : decode cX16_isWell 24 = .ok (.goto 4, 3) := dk_167 0 4 (dk_at dksX16_isWell_1 0 rfl rfl)
theorem dX16_isWell_27 : decode cX16_isWell 27 = .ok (.iconst 0, 1) := dk_3 (dk_at dksX16_isWell_1 3 rfl rfl)
theorem dX16_isWell_28 : decode cX16_isWell 28 = .ok (.ireturn, 1) := dk_172 (dk_at dksX16_isWell_1 4 rfl rfl)
theorem q133 : (Jvm.Cond.initialized "SafeBuckets$ToldTable") ∈ lw_all := lw_g (lw_at lw_m1 18 rfl) rfl
theorem q587 : (Jvm.Cond.sameField "SafeBuckets$ToldTable" "SafeBuckets$Told" "values" "[I") ∈ lw_all := lw_g (lw_at lw_m2 232 rfl) rfl
theorem q599 : (Jvm.Cond.instantiable "SafeBuckets$ToldTable" (1 : Nat)) ∈ lw_all := lw_g (lw_at lw_m3 4 rfl) rfl
theorem q601 : (Jvm.Cond.instanceMethod ({ cls := "SafeBuckets$ToldTable", name := "<init>", desc := "()V" } : Jvm.MethodName)) ∈ lw_all := lw_g (lw_at lw_m3 6 rfl) rfl
theorem q602 : (Jvm.Cond.code ({ cls := "SafeBuckets$ToldTable", name := "<init>", desc := "()V" } : Jvm.MethodName) prog_22_method_1_code (1 : Nat) (Option.none : Option Jvm.ClassFile.FieldType)) ∈ lw_all := lw_g (lw_at lw_m3 7 rfl) rfl
theorem q603 : (Jvm.Cond.methodLink "SafeBuckets$ToldTable" (3 : Nat) ({ cls := "SafeBuckets$Clause", name := "<init>", desc := "([I)V" } : Jvm.MethodName)) ∈ lw_all := lw_g (lw_at lw_m3 8 rfl) rfl
theorem q604 : (Jvm.Cond.laysFinal "SafeBuckets$ToldTable" "SafeBuckets$Told" "values" "[I") ∈ lw_all := lw_g (lw_at lw_m3 9 rfl) rfl
theorem q605 : (Jvm.Cond.superclass "SafeBuckets$ToldTable" "SafeBuckets$Clause") ∈ lw_all := lw_g (lw_at lw_m3 10 rfl) rfl
theorem q629 : (Jvm.Cond.selects "SafeBuckets$ToldTable" ({ cls := "SafeBuckets$Clause", name := "items", desc := "()Ljava/lang/String;" } : Jvm.MethodName) ({ cls := "SafeBuckets$ToldTable", name := "items", desc := "()Ljava/lang/String;" } : Jvm.MethodName)) ∈ lw_all := lw_g (lw_at lw_m3 34 rfl) rfl
theorem q630 : (Jvm.Cond.instanceMethod ({ cls := "SafeBuckets$ToldTable", name := "items", desc := "()Ljava/lang/String;" } : Jvm.MethodName)) ∈ lw_all := lw_g (lw_at lw_m3 35 rfl) rfl
theorem q631 : (Jvm.Cond.code ({ cls := "SafeBuckets$ToldTable", name := "items", desc := "()Ljava/lang/String;" } : Jvm.MethodName) prog_22_method_2_code (1 : Nat) (Option.some (Jvm.ClassFile.FieldType.object "java/lang/String"))) ∈ lw_all := lw_g (lw_at lw_m3 36 rfl) rfl
theorem q632 : (Jvm.Cond.stringRef "SafeBuckets$ToldTable" (9 : Nat) "v") ∈ lw_tbl := lw_at lw_m3 37 rfl
theorem q752 : (Jvm.Cond.selects "SafeBuckets$ToldTable" ({ cls := "SafeBuckets$Clause", name := "isWell", desc := "(II)Z" } : Jvm.MethodName) ({ cls := "SafeBuckets$ToldTable", name := "isWell", desc := "(II)Z" } : Jvm.MethodName)) ∈ lw_all := lw_g (lw_at lw_m3 157 rfl) rfl
theorem q753 : (Jvm.Cond.instanceMethod ({ cls := "SafeBuckets$ToldTable", name := "isWell", desc := "(II)Z" } : Jvm.MethodName)) ∈ lw_all := lw_g (lw_at lw_m3 158 rfl) rfl
theorem q754 : (Jvm.Cond.code ({ cls := "SafeBuckets$ToldTable", name := "isWell", desc := "(II)Z" } : Jvm.MethodName) prog_22_method_3_code (3 : Nat) (Option.some Jvm.ClassFile.FieldType.boolean)) ∈ lw_all := lw_g (lw_at lw_m3 159 rfl) rfl
theorem q755 : (Jvm.Cond.methodLink "SafeBuckets$ToldTable" (11 : Nat) ({ cls := "SafeBuckets$Clause", name := "isWell", desc := "(II)Z" } : Jvm.MethodName)) ∈ lw_all := lw_g (lw_at lw_m3 160 rfl) rfl
theorem q756 : (Jvm.Cond.constantLong "SafeBuckets$ToldTable" (15 : Nat) (2 : Int64)) ∈ lw_all := lw_g (lw_at lw_m3 161 rfl) rfl
theorem q757 : (Jvm.Cond.constantLong "SafeBuckets$ToldTable" (17 : Nat) (16 : Int64)) ∈ lw_all := lw_g (lw_at lw_m3 162 rfl) rfl
theorem q758 : (Jvm.Cond.methodLinkNest "SafeBuckets$ToldTable" (19 : Nat) ({ cls := "SafeBuckets", name := "isIn", desc := "(JJJ)Z" } : Jvm.MethodName) "SafeBuckets") ∈ lw_tbl := lw_at lw_m3 163 rfl
theorem q1362 : (Jvm.Cond.selects "SafeBuckets$ToldTable" ({ cls := "java/lang/Object", name := "getClass", desc := "()Ljava/lang/Class;" } : Jvm.MethodName) ({ cls := "java/lang/Object", name := "getClass", desc := "()Ljava/lang/Class;" } : Jvm.MethodName)) ∈ lw_all := lw_g (lw_at lw_m6 47 rfl) rfl
theorem q2148 : (Jvm.Cond.castable "SafeBuckets$ToldTable" "java/lang/Object") ∈ lw_tbl := lw_at lw_m9 113 rfl
theorem in_X16 : ∀ w ∈ wsX160, w ∈ lw_all := lw_in wsX160 [604] (by decide +kernel) (by decide +kernel)

/-! SafeBuckets$Line -/
set_option maxRecDepth 100000
def RX17 : String := "SafeBuckets$Line"
def TX17 : u_T := fun k => match k with
  | _ => ("SafeBuckets$Told", "values", "[I", true)
def tyX17 : Nat → FieldType := fun k => match k with
  | _ => .array .int
abbrev wsX170 : List Cond := u_ws RX17 TX17 1
theorem nmX17 : ∀ a, a < 1 → ∀ b, b < 1 → a ≠ b → (TX17 a).2.1 ≠ (TX17 b).2.1 := by decide +kernel
theorem tyX17_ok : ∀ k, k < 1 → parseFieldDescriptor (TX17 k).2.2.1 = some (tyX17 k) := by decide +kernel
abbrev cX17_init : ByteArray := prog_9_method_1_code
def yX17_init : MethodName := ⟨RX17, "<init>", "()V"⟩
def dkwX17_init_0 : List UInt8 := [42, 7, 188, 10, 89, 3, 3, 79, 89, 4, 2, 79, 89, 5, 2, 79, 89, 6, 4, 79, 183, 0, 3, 177]
abbrev dktX17_init_0 : List UInt8 := dkwX17_init_0 ++ []
theorem dksX17_init_0 : cX17_init.data.toList.drop 0 = dktX17_init_0 := by decide +kernel
theorem dX17_init_0 : decode cX17_init 0 = .ok (.aload_n 0, 1) := dk_42 (dk_at dksX17_init_0 0 rfl rfl)
theorem dX17_init_1 : decode cX17_init 1 = .ok (.iconst 4, 1) := dk_7 (dk_at dksX17_init_0 1 rfl rfl)
theorem dX17_init_2 : decode cX17_init 2 = .ok (.newarray .int, 2) := dk_188_10 (dk_at dksX17_init_0 2 rfl rfl)
theorem dX17_init_4 : decode cX17_init 4 = .ok (.dup, 1) := dk_89 (dk_at dksX17_init_0 4 rfl rfl)
theorem dX17_init_5 : decode cX17_init 5 = .ok (.iconst 0, 1) := dk_3 (dk_at dksX17_init_0 5 rfl rfl)
theorem dX17_init_6 : decode cX17_init 6 = .ok (.iconst 0, 1) := dk_3 (dk_at dksX17_init_0 6 rfl rfl)
theorem dX17_init_7 : decode cX17_init 7 = .ok (.iastore, 1) := dk_79 (dk_at dksX17_init_0 7 rfl rfl)
theorem dX17_init_8 : decode cX17_init 8 = .ok (.dup, 1) := dk_89 (dk_at dksX17_init_0 8 rfl rfl)
theorem dX17_init_9 : decode cX17_init 9 = .ok (.iconst 1, 1) := dk_4 (dk_at dksX17_init_0 9 rfl rfl)
theorem dX17_init_10 : decode cX17_init 10 = .ok (.iconst (-1), 1) := dk_2 (dk_at dksX17_init_0 10 rfl rfl)
theorem dX17_init_11 : decode cX17_init 11 = .ok (.iastore, 1) := dk_79 (dk_at dksX17_init_0 11 rfl rfl)
theorem dX17_init_12 : decode cX17_init 12 = .ok (.dup, 1) := dk_89 (dk_at dksX17_init_0 12 rfl rfl)
theorem dX17_init_13 : decode cX17_init 13 = .ok (.iconst 2, 1) := dk_5 (dk_at dksX17_init_0 13 rfl rfl)
theorem dX17_init_14 : decode cX17_init 14 = .ok (.iconst (-1), 1) := dk_2 (dk_at dksX17_init_0 14 rfl rfl)
theorem dX17_init_15 : decode cX17_init 15 = .ok (.iastore, 1) := dk_79 (dk_at dksX17_init_0 15 rfl rfl)
theorem dX17_init_16 : decode cX17_init 16 = .ok (.dup, 1) := dk_89 (dk_at dksX17_init_0 16 rfl rfl)
theorem dX17_init_17 : decode cX17_init 17 = .ok (.iconst 3, 1) := dk_6 (dk_at dksX17_init_0 17 rfl rfl)
theorem dX17_init_18 : decode cX17_init 18 = .ok (.iconst 1, 1) := dk_4 (dk_at dksX17_init_0 18 rfl rfl)
theorem dX17_init_19 : decode cX17_init 19 = .ok (.iastore, 1) := dk_79 (dk_at dksX17_init_0 19 rfl rfl)
theorem dX17_init_20 : decode cX17_init 20 = .ok (.invokespecial 3, 3) := dk_183 0 3 (dk_at dksX17_init_0 20 rfl rfl)
theorem dX17_init_23 : decode cX17_init 23 = .ok (.return_, 1) := dk_177 (dk_at dksX17_init_0 23 rfl rfl)
abbrev cX17_items : ByteArray := prog_9_method_2_code
def yX17_items : MethodName := ⟨RX17, "items", "()Ljava/lang/String;"⟩
theorem dX17_items_0 : decode cX17_items 0 = .ok (.ldc 9, 2) := by decide +kernel
theorem dX17_items_2 : decode cX17_items 2 = .ok (.areturn, 1) := by decide +kernel
abbrev cX17_isWell : ByteArray := prog_9_method_3_code
def yX17_isWell : MethodName := ⟨RX17, "isWell", "(II)Z"⟩
def dkwX17_isWell_2 : List UInt8 := [184, 0, 21, 153, 0, 7, 4, 167, 0, 4, 3, 172]
abbrev dktX17_isWell_2 : List UInt8 := dkwX17_isWell_2 ++ []
def dkwX17_isWell_1 : List UInt8 := [154, 0, 9, 20, 0, 15, 167, 0, 17, 27, 6, 160, 0, 9, 20, 0, 17, 167, 0, 6, 20, 0, 19]
abbrev dktX17_isWell_1 : List UInt8 := dkwX17_isWell_1 ++ dktX17_isWell_2
def dkwX17_isWell_0 : List UInt8 := [42, 27, 28, 183, 0, 11, 153, 0, 49, 28, 133, 27, 6, 160, 0, 7, 10, 167, 0, 4, 9, 27]
abbrev dktX17_isWell_0 : List UInt8 := dkwX17_isWell_0 ++ dktX17_isWell_1
theorem dksX17_isWell_0 : cX17_isWell.data.toList.drop 0 = dktX17_isWell_0 := by decide +kernel
theorem dksX17_isWell_1 : cX17_isWell.data.toList.drop 22 = dktX17_isWell_1 := dk_seg dksX17_isWell_0 22 rfl rfl
theorem dksX17_isWell_2 : cX17_isWell.data.toList.drop 45 = dktX17_isWell_2 := dk_seg dksX17_isWell_1 23 rfl rfl
theorem dX17_isWell_0 : decode cX17_isWell 0 = .ok (.aload_n 0, 1) := dk_42 (dk_at dksX17_isWell_0 0 rfl rfl)
theorem dX17_isWell_1 : decode cX17_isWell 1 = .ok (.iload_n 1, 1) := dk_27 (dk_at dksX17_isWell_0 1 rfl rfl)
theorem dX17_isWell_2 : decode cX17_isWell 2 = .ok (.iload_n 2, 1) := dk_28 (dk_at dksX17_isWell_0 2 rfl rfl)
theorem dX17_isWell_3 : decode cX17_isWell 3 = .ok (.invokespecial 11, 3) := dk_183 0 11 (dk_at dksX17_isWell_0 3 rfl rfl)
theorem dX17_isWell_6 : decode cX17_isWell 6 = .ok (.ifCond .eq 49, 3) := dk_153 0 49 (dk_at dksX17_isWell_0 6 rfl rfl)
theorem dX17_isWell_9 : decode cX17_isWell 9 = .ok (.iload_n 2, 1) := dk_28 (dk_at dksX17_isWell_0 9 rfl rfl)
theorem dX17_isWell_10 : decode cX17_isWell 10 = .ok (.i2l, 1) := dk_133 (dk_at dksX17_isWell_0 10 rfl rfl)
theorem dX17_isWell_11 : decode cX17_isWell 11 = .ok (.iload_n 1, 1) := dk_27 (dk_at dksX17_isWell_0 11 rfl rfl)
theorem dX17_isWell_12 : decode cX17_isWell 12 = .ok (.iconst 3, 1) := dk_6 (dk_at dksX17_isWell_0 12 rfl rfl)
theorem dX17_isWell_13 : decode cX17_isWell 13 = .ok (.if_icmp .ne 7, 3) := dk_160 0 7 (dk_at dksX17_isWell_0 13 rfl rfl)
theorem dX17_isWell_16 : decode cX17_isWell 16 = .ok (.lconst 1, 1) := dk_10 (dk_at dksX17_isWell_0 16 rfl rfl)
theorem dX17_isWell_17 : decode cX17_isWell 17 = .ok (.goto 4, 3) := dk_167 0 4 (dk_at dksX17_isWell_0 17 rfl rfl)
theorem dX17_isWell_20 : decode cX17_isWell 20 = .ok (.lconst 0, 1) := dk_9 (dk_at dksX17_isWell_0 20 rfl rfl)
theorem dX17_isWell_21 : decode cX17_isWell 21 = .ok (.iload_n 1, 1) := dk_27 (dk_at dksX17_isWell_0 21 rfl rfl)
theorem dX17_isWell_22 : decode cX17_isWell 22 = .ok (.ifCond .ne 9, 3) := dk_154 0 9 (dk_at dksX17_isWell_1 0 rfl rfl)
theorem dX17_isWell_25 : decode cX17_isWell 25 = .ok (.ldc2_w 15, 3) := dk_20 0 15 (dk_at dksX17_isWell_1 3 rfl rfl)
theorem dX17_isWell_28 : decode cX17_isWell 28 = .ok (.goto 17, 3) := dk_167 0 17 (dk_at dksX17_isWell_1 6 rfl rfl)
theorem dX17_isWell_31 : decode cX17_isWell 31 = .ok (.iload_n 1, 1) := dk_27 (dk_at dksX17_isWell_1 9 rfl rfl)
theorem dX17_isWell_32 : decode cX17_isWell 32 = .ok (.iconst 3, 1) := dk_6 (dk_at dksX17_isWell_1 10 rfl rfl)
theorem dX17_isWell_33 : decode cX17_isWell 33 = .ok (.if_icmp .ne 9, 3) := dk_160 0 9 (dk_at dksX17_isWell_1 11 rfl rfl)
theorem dX17_isWell_36 : decode cX17_isWell 36 = .ok (.ldc2_w 17, 3) := dk_20 0 17 (dk_at dksX17_isWell_1 14 rfl rfl)
theorem dX17_isWell_39 : decode cX17_isWell 39 = .ok (.goto 6, 3) := dk_167 0 6 (dk_at dksX17_isWell_1 17 rfl rfl)
theorem dX17_isWell_42 : decode cX17_isWell 42 = .ok (.ldc2_w 19, 3) := dk_20 0 19 (dk_at dksX17_isWell_1 20 rfl rfl)
theorem dX17_isWell_45 : decode cX17_isWell 45 = .ok (.invokestatic 21, 3) := dk_184 0 21 (dk_at dksX17_isWell_2 0 rfl rfl)
theorem dX17_isWell_48 : decode cX17_isWell 48 = .ok (.ifCond .eq 7, 3) := dk_153 0 7 (dk_at dksX17_isWell_2 3 rfl rfl)
theorem dX17_isWell_51 : decode cX17_isWell 51 = .ok (.iconst 1, 1) := dk_4 (dk_at dksX17_isWell_2 6 rfl rfl)
theorem dX17_isWell_52 : decode cX17_isWell 52 = .ok (.goto 4, 3) := dk_167 0 4 (dk_at dksX17_isWell_2 7 rfl rfl)
theorem dX17_isWell_55 : decode cX17_isWell 55 = .ok (.iconst 0, 1) := dk_3 (dk_at dksX17_isWell_2 10 rfl rfl)
theorem dX17_isWell_56 : decode cX17_isWell 56 = .ok (.ireturn, 1) := dk_172 (dk_at dksX17_isWell_2 11 rfl rfl)
theorem q134 : (Jvm.Cond.initialized "SafeBuckets$Line") ∈ lw_all := lw_g (lw_at lw_m1 19 rfl) rfl
theorem q585 : (Jvm.Cond.sameField "SafeBuckets$Line" "SafeBuckets$Told" "values" "[I") ∈ lw_all := lw_g (lw_at lw_m2 230 rfl) rfl
theorem q607 : (Jvm.Cond.instantiable "SafeBuckets$Line" (1 : Nat)) ∈ lw_all := lw_g (lw_at lw_m3 12 rfl) rfl
theorem q609 : (Jvm.Cond.instanceMethod ({ cls := "SafeBuckets$Line", name := "<init>", desc := "()V" } : Jvm.MethodName)) ∈ lw_all := lw_g (lw_at lw_m3 14 rfl) rfl
theorem q610 : (Jvm.Cond.code ({ cls := "SafeBuckets$Line", name := "<init>", desc := "()V" } : Jvm.MethodName) prog_9_method_1_code (1 : Nat) (Option.none : Option Jvm.ClassFile.FieldType)) ∈ lw_all := lw_g (lw_at lw_m3 15 rfl) rfl
theorem q611 : (Jvm.Cond.methodLink "SafeBuckets$Line" (3 : Nat) ({ cls := "SafeBuckets$Clause", name := "<init>", desc := "([I)V" } : Jvm.MethodName)) ∈ lw_all := lw_g (lw_at lw_m3 16 rfl) rfl
theorem q612 : (Jvm.Cond.laysFinal "SafeBuckets$Line" "SafeBuckets$Told" "values" "[I") ∈ lw_all := lw_g (lw_at lw_m3 17 rfl) rfl
theorem q613 : (Jvm.Cond.superclass "SafeBuckets$Line" "SafeBuckets$Clause") ∈ lw_all := lw_g (lw_at lw_m3 18 rfl) rfl
theorem q621 : (Jvm.Cond.selects "SafeBuckets$Line" ({ cls := "SafeBuckets$Clause", name := "items", desc := "()Ljava/lang/String;" } : Jvm.MethodName) ({ cls := "SafeBuckets$Line", name := "items", desc := "()Ljava/lang/String;" } : Jvm.MethodName)) ∈ lw_all := lw_g (lw_at lw_m3 26 rfl) rfl
theorem q622 : (Jvm.Cond.instanceMethod ({ cls := "SafeBuckets$Line", name := "items", desc := "()Ljava/lang/String;" } : Jvm.MethodName)) ∈ lw_all := lw_g (lw_at lw_m3 27 rfl) rfl
theorem q623 : (Jvm.Cond.code ({ cls := "SafeBuckets$Line", name := "items", desc := "()Ljava/lang/String;" } : Jvm.MethodName) prog_9_method_2_code (1 : Nat) (Option.some (Jvm.ClassFile.FieldType.object "java/lang/String"))) ∈ lw_all := lw_g (lw_at lw_m3 28 rfl) rfl
theorem q624 : (Jvm.Cond.stringRef "SafeBuckets$Line" (9 : Nat) "tabn") ∈ lw_tbl := lw_at lw_m3 29 rfl
theorem q733 : (Jvm.Cond.selects "SafeBuckets$Line" ({ cls := "SafeBuckets$Clause", name := "isWell", desc := "(II)Z" } : Jvm.MethodName) ({ cls := "SafeBuckets$Line", name := "isWell", desc := "(II)Z" } : Jvm.MethodName)) ∈ lw_all := lw_g (lw_at lw_m3 138 rfl) rfl
theorem q734 : (Jvm.Cond.instanceMethod ({ cls := "SafeBuckets$Line", name := "isWell", desc := "(II)Z" } : Jvm.MethodName)) ∈ lw_all := lw_g (lw_at lw_m3 139 rfl) rfl
theorem q735 : (Jvm.Cond.code ({ cls := "SafeBuckets$Line", name := "isWell", desc := "(II)Z" } : Jvm.MethodName) prog_9_method_3_code (3 : Nat) (Option.some Jvm.ClassFile.FieldType.boolean)) ∈ lw_all := lw_g (lw_at lw_m3 140 rfl) rfl
theorem q736 : (Jvm.Cond.methodLink "SafeBuckets$Line" (11 : Nat) ({ cls := "SafeBuckets$Clause", name := "isWell", desc := "(II)Z" } : Jvm.MethodName)) ∈ lw_all := lw_g (lw_at lw_m3 141 rfl) rfl
theorem q740 : (Jvm.Cond.constantLong "SafeBuckets$Line" (15 : Nat) (2 : Int64)) ∈ lw_all := lw_g (lw_at lw_m3 145 rfl) rfl
theorem q741 : (Jvm.Cond.constantLong "SafeBuckets$Line" (17 : Nat) (40 : Int64)) ∈ lw_all := lw_g (lw_at lw_m3 146 rfl) rfl
theorem q742 : (Jvm.Cond.constantLong "SafeBuckets$Line" (19 : Nat) (15 : Int64)) ∈ lw_all := lw_g (lw_at lw_m3 147 rfl) rfl
theorem q743 : (Jvm.Cond.methodLinkNest "SafeBuckets$Line" (21 : Nat) ({ cls := "SafeBuckets", name := "isIn", desc := "(JJJ)Z" } : Jvm.MethodName) "SafeBuckets") ∈ lw_tbl := lw_at lw_m3 148 rfl
theorem q1352 : (Jvm.Cond.selects "SafeBuckets$Line" ({ cls := "java/lang/Object", name := "getClass", desc := "()Ljava/lang/Class;" } : Jvm.MethodName) ({ cls := "java/lang/Object", name := "getClass", desc := "()Ljava/lang/Class;" } : Jvm.MethodName)) ∈ lw_all := lw_g (lw_at lw_m6 37 rfl) rfl
theorem q2149 : (Jvm.Cond.castable "SafeBuckets$Line" "java/lang/Object") ∈ lw_tbl := lw_at lw_m9 114 rfl
theorem in_X17 : ∀ w ∈ wsX170, w ∈ lw_all := lw_in wsX170 [612] (by decide +kernel) (by decide +kernel)

/-! SafeBuckets$Where -/
set_option maxRecDepth 100000
def RX18 : String := "SafeBuckets$Where"
def TX18 : u_T := fun k => match k with
  | 0 => ("SafeBuckets$Where", "terms", "[LSafeBuckets$Term;", true)
  | _ => ("SafeBuckets$Where", "many", "I", false)
def tyX18 : Nat → FieldType := fun k => match k with
  | 0 => .array (.object "SafeBuckets$Term")
  | _ => .int
abbrev wsX180 : List Cond := u_ws RX18 TX18 2
theorem nmX18 : ∀ a, a < 2 → ∀ b, b < 2 → a ≠ b → (TX18 a).2.1 ≠ (TX18 b).2.1 := by decide +kernel
theorem tyX18_ok : ∀ k, k < 2 → parseFieldDescriptor (TX18 k).2.2.1 = some (tyX18 k) := by decide +kernel
abbrev cX18_init : ByteArray := prog_25_method_1_code
def yX18_init : MethodName := ⟨RX18, "<init>", "()V"⟩
def dkwX18_init_0 : List UInt8 := [42, 183, 0, 3, 42, 16, 6, 189, 0, 9, 181, 0, 11, 177]
abbrev dktX18_init_0 : List UInt8 := dkwX18_init_0 ++ []
theorem dksX18_init_0 : cX18_init.data.toList.drop 0 = dktX18_init_0 := by decide +kernel
theorem dX18_init_0 : decode cX18_init 0 = .ok (.aload_n 0, 1) := dk_42 (dk_at dksX18_init_0 0 rfl rfl)
theorem dX18_init_1 : decode cX18_init 1 = .ok (.invokespecial 3, 3) := dk_183 0 3 (dk_at dksX18_init_0 1 rfl rfl)
theorem dX18_init_4 : decode cX18_init 4 = .ok (.aload_n 0, 1) := dk_42 (dk_at dksX18_init_0 4 rfl rfl)
theorem dX18_init_5 : decode cX18_init 5 = .ok (.bipush 6, 2) := dk_16 6 (dk_at dksX18_init_0 5 rfl rfl)
theorem dX18_init_7 : decode cX18_init 7 = .ok (.anewarray 9, 3) := dk_189 0 9 (dk_at dksX18_init_0 7 rfl rfl)
theorem dX18_init_10 : decode cX18_init 10 = .ok (.putfield 11, 3) := dk_181 0 11 (dk_at dksX18_init_0 10 rfl rfl)
theorem dX18_init_13 : decode cX18_init 13 = .ok (.return_, 1) := dk_177 (dk_at dksX18_init_0 13 rfl rfl)
abbrev cX18_size : ByteArray := prog_25_method_6_code
def yX18_size : MethodName := ⟨RX18, "size", "()I"⟩
def dkwX18_size_1 : List UInt8 := [132, 2, 1, 167, 255, 233, 27, 172]
abbrev dktX18_size_1 : List UInt8 := dkwX18_size_1 ++ []
def dkwX18_size_0 : List UInt8 := [3, 60, 3, 61, 28, 42, 180, 0, 17, 162, 0, 21, 27, 42, 180, 0, 11, 28, 50, 182, 0, 49, 96, 60]
abbrev dktX18_size_0 : List UInt8 := dkwX18_size_0 ++ dktX18_size_1
theorem dksX18_size_0 : cX18_size.data.toList.drop 0 = dktX18_size_0 := by decide +kernel
theorem dksX18_size_1 : cX18_size.data.toList.drop 24 = dktX18_size_1 := dk_seg dksX18_size_0 24 rfl rfl
theorem dX18_size_0 : decode cX18_size 0 = .ok (.iconst 0, 1) := dk_3 (dk_at dksX18_size_0 0 rfl rfl)
theorem dX18_size_1 : decode cX18_size 1 = .ok (.istore_n 1, 1) := dk_60 (dk_at dksX18_size_0 1 rfl rfl)
theorem dX18_size_2 : decode cX18_size 2 = .ok (.iconst 0, 1) := dk_3 (dk_at dksX18_size_0 2 rfl rfl)
theorem dX18_size_3 : decode cX18_size 3 = .ok (.istore_n 2, 1) := dk_61 (dk_at dksX18_size_0 3 rfl rfl)
theorem dX18_size_4 : decode cX18_size 4 = .ok (.iload_n 2, 1) := dk_28 (dk_at dksX18_size_0 4 rfl rfl)
theorem dX18_size_5 : decode cX18_size 5 = .ok (.aload_n 0, 1) := dk_42 (dk_at dksX18_size_0 5 rfl rfl)
theorem dX18_size_6 : decode cX18_size 6 = .ok (.getfield 17, 3) := dk_180 0 17 (dk_at dksX18_size_0 6 rfl rfl)
theorem dX18_size_9 : decode cX18_size 9 = .ok (.if_icmp .ge 21, 3) := dk_162 0 21 (dk_at dksX18_size_0 9 rfl rfl)
theorem dX18_size_12 : decode cX18_size 12 = .ok (.iload_n 1, 1) := dk_27 (dk_at dksX18_size_0 12 rfl rfl)
theorem dX18_size_13 : decode cX18_size 13 = .ok (.aload_n 0, 1) := dk_42 (dk_at dksX18_size_0 13 rfl rfl)
theorem dX18_size_14 : decode cX18_size 14 = .ok (.getfield 11, 3) := dk_180 0 11 (dk_at dksX18_size_0 14 rfl rfl)
theorem dX18_size_17 : decode cX18_size 17 = .ok (.iload_n 2, 1) := dk_28 (dk_at dksX18_size_0 17 rfl rfl)
theorem dX18_size_18 : decode cX18_size 18 = .ok (.aaload, 1) := dk_50 (dk_at dksX18_size_0 18 rfl rfl)
theorem dX18_size_19 : decode cX18_size 19 = .ok (.invokevirtual 49, 3) := dk_182 0 49 (dk_at dksX18_size_0 19 rfl rfl)
theorem dX18_size_22 : decode cX18_size 22 = .ok (.iadd, 1) := dk_96 (dk_at dksX18_size_0 22 rfl rfl)
theorem dX18_size_23 : decode cX18_size 23 = .ok (.istore_n 1, 1) := dk_60 (dk_at dksX18_size_0 23 rfl rfl)
theorem dX18_size_24 : decode cX18_size 24 = .ok (.iinc 2 1, 3) := dk_132 2 1 (dk_at dksX18_size_1 0 rfl rfl)
theorem dX18_size_27 : decode cX18_size 27 = .ok (.goto (-23), 3) := dk_167 255 233 (dk_at dksX18_size_1 3 rfl rfl)
theorem dX18_size_30 : decode cX18_size 30 = .ok (.iload_n 1, 1) := dk_27 (dk_at dksX18_size_1 6 rfl rfl)
theorem dX18_size_31 : decode cX18_size 31 = .ok (.ireturn, 1) := dk_172 (dk_at dksX18_size_1 7 rfl rfl)
abbrev cX18_lower : ByteArray := prog_25_method_3_code
def yX18_lower : MethodName := ⟨RX18, "lower", "(LSafeBuckets$Sheet;)I"⟩
def dkwX18_lower_1 : List UInt8 := [184, 0, 29, 61, 132, 3, 1, 167, 255, 230, 28, 172]
abbrev dktX18_lower_1 : List UInt8 := dkwX18_lower_1 ++ []
def dkwX18_lower_0 : List UInt8 := [3, 61, 3, 62, 29, 42, 180, 0, 17, 162, 0, 24, 28, 42, 180, 0, 11, 29, 50, 43, 182, 0, 25]
abbrev dktX18_lower_0 : List UInt8 := dkwX18_lower_0 ++ dktX18_lower_1
theorem dksX18_lower_0 : cX18_lower.data.toList.drop 0 = dktX18_lower_0 := by decide +kernel
theorem dksX18_lower_1 : cX18_lower.data.toList.drop 23 = dktX18_lower_1 := dk_seg dksX18_lower_0 23 rfl rfl
theorem dX18_lower_0 : decode cX18_lower 0 = .ok (.iconst 0, 1) := dk_3 (dk_at dksX18_lower_0 0 rfl rfl)
theorem dX18_lower_1 : decode cX18_lower 1 = .ok (.istore_n 2, 1) := dk_61 (dk_at dksX18_lower_0 1 rfl rfl)
theorem dX18_lower_2 : decode cX18_lower 2 = .ok (.iconst 0, 1) := dk_3 (dk_at dksX18_lower_0 2 rfl rfl)
theorem dX18_lower_3 : decode cX18_lower 3 = .ok (.istore_n 3, 1) := dk_62 (dk_at dksX18_lower_0 3 rfl rfl)
theorem dX18_lower_4 : decode cX18_lower 4 = .ok (.iload_n 3, 1) := dk_29 (dk_at dksX18_lower_0 4 rfl rfl)
theorem dX18_lower_5 : decode cX18_lower 5 = .ok (.aload_n 0, 1) := dk_42 (dk_at dksX18_lower_0 5 rfl rfl)
theorem dX18_lower_6 : decode cX18_lower 6 = .ok (.getfield 17, 3) := dk_180 0 17 (dk_at dksX18_lower_0 6 rfl rfl)
theorem dX18_lower_9 : decode cX18_lower 9 = .ok (.if_icmp .ge 24, 3) := dk_162 0 24 (dk_at dksX18_lower_0 9 rfl rfl)
theorem dX18_lower_12 : decode cX18_lower 12 = .ok (.iload_n 2, 1) := dk_28 (dk_at dksX18_lower_0 12 rfl rfl)
theorem dX18_lower_13 : decode cX18_lower 13 = .ok (.aload_n 0, 1) := dk_42 (dk_at dksX18_lower_0 13 rfl rfl)
theorem dX18_lower_14 : decode cX18_lower 14 = .ok (.getfield 11, 3) := dk_180 0 11 (dk_at dksX18_lower_0 14 rfl rfl)
theorem dX18_lower_17 : decode cX18_lower 17 = .ok (.iload_n 3, 1) := dk_29 (dk_at dksX18_lower_0 17 rfl rfl)
theorem dX18_lower_18 : decode cX18_lower 18 = .ok (.aaload, 1) := dk_50 (dk_at dksX18_lower_0 18 rfl rfl)
theorem dX18_lower_19 : decode cX18_lower 19 = .ok (.aload_n 1, 1) := dk_43 (dk_at dksX18_lower_0 19 rfl rfl)
theorem dX18_lower_20 : decode cX18_lower 20 = .ok (.invokevirtual 25, 3) := dk_182 0 25 (dk_at dksX18_lower_0 20 rfl rfl)
theorem dX18_lower_23 : decode cX18_lower 23 = .ok (.invokestatic 29, 3) := dk_184 0 29 (dk_at dksX18_lower_1 0 rfl rfl)
theorem dX18_lower_26 : decode cX18_lower 26 = .ok (.istore_n 2, 1) := dk_61 (dk_at dksX18_lower_1 3 rfl rfl)
theorem dX18_lower_27 : decode cX18_lower 27 = .ok (.iinc 3 1, 3) := dk_132 3 1 (dk_at dksX18_lower_1 4 rfl rfl)
theorem dX18_lower_30 : decode cX18_lower 30 = .ok (.goto (-26), 3) := dk_167 255 230 (dk_at dksX18_lower_1 7 rfl rfl)
theorem dX18_lower_33 : decode cX18_lower 33 = .ok (.iload_n 2, 1) := dk_28 (dk_at dksX18_lower_1 10 rfl rfl)
theorem dX18_lower_34 : decode cX18_lower 34 = .ok (.ireturn, 1) := dk_172 (dk_at dksX18_lower_1 11 rfl rfl)
abbrev cX18_upper : ByteArray := prog_25_method_4_code
def yX18_upper : MethodName := ⟨RX18, "upper", "(LSafeBuckets$Sheet;)I"⟩
def dkwX18_upper_1 : List UInt8 := [61, 132, 3, 1, 167, 255, 232, 43, 180, 0, 38, 28, 184, 0, 43, 172]
abbrev dktX18_upper_1 : List UInt8 := dkwX18_upper_1 ++ []
def dkwX18_upper_0 : List UInt8 := [3, 61, 3, 62, 29, 42, 180, 0, 17, 162, 0, 22, 28, 42, 180, 0, 11, 29, 50, 43, 182, 0, 35, 96]
abbrev dktX18_upper_0 : List UInt8 := dkwX18_upper_0 ++ dktX18_upper_1
theorem dksX18_upper_0 : cX18_upper.data.toList.drop 0 = dktX18_upper_0 := by decide +kernel
theorem dksX18_upper_1 : cX18_upper.data.toList.drop 24 = dktX18_upper_1 := dk_seg dksX18_upper_0 24 rfl rfl
theorem dX18_upper_0 : decode cX18_upper 0 = .ok (.iconst 0, 1) := dk_3 (dk_at dksX18_upper_0 0 rfl rfl)
theorem dX18_upper_1 : decode cX18_upper 1 = .ok (.istore_n 2, 1) := dk_61 (dk_at dksX18_upper_0 1 rfl rfl)
theorem dX18_upper_2 : decode cX18_upper 2 = .ok (.iconst 0, 1) := dk_3 (dk_at dksX18_upper_0 2 rfl rfl)
theorem dX18_upper_3 : decode cX18_upper 3 = .ok (.istore_n 3, 1) := dk_62 (dk_at dksX18_upper_0 3 rfl rfl)
theorem dX18_upper_4 : decode cX18_upper 4 = .ok (.iload_n 3, 1) := dk_29 (dk_at dksX18_upper_0 4 rfl rfl)
theorem dX18_upper_5 : decode cX18_upper 5 = .ok (.aload_n 0, 1) := dk_42 (dk_at dksX18_upper_0 5 rfl rfl)
theorem dX18_upper_6 : decode cX18_upper 6 = .ok (.getfield 17, 3) := dk_180 0 17 (dk_at dksX18_upper_0 6 rfl rfl)
theorem dX18_upper_9 : decode cX18_upper 9 = .ok (.if_icmp .ge 22, 3) := dk_162 0 22 (dk_at dksX18_upper_0 9 rfl rfl)
theorem dX18_upper_12 : decode cX18_upper 12 = .ok (.iload_n 2, 1) := dk_28 (dk_at dksX18_upper_0 12 rfl rfl)
theorem dX18_upper_13 : decode cX18_upper 13 = .ok (.aload_n 0, 1) := dk_42 (dk_at dksX18_upper_0 13 rfl rfl)
theorem dX18_upper_14 : decode cX18_upper 14 = .ok (.getfield 11, 3) := dk_180 0 11 (dk_at dksX18_upper_0 14 rfl rfl)
theorem dX18_upper_17 : decode cX18_upper 17 = .ok (.iload_n 3, 1) := dk_29 (dk_at dksX18_upper_0 17 rfl rfl)
theorem dX18_upper_18 : decode cX18_upper 18 = .ok (.aaload, 1) := dk_50 (dk_at dksX18_upper_0 18 rfl rfl)
theorem dX18_upper_19 : decode cX18_upper 19 = .ok (.aload_n 1, 1) := dk_43 (dk_at dksX18_upper_0 19 rfl rfl)
theorem dX18_upper_20 : decode cX18_upper 20 = .ok (.invokevirtual 35, 3) := dk_182 0 35 (dk_at dksX18_upper_0 20 rfl rfl)
theorem dX18_upper_23 : decode cX18_upper 23 = .ok (.iadd, 1) := dk_96 (dk_at dksX18_upper_0 23 rfl rfl)
theorem dX18_upper_24 : decode cX18_upper 24 = .ok (.istore_n 2, 1) := dk_61 (dk_at dksX18_upper_1 0 rfl rfl)
theorem dX18_upper_25 : decode cX18_upper 25 = .ok (.iinc 3 1, 3) := dk_132 3 1 (dk_at dksX18_upper_1 1 rfl rfl)
theorem dX18_upper_28 : decode cX18_upper 28 = .ok (.goto (-24), 3) := dk_167 255 232 (dk_at dksX18_upper_1 4 rfl rfl)
theorem dX18_upper_31 : decode cX18_upper 31 = .ok (.aload_n 1, 1) := dk_43 (dk_at dksX18_upper_1 7 rfl rfl)
theorem dX18_upper_32 : decode cX18_upper 32 = .ok (.getfield 38, 3) := dk_180 0 38 (dk_at dksX18_upper_1 8 rfl rfl)
theorem dX18_upper_35 : decode cX18_upper 35 = .ok (.iload_n 2, 1) := dk_28 (dk_at dksX18_upper_1 11 rfl rfl)
theorem dX18_upper_36 : decode cX18_upper 36 = .ok (.invokestatic 43, 3) := dk_184 0 43 (dk_at dksX18_upper_1 12 rfl rfl)
theorem dX18_upper_39 : decode cX18_upper 39 = .ok (.ireturn, 1) := dk_172 (dk_at dksX18_upper_1 15 rfl rfl)
abbrev cX18_estimate : ByteArray := prog_25_method_5_code
def yX18_estimate : MethodName := ⟨RX18, "estimate", "(LSafeBuckets$Sheet;)I"⟩
def dkwX18_estimate_1 : List UInt8 := [61, 132, 3, 1, 167, 255, 232, 43, 180, 0, 38, 28, 184, 0, 43, 172]
abbrev dktX18_estimate_1 : List UInt8 := dkwX18_estimate_1 ++ []
def dkwX18_estimate_0 : List UInt8 := [3, 61, 3, 62, 29, 42, 180, 0, 17, 162, 0, 22, 28, 42, 180, 0, 11, 29, 50, 43, 182, 0, 46, 96]
abbrev dktX18_estimate_0 : List UInt8 := dkwX18_estimate_0 ++ dktX18_estimate_1
theorem dksX18_estimate_0 : cX18_estimate.data.toList.drop 0 = dktX18_estimate_0 := by decide +kernel
theorem dksX18_estimate_1 : cX18_estimate.data.toList.drop 24 = dktX18_estimate_1 := dk_seg dksX18_estimate_0 24 rfl rfl
theorem dX18_estimate_0 : decode cX18_estimate 0 = .ok (.iconst 0, 1) := dk_3 (dk_at dksX18_estimate_0 0 rfl rfl)
theorem dX18_estimate_1 : decode cX18_estimate 1 = .ok (.istore_n 2, 1) := dk_61 (dk_at dksX18_estimate_0 1 rfl rfl)
theorem dX18_estimate_2 : decode cX18_estimate 2 = .ok (.iconst 0, 1) := dk_3 (dk_at dksX18_estimate_0 2 rfl rfl)
theorem dX18_estimate_3 : decode cX18_estimate 3 = .ok (.istore_n 3, 1) := dk_62 (dk_at dksX18_estimate_0 3 rfl rfl)
theorem dX18_estimate_4 : decode cX18_estimate 4 = .ok (.iload_n 3, 1) := dk_29 (dk_at dksX18_estimate_0 4 rfl rfl)
theorem dX18_estimate_5 : decode cX18_estimate 5 = .ok (.aload_n 0, 1) := dk_42 (dk_at dksX18_estimate_0 5 rfl rfl)
theorem dX18_estimate_6 : decode cX18_estimate 6 = .ok (.getfield 17, 3) := dk_180 0 17 (dk_at dksX18_estimate_0 6 rfl rfl)
theorem dX18_estimate_9 : decode cX18_estimate 9 = .ok (.if_icmp .ge 22, 3) := dk_162 0 22 (dk_at dksX18_estimate_0 9 rfl rfl)
theorem dX18_estimate_12 : decode cX18_estimate 12 = .ok (.iload_n 2, 1) := dk_28 (dk_at dksX18_estimate_0 12 rfl rfl)
theorem dX18_estimate_13 : decode cX18_estimate 13 = .ok (.aload_n 0, 1) := dk_42 (dk_at dksX18_estimate_0 13 rfl rfl)
theorem dX18_estimate_14 : decode cX18_estimate 14 = .ok (.getfield 11, 3) := dk_180 0 11 (dk_at dksX18_estimate_0 14 rfl rfl)
theorem dX18_estimate_17 : decode cX18_estimate 17 = .ok (.iload_n 3, 1) := dk_29 (dk_at dksX18_estimate_0 17 rfl rfl)
theorem dX18_estimate_18 : decode cX18_estimate 18 = .ok (.aaload, 1) := dk_50 (dk_at dksX18_estimate_0 18 rfl rfl)
theorem dX18_estimate_19 : decode cX18_estimate 19 = .ok (.aload_n 1, 1) := dk_43 (dk_at dksX18_estimate_0 19 rfl rfl)
theorem dX18_estimate_20 : decode cX18_estimate 20 = .ok (.invokevirtual 46, 3) := dk_182 0 46 (dk_at dksX18_estimate_0 20 rfl rfl)
theorem dX18_estimate_23 : decode cX18_estimate 23 = .ok (.iadd, 1) := dk_96 (dk_at dksX18_estimate_0 23 rfl rfl)
theorem dX18_estimate_24 : decode cX18_estimate 24 = .ok (.istore_n 2, 1) := dk_61 (dk_at dksX18_estimate_1 0 rfl rfl)
theorem dX18_estimate_25 : decode cX18_estimate 25 = .ok (.iinc 3 1, 3) := dk_132 3 1 (dk_at dksX18_estimate_1 1 rfl rfl)
theorem dX18_estimate_28 : decode cX18_estimate 28 = .ok (.goto (-24), 3) := dk_167 255 232 (dk_at dksX18_estimate_1 4 rfl rfl)
theorem dX18_estimate_31 : decode cX18_estimate 31 = .ok (.aload_n 1, 1) := dk_43 (dk_at dksX18_estimate_1 7 rfl rfl)
theorem dX18_estimate_32 : decode cX18_estimate 32 = .ok (.getfield 38, 3) := dk_180 0 38 (dk_at dksX18_estimate_1 8 rfl rfl)
theorem dX18_estimate_35 : decode cX18_estimate 35 = .ok (.iload_n 2, 1) := dk_28 (dk_at dksX18_estimate_1 11 rfl rfl)
theorem dX18_estimate_36 : decode cX18_estimate 36 = .ok (.invokestatic 43, 3) := dk_184 0 43 (dk_at dksX18_estimate_1 12 rfl rfl)
theorem dX18_estimate_39 : decode cX18_estimate 39 = .ok (.ireturn, 1) := dk_172 (dk_at dksX18_estimate_1 15 rfl rfl)
abbrev cX18_holds : ByteArray := prog_25_method_2_code
def yX18_holds : MethodName := ⟨RX18, "holds", "(II)Z"⟩
def dkwX18_holds_1 : List UInt8 := [4, 172, 132, 3, 1, 167, 255, 229, 3, 172]
abbrev dktX18_holds_1 : List UInt8 := dkwX18_holds_1 ++ []
def dkwX18_holds_0 : List UInt8 := [3, 62, 29, 42, 180, 0, 17, 162, 0, 25, 42, 180, 0, 11, 29, 50, 27, 28, 182, 0, 21, 153, 0, 5]
abbrev dktX18_holds_0 : List UInt8 := dkwX18_holds_0 ++ dktX18_holds_1
theorem dksX18_holds_0 : cX18_holds.data.toList.drop 0 = dktX18_holds_0 := by decide +kernel
theorem dksX18_holds_1 : cX18_holds.data.toList.drop 24 = dktX18_holds_1 := dk_seg dksX18_holds_0 24 rfl rfl
theorem dX18_holds_0 : decode cX18_holds 0 = .ok (.iconst 0, 1) := dk_3 (dk_at dksX18_holds_0 0 rfl rfl)
theorem dX18_holds_1 : decode cX18_holds 1 = .ok (.istore_n 3, 1) := dk_62 (dk_at dksX18_holds_0 1 rfl rfl)
theorem dX18_holds_2 : decode cX18_holds 2 = .ok (.iload_n 3, 1) := dk_29 (dk_at dksX18_holds_0 2 rfl rfl)
theorem dX18_holds_3 : decode cX18_holds 3 = .ok (.aload_n 0, 1) := dk_42 (dk_at dksX18_holds_0 3 rfl rfl)
theorem dX18_holds_4 : decode cX18_holds 4 = .ok (.getfield 17, 3) := dk_180 0 17 (dk_at dksX18_holds_0 4 rfl rfl)
theorem dX18_holds_7 : decode cX18_holds 7 = .ok (.if_icmp .ge 25, 3) := dk_162 0 25 (dk_at dksX18_holds_0 7 rfl rfl)
theorem dX18_holds_10 : decode cX18_holds 10 = .ok (.aload_n 0, 1) := dk_42 (dk_at dksX18_holds_0 10 rfl rfl)
theorem dX18_holds_11 : decode cX18_holds 11 = .ok (.getfield 11, 3) := dk_180 0 11 (dk_at dksX18_holds_0 11 rfl rfl)
theorem dX18_holds_14 : decode cX18_holds 14 = .ok (.iload_n 3, 1) := dk_29 (dk_at dksX18_holds_0 14 rfl rfl)
theorem dX18_holds_15 : decode cX18_holds 15 = .ok (.aaload, 1) := dk_50 (dk_at dksX18_holds_0 15 rfl rfl)
theorem dX18_holds_16 : decode cX18_holds 16 = .ok (.iload_n 1, 1) := dk_27 (dk_at dksX18_holds_0 16 rfl rfl)
theorem dX18_holds_17 : decode cX18_holds 17 = .ok (.iload_n 2, 1) := dk_28 (dk_at dksX18_holds_0 17 rfl rfl)
theorem dX18_holds_18 : decode cX18_holds 18 = .ok (.invokevirtual 21, 3) := dk_182 0 21 (dk_at dksX18_holds_0 18 rfl rfl)
theorem dX18_holds_21 : decode cX18_holds 21 = .ok (.ifCond .eq 5, 3) := dk_153 0 5 (dk_at dksX18_holds_0 21 rfl rfl)
theorem dX18_holds_24 : decode cX18_holds 24 = .ok (.iconst 1, 1) := dk_4 (dk_at dksX18_holds_1 0 rfl rfl)
theorem dX18_holds_25 : decode cX18_holds 25 = .ok (.ireturn, 1) := dk_172 (dk_at dksX18_holds_1 1 rfl rfl)
theorem dX18_holds_26 : decode cX18_holds 26 = .ok (.iinc 3 1, 3) := dk_132 3 1 (dk_at dksX18_holds_1 2 rfl rfl)
theorem dX18_holds_29 : decode cX18_holds 29 = .ok (.goto (-27), 3) := dk_167 255 229 (dk_at dksX18_holds_1 5 rfl rfl)
theorem dX18_holds_32 : decode cX18_holds 32 = .ok (.iconst 0, 1) := dk_3 (dk_at dksX18_holds_1 8 rfl rfl)
theorem dX18_holds_33 : decode cX18_holds 33 = .ok (.ireturn, 1) := dk_172 (dk_at dksX18_holds_1 9 rfl rfl)
theorem q141 : (Jvm.Cond.initialized "SafeBuckets$Where") ∈ lw_all := lw_g (lw_at lw_m1 26 rfl) rfl
theorem q280 : (Jvm.Cond.fieldLinkNest "SafeBuckets$Where" (38 : Nat) "SafeBuckets$Sheet" "rows" "I" "SafeBuckets") ∈ lw_tbl := lw_at lw_m1 165 rfl
theorem q774 : (Jvm.Cond.instantiable "SafeBuckets$Where" (2 : Nat)) ∈ lw_all := lw_g (lw_at lw_m3 179 rfl) rfl
theorem q776 : (Jvm.Cond.instanceMethod ({ cls := "SafeBuckets$Where", name := "<init>", desc := "()V" } : Jvm.MethodName)) ∈ lw_all := lw_g (lw_at lw_m3 181 rfl) rfl
theorem q777 : (Jvm.Cond.code ({ cls := "SafeBuckets$Where", name := "<init>", desc := "()V" } : Jvm.MethodName) prog_25_method_1_code (1 : Nat) (Option.none : Option Jvm.ClassFile.FieldType)) ∈ lw_all := lw_g (lw_at lw_m3 182 rfl) rfl
theorem q778 : (Jvm.Cond.methodLink "SafeBuckets$Where" (3 : Nat) ({ cls := "java/lang/Object", name := "<init>", desc := "()V" } : Jvm.MethodName)) ∈ lw_all := lw_g (lw_at lw_m3 183 rfl) rfl
theorem q779 : (Jvm.Cond.classLink "SafeBuckets$Where" (9 : Nat) "SafeBuckets$Term") ∈ lw_all := lw_g (lw_at lw_m3 184 rfl) rfl
theorem q781 : (Jvm.Cond.fieldLink "SafeBuckets$Where" (11 : Nat) "SafeBuckets$Where" "terms" "[LSafeBuckets$Term;") ∈ lw_all := lw_g (lw_at lw_m3 186 rfl) rfl
theorem q784 : (Jvm.Cond.fieldLink "SafeBuckets$Where" (17 : Nat) "SafeBuckets$Where" "many" "I") ∈ lw_all := lw_g (lw_at lw_m3 189 rfl) rfl
theorem q787 : (Jvm.Cond.laysFinal "SafeBuckets$Where" "SafeBuckets$Where" "terms" "[LSafeBuckets$Term;") ∈ lw_all := lw_g (lw_at lw_m3 192 rfl) rfl
theorem q788 : (Jvm.Cond.soleField "SafeBuckets$Where" "terms") ∈ lw_all := lw_g (lw_at lw_m3 193 rfl) rfl
theorem q789 : (Jvm.Cond.lays "SafeBuckets$Where" "SafeBuckets$Where" "many" "I") ∈ lw_all := lw_g (lw_at lw_m3 194 rfl) rfl
theorem q790 : (Jvm.Cond.soleField "SafeBuckets$Where" "many") ∈ lw_all := lw_g (lw_at lw_m3 195 rfl) rfl
theorem q791 : (Jvm.Cond.superclass "SafeBuckets$Where" "java/lang/Object") ∈ lw_all := lw_g (lw_at lw_m3 196 rfl) rfl
theorem q820 : (Jvm.Cond.instanceMethod ({ cls := "SafeBuckets$Where", name := "size", desc := "()I" } : Jvm.MethodName)) ∈ lw_all := lw_g (lw_at lw_m3 225 rfl) rfl
theorem q821 : (Jvm.Cond.selects "SafeBuckets$Where" ({ cls := "SafeBuckets$Where", name := "size", desc := "()I" } : Jvm.MethodName) ({ cls := "SafeBuckets$Where", name := "size", desc := "()I" } : Jvm.MethodName)) ∈ lw_all := lw_g (lw_at lw_m3 226 rfl) rfl
theorem q822 : (Jvm.Cond.code ({ cls := "SafeBuckets$Where", name := "size", desc := "()I" } : Jvm.MethodName) prog_25_method_6_code (3 : Nat) (Option.some Jvm.ClassFile.FieldType.int)) ∈ lw_all := lw_g (lw_at lw_m3 227 rfl) rfl
theorem q823 : (Jvm.Cond.methodLink "SafeBuckets$Where" (49 : Nat) ({ cls := "SafeBuckets$Term", name := "size", desc := "()I" } : Jvm.MethodName)) ∈ lw_all := lw_g (lw_at lw_m3 228 rfl) rfl
theorem q1136 : (Jvm.Cond.instanceMethod ({ cls := "SafeBuckets$Where", name := "lower", desc := "(LSafeBuckets$Sheet;)I" } : Jvm.MethodName)) ∈ lw_all := lw_g (lw_at lw_m5 61 rfl) rfl
theorem q1137 : (Jvm.Cond.selects "SafeBuckets$Where" ({ cls := "SafeBuckets$Where", name := "lower", desc := "(LSafeBuckets$Sheet;)I" } : Jvm.MethodName) ({ cls := "SafeBuckets$Where", name := "lower", desc := "(LSafeBuckets$Sheet;)I" } : Jvm.MethodName)) ∈ lw_all := lw_g (lw_at lw_m5 62 rfl) rfl
theorem q1138 : (Jvm.Cond.code ({ cls := "SafeBuckets$Where", name := "lower", desc := "(LSafeBuckets$Sheet;)I" } : Jvm.MethodName) prog_25_method_3_code (4 : Nat) (Option.some Jvm.ClassFile.FieldType.int)) ∈ lw_all := lw_g (lw_at lw_m5 63 rfl) rfl
theorem q1139 : (Jvm.Cond.methodLink "SafeBuckets$Where" (25 : Nat) ({ cls := "SafeBuckets$Term", name := "lower", desc := "(LSafeBuckets$Sheet;)I" } : Jvm.MethodName)) ∈ lw_all := lw_g (lw_at lw_m5 64 rfl) rfl
theorem q1187 : (Jvm.Cond.methodLink "SafeBuckets$Where" (29 : Nat) ({ cls := "java/lang/Math", name := "max", desc := "(II)I" } : Jvm.MethodName)) ∈ lw_all := lw_g (lw_at lw_m5 112 rfl) rfl
theorem q1189 : (Jvm.Cond.instanceMethod ({ cls := "SafeBuckets$Where", name := "upper", desc := "(LSafeBuckets$Sheet;)I" } : Jvm.MethodName)) ∈ lw_all := lw_g (lw_at lw_m5 114 rfl) rfl
theorem q1190 : (Jvm.Cond.selects "SafeBuckets$Where" ({ cls := "SafeBuckets$Where", name := "upper", desc := "(LSafeBuckets$Sheet;)I" } : Jvm.MethodName) ({ cls := "SafeBuckets$Where", name := "upper", desc := "(LSafeBuckets$Sheet;)I" } : Jvm.MethodName)) ∈ lw_all := lw_g (lw_at lw_m5 115 rfl) rfl
theorem q1191 : (Jvm.Cond.code ({ cls := "SafeBuckets$Where", name := "upper", desc := "(LSafeBuckets$Sheet;)I" } : Jvm.MethodName) prog_25_method_4_code (4 : Nat) (Option.some Jvm.ClassFile.FieldType.int)) ∈ lw_all := lw_g (lw_at lw_m5 116 rfl) rfl
theorem q1192 : (Jvm.Cond.methodLink "SafeBuckets$Where" (35 : Nat) ({ cls := "SafeBuckets$Term", name := "upper", desc := "(LSafeBuckets$Sheet;)I" } : Jvm.MethodName)) ∈ lw_all := lw_g (lw_at lw_m5 117 rfl) rfl
theorem q1206 : (Jvm.Cond.methodLink "SafeBuckets$Where" (43 : Nat) ({ cls := "java/lang/Math", name := "min", desc := "(II)I" } : Jvm.MethodName)) ∈ lw_all := lw_g (lw_at lw_m5 131 rfl) rfl
theorem q1208 : (Jvm.Cond.instanceMethod ({ cls := "SafeBuckets$Where", name := "estimate", desc := "(LSafeBuckets$Sheet;)I" } : Jvm.MethodName)) ∈ lw_all := lw_g (lw_at lw_m5 133 rfl) rfl
theorem q1209 : (Jvm.Cond.selects "SafeBuckets$Where" ({ cls := "SafeBuckets$Where", name := "estimate", desc := "(LSafeBuckets$Sheet;)I" } : Jvm.MethodName) ({ cls := "SafeBuckets$Where", name := "estimate", desc := "(LSafeBuckets$Sheet;)I" } : Jvm.MethodName)) ∈ lw_all := lw_g (lw_at lw_m5 134 rfl) rfl
theorem q1210 : (Jvm.Cond.code ({ cls := "SafeBuckets$Where", name := "estimate", desc := "(LSafeBuckets$Sheet;)I" } : Jvm.MethodName) prog_25_method_5_code (4 : Nat) (Option.some Jvm.ClassFile.FieldType.int)) ∈ lw_all := lw_g (lw_at lw_m5 135 rfl) rfl
theorem q1211 : (Jvm.Cond.methodLink "SafeBuckets$Where" (46 : Nat) ({ cls := "SafeBuckets$Term", name := "estimate", desc := "(LSafeBuckets$Sheet;)I" } : Jvm.MethodName)) ∈ lw_all := lw_g (lw_at lw_m5 136 rfl) rfl
theorem q1255 : (Jvm.Cond.instanceMethod ({ cls := "SafeBuckets$Where", name := "holds", desc := "(II)Z" } : Jvm.MethodName)) ∈ lw_all := lw_g (lw_at lw_m5 180 rfl) rfl
theorem q1256 : (Jvm.Cond.selects "SafeBuckets$Where" ({ cls := "SafeBuckets$Where", name := "holds", desc := "(II)Z" } : Jvm.MethodName) ({ cls := "SafeBuckets$Where", name := "holds", desc := "(II)Z" } : Jvm.MethodName)) ∈ lw_all := lw_g (lw_at lw_m5 181 rfl) rfl
theorem q1257 : (Jvm.Cond.code ({ cls := "SafeBuckets$Where", name := "holds", desc := "(II)Z" } : Jvm.MethodName) prog_25_method_2_code (4 : Nat) (Option.some Jvm.ClassFile.FieldType.boolean)) ∈ lw_all := lw_g (lw_at lw_m5 182 rfl) rfl
theorem q1258 : (Jvm.Cond.methodLink "SafeBuckets$Where" (21 : Nat) ({ cls := "SafeBuckets$Term", name := "holds", desc := "(II)Z" } : Jvm.MethodName)) ∈ lw_all := lw_g (lw_at lw_m5 183 rfl) rfl
theorem q1365 : (Jvm.Cond.selects "SafeBuckets$Where" ({ cls := "java/lang/Object", name := "getClass", desc := "()Ljava/lang/Class;" } : Jvm.MethodName) ({ cls := "java/lang/Object", name := "getClass", desc := "()Ljava/lang/Class;" } : Jvm.MethodName)) ∈ lw_all := lw_g (lw_at lw_m6 50 rfl) rfl
theorem q1442 : (Jvm.Cond.castable "SafeBuckets$Where" "SafeBuckets$Condition") ∈ lw_tbl := lw_at lw_m6 127 rfl
theorem q1443 : (Jvm.Cond.selects "SafeBuckets$Where" ({ cls := "SafeBuckets$Condition", name := "upper", desc := "(LSafeBuckets$Sheet;)I" } : Jvm.MethodName) ({ cls := "SafeBuckets$Where", name := "upper", desc := "(LSafeBuckets$Sheet;)I" } : Jvm.MethodName)) ∈ lw_all := lw_g (lw_at lw_m6 128 rfl) rfl
theorem q1444 : (Jvm.Cond.unhidden "SafeBuckets$Where" "upper" "(LSafeBuckets$Sheet;)I") ∈ lw_tbl := lw_at lw_m6 129 rfl
theorem q1445 : (Jvm.Cond.publicMethod ({ cls := "SafeBuckets$Where", name := "upper", desc := "(LSafeBuckets$Sheet;)I" } : Jvm.MethodName)) ∈ lw_tbl := lw_at lw_m6 130 rfl
theorem q1456 : (Jvm.Cond.selects "SafeBuckets$Where" ({ cls := "SafeBuckets$Condition", name := "lower", desc := "(LSafeBuckets$Sheet;)I" } : Jvm.MethodName) ({ cls := "SafeBuckets$Where", name := "lower", desc := "(LSafeBuckets$Sheet;)I" } : Jvm.MethodName)) ∈ lw_all := lw_g (lw_at lw_m6 141 rfl) rfl
theorem q1457 : (Jvm.Cond.unhidden "SafeBuckets$Where" "lower" "(LSafeBuckets$Sheet;)I") ∈ lw_tbl := lw_at lw_m6 142 rfl
theorem q1458 : (Jvm.Cond.publicMethod ({ cls := "SafeBuckets$Where", name := "lower", desc := "(LSafeBuckets$Sheet;)I" } : Jvm.MethodName)) ∈ lw_tbl := lw_at lw_m6 143 rfl
theorem q1480 : (Jvm.Cond.selects "SafeBuckets$Where" ({ cls := "SafeBuckets$Condition", name := "holds", desc := "(II)Z" } : Jvm.MethodName) ({ cls := "SafeBuckets$Where", name := "holds", desc := "(II)Z" } : Jvm.MethodName)) ∈ lw_all := lw_g (lw_at lw_m6 165 rfl) rfl
theorem q1481 : (Jvm.Cond.unhidden "SafeBuckets$Where" "holds" "(II)Z") ∈ lw_tbl := lw_at lw_m6 166 rfl
theorem q1482 : (Jvm.Cond.publicMethod ({ cls := "SafeBuckets$Where", name := "holds", desc := "(II)Z" } : Jvm.MethodName)) ∈ lw_tbl := lw_at lw_m6 167 rfl
theorem q2143 : (Jvm.Cond.castable "SafeBuckets$Where" "java/lang/Object") ∈ lw_tbl := lw_at lw_m9 108 rfl
theorem in_X18 : ∀ w ∈ wsX180, w ∈ lw_all := lw_in wsX180 [787, 789] (by decide +kernel) (by decide +kernel)

/-! SafeBuckets$Term -/
set_option maxRecDepth 100000
def RX19 : String := "SafeBuckets$Term"
def TX19 : u_T := fun k => match k with
  | 0 => ("SafeBuckets$Term", "units", "[LSafeBuckets$Unit;", true)
  | _ => ("SafeBuckets$Term", "many", "I", false)
def tyX19 : Nat → FieldType := fun k => match k with
  | 0 => .array (.object "SafeBuckets$Unit")
  | _ => .int
abbrev wsX190 : List Cond := u_ws RX19 TX19 2
theorem nmX19 : ∀ a, a < 2 → ∀ b, b < 2 → a ≠ b → (TX19 a).2.1 ≠ (TX19 b).2.1 := by decide +kernel
theorem tyX19_ok : ∀ k, k < 2 → parseFieldDescriptor (TX19 k).2.2.1 = some (tyX19 k) := by decide +kernel
abbrev cX19_init : ByteArray := prog_20_method_1_code
def yX19_init : MethodName := ⟨RX19, "<init>", "()V"⟩
def dkwX19_init_0 : List UInt8 := [42, 183, 0, 3, 42, 16, 6, 189, 0, 9, 181, 0, 11, 177]
abbrev dktX19_init_0 : List UInt8 := dkwX19_init_0 ++ []
theorem dksX19_init_0 : cX19_init.data.toList.drop 0 = dktX19_init_0 := by decide +kernel
theorem dX19_init_0 : decode cX19_init 0 = .ok (.aload_n 0, 1) := dk_42 (dk_at dksX19_init_0 0 rfl rfl)
theorem dX19_init_1 : decode cX19_init 1 = .ok (.invokespecial 3, 3) := dk_183 0 3 (dk_at dksX19_init_0 1 rfl rfl)
theorem dX19_init_4 : decode cX19_init 4 = .ok (.aload_n 0, 1) := dk_42 (dk_at dksX19_init_0 4 rfl rfl)
theorem dX19_init_5 : decode cX19_init 5 = .ok (.bipush 6, 2) := dk_16 6 (dk_at dksX19_init_0 5 rfl rfl)
theorem dX19_init_7 : decode cX19_init 7 = .ok (.anewarray 9, 3) := dk_189 0 9 (dk_at dksX19_init_0 7 rfl rfl)
theorem dX19_init_10 : decode cX19_init 10 = .ok (.putfield 11, 3) := dk_181 0 11 (dk_at dksX19_init_0 10 rfl rfl)
theorem dX19_init_13 : decode cX19_init 13 = .ok (.return_, 1) := dk_177 (dk_at dksX19_init_0 13 rfl rfl)
abbrev cX19_size : ByteArray := prog_20_method_6_code
def yX19_size : MethodName := ⟨RX19, "size", "()I"⟩
theorem dX19_size_0 : decode cX19_size 0 = .ok (.aload_n 0, 1) := by decide +kernel
theorem dX19_size_1 : decode cX19_size 1 = .ok (.getfield 17, 3) := by decide +kernel
theorem dX19_size_4 : decode cX19_size 4 = .ok (.ireturn, 1) := by decide +kernel
abbrev cX19_lower : ByteArray := prog_20_method_3_code
def yX19_lower : MethodName := ⟨RX19, "lower", "(LSafeBuckets$Sheet;)I"⟩
def dkwX19_lower_1 : List UInt8 := [182, 0, 30, 43, 180, 0, 25, 100, 96, 61, 132, 3, 1, 167, 255, 227, 3, 28, 184, 0, 34, 172]
abbrev dktX19_lower_1 : List UInt8 := dkwX19_lower_1 ++ []
def dkwX19_lower_0 : List UInt8 := [43, 180, 0, 25, 61, 3, 62, 29, 42, 180, 0, 17, 162, 0, 27, 28, 42, 180, 0, 11, 29, 50, 43]
abbrev dktX19_lower_0 : List UInt8 := dkwX19_lower_0 ++ dktX19_lower_1
theorem dksX19_lower_0 : cX19_lower.data.toList.drop 0 = dktX19_lower_0 := by decide +kernel
theorem dksX19_lower_1 : cX19_lower.data.toList.drop 23 = dktX19_lower_1 := dk_seg dksX19_lower_0 23 rfl rfl
theorem dX19_lower_0 : decode cX19_lower 0 = .ok (.aload_n 1, 1) := dk_43 (dk_at dksX19_lower_0 0 rfl rfl)
theorem dX19_lower_1 : decode cX19_lower 1 = .ok (.getfield 25, 3) := dk_180 0 25 (dk_at dksX19_lower_0 1 rfl rfl)
theorem dX19_lower_4 : decode cX19_lower 4 = .ok (.istore_n 2, 1) := dk_61 (dk_at dksX19_lower_0 4 rfl rfl)
theorem dX19_lower_5 : decode cX19_lower 5 = .ok (.iconst 0, 1) := dk_3 (dk_at dksX19_lower_0 5 rfl rfl)
theorem dX19_lower_6 : decode cX19_lower 6 = .ok (.istore_n 3, 1) := dk_62 (dk_at dksX19_lower_0 6 rfl rfl)
theorem dX19_lower_7 : decode cX19_lower 7 = .ok (.iload_n 3, 1) := dk_29 (dk_at dksX19_lower_0 7 rfl rfl)
theorem dX19_lower_8 : decode cX19_lower 8 = .ok (.aload_n 0, 1) := dk_42 (dk_at dksX19_lower_0 8 rfl rfl)
theorem dX19_lower_9 : decode cX19_lower 9 = .ok (.getfield 17, 3) := dk_180 0 17 (dk_at dksX19_lower_0 9 rfl rfl)
theorem dX19_lower_12 : decode cX19_lower 12 = .ok (.if_icmp .ge 27, 3) := dk_162 0 27 (dk_at dksX19_lower_0 12 rfl rfl)
theorem dX19_lower_15 : decode cX19_lower 15 = .ok (.iload_n 2, 1) := dk_28 (dk_at dksX19_lower_0 15 rfl rfl)
theorem dX19_lower_16 : decode cX19_lower 16 = .ok (.aload_n 0, 1) := dk_42 (dk_at dksX19_lower_0 16 rfl rfl)
theorem dX19_lower_17 : decode cX19_lower 17 = .ok (.getfield 11, 3) := dk_180 0 11 (dk_at dksX19_lower_0 17 rfl rfl)
theorem dX19_lower_20 : decode cX19_lower 20 = .ok (.iload_n 3, 1) := dk_29 (dk_at dksX19_lower_0 20 rfl rfl)
theorem dX19_lower_21 : decode cX19_lower 21 = .ok (.aaload, 1) := dk_50 (dk_at dksX19_lower_0 21 rfl rfl)
theorem dX19_lower_22 : decode cX19_lower 22 = .ok (.aload_n 1, 1) := dk_43 (dk_at dksX19_lower_0 22 rfl rfl)
theorem dX19_lower_23 : decode cX19_lower 23 = .ok (.invokevirtual 30, 3) := dk_182 0 30 (dk_at dksX19_lower_1 0 rfl rfl)
theorem dX19_lower_26 : decode cX19_lower 26 = .ok (.aload_n 1, 1) := dk_43 (dk_at dksX19_lower_1 3 rfl rfl)
theorem dX19_lower_27 : decode cX19_lower 27 = .ok (.getfield 25, 3) := dk_180 0 25 (dk_at dksX19_lower_1 4 rfl rfl)
theorem dX19_lower_30 : decode cX19_lower 30 = .ok (.isub, 1) := dk_100 (dk_at dksX19_lower_1 7 rfl rfl)
theorem dX19_lower_31 : decode cX19_lower 31 = .ok (.iadd, 1) := dk_96 (dk_at dksX19_lower_1 8 rfl rfl)
theorem dX19_lower_32 : decode cX19_lower 32 = .ok (.istore_n 2, 1) := dk_61 (dk_at dksX19_lower_1 9 rfl rfl)
theorem dX19_lower_33 : decode cX19_lower 33 = .ok (.iinc 3 1, 3) := dk_132 3 1 (dk_at dksX19_lower_1 10 rfl rfl)
theorem dX19_lower_36 : decode cX19_lower 36 = .ok (.goto (-29), 3) := dk_167 255 227 (dk_at dksX19_lower_1 13 rfl rfl)
theorem dX19_lower_39 : decode cX19_lower 39 = .ok (.iconst 0, 1) := dk_3 (dk_at dksX19_lower_1 16 rfl rfl)
theorem dX19_lower_40 : decode cX19_lower 40 = .ok (.iload_n 2, 1) := dk_28 (dk_at dksX19_lower_1 17 rfl rfl)
theorem dX19_lower_41 : decode cX19_lower 41 = .ok (.invokestatic 34, 3) := dk_184 0 34 (dk_at dksX19_lower_1 18 rfl rfl)
theorem dX19_lower_44 : decode cX19_lower 44 = .ok (.ireturn, 1) := dk_172 (dk_at dksX19_lower_1 21 rfl rfl)
abbrev cX19_upper : ByteArray := prog_20_method_4_code
def yX19_upper : MethodName := ⟨RX19, "upper", "(LSafeBuckets$Sheet;)I"⟩
def dkwX19_upper_1 : List UInt8 := [180, 0, 11, 29, 50, 43, 182, 0, 40, 184, 0, 43, 61, 132, 3, 1, 167, 255, 230, 28, 172]
abbrev dktX19_upper_1 : List UInt8 := dkwX19_upper_1 ++ []
def dkwX19_upper_0 : List UInt8 := [42, 180, 0, 11, 3, 50, 43, 182, 0, 40, 61, 4, 62, 29, 42, 180, 0, 17, 162, 0, 24, 28, 42]
abbrev dktX19_upper_0 : List UInt8 := dkwX19_upper_0 ++ dktX19_upper_1
theorem dksX19_upper_0 : cX19_upper.data.toList.drop 0 = dktX19_upper_0 := by decide +kernel
theorem dksX19_upper_1 : cX19_upper.data.toList.drop 23 = dktX19_upper_1 := dk_seg dksX19_upper_0 23 rfl rfl
theorem dX19_upper_0 : decode cX19_upper 0 = .ok (.aload_n 0, 1) := dk_42 (dk_at dksX19_upper_0 0 rfl rfl)
theorem dX19_upper_1 : decode cX19_upper 1 = .ok (.getfield 11, 3) := dk_180 0 11 (dk_at dksX19_upper_0 1 rfl rfl)
theorem dX19_upper_4 : decode cX19_upper 4 = .ok (.iconst 0, 1) := dk_3 (dk_at dksX19_upper_0 4 rfl rfl)
theorem dX19_upper_5 : decode cX19_upper 5 = .ok (.aaload, 1) := dk_50 (dk_at dksX19_upper_0 5 rfl rfl)
theorem dX19_upper_6 : decode cX19_upper 6 = .ok (.aload_n 1, 1) := dk_43 (dk_at dksX19_upper_0 6 rfl rfl)
theorem dX19_upper_7 : decode cX19_upper 7 = .ok (.invokevirtual 40, 3) := dk_182 0 40 (dk_at dksX19_upper_0 7 rfl rfl)
theorem dX19_upper_10 : decode cX19_upper 10 = .ok (.istore_n 2, 1) := dk_61 (dk_at dksX19_upper_0 10 rfl rfl)
theorem dX19_upper_11 : decode cX19_upper 11 = .ok (.iconst 1, 1) := dk_4 (dk_at dksX19_upper_0 11 rfl rfl)
theorem dX19_upper_12 : decode cX19_upper 12 = .ok (.istore_n 3, 1) := dk_62 (dk_at dksX19_upper_0 12 rfl rfl)
theorem dX19_upper_13 : decode cX19_upper 13 = .ok (.iload_n 3, 1) := dk_29 (dk_at dksX19_upper_0 13 rfl rfl)
theorem dX19_upper_14 : decode cX19_upper 14 = .ok (.aload_n 0, 1) := dk_42 (dk_at dksX19_upper_0 14 rfl rfl)
theorem dX19_upper_15 : decode cX19_upper 15 = .ok (.getfield 17, 3) := dk_180 0 17 (dk_at dksX19_upper_0 15 rfl rfl)
theorem dX19_upper_18 : decode cX19_upper 18 = .ok (.if_icmp .ge 24, 3) := dk_162 0 24 (dk_at dksX19_upper_0 18 rfl rfl)
theorem dX19_upper_21 : decode cX19_upper 21 = .ok (.iload_n 2, 1) := dk_28 (dk_at dksX19_upper_0 21 rfl rfl)
theorem dX19_upper_22 : decode cX19_upper 22 = .ok (.aload_n 0, 1) := dk_42 (dk_at dksX19_upper_0 22 rfl rfl)
theorem dX19_upper_23 : decode cX19_upper 23 = .ok (.getfield 11, 3) := dk_180 0 11 (dk_at dksX19_upper_1 0 rfl rfl)
theorem dX19_upper_26 : decode cX19_upper 26 = .ok (.iload_n 3, 1) := dk_29 (dk_at dksX19_upper_1 3 rfl rfl)
theorem dX19_upper_27 : decode cX19_upper 27 = .ok (.aaload, 1) := dk_50 (dk_at dksX19_upper_1 4 rfl rfl)
theorem dX19_upper_28 : decode cX19_upper 28 = .ok (.aload_n 1, 1) := dk_43 (dk_at dksX19_upper_1 5 rfl rfl)
theorem dX19_upper_29 : decode cX19_upper 29 = .ok (.invokevirtual 40, 3) := dk_182 0 40 (dk_at dksX19_upper_1 6 rfl rfl)
theorem dX19_upper_32 : decode cX19_upper 32 = .ok (.invokestatic 43, 3) := dk_184 0 43 (dk_at dksX19_upper_1 9 rfl rfl)
theorem dX19_upper_35 : decode cX19_upper 35 = .ok (.istore_n 2, 1) := dk_61 (dk_at dksX19_upper_1 12 rfl rfl)
theorem dX19_upper_36 : decode cX19_upper 36 = .ok (.iinc 3 1, 3) := dk_132 3 1 (dk_at dksX19_upper_1 13 rfl rfl)
theorem dX19_upper_39 : decode cX19_upper 39 = .ok (.goto (-26), 3) := dk_167 255 230 (dk_at dksX19_upper_1 16 rfl rfl)
theorem dX19_upper_42 : decode cX19_upper 42 = .ok (.iload_n 2, 1) := dk_28 (dk_at dksX19_upper_1 19 rfl rfl)
theorem dX19_upper_43 : decode cX19_upper 43 = .ok (.ireturn, 1) := dk_172 (dk_at dksX19_upper_1 20 rfl rfl)
abbrev cX19_estimate : ByteArray := prog_20_method_5_code
def yX19_estimate : MethodName := ⟨RX19, "estimate", "(LSafeBuckets$Sheet;)I"⟩
def dkwX19_estimate_1 : List UInt8 := [180, 0, 11, 29, 50, 43, 182, 0, 46, 184, 0, 43, 61, 132, 3, 1, 167, 255, 230, 28, 172]
abbrev dktX19_estimate_1 : List UInt8 := dkwX19_estimate_1 ++ []
def dkwX19_estimate_0 : List UInt8 := [42, 180, 0, 11, 3, 50, 43, 182, 0, 46, 61, 4, 62, 29, 42, 180, 0, 17, 162, 0, 24, 28, 42]
abbrev dktX19_estimate_0 : List UInt8 := dkwX19_estimate_0 ++ dktX19_estimate_1
theorem dksX19_estimate_0 : cX19_estimate.data.toList.drop 0 = dktX19_estimate_0 := by decide +kernel
theorem dksX19_estimate_1 : cX19_estimate.data.toList.drop 23 = dktX19_estimate_1 := dk_seg dksX19_estimate_0 23 rfl rfl
theorem dX19_estimate_0 : decode cX19_estimate 0 = .ok (.aload_n 0, 1) := dk_42 (dk_at dksX19_estimate_0 0 rfl rfl)
theorem dX19_estimate_1 : decode cX19_estimate 1 = .ok (.getfield 11, 3) := dk_180 0 11 (dk_at dksX19_estimate_0 1 rfl rfl)
theorem dX19_estimate_4 : decode cX19_estimate 4 = .ok (.iconst 0, 1) := dk_3 (dk_at dksX19_estimate_0 4 rfl rfl)
theorem dX19_estimate_5 : decode cX19_estimate 5 = .ok (.aaload, 1) := dk_50 (dk_at dksX19_estimate_0 5 rfl rfl)
theorem dX19_estimate_6 : decode cX19_estimate 6 = .ok (.aload_n 1, 1) := dk_43 (dk_at dksX19_estimate_0 6 rfl rfl)
theorem dX19_estimate_7 : decode cX19_estimate 7 = .ok (.invokevirtual 46, 3) := dk_182 0 46 (dk_at dksX19_estimate_0 7 rfl rfl)
theorem dX19_estimate_10 : decode cX19_estimate 10 = .ok (.istore_n 2, 1) := dk_61 (dk_at dksX19_estimate_0 10 rfl rfl)
theorem dX19_estimate_11 : decode cX19_estimate 11 = .ok (.iconst 1, 1) := dk_4 (dk_at dksX19_estimate_0 11 rfl rfl)
theorem dX19_estimate_12 : decode cX19_estimate 12 = .ok (.istore_n 3, 1) := dk_62 (dk_at dksX19_estimate_0 12 rfl rfl)
theorem dX19_estimate_13 : decode cX19_estimate 13 = .ok (.iload_n 3, 1) := dk_29 (dk_at dksX19_estimate_0 13 rfl rfl)
theorem dX19_estimate_14 : decode cX19_estimate 14 = .ok (.aload_n 0, 1) := dk_42 (dk_at dksX19_estimate_0 14 rfl rfl)
theorem dX19_estimate_15 : decode cX19_estimate 15 = .ok (.getfield 17, 3) := dk_180 0 17 (dk_at dksX19_estimate_0 15 rfl rfl)
theorem dX19_estimate_18 : decode cX19_estimate 18 = .ok (.if_icmp .ge 24, 3) := dk_162 0 24 (dk_at dksX19_estimate_0 18 rfl rfl)
theorem dX19_estimate_21 : decode cX19_estimate 21 = .ok (.iload_n 2, 1) := dk_28 (dk_at dksX19_estimate_0 21 rfl rfl)
theorem dX19_estimate_22 : decode cX19_estimate 22 = .ok (.aload_n 0, 1) := dk_42 (dk_at dksX19_estimate_0 22 rfl rfl)
theorem dX19_estimate_23 : decode cX19_estimate 23 = .ok (.getfield 11, 3) := dk_180 0 11 (dk_at dksX19_estimate_1 0 rfl rfl)
theorem dX19_estimate_26 : decode cX19_estimate 26 = .ok (.iload_n 3, 1) := dk_29 (dk_at dksX19_estimate_1 3 rfl rfl)
theorem dX19_estimate_27 : decode cX19_estimate 27 = .ok (.aaload, 1) := dk_50 (dk_at dksX19_estimate_1 4 rfl rfl)
theorem dX19_estimate_28 : decode cX19_estimate 28 = .ok (.aload_n 1, 1) := dk_43 (dk_at dksX19_estimate_1 5 rfl rfl)
theorem dX19_estimate_29 : decode cX19_estimate 29 = .ok (.invokevirtual 46, 3) := dk_182 0 46 (dk_at dksX19_estimate_1 6 rfl rfl)
theorem dX19_estimate_32 : decode cX19_estimate 32 = .ok (.invokestatic 43, 3) := dk_184 0 43 (dk_at dksX19_estimate_1 9 rfl rfl)
theorem dX19_estimate_35 : decode cX19_estimate 35 = .ok (.istore_n 2, 1) := dk_61 (dk_at dksX19_estimate_1 12 rfl rfl)
theorem dX19_estimate_36 : decode cX19_estimate 36 = .ok (.iinc 3 1, 3) := dk_132 3 1 (dk_at dksX19_estimate_1 13 rfl rfl)
theorem dX19_estimate_39 : decode cX19_estimate 39 = .ok (.goto (-26), 3) := dk_167 255 230 (dk_at dksX19_estimate_1 16 rfl rfl)
theorem dX19_estimate_42 : decode cX19_estimate 42 = .ok (.iload_n 2, 1) := dk_28 (dk_at dksX19_estimate_1 19 rfl rfl)
theorem dX19_estimate_43 : decode cX19_estimate 43 = .ok (.ireturn, 1) := dk_172 (dk_at dksX19_estimate_1 20 rfl rfl)
abbrev cX19_holds : ByteArray := prog_20_method_2_code
def yX19_holds : MethodName := ⟨RX19, "holds", "(II)Z"⟩
def dkwX19_holds_1 : List UInt8 := [3, 172, 132, 3, 1, 167, 255, 229, 4, 172]
abbrev dktX19_holds_1 : List UInt8 := dkwX19_holds_1 ++ []
def dkwX19_holds_0 : List UInt8 := [3, 62, 29, 42, 180, 0, 17, 162, 0, 25, 42, 180, 0, 11, 29, 50, 27, 28, 182, 0, 21, 154, 0, 5]
abbrev dktX19_holds_0 : List UInt8 := dkwX19_holds_0 ++ dktX19_holds_1
theorem dksX19_holds_0 : cX19_holds.data.toList.drop 0 = dktX19_holds_0 := by decide +kernel
theorem dksX19_holds_1 : cX19_holds.data.toList.drop 24 = dktX19_holds_1 := dk_seg dksX19_holds_0 24 rfl rfl
theorem dX19_holds_0 : decode cX19_holds 0 = .ok (.iconst 0, 1) := dk_3 (dk_at dksX19_holds_0 0 rfl rfl)
theorem dX19_holds_1 : decode cX19_holds 1 = .ok (.istore_n 3, 1) := dk_62 (dk_at dksX19_holds_0 1 rfl rfl)
theorem dX19_holds_2 : decode cX19_holds 2 = .ok (.iload_n 3, 1) := dk_29 (dk_at dksX19_holds_0 2 rfl rfl)
theorem dX19_holds_3 : decode cX19_holds 3 = .ok (.aload_n 0, 1) := dk_42 (dk_at dksX19_holds_0 3 rfl rfl)
theorem dX19_holds_4 : decode cX19_holds 4 = .ok (.getfield 17, 3) := dk_180 0 17 (dk_at dksX19_holds_0 4 rfl rfl)
theorem dX19_holds_7 : decode cX19_holds 7 = .ok (.if_icmp .ge 25, 3) := dk_162 0 25 (dk_at dksX19_holds_0 7 rfl rfl)
theorem dX19_holds_10 : decode cX19_holds 10 = .ok (.aload_n 0, 1) := dk_42 (dk_at dksX19_holds_0 10 rfl rfl)
theorem dX19_holds_11 : decode cX19_holds 11 = .ok (.getfield 11, 3) := dk_180 0 11 (dk_at dksX19_holds_0 11 rfl rfl)
theorem dX19_holds_14 : decode cX19_holds 14 = .ok (.iload_n 3, 1) := dk_29 (dk_at dksX19_holds_0 14 rfl rfl)
theorem dX19_holds_15 : decode cX19_holds 15 = .ok (.aaload, 1) := dk_50 (dk_at dksX19_holds_0 15 rfl rfl)
theorem dX19_holds_16 : decode cX19_holds 16 = .ok (.iload_n 1, 1) := dk_27 (dk_at dksX19_holds_0 16 rfl rfl)
theorem dX19_holds_17 : decode cX19_holds 17 = .ok (.iload_n 2, 1) := dk_28 (dk_at dksX19_holds_0 17 rfl rfl)
theorem dX19_holds_18 : decode cX19_holds 18 = .ok (.invokevirtual 21, 3) := dk_182 0 21 (dk_at dksX19_holds_0 18 rfl rfl)
theorem dX19_holds_21 : decode cX19_holds 21 = .ok (.ifCond .ne 5, 3) := dk_154 0 5 (dk_at dksX19_holds_0 21 rfl rfl)
theorem dX19_holds_24 : decode cX19_holds 24 = .ok (.iconst 0, 1) := dk_3 (dk_at dksX19_holds_1 0 rfl rfl)
theorem dX19_holds_25 : decode cX19_holds 25 = .ok (.ireturn, 1) := dk_172 (dk_at dksX19_holds_1 1 rfl rfl)
theorem dX19_holds_26 : decode cX19_holds 26 = .ok (.iinc 3 1, 3) := dk_132 3 1 (dk_at dksX19_holds_1 2 rfl rfl)
theorem dX19_holds_29 : decode cX19_holds 29 = .ok (.goto (-27), 3) := dk_167 255 229 (dk_at dksX19_holds_1 5 rfl rfl)
theorem dX19_holds_32 : decode cX19_holds 32 = .ok (.iconst 1, 1) := dk_4 (dk_at dksX19_holds_1 8 rfl rfl)
theorem dX19_holds_33 : decode cX19_holds 33 = .ok (.ireturn, 1) := dk_172 (dk_at dksX19_holds_1 9 rfl rfl)
theorem q142 : (Jvm.Cond.initialized "SafeBuckets$Term") ∈ lw_all := lw_g (lw_at lw_m1 27 rfl) rfl
theorem q278 : (Jvm.Cond.fieldLinkNest "SafeBuckets$Term" (25 : Nat) "SafeBuckets$Sheet" "rows" "I" "SafeBuckets") ∈ lw_tbl := lw_at lw_m1 163 rfl
theorem q793 : (Jvm.Cond.instantiable "SafeBuckets$Term" (2 : Nat)) ∈ lw_all := lw_g (lw_at lw_m3 198 rfl) rfl
theorem q795 : (Jvm.Cond.instanceMethod ({ cls := "SafeBuckets$Term", name := "<init>", desc := "()V" } : Jvm.MethodName)) ∈ lw_all := lw_g (lw_at lw_m3 200 rfl) rfl
theorem q796 : (Jvm.Cond.code ({ cls := "SafeBuckets$Term", name := "<init>", desc := "()V" } : Jvm.MethodName) prog_20_method_1_code (1 : Nat) (Option.none : Option Jvm.ClassFile.FieldType)) ∈ lw_all := lw_g (lw_at lw_m3 201 rfl) rfl
theorem q797 : (Jvm.Cond.methodLink "SafeBuckets$Term" (3 : Nat) ({ cls := "java/lang/Object", name := "<init>", desc := "()V" } : Jvm.MethodName)) ∈ lw_all := lw_g (lw_at lw_m3 202 rfl) rfl
theorem q798 : (Jvm.Cond.classLink "SafeBuckets$Term" (9 : Nat) "SafeBuckets$Unit") ∈ lw_all := lw_g (lw_at lw_m3 203 rfl) rfl
theorem q800 : (Jvm.Cond.fieldLink "SafeBuckets$Term" (11 : Nat) "SafeBuckets$Term" "units" "[LSafeBuckets$Unit;") ∈ lw_all := lw_g (lw_at lw_m3 205 rfl) rfl
theorem q803 : (Jvm.Cond.fieldLink "SafeBuckets$Term" (17 : Nat) "SafeBuckets$Term" "many" "I") ∈ lw_all := lw_g (lw_at lw_m3 208 rfl) rfl
theorem q806 : (Jvm.Cond.laysFinal "SafeBuckets$Term" "SafeBuckets$Term" "units" "[LSafeBuckets$Unit;") ∈ lw_all := lw_g (lw_at lw_m3 211 rfl) rfl
theorem q807 : (Jvm.Cond.soleField "SafeBuckets$Term" "units") ∈ lw_all := lw_g (lw_at lw_m3 212 rfl) rfl
theorem q808 : (Jvm.Cond.lays "SafeBuckets$Term" "SafeBuckets$Term" "many" "I") ∈ lw_all := lw_g (lw_at lw_m3 213 rfl) rfl
theorem q809 : (Jvm.Cond.soleField "SafeBuckets$Term" "many") ∈ lw_all := lw_g (lw_at lw_m3 214 rfl) rfl
theorem q810 : (Jvm.Cond.superclass "SafeBuckets$Term" "java/lang/Object") ∈ lw_all := lw_g (lw_at lw_m3 215 rfl) rfl
theorem q824 : (Jvm.Cond.instanceMethod ({ cls := "SafeBuckets$Term", name := "size", desc := "()I" } : Jvm.MethodName)) ∈ lw_all := lw_g (lw_at lw_m3 229 rfl) rfl
theorem q825 : (Jvm.Cond.selects "SafeBuckets$Term" ({ cls := "SafeBuckets$Term", name := "size", desc := "()I" } : Jvm.MethodName) ({ cls := "SafeBuckets$Term", name := "size", desc := "()I" } : Jvm.MethodName)) ∈ lw_all := lw_g (lw_at lw_m3 230 rfl) rfl
theorem q826 : (Jvm.Cond.code ({ cls := "SafeBuckets$Term", name := "size", desc := "()I" } : Jvm.MethodName) prog_20_method_6_code (1 : Nat) (Option.some Jvm.ClassFile.FieldType.int)) ∈ lw_all := lw_g (lw_at lw_m3 231 rfl) rfl
theorem q1140 : (Jvm.Cond.instanceMethod ({ cls := "SafeBuckets$Term", name := "lower", desc := "(LSafeBuckets$Sheet;)I" } : Jvm.MethodName)) ∈ lw_all := lw_g (lw_at lw_m5 65 rfl) rfl
theorem q1141 : (Jvm.Cond.selects "SafeBuckets$Term" ({ cls := "SafeBuckets$Term", name := "lower", desc := "(LSafeBuckets$Sheet;)I" } : Jvm.MethodName) ({ cls := "SafeBuckets$Term", name := "lower", desc := "(LSafeBuckets$Sheet;)I" } : Jvm.MethodName)) ∈ lw_all := lw_g (lw_at lw_m5 66 rfl) rfl
theorem q1142 : (Jvm.Cond.code ({ cls := "SafeBuckets$Term", name := "lower", desc := "(LSafeBuckets$Sheet;)I" } : Jvm.MethodName) prog_20_method_3_code (4 : Nat) (Option.some Jvm.ClassFile.FieldType.int)) ∈ lw_all := lw_g (lw_at lw_m5 67 rfl) rfl
theorem q1143 : (Jvm.Cond.methodLink "SafeBuckets$Term" (30 : Nat) ({ cls := "SafeBuckets$Unit", name := "lower", desc := "(LSafeBuckets$Sheet;)I" } : Jvm.MethodName)) ∈ lw_all := lw_g (lw_at lw_m5 68 rfl) rfl
theorem q1186 : (Jvm.Cond.methodLink "SafeBuckets$Term" (34 : Nat) ({ cls := "java/lang/Math", name := "max", desc := "(II)I" } : Jvm.MethodName)) ∈ lw_all := lw_g (lw_at lw_m5 111 rfl) rfl
theorem q1193 : (Jvm.Cond.instanceMethod ({ cls := "SafeBuckets$Term", name := "upper", desc := "(LSafeBuckets$Sheet;)I" } : Jvm.MethodName)) ∈ lw_all := lw_g (lw_at lw_m5 118 rfl) rfl
theorem q1194 : (Jvm.Cond.selects "SafeBuckets$Term" ({ cls := "SafeBuckets$Term", name := "upper", desc := "(LSafeBuckets$Sheet;)I" } : Jvm.MethodName) ({ cls := "SafeBuckets$Term", name := "upper", desc := "(LSafeBuckets$Sheet;)I" } : Jvm.MethodName)) ∈ lw_all := lw_g (lw_at lw_m5 119 rfl) rfl
theorem q1195 : (Jvm.Cond.code ({ cls := "SafeBuckets$Term", name := "upper", desc := "(LSafeBuckets$Sheet;)I" } : Jvm.MethodName) prog_20_method_4_code (4 : Nat) (Option.some Jvm.ClassFile.FieldType.int)) ∈ lw_all := lw_g (lw_at lw_m5 120 rfl) rfl
theorem q1196 : (Jvm.Cond.methodLink "SafeBuckets$Term" (40 : Nat) ({ cls := "SafeBuckets$Unit", name := "upper", desc := "(LSafeBuckets$Sheet;)I" } : Jvm.MethodName)) ∈ lw_all := lw_g (lw_at lw_m5 121 rfl) rfl
theorem q1205 : (Jvm.Cond.methodLink "SafeBuckets$Term" (43 : Nat) ({ cls := "java/lang/Math", name := "min", desc := "(II)I" } : Jvm.MethodName)) ∈ lw_all := lw_g (lw_at lw_m5 130 rfl) rfl
theorem q1212 : (Jvm.Cond.instanceMethod ({ cls := "SafeBuckets$Term", name := "estimate", desc := "(LSafeBuckets$Sheet;)I" } : Jvm.MethodName)) ∈ lw_all := lw_g (lw_at lw_m5 137 rfl) rfl
theorem q1213 : (Jvm.Cond.selects "SafeBuckets$Term" ({ cls := "SafeBuckets$Term", name := "estimate", desc := "(LSafeBuckets$Sheet;)I" } : Jvm.MethodName) ({ cls := "SafeBuckets$Term", name := "estimate", desc := "(LSafeBuckets$Sheet;)I" } : Jvm.MethodName)) ∈ lw_all := lw_g (lw_at lw_m5 138 rfl) rfl
theorem q1214 : (Jvm.Cond.code ({ cls := "SafeBuckets$Term", name := "estimate", desc := "(LSafeBuckets$Sheet;)I" } : Jvm.MethodName) prog_20_method_5_code (4 : Nat) (Option.some Jvm.ClassFile.FieldType.int)) ∈ lw_all := lw_g (lw_at lw_m5 139 rfl) rfl
theorem q1215 : (Jvm.Cond.methodLink "SafeBuckets$Term" (46 : Nat) ({ cls := "SafeBuckets$Unit", name := "estimate", desc := "(LSafeBuckets$Sheet;)I" } : Jvm.MethodName)) ∈ lw_all := lw_g (lw_at lw_m5 140 rfl) rfl
theorem q1259 : (Jvm.Cond.instanceMethod ({ cls := "SafeBuckets$Term", name := "holds", desc := "(II)Z" } : Jvm.MethodName)) ∈ lw_all := lw_g (lw_at lw_m5 184 rfl) rfl
theorem q1260 : (Jvm.Cond.selects "SafeBuckets$Term" ({ cls := "SafeBuckets$Term", name := "holds", desc := "(II)Z" } : Jvm.MethodName) ({ cls := "SafeBuckets$Term", name := "holds", desc := "(II)Z" } : Jvm.MethodName)) ∈ lw_all := lw_g (lw_at lw_m5 185 rfl) rfl
theorem q1261 : (Jvm.Cond.code ({ cls := "SafeBuckets$Term", name := "holds", desc := "(II)Z" } : Jvm.MethodName) prog_20_method_2_code (4 : Nat) (Option.some Jvm.ClassFile.FieldType.boolean)) ∈ lw_all := lw_g (lw_at lw_m5 186 rfl) rfl
theorem q1262 : (Jvm.Cond.methodLink "SafeBuckets$Term" (21 : Nat) ({ cls := "SafeBuckets$Unit", name := "holds", desc := "(II)Z" } : Jvm.MethodName)) ∈ lw_all := lw_g (lw_at lw_m5 187 rfl) rfl
theorem q1361 : (Jvm.Cond.selects "SafeBuckets$Term" ({ cls := "java/lang/Object", name := "getClass", desc := "()Ljava/lang/Class;" } : Jvm.MethodName) ({ cls := "java/lang/Object", name := "getClass", desc := "()Ljava/lang/Class;" } : Jvm.MethodName)) ∈ lw_all := lw_g (lw_at lw_m6 46 rfl) rfl
theorem q1434 : (Jvm.Cond.castable "SafeBuckets$Term" "SafeBuckets$Condition") ∈ lw_tbl := lw_at lw_m6 119 rfl
theorem q1435 : (Jvm.Cond.selects "SafeBuckets$Term" ({ cls := "SafeBuckets$Condition", name := "upper", desc := "(LSafeBuckets$Sheet;)I" } : Jvm.MethodName) ({ cls := "SafeBuckets$Term", name := "upper", desc := "(LSafeBuckets$Sheet;)I" } : Jvm.MethodName)) ∈ lw_all := lw_g (lw_at lw_m6 120 rfl) rfl
theorem q1436 : (Jvm.Cond.unhidden "SafeBuckets$Term" "upper" "(LSafeBuckets$Sheet;)I") ∈ lw_tbl := lw_at lw_m6 121 rfl
theorem q1437 : (Jvm.Cond.publicMethod ({ cls := "SafeBuckets$Term", name := "upper", desc := "(LSafeBuckets$Sheet;)I" } : Jvm.MethodName)) ∈ lw_tbl := lw_at lw_m6 122 rfl
theorem q1450 : (Jvm.Cond.selects "SafeBuckets$Term" ({ cls := "SafeBuckets$Condition", name := "lower", desc := "(LSafeBuckets$Sheet;)I" } : Jvm.MethodName) ({ cls := "SafeBuckets$Term", name := "lower", desc := "(LSafeBuckets$Sheet;)I" } : Jvm.MethodName)) ∈ lw_all := lw_g (lw_at lw_m6 135 rfl) rfl
theorem q1451 : (Jvm.Cond.unhidden "SafeBuckets$Term" "lower" "(LSafeBuckets$Sheet;)I") ∈ lw_tbl := lw_at lw_m6 136 rfl
theorem q1452 : (Jvm.Cond.publicMethod ({ cls := "SafeBuckets$Term", name := "lower", desc := "(LSafeBuckets$Sheet;)I" } : Jvm.MethodName)) ∈ lw_tbl := lw_at lw_m6 137 rfl
theorem q1474 : (Jvm.Cond.selects "SafeBuckets$Term" ({ cls := "SafeBuckets$Condition", name := "holds", desc := "(II)Z" } : Jvm.MethodName) ({ cls := "SafeBuckets$Term", name := "holds", desc := "(II)Z" } : Jvm.MethodName)) ∈ lw_all := lw_g (lw_at lw_m6 159 rfl) rfl
theorem q1475 : (Jvm.Cond.unhidden "SafeBuckets$Term" "holds" "(II)Z") ∈ lw_tbl := lw_at lw_m6 160 rfl
theorem q1476 : (Jvm.Cond.publicMethod ({ cls := "SafeBuckets$Term", name := "holds", desc := "(II)Z" } : Jvm.MethodName)) ∈ lw_tbl := lw_at lw_m6 161 rfl
theorem q2150 : (Jvm.Cond.castable "SafeBuckets$Term" "java/lang/Object") ∈ lw_tbl := lw_at lw_m9 115 rfl
theorem in_X19 : ∀ w ∈ wsX190, w ∈ lw_all := lw_in wsX190 [806, 808] (by decide +kernel) (by decide +kernel)

/-! SafeBuckets$Sign -/
set_option maxRecDepth 100000
def RX20 : String := "SafeBuckets$Sign"
abbrev cX20_of : ByteArray := prog_13_method_5_code
def yX20_of : MethodName := ⟨RX20, "of", "(I)LSafeBuckets$Sign;"⟩
def dkwX20_of_2 : List UInt8 := [178, 0, 5, 176, 178, 0, 9, 176, 178, 0, 12, 176, 178, 0, 15, 176, 1, 176]
abbrev dktX20_of_2 : List UInt8 := dkwX20_of_2 ++ []
def dkwX20_of_1 : List UInt8 := [170, 0, 0, 0, 0, 0, 47, 0, 0, 0, 60, 0, 0, 0, 63, 0, 0, 0, 35, 0, 0, 0, 31, 0, 0, 0, 39, 0, 0, 0, 43]
abbrev dktX20_of_1 : List UInt8 := dkwX20_of_1 ++ dktX20_of_2
def dkwX20_of_0 : List UInt8 := [26]
abbrev dktX20_of_0 : List UInt8 := dkwX20_of_0 ++ dktX20_of_1
theorem dksX20_of_0 : cX20_of.data.toList.drop 0 = dktX20_of_0 := by decide +kernel
theorem dksX20_of_1 : cX20_of.data.toList.drop 1 = dktX20_of_1 := dk_seg dksX20_of_0 1 rfl rfl
theorem dksX20_of_2 : cX20_of.data.toList.drop 32 = dktX20_of_2 := dk_seg dksX20_of_1 31 rfl rfl
theorem dX20_of_0 : decode cX20_of 0 = .ok (.iload_n 0, 1) := dk_26 (dk_at dksX20_of_0 0 rfl rfl)
theorem dX20_of_1 : decode cX20_of 1 = .ok (.tableswitch 47 60 63 #[35, 31, 39, 43], 31) := by decide +kernel
theorem dX20_of_32 : decode cX20_of 32 = .ok (.getstatic 5, 3) := dk_178 0 5 (dk_at dksX20_of_2 0 rfl rfl)
theorem dX20_of_35 : decode cX20_of 35 = .ok (.areturn, 1) := dk_176 (dk_at dksX20_of_2 3 rfl rfl)
theorem dX20_of_36 : decode cX20_of 36 = .ok (.getstatic 9, 3) := dk_178 0 9 (dk_at dksX20_of_2 4 rfl rfl)
theorem dX20_of_39 : decode cX20_of 39 = .ok (.areturn, 1) := dk_176 (dk_at dksX20_of_2 7 rfl rfl)
theorem dX20_of_40 : decode cX20_of 40 = .ok (.getstatic 12, 3) := dk_178 0 12 (dk_at dksX20_of_2 8 rfl rfl)
theorem dX20_of_43 : decode cX20_of 43 = .ok (.areturn, 1) := dk_176 (dk_at dksX20_of_2 11 rfl rfl)
theorem dX20_of_44 : decode cX20_of 44 = .ok (.getstatic 15, 3) := dk_178 0 15 (dk_at dksX20_of_2 12 rfl rfl)
theorem dX20_of_47 : decode cX20_of 47 = .ok (.areturn, 1) := dk_176 (dk_at dksX20_of_2 15 rfl rfl)
theorem dX20_of_48 : decode cX20_of 48 = .ok (.aconst_null, 1) := dk_1 (dk_at dksX20_of_2 16 rfl rfl)
theorem dX20_of_49 : decode cX20_of 49 = .ok (.areturn, 1) := dk_176 (dk_at dksX20_of_2 17 rfl rfl)
theorem q144 : (Jvm.Cond.initialized "SafeBuckets$Sign") ∈ lw_all := lw_g (lw_at lw_m1 29 rfl) rfl
theorem q828 : (Jvm.Cond.static ({ cls := "SafeBuckets$Sign", name := "of", desc := "(I)LSafeBuckets$Sign;" } : Jvm.MethodName)) ∈ lw_all := lw_g (lw_at lw_m3 233 rfl) rfl
theorem q829 : (Jvm.Cond.code ({ cls := "SafeBuckets$Sign", name := "of", desc := "(I)LSafeBuckets$Sign;" } : Jvm.MethodName) prog_13_method_5_code (1 : Nat) (Option.some (Jvm.ClassFile.FieldType.object "SafeBuckets$Sign"))) ∈ lw_all := lw_g (lw_at lw_m3 234 rfl) rfl
theorem q830 : (Jvm.Cond.fieldLink "SafeBuckets$Sign" (5 : Nat) "SafeBuckets$Sign" "EQUAL" "LSafeBuckets$Sign;") ∈ lw_all := lw_g (lw_at lw_m3 235 rfl) rfl
theorem q831 : (Jvm.Cond.laysStatic "SafeBuckets$Sign" "EQUAL" "LSafeBuckets$Sign;") ∈ lw_tbl := lw_at lw_m3 236 rfl
theorem q832 : (Jvm.Cond.fieldLink "SafeBuckets$Sign" (9 : Nat) "SafeBuckets$Sign" "LESS" "LSafeBuckets$Sign;") ∈ lw_all := lw_g (lw_at lw_m3 237 rfl) rfl
theorem q833 : (Jvm.Cond.laysStatic "SafeBuckets$Sign" "LESS" "LSafeBuckets$Sign;") ∈ lw_tbl := lw_at lw_m3 238 rfl
theorem q834 : (Jvm.Cond.fieldLink "SafeBuckets$Sign" (12 : Nat) "SafeBuckets$Sign" "MORE" "LSafeBuckets$Sign;") ∈ lw_all := lw_g (lw_at lw_m3 239 rfl) rfl
theorem q835 : (Jvm.Cond.laysStatic "SafeBuckets$Sign" "MORE" "LSafeBuckets$Sign;") ∈ lw_tbl := lw_at lw_m4 0 rfl
theorem q836 : (Jvm.Cond.fieldLink "SafeBuckets$Sign" (15 : Nat) "SafeBuckets$Sign" "MISSING" "LSafeBuckets$Sign;") ∈ lw_all := lw_g (lw_at lw_m4 1 rfl) rfl
theorem q837 : (Jvm.Cond.laysStatic "SafeBuckets$Sign" "MISSING" "LSafeBuckets$Sign;") ∈ lw_tbl := lw_at lw_m4 2 rfl
theorem q1157 : (Jvm.Cond.declares ({ cls := "SafeBuckets$Sign", name := "holds", desc := "(II)Z" } : Jvm.MethodName)) ∈ lw_tbl := lw_at lw_m5 82 rfl
theorem q1158 : (Jvm.Cond.sameMethod "SafeBuckets$Sign" "SafeBuckets$Sign" "holds" "(II)Z") ∈ lw_all := lw_g (lw_at lw_m5 83 rfl) rfl
theorem q2171 : (Jvm.Cond.castable "SafeBuckets$Sign" "java/lang/Object") ∈ lw_tbl := lw_at lw_m9 136 rfl

/-! SafeBuckets$Unit -/
set_option maxRecDepth 100000
def RX21 : String := "SafeBuckets$Unit"
def TX21 : u_T := fun k => match k with
  | 0 => ("SafeBuckets$Unit", "column", "I", true)
  | 1 => ("SafeBuckets$Unit", "number", "I", true)
  | _ => ("SafeBuckets$Unit", "sign", "LSafeBuckets$Sign;", true)
def tyX21 : Nat → FieldType := fun k => match k with
  | 0 => .int
  | 1 => .int
  | _ => .object "SafeBuckets$Sign"
abbrev wsX210 : List Cond := u_ws RX21 TX21 3
theorem nmX21 : ∀ a, a < 3 → ∀ b, b < 3 → a ≠ b → (TX21 a).2.1 ≠ (TX21 b).2.1 := by decide +kernel
theorem tyX21_ok : ∀ k, k < 3 → parseFieldDescriptor (TX21 k).2.2.1 = some (tyX21 k) := by decide +kernel
abbrev cX21_init : ByteArray := prog_24_method_1_code
def yX21_init : MethodName := ⟨RX21, "<init>", "(ILSafeBuckets$Sign;I)V"⟩
def dkwX21_init_0 : List UInt8 := [42, 183, 0, 3, 42, 27, 181, 0, 9, 42, 44, 181, 0, 15, 42, 29, 181, 0, 19, 177]
abbrev dktX21_init_0 : List UInt8 := dkwX21_init_0 ++ []
theorem dksX21_init_0 : cX21_init.data.toList.drop 0 = dktX21_init_0 := by decide +kernel
theorem dX21_init_0 : decode cX21_init 0 = .ok (.aload_n 0, 1) := dk_42 (dk_at dksX21_init_0 0 rfl rfl)
theorem dX21_init_1 : decode cX21_init 1 = .ok (.invokespecial 3, 3) := dk_183 0 3 (dk_at dksX21_init_0 1 rfl rfl)
theorem dX21_init_4 : decode cX21_init 4 = .ok (.aload_n 0, 1) := dk_42 (dk_at dksX21_init_0 4 rfl rfl)
theorem dX21_init_5 : decode cX21_init 5 = .ok (.iload_n 1, 1) := dk_27 (dk_at dksX21_init_0 5 rfl rfl)
theorem dX21_init_6 : decode cX21_init 6 = .ok (.putfield 9, 3) := dk_181 0 9 (dk_at dksX21_init_0 6 rfl rfl)
theorem dX21_init_9 : decode cX21_init 9 = .ok (.aload_n 0, 1) := dk_42 (dk_at dksX21_init_0 9 rfl rfl)
theorem dX21_init_10 : decode cX21_init 10 = .ok (.aload_n 2, 1) := dk_44 (dk_at dksX21_init_0 10 rfl rfl)
theorem dX21_init_11 : decode cX21_init 11 = .ok (.putfield 15, 3) := dk_181 0 15 (dk_at dksX21_init_0 11 rfl rfl)
theorem dX21_init_14 : decode cX21_init 14 = .ok (.aload_n 0, 1) := dk_42 (dk_at dksX21_init_0 14 rfl rfl)
theorem dX21_init_15 : decode cX21_init 15 = .ok (.iload_n 3, 1) := dk_29 (dk_at dksX21_init_0 15 rfl rfl)
theorem dX21_init_16 : decode cX21_init 16 = .ok (.putfield 19, 3) := dk_181 0 19 (dk_at dksX21_init_0 16 rfl rfl)
theorem dX21_init_19 : decode cX21_init 19 = .ok (.return_, 1) := dk_177 (dk_at dksX21_init_0 19 rfl rfl)
abbrev cX21_told : ByteArray := prog_24_method_9_code
def yX21_told : MethodName := ⟨RX21, "told", "(I)I"⟩
def dkwX21_told_1 : List UInt8 := [167, 0, 18, 42, 182, 0, 37, 153, 0, 7, 2, 167, 0, 7, 42, 180, 0, 19, 172]
abbrev dktX21_told_1 : List UInt8 := dkwX21_told_1 ++ []
def dkwX21_told_0 : List UInt8 := [27, 4, 160, 0, 10, 42, 180, 0, 9, 167, 0, 33, 27, 5, 160, 0, 13, 42, 180, 0, 15, 180, 0, 22]
abbrev dktX21_told_0 : List UInt8 := dkwX21_told_0 ++ dktX21_told_1
theorem dksX21_told_0 : cX21_told.data.toList.drop 0 = dktX21_told_0 := by decide +kernel
theorem dksX21_told_1 : cX21_told.data.toList.drop 24 = dktX21_told_1 := dk_seg dksX21_told_0 24 rfl rfl
theorem dX21_told_0 : decode cX21_told 0 = .ok (.iload_n 1, 1) := dk_27 (dk_at dksX21_told_0 0 rfl rfl)
theorem dX21_told_1 : decode cX21_told 1 = .ok (.iconst 1, 1) := dk_4 (dk_at dksX21_told_0 1 rfl rfl)
theorem dX21_told_2 : decode cX21_told 2 = .ok (.if_icmp .ne 10, 3) := dk_160 0 10 (dk_at dksX21_told_0 2 rfl rfl)
theorem dX21_told_5 : decode cX21_told 5 = .ok (.aload_n 0, 1) := dk_42 (dk_at dksX21_told_0 5 rfl rfl)
theorem dX21_told_6 : decode cX21_told 6 = .ok (.getfield 9, 3) := dk_180 0 9 (dk_at dksX21_told_0 6 rfl rfl)
theorem dX21_told_9 : decode cX21_told 9 = .ok (.goto 33, 3) := dk_167 0 33 (dk_at dksX21_told_0 9 rfl rfl)
theorem dX21_told_12 : decode cX21_told 12 = .ok (.iload_n 1, 1) := dk_27 (dk_at dksX21_told_0 12 rfl rfl)
theorem dX21_told_13 : decode cX21_told 13 = .ok (.iconst 2, 1) := dk_5 (dk_at dksX21_told_0 13 rfl rfl)
theorem dX21_told_14 : decode cX21_told 14 = .ok (.if_icmp .ne 13, 3) := dk_160 0 13 (dk_at dksX21_told_0 14 rfl rfl)
theorem dX21_told_17 : decode cX21_told 17 = .ok (.aload_n 0, 1) := dk_42 (dk_at dksX21_told_0 17 rfl rfl)
theorem dX21_told_18 : decode cX21_told 18 = .ok (.getfield 15, 3) := dk_180 0 15 (dk_at dksX21_told_0 18 rfl rfl)
theorem dX21_told_21 : decode cX21_told 21 = .ok (.getfield 22, 3) := dk_180 0 22 (dk_at dksX21_told_0 21 rfl rfl)
theorem dX21_told_24 : decode cX21_told 24 = .ok (.goto 18, 3) := dk_167 0 18 (dk_at dksX21_told_1 0 rfl rfl)
theorem dX21_told_27 : decode cX21_told 27 = .ok (.aload_n 0, 1) := dk_42 (dk_at dksX21_told_1 3 rfl rfl)
theorem dX21_told_28 : decode cX21_told 28 = .ok (.invokevirtual 37, 3) := dk_182 0 37 (dk_at dksX21_told_1 4 rfl rfl)
theorem dX21_told_31 : decode cX21_told 31 = .ok (.ifCond .eq 7, 3) := dk_153 0 7 (dk_at dksX21_told_1 7 rfl rfl)
theorem dX21_told_34 : decode cX21_told 34 = .ok (.iconst (-1), 1) := dk_2 (dk_at dksX21_told_1 10 rfl rfl)
theorem dX21_told_35 : decode cX21_told 35 = .ok (.goto 7, 3) := dk_167 0 7 (dk_at dksX21_told_1 11 rfl rfl)
theorem dX21_told_38 : decode cX21_told 38 = .ok (.aload_n 0, 1) := dk_42 (dk_at dksX21_told_1 14 rfl rfl)
theorem dX21_told_39 : decode cX21_told 39 = .ok (.getfield 19, 3) := dk_180 0 19 (dk_at dksX21_told_1 15 rfl rfl)
theorem dX21_told_42 : decode cX21_told 42 = .ok (.ireturn, 1) := dk_172 (dk_at dksX21_told_1 18 rfl rfl)
abbrev cX21_isMissing : ByteArray := prog_24_method_2_code
def yX21_isMissing : MethodName := ⟨RX21, "isMissing", "()Z"⟩
def dkwX21_isMissing_0 : List UInt8 := [42, 180, 0, 15, 180, 0, 22, 6, 160, 0, 7, 4, 167, 0, 4, 3, 172]
abbrev dktX21_isMissing_0 : List UInt8 := dkwX21_isMissing_0 ++ []
theorem dksX21_isMissing_0 : cX21_isMissing.data.toList.drop 0 = dktX21_isMissing_0 := by decide +kernel
theorem dX21_isMissing_0 : decode cX21_isMissing 0 = .ok (.aload_n 0, 1) := dk_42 (dk_at dksX21_isMissing_0 0 rfl rfl)
theorem dX21_isMissing_1 : decode cX21_isMissing 1 = .ok (.getfield 15, 3) := dk_180 0 15 (dk_at dksX21_isMissing_0 1 rfl rfl)
theorem dX21_isMissing_4 : decode cX21_isMissing 4 = .ok (.getfield 22, 3) := dk_180 0 22 (dk_at dksX21_isMissing_0 4 rfl rfl)
theorem dX21_isMissing_7 : decode cX21_isMissing 7 = .ok (.iconst 3, 1) := dk_6 (dk_at dksX21_isMissing_0 7 rfl rfl)
theorem dX21_isMissing_8 : decode cX21_isMissing 8 = .ok (.if_icmp .ne 7, 3) := dk_160 0 7 (dk_at dksX21_isMissing_0 8 rfl rfl)
theorem dX21_isMissing_11 : decode cX21_isMissing 11 = .ok (.iconst 1, 1) := dk_4 (dk_at dksX21_isMissing_0 11 rfl rfl)
theorem dX21_isMissing_12 : decode cX21_isMissing 12 = .ok (.goto 4, 3) := dk_167 0 4 (dk_at dksX21_isMissing_0 12 rfl rfl)
theorem dX21_isMissing_15 : decode cX21_isMissing 15 = .ok (.iconst 0, 1) := dk_3 (dk_at dksX21_isMissing_0 15 rfl rfl)
theorem dX21_isMissing_16 : decode cX21_isMissing 16 = .ok (.ireturn, 1) := dk_172 (dk_at dksX21_isMissing_0 16 rfl rfl)
abbrev cX21_lower : ByteArray := prog_24_method_5_code
def yX21_lower : MethodName := ⟨RX21, "lower", "(LSafeBuckets$Sheet;)I"⟩
def dkwX21_lower_3 : List UInt8 := [172]
abbrev dktX21_lower_3 : List UInt8 := dkwX21_lower_3 ++ []
def dkwX21_lower_2 : List UInt8 := [50, 42, 45, 180, 0, 56, 21, 4, 50, 182, 0, 60, 182, 0, 63, 96, 61, 132, 4, 1, 167, 255, 220, 28]
abbrev dktX21_lower_2 : List UInt8 := dkwX21_lower_2 ++ dktX21_lower_3
def dkwX21_lower_1 : List UInt8 := [180, 0, 9, 50, 78, 3, 54, 4, 21, 4, 45, 180, 0, 51, 162, 0, 33, 28, 45, 180, 0, 56, 21, 4]
abbrev dktX21_lower_1 : List UInt8 := dkwX21_lower_1 ++ dktX21_lower_2
def dkwX21_lower_0 : List UInt8 := [42, 182, 0, 37, 153, 0, 12, 43, 42, 180, 0, 9, 182, 0, 41, 172, 3, 61, 43, 180, 0, 47, 42]
abbrev dktX21_lower_0 : List UInt8 := dkwX21_lower_0 ++ dktX21_lower_1
theorem dksX21_lower_0 : cX21_lower.data.toList.drop 0 = dktX21_lower_0 := by decide +kernel
theorem dksX21_lower_1 : cX21_lower.data.toList.drop 23 = dktX21_lower_1 := dk_seg dksX21_lower_0 23 rfl rfl
theorem dksX21_lower_2 : cX21_lower.data.toList.drop 47 = dktX21_lower_2 := dk_seg dksX21_lower_1 24 rfl rfl
theorem dksX21_lower_3 : cX21_lower.data.toList.drop 71 = dktX21_lower_3 := dk_seg dksX21_lower_2 24 rfl rfl
theorem dX21_lower_0 : decode cX21_lower 0 = .ok (.aload_n 0, 1) := dk_42 (dk_at dksX21_lower_0 0 rfl rfl)
theorem dX21_lower_1 : decode cX21_lower 1 = .ok (.invokevirtual 37, 3) := dk_182 0 37 (dk_at dksX21_lower_0 1 rfl rfl)
theorem dX21_lower_4 : decode cX21_lower 4 = .ok (.ifCond .eq 12, 3) := dk_153 0 12 (dk_at dksX21_lower_0 4 rfl rfl)
theorem dX21_lower_7 : decode cX21_lower 7 = .ok (.aload_n 1, 1) := dk_43 (dk_at dksX21_lower_0 7 rfl rfl)
theorem dX21_lower_8 : decode cX21_lower 8 = .ok (.aload_n 0, 1) := dk_42 (dk_at dksX21_lower_0 8 rfl rfl)
theorem dX21_lower_9 : decode cX21_lower 9 = .ok (.getfield 9, 3) := dk_180 0 9 (dk_at dksX21_lower_0 9 rfl rfl)
theorem dX21_lower_12 : decode cX21_lower 12 = .ok (.invokevirtual 41, 3) := dk_182 0 41 (dk_at dksX21_lower_0 12 rfl rfl)
theorem dX21_lower_15 : decode cX21_lower 15 = .ok (.ireturn, 1) := dk_172 (dk_at dksX21_lower_0 15 rfl rfl)
theorem dX21_lower_16 : decode cX21_lower 16 = .ok (.iconst 0, 1) := dk_3 (dk_at dksX21_lower_0 16 rfl rfl)
theorem dX21_lower_17 : decode cX21_lower 17 = .ok (.istore_n 2, 1) := dk_61 (dk_at dksX21_lower_0 17 rfl rfl)
theorem dX21_lower_18 : decode cX21_lower 18 = .ok (.aload_n 1, 1) := dk_43 (dk_at dksX21_lower_0 18 rfl rfl)
theorem dX21_lower_19 : decode cX21_lower 19 = .ok (.getfield 47, 3) := dk_180 0 47 (dk_at dksX21_lower_0 19 rfl rfl)
theorem dX21_lower_22 : decode cX21_lower 22 = .ok (.aload_n 0, 1) := dk_42 (dk_at dksX21_lower_0 22 rfl rfl)
theorem dX21_lower_23 : decode cX21_lower 23 = .ok (.getfield 9, 3) := dk_180 0 9 (dk_at dksX21_lower_1 0 rfl rfl)
theorem dX21_lower_26 : decode cX21_lower 26 = .ok (.aaload, 1) := dk_50 (dk_at dksX21_lower_1 3 rfl rfl)
theorem dX21_lower_27 : decode cX21_lower 27 = .ok (.astore_n 3, 1) := dk_78 (dk_at dksX21_lower_1 4 rfl rfl)
theorem dX21_lower_28 : decode cX21_lower 28 = .ok (.iconst 0, 1) := dk_3 (dk_at dksX21_lower_1 5 rfl rfl)
theorem dX21_lower_29 : decode cX21_lower 29 = .ok (.istore 4, 2) := dk_54 4 (dk_at dksX21_lower_1 6 rfl rfl)
theorem dX21_lower_31 : decode cX21_lower 31 = .ok (.iload 4, 2) := dk_21 4 (dk_at dksX21_lower_1 8 rfl rfl)
theorem dX21_lower_33 : decode cX21_lower 33 = .ok (.aload_n 3, 1) := dk_45 (dk_at dksX21_lower_1 10 rfl rfl)
theorem dX21_lower_34 : decode cX21_lower 34 = .ok (.getfield 51, 3) := dk_180 0 51 (dk_at dksX21_lower_1 11 rfl rfl)
theorem dX21_lower_37 : decode cX21_lower 37 = .ok (.if_icmp .ge 33, 3) := dk_162 0 33 (dk_at dksX21_lower_1 14 rfl rfl)
theorem dX21_lower_40 : decode cX21_lower 40 = .ok (.iload_n 2, 1) := dk_28 (dk_at dksX21_lower_1 17 rfl rfl)
theorem dX21_lower_41 : decode cX21_lower 41 = .ok (.aload_n 3, 1) := dk_45 (dk_at dksX21_lower_1 18 rfl rfl)
theorem dX21_lower_42 : decode cX21_lower 42 = .ok (.getfield 56, 3) := dk_180 0 56 (dk_at dksX21_lower_1 19 rfl rfl)
theorem dX21_lower_45 : decode cX21_lower 45 = .ok (.iload 4, 2) := dk_21 4 (dk_at dksX21_lower_1 22 rfl rfl)
theorem dX21_lower_47 : decode cX21_lower 47 = .ok (.aaload, 1) := dk_50 (dk_at dksX21_lower_2 0 rfl rfl)
theorem dX21_lower_48 : decode cX21_lower 48 = .ok (.aload_n 0, 1) := dk_42 (dk_at dksX21_lower_2 1 rfl rfl)
theorem dX21_lower_49 : decode cX21_lower 49 = .ok (.aload_n 3, 1) := dk_45 (dk_at dksX21_lower_2 2 rfl rfl)
theorem dX21_lower_50 : decode cX21_lower 50 = .ok (.getfield 56, 3) := dk_180 0 56 (dk_at dksX21_lower_2 3 rfl rfl)
theorem dX21_lower_53 : decode cX21_lower 53 = .ok (.iload 4, 2) := dk_21 4 (dk_at dksX21_lower_2 6 rfl rfl)
theorem dX21_lower_55 : decode cX21_lower 55 = .ok (.aaload, 1) := dk_50 (dk_at dksX21_lower_2 8 rfl rfl)
theorem dX21_lower_56 : decode cX21_lower 56 = .ok (.invokevirtual 60, 3) := dk_182 0 60 (dk_at dksX21_lower_2 9 rfl rfl)
theorem dX21_lower_59 : decode cX21_lower 59 = .ok (.invokevirtual 63, 3) := dk_182 0 63 (dk_at dksX21_lower_2 12 rfl rfl)
theorem dX21_lower_62 : decode cX21_lower 62 = .ok (.iadd, 1) := dk_96 (dk_at dksX21_lower_2 15 rfl rfl)
theorem dX21_lower_63 : decode cX21_lower 63 = .ok (.istore_n 2, 1) := dk_61 (dk_at dksX21_lower_2 16 rfl rfl)
theorem dX21_lower_64 : decode cX21_lower 64 = .ok (.iinc 4 1, 3) := dk_132 4 1 (dk_at dksX21_lower_2 17 rfl rfl)
theorem dX21_lower_67 : decode cX21_lower 67 = .ok (.goto (-36), 3) := dk_167 255 220 (dk_at dksX21_lower_2 20 rfl rfl)
theorem dX21_lower_70 : decode cX21_lower 70 = .ok (.iload_n 2, 1) := dk_28 (dk_at dksX21_lower_2 23 rfl rfl)
theorem dX21_lower_71 : decode cX21_lower 71 = .ok (.ireturn, 1) := dk_172 (dk_at dksX21_lower_3 0 rfl rfl)
abbrev cX21_many : ByteArray := prog_24_method_4_code
def yX21_many : MethodName := ⟨RX21, "many", "(LSafeBuckets$Bucket;)I"⟩
def dkwX21_many_1 : List UInt8 := [180, 0, 19, 182, 0, 25, 153, 0, 7, 4, 167, 0, 4, 3, 96, 61, 132, 3, 1, 167, 255, 222, 28, 172]
abbrev dktX21_many_1 : List UInt8 := dkwX21_many_1 ++ []
def dkwX21_many_0 : List UInt8 := [3, 61, 43, 180, 0, 29, 62, 29, 43, 180, 0, 34, 163, 0, 32, 28, 42, 180, 0, 15, 29, 42]
abbrev dktX21_many_0 : List UInt8 := dkwX21_many_0 ++ dktX21_many_1
theorem dksX21_many_0 : cX21_many.data.toList.drop 0 = dktX21_many_0 := by decide +kernel
theorem dksX21_many_1 : cX21_many.data.toList.drop 22 = dktX21_many_1 := dk_seg dksX21_many_0 22 rfl rfl
theorem dX21_many_0 : decode cX21_many 0 = .ok (.iconst 0, 1) := dk_3 (dk_at dksX21_many_0 0 rfl rfl)
theorem dX21_many_1 : decode cX21_many 1 = .ok (.istore_n 2, 1) := dk_61 (dk_at dksX21_many_0 1 rfl rfl)
theorem dX21_many_2 : decode cX21_many 2 = .ok (.aload_n 1, 1) := dk_43 (dk_at dksX21_many_0 2 rfl rfl)
theorem dX21_many_3 : decode cX21_many 3 = .ok (.getfield 29, 3) := dk_180 0 29 (dk_at dksX21_many_0 3 rfl rfl)
theorem dX21_many_6 : decode cX21_many 6 = .ok (.istore_n 3, 1) := dk_62 (dk_at dksX21_many_0 6 rfl rfl)
theorem dX21_many_7 : decode cX21_many 7 = .ok (.iload_n 3, 1) := dk_29 (dk_at dksX21_many_0 7 rfl rfl)
theorem dX21_many_8 : decode cX21_many 8 = .ok (.aload_n 1, 1) := dk_43 (dk_at dksX21_many_0 8 rfl rfl)
theorem dX21_many_9 : decode cX21_many 9 = .ok (.getfield 34, 3) := dk_180 0 34 (dk_at dksX21_many_0 9 rfl rfl)
theorem dX21_many_12 : decode cX21_many 12 = .ok (.if_icmp .gt 32, 3) := dk_163 0 32 (dk_at dksX21_many_0 12 rfl rfl)
theorem dX21_many_15 : decode cX21_many 15 = .ok (.iload_n 2, 1) := dk_28 (dk_at dksX21_many_0 15 rfl rfl)
theorem dX21_many_16 : decode cX21_many 16 = .ok (.aload_n 0, 1) := dk_42 (dk_at dksX21_many_0 16 rfl rfl)
theorem dX21_many_17 : decode cX21_many 17 = .ok (.getfield 15, 3) := dk_180 0 15 (dk_at dksX21_many_0 17 rfl rfl)
theorem dX21_many_20 : decode cX21_many 20 = .ok (.iload_n 3, 1) := dk_29 (dk_at dksX21_many_0 20 rfl rfl)
theorem dX21_many_21 : decode cX21_many 21 = .ok (.aload_n 0, 1) := dk_42 (dk_at dksX21_many_0 21 rfl rfl)
theorem dX21_many_22 : decode cX21_many 22 = .ok (.getfield 19, 3) := dk_180 0 19 (dk_at dksX21_many_1 0 rfl rfl)
theorem dX21_many_25 : decode cX21_many 25 = .ok (.invokevirtual 25, 3) := dk_182 0 25 (dk_at dksX21_many_1 3 rfl rfl)
theorem dX21_many_28 : decode cX21_many 28 = .ok (.ifCond .eq 7, 3) := dk_153 0 7 (dk_at dksX21_many_1 6 rfl rfl)
theorem dX21_many_31 : decode cX21_many 31 = .ok (.iconst 1, 1) := dk_4 (dk_at dksX21_many_1 9 rfl rfl)
theorem dX21_many_32 : decode cX21_many 32 = .ok (.goto 4, 3) := dk_167 0 4 (dk_at dksX21_many_1 10 rfl rfl)
theorem dX21_many_35 : decode cX21_many 35 = .ok (.iconst 0, 1) := dk_3 (dk_at dksX21_many_1 13 rfl rfl)
theorem dX21_many_36 : decode cX21_many 36 = .ok (.iadd, 1) := dk_96 (dk_at dksX21_many_1 14 rfl rfl)
theorem dX21_many_37 : decode cX21_many 37 = .ok (.istore_n 2, 1) := dk_61 (dk_at dksX21_many_1 15 rfl rfl)
theorem dX21_many_38 : decode cX21_many 38 = .ok (.iinc 3 1, 3) := dk_132 3 1 (dk_at dksX21_many_1 16 rfl rfl)
theorem dX21_many_41 : decode cX21_many 41 = .ok (.goto (-34), 3) := dk_167 255 222 (dk_at dksX21_many_1 19 rfl rfl)
theorem dX21_many_44 : decode cX21_many 44 = .ok (.iload_n 2, 1) := dk_28 (dk_at dksX21_many_1 22 rfl rfl)
theorem dX21_many_45 : decode cX21_many 45 = .ok (.ireturn, 1) := dk_172 (dk_at dksX21_many_1 23 rfl rfl)
abbrev cX21_upper : ByteArray := prog_24_method_6_code
def yX21_upper : MethodName := ⟨RX21, "upper", "(LSafeBuckets$Sheet;)I"⟩
def dkwX21_upper_3 : List UInt8 := [172]
abbrev dktX21_upper_3 : List UInt8 := dkwX21_upper_3 ++ []
def dkwX21_upper_2 : List UInt8 := [50, 42, 45, 180, 0, 56, 21, 4, 50, 182, 0, 60, 182, 0, 66, 96, 61, 132, 4, 1, 167, 255, 220, 28]
abbrev dktX21_upper_2 : List UInt8 := dkwX21_upper_2 ++ dktX21_upper_3
def dkwX21_upper_1 : List UInt8 := [180, 0, 9, 50, 78, 3, 54, 4, 21, 4, 45, 180, 0, 51, 162, 0, 33, 28, 45, 180, 0, 56, 21, 4]
abbrev dktX21_upper_1 : List UInt8 := dkwX21_upper_1 ++ dktX21_upper_2
def dkwX21_upper_0 : List UInt8 := [42, 182, 0, 37, 153, 0, 12, 43, 42, 180, 0, 9, 182, 0, 41, 172, 3, 61, 43, 180, 0, 47, 42]
abbrev dktX21_upper_0 : List UInt8 := dkwX21_upper_0 ++ dktX21_upper_1
theorem dksX21_upper_0 : cX21_upper.data.toList.drop 0 = dktX21_upper_0 := by decide +kernel
theorem dksX21_upper_1 : cX21_upper.data.toList.drop 23 = dktX21_upper_1 := dk_seg dksX21_upper_0 23 rfl rfl
theorem dksX21_upper_2 : cX21_upper.data.toList.drop 47 = dktX21_upper_2 := dk_seg dksX21_upper_1 24 rfl rfl
theorem dksX21_upper_3 : cX21_upper.data.toList.drop 71 = dktX21_upper_3 := dk_seg dksX21_upper_2 24 rfl rfl
theorem dX21_upper_0 : decode cX21_upper 0 = .ok (.aload_n 0, 1) := dk_42 (dk_at dksX21_upper_0 0 rfl rfl)
theorem dX21_upper_1 : decode cX21_upper 1 = .ok (.invokevirtual 37, 3) := dk_182 0 37 (dk_at dksX21_upper_0 1 rfl rfl)
theorem dX21_upper_4 : decode cX21_upper 4 = .ok (.ifCond .eq 12, 3) := dk_153 0 12 (dk_at dksX21_upper_0 4 rfl rfl)
theorem dX21_upper_7 : decode cX21_upper 7 = .ok (.aload_n 1, 1) := dk_43 (dk_at dksX21_upper_0 7 rfl rfl)
theorem dX21_upper_8 : decode cX21_upper 8 = .ok (.aload_n 0, 1) := dk_42 (dk_at dksX21_upper_0 8 rfl rfl)
theorem dX21_upper_9 : decode cX21_upper 9 = .ok (.getfield 9, 3) := dk_180 0 9 (dk_at dksX21_upper_0 9 rfl rfl)
theorem dX21_upper_12 : decode cX21_upper 12 = .ok (.invokevirtual 41, 3) := dk_182 0 41 (dk_at dksX21_upper_0 12 rfl rfl)
theorem dX21_upper_15 : decode cX21_upper 15 = .ok (.ireturn, 1) := dk_172 (dk_at dksX21_upper_0 15 rfl rfl)
theorem dX21_upper_16 : decode cX21_upper 16 = .ok (.iconst 0, 1) := dk_3 (dk_at dksX21_upper_0 16 rfl rfl)
theorem dX21_upper_17 : decode cX21_upper 17 = .ok (.istore_n 2, 1) := dk_61 (dk_at dksX21_upper_0 17 rfl rfl)
theorem dX21_upper_18 : decode cX21_upper 18 = .ok (.aload_n 1, 1) := dk_43 (dk_at dksX21_upper_0 18 rfl rfl)
theorem dX21_upper_19 : decode cX21_upper 19 = .ok (.getfield 47, 3) := dk_180 0 47 (dk_at dksX21_upper_0 19 rfl rfl)
theorem dX21_upper_22 : decode cX21_upper 22 = .ok (.aload_n 0, 1) := dk_42 (dk_at dksX21_upper_0 22 rfl rfl)
theorem dX21_upper_23 : decode cX21_upper 23 = .ok (.getfield 9, 3) := dk_180 0 9 (dk_at dksX21_upper_1 0 rfl rfl)
theorem dX21_upper_26 : decode cX21_upper 26 = .ok (.aaload, 1) := dk_50 (dk_at dksX21_upper_1 3 rfl rfl)
theorem dX21_upper_27 : decode cX21_upper 27 = .ok (.astore_n 3, 1) := dk_78 (dk_at dksX21_upper_1 4 rfl rfl)
theorem dX21_upper_28 : decode cX21_upper 28 = .ok (.iconst 0, 1) := dk_3 (dk_at dksX21_upper_1 5 rfl rfl)
theorem dX21_upper_29 : decode cX21_upper 29 = .ok (.istore 4, 2) := dk_54 4 (dk_at dksX21_upper_1 6 rfl rfl)
theorem dX21_upper_31 : decode cX21_upper 31 = .ok (.iload 4, 2) := dk_21 4 (dk_at dksX21_upper_1 8 rfl rfl)
theorem dX21_upper_33 : decode cX21_upper 33 = .ok (.aload_n 3, 1) := dk_45 (dk_at dksX21_upper_1 10 rfl rfl)
theorem dX21_upper_34 : decode cX21_upper 34 = .ok (.getfield 51, 3) := dk_180 0 51 (dk_at dksX21_upper_1 11 rfl rfl)
theorem dX21_upper_37 : decode cX21_upper 37 = .ok (.if_icmp .ge 33, 3) := dk_162 0 33 (dk_at dksX21_upper_1 14 rfl rfl)
theorem dX21_upper_40 : decode cX21_upper 40 = .ok (.iload_n 2, 1) := dk_28 (dk_at dksX21_upper_1 17 rfl rfl)
theorem dX21_upper_41 : decode cX21_upper 41 = .ok (.aload_n 3, 1) := dk_45 (dk_at dksX21_upper_1 18 rfl rfl)
theorem dX21_upper_42 : decode cX21_upper 42 = .ok (.getfield 56, 3) := dk_180 0 56 (dk_at dksX21_upper_1 19 rfl rfl)
theorem dX21_upper_45 : decode cX21_upper 45 = .ok (.iload 4, 2) := dk_21 4 (dk_at dksX21_upper_1 22 rfl rfl)
theorem dX21_upper_47 : decode cX21_upper 47 = .ok (.aaload, 1) := dk_50 (dk_at dksX21_upper_2 0 rfl rfl)
theorem dX21_upper_48 : decode cX21_upper 48 = .ok (.aload_n 0, 1) := dk_42 (dk_at dksX21_upper_2 1 rfl rfl)
theorem dX21_upper_49 : decode cX21_upper 49 = .ok (.aload_n 3, 1) := dk_45 (dk_at dksX21_upper_2 2 rfl rfl)
theorem dX21_upper_50 : decode cX21_upper 50 = .ok (.getfield 56, 3) := dk_180 0 56 (dk_at dksX21_upper_2 3 rfl rfl)
theorem dX21_upper_53 : decode cX21_upper 53 = .ok (.iload 4, 2) := dk_21 4 (dk_at dksX21_upper_2 6 rfl rfl)
theorem dX21_upper_55 : decode cX21_upper 55 = .ok (.aaload, 1) := dk_50 (dk_at dksX21_upper_2 8 rfl rfl)
theorem dX21_upper_56 : decode cX21_upper 56 = .ok (.invokevirtual 60, 3) := dk_182 0 60 (dk_at dksX21_upper_2 9 rfl rfl)
theorem dX21_upper_59 : decode cX21_upper 59 = .ok (.invokevirtual 66, 3) := dk_182 0 66 (dk_at dksX21_upper_2 12 rfl rfl)
theorem dX21_upper_62 : decode cX21_upper 62 = .ok (.iadd, 1) := dk_96 (dk_at dksX21_upper_2 15 rfl rfl)
theorem dX21_upper_63 : decode cX21_upper 63 = .ok (.istore_n 2, 1) := dk_61 (dk_at dksX21_upper_2 16 rfl rfl)
theorem dX21_upper_64 : decode cX21_upper 64 = .ok (.iinc 4 1, 3) := dk_132 4 1 (dk_at dksX21_upper_2 17 rfl rfl)
theorem dX21_upper_67 : decode cX21_upper 67 = .ok (.goto (-36), 3) := dk_167 255 220 (dk_at dksX21_upper_2 20 rfl rfl)
theorem dX21_upper_70 : decode cX21_upper 70 = .ok (.iload_n 2, 1) := dk_28 (dk_at dksX21_upper_2 23 rfl rfl)
theorem dX21_upper_71 : decode cX21_upper 71 = .ok (.ireturn, 1) := dk_172 (dk_at dksX21_upper_3 0 rfl rfl)
abbrev cX21_estimate : ByteArray := prog_24_method_7_code
def yX21_estimate : MethodName := ⟨RX21, "estimate", "(LSafeBuckets$Sheet;)I"⟩
def dkwX21_estimate_3 : List UInt8 := [182, 0, 72, 108, 96, 61, 132, 4, 1, 167, 255, 208, 28, 172]
abbrev dktX21_estimate_3 : List UInt8 := dkwX21_estimate_3 ++ []
def dkwX21_estimate_2 : List UInt8 := [50, 180, 0, 69, 42, 45, 180, 0, 56, 21, 4, 50, 182, 0, 60, 104, 45, 180, 0, 56, 21, 4, 50]
abbrev dktX21_estimate_2 : List UInt8 := dkwX21_estimate_2 ++ dktX21_estimate_3
def dkwX21_estimate_1 : List UInt8 := [180, 0, 9, 50, 78, 3, 54, 4, 21, 4, 45, 180, 0, 51, 162, 0, 45, 28, 45, 180, 0, 56, 21, 4]
abbrev dktX21_estimate_1 : List UInt8 := dkwX21_estimate_1 ++ dktX21_estimate_2
def dkwX21_estimate_0 : List UInt8 := [42, 182, 0, 37, 153, 0, 12, 43, 42, 180, 0, 9, 182, 0, 41, 172, 3, 61, 43, 180, 0, 47, 42]
abbrev dktX21_estimate_0 : List UInt8 := dkwX21_estimate_0 ++ dktX21_estimate_1
theorem dksX21_estimate_0 : cX21_estimate.data.toList.drop 0 = dktX21_estimate_0 := by decide +kernel
theorem dksX21_estimate_1 : cX21_estimate.data.toList.drop 23 = dktX21_estimate_1 := dk_seg dksX21_estimate_0 23 rfl rfl
theorem dksX21_estimate_2 : cX21_estimate.data.toList.drop 47 = dktX21_estimate_2 := dk_seg dksX21_estimate_1 24 rfl rfl
theorem dksX21_estimate_3 : cX21_estimate.data.toList.drop 70 = dktX21_estimate_3 := dk_seg dksX21_estimate_2 23 rfl rfl
theorem dX21_estimate_0 : decode cX21_estimate 0 = .ok (.aload_n 0, 1) := dk_42 (dk_at dksX21_estimate_0 0 rfl rfl)
theorem dX21_estimate_1 : decode cX21_estimate 1 = .ok (.invokevirtual 37, 3) := dk_182 0 37 (dk_at dksX21_estimate_0 1 rfl rfl)
theorem dX21_estimate_4 : decode cX21_estimate 4 = .ok (.ifCond .eq 12, 3) := dk_153 0 12 (dk_at dksX21_estimate_0 4 rfl rfl)
theorem dX21_estimate_7 : decode cX21_estimate 7 = .ok (.aload_n 1, 1) := dk_43 (dk_at dksX21_estimate_0 7 rfl rfl)
theorem dX21_estimate_8 : decode cX21_estimate 8 = .ok (.aload_n 0, 1) := dk_42 (dk_at dksX21_estimate_0 8 rfl rfl)
theorem dX21_estimate_9 : decode cX21_estimate 9 = .ok (.getfield 9, 3) := dk_180 0 9 (dk_at dksX21_estimate_0 9 rfl rfl)
theorem dX21_estimate_12 : decode cX21_estimate 12 = .ok (.invokevirtual 41, 3) := dk_182 0 41 (dk_at dksX21_estimate_0 12 rfl rfl)
theorem dX21_estimate_15 : decode cX21_estimate 15 = .ok (.ireturn, 1) := dk_172 (dk_at dksX21_estimate_0 15 rfl rfl)
theorem dX21_estimate_16 : decode cX21_estimate 16 = .ok (.iconst 0, 1) := dk_3 (dk_at dksX21_estimate_0 16 rfl rfl)
theorem dX21_estimate_17 : decode cX21_estimate 17 = .ok (.istore_n 2, 1) := dk_61 (dk_at dksX21_estimate_0 17 rfl rfl)
theorem dX21_estimate_18 : decode cX21_estimate 18 = .ok (.aload_n 1, 1) := dk_43 (dk_at dksX21_estimate_0 18 rfl rfl)
theorem dX21_estimate_19 : decode cX21_estimate 19 = .ok (.getfield 47, 3) := dk_180 0 47 (dk_at dksX21_estimate_0 19 rfl rfl)
theorem dX21_estimate_22 : decode cX21_estimate 22 = .ok (.aload_n 0, 1) := dk_42 (dk_at dksX21_estimate_0 22 rfl rfl)
theorem dX21_estimate_23 : decode cX21_estimate 23 = .ok (.getfield 9, 3) := dk_180 0 9 (dk_at dksX21_estimate_1 0 rfl rfl)
theorem dX21_estimate_26 : decode cX21_estimate 26 = .ok (.aaload, 1) := dk_50 (dk_at dksX21_estimate_1 3 rfl rfl)
theorem dX21_estimate_27 : decode cX21_estimate 27 = .ok (.astore_n 3, 1) := dk_78 (dk_at dksX21_estimate_1 4 rfl rfl)
theorem dX21_estimate_28 : decode cX21_estimate 28 = .ok (.iconst 0, 1) := dk_3 (dk_at dksX21_estimate_1 5 rfl rfl)
theorem dX21_estimate_29 : decode cX21_estimate 29 = .ok (.istore 4, 2) := dk_54 4 (dk_at dksX21_estimate_1 6 rfl rfl)
theorem dX21_estimate_31 : decode cX21_estimate 31 = .ok (.iload 4, 2) := dk_21 4 (dk_at dksX21_estimate_1 8 rfl rfl)
theorem dX21_estimate_33 : decode cX21_estimate 33 = .ok (.aload_n 3, 1) := dk_45 (dk_at dksX21_estimate_1 10 rfl rfl)
theorem dX21_estimate_34 : decode cX21_estimate 34 = .ok (.getfield 51, 3) := dk_180 0 51 (dk_at dksX21_estimate_1 11 rfl rfl)
theorem dX21_estimate_37 : decode cX21_estimate 37 = .ok (.if_icmp .ge 45, 3) := dk_162 0 45 (dk_at dksX21_estimate_1 14 rfl rfl)
theorem dX21_estimate_40 : decode cX21_estimate 40 = .ok (.iload_n 2, 1) := dk_28 (dk_at dksX21_estimate_1 17 rfl rfl)
theorem dX21_estimate_41 : decode cX21_estimate 41 = .ok (.aload_n 3, 1) := dk_45 (dk_at dksX21_estimate_1 18 rfl rfl)
theorem dX21_estimate_42 : decode cX21_estimate 42 = .ok (.getfield 56, 3) := dk_180 0 56 (dk_at dksX21_estimate_1 19 rfl rfl)
theorem dX21_estimate_45 : decode cX21_estimate 45 = .ok (.iload 4, 2) := dk_21 4 (dk_at dksX21_estimate_1 22 rfl rfl)
theorem dX21_estimate_47 : decode cX21_estimate 47 = .ok (.aaload, 1) := dk_50 (dk_at dksX21_estimate_2 0 rfl rfl)
theorem dX21_estimate_48 : decode cX21_estimate 48 = .ok (.getfield 69, 3) := dk_180 0 69 (dk_at dksX21_estimate_2 1 rfl rfl)
theorem dX21_estimate_51 : decode cX21_estimate 51 = .ok (.aload_n 0, 1) := dk_42 (dk_at dksX21_estimate_2 4 rfl rfl)
theorem dX21_estimate_52 : decode cX21_estimate 52 = .ok (.aload_n 3, 1) := dk_45 (dk_at dksX21_estimate_2 5 rfl rfl)
theorem dX21_estimate_53 : decode cX21_estimate 53 = .ok (.getfield 56, 3) := dk_180 0 56 (dk_at dksX21_estimate_2 6 rfl rfl)
theorem dX21_estimate_56 : decode cX21_estimate 56 = .ok (.iload 4, 2) := dk_21 4 (dk_at dksX21_estimate_2 9 rfl rfl)
theorem dX21_estimate_58 : decode cX21_estimate 58 = .ok (.aaload, 1) := dk_50 (dk_at dksX21_estimate_2 11 rfl rfl)
theorem dX21_estimate_59 : decode cX21_estimate 59 = .ok (.invokevirtual 60, 3) := dk_182 0 60 (dk_at dksX21_estimate_2 12 rfl rfl)
theorem dX21_estimate_62 : decode cX21_estimate 62 = .ok (.imul, 1) := dk_104 (dk_at dksX21_estimate_2 15 rfl rfl)
theorem dX21_estimate_63 : decode cX21_estimate 63 = .ok (.aload_n 3, 1) := dk_45 (dk_at dksX21_estimate_2 16 rfl rfl)
theorem dX21_estimate_64 : decode cX21_estimate 64 = .ok (.getfield 56, 3) := dk_180 0 56 (dk_at dksX21_estimate_2 17 rfl rfl)
theorem dX21_estimate_67 : decode cX21_estimate 67 = .ok (.iload 4, 2) := dk_21 4 (dk_at dksX21_estimate_2 20 rfl rfl)
theorem dX21_estimate_69 : decode cX21_estimate 69 = .ok (.aaload, 1) := dk_50 (dk_at dksX21_estimate_2 22 rfl rfl)
theorem dX21_estimate_70 : decode cX21_estimate 70 = .ok (.invokevirtual 72, 3) := dk_182 0 72 (dk_at dksX21_estimate_3 0 rfl rfl)
theorem dX21_estimate_73 : decode cX21_estimate 73 = .ok (.idiv, 1) := dk_108 (dk_at dksX21_estimate_3 3 rfl rfl)
theorem dX21_estimate_74 : decode cX21_estimate 74 = .ok (.iadd, 1) := dk_96 (dk_at dksX21_estimate_3 4 rfl rfl)
theorem dX21_estimate_75 : decode cX21_estimate 75 = .ok (.istore_n 2, 1) := dk_61 (dk_at dksX21_estimate_3 5 rfl rfl)
theorem dX21_estimate_76 : decode cX21_estimate 76 = .ok (.iinc 4 1, 3) := dk_132 4 1 (dk_at dksX21_estimate_3 6 rfl rfl)
theorem dX21_estimate_79 : decode cX21_estimate 79 = .ok (.goto (-48), 3) := dk_167 255 208 (dk_at dksX21_estimate_3 9 rfl rfl)
theorem dX21_estimate_82 : decode cX21_estimate 82 = .ok (.iload_n 2, 1) := dk_28 (dk_at dksX21_estimate_3 12 rfl rfl)
theorem dX21_estimate_83 : decode cX21_estimate 83 = .ok (.ireturn, 1) := dk_172 (dk_at dksX21_estimate_3 13 rfl rfl)
abbrev cX21_holds : ByteArray := prog_24_method_3_code
def yX21_holds : MethodName := ⟨RX21, "holds", "(II)Z"⟩
def dkwX21_holds_0 : List UInt8 := [42, 180, 0, 15, 42, 180, 0, 9, 154, 0, 7, 27, 167, 0, 4, 28, 42, 180, 0, 19, 182, 0, 25, 172]
abbrev dktX21_holds_0 : List UInt8 := dkwX21_holds_0 ++ []
theorem dksX21_holds_0 : cX21_holds.data.toList.drop 0 = dktX21_holds_0 := by decide +kernel
theorem dX21_holds_0 : decode cX21_holds 0 = .ok (.aload_n 0, 1) := dk_42 (dk_at dksX21_holds_0 0 rfl rfl)
theorem dX21_holds_1 : decode cX21_holds 1 = .ok (.getfield 15, 3) := dk_180 0 15 (dk_at dksX21_holds_0 1 rfl rfl)
theorem dX21_holds_4 : decode cX21_holds 4 = .ok (.aload_n 0, 1) := dk_42 (dk_at dksX21_holds_0 4 rfl rfl)
theorem dX21_holds_5 : decode cX21_holds 5 = .ok (.getfield 9, 3) := dk_180 0 9 (dk_at dksX21_holds_0 5 rfl rfl)
theorem dX21_holds_8 : decode cX21_holds 8 = .ok (.ifCond .ne 7, 3) := dk_154 0 7 (dk_at dksX21_holds_0 8 rfl rfl)
theorem dX21_holds_11 : decode cX21_holds 11 = .ok (.iload_n 1, 1) := dk_27 (dk_at dksX21_holds_0 11 rfl rfl)
theorem dX21_holds_12 : decode cX21_holds 12 = .ok (.goto 4, 3) := dk_167 0 4 (dk_at dksX21_holds_0 12 rfl rfl)
theorem dX21_holds_15 : decode cX21_holds 15 = .ok (.iload_n 2, 1) := dk_28 (dk_at dksX21_holds_0 15 rfl rfl)
theorem dX21_holds_16 : decode cX21_holds 16 = .ok (.aload_n 0, 1) := dk_42 (dk_at dksX21_holds_0 16 rfl rfl)
theorem dX21_holds_17 : decode cX21_holds 17 = .ok (.getfield 19, 3) := dk_180 0 19 (dk_at dksX21_holds_0 17 rfl rfl)
theorem dX21_holds_20 : decode cX21_holds 20 = .ok (.invokevirtual 25, 3) := dk_182 0 25 (dk_at dksX21_holds_0 20 rfl rfl)
theorem dX21_holds_23 : decode cX21_holds 23 = .ok (.ireturn, 1) := dk_172 (dk_at dksX21_holds_0 23 rfl rfl)
theorem q145 : (Jvm.Cond.initialized "SafeBuckets$Unit") ∈ lw_all := lw_g (lw_at lw_m1 30 rfl) rfl
theorem q221 : (Jvm.Cond.fieldLink "SafeBuckets$Unit" (69 : Nat) "SafeBuckets$Bucket" "total" "I") ∈ lw_all := lw_g (lw_at lw_m1 106 rfl) rfl
theorem q233 : (Jvm.Cond.fieldLink "SafeBuckets$Unit" (29 : Nat) "SafeBuckets$Bucket" "from" "I") ∈ lw_all := lw_g (lw_at lw_m1 118 rfl) rfl
theorem q240 : (Jvm.Cond.fieldLink "SafeBuckets$Unit" (34 : Nat) "SafeBuckets$Bucket" "to" "I") ∈ lw_all := lw_g (lw_at lw_m1 125 rfl) rfl
theorem q256 : (Jvm.Cond.fieldLinkNest "SafeBuckets$Unit" (56 : Nat) "SafeBuckets$Column" "buckets" "[LSafeBuckets$Bucket;" "SafeBuckets") ∈ lw_tbl := lw_at lw_m1 141 rfl
theorem q260 : (Jvm.Cond.fieldLinkNest "SafeBuckets$Unit" (51 : Nat) "SafeBuckets$Column" "many" "I" "SafeBuckets") ∈ lw_tbl := lw_at lw_m1 145 rfl
theorem q276 : (Jvm.Cond.fieldLinkNest "SafeBuckets$Unit" (47 : Nat) "SafeBuckets$Sheet" "columns" "[LSafeBuckets$Column;" "SafeBuckets") ∈ lw_tbl := lw_at lw_m1 161 rfl
theorem q839 : (Jvm.Cond.instantiable "SafeBuckets$Unit" (3 : Nat)) ∈ lw_all := lw_g (lw_at lw_m4 4 rfl) rfl
theorem q841 : (Jvm.Cond.instanceMethod ({ cls := "SafeBuckets$Unit", name := "<init>", desc := "(ILSafeBuckets$Sign;I)V" } : Jvm.MethodName)) ∈ lw_all := lw_g (lw_at lw_m4 6 rfl) rfl
theorem q842 : (Jvm.Cond.code ({ cls := "SafeBuckets$Unit", name := "<init>", desc := "(ILSafeBuckets$Sign;I)V" } : Jvm.MethodName) prog_24_method_1_code (4 : Nat) (Option.none : Option Jvm.ClassFile.FieldType)) ∈ lw_all := lw_g (lw_at lw_m4 7 rfl) rfl
theorem q843 : (Jvm.Cond.methodLink "SafeBuckets$Unit" (3 : Nat) ({ cls := "java/lang/Object", name := "<init>", desc := "()V" } : Jvm.MethodName)) ∈ lw_all := lw_g (lw_at lw_m4 8 rfl) rfl
theorem q844 : (Jvm.Cond.fieldLink "SafeBuckets$Unit" (9 : Nat) "SafeBuckets$Unit" "column" "I") ∈ lw_all := lw_g (lw_at lw_m4 9 rfl) rfl
theorem q845 : (Jvm.Cond.fieldLink "SafeBuckets$Unit" (19 : Nat) "SafeBuckets$Unit" "number" "I") ∈ lw_all := lw_g (lw_at lw_m4 10 rfl) rfl
theorem q846 : (Jvm.Cond.fieldLink "SafeBuckets$Unit" (15 : Nat) "SafeBuckets$Unit" "sign" "LSafeBuckets$Sign;") ∈ lw_all := lw_g (lw_at lw_m4 11 rfl) rfl
theorem q847 : (Jvm.Cond.laysFinal "SafeBuckets$Unit" "SafeBuckets$Unit" "column" "I") ∈ lw_all := lw_g (lw_at lw_m4 12 rfl) rfl
theorem q848 : (Jvm.Cond.soleField "SafeBuckets$Unit" "column") ∈ lw_all := lw_g (lw_at lw_m4 13 rfl) rfl
theorem q849 : (Jvm.Cond.laysFinal "SafeBuckets$Unit" "SafeBuckets$Unit" "number" "I") ∈ lw_all := lw_g (lw_at lw_m4 14 rfl) rfl
theorem q850 : (Jvm.Cond.soleField "SafeBuckets$Unit" "number") ∈ lw_all := lw_g (lw_at lw_m4 15 rfl) rfl
theorem q851 : (Jvm.Cond.laysFinal "SafeBuckets$Unit" "SafeBuckets$Unit" "sign" "LSafeBuckets$Sign;") ∈ lw_all := lw_g (lw_at lw_m4 16 rfl) rfl
theorem q852 : (Jvm.Cond.soleField "SafeBuckets$Unit" "sign") ∈ lw_all := lw_g (lw_at lw_m4 17 rfl) rfl
theorem q853 : (Jvm.Cond.superclass "SafeBuckets$Unit" "java/lang/Object") ∈ lw_all := lw_g (lw_at lw_m4 18 rfl) rfl
theorem q918 : (Jvm.Cond.instanceMethod ({ cls := "SafeBuckets$Unit", name := "told", desc := "(I)I" } : Jvm.MethodName)) ∈ lw_all := lw_g (lw_at lw_m4 83 rfl) rfl
theorem q919 : (Jvm.Cond.selects "SafeBuckets$Unit" ({ cls := "SafeBuckets$Unit", name := "told", desc := "(I)I" } : Jvm.MethodName) ({ cls := "SafeBuckets$Unit", name := "told", desc := "(I)I" } : Jvm.MethodName)) ∈ lw_all := lw_g (lw_at lw_m4 84 rfl) rfl
theorem q920 : (Jvm.Cond.code ({ cls := "SafeBuckets$Unit", name := "told", desc := "(I)I" } : Jvm.MethodName) prog_24_method_9_code (2 : Nat) (Option.some Jvm.ClassFile.FieldType.int)) ∈ lw_all := lw_g (lw_at lw_m4 85 rfl) rfl
theorem q921 : (Jvm.Cond.methodLink "SafeBuckets$Unit" (37 : Nat) ({ cls := "SafeBuckets$Unit", name := "isMissing", desc := "()Z" } : Jvm.MethodName)) ∈ lw_all := lw_g (lw_at lw_m4 86 rfl) rfl
theorem q922 : (Jvm.Cond.privateMethod ({ cls := "SafeBuckets$Unit", name := "isMissing", desc := "()Z" } : Jvm.MethodName)) ∈ lw_tbl := lw_at lw_m4 87 rfl
theorem q923 : (Jvm.Cond.instanceMethod ({ cls := "SafeBuckets$Unit", name := "isMissing", desc := "()Z" } : Jvm.MethodName)) ∈ lw_all := lw_g (lw_at lw_m4 88 rfl) rfl
theorem q924 : (Jvm.Cond.code ({ cls := "SafeBuckets$Unit", name := "isMissing", desc := "()Z" } : Jvm.MethodName) prog_24_method_2_code (1 : Nat) (Option.some Jvm.ClassFile.FieldType.boolean)) ∈ lw_all := lw_g (lw_at lw_m4 89 rfl) rfl
theorem q1144 : (Jvm.Cond.instanceMethod ({ cls := "SafeBuckets$Unit", name := "lower", desc := "(LSafeBuckets$Sheet;)I" } : Jvm.MethodName)) ∈ lw_all := lw_g (lw_at lw_m5 69 rfl) rfl
theorem q1145 : (Jvm.Cond.selects "SafeBuckets$Unit" ({ cls := "SafeBuckets$Unit", name := "lower", desc := "(LSafeBuckets$Sheet;)I" } : Jvm.MethodName) ({ cls := "SafeBuckets$Unit", name := "lower", desc := "(LSafeBuckets$Sheet;)I" } : Jvm.MethodName)) ∈ lw_all := lw_g (lw_at lw_m5 70 rfl) rfl
theorem q1146 : (Jvm.Cond.code ({ cls := "SafeBuckets$Unit", name := "lower", desc := "(LSafeBuckets$Sheet;)I" } : Jvm.MethodName) prog_24_method_5_code (5 : Nat) (Option.some Jvm.ClassFile.FieldType.int)) ∈ lw_all := lw_g (lw_at lw_m5 71 rfl) rfl
theorem q1147 : (Jvm.Cond.methodLink "SafeBuckets$Unit" (41 : Nat) ({ cls := "SafeBuckets$Sheet", name := "missing", desc := "(I)I" } : Jvm.MethodName)) ∈ lw_all := lw_g (lw_at lw_m5 72 rfl) rfl
theorem q1152 : (Jvm.Cond.methodLink "SafeBuckets$Unit" (60 : Nat) ({ cls := "SafeBuckets$Unit", name := "many", desc := "(LSafeBuckets$Bucket;)I" } : Jvm.MethodName)) ∈ lw_all := lw_g (lw_at lw_m5 77 rfl) rfl
theorem q1153 : (Jvm.Cond.privateMethod ({ cls := "SafeBuckets$Unit", name := "many", desc := "(LSafeBuckets$Bucket;)I" } : Jvm.MethodName)) ∈ lw_tbl := lw_at lw_m5 78 rfl
theorem q1154 : (Jvm.Cond.instanceMethod ({ cls := "SafeBuckets$Unit", name := "many", desc := "(LSafeBuckets$Bucket;)I" } : Jvm.MethodName)) ∈ lw_all := lw_g (lw_at lw_m5 79 rfl) rfl
theorem q1155 : (Jvm.Cond.code ({ cls := "SafeBuckets$Unit", name := "many", desc := "(LSafeBuckets$Bucket;)I" } : Jvm.MethodName) prog_24_method_4_code (4 : Nat) (Option.some Jvm.ClassFile.FieldType.int)) ∈ lw_all := lw_g (lw_at lw_m5 80 rfl) rfl
theorem q1156 : (Jvm.Cond.methodLink "SafeBuckets$Unit" (25 : Nat) ({ cls := "SafeBuckets$Sign", name := "holds", desc := "(II)Z" } : Jvm.MethodName)) ∈ lw_all := lw_g (lw_at lw_m5 81 rfl) rfl
theorem q1171 : (Jvm.Cond.methodLink "SafeBuckets$Unit" (63 : Nat) ({ cls := "SafeBuckets$Bucket", name := "least", desc := "(I)I" } : Jvm.MethodName)) ∈ lw_all := lw_g (lw_at lw_m5 96 rfl) rfl
theorem q1197 : (Jvm.Cond.instanceMethod ({ cls := "SafeBuckets$Unit", name := "upper", desc := "(LSafeBuckets$Sheet;)I" } : Jvm.MethodName)) ∈ lw_all := lw_g (lw_at lw_m5 122 rfl) rfl
theorem q1198 : (Jvm.Cond.selects "SafeBuckets$Unit" ({ cls := "SafeBuckets$Unit", name := "upper", desc := "(LSafeBuckets$Sheet;)I" } : Jvm.MethodName) ({ cls := "SafeBuckets$Unit", name := "upper", desc := "(LSafeBuckets$Sheet;)I" } : Jvm.MethodName)) ∈ lw_all := lw_g (lw_at lw_m5 123 rfl) rfl
theorem q1199 : (Jvm.Cond.code ({ cls := "SafeBuckets$Unit", name := "upper", desc := "(LSafeBuckets$Sheet;)I" } : Jvm.MethodName) prog_24_method_6_code (5 : Nat) (Option.some Jvm.ClassFile.FieldType.int)) ∈ lw_all := lw_g (lw_at lw_m5 124 rfl) rfl
theorem q1200 : (Jvm.Cond.methodLink "SafeBuckets$Unit" (66 : Nat) ({ cls := "SafeBuckets$Bucket", name := "most", desc := "(I)I" } : Jvm.MethodName)) ∈ lw_all := lw_g (lw_at lw_m5 125 rfl) rfl
theorem q1216 : (Jvm.Cond.instanceMethod ({ cls := "SafeBuckets$Unit", name := "estimate", desc := "(LSafeBuckets$Sheet;)I" } : Jvm.MethodName)) ∈ lw_all := lw_g (lw_at lw_m5 141 rfl) rfl
theorem q1217 : (Jvm.Cond.selects "SafeBuckets$Unit" ({ cls := "SafeBuckets$Unit", name := "estimate", desc := "(LSafeBuckets$Sheet;)I" } : Jvm.MethodName) ({ cls := "SafeBuckets$Unit", name := "estimate", desc := "(LSafeBuckets$Sheet;)I" } : Jvm.MethodName)) ∈ lw_all := lw_g (lw_at lw_m5 142 rfl) rfl
theorem q1218 : (Jvm.Cond.code ({ cls := "SafeBuckets$Unit", name := "estimate", desc := "(LSafeBuckets$Sheet;)I" } : Jvm.MethodName) prog_24_method_7_code (5 : Nat) (Option.some Jvm.ClassFile.FieldType.int)) ∈ lw_all := lw_g (lw_at lw_m5 143 rfl) rfl
theorem q1219 : (Jvm.Cond.methodLink "SafeBuckets$Unit" (72 : Nat) ({ cls := "SafeBuckets$Bucket", name := "width", desc := "()I" } : Jvm.MethodName)) ∈ lw_all := lw_g (lw_at lw_m5 144 rfl) rfl
theorem q1263 : (Jvm.Cond.instanceMethod ({ cls := "SafeBuckets$Unit", name := "holds", desc := "(II)Z" } : Jvm.MethodName)) ∈ lw_all := lw_g (lw_at lw_m5 188 rfl) rfl
theorem q1264 : (Jvm.Cond.selects "SafeBuckets$Unit" ({ cls := "SafeBuckets$Unit", name := "holds", desc := "(II)Z" } : Jvm.MethodName) ({ cls := "SafeBuckets$Unit", name := "holds", desc := "(II)Z" } : Jvm.MethodName)) ∈ lw_all := lw_g (lw_at lw_m5 189 rfl) rfl
theorem q1265 : (Jvm.Cond.code ({ cls := "SafeBuckets$Unit", name := "holds", desc := "(II)Z" } : Jvm.MethodName) prog_24_method_3_code (3 : Nat) (Option.some Jvm.ClassFile.FieldType.boolean)) ∈ lw_all := lw_g (lw_at lw_m5 190 rfl) rfl
theorem q1364 : (Jvm.Cond.selects "SafeBuckets$Unit" ({ cls := "java/lang/Object", name := "getClass", desc := "()Ljava/lang/Class;" } : Jvm.MethodName) ({ cls := "java/lang/Object", name := "getClass", desc := "()Ljava/lang/Class;" } : Jvm.MethodName)) ∈ lw_all := lw_g (lw_at lw_m6 49 rfl) rfl
theorem q1438 : (Jvm.Cond.castable "SafeBuckets$Unit" "SafeBuckets$Condition") ∈ lw_tbl := lw_at lw_m6 123 rfl
theorem q1439 : (Jvm.Cond.selects "SafeBuckets$Unit" ({ cls := "SafeBuckets$Condition", name := "upper", desc := "(LSafeBuckets$Sheet;)I" } : Jvm.MethodName) ({ cls := "SafeBuckets$Unit", name := "upper", desc := "(LSafeBuckets$Sheet;)I" } : Jvm.MethodName)) ∈ lw_all := lw_g (lw_at lw_m6 124 rfl) rfl
theorem q1440 : (Jvm.Cond.unhidden "SafeBuckets$Unit" "upper" "(LSafeBuckets$Sheet;)I") ∈ lw_tbl := lw_at lw_m6 125 rfl
theorem q1441 : (Jvm.Cond.publicMethod ({ cls := "SafeBuckets$Unit", name := "upper", desc := "(LSafeBuckets$Sheet;)I" } : Jvm.MethodName)) ∈ lw_tbl := lw_at lw_m6 126 rfl
theorem q1453 : (Jvm.Cond.selects "SafeBuckets$Unit" ({ cls := "SafeBuckets$Condition", name := "lower", desc := "(LSafeBuckets$Sheet;)I" } : Jvm.MethodName) ({ cls := "SafeBuckets$Unit", name := "lower", desc := "(LSafeBuckets$Sheet;)I" } : Jvm.MethodName)) ∈ lw_all := lw_g (lw_at lw_m6 138 rfl) rfl
theorem q1454 : (Jvm.Cond.unhidden "SafeBuckets$Unit" "lower" "(LSafeBuckets$Sheet;)I") ∈ lw_tbl := lw_at lw_m6 139 rfl
theorem q1455 : (Jvm.Cond.publicMethod ({ cls := "SafeBuckets$Unit", name := "lower", desc := "(LSafeBuckets$Sheet;)I" } : Jvm.MethodName)) ∈ lw_tbl := lw_at lw_m6 140 rfl
theorem q1477 : (Jvm.Cond.selects "SafeBuckets$Unit" ({ cls := "SafeBuckets$Condition", name := "holds", desc := "(II)Z" } : Jvm.MethodName) ({ cls := "SafeBuckets$Unit", name := "holds", desc := "(II)Z" } : Jvm.MethodName)) ∈ lw_all := lw_g (lw_at lw_m6 162 rfl) rfl
theorem q1478 : (Jvm.Cond.unhidden "SafeBuckets$Unit" "holds" "(II)Z") ∈ lw_tbl := lw_at lw_m6 163 rfl
theorem q1479 : (Jvm.Cond.publicMethod ({ cls := "SafeBuckets$Unit", name := "holds", desc := "(II)Z" } : Jvm.MethodName)) ∈ lw_tbl := lw_at lw_m6 164 rfl
theorem q2151 : (Jvm.Cond.castable "SafeBuckets$Unit" "java/lang/Object") ∈ lw_tbl := lw_at lw_m9 116 rfl
theorem q2190 : (Jvm.Cond.fieldLinkNest "SafeBuckets$Unit" (22 : Nat) "SafeBuckets$Sign" "number" "I" "SafeBuckets") ∈ lw_tbl := lw_at lw_m9 155 rfl
theorem in_X21 : ∀ w ∈ wsX210, w ∈ lw_all := lw_in wsX210 [847, 849, 851] (by decide +kernel) (by decide +kernel)

/-! SafeBuckets$Lease -/
set_option maxRecDepth 100000
def RX22 : String := "SafeBuckets$Lease"
def TX22 : u_T := fun k => match k with
  | 0 => ("SafeBuckets$Lease", "table", "I", true)
  | _ => ("SafeBuckets$Lease", "this$0", "LSafeBuckets;", true)
def tyX22 : Nat → FieldType := fun k => match k with
  | 0 => .int
  | _ => .object "SafeBuckets"
abbrev wsX220 : List Cond := u_ws RX22 TX22 2
theorem nmX22 : ∀ a, a < 2 → ∀ b, b < 2 → a ≠ b → (TX22 a).2.1 ≠ (TX22 b).2.1 := by decide +kernel
theorem tyX22_ok : ∀ k, k < 2 → parseFieldDescriptor (TX22 k).2.2.1 = some (tyX22 k) := by decide +kernel
abbrev cX22_init : ByteArray := prog_8_method_1_code
def yX22_init : MethodName := ⟨RX22, "<init>", "(LSafeBuckets;I)V"⟩
def dkwX22_init_0 : List UInt8 := [42, 43, 181, 0, 3, 42, 183, 0, 9, 42, 28, 181, 0, 15, 43, 28, 182, 0, 19, 177]
abbrev dktX22_init_0 : List UInt8 := dkwX22_init_0 ++ []
theorem dksX22_init_0 : cX22_init.data.toList.drop 0 = dktX22_init_0 := by decide +kernel
theorem dX22_init_0 : decode cX22_init 0 = .ok (.aload_n 0, 1) := dk_42 (dk_at dksX22_init_0 0 rfl rfl)
theorem dX22_init_1 : decode cX22_init 1 = .ok (.aload_n 1, 1) := dk_43 (dk_at dksX22_init_0 1 rfl rfl)
theorem dX22_init_2 : decode cX22_init 2 = .ok (.putfield 3, 3) := dk_181 0 3 (dk_at dksX22_init_0 2 rfl rfl)
theorem dX22_init_5 : decode cX22_init 5 = .ok (.aload_n 0, 1) := dk_42 (dk_at dksX22_init_0 5 rfl rfl)
theorem dX22_init_6 : decode cX22_init 6 = .ok (.invokespecial 9, 3) := dk_183 0 9 (dk_at dksX22_init_0 6 rfl rfl)
theorem dX22_init_9 : decode cX22_init 9 = .ok (.aload_n 0, 1) := dk_42 (dk_at dksX22_init_0 9 rfl rfl)
theorem dX22_init_10 : decode cX22_init 10 = .ok (.iload_n 2, 1) := dk_28 (dk_at dksX22_init_0 10 rfl rfl)
theorem dX22_init_11 : decode cX22_init 11 = .ok (.putfield 15, 3) := dk_181 0 15 (dk_at dksX22_init_0 11 rfl rfl)
theorem dX22_init_14 : decode cX22_init 14 = .ok (.aload_n 1, 1) := dk_43 (dk_at dksX22_init_0 14 rfl rfl)
theorem dX22_init_15 : decode cX22_init 15 = .ok (.iload_n 2, 1) := dk_28 (dk_at dksX22_init_0 15 rfl rfl)
theorem dX22_init_16 : decode cX22_init 16 = .ok (.invokevirtual 19, 3) := dk_182 0 19 (dk_at dksX22_init_0 16 rfl rfl)
theorem dX22_init_19 : decode cX22_init 19 = .ok (.return_, 1) := dk_177 (dk_at dksX22_init_0 19 rfl rfl)
abbrev cX22_sheet : ByteArray := prog_8_method_2_code
def yX22_sheet : MethodName := ⟨RX22, "sheet", "()LSafeBuckets$Sheet;"⟩
def dkwX22_sheet_0 : List UInt8 := [42, 180, 0, 3, 180, 0, 23, 180, 0, 27, 42, 180, 0, 15, 50, 176]
abbrev dktX22_sheet_0 : List UInt8 := dkwX22_sheet_0 ++ []
theorem dksX22_sheet_0 : cX22_sheet.data.toList.drop 0 = dktX22_sheet_0 := by decide +kernel
theorem dX22_sheet_0 : decode cX22_sheet 0 = .ok (.aload_n 0, 1) := dk_42 (dk_at dksX22_sheet_0 0 rfl rfl)
theorem dX22_sheet_1 : decode cX22_sheet 1 = .ok (.getfield 3, 3) := dk_180 0 3 (dk_at dksX22_sheet_0 1 rfl rfl)
theorem dX22_sheet_4 : decode cX22_sheet 4 = .ok (.getfield 23, 3) := dk_180 0 23 (dk_at dksX22_sheet_0 4 rfl rfl)
theorem dX22_sheet_7 : decode cX22_sheet 7 = .ok (.getfield 27, 3) := dk_180 0 27 (dk_at dksX22_sheet_0 7 rfl rfl)
theorem dX22_sheet_10 : decode cX22_sheet 10 = .ok (.aload_n 0, 1) := dk_42 (dk_at dksX22_sheet_0 10 rfl rfl)
theorem dX22_sheet_11 : decode cX22_sheet 11 = .ok (.getfield 15, 3) := dk_180 0 15 (dk_at dksX22_sheet_0 11 rfl rfl)
theorem dX22_sheet_14 : decode cX22_sheet 14 = .ok (.aaload, 1) := dk_50 (dk_at dksX22_sheet_0 14 rfl rfl)
theorem dX22_sheet_15 : decode cX22_sheet 15 = .ok (.areturn, 1) := dk_176 (dk_at dksX22_sheet_0 15 rfl rfl)
abbrev cX22_close : ByteArray := prog_8_method_3_code
def yX22_close : MethodName := ⟨RX22, "close", "()V"⟩
def dkwX22_close_0 : List UInt8 := [42, 180, 0, 3, 16, 10, 42, 180, 0, 15, 96, 182, 0, 19, 177]
abbrev dktX22_close_0 : List UInt8 := dkwX22_close_0 ++ []
theorem dksX22_close_0 : cX22_close.data.toList.drop 0 = dktX22_close_0 := by decide +kernel
theorem dX22_close_0 : decode cX22_close 0 = .ok (.aload_n 0, 1) := dk_42 (dk_at dksX22_close_0 0 rfl rfl)
theorem dX22_close_1 : decode cX22_close 1 = .ok (.getfield 3, 3) := dk_180 0 3 (dk_at dksX22_close_0 1 rfl rfl)
theorem dX22_close_4 : decode cX22_close 4 = .ok (.bipush 10, 2) := dk_16 10 (dk_at dksX22_close_0 4 rfl rfl)
theorem dX22_close_6 : decode cX22_close 6 = .ok (.aload_n 0, 1) := dk_42 (dk_at dksX22_close_0 6 rfl rfl)
theorem dX22_close_7 : decode cX22_close 7 = .ok (.getfield 15, 3) := dk_180 0 15 (dk_at dksX22_close_0 7 rfl rfl)
theorem dX22_close_10 : decode cX22_close 10 = .ok (.iadd, 1) := dk_96 (dk_at dksX22_close_0 10 rfl rfl)
theorem dX22_close_11 : decode cX22_close 11 = .ok (.invokevirtual 19, 3) := dk_182 0 19 (dk_at dksX22_close_0 11 rfl rfl)
theorem dX22_close_14 : decode cX22_close 14 = .ok (.return_, 1) := dk_177 (dk_at dksX22_close_0 14 rfl rfl)
theorem q149 : (Jvm.Cond.initialized "SafeBuckets$Lease") ∈ lw_all := lw_g (lw_at lw_m1 34 rfl) rfl
theorem q298 : (Jvm.Cond.fieldLinkNest "SafeBuckets$Lease" (27 : Nat) "SafeBuckets$State" "sheets" "[LSafeBuckets$Sheet;" "SafeBuckets") ∈ lw_tbl := lw_at lw_m1 183 rfl
theorem q403 : (Jvm.Cond.fieldLinkNest "SafeBuckets$Lease" (23 : Nat) "SafeBuckets" "now" "LSafeBuckets$State;" "SafeBuckets") ∈ lw_tbl := lw_at lw_m2 48 rfl
theorem q1230 : (Jvm.Cond.instantiable "SafeBuckets$Lease" (2 : Nat)) ∈ lw_all := lw_g (lw_at lw_m5 155 rfl) rfl
theorem q1232 : (Jvm.Cond.instanceMethod ({ cls := "SafeBuckets$Lease", name := "<init>", desc := "(LSafeBuckets;I)V" } : Jvm.MethodName)) ∈ lw_all := lw_g (lw_at lw_m5 157 rfl) rfl
theorem q1233 : (Jvm.Cond.code ({ cls := "SafeBuckets$Lease", name := "<init>", desc := "(LSafeBuckets;I)V" } : Jvm.MethodName) prog_8_method_1_code (3 : Nat) (Option.none : Option Jvm.ClassFile.FieldType)) ∈ lw_all := lw_g (lw_at lw_m5 158 rfl) rfl
theorem q1234 : (Jvm.Cond.methodLink "SafeBuckets$Lease" (9 : Nat) ({ cls := "java/lang/Object", name := "<init>", desc := "()V" } : Jvm.MethodName)) ∈ lw_all := lw_g (lw_at lw_m5 159 rfl) rfl
theorem q1235 : (Jvm.Cond.methodLinkNest "SafeBuckets$Lease" (19 : Nat) ({ cls := "SafeBuckets", name := "traces", desc := "(I)V" } : Jvm.MethodName) "SafeBuckets") ∈ lw_tbl := lw_at lw_m5 160 rfl
theorem q1239 : (Jvm.Cond.fieldLink "SafeBuckets$Lease" (15 : Nat) "SafeBuckets$Lease" "table" "I") ∈ lw_all := lw_g (lw_at lw_m5 164 rfl) rfl
theorem q1240 : (Jvm.Cond.fieldLink "SafeBuckets$Lease" (3 : Nat) "SafeBuckets$Lease" "this$0" "LSafeBuckets;") ∈ lw_all := lw_g (lw_at lw_m5 165 rfl) rfl
theorem q1241 : (Jvm.Cond.laysFinal "SafeBuckets$Lease" "SafeBuckets$Lease" "table" "I") ∈ lw_all := lw_g (lw_at lw_m5 166 rfl) rfl
theorem q1242 : (Jvm.Cond.soleField "SafeBuckets$Lease" "table") ∈ lw_all := lw_g (lw_at lw_m5 167 rfl) rfl
theorem q1243 : (Jvm.Cond.laysFinal "SafeBuckets$Lease" "SafeBuckets$Lease" "this$0" "LSafeBuckets;") ∈ lw_all := lw_g (lw_at lw_m5 168 rfl) rfl
theorem q1244 : (Jvm.Cond.soleField "SafeBuckets$Lease" "this$0") ∈ lw_all := lw_g (lw_at lw_m5 169 rfl) rfl
theorem q1245 : (Jvm.Cond.superclass "SafeBuckets$Lease" "java/lang/Object") ∈ lw_all := lw_g (lw_at lw_m5 170 rfl) rfl
theorem q1247 : (Jvm.Cond.instanceMethod ({ cls := "SafeBuckets$Lease", name := "sheet", desc := "()LSafeBuckets$Sheet;" } : Jvm.MethodName)) ∈ lw_all := lw_g (lw_at lw_m5 172 rfl) rfl
theorem q1248 : (Jvm.Cond.selects "SafeBuckets$Lease" ({ cls := "SafeBuckets$Lease", name := "sheet", desc := "()LSafeBuckets$Sheet;" } : Jvm.MethodName) ({ cls := "SafeBuckets$Lease", name := "sheet", desc := "()LSafeBuckets$Sheet;" } : Jvm.MethodName)) ∈ lw_all := lw_g (lw_at lw_m5 173 rfl) rfl
theorem q1249 : (Jvm.Cond.code ({ cls := "SafeBuckets$Lease", name := "sheet", desc := "()LSafeBuckets$Sheet;" } : Jvm.MethodName) prog_8_method_2_code (1 : Nat) (Option.some (Jvm.ClassFile.FieldType.object "SafeBuckets$Sheet"))) ∈ lw_all := lw_g (lw_at lw_m5 174 rfl) rfl
theorem q1267 : (Jvm.Cond.instanceMethod ({ cls := "SafeBuckets$Lease", name := "close", desc := "()V" } : Jvm.MethodName)) ∈ lw_all := lw_g (lw_at lw_m5 192 rfl) rfl
theorem q1268 : (Jvm.Cond.selects "SafeBuckets$Lease" ({ cls := "SafeBuckets$Lease", name := "close", desc := "()V" } : Jvm.MethodName) ({ cls := "SafeBuckets$Lease", name := "close", desc := "()V" } : Jvm.MethodName)) ∈ lw_all := lw_g (lw_at lw_m5 193 rfl) rfl
theorem q1269 : (Jvm.Cond.code ({ cls := "SafeBuckets$Lease", name := "close", desc := "()V" } : Jvm.MethodName) prog_8_method_3_code (1 : Nat) (Option.none : Option Jvm.ClassFile.FieldType)) ∈ lw_all := lw_g (lw_at lw_m5 194 rfl) rfl
theorem q1351 : (Jvm.Cond.selects "SafeBuckets$Lease" ({ cls := "java/lang/Object", name := "getClass", desc := "()Ljava/lang/Class;" } : Jvm.MethodName) ({ cls := "java/lang/Object", name := "getClass", desc := "()Ljava/lang/Class;" } : Jvm.MethodName)) ∈ lw_all := lw_g (lw_at lw_m6 36 rfl) rfl
theorem q2164 : (Jvm.Cond.castable "SafeBuckets$Lease" "java/lang/Object") ∈ lw_tbl := lw_at lw_m9 129 rfl
theorem in_X22 : ∀ w ∈ wsX220, w ∈ lw_all := lw_in wsX220 [1241, 1243] (by decide +kernel) (by decide +kernel)

/-! SafeBuckets$Sign$1 -/
set_option maxRecDepth 100000
def RX23 : String := "SafeBuckets$Sign$1"
abbrev cX23_holds : ByteArray := prog_14_method_2_code
def yX23_holds : MethodName := ⟨RX23, "holds", "(II)Z"⟩
def dkwX23_holds_0 : List UInt8 := [27, 28, 160, 0, 7, 4, 167, 0, 4, 3, 172]
abbrev dktX23_holds_0 : List UInt8 := dkwX23_holds_0 ++ []
theorem dksX23_holds_0 : cX23_holds.data.toList.drop 0 = dktX23_holds_0 := by decide +kernel
theorem dX23_holds_0 : decode cX23_holds 0 = .ok (.iload_n 1, 1) := dk_27 (dk_at dksX23_holds_0 0 rfl rfl)
theorem dX23_holds_1 : decode cX23_holds 1 = .ok (.iload_n 2, 1) := dk_28 (dk_at dksX23_holds_0 1 rfl rfl)
theorem dX23_holds_2 : decode cX23_holds 2 = .ok (.if_icmp .ne 7, 3) := dk_160 0 7 (dk_at dksX23_holds_0 2 rfl rfl)
theorem dX23_holds_5 : decode cX23_holds 5 = .ok (.iconst 1, 1) := dk_4 (dk_at dksX23_holds_0 5 rfl rfl)
theorem dX23_holds_6 : decode cX23_holds 6 = .ok (.goto 4, 3) := dk_167 0 4 (dk_at dksX23_holds_0 6 rfl rfl)
theorem dX23_holds_9 : decode cX23_holds 9 = .ok (.iconst 0, 1) := dk_3 (dk_at dksX23_holds_0 9 rfl rfl)
theorem dX23_holds_10 : decode cX23_holds 10 = .ok (.ireturn, 1) := dk_172 (dk_at dksX23_holds_0 10 rfl rfl)
theorem q1159 : (Jvm.Cond.selects "SafeBuckets$Sign$1" ({ cls := "SafeBuckets$Sign", name := "holds", desc := "(II)Z" } : Jvm.MethodName) ({ cls := "SafeBuckets$Sign$1", name := "holds", desc := "(II)Z" } : Jvm.MethodName)) ∈ lw_all := lw_g (lw_at lw_m5 84 rfl) rfl
theorem q1160 : (Jvm.Cond.instanceMethod ({ cls := "SafeBuckets$Sign$1", name := "holds", desc := "(II)Z" } : Jvm.MethodName)) ∈ lw_all := lw_g (lw_at lw_m5 85 rfl) rfl
theorem q1161 : (Jvm.Cond.code ({ cls := "SafeBuckets$Sign$1", name := "holds", desc := "(II)Z" } : Jvm.MethodName) prog_14_method_2_code (3 : Nat) (Option.some Jvm.ClassFile.FieldType.boolean)) ∈ lw_all := lw_g (lw_at lw_m5 86 rfl) rfl
theorem q1356 : (Jvm.Cond.selects "SafeBuckets$Sign$1" ({ cls := "java/lang/Object", name := "getClass", desc := "()Ljava/lang/Class;" } : Jvm.MethodName) ({ cls := "java/lang/Object", name := "getClass", desc := "()Ljava/lang/Class;" } : Jvm.MethodName)) ∈ lw_all := lw_g (lw_at lw_m6 41 rfl) rfl
theorem q2159 : (Jvm.Cond.castable "SafeBuckets$Sign$1" "java/lang/Object") ∈ lw_tbl := lw_at lw_m9 124 rfl

/-! SafeBuckets$Sign$2 -/
set_option maxRecDepth 100000
def RX24 : String := "SafeBuckets$Sign$2"
abbrev cX24_holds : ByteArray := prog_15_method_2_code
def yX24_holds : MethodName := ⟨RX24, "holds", "(II)Z"⟩
def dkwX24_holds_0 : List UInt8 := [27, 2, 159, 0, 12, 27, 28, 162, 0, 7, 4, 167, 0, 4, 3, 172]
abbrev dktX24_holds_0 : List UInt8 := dkwX24_holds_0 ++ []
theorem dksX24_holds_0 : cX24_holds.data.toList.drop 0 = dktX24_holds_0 := by decide +kernel
theorem dX24_holds_0 : decode cX24_holds 0 = .ok (.iload_n 1, 1) := dk_27 (dk_at dksX24_holds_0 0 rfl rfl)
theorem dX24_holds_1 : decode cX24_holds 1 = .ok (.iconst (-1), 1) := dk_2 (dk_at dksX24_holds_0 1 rfl rfl)
theorem dX24_holds_2 : decode cX24_holds 2 = .ok (.if_icmp .eq 12, 3) := dk_159 0 12 (dk_at dksX24_holds_0 2 rfl rfl)
theorem dX24_holds_5 : decode cX24_holds 5 = .ok (.iload_n 1, 1) := dk_27 (dk_at dksX24_holds_0 5 rfl rfl)
theorem dX24_holds_6 : decode cX24_holds 6 = .ok (.iload_n 2, 1) := dk_28 (dk_at dksX24_holds_0 6 rfl rfl)
theorem dX24_holds_7 : decode cX24_holds 7 = .ok (.if_icmp .ge 7, 3) := dk_162 0 7 (dk_at dksX24_holds_0 7 rfl rfl)
theorem dX24_holds_10 : decode cX24_holds 10 = .ok (.iconst 1, 1) := dk_4 (dk_at dksX24_holds_0 10 rfl rfl)
theorem dX24_holds_11 : decode cX24_holds 11 = .ok (.goto 4, 3) := dk_167 0 4 (dk_at dksX24_holds_0 11 rfl rfl)
theorem dX24_holds_14 : decode cX24_holds 14 = .ok (.iconst 0, 1) := dk_3 (dk_at dksX24_holds_0 14 rfl rfl)
theorem dX24_holds_15 : decode cX24_holds 15 = .ok (.ireturn, 1) := dk_172 (dk_at dksX24_holds_0 15 rfl rfl)
theorem q1162 : (Jvm.Cond.selects "SafeBuckets$Sign$2" ({ cls := "SafeBuckets$Sign", name := "holds", desc := "(II)Z" } : Jvm.MethodName) ({ cls := "SafeBuckets$Sign$2", name := "holds", desc := "(II)Z" } : Jvm.MethodName)) ∈ lw_all := lw_g (lw_at lw_m5 87 rfl) rfl
theorem q1163 : (Jvm.Cond.instanceMethod ({ cls := "SafeBuckets$Sign$2", name := "holds", desc := "(II)Z" } : Jvm.MethodName)) ∈ lw_all := lw_g (lw_at lw_m5 88 rfl) rfl
theorem q1164 : (Jvm.Cond.code ({ cls := "SafeBuckets$Sign$2", name := "holds", desc := "(II)Z" } : Jvm.MethodName) prog_15_method_2_code (3 : Nat) (Option.some Jvm.ClassFile.FieldType.boolean)) ∈ lw_all := lw_g (lw_at lw_m5 89 rfl) rfl
theorem q1357 : (Jvm.Cond.selects "SafeBuckets$Sign$2" ({ cls := "java/lang/Object", name := "getClass", desc := "()Ljava/lang/Class;" } : Jvm.MethodName) ({ cls := "java/lang/Object", name := "getClass", desc := "()Ljava/lang/Class;" } : Jvm.MethodName)) ∈ lw_all := lw_g (lw_at lw_m6 42 rfl) rfl
theorem q2160 : (Jvm.Cond.castable "SafeBuckets$Sign$2" "java/lang/Object") ∈ lw_tbl := lw_at lw_m9 125 rfl

/-! SafeBuckets$Sign$3 -/
set_option maxRecDepth 100000
def RX25 : String := "SafeBuckets$Sign$3"
abbrev cX25_holds : ByteArray := prog_16_method_2_code
def yX25_holds : MethodName := ⟨RX25, "holds", "(II)Z"⟩
def dkwX25_holds_0 : List UInt8 := [27, 28, 164, 0, 7, 4, 167, 0, 4, 3, 172]
abbrev dktX25_holds_0 : List UInt8 := dkwX25_holds_0 ++ []
theorem dksX25_holds_0 : cX25_holds.data.toList.drop 0 = dktX25_holds_0 := by decide +kernel
theorem dX25_holds_0 : decode cX25_holds 0 = .ok (.iload_n 1, 1) := dk_27 (dk_at dksX25_holds_0 0 rfl rfl)
theorem dX25_holds_1 : decode cX25_holds 1 = .ok (.iload_n 2, 1) := dk_28 (dk_at dksX25_holds_0 1 rfl rfl)
theorem dX25_holds_2 : decode cX25_holds 2 = .ok (.if_icmp .le 7, 3) := dk_164 0 7 (dk_at dksX25_holds_0 2 rfl rfl)
theorem dX25_holds_5 : decode cX25_holds 5 = .ok (.iconst 1, 1) := dk_4 (dk_at dksX25_holds_0 5 rfl rfl)
theorem dX25_holds_6 : decode cX25_holds 6 = .ok (.goto 4, 3) := dk_167 0 4 (dk_at dksX25_holds_0 6 rfl rfl)
theorem dX25_holds_9 : decode cX25_holds 9 = .ok (.iconst 0, 1) := dk_3 (dk_at dksX25_holds_0 9 rfl rfl)
theorem dX25_holds_10 : decode cX25_holds 10 = .ok (.ireturn, 1) := dk_172 (dk_at dksX25_holds_0 10 rfl rfl)
theorem q1165 : (Jvm.Cond.selects "SafeBuckets$Sign$3" ({ cls := "SafeBuckets$Sign", name := "holds", desc := "(II)Z" } : Jvm.MethodName) ({ cls := "SafeBuckets$Sign$3", name := "holds", desc := "(II)Z" } : Jvm.MethodName)) ∈ lw_all := lw_g (lw_at lw_m5 90 rfl) rfl
theorem q1166 : (Jvm.Cond.instanceMethod ({ cls := "SafeBuckets$Sign$3", name := "holds", desc := "(II)Z" } : Jvm.MethodName)) ∈ lw_all := lw_g (lw_at lw_m5 91 rfl) rfl
theorem q1167 : (Jvm.Cond.code ({ cls := "SafeBuckets$Sign$3", name := "holds", desc := "(II)Z" } : Jvm.MethodName) prog_16_method_2_code (3 : Nat) (Option.some Jvm.ClassFile.FieldType.boolean)) ∈ lw_all := lw_g (lw_at lw_m5 92 rfl) rfl
theorem q1358 : (Jvm.Cond.selects "SafeBuckets$Sign$3" ({ cls := "java/lang/Object", name := "getClass", desc := "()Ljava/lang/Class;" } : Jvm.MethodName) ({ cls := "java/lang/Object", name := "getClass", desc := "()Ljava/lang/Class;" } : Jvm.MethodName)) ∈ lw_all := lw_g (lw_at lw_m6 43 rfl) rfl
theorem q2161 : (Jvm.Cond.castable "SafeBuckets$Sign$3" "java/lang/Object") ∈ lw_tbl := lw_at lw_m9 126 rfl

/-! SafeBuckets$Sign$4 -/
set_option maxRecDepth 100000
def RX26 : String := "SafeBuckets$Sign$4"
abbrev cX26_holds : ByteArray := prog_17_method_2_code
def yX26_holds : MethodName := ⟨RX26, "holds", "(II)Z"⟩
def dkwX26_holds_0 : List UInt8 := [27, 2, 160, 0, 7, 4, 167, 0, 4, 3, 172]
abbrev dktX26_holds_0 : List UInt8 := dkwX26_holds_0 ++ []
theorem dksX26_holds_0 : cX26_holds.data.toList.drop 0 = dktX26_holds_0 := by decide +kernel
theorem dX26_holds_0 : decode cX26_holds 0 = .ok (.iload_n 1, 1) := dk_27 (dk_at dksX26_holds_0 0 rfl rfl)
theorem dX26_holds_1 : decode cX26_holds 1 = .ok (.iconst (-1), 1) := dk_2 (dk_at dksX26_holds_0 1 rfl rfl)
theorem dX26_holds_2 : decode cX26_holds 2 = .ok (.if_icmp .ne 7, 3) := dk_160 0 7 (dk_at dksX26_holds_0 2 rfl rfl)
theorem dX26_holds_5 : decode cX26_holds 5 = .ok (.iconst 1, 1) := dk_4 (dk_at dksX26_holds_0 5 rfl rfl)
theorem dX26_holds_6 : decode cX26_holds 6 = .ok (.goto 4, 3) := dk_167 0 4 (dk_at dksX26_holds_0 6 rfl rfl)
theorem dX26_holds_9 : decode cX26_holds 9 = .ok (.iconst 0, 1) := dk_3 (dk_at dksX26_holds_0 9 rfl rfl)
theorem dX26_holds_10 : decode cX26_holds 10 = .ok (.ireturn, 1) := dk_172 (dk_at dksX26_holds_0 10 rfl rfl)
theorem q1168 : (Jvm.Cond.selects "SafeBuckets$Sign$4" ({ cls := "SafeBuckets$Sign", name := "holds", desc := "(II)Z" } : Jvm.MethodName) ({ cls := "SafeBuckets$Sign$4", name := "holds", desc := "(II)Z" } : Jvm.MethodName)) ∈ lw_all := lw_g (lw_at lw_m5 93 rfl) rfl
theorem q1169 : (Jvm.Cond.instanceMethod ({ cls := "SafeBuckets$Sign$4", name := "holds", desc := "(II)Z" } : Jvm.MethodName)) ∈ lw_all := lw_g (lw_at lw_m5 94 rfl) rfl
theorem q1170 : (Jvm.Cond.code ({ cls := "SafeBuckets$Sign$4", name := "holds", desc := "(II)Z" } : Jvm.MethodName) prog_17_method_2_code (3 : Nat) (Option.some Jvm.ClassFile.FieldType.boolean)) ∈ lw_all := lw_g (lw_at lw_m5 95 rfl) rfl
theorem q1359 : (Jvm.Cond.selects "SafeBuckets$Sign$4" ({ cls := "java/lang/Object", name := "getClass", desc := "()Ljava/lang/Class;" } : Jvm.MethodName) ({ cls := "java/lang/Object", name := "getClass", desc := "()Ljava/lang/Class;" } : Jvm.MethodName)) ∈ lw_all := lw_g (lw_at lw_m6 44 rfl) rfl
theorem q2162 : (Jvm.Cond.castable "SafeBuckets$Sign$4" "java/lang/Object") ∈ lw_tbl := lw_at lw_m9 127 rfl

theorem q1432 : (Jvm.Cond.interfaceMethod "SafeBuckets$Condition" "SafeBuckets$Condition" "upper" "(LSafeBuckets$Sheet;)I") ∈ lw_tbl := lw_at lw_m6 117 rfl
set_option maxRecDepth 100000
theorem q1433 : (Jvm.Cond.declares ({ cls := "SafeBuckets$Condition", name := "upper", desc := "(LSafeBuckets$Sheet;)I" } : Jvm.MethodName)) ∈ lw_tbl := lw_at lw_m6 118 rfl
theorem q1448 : (Jvm.Cond.interfaceMethod "SafeBuckets$Condition" "SafeBuckets$Condition" "lower" "(LSafeBuckets$Sheet;)I") ∈ lw_tbl := lw_at lw_m6 133 rfl
theorem q1449 : (Jvm.Cond.declares ({ cls := "SafeBuckets$Condition", name := "lower", desc := "(LSafeBuckets$Sheet;)I" } : Jvm.MethodName)) ∈ lw_tbl := lw_at lw_m6 134 rfl
theorem q1472 : (Jvm.Cond.interfaceMethod "SafeBuckets$Condition" "SafeBuckets$Condition" "holds" "(II)Z") ∈ lw_tbl := lw_at lw_m6 157 rfl
theorem q1473 : (Jvm.Cond.declares ({ cls := "SafeBuckets$Condition", name := "holds", desc := "(II)Z" } : Jvm.MethodName)) ∈ lw_tbl := lw_at lw_m6 158 rfl

theorem q2178 : (Jvm.Cond.castable "[B" "java/lang/Object") ∈ lw_tbl := lw_at lw_m9 143 rfl
set_option maxRecDepth 100000

theorem q2179 : (Jvm.Cond.castable "[I" "java/lang/Object") ∈ lw_tbl := lw_at lw_m9 144 rfl
set_option maxRecDepth 100000

theorem q2180 : (Jvm.Cond.castable "[J" "java/lang/Object") ∈ lw_tbl := lw_at lw_m9 145 rfl
set_option maxRecDepth 100000

theorem q2177 : (Jvm.Cond.castable "[LSafeBuckets$Bucket;" "java/lang/Object") ∈ lw_tbl := lw_at lw_m9 142 rfl
set_option maxRecDepth 100000

theorem q2176 : (Jvm.Cond.castable "[LSafeBuckets$Column;" "java/lang/Object") ∈ lw_tbl := lw_at lw_m9 141 rfl
set_option maxRecDepth 100000

theorem q2183 : (Jvm.Cond.castable "[LSafeBuckets$Line;" "java/lang/Object") ∈ lw_tbl := lw_at lw_m9 148 rfl
set_option maxRecDepth 100000

theorem q2175 : (Jvm.Cond.castable "[LSafeBuckets$Sheet;" "java/lang/Object") ∈ lw_tbl := lw_at lw_m9 140 rfl
set_option maxRecDepth 100000

theorem q2181 : (Jvm.Cond.castable "[LSafeBuckets$State;" "java/lang/Object") ∈ lw_tbl := lw_at lw_m9 146 rfl
set_option maxRecDepth 100000

theorem q2184 : (Jvm.Cond.castable "[LSafeBuckets$Term;" "java/lang/Object") ∈ lw_tbl := lw_at lw_m9 149 rfl
set_option maxRecDepth 100000

theorem q2182 : (Jvm.Cond.castable "[LSafeBuckets$ToldTable;" "java/lang/Object") ∈ lw_tbl := lw_at lw_m9 147 rfl
set_option maxRecDepth 100000

theorem q2185 : (Jvm.Cond.castable "[LSafeBuckets$Unit;" "java/lang/Object") ∈ lw_tbl := lw_at lw_m9 150 rfl
set_option maxRecDepth 100000

theorem q2172 : (Jvm.Cond.castable "[LSafeBuckets$Where;" "java/lang/Object") ∈ lw_tbl := lw_at lw_m9 137 rfl
set_option maxRecDepth 100000

theorem q2168 : (Jvm.Cond.sameMethod "[Ljava/lang/Object;" "java/lang/Object" "getClass" "()Ljava/lang/Class;") ∈ lw_all := lw_g (lw_at lw_m9 133 rfl) rfl
set_option maxRecDepth 100000
theorem q2169 : (Jvm.Cond.selects "[Ljava/lang/Object;" ({ cls := "java/lang/Object", name := "getClass", desc := "()Ljava/lang/Class;" } : Jvm.MethodName) ({ cls := "java/lang/Object", name := "getClass", desc := "()Ljava/lang/Class;" } : Jvm.MethodName)) ∈ lw_all := lw_g (lw_at lw_m9 134 rfl) rfl
theorem q2186 : (Jvm.Cond.castable "[Ljava/lang/Object;" "java/lang/Object") ∈ lw_tbl := lw_at lw_m9 151 rfl

theorem q2174 : (Jvm.Cond.castable "[[I" "java/lang/Object") ∈ lw_tbl := lw_at lw_m9 139 rfl
set_option maxRecDepth 100000

theorem q2173 : (Jvm.Cond.castable "[[J" "java/lang/Object") ∈ lw_tbl := lw_at lw_m9 138 rfl
set_option maxRecDepth 100000

theorem q143 : (Jvm.Cond.initialized "java/lang/Enum") ∈ lw_all := lw_g (lw_at lw_m1 28 rfl) rfl
set_option maxRecDepth 100000

theorem q148 : (Jvm.Cond.initialized "java/lang/System") ∈ lw_all := lw_g (lw_at lw_m1 33 rfl) rfl
set_option maxRecDepth 100000
theorem q1028 : (Jvm.Cond.static ({ cls := "java/lang/System", name := "arraycopy", desc := "(Ljava/lang/Object;ILjava/lang/Object;II)V" } : Jvm.MethodName)) ∈ lw_all := lw_g (lw_at lw_m4 193 rfl) rfl
theorem q1029 : (Jvm.Cond.native ({ cls := "java/lang/System", name := "arraycopy", desc := "(Ljava/lang/Object;ILjava/lang/Object;II)V" } : Jvm.MethodName)) ∈ lw_all := lw_g (lw_at lw_m4 194 rfl) rfl

theorem q1311 : (Jvm.Cond.interfaceMethod "java/util/List" "java/util/List" "add" "(Ljava/lang/Object;)Z") ∈ lw_tbl := lw_at lw_m5 236 rfl
set_option maxRecDepth 100000
theorem q1312 : (Jvm.Cond.declares ({ cls := "java/util/List", name := "add", desc := "(Ljava/lang/Object;)Z" } : Jvm.MethodName)) ∈ lw_tbl := lw_at lw_m5 237 rfl

theorem q180 : (Jvm.Cond.arrayOver (Jvm.ClassFile.FieldType.object "SafeBuckets$Where")) ∈ lw_tbl := lw_at lw_m1 65 rfl
set_option maxRecDepth 100000
theorem q182 : (Jvm.Cond.arrayOver (Jvm.ClassFile.FieldType.array Jvm.ClassFile.FieldType.long)) ∈ lw_tbl := lw_at lw_m1 67 rfl
theorem q184 : (Jvm.Cond.arrayOver (Jvm.ClassFile.FieldType.array Jvm.ClassFile.FieldType.int)) ∈ lw_tbl := lw_at lw_m1 69 rfl
theorem q192 : (Jvm.Cond.arrayOver (Jvm.ClassFile.FieldType.object "SafeBuckets$Sheet")) ∈ lw_tbl := lw_at lw_m1 77 rfl
theorem q199 : (Jvm.Cond.arrayOver (Jvm.ClassFile.FieldType.object "SafeBuckets$Column")) ∈ lw_tbl := lw_at lw_m1 84 rfl
theorem q206 : (Jvm.Cond.arrayOver (Jvm.ClassFile.FieldType.object "SafeBuckets$Bucket")) ∈ lw_tbl := lw_at lw_m1 91 rfl
theorem q252 : (Jvm.Cond.arrayClass Jvm.ClassFile.FieldType.byte) ∈ lw_all := lw_g (lw_at lw_m1 137 rfl) rfl
theorem q253 : (Jvm.Cond.arrayClass Jvm.ClassFile.FieldType.int) ∈ lw_all := lw_g (lw_at lw_m1 138 rfl) rfl
theorem q254 : (Jvm.Cond.arrayClass Jvm.ClassFile.FieldType.long) ∈ lw_all := lw_g (lw_at lw_m1 139 rfl) rfl
theorem q320 : (Jvm.Cond.arrayOver (Jvm.ClassFile.FieldType.object "SafeBuckets$State")) ∈ lw_tbl := lw_at lw_m1 205 rfl
theorem q509 : (Jvm.Cond.arrayOver (Jvm.ClassFile.FieldType.object "SafeBuckets$ToldTable")) ∈ lw_tbl := lw_at lw_m2 154 rfl
theorem q511 : (Jvm.Cond.arrayOver (Jvm.ClassFile.FieldType.object "SafeBuckets$Line")) ∈ lw_tbl := lw_at lw_m2 156 rfl
theorem q780 : (Jvm.Cond.arrayOver (Jvm.ClassFile.FieldType.object "SafeBuckets$Term")) ∈ lw_tbl := lw_at lw_m3 185 rfl
theorem q799 : (Jvm.Cond.arrayOver (Jvm.ClassFile.FieldType.object "SafeBuckets$Unit")) ∈ lw_tbl := lw_at lw_m3 204 rfl
theorem q1294 : (Jvm.Cond.arrayOver (Jvm.ClassFile.FieldType.object "java/lang/Object")) ∈ lw_tbl := lw_at lw_m5 219 rfl

