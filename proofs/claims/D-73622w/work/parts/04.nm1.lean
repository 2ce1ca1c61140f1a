/-! SafeBuckets -/
set_option maxRecDepth 100000
def RX1 : String := "SafeBuckets"
def TX1 : u_T := fun k => match k with
  | 0 => ("SafeBuckets", "tape", "[B", true)
  | 1 => ("SafeBuckets", "length", "I", false)
  | 2 => ("SafeBuckets", "wheres", "[LSafeBuckets$Where;", true)
  | 3 => ("SafeBuckets", "refused", "[I", true)
  | 4 => ("SafeBuckets", "whereMany", "I", false)
  | 5 => ("SafeBuckets", "book", "LSafeBuckets$Book;", false)
  | 6 => ("SafeBuckets", "bookRead", "LSafeBuckets$Book;", false)
  | 7 => ("SafeBuckets", "whereRead", "LSafeBuckets$Where;", false)
  | 8 => ("SafeBuckets", "counts", "[I", true)
  | 9 => ("SafeBuckets", "sums", "[I", true)
  | 10 => ("SafeBuckets", "squares", "[I", true)
  | 11 => ("SafeBuckets", "least", "[[J", true)
  | 12 => ("SafeBuckets", "next", "[[I", true)
  | 13 => ("SafeBuckets", "triedMany", "I", false)
  | 14 => ("SafeBuckets", "plainMany", "I", false)
  | 15 => ("SafeBuckets", "now", "LSafeBuckets$State;", true)
  | 16 => ("SafeBuckets", "image", "LSafeBuckets$State;", true)
  | 17 => ("SafeBuckets", "tried", "LSafeBuckets$Sheet;", true)
  | 18 => ("SafeBuckets", "backs", "[LSafeBuckets$State;", true)
  | 19 => ("SafeBuckets", "undos", "I", false)
  | 20 => ("SafeBuckets", "undoAt", "I", false)
  | 21 => ("SafeBuckets", "x", "J", false)
  | 22 => ("SafeBuckets", "tooLong", "LSafeBuckets$TooLong;", true)
  | 23 => ("SafeBuckets", "events", "[I", true)
  | 24 => ("SafeBuckets", "eventMany", "I", false)
  | 25 => ("SafeBuckets", "steps", "I", false)
  | 26 => ("SafeBuckets", "degrees", "[I", true)
  | 27 => ("SafeBuckets", "others", "[I", true)
  | _ => ("SafeBuckets", "hasImage", "Z", false)
def tyX1 : Nat → FieldType := fun k => match k with
  | 0 => .array .byte
  | 1 => .int
  | 2 => .array (.object "SafeBuckets$Where")
  | 3 => .array .int
  | 4 => .int
  | 5 => .object "SafeBuckets$Book"
  | 6 => .object "SafeBuckets$Book"
  | 7 => .object "SafeBuckets$Where"
  | 8 => .array .int
  | 9 => .array .int
  | 10 => .array .int
  | 11 => .array (.array .long)
  | 12 => .array (.array .int)
  | 13 => .int
  | 14 => .int
  | 15 => .object "SafeBuckets$State"
  | 16 => .object "SafeBuckets$State"
  | 17 => .object "SafeBuckets$Sheet"
  | 18 => .array (.object "SafeBuckets$State")
  | 19 => .int
  | 20 => .int
  | 21 => .long
  | 22 => .object "SafeBuckets$TooLong"
  | 23 => .array .int
  | 24 => .int
  | 25 => .int
  | 26 => .array .int
  | 27 => .array .int
  | _ => .boolean
abbrev wsX10 : List Cond := u_ws RX1 TX1 29
set_option maxRecDepth 100000 in
theorem nmX1 : ∀ a, a < 29 → ∀ b, b < 29 → a ≠ b → (TX1 a).2.1 ≠ (TX1 b).2.1 := by decide +kernel
set_option maxRecDepth 100000 in
theorem tyX1_ok : ∀ k, k < 29 → parseFieldDescriptor (TX1 k).2.2.1 = some (tyX1 k) := by decide +kernel
abbrev cX1_feed : ByteArray := prog_1_method_3_code
def yX1_feed : MethodName := ⟨RX1, "feed", "(IIIII)I"⟩
def dkwX1_feed_3 : List UInt8 := [182, 0, 11, 42, 180, 0, 7, 172]
abbrev dktX1_feed_3 : List UInt8 := dkwX1_feed_3 ++ []
def dkwX1_feed_2 : List UInt8 := [182, 0, 11, 42, 28, 182, 0, 11, 42, 29, 182, 0, 11, 42, 21, 4, 182, 0, 11, 42, 21, 5]
abbrev dktX1_feed_2 : List UInt8 := dkwX1_feed_2 ++ dktX1_feed_3
def dkwX1_feed_1 : List UInt8 := [184, 0, 3, 96, 54, 6, 42, 180, 0, 7, 21, 6, 96, 17, 0, 240, 164, 0, 5, 2, 172, 42, 27]
abbrev dktX1_feed_1 : List UInt8 := dkwX1_feed_1 ++ dktX1_feed_2
def dkwX1_feed_0 : List UInt8 := [27, 184, 0, 3, 28, 184, 0, 3, 96, 29, 184, 0, 3, 96, 21, 4, 184, 0, 3, 96, 21, 5]
abbrev dktX1_feed_0 : List UInt8 := dkwX1_feed_0 ++ dktX1_feed_1
theorem dksX1_feed_0 : cX1_feed.data.toList.drop 0 = dktX1_feed_0 := by decide +kernel
theorem dksX1_feed_1 : cX1_feed.data.toList.drop 22 = dktX1_feed_1 := dk_seg dksX1_feed_0 22 rfl rfl
theorem dksX1_feed_2 : cX1_feed.data.toList.drop 45 = dktX1_feed_2 := dk_seg dksX1_feed_1 23 rfl rfl
theorem dksX1_feed_3 : cX1_feed.data.toList.drop 67 = dktX1_feed_3 := dk_seg dksX1_feed_2 22 rfl rfl
theorem dX1_feed_0 : decode cX1_feed 0 = .ok (.iload_n 1, 1) := dk_27 (dk_at dksX1_feed_0 0 rfl rfl)
theorem dX1_feed_1 : decode cX1_feed 1 = .ok (.invokestatic 3, 3) := dk_184 0 3 (dk_at dksX1_feed_0 1 rfl rfl)
theorem dX1_feed_4 : decode cX1_feed 4 = .ok (.iload_n 2, 1) := dk_28 (dk_at dksX1_feed_0 4 rfl rfl)
theorem dX1_feed_5 : decode cX1_feed 5 = .ok (.invokestatic 3, 3) := dk_184 0 3 (dk_at dksX1_feed_0 5 rfl rfl)
theorem dX1_feed_8 : decode cX1_feed 8 = .ok (.iadd, 1) := dk_96 (dk_at dksX1_feed_0 8 rfl rfl)
theorem dX1_feed_9 : decode cX1_feed 9 = .ok (.iload_n 3, 1) := dk_29 (dk_at dksX1_feed_0 9 rfl rfl)
theorem dX1_feed_10 : decode cX1_feed 10 = .ok (.invokestatic 3, 3) := dk_184 0 3 (dk_at dksX1_feed_0 10 rfl rfl)
theorem dX1_feed_13 : decode cX1_feed 13 = .ok (.iadd, 1) := dk_96 (dk_at dksX1_feed_0 13 rfl rfl)
theorem dX1_feed_14 : decode cX1_feed 14 = .ok (.iload 4, 2) := dk_21 4 (dk_at dksX1_feed_0 14 rfl rfl)
theorem dX1_feed_16 : decode cX1_feed 16 = .ok (.invokestatic 3, 3) := dk_184 0 3 (dk_at dksX1_feed_0 16 rfl rfl)
theorem dX1_feed_19 : decode cX1_feed 19 = .ok (.iadd, 1) := dk_96 (dk_at dksX1_feed_0 19 rfl rfl)
theorem dX1_feed_20 : decode cX1_feed 20 = .ok (.iload 5, 2) := dk_21 5 (dk_at dksX1_feed_0 20 rfl rfl)
theorem dX1_feed_22 : decode cX1_feed 22 = .ok (.invokestatic 3, 3) := dk_184 0 3 (dk_at dksX1_feed_1 0 rfl rfl)
theorem dX1_feed_25 : decode cX1_feed 25 = .ok (.iadd, 1) := dk_96 (dk_at dksX1_feed_1 3 rfl rfl)
theorem dX1_feed_26 : decode cX1_feed 26 = .ok (.istore 6, 2) := dk_54 6 (dk_at dksX1_feed_1 4 rfl rfl)
theorem dX1_feed_28 : decode cX1_feed 28 = .ok (.aload_n 0, 1) := dk_42 (dk_at dksX1_feed_1 6 rfl rfl)
theorem dX1_feed_29 : decode cX1_feed 29 = .ok (.getfield 7, 3) := dk_180 0 7 (dk_at dksX1_feed_1 7 rfl rfl)
theorem dX1_feed_32 : decode cX1_feed 32 = .ok (.iload 6, 2) := dk_21 6 (dk_at dksX1_feed_1 10 rfl rfl)
theorem dX1_feed_34 : decode cX1_feed 34 = .ok (.iadd, 1) := dk_96 (dk_at dksX1_feed_1 12 rfl rfl)
theorem dX1_feed_35 : decode cX1_feed 35 = .ok (.sipush 240, 3) := dk_17 0 240 (dk_at dksX1_feed_1 13 rfl rfl)
theorem dX1_feed_38 : decode cX1_feed 38 = .ok (.if_icmp .le 5, 3) := dk_164 0 5 (dk_at dksX1_feed_1 16 rfl rfl)
theorem dX1_feed_41 : decode cX1_feed 41 = .ok (.iconst (-1), 1) := dk_2 (dk_at dksX1_feed_1 19 rfl rfl)
theorem dX1_feed_42 : decode cX1_feed 42 = .ok (.ireturn, 1) := dk_172 (dk_at dksX1_feed_1 20 rfl rfl)
theorem dX1_feed_43 : decode cX1_feed 43 = .ok (.aload_n 0, 1) := dk_42 (dk_at dksX1_feed_1 21 rfl rfl)
theorem dX1_feed_44 : decode cX1_feed 44 = .ok (.iload_n 1, 1) := dk_27 (dk_at dksX1_feed_1 22 rfl rfl)
theorem dX1_feed_45 : decode cX1_feed 45 = .ok (.invokevirtual 11, 3) := dk_182 0 11 (dk_at dksX1_feed_2 0 rfl rfl)
theorem dX1_feed_48 : decode cX1_feed 48 = .ok (.aload_n 0, 1) := dk_42 (dk_at dksX1_feed_2 3 rfl rfl)
theorem dX1_feed_49 : decode cX1_feed 49 = .ok (.iload_n 2, 1) := dk_28 (dk_at dksX1_feed_2 4 rfl rfl)
theorem dX1_feed_50 : decode cX1_feed 50 = .ok (.invokevirtual 11, 3) := dk_182 0 11 (dk_at dksX1_feed_2 5 rfl rfl)
theorem dX1_feed_53 : decode cX1_feed 53 = .ok (.aload_n 0, 1) := dk_42 (dk_at dksX1_feed_2 8 rfl rfl)
theorem dX1_feed_54 : decode cX1_feed 54 = .ok (.iload_n 3, 1) := dk_29 (dk_at dksX1_feed_2 9 rfl rfl)
theorem dX1_feed_55 : decode cX1_feed 55 = .ok (.invokevirtual 11, 3) := dk_182 0 11 (dk_at dksX1_feed_2 10 rfl rfl)
theorem dX1_feed_58 : decode cX1_feed 58 = .ok (.aload_n 0, 1) := dk_42 (dk_at dksX1_feed_2 13 rfl rfl)
theorem dX1_feed_59 : decode cX1_feed 59 = .ok (.iload 4, 2) := dk_21 4 (dk_at dksX1_feed_2 14 rfl rfl)
theorem dX1_feed_61 : decode cX1_feed 61 = .ok (.invokevirtual 11, 3) := dk_182 0 11 (dk_at dksX1_feed_2 16 rfl rfl)
theorem dX1_feed_64 : decode cX1_feed 64 = .ok (.aload_n 0, 1) := dk_42 (dk_at dksX1_feed_2 19 rfl rfl)
theorem dX1_feed_65 : decode cX1_feed 65 = .ok (.iload 5, 2) := dk_21 5 (dk_at dksX1_feed_2 20 rfl rfl)
theorem dX1_feed_67 : decode cX1_feed 67 = .ok (.invokevirtual 11, 3) := dk_182 0 11 (dk_at dksX1_feed_3 0 rfl rfl)
theorem dX1_feed_70 : decode cX1_feed 70 = .ok (.aload_n 0, 1) := dk_42 (dk_at dksX1_feed_3 3 rfl rfl)
theorem dX1_feed_71 : decode cX1_feed 71 = .ok (.getfield 7, 3) := dk_180 0 7 (dk_at dksX1_feed_3 4 rfl rfl)
theorem dX1_feed_74 : decode cX1_feed 74 = .ok (.ireturn, 1) := dk_172 (dk_at dksX1_feed_3 7 rfl rfl)
abbrev cX1_bytes : ByteArray := prog_1_method_4_code
def yX1_bytes : MethodName := ⟨RX1, "bytes", "(I)I"⟩
def dkwX1_bytes_1 : List UInt8 := [3, 96, 60, 132, 2, 248, 167, 255, 231, 27, 172]
abbrev dktX1_bytes_1 : List UInt8 := dkwX1_bytes_1 ++ []
def dkwX1_bytes_0 : List UInt8 := [3, 60, 16, 24, 61, 28, 155, 0, 27, 27, 26, 28, 122, 17, 0, 255, 126, 153, 0, 7, 4, 167, 0, 4]
abbrev dktX1_bytes_0 : List UInt8 := dkwX1_bytes_0 ++ dktX1_bytes_1
theorem dksX1_bytes_0 : cX1_bytes.data.toList.drop 0 = dktX1_bytes_0 := by decide +kernel
theorem dksX1_bytes_1 : cX1_bytes.data.toList.drop 24 = dktX1_bytes_1 := dk_seg dksX1_bytes_0 24 rfl rfl
theorem dX1_bytes_0 : decode cX1_bytes 0 = .ok (.iconst 0, 1) := dk_3 (dk_at dksX1_bytes_0 0 rfl rfl)
theorem dX1_bytes_1 : decode cX1_bytes 1 = .ok (.istore_n 1, 1) := dk_60 (dk_at dksX1_bytes_0 1 rfl rfl)
theorem dX1_bytes_2 : decode cX1_bytes 2 = .ok (.bipush 24, 2) := dk_16 24 (dk_at dksX1_bytes_0 2 rfl rfl)
theorem dX1_bytes_4 : decode cX1_bytes 4 = .ok (.istore_n 2, 1) := dk_61 (dk_at dksX1_bytes_0 4 rfl rfl)
theorem dX1_bytes_5 : decode cX1_bytes 5 = .ok (.iload_n 2, 1) := dk_28 (dk_at dksX1_bytes_0 5 rfl rfl)
theorem dX1_bytes_6 : decode cX1_bytes 6 = .ok (.ifCond .lt 27, 3) := dk_155 0 27 (dk_at dksX1_bytes_0 6 rfl rfl)
theorem dX1_bytes_9 : decode cX1_bytes 9 = .ok (.iload_n 1, 1) := dk_27 (dk_at dksX1_bytes_0 9 rfl rfl)
theorem dX1_bytes_10 : decode cX1_bytes 10 = .ok (.iload_n 0, 1) := dk_26 (dk_at dksX1_bytes_0 10 rfl rfl)
theorem dX1_bytes_11 : decode cX1_bytes 11 = .ok (.iload_n 2, 1) := dk_28 (dk_at dksX1_bytes_0 11 rfl rfl)
theorem dX1_bytes_12 : decode cX1_bytes 12 = .ok (.ishr, 1) := dk_122 (dk_at dksX1_bytes_0 12 rfl rfl)
theorem dX1_bytes_13 : decode cX1_bytes 13 = .ok (.sipush 255, 3) := dk_17 0 255 (dk_at dksX1_bytes_0 13 rfl rfl)
theorem dX1_bytes_16 : decode cX1_bytes 16 = .ok (.iand, 1) := dk_126 (dk_at dksX1_bytes_0 16 rfl rfl)
theorem dX1_bytes_17 : decode cX1_bytes 17 = .ok (.ifCond .eq 7, 3) := dk_153 0 7 (dk_at dksX1_bytes_0 17 rfl rfl)
theorem dX1_bytes_20 : decode cX1_bytes 20 = .ok (.iconst 1, 1) := dk_4 (dk_at dksX1_bytes_0 20 rfl rfl)
theorem dX1_bytes_21 : decode cX1_bytes 21 = .ok (.goto 4, 3) := dk_167 0 4 (dk_at dksX1_bytes_0 21 rfl rfl)
theorem dX1_bytes_24 : decode cX1_bytes 24 = .ok (.iconst 0, 1) := dk_3 (dk_at dksX1_bytes_1 0 rfl rfl)
theorem dX1_bytes_25 : decode cX1_bytes 25 = .ok (.iadd, 1) := dk_96 (dk_at dksX1_bytes_1 1 rfl rfl)
theorem dX1_bytes_26 : decode cX1_bytes 26 = .ok (.istore_n 1, 1) := dk_60 (dk_at dksX1_bytes_1 2 rfl rfl)
theorem dX1_bytes_27 : decode cX1_bytes 27 = .ok (.iinc 2 (-8), 3) := dk_132 2 248 (dk_at dksX1_bytes_1 3 rfl rfl)
theorem dX1_bytes_30 : decode cX1_bytes 30 = .ok (.goto (-25), 3) := dk_167 255 231 (dk_at dksX1_bytes_1 6 rfl rfl)
theorem dX1_bytes_33 : decode cX1_bytes 33 = .ok (.iload_n 1, 1) := dk_27 (dk_at dksX1_bytes_1 9 rfl rfl)
theorem dX1_bytes_34 : decode cX1_bytes 34 = .ok (.ireturn, 1) := dk_172 (dk_at dksX1_bytes_1 10 rfl rfl)
abbrev cX1_bring : ByteArray := prog_1_method_5_code
def yX1_bring : MethodName := ⟨RX1, "bring", "(I)V"⟩
def dkwX1_bring_2 : List UInt8 := [167, 255, 213, 177]
abbrev dktX1_bring_2 : List UInt8 := dkwX1_bring_2 ++ []
def dkwX1_bring_1 : List UInt8 := [42, 180, 0, 7, 27, 28, 122, 145, 84, 42, 89, 180, 0, 7, 4, 96, 181, 0, 7, 132, 2, 248]
abbrev dktX1_bring_1 : List UInt8 := dkwX1_bring_1 ++ dktX1_bring_2
def dkwX1_bring_0 : List UInt8 := [16, 24, 61, 28, 155, 0, 45, 27, 28, 122, 17, 0, 255, 126, 154, 0, 6, 167, 0, 26, 42, 180, 0, 15]
abbrev dktX1_bring_0 : List UInt8 := dkwX1_bring_0 ++ dktX1_bring_1
theorem dksX1_bring_0 : cX1_bring.data.toList.drop 0 = dktX1_bring_0 := by decide +kernel
theorem dksX1_bring_1 : cX1_bring.data.toList.drop 24 = dktX1_bring_1 := dk_seg dksX1_bring_0 24 rfl rfl
theorem dksX1_bring_2 : cX1_bring.data.toList.drop 46 = dktX1_bring_2 := dk_seg dksX1_bring_1 22 rfl rfl
theorem dX1_bring_0 : decode cX1_bring 0 = .ok (.bipush 24, 2) := dk_16 24 (dk_at dksX1_bring_0 0 rfl rfl)
theorem dX1_bring_2 : decode cX1_bring 2 = .ok (.istore_n 2, 1) := dk_61 (dk_at dksX1_bring_0 2 rfl rfl)
theorem dX1_bring_3 : decode cX1_bring 3 = .ok (.iload_n 2, 1) := dk_28 (dk_at dksX1_bring_0 3 rfl rfl)
theorem dX1_bring_4 : decode cX1_bring 4 = .ok (.ifCond .lt 45, 3) := dk_155 0 45 (dk_at dksX1_bring_0 4 rfl rfl)
theorem dX1_bring_7 : decode cX1_bring 7 = .ok (.iload_n 1, 1) := dk_27 (dk_at dksX1_bring_0 7 rfl rfl)
theorem dX1_bring_8 : decode cX1_bring 8 = .ok (.iload_n 2, 1) := dk_28 (dk_at dksX1_bring_0 8 rfl rfl)
theorem dX1_bring_9 : decode cX1_bring 9 = .ok (.ishr, 1) := dk_122 (dk_at dksX1_bring_0 9 rfl rfl)
theorem dX1_bring_10 : decode cX1_bring 10 = .ok (.sipush 255, 3) := dk_17 0 255 (dk_at dksX1_bring_0 10 rfl rfl)
theorem dX1_bring_13 : decode cX1_bring 13 = .ok (.iand, 1) := dk_126 (dk_at dksX1_bring_0 13 rfl rfl)
theorem dX1_bring_14 : decode cX1_bring 14 = .ok (.ifCond .ne 6, 3) := dk_154 0 6 (dk_at dksX1_bring_0 14 rfl rfl)
theorem dX1_bring_17 : decode cX1_bring 17 = .ok (.goto 26, 3) := dk_167 0 26 (dk_at dksX1_bring_0 17 rfl rfl)
theorem dX1_bring_20 : decode cX1_bring 20 = .ok (.aload_n 0, 1) := dk_42 (dk_at dksX1_bring_0 20 rfl rfl)
theorem dX1_bring_21 : decode cX1_bring 21 = .ok (.getfield 15, 3) := dk_180 0 15 (dk_at dksX1_bring_0 21 rfl rfl)
theorem dX1_bring_24 : decode cX1_bring 24 = .ok (.aload_n 0, 1) := dk_42 (dk_at dksX1_bring_1 0 rfl rfl)
theorem dX1_bring_25 : decode cX1_bring 25 = .ok (.getfield 7, 3) := dk_180 0 7 (dk_at dksX1_bring_1 1 rfl rfl)
theorem dX1_bring_28 : decode cX1_bring 28 = .ok (.iload_n 1, 1) := dk_27 (dk_at dksX1_bring_1 4 rfl rfl)
theorem dX1_bring_29 : decode cX1_bring 29 = .ok (.iload_n 2, 1) := dk_28 (dk_at dksX1_bring_1 5 rfl rfl)
theorem dX1_bring_30 : decode cX1_bring 30 = .ok (.ishr, 1) := dk_122 (dk_at dksX1_bring_1 6 rfl rfl)
theorem dX1_bring_31 : decode cX1_bring 31 = .ok (.i2b, 1) := dk_145 (dk_at dksX1_bring_1 7 rfl rfl)
theorem dX1_bring_32 : decode cX1_bring 32 = .ok (.bastore, 1) := dk_84 (dk_at dksX1_bring_1 8 rfl rfl)
theorem dX1_bring_33 : decode cX1_bring 33 = .ok (.aload_n 0, 1) := dk_42 (dk_at dksX1_bring_1 9 rfl rfl)
theorem dX1_bring_34 : decode cX1_bring 34 = .ok (.dup, 1) := dk_89 (dk_at dksX1_bring_1 10 rfl rfl)
theorem dX1_bring_35 : decode cX1_bring 35 = .ok (.getfield 7, 3) := dk_180 0 7 (dk_at dksX1_bring_1 11 rfl rfl)
theorem dX1_bring_38 : decode cX1_bring 38 = .ok (.iconst 1, 1) := dk_4 (dk_at dksX1_bring_1 14 rfl rfl)
theorem dX1_bring_39 : decode cX1_bring 39 = .ok (.iadd, 1) := dk_96 (dk_at dksX1_bring_1 15 rfl rfl)
theorem dX1_bring_40 : decode cX1_bring 40 = .ok (.putfield 7, 3) := dk_181 0 7 (dk_at dksX1_bring_1 16 rfl rfl)
theorem dX1_bring_43 : decode cX1_bring 43 = .ok (.iinc 2 (-8), 3) := dk_132 2 248 (dk_at dksX1_bring_1 19 rfl rfl)
theorem dX1_bring_46 : decode cX1_bring 46 = .ok (.goto (-43), 3) := dk_167 255 213 (dk_at dksX1_bring_2 0 rfl rfl)
theorem dX1_bring_49 : decode cX1_bring 49 = .ok (.return_, 1) := dk_177 (dk_at dksX1_bring_2 3 rfl rfl)
abbrev cX1_end : ByteArray := prog_1_method_6_code
def yX1_end : MethodName := ⟨RX1, "end", "(I)Z"⟩
def dkwX1_end_0 : List UInt8 := [27, 155, 0, 11, 27, 42, 180, 0, 7, 164, 0, 5, 3, 172, 42, 27, 181, 0, 7, 4, 172]
abbrev dktX1_end_0 : List UInt8 := dkwX1_end_0 ++ []
theorem dksX1_end_0 : cX1_end.data.toList.drop 0 = dktX1_end_0 := by decide +kernel
theorem dX1_end_0 : decode cX1_end 0 = .ok (.iload_n 1, 1) := dk_27 (dk_at dksX1_end_0 0 rfl rfl)
theorem dX1_end_1 : decode cX1_end 1 = .ok (.ifCond .lt 11, 3) := dk_155 0 11 (dk_at dksX1_end_0 1 rfl rfl)
theorem dX1_end_4 : decode cX1_end 4 = .ok (.iload_n 1, 1) := dk_27 (dk_at dksX1_end_0 4 rfl rfl)
theorem dX1_end_5 : decode cX1_end 5 = .ok (.aload_n 0, 1) := dk_42 (dk_at dksX1_end_0 5 rfl rfl)
theorem dX1_end_6 : decode cX1_end 6 = .ok (.getfield 7, 3) := dk_180 0 7 (dk_at dksX1_end_0 6 rfl rfl)
theorem dX1_end_9 : decode cX1_end 9 = .ok (.if_icmp .le 5, 3) := dk_164 0 5 (dk_at dksX1_end_0 9 rfl rfl)
theorem dX1_end_12 : decode cX1_end 12 = .ok (.iconst 0, 1) := dk_3 (dk_at dksX1_end_0 12 rfl rfl)
theorem dX1_end_13 : decode cX1_end 13 = .ok (.ireturn, 1) := dk_172 (dk_at dksX1_end_0 13 rfl rfl)
theorem dX1_end_14 : decode cX1_end 14 = .ok (.aload_n 0, 1) := dk_42 (dk_at dksX1_end_0 14 rfl rfl)
theorem dX1_end_15 : decode cX1_end 15 = .ok (.iload_n 1, 1) := dk_27 (dk_at dksX1_end_0 15 rfl rfl)
theorem dX1_end_16 : decode cX1_end 16 = .ok (.putfield 7, 3) := dk_181 0 7 (dk_at dksX1_end_0 16 rfl rfl)
theorem dX1_end_19 : decode cX1_end 19 = .ok (.iconst 1, 1) := dk_4 (dk_at dksX1_end_0 19 rfl rfl)
theorem dX1_end_20 : decode cX1_end 20 = .ok (.ireturn, 1) := dk_172 (dk_at dksX1_end_0 20 rfl rfl)
abbrev cX1_init : ByteArray := prog_1_method_7_code
def yX1_init : MethodName := ⟨RX1, "<init>", "()V"⟩
def dkwX1_init_7 : List UInt8 := [177]
abbrev dktX1_init_7 : List UInt8 := dkwX1_init_7 ++ []
def dkwX1_init_6 : List UInt8 := [181, 0, 84, 42, 16, 16, 188, 10, 181, 0, 87, 42, 16, 16, 188, 10, 181, 0, 90, 42, 1, 181, 0, 93]
abbrev dktX1_init_6 : List UInt8 := dkwX1_init_6 ++ dktX1_init_7
def dkwX1_init_5 : List UInt8 := [189, 0, 54, 181, 0, 73, 42, 187, 0, 77, 89, 183, 0, 79, 181, 0, 80, 42, 16, 6, 188, 10]
abbrev dktX1_init_5 : List UInt8 := dkwX1_init_5 ++ dktX1_init_6
def dkwX1_init_4 : List UInt8 := [42, 183, 0, 56, 181, 0, 63, 42, 187, 0, 66, 89, 42, 183, 0, 68, 181, 0, 69, 42, 16, 40]
abbrev dktX1_init_4 : List UInt8 := dkwX1_init_4 ++ dktX1_init_5
def dkwX1_init_3 : List UInt8 := [197, 0, 49, 2, 181, 0, 51, 42, 187, 0, 54, 89, 42, 183, 0, 56, 181, 0, 59, 42, 187, 0, 54, 89]
abbrev dktX1_init_3 : List UInt8 := dkwX1_init_3 ++ dktX1_init_4
def dkwX1_init_2 : List UInt8 := [188, 10, 181, 0, 41, 42, 16, 17, 16, 17, 197, 0, 44, 2, 181, 0, 46, 42, 16, 17, 16, 17]
abbrev dktX1_init_2 : List UInt8 := dkwX1_init_2 ++ dktX1_init_3
def dkwX1_init_1 : List UInt8 := [188, 10, 181, 0, 31, 42, 16, 16, 188, 10, 181, 0, 35, 42, 16, 17, 188, 10, 181, 0, 38, 42, 16, 17]
abbrev dktX1_init_1 : List UInt8 := dkwX1_init_1 ++ dktX1_init_2
def dkwX1_init_0 : List UInt8 := [42, 183, 0, 19, 42, 17, 0, 240, 188, 8, 181, 0, 15, 42, 7, 189, 0, 25, 181, 0, 27, 42, 8]
abbrev dktX1_init_0 : List UInt8 := dkwX1_init_0 ++ dktX1_init_1
theorem dksX1_init_0 : cX1_init.data.toList.drop 0 = dktX1_init_0 := by decide +kernel
theorem dksX1_init_1 : cX1_init.data.toList.drop 23 = dktX1_init_1 := dk_seg dksX1_init_0 23 rfl rfl
theorem dksX1_init_2 : cX1_init.data.toList.drop 47 = dktX1_init_2 := dk_seg dksX1_init_1 24 rfl rfl
theorem dksX1_init_3 : cX1_init.data.toList.drop 69 = dktX1_init_3 := dk_seg dksX1_init_2 22 rfl rfl
theorem dksX1_init_4 : cX1_init.data.toList.drop 93 = dktX1_init_4 := dk_seg dksX1_init_3 24 rfl rfl
theorem dksX1_init_5 : cX1_init.data.toList.drop 115 = dktX1_init_5 := dk_seg dksX1_init_4 22 rfl rfl
theorem dksX1_init_6 : cX1_init.data.toList.drop 137 = dktX1_init_6 := dk_seg dksX1_init_5 22 rfl rfl
theorem dksX1_init_7 : cX1_init.data.toList.drop 161 = dktX1_init_7 := dk_seg dksX1_init_6 24 rfl rfl
theorem dX1_init_0 : decode cX1_init 0 = .ok (.aload_n 0, 1) := dk_42 (dk_at dksX1_init_0 0 rfl rfl)
theorem dX1_init_1 : decode cX1_init 1 = .ok (.invokespecial 19, 3) := dk_183 0 19 (dk_at dksX1_init_0 1 rfl rfl)
theorem dX1_init_4 : decode cX1_init 4 = .ok (.aload_n 0, 1) := dk_42 (dk_at dksX1_init_0 4 rfl rfl)
theorem dX1_init_5 : decode cX1_init 5 = .ok (.sipush 240, 3) := dk_17 0 240 (dk_at dksX1_init_0 5 rfl rfl)
theorem dX1_init_8 : decode cX1_init 8 = .ok (.newarray .byte, 2) := dk_188_8 (dk_at dksX1_init_0 8 rfl rfl)
theorem dX1_init_10 : decode cX1_init 10 = .ok (.putfield 15, 3) := dk_181 0 15 (dk_at dksX1_init_0 10 rfl rfl)
theorem dX1_init_13 : decode cX1_init 13 = .ok (.aload_n 0, 1) := dk_42 (dk_at dksX1_init_0 13 rfl rfl)
theorem dX1_init_14 : decode cX1_init 14 = .ok (.iconst 4, 1) := dk_7 (dk_at dksX1_init_0 14 rfl rfl)
theorem dX1_init_15 : decode cX1_init 15 = .ok (.anewarray 25, 3) := dk_189 0 25 (dk_at dksX1_init_0 15 rfl rfl)
theorem dX1_init_18 : decode cX1_init 18 = .ok (.putfield 27, 3) := dk_181 0 27 (dk_at dksX1_init_0 18 rfl rfl)
theorem dX1_init_21 : decode cX1_init 21 = .ok (.aload_n 0, 1) := dk_42 (dk_at dksX1_init_0 21 rfl rfl)
theorem dX1_init_22 : decode cX1_init 22 = .ok (.iconst 5, 1) := dk_8 (dk_at dksX1_init_0 22 rfl rfl)
theorem dX1_init_23 : decode cX1_init 23 = .ok (.newarray .int, 2) := dk_188_10 (dk_at dksX1_init_1 0 rfl rfl)
theorem dX1_init_25 : decode cX1_init 25 = .ok (.putfield 31, 3) := dk_181 0 31 (dk_at dksX1_init_1 2 rfl rfl)
theorem dX1_init_28 : decode cX1_init 28 = .ok (.aload_n 0, 1) := dk_42 (dk_at dksX1_init_1 5 rfl rfl)
theorem dX1_init_29 : decode cX1_init 29 = .ok (.bipush 16, 2) := dk_16 16 (dk_at dksX1_init_1 6 rfl rfl)
theorem dX1_init_31 : decode cX1_init 31 = .ok (.newarray .int, 2) := dk_188_10 (dk_at dksX1_init_1 8 rfl rfl)
theorem dX1_init_33 : decode cX1_init 33 = .ok (.putfield 35, 3) := dk_181 0 35 (dk_at dksX1_init_1 10 rfl rfl)
theorem dX1_init_36 : decode cX1_init 36 = .ok (.aload_n 0, 1) := dk_42 (dk_at dksX1_init_1 13 rfl rfl)
theorem dX1_init_37 : decode cX1_init 37 = .ok (.bipush 17, 2) := dk_16 17 (dk_at dksX1_init_1 14 rfl rfl)
theorem dX1_init_39 : decode cX1_init 39 = .ok (.newarray .int, 2) := dk_188_10 (dk_at dksX1_init_1 16 rfl rfl)
theorem dX1_init_41 : decode cX1_init 41 = .ok (.putfield 38, 3) := dk_181 0 38 (dk_at dksX1_init_1 18 rfl rfl)
theorem dX1_init_44 : decode cX1_init 44 = .ok (.aload_n 0, 1) := dk_42 (dk_at dksX1_init_1 21 rfl rfl)
theorem dX1_init_45 : decode cX1_init 45 = .ok (.bipush 17, 2) := dk_16 17 (dk_at dksX1_init_1 22 rfl rfl)
theorem dX1_init_47 : decode cX1_init 47 = .ok (.newarray .int, 2) := dk_188_10 (dk_at dksX1_init_2 0 rfl rfl)
theorem dX1_init_49 : decode cX1_init 49 = .ok (.putfield 41, 3) := dk_181 0 41 (dk_at dksX1_init_2 2 rfl rfl)
theorem dX1_init_52 : decode cX1_init 52 = .ok (.aload_n 0, 1) := dk_42 (dk_at dksX1_init_2 5 rfl rfl)
theorem dX1_init_53 : decode cX1_init 53 = .ok (.bipush 17, 2) := dk_16 17 (dk_at dksX1_init_2 6 rfl rfl)
theorem dX1_init_55 : decode cX1_init 55 = .ok (.bipush 17, 2) := dk_16 17 (dk_at dksX1_init_2 8 rfl rfl)
theorem dX1_init_57 : decode cX1_init 57 = .ok (.multianewarray 44 2, 4) := by decide +kernel
theorem dX1_init_61 : decode cX1_init 61 = .ok (.putfield 46, 3) := dk_181 0 46 (dk_at dksX1_init_2 14 rfl rfl)
theorem dX1_init_64 : decode cX1_init 64 = .ok (.aload_n 0, 1) := dk_42 (dk_at dksX1_init_2 17 rfl rfl)
theorem dX1_init_65 : decode cX1_init 65 = .ok (.bipush 17, 2) := dk_16 17 (dk_at dksX1_init_2 18 rfl rfl)
theorem dX1_init_67 : decode cX1_init 67 = .ok (.bipush 17, 2) := dk_16 17 (dk_at dksX1_init_2 20 rfl rfl)
theorem dX1_init_69 : decode cX1_init 69 = .ok (.multianewarray 49 2, 4) := by decide +kernel
theorem dX1_init_73 : decode cX1_init 73 = .ok (.putfield 51, 3) := dk_181 0 51 (dk_at dksX1_init_3 4 rfl rfl)
theorem dX1_init_76 : decode cX1_init 76 = .ok (.aload_n 0, 1) := dk_42 (dk_at dksX1_init_3 7 rfl rfl)
theorem dX1_init_77 : decode cX1_init 77 = .ok (.new 54, 3) := dk_187 0 54 (dk_at dksX1_init_3 8 rfl rfl)
theorem dX1_init_80 : decode cX1_init 80 = .ok (.dup, 1) := dk_89 (dk_at dksX1_init_3 11 rfl rfl)
theorem dX1_init_81 : decode cX1_init 81 = .ok (.aload_n 0, 1) := dk_42 (dk_at dksX1_init_3 12 rfl rfl)
theorem dX1_init_82 : decode cX1_init 82 = .ok (.invokespecial 56, 3) := dk_183 0 56 (dk_at dksX1_init_3 13 rfl rfl)
theorem dX1_init_85 : decode cX1_init 85 = .ok (.putfield 59, 3) := dk_181 0 59 (dk_at dksX1_init_3 16 rfl rfl)
theorem dX1_init_88 : decode cX1_init 88 = .ok (.aload_n 0, 1) := dk_42 (dk_at dksX1_init_3 19 rfl rfl)
theorem dX1_init_89 : decode cX1_init 89 = .ok (.new 54, 3) := dk_187 0 54 (dk_at dksX1_init_3 20 rfl rfl)
theorem dX1_init_92 : decode cX1_init 92 = .ok (.dup, 1) := dk_89 (dk_at dksX1_init_3 23 rfl rfl)
theorem dX1_init_93 : decode cX1_init 93 = .ok (.aload_n 0, 1) := dk_42 (dk_at dksX1_init_4 0 rfl rfl)
theorem dX1_init_94 : decode cX1_init 94 = .ok (.invokespecial 56, 3) := dk_183 0 56 (dk_at dksX1_init_4 1 rfl rfl)
theorem dX1_init_97 : decode cX1_init 97 = .ok (.putfield 63, 3) := dk_181 0 63 (dk_at dksX1_init_4 4 rfl rfl)
theorem dX1_init_100 : decode cX1_init 100 = .ok (.aload_n 0, 1) := dk_42 (dk_at dksX1_init_4 7 rfl rfl)
theorem dX1_init_101 : decode cX1_init 101 = .ok (.new 66, 3) := dk_187 0 66 (dk_at dksX1_init_4 8 rfl rfl)
theorem dX1_init_104 : decode cX1_init 104 = .ok (.dup, 1) := dk_89 (dk_at dksX1_init_4 11 rfl rfl)
theorem dX1_init_105 : decode cX1_init 105 = .ok (.aload_n 0, 1) := dk_42 (dk_at dksX1_init_4 12 rfl rfl)
theorem dX1_init_106 : decode cX1_init 106 = .ok (.invokespecial 68, 3) := dk_183 0 68 (dk_at dksX1_init_4 13 rfl rfl)
theorem dX1_init_109 : decode cX1_init 109 = .ok (.putfield 69, 3) := dk_181 0 69 (dk_at dksX1_init_4 16 rfl rfl)
theorem dX1_init_112 : decode cX1_init 112 = .ok (.aload_n 0, 1) := dk_42 (dk_at dksX1_init_4 19 rfl rfl)
theorem dX1_init_113 : decode cX1_init 113 = .ok (.bipush 40, 2) := dk_16 40 (dk_at dksX1_init_4 20 rfl rfl)
theorem dX1_init_115 : decode cX1_init 115 = .ok (.anewarray 54, 3) := dk_189 0 54 (dk_at dksX1_init_5 0 rfl rfl)
theorem dX1_init_118 : decode cX1_init 118 = .ok (.putfield 73, 3) := dk_181 0 73 (dk_at dksX1_init_5 3 rfl rfl)
theorem dX1_init_121 : decode cX1_init 121 = .ok (.aload_n 0, 1) := dk_42 (dk_at dksX1_init_5 6 rfl rfl)
theorem dX1_init_122 : decode cX1_init 122 = .ok (.new 77, 3) := dk_187 0 77 (dk_at dksX1_init_5 7 rfl rfl)
theorem dX1_init_125 : decode cX1_init 125 = .ok (.dup, 1) := dk_89 (dk_at dksX1_init_5 10 rfl rfl)
theorem dX1_init_126 : decode cX1_init 126 = .ok (.invokespecial 79, 3) := dk_183 0 79 (dk_at dksX1_init_5 11 rfl rfl)
theorem dX1_init_129 : decode cX1_init 129 = .ok (.putfield 80, 3) := dk_181 0 80 (dk_at dksX1_init_5 14 rfl rfl)
theorem dX1_init_132 : decode cX1_init 132 = .ok (.aload_n 0, 1) := dk_42 (dk_at dksX1_init_5 17 rfl rfl)
theorem dX1_init_133 : decode cX1_init 133 = .ok (.bipush 6, 2) := dk_16 6 (dk_at dksX1_init_5 18 rfl rfl)
theorem dX1_init_135 : decode cX1_init 135 = .ok (.newarray .int, 2) := dk_188_10 (dk_at dksX1_init_5 20 rfl rfl)
theorem dX1_init_137 : decode cX1_init 137 = .ok (.putfield 84, 3) := dk_181 0 84 (dk_at dksX1_init_6 0 rfl rfl)
theorem dX1_init_140 : decode cX1_init 140 = .ok (.aload_n 0, 1) := dk_42 (dk_at dksX1_init_6 3 rfl rfl)
theorem dX1_init_141 : decode cX1_init 141 = .ok (.bipush 16, 2) := dk_16 16 (dk_at dksX1_init_6 4 rfl rfl)
theorem dX1_init_143 : decode cX1_init 143 = .ok (.newarray .int, 2) := dk_188_10 (dk_at dksX1_init_6 6 rfl rfl)
theorem dX1_init_145 : decode cX1_init 145 = .ok (.putfield 87, 3) := dk_181 0 87 (dk_at dksX1_init_6 8 rfl rfl)
theorem dX1_init_148 : decode cX1_init 148 = .ok (.aload_n 0, 1) := dk_42 (dk_at dksX1_init_6 11 rfl rfl)
theorem dX1_init_149 : decode cX1_init 149 = .ok (.bipush 16, 2) := dk_16 16 (dk_at dksX1_init_6 12 rfl rfl)
theorem dX1_init_151 : decode cX1_init 151 = .ok (.newarray .int, 2) := dk_188_10 (dk_at dksX1_init_6 14 rfl rfl)
theorem dX1_init_153 : decode cX1_init 153 = .ok (.putfield 90, 3) := dk_181 0 90 (dk_at dksX1_init_6 16 rfl rfl)
theorem dX1_init_156 : decode cX1_init 156 = .ok (.aload_n 0, 1) := dk_42 (dk_at dksX1_init_6 19 rfl rfl)
theorem dX1_init_157 : decode cX1_init 157 = .ok (.aconst_null, 1) := dk_1 (dk_at dksX1_init_6 20 rfl rfl)
theorem dX1_init_158 : decode cX1_init 158 = .ok (.putfield 93, 3) := dk_181 0 93 (dk_at dksX1_init_6 21 rfl rfl)
theorem dX1_init_161 : decode cX1_init 161 = .ok (.return_, 1) := dk_177 (dk_at dksX1_init_7 0 rfl rfl)
abbrev cX1_fault : ByteArray := prog_1_method_8_code
def yX1_fault : MethodName := ⟨RX1, "fault", "(I)I"⟩
def dkwX1_fault_2 : List UInt8 := [77, 44, 180, 0, 120, 172]
abbrev dktX1_fault_2 : List UInt8 := dkwX1_fault_2 ++ []
def dkwX1_fault_1 : List UInt8 := [154, 0, 14, 42, 44, 182, 0, 104, 181, 0, 107, 167, 0, 11, 42, 44, 182, 0, 110, 181, 0, 114, 2, 172]
abbrev dktX1_fault_1 : List UInt8 := dkwX1_fault_1 ++ dktX1_fault_2
def dkwX1_fault_0 : List UInt8 := [27, 133, 9, 10, 184, 0, 97, 154, 0, 6, 16, 254, 172, 187, 0, 101, 89, 42, 183, 0, 103, 77, 27]
abbrev dktX1_fault_0 : List UInt8 := dkwX1_fault_0 ++ dktX1_fault_1
theorem dksX1_fault_0 : cX1_fault.data.toList.drop 0 = dktX1_fault_0 := by decide +kernel
theorem dksX1_fault_1 : cX1_fault.data.toList.drop 23 = dktX1_fault_1 := dk_seg dksX1_fault_0 23 rfl rfl
theorem dksX1_fault_2 : cX1_fault.data.toList.drop 47 = dktX1_fault_2 := dk_seg dksX1_fault_1 24 rfl rfl
theorem dX1_fault_0 : decode cX1_fault 0 = .ok (.iload_n 1, 1) := dk_27 (dk_at dksX1_fault_0 0 rfl rfl)
theorem dX1_fault_1 : decode cX1_fault 1 = .ok (.i2l, 1) := dk_133 (dk_at dksX1_fault_0 1 rfl rfl)
theorem dX1_fault_2 : decode cX1_fault 2 = .ok (.lconst 0, 1) := dk_9 (dk_at dksX1_fault_0 2 rfl rfl)
theorem dX1_fault_3 : decode cX1_fault 3 = .ok (.lconst 1, 1) := dk_10 (dk_at dksX1_fault_0 3 rfl rfl)
theorem dX1_fault_4 : decode cX1_fault 4 = .ok (.invokestatic 97, 3) := dk_184 0 97 (dk_at dksX1_fault_0 4 rfl rfl)
theorem dX1_fault_7 : decode cX1_fault 7 = .ok (.ifCond .ne 6, 3) := dk_154 0 6 (dk_at dksX1_fault_0 7 rfl rfl)
theorem dX1_fault_10 : decode cX1_fault 10 = .ok (.bipush (-2), 2) := dk_16 254 (dk_at dksX1_fault_0 10 rfl rfl)
theorem dX1_fault_12 : decode cX1_fault 12 = .ok (.ireturn, 1) := dk_172 (dk_at dksX1_fault_0 12 rfl rfl)
theorem dX1_fault_13 : decode cX1_fault 13 = .ok (.new 101, 3) := dk_187 0 101 (dk_at dksX1_fault_0 13 rfl rfl)
theorem dX1_fault_16 : decode cX1_fault 16 = .ok (.dup, 1) := dk_89 (dk_at dksX1_fault_0 16 rfl rfl)
theorem dX1_fault_17 : decode cX1_fault 17 = .ok (.aload_n 0, 1) := dk_42 (dk_at dksX1_fault_0 17 rfl rfl)
theorem dX1_fault_18 : decode cX1_fault 18 = .ok (.invokespecial 103, 3) := dk_183 0 103 (dk_at dksX1_fault_0 18 rfl rfl)
theorem dX1_fault_21 : decode cX1_fault 21 = .ok (.astore_n 2, 1) := dk_77 (dk_at dksX1_fault_0 21 rfl rfl)
theorem dX1_fault_22 : decode cX1_fault 22 = .ok (.iload_n 1, 1) := dk_27 (dk_at dksX1_fault_0 22 rfl rfl)
theorem dX1_fault_23 : decode cX1_fault 23 = .ok (.ifCond .ne 14, 3) := dk_154 0 14 (dk_at dksX1_fault_1 0 rfl rfl)
theorem dX1_fault_26 : decode cX1_fault 26 = .ok (.aload_n 0, 1) := dk_42 (dk_at dksX1_fault_1 3 rfl rfl)
theorem dX1_fault_27 : decode cX1_fault 27 = .ok (.aload_n 2, 1) := dk_44 (dk_at dksX1_fault_1 4 rfl rfl)
theorem dX1_fault_28 : decode cX1_fault 28 = .ok (.invokevirtual 104, 3) := dk_182 0 104 (dk_at dksX1_fault_1 5 rfl rfl)
theorem dX1_fault_31 : decode cX1_fault 31 = .ok (.putfield 107, 3) := dk_181 0 107 (dk_at dksX1_fault_1 8 rfl rfl)
theorem dX1_fault_34 : decode cX1_fault 34 = .ok (.goto 11, 3) := dk_167 0 11 (dk_at dksX1_fault_1 11 rfl rfl)
theorem dX1_fault_37 : decode cX1_fault 37 = .ok (.aload_n 0, 1) := dk_42 (dk_at dksX1_fault_1 14 rfl rfl)
theorem dX1_fault_38 : decode cX1_fault 38 = .ok (.aload_n 2, 1) := dk_44 (dk_at dksX1_fault_1 15 rfl rfl)
theorem dX1_fault_39 : decode cX1_fault 39 = .ok (.invokevirtual 110, 3) := dk_182 0 110 (dk_at dksX1_fault_1 16 rfl rfl)
theorem dX1_fault_42 : decode cX1_fault 42 = .ok (.putfield 114, 3) := dk_181 0 114 (dk_at dksX1_fault_1 19 rfl rfl)
theorem dX1_fault_45 : decode cX1_fault 45 = .ok (.iconst (-1), 1) := dk_2 (dk_at dksX1_fault_1 22 rfl rfl)
theorem dX1_fault_46 : decode cX1_fault 46 = .ok (.ireturn, 1) := dk_172 (dk_at dksX1_fault_1 23 rfl rfl)
theorem dX1_fault_47 : decode cX1_fault 47 = .ok (.astore_n 2, 1) := dk_77 (dk_at dksX1_fault_2 0 rfl rfl)
theorem dX1_fault_48 : decode cX1_fault 48 = .ok (.aload_n 2, 1) := dk_44 (dk_at dksX1_fault_2 1 rfl rfl)
theorem dX1_fault_49 : decode cX1_fault 49 = .ok (.getfield 120, 3) := dk_180 0 120 (dk_at dksX1_fault_2 2 rfl rfl)
theorem dX1_fault_52 : decode cX1_fault 52 = .ok (.ireturn, 1) := dk_172 (dk_at dksX1_fault_2 5 rfl rfl)
abbrev cX1_isIn : ByteArray := prog_1_method_1_code
def yX1_isIn : MethodName := ⟨RX1, "isIn", "(JJJ)Z"⟩
def dkwX1_isIn_0 : List UInt8 := [30, 32, 148, 155, 0, 14, 30, 22, 4, 148, 157, 0, 7, 4, 167, 0, 4, 3, 172]
abbrev dktX1_isIn_0 : List UInt8 := dkwX1_isIn_0 ++ []
theorem dksX1_isIn_0 : cX1_isIn.data.toList.drop 0 = dktX1_isIn_0 := by decide +kernel
theorem dX1_isIn_0 : decode cX1_isIn 0 = .ok (.lload_n 0, 1) := dk_30 (dk_at dksX1_isIn_0 0 rfl rfl)
theorem dX1_isIn_1 : decode cX1_isIn 1 = .ok (.lload_n 2, 1) := dk_32 (dk_at dksX1_isIn_0 1 rfl rfl)
theorem dX1_isIn_2 : decode cX1_isIn 2 = .ok (.lcmp, 1) := dk_148 (dk_at dksX1_isIn_0 2 rfl rfl)
theorem dX1_isIn_3 : decode cX1_isIn 3 = .ok (.ifCond .lt 14, 3) := dk_155 0 14 (dk_at dksX1_isIn_0 3 rfl rfl)
theorem dX1_isIn_6 : decode cX1_isIn 6 = .ok (.lload_n 0, 1) := dk_30 (dk_at dksX1_isIn_0 6 rfl rfl)
theorem dX1_isIn_7 : decode cX1_isIn 7 = .ok (.lload 4, 2) := dk_22 4 (dk_at dksX1_isIn_0 7 rfl rfl)
theorem dX1_isIn_9 : decode cX1_isIn 9 = .ok (.lcmp, 1) := dk_148 (dk_at dksX1_isIn_0 9 rfl rfl)
theorem dX1_isIn_10 : decode cX1_isIn 10 = .ok (.ifCond .gt 7, 3) := dk_157 0 7 (dk_at dksX1_isIn_0 10 rfl rfl)
theorem dX1_isIn_13 : decode cX1_isIn 13 = .ok (.iconst 1, 1) := dk_4 (dk_at dksX1_isIn_0 13 rfl rfl)
theorem dX1_isIn_14 : decode cX1_isIn 14 = .ok (.goto 4, 3) := dk_167 0 4 (dk_at dksX1_isIn_0 14 rfl rfl)
theorem dX1_isIn_17 : decode cX1_isIn 17 = .ok (.iconst 0, 1) := dk_3 (dk_at dksX1_isIn_0 17 rfl rfl)
theorem dX1_isIn_18 : decode cX1_isIn 18 = .ok (.ireturn, 1) := dk_172 (dk_at dksX1_isIn_0 18 rfl rfl)
abbrev cX1_has : ByteArray := prog_1_method_2_code
def yX1_has : MethodName := ⟨RX1, "has", "(II)Z"⟩
def dkwX1_has_0 : List UInt8 := [26, 27, 122, 4, 126, 4, 160, 0, 7, 4, 167, 0, 4, 3, 172]
abbrev dktX1_has_0 : List UInt8 := dkwX1_has_0 ++ []
theorem dksX1_has_0 : cX1_has.data.toList.drop 0 = dktX1_has_0 := by decide +kernel
theorem dX1_has_0 : decode cX1_has 0 = .ok (.iload_n 0, 1) := dk_26 (dk_at dksX1_has_0 0 rfl rfl)
theorem dX1_has_1 : decode cX1_has 1 = .ok (.iload_n 1, 1) := dk_27 (dk_at dksX1_has_0 1 rfl rfl)
theorem dX1_has_2 : decode cX1_has 2 = .ok (.ishr, 1) := dk_122 (dk_at dksX1_has_0 2 rfl rfl)
theorem dX1_has_3 : decode cX1_has 3 = .ok (.iconst 1, 1) := dk_4 (dk_at dksX1_has_0 3 rfl rfl)
theorem dX1_has_4 : decode cX1_has 4 = .ok (.iand, 1) := dk_126 (dk_at dksX1_has_0 4 rfl rfl)
theorem dX1_has_5 : decode cX1_has 5 = .ok (.iconst 1, 1) := dk_4 (dk_at dksX1_has_0 5 rfl rfl)
theorem dX1_has_6 : decode cX1_has 6 = .ok (.if_icmp .ne 7, 3) := dk_160 0 7 (dk_at dksX1_has_0 6 rfl rfl)
theorem dX1_has_9 : decode cX1_has 9 = .ok (.iconst 1, 1) := dk_4 (dk_at dksX1_has_0 9 rfl rfl)
theorem dX1_has_10 : decode cX1_has 10 = .ok (.goto 4, 3) := dk_167 0 4 (dk_at dksX1_has_0 10 rfl rfl)
theorem dX1_has_13 : decode cX1_has 13 = .ok (.iconst 0, 1) := dk_3 (dk_at dksX1_has_0 13 rfl rfl)
theorem dX1_has_14 : decode cX1_has 14 = .ok (.ireturn, 1) := dk_172 (dk_at dksX1_has_0 14 rfl rfl)
abbrev cX1_text : ByteArray := prog_1_method_9_code
def yX1_text : MethodName := ⟨RX1, "text", "(I)I"⟩
def dkwX1_text_4 : List UInt8 := [181, 0, 135, 42, 180, 0, 93, 180, 0, 139, 172]
abbrev dktX1_text_4 : List UInt8 := dkwX1_text_4 ++ []
def dkwX1_text_3 : List UInt8 := [100, 172, 42, 42, 180, 0, 107, 181, 0, 93, 42, 180, 0, 59, 182, 0, 129, 42, 3, 181, 0, 132, 42, 3]
abbrev dktX1_text_3 : List UInt8 := dkwX1_text_3 ++ dktX1_text_4
def dkwX1_text_2 : List UInt8 := [42, 180, 0, 123, 42, 180, 0, 114, 83, 42, 89, 180, 0, 123, 4, 96, 181, 0, 123, 42, 180, 0, 123, 4]
abbrev dktX1_text_2 : List UInt8 := dkwX1_text_2 ++ dktX1_text_3
def dkwX1_text_1 : List UInt8 := [27, 182, 0, 126, 2, 159, 0, 5, 2, 172, 42, 3, 181, 0, 7, 27, 4, 160, 0, 33, 42, 180, 0, 27]
abbrev dktX1_text_1 : List UInt8 := dkwX1_text_1 ++ dktX1_text_2
def dkwX1_text_0 : List UInt8 := [27, 133, 9, 10, 184, 0, 97, 153, 0, 25, 27, 4, 160, 0, 11, 42, 180, 0, 123, 7, 159, 0, 12, 42]
abbrev dktX1_text_0 : List UInt8 := dkwX1_text_0 ++ dktX1_text_1
theorem dksX1_text_0 : cX1_text.data.toList.drop 0 = dktX1_text_0 := by decide +kernel
theorem dksX1_text_1 : cX1_text.data.toList.drop 24 = dktX1_text_1 := dk_seg dksX1_text_0 24 rfl rfl
theorem dksX1_text_2 : cX1_text.data.toList.drop 48 = dktX1_text_2 := dk_seg dksX1_text_1 24 rfl rfl
theorem dksX1_text_3 : cX1_text.data.toList.drop 72 = dktX1_text_3 := dk_seg dksX1_text_2 24 rfl rfl
theorem dksX1_text_4 : cX1_text.data.toList.drop 96 = dktX1_text_4 := dk_seg dksX1_text_3 24 rfl rfl
theorem dX1_text_0 : decode cX1_text 0 = .ok (.iload_n 1, 1) := dk_27 (dk_at dksX1_text_0 0 rfl rfl)
theorem dX1_text_1 : decode cX1_text 1 = .ok (.i2l, 1) := dk_133 (dk_at dksX1_text_0 1 rfl rfl)
theorem dX1_text_2 : decode cX1_text 2 = .ok (.lconst 0, 1) := dk_9 (dk_at dksX1_text_0 2 rfl rfl)
theorem dX1_text_3 : decode cX1_text 3 = .ok (.lconst 1, 1) := dk_10 (dk_at dksX1_text_0 3 rfl rfl)
theorem dX1_text_4 : decode cX1_text 4 = .ok (.invokestatic 97, 3) := dk_184 0 97 (dk_at dksX1_text_0 4 rfl rfl)
theorem dX1_text_7 : decode cX1_text 7 = .ok (.ifCond .eq 25, 3) := dk_153 0 25 (dk_at dksX1_text_0 7 rfl rfl)
theorem dX1_text_10 : decode cX1_text 10 = .ok (.iload_n 1, 1) := dk_27 (dk_at dksX1_text_0 10 rfl rfl)
theorem dX1_text_11 : decode cX1_text 11 = .ok (.iconst 1, 1) := dk_4 (dk_at dksX1_text_0 11 rfl rfl)
theorem dX1_text_12 : decode cX1_text 12 = .ok (.if_icmp .ne 11, 3) := dk_160 0 11 (dk_at dksX1_text_0 12 rfl rfl)
theorem dX1_text_15 : decode cX1_text 15 = .ok (.aload_n 0, 1) := dk_42 (dk_at dksX1_text_0 15 rfl rfl)
theorem dX1_text_16 : decode cX1_text 16 = .ok (.getfield 123, 3) := dk_180 0 123 (dk_at dksX1_text_0 16 rfl rfl)
theorem dX1_text_19 : decode cX1_text 19 = .ok (.iconst 4, 1) := dk_7 (dk_at dksX1_text_0 19 rfl rfl)
theorem dX1_text_20 : decode cX1_text 20 = .ok (.if_icmp .eq 12, 3) := dk_159 0 12 (dk_at dksX1_text_0 20 rfl rfl)
theorem dX1_text_23 : decode cX1_text 23 = .ok (.aload_n 0, 1) := dk_42 (dk_at dksX1_text_0 23 rfl rfl)
theorem dX1_text_24 : decode cX1_text 24 = .ok (.iload_n 1, 1) := dk_27 (dk_at dksX1_text_1 0 rfl rfl)
theorem dX1_text_25 : decode cX1_text 25 = .ok (.invokevirtual 126, 3) := dk_182 0 126 (dk_at dksX1_text_1 1 rfl rfl)
theorem dX1_text_28 : decode cX1_text 28 = .ok (.iconst (-1), 1) := dk_2 (dk_at dksX1_text_1 4 rfl rfl)
theorem dX1_text_29 : decode cX1_text 29 = .ok (.if_icmp .eq 5, 3) := dk_159 0 5 (dk_at dksX1_text_1 5 rfl rfl)
theorem dX1_text_32 : decode cX1_text 32 = .ok (.iconst (-1), 1) := dk_2 (dk_at dksX1_text_1 8 rfl rfl)
theorem dX1_text_33 : decode cX1_text 33 = .ok (.ireturn, 1) := dk_172 (dk_at dksX1_text_1 9 rfl rfl)
theorem dX1_text_34 : decode cX1_text 34 = .ok (.aload_n 0, 1) := dk_42 (dk_at dksX1_text_1 10 rfl rfl)
theorem dX1_text_35 : decode cX1_text 35 = .ok (.iconst 0, 1) := dk_3 (dk_at dksX1_text_1 11 rfl rfl)
theorem dX1_text_36 : decode cX1_text 36 = .ok (.putfield 7, 3) := dk_181 0 7 (dk_at dksX1_text_1 12 rfl rfl)
theorem dX1_text_39 : decode cX1_text 39 = .ok (.iload_n 1, 1) := dk_27 (dk_at dksX1_text_1 15 rfl rfl)
theorem dX1_text_40 : decode cX1_text 40 = .ok (.iconst 1, 1) := dk_4 (dk_at dksX1_text_1 16 rfl rfl)
theorem dX1_text_41 : decode cX1_text 41 = .ok (.if_icmp .ne 33, 3) := dk_160 0 33 (dk_at dksX1_text_1 17 rfl rfl)
theorem dX1_text_44 : decode cX1_text 44 = .ok (.aload_n 0, 1) := dk_42 (dk_at dksX1_text_1 20 rfl rfl)
theorem dX1_text_45 : decode cX1_text 45 = .ok (.getfield 27, 3) := dk_180 0 27 (dk_at dksX1_text_1 21 rfl rfl)
theorem dX1_text_48 : decode cX1_text 48 = .ok (.aload_n 0, 1) := dk_42 (dk_at dksX1_text_2 0 rfl rfl)
theorem dX1_text_49 : decode cX1_text 49 = .ok (.getfield 123, 3) := dk_180 0 123 (dk_at dksX1_text_2 1 rfl rfl)
theorem dX1_text_52 : decode cX1_text 52 = .ok (.aload_n 0, 1) := dk_42 (dk_at dksX1_text_2 4 rfl rfl)
theorem dX1_text_53 : decode cX1_text 53 = .ok (.getfield 114, 3) := dk_180 0 114 (dk_at dksX1_text_2 5 rfl rfl)
theorem dX1_text_56 : decode cX1_text 56 = .ok (.aastore, 1) := dk_83 (dk_at dksX1_text_2 8 rfl rfl)
theorem dX1_text_57 : decode cX1_text 57 = .ok (.aload_n 0, 1) := dk_42 (dk_at dksX1_text_2 9 rfl rfl)
theorem dX1_text_58 : decode cX1_text 58 = .ok (.dup, 1) := dk_89 (dk_at dksX1_text_2 10 rfl rfl)
theorem dX1_text_59 : decode cX1_text 59 = .ok (.getfield 123, 3) := dk_180 0 123 (dk_at dksX1_text_2 11 rfl rfl)
theorem dX1_text_62 : decode cX1_text 62 = .ok (.iconst 1, 1) := dk_4 (dk_at dksX1_text_2 14 rfl rfl)
theorem dX1_text_63 : decode cX1_text 63 = .ok (.iadd, 1) := dk_96 (dk_at dksX1_text_2 15 rfl rfl)
theorem dX1_text_64 : decode cX1_text 64 = .ok (.putfield 123, 3) := dk_181 0 123 (dk_at dksX1_text_2 16 rfl rfl)
theorem dX1_text_67 : decode cX1_text 67 = .ok (.aload_n 0, 1) := dk_42 (dk_at dksX1_text_2 19 rfl rfl)
theorem dX1_text_68 : decode cX1_text 68 = .ok (.getfield 123, 3) := dk_180 0 123 (dk_at dksX1_text_2 20 rfl rfl)
theorem dX1_text_71 : decode cX1_text 71 = .ok (.iconst 1, 1) := dk_4 (dk_at dksX1_text_2 23 rfl rfl)
theorem dX1_text_72 : decode cX1_text 72 = .ok (.isub, 1) := dk_100 (dk_at dksX1_text_3 0 rfl rfl)
theorem dX1_text_73 : decode cX1_text 73 = .ok (.ireturn, 1) := dk_172 (dk_at dksX1_text_3 1 rfl rfl)
theorem dX1_text_74 : decode cX1_text 74 = .ok (.aload_n 0, 1) := dk_42 (dk_at dksX1_text_3 2 rfl rfl)
theorem dX1_text_75 : decode cX1_text 75 = .ok (.aload_n 0, 1) := dk_42 (dk_at dksX1_text_3 3 rfl rfl)
theorem dX1_text_76 : decode cX1_text 76 = .ok (.getfield 107, 3) := dk_180 0 107 (dk_at dksX1_text_3 4 rfl rfl)
theorem dX1_text_79 : decode cX1_text 79 = .ok (.putfield 93, 3) := dk_181 0 93 (dk_at dksX1_text_3 7 rfl rfl)
theorem dX1_text_82 : decode cX1_text 82 = .ok (.aload_n 0, 1) := dk_42 (dk_at dksX1_text_3 10 rfl rfl)
theorem dX1_text_83 : decode cX1_text 83 = .ok (.getfield 59, 3) := dk_180 0 59 (dk_at dksX1_text_3 11 rfl rfl)
theorem dX1_text_86 : decode cX1_text 86 = .ok (.invokevirtual 129, 3) := dk_182 0 129 (dk_at dksX1_text_3 14 rfl rfl)
theorem dX1_text_89 : decode cX1_text 89 = .ok (.aload_n 0, 1) := dk_42 (dk_at dksX1_text_3 17 rfl rfl)
theorem dX1_text_90 : decode cX1_text 90 = .ok (.iconst 0, 1) := dk_3 (dk_at dksX1_text_3 18 rfl rfl)
theorem dX1_text_91 : decode cX1_text 91 = .ok (.putfield 132, 3) := dk_181 0 132 (dk_at dksX1_text_3 19 rfl rfl)
theorem dX1_text_94 : decode cX1_text 94 = .ok (.aload_n 0, 1) := dk_42 (dk_at dksX1_text_3 22 rfl rfl)
theorem dX1_text_95 : decode cX1_text 95 = .ok (.iconst 0, 1) := dk_3 (dk_at dksX1_text_3 23 rfl rfl)
theorem dX1_text_96 : decode cX1_text 96 = .ok (.putfield 135, 3) := dk_181 0 135 (dk_at dksX1_text_4 0 rfl rfl)
theorem dX1_text_99 : decode cX1_text 99 = .ok (.aload_n 0, 1) := dk_42 (dk_at dksX1_text_4 3 rfl rfl)
theorem dX1_text_100 : decode cX1_text 100 = .ok (.getfield 93, 3) := dk_180 0 93 (dk_at dksX1_text_4 4 rfl rfl)
theorem dX1_text_103 : decode cX1_text 103 = .ok (.getfield 139, 3) := dk_180 0 139 (dk_at dksX1_text_4 7 rfl rfl)
theorem dX1_text_106 : decode cX1_text 106 = .ok (.ireturn, 1) := dk_172 (dk_at dksX1_text_4 10 rfl rfl)
abbrev cX1_lays : ByteArray := prog_1_method_13_code
def yX1_lays : MethodName := ⟨RX1, "lays", "(LSafeBuckets$Sheet;II)V"⟩
def dkwX1_lays_5 : List UInt8 := [21, 5, 100, 4, 96, 182, 0, 186, 132, 6, 1, 167, 255, 228, 132, 5, 1, 167, 255, 213, 177]
abbrev dktX1_lays_5 : List UInt8 := dkwX1_lays_5 ++ []
def dkwX1_lays_4 : List UInt8 := [29, 163, 0, 43, 3, 54, 6, 21, 6, 21, 4, 21, 5, 100, 163, 0, 24, 42, 21, 5, 21, 6, 21, 4]
abbrev dktX1_lays_4 : List UInt8 := dkwX1_lays_4 ++ dktX1_lays_5
def dkwX1_lays_3 : List UInt8 := [181, 0, 176, 42, 89, 180, 0, 179, 4, 96, 181, 0, 179, 132, 5, 1, 167, 255, 198, 5, 54, 5, 21, 5]
abbrev dktX1_lays_3 : List UInt8 := dkwX1_lays_3 ++ dktX1_lays_4
def dkwX1_lays_2 : List UInt8 := [182, 0, 182, 80, 42, 180, 0, 51, 4, 50, 21, 5, 21, 4, 79, 42, 89, 180, 0, 176, 4, 96]
abbrev dktX1_lays_2 : List UInt8 := dkwX1_lays_2 ++ dktX1_lays_3
def dkwX1_lays_1 : List UInt8 := [54, 5, 21, 5, 21, 4, 162, 0, 57, 42, 180, 0, 46, 4, 50, 21, 5, 42, 21, 5, 21, 4]
abbrev dktX1_lays_1 : List UInt8 := dkwX1_lays_1 ++ dktX1_lays_2
def dkwX1_lays_0 : List UInt8 := [42, 43, 28, 182, 0, 173, 43, 180, 0, 164, 54, 4, 42, 3, 181, 0, 176, 42, 3, 181, 0, 179, 3]
abbrev dktX1_lays_0 : List UInt8 := dkwX1_lays_0 ++ dktX1_lays_1
theorem dksX1_lays_0 : cX1_lays.data.toList.drop 0 = dktX1_lays_0 := by decide +kernel
theorem dksX1_lays_1 : cX1_lays.data.toList.drop 23 = dktX1_lays_1 := dk_seg dksX1_lays_0 23 rfl rfl
theorem dksX1_lays_2 : cX1_lays.data.toList.drop 45 = dktX1_lays_2 := dk_seg dksX1_lays_1 22 rfl rfl
theorem dksX1_lays_3 : cX1_lays.data.toList.drop 67 = dktX1_lays_3 := dk_seg dksX1_lays_2 22 rfl rfl
theorem dksX1_lays_4 : cX1_lays.data.toList.drop 91 = dktX1_lays_4 := dk_seg dksX1_lays_3 24 rfl rfl
theorem dksX1_lays_5 : cX1_lays.data.toList.drop 115 = dktX1_lays_5 := dk_seg dksX1_lays_4 24 rfl rfl
theorem dX1_lays_0 : decode cX1_lays 0 = .ok (.aload_n 0, 1) := dk_42 (dk_at dksX1_lays_0 0 rfl rfl)
theorem dX1_lays_1 : decode cX1_lays 1 = .ok (.aload_n 1, 1) := dk_43 (dk_at dksX1_lays_0 1 rfl rfl)
theorem dX1_lays_2 : decode cX1_lays 2 = .ok (.iload_n 2, 1) := dk_28 (dk_at dksX1_lays_0 2 rfl rfl)
theorem dX1_lays_3 : decode cX1_lays 3 = .ok (.invokevirtual 173, 3) := dk_182 0 173 (dk_at dksX1_lays_0 3 rfl rfl)
theorem dX1_lays_6 : decode cX1_lays 6 = .ok (.aload_n 1, 1) := dk_43 (dk_at dksX1_lays_0 6 rfl rfl)
theorem dX1_lays_7 : decode cX1_lays 7 = .ok (.getfield 164, 3) := dk_180 0 164 (dk_at dksX1_lays_0 7 rfl rfl)
theorem dX1_lays_10 : decode cX1_lays 10 = .ok (.istore 4, 2) := dk_54 4 (dk_at dksX1_lays_0 10 rfl rfl)
theorem dX1_lays_12 : decode cX1_lays 12 = .ok (.aload_n 0, 1) := dk_42 (dk_at dksX1_lays_0 12 rfl rfl)
theorem dX1_lays_13 : decode cX1_lays 13 = .ok (.iconst 0, 1) := dk_3 (dk_at dksX1_lays_0 13 rfl rfl)
theorem dX1_lays_14 : decode cX1_lays 14 = .ok (.putfield 176, 3) := dk_181 0 176 (dk_at dksX1_lays_0 14 rfl rfl)
theorem dX1_lays_17 : decode cX1_lays 17 = .ok (.aload_n 0, 1) := dk_42 (dk_at dksX1_lays_0 17 rfl rfl)
theorem dX1_lays_18 : decode cX1_lays 18 = .ok (.iconst 0, 1) := dk_3 (dk_at dksX1_lays_0 18 rfl rfl)
theorem dX1_lays_19 : decode cX1_lays 19 = .ok (.putfield 179, 3) := dk_181 0 179 (dk_at dksX1_lays_0 19 rfl rfl)
theorem dX1_lays_22 : decode cX1_lays 22 = .ok (.iconst 0, 1) := dk_3 (dk_at dksX1_lays_0 22 rfl rfl)
theorem dX1_lays_23 : decode cX1_lays 23 = .ok (.istore 5, 2) := dk_54 5 (dk_at dksX1_lays_1 0 rfl rfl)
theorem dX1_lays_25 : decode cX1_lays 25 = .ok (.iload 5, 2) := dk_21 5 (dk_at dksX1_lays_1 2 rfl rfl)
theorem dX1_lays_27 : decode cX1_lays 27 = .ok (.iload 4, 2) := dk_21 4 (dk_at dksX1_lays_1 4 rfl rfl)
theorem dX1_lays_29 : decode cX1_lays 29 = .ok (.if_icmp .ge 57, 3) := dk_162 0 57 (dk_at dksX1_lays_1 6 rfl rfl)
theorem dX1_lays_32 : decode cX1_lays 32 = .ok (.aload_n 0, 1) := dk_42 (dk_at dksX1_lays_1 9 rfl rfl)
theorem dX1_lays_33 : decode cX1_lays 33 = .ok (.getfield 46, 3) := dk_180 0 46 (dk_at dksX1_lays_1 10 rfl rfl)
theorem dX1_lays_36 : decode cX1_lays 36 = .ok (.iconst 1, 1) := dk_4 (dk_at dksX1_lays_1 13 rfl rfl)
theorem dX1_lays_37 : decode cX1_lays 37 = .ok (.aaload, 1) := dk_50 (dk_at dksX1_lays_1 14 rfl rfl)
theorem dX1_lays_38 : decode cX1_lays 38 = .ok (.iload 5, 2) := dk_21 5 (dk_at dksX1_lays_1 15 rfl rfl)
theorem dX1_lays_40 : decode cX1_lays 40 = .ok (.aload_n 0, 1) := dk_42 (dk_at dksX1_lays_1 17 rfl rfl)
theorem dX1_lays_41 : decode cX1_lays 41 = .ok (.iload 5, 2) := dk_21 5 (dk_at dksX1_lays_1 18 rfl rfl)
theorem dX1_lays_43 : decode cX1_lays 43 = .ok (.iload 4, 2) := dk_21 4 (dk_at dksX1_lays_1 20 rfl rfl)
theorem dX1_lays_45 : decode cX1_lays 45 = .ok (.invokevirtual 182, 3) := dk_182 0 182 (dk_at dksX1_lays_2 0 rfl rfl)
theorem dX1_lays_48 : decode cX1_lays 48 = .ok (.lastore, 1) := dk_80 (dk_at dksX1_lays_2 3 rfl rfl)
theorem dX1_lays_49 : decode cX1_lays 49 = .ok (.aload_n 0, 1) := dk_42 (dk_at dksX1_lays_2 4 rfl rfl)
theorem dX1_lays_50 : decode cX1_lays 50 = .ok (.getfield 51, 3) := dk_180 0 51 (dk_at dksX1_lays_2 5 rfl rfl)
theorem dX1_lays_53 : decode cX1_lays 53 = .ok (.iconst 1, 1) := dk_4 (dk_at dksX1_lays_2 8 rfl rfl)
theorem dX1_lays_54 : decode cX1_lays 54 = .ok (.aaload, 1) := dk_50 (dk_at dksX1_lays_2 9 rfl rfl)
theorem dX1_lays_55 : decode cX1_lays 55 = .ok (.iload 5, 2) := dk_21 5 (dk_at dksX1_lays_2 10 rfl rfl)
theorem dX1_lays_57 : decode cX1_lays 57 = .ok (.iload 4, 2) := dk_21 4 (dk_at dksX1_lays_2 12 rfl rfl)
theorem dX1_lays_59 : decode cX1_lays 59 = .ok (.iastore, 1) := dk_79 (dk_at dksX1_lays_2 14 rfl rfl)
theorem dX1_lays_60 : decode cX1_lays 60 = .ok (.aload_n 0, 1) := dk_42 (dk_at dksX1_lays_2 15 rfl rfl)
theorem dX1_lays_61 : decode cX1_lays 61 = .ok (.dup, 1) := dk_89 (dk_at dksX1_lays_2 16 rfl rfl)
theorem dX1_lays_62 : decode cX1_lays 62 = .ok (.getfield 176, 3) := dk_180 0 176 (dk_at dksX1_lays_2 17 rfl rfl)
theorem dX1_lays_65 : decode cX1_lays 65 = .ok (.iconst 1, 1) := dk_4 (dk_at dksX1_lays_2 20 rfl rfl)
theorem dX1_lays_66 : decode cX1_lays 66 = .ok (.iadd, 1) := dk_96 (dk_at dksX1_lays_2 21 rfl rfl)
theorem dX1_lays_67 : decode cX1_lays 67 = .ok (.putfield 176, 3) := dk_181 0 176 (dk_at dksX1_lays_3 0 rfl rfl)
theorem dX1_lays_70 : decode cX1_lays 70 = .ok (.aload_n 0, 1) := dk_42 (dk_at dksX1_lays_3 3 rfl rfl)
theorem dX1_lays_71 : decode cX1_lays 71 = .ok (.dup, 1) := dk_89 (dk_at dksX1_lays_3 4 rfl rfl)
theorem dX1_lays_72 : decode cX1_lays 72 = .ok (.getfield 179, 3) := dk_180 0 179 (dk_at dksX1_lays_3 5 rfl rfl)
theorem dX1_lays_75 : decode cX1_lays 75 = .ok (.iconst 1, 1) := dk_4 (dk_at dksX1_lays_3 8 rfl rfl)
theorem dX1_lays_76 : decode cX1_lays 76 = .ok (.iadd, 1) := dk_96 (dk_at dksX1_lays_3 9 rfl rfl)
theorem dX1_lays_77 : decode cX1_lays 77 = .ok (.putfield 179, 3) := dk_181 0 179 (dk_at dksX1_lays_3 10 rfl rfl)
theorem dX1_lays_80 : decode cX1_lays 80 = .ok (.iinc 5 1, 3) := dk_132 5 1 (dk_at dksX1_lays_3 13 rfl rfl)
theorem dX1_lays_83 : decode cX1_lays 83 = .ok (.goto (-58), 3) := dk_167 255 198 (dk_at dksX1_lays_3 16 rfl rfl)
theorem dX1_lays_86 : decode cX1_lays 86 = .ok (.iconst 2, 1) := dk_5 (dk_at dksX1_lays_3 19 rfl rfl)
theorem dX1_lays_87 : decode cX1_lays 87 = .ok (.istore 5, 2) := dk_54 5 (dk_at dksX1_lays_3 20 rfl rfl)
theorem dX1_lays_89 : decode cX1_lays 89 = .ok (.iload 5, 2) := dk_21 5 (dk_at dksX1_lays_3 22 rfl rfl)
theorem dX1_lays_91 : decode cX1_lays 91 = .ok (.iload_n 3, 1) := dk_29 (dk_at dksX1_lays_4 0 rfl rfl)
theorem dX1_lays_92 : decode cX1_lays 92 = .ok (.if_icmp .gt 43, 3) := dk_163 0 43 (dk_at dksX1_lays_4 1 rfl rfl)
theorem dX1_lays_95 : decode cX1_lays 95 = .ok (.iconst 0, 1) := dk_3 (dk_at dksX1_lays_4 4 rfl rfl)
theorem dX1_lays_96 : decode cX1_lays 96 = .ok (.istore 6, 2) := dk_54 6 (dk_at dksX1_lays_4 5 rfl rfl)
theorem dX1_lays_98 : decode cX1_lays 98 = .ok (.iload 6, 2) := dk_21 6 (dk_at dksX1_lays_4 7 rfl rfl)
theorem dX1_lays_100 : decode cX1_lays 100 = .ok (.iload 4, 2) := dk_21 4 (dk_at dksX1_lays_4 9 rfl rfl)
theorem dX1_lays_102 : decode cX1_lays 102 = .ok (.iload 5, 2) := dk_21 5 (dk_at dksX1_lays_4 11 rfl rfl)
theorem dX1_lays_104 : decode cX1_lays 104 = .ok (.isub, 1) := dk_100 (dk_at dksX1_lays_4 13 rfl rfl)
theorem dX1_lays_105 : decode cX1_lays 105 = .ok (.if_icmp .gt 24, 3) := dk_163 0 24 (dk_at dksX1_lays_4 14 rfl rfl)
theorem dX1_lays_108 : decode cX1_lays 108 = .ok (.aload_n 0, 1) := dk_42 (dk_at dksX1_lays_4 17 rfl rfl)
theorem dX1_lays_109 : decode cX1_lays 109 = .ok (.iload 5, 2) := dk_21 5 (dk_at dksX1_lays_4 18 rfl rfl)
theorem dX1_lays_111 : decode cX1_lays 111 = .ok (.iload 6, 2) := dk_21 6 (dk_at dksX1_lays_4 20 rfl rfl)
theorem dX1_lays_113 : decode cX1_lays 113 = .ok (.iload 4, 2) := dk_21 4 (dk_at dksX1_lays_4 22 rfl rfl)
theorem dX1_lays_115 : decode cX1_lays 115 = .ok (.iload 5, 2) := dk_21 5 (dk_at dksX1_lays_5 0 rfl rfl)
theorem dX1_lays_117 : decode cX1_lays 117 = .ok (.isub, 1) := dk_100 (dk_at dksX1_lays_5 2 rfl rfl)
theorem dX1_lays_118 : decode cX1_lays 118 = .ok (.iconst 1, 1) := dk_4 (dk_at dksX1_lays_5 3 rfl rfl)
theorem dX1_lays_119 : decode cX1_lays 119 = .ok (.iadd, 1) := dk_96 (dk_at dksX1_lays_5 4 rfl rfl)
theorem dX1_lays_120 : decode cX1_lays 120 = .ok (.invokevirtual 186, 3) := dk_182 0 186 (dk_at dksX1_lays_5 5 rfl rfl)
theorem dX1_lays_123 : decode cX1_lays 123 = .ok (.iinc 6 1, 3) := dk_132 6 1 (dk_at dksX1_lays_5 8 rfl rfl)
theorem dX1_lays_126 : decode cX1_lays 126 = .ok (.goto (-28), 3) := dk_167 255 228 (dk_at dksX1_lays_5 11 rfl rfl)
theorem dX1_lays_129 : decode cX1_lays 129 = .ok (.iinc 5 1, 3) := dk_132 5 1 (dk_at dksX1_lays_5 14 rfl rfl)
theorem dX1_lays_132 : decode cX1_lays 132 = .ok (.goto (-43), 3) := dk_167 255 213 (dk_at dksX1_lays_5 17 rfl rfl)
theorem dX1_lays_135 : decode cX1_lays 135 = .ok (.return_, 1) := dk_177 (dk_at dksX1_lays_5 20 rfl rfl)
abbrev cX1_counts : ByteArray := prog_1_method_11_code
def yX1_counts : MethodName := ⟨RX1, "counts", "(LSafeBuckets$Sheet;I)V"⟩
def dkwX1_counts_3 : List UInt8 := [132, 3, 1, 167, 255, 184, 177]
abbrev dktX1_counts_3 : List UInt8 := dkwX1_counts_3 ++ []
def dkwX1_counts_2 : List UInt8 := [29, 4, 96, 42, 180, 0, 41, 29, 46, 42, 180, 0, 35, 29, 46, 42, 180, 0, 35, 29, 46, 104, 96, 79]
abbrev dktX1_counts_2 : List UInt8 := dkwX1_counts_2 ++ dktX1_counts_3
def dkwX1_counts_1 : List UInt8 := [180, 0, 38, 29, 4, 96, 42, 180, 0, 38, 29, 46, 42, 180, 0, 35, 29, 46, 96, 79, 42, 180, 0, 41]
abbrev dktX1_counts_1 : List UInt8 := dkwX1_counts_1 ++ dktX1_counts_2
def dkwX1_counts_0 : List UInt8 := [3, 62, 29, 43, 180, 0, 164, 162, 0, 70, 42, 180, 0, 35, 29, 43, 28, 29, 182, 0, 167, 79, 42]
abbrev dktX1_counts_0 : List UInt8 := dkwX1_counts_0 ++ dktX1_counts_1
theorem dksX1_counts_0 : cX1_counts.data.toList.drop 0 = dktX1_counts_0 := by decide +kernel
theorem dksX1_counts_1 : cX1_counts.data.toList.drop 23 = dktX1_counts_1 := dk_seg dksX1_counts_0 23 rfl rfl
theorem dksX1_counts_2 : cX1_counts.data.toList.drop 47 = dktX1_counts_2 := dk_seg dksX1_counts_1 24 rfl rfl
theorem dksX1_counts_3 : cX1_counts.data.toList.drop 71 = dktX1_counts_3 := dk_seg dksX1_counts_2 24 rfl rfl
theorem dX1_counts_0 : decode cX1_counts 0 = .ok (.iconst 0, 1) := dk_3 (dk_at dksX1_counts_0 0 rfl rfl)
theorem dX1_counts_1 : decode cX1_counts 1 = .ok (.istore_n 3, 1) := dk_62 (dk_at dksX1_counts_0 1 rfl rfl)
theorem dX1_counts_2 : decode cX1_counts 2 = .ok (.iload_n 3, 1) := dk_29 (dk_at dksX1_counts_0 2 rfl rfl)
theorem dX1_counts_3 : decode cX1_counts 3 = .ok (.aload_n 1, 1) := dk_43 (dk_at dksX1_counts_0 3 rfl rfl)
theorem dX1_counts_4 : decode cX1_counts 4 = .ok (.getfield 164, 3) := dk_180 0 164 (dk_at dksX1_counts_0 4 rfl rfl)
theorem dX1_counts_7 : decode cX1_counts 7 = .ok (.if_icmp .ge 70, 3) := dk_162 0 70 (dk_at dksX1_counts_0 7 rfl rfl)
theorem dX1_counts_10 : decode cX1_counts 10 = .ok (.aload_n 0, 1) := dk_42 (dk_at dksX1_counts_0 10 rfl rfl)
theorem dX1_counts_11 : decode cX1_counts 11 = .ok (.getfield 35, 3) := dk_180 0 35 (dk_at dksX1_counts_0 11 rfl rfl)
theorem dX1_counts_14 : decode cX1_counts 14 = .ok (.iload_n 3, 1) := dk_29 (dk_at dksX1_counts_0 14 rfl rfl)
theorem dX1_counts_15 : decode cX1_counts 15 = .ok (.aload_n 1, 1) := dk_43 (dk_at dksX1_counts_0 15 rfl rfl)
theorem dX1_counts_16 : decode cX1_counts 16 = .ok (.iload_n 2, 1) := dk_28 (dk_at dksX1_counts_0 16 rfl rfl)
theorem dX1_counts_17 : decode cX1_counts 17 = .ok (.iload_n 3, 1) := dk_29 (dk_at dksX1_counts_0 17 rfl rfl)
theorem dX1_counts_18 : decode cX1_counts 18 = .ok (.invokevirtual 167, 3) := dk_182 0 167 (dk_at dksX1_counts_0 18 rfl rfl)
theorem dX1_counts_21 : decode cX1_counts 21 = .ok (.iastore, 1) := dk_79 (dk_at dksX1_counts_0 21 rfl rfl)
theorem dX1_counts_22 : decode cX1_counts 22 = .ok (.aload_n 0, 1) := dk_42 (dk_at dksX1_counts_0 22 rfl rfl)
theorem dX1_counts_23 : decode cX1_counts 23 = .ok (.getfield 38, 3) := dk_180 0 38 (dk_at dksX1_counts_1 0 rfl rfl)
theorem dX1_counts_26 : decode cX1_counts 26 = .ok (.iload_n 3, 1) := dk_29 (dk_at dksX1_counts_1 3 rfl rfl)
theorem dX1_counts_27 : decode cX1_counts 27 = .ok (.iconst 1, 1) := dk_4 (dk_at dksX1_counts_1 4 rfl rfl)
theorem dX1_counts_28 : decode cX1_counts 28 = .ok (.iadd, 1) := dk_96 (dk_at dksX1_counts_1 5 rfl rfl)
theorem dX1_counts_29 : decode cX1_counts 29 = .ok (.aload_n 0, 1) := dk_42 (dk_at dksX1_counts_1 6 rfl rfl)
theorem dX1_counts_30 : decode cX1_counts 30 = .ok (.getfield 38, 3) := dk_180 0 38 (dk_at dksX1_counts_1 7 rfl rfl)
theorem dX1_counts_33 : decode cX1_counts 33 = .ok (.iload_n 3, 1) := dk_29 (dk_at dksX1_counts_1 10 rfl rfl)
theorem dX1_counts_34 : decode cX1_counts 34 = .ok (.iaload, 1) := dk_46 (dk_at dksX1_counts_1 11 rfl rfl)
theorem dX1_counts_35 : decode cX1_counts 35 = .ok (.aload_n 0, 1) := dk_42 (dk_at dksX1_counts_1 12 rfl rfl)
theorem dX1_counts_36 : decode cX1_counts 36 = .ok (.getfield 35, 3) := dk_180 0 35 (dk_at dksX1_counts_1 13 rfl rfl)
theorem dX1_counts_39 : decode cX1_counts 39 = .ok (.iload_n 3, 1) := dk_29 (dk_at dksX1_counts_1 16 rfl rfl)
theorem dX1_counts_40 : decode cX1_counts 40 = .ok (.iaload, 1) := dk_46 (dk_at dksX1_counts_1 17 rfl rfl)
theorem dX1_counts_41 : decode cX1_counts 41 = .ok (.iadd, 1) := dk_96 (dk_at dksX1_counts_1 18 rfl rfl)
theorem dX1_counts_42 : decode cX1_counts 42 = .ok (.iastore, 1) := dk_79 (dk_at dksX1_counts_1 19 rfl rfl)
theorem dX1_counts_43 : decode cX1_counts 43 = .ok (.aload_n 0, 1) := dk_42 (dk_at dksX1_counts_1 20 rfl rfl)
theorem dX1_counts_44 : decode cX1_counts 44 = .ok (.getfield 41, 3) := dk_180 0 41 (dk_at dksX1_counts_1 21 rfl rfl)
theorem dX1_counts_47 : decode cX1_counts 47 = .ok (.iload_n 3, 1) := dk_29 (dk_at dksX1_counts_2 0 rfl rfl)
theorem dX1_counts_48 : decode cX1_counts 48 = .ok (.iconst 1, 1) := dk_4 (dk_at dksX1_counts_2 1 rfl rfl)
theorem dX1_counts_49 : decode cX1_counts 49 = .ok (.iadd, 1) := dk_96 (dk_at dksX1_counts_2 2 rfl rfl)
theorem dX1_counts_50 : decode cX1_counts 50 = .ok (.aload_n 0, 1) := dk_42 (dk_at dksX1_counts_2 3 rfl rfl)
theorem dX1_counts_51 : decode cX1_counts 51 = .ok (.getfield 41, 3) := dk_180 0 41 (dk_at dksX1_counts_2 4 rfl rfl)
theorem dX1_counts_54 : decode cX1_counts 54 = .ok (.iload_n 3, 1) := dk_29 (dk_at dksX1_counts_2 7 rfl rfl)
theorem dX1_counts_55 : decode cX1_counts 55 = .ok (.iaload, 1) := dk_46 (dk_at dksX1_counts_2 8 rfl rfl)
theorem dX1_counts_56 : decode cX1_counts 56 = .ok (.aload_n 0, 1) := dk_42 (dk_at dksX1_counts_2 9 rfl rfl)
theorem dX1_counts_57 : decode cX1_counts 57 = .ok (.getfield 35, 3) := dk_180 0 35 (dk_at dksX1_counts_2 10 rfl rfl)
theorem dX1_counts_60 : decode cX1_counts 60 = .ok (.iload_n 3, 1) := dk_29 (dk_at dksX1_counts_2 13 rfl rfl)
theorem dX1_counts_61 : decode cX1_counts 61 = .ok (.iaload, 1) := dk_46 (dk_at dksX1_counts_2 14 rfl rfl)
theorem dX1_counts_62 : decode cX1_counts 62 = .ok (.aload_n 0, 1) := dk_42 (dk_at dksX1_counts_2 15 rfl rfl)
theorem dX1_counts_63 : decode cX1_counts 63 = .ok (.getfield 35, 3) := dk_180 0 35 (dk_at dksX1_counts_2 16 rfl rfl)
theorem dX1_counts_66 : decode cX1_counts 66 = .ok (.iload_n 3, 1) := dk_29 (dk_at dksX1_counts_2 19 rfl rfl)
theorem dX1_counts_67 : decode cX1_counts 67 = .ok (.iaload, 1) := dk_46 (dk_at dksX1_counts_2 20 rfl rfl)
theorem dX1_counts_68 : decode cX1_counts 68 = .ok (.imul, 1) := dk_104 (dk_at dksX1_counts_2 21 rfl rfl)
theorem dX1_counts_69 : decode cX1_counts 69 = .ok (.iadd, 1) := dk_96 (dk_at dksX1_counts_2 22 rfl rfl)
theorem dX1_counts_70 : decode cX1_counts 70 = .ok (.iastore, 1) := dk_79 (dk_at dksX1_counts_2 23 rfl rfl)
theorem dX1_counts_71 : decode cX1_counts 71 = .ok (.iinc 3 1, 3) := dk_132 3 1 (dk_at dksX1_counts_3 0 rfl rfl)
theorem dX1_counts_74 : decode cX1_counts 74 = .ok (.goto (-72), 3) := dk_167 255 184 (dk_at dksX1_counts_3 3 rfl rfl)
theorem dX1_counts_77 : decode cX1_counts 77 = .ok (.return_, 1) := dk_177 (dk_at dksX1_counts_3 6 rfl rfl)
abbrev cX1_errorOf : ByteArray := prog_1_method_12_code
def yX1_errorOf : MethodName := ⟨RX1, "errorOf", "(II)J"⟩
def dkwX1_errorOf_1 : List UInt8 := [42, 180, 0, 41, 27, 46, 100, 133, 105, 20, 0, 171, 28, 27, 100, 133, 109, 33, 105, 33, 105, 101, 173]
abbrev dktX1_errorOf_1 : List UInt8 := dkwX1_errorOf_1 ++ []
def dkwX1_errorOf_0 : List UInt8 := [42, 180, 0, 38, 28, 46, 42, 180, 0, 38, 27, 46, 100, 133, 66, 20, 0, 171, 42, 180, 0, 41, 28, 46]
abbrev dktX1_errorOf_0 : List UInt8 := dkwX1_errorOf_0 ++ dktX1_errorOf_1
theorem dksX1_errorOf_0 : cX1_errorOf.data.toList.drop 0 = dktX1_errorOf_0 := by decide +kernel
theorem dksX1_errorOf_1 : cX1_errorOf.data.toList.drop 24 = dktX1_errorOf_1 := dk_seg dksX1_errorOf_0 24 rfl rfl
theorem dX1_errorOf_0 : decode cX1_errorOf 0 = .ok (.aload_n 0, 1) := dk_42 (dk_at dksX1_errorOf_0 0 rfl rfl)
theorem dX1_errorOf_1 : decode cX1_errorOf 1 = .ok (.getfield 38, 3) := dk_180 0 38 (dk_at dksX1_errorOf_0 1 rfl rfl)
theorem dX1_errorOf_4 : decode cX1_errorOf 4 = .ok (.iload_n 2, 1) := dk_28 (dk_at dksX1_errorOf_0 4 rfl rfl)
theorem dX1_errorOf_5 : decode cX1_errorOf 5 = .ok (.iaload, 1) := dk_46 (dk_at dksX1_errorOf_0 5 rfl rfl)
theorem dX1_errorOf_6 : decode cX1_errorOf 6 = .ok (.aload_n 0, 1) := dk_42 (dk_at dksX1_errorOf_0 6 rfl rfl)
theorem dX1_errorOf_7 : decode cX1_errorOf 7 = .ok (.getfield 38, 3) := dk_180 0 38 (dk_at dksX1_errorOf_0 7 rfl rfl)
theorem dX1_errorOf_10 : decode cX1_errorOf 10 = .ok (.iload_n 1, 1) := dk_27 (dk_at dksX1_errorOf_0 10 rfl rfl)
theorem dX1_errorOf_11 : decode cX1_errorOf 11 = .ok (.iaload, 1) := dk_46 (dk_at dksX1_errorOf_0 11 rfl rfl)
theorem dX1_errorOf_12 : decode cX1_errorOf 12 = .ok (.isub, 1) := dk_100 (dk_at dksX1_errorOf_0 12 rfl rfl)
theorem dX1_errorOf_13 : decode cX1_errorOf 13 = .ok (.i2l, 1) := dk_133 (dk_at dksX1_errorOf_0 13 rfl rfl)
theorem dX1_errorOf_14 : decode cX1_errorOf 14 = .ok (.lstore_n 3, 1) := dk_66 (dk_at dksX1_errorOf_0 14 rfl rfl)
theorem dX1_errorOf_15 : decode cX1_errorOf 15 = .ok (.ldc2_w 171, 3) := dk_20 0 171 (dk_at dksX1_errorOf_0 15 rfl rfl)
theorem dX1_errorOf_18 : decode cX1_errorOf 18 = .ok (.aload_n 0, 1) := dk_42 (dk_at dksX1_errorOf_0 18 rfl rfl)
theorem dX1_errorOf_19 : decode cX1_errorOf 19 = .ok (.getfield 41, 3) := dk_180 0 41 (dk_at dksX1_errorOf_0 19 rfl rfl)
theorem dX1_errorOf_22 : decode cX1_errorOf 22 = .ok (.iload_n 2, 1) := dk_28 (dk_at dksX1_errorOf_0 22 rfl rfl)
theorem dX1_errorOf_23 : decode cX1_errorOf 23 = .ok (.iaload, 1) := dk_46 (dk_at dksX1_errorOf_0 23 rfl rfl)
theorem dX1_errorOf_24 : decode cX1_errorOf 24 = .ok (.aload_n 0, 1) := dk_42 (dk_at dksX1_errorOf_1 0 rfl rfl)
theorem dX1_errorOf_25 : decode cX1_errorOf 25 = .ok (.getfield 41, 3) := dk_180 0 41 (dk_at dksX1_errorOf_1 1 rfl rfl)
theorem dX1_errorOf_28 : decode cX1_errorOf 28 = .ok (.iload_n 1, 1) := dk_27 (dk_at dksX1_errorOf_1 4 rfl rfl)
theorem dX1_errorOf_29 : decode cX1_errorOf 29 = .ok (.iaload, 1) := dk_46 (dk_at dksX1_errorOf_1 5 rfl rfl)
theorem dX1_errorOf_30 : decode cX1_errorOf 30 = .ok (.isub, 1) := dk_100 (dk_at dksX1_errorOf_1 6 rfl rfl)
theorem dX1_errorOf_31 : decode cX1_errorOf 31 = .ok (.i2l, 1) := dk_133 (dk_at dksX1_errorOf_1 7 rfl rfl)
theorem dX1_errorOf_32 : decode cX1_errorOf 32 = .ok (.lmul, 1) := dk_105 (dk_at dksX1_errorOf_1 8 rfl rfl)
theorem dX1_errorOf_33 : decode cX1_errorOf 33 = .ok (.ldc2_w 171, 3) := dk_20 0 171 (dk_at dksX1_errorOf_1 9 rfl rfl)
theorem dX1_errorOf_36 : decode cX1_errorOf 36 = .ok (.iload_n 2, 1) := dk_28 (dk_at dksX1_errorOf_1 12 rfl rfl)
theorem dX1_errorOf_37 : decode cX1_errorOf 37 = .ok (.iload_n 1, 1) := dk_27 (dk_at dksX1_errorOf_1 13 rfl rfl)
theorem dX1_errorOf_38 : decode cX1_errorOf 38 = .ok (.isub, 1) := dk_100 (dk_at dksX1_errorOf_1 14 rfl rfl)
theorem dX1_errorOf_39 : decode cX1_errorOf 39 = .ok (.i2l, 1) := dk_133 (dk_at dksX1_errorOf_1 15 rfl rfl)
theorem dX1_errorOf_40 : decode cX1_errorOf 40 = .ok (.ldiv, 1) := dk_109 (dk_at dksX1_errorOf_1 16 rfl rfl)
theorem dX1_errorOf_41 : decode cX1_errorOf 41 = .ok (.lload_n 3, 1) := dk_33 (dk_at dksX1_errorOf_1 17 rfl rfl)
theorem dX1_errorOf_42 : decode cX1_errorOf 42 = .ok (.lmul, 1) := dk_105 (dk_at dksX1_errorOf_1 18 rfl rfl)
theorem dX1_errorOf_43 : decode cX1_errorOf 43 = .ok (.lload_n 3, 1) := dk_33 (dk_at dksX1_errorOf_1 19 rfl rfl)
theorem dX1_errorOf_44 : decode cX1_errorOf 44 = .ok (.lmul, 1) := dk_105 (dk_at dksX1_errorOf_1 20 rfl rfl)
theorem dX1_errorOf_45 : decode cX1_errorOf 45 = .ok (.lsub, 1) := dk_101 (dk_at dksX1_errorOf_1 21 rfl rfl)
theorem dX1_errorOf_46 : decode cX1_errorOf 46 = .ok (.lreturn, 1) := dk_173 (dk_at dksX1_errorOf_1 22 rfl rfl)
abbrev cX1_tries : ByteArray := prog_1_method_14_code
def yX1_tries : MethodName := ⟨RX1, "tries", "(III)V"⟩
def dkwX1_tries_5 : List UInt8 := [47, 148, 155, 0, 6, 167, 0, 9, 132, 4, 1, 167, 255, 153, 177]
abbrev dktX1_tries_5 : List UInt8 := dkwX1_tries_5 ++ []
def dkwX1_tries_4 : List UInt8 := [21, 4, 47, 97, 80, 42, 180, 0, 51, 27, 50, 28, 21, 4, 79, 22, 5, 42, 180, 0, 46, 27, 50, 28]
abbrev dktX1_tries_4 : List UInt8 := dkwX1_tries_4 ++ dktX1_tries_5
def dkwX1_tries_3 : List UInt8 := [50, 28, 47, 148, 156, 0, 35, 42, 180, 0, 46, 27, 50, 28, 22, 5, 42, 180, 0, 46, 27, 4, 100, 50]
abbrev dktX1_tries_3 : List UInt8 := dkwX1_tries_3 ++ dktX1_tries_4
def dkwX1_tries_2 : List UInt8 := [4, 96, 181, 0, 176, 22, 5, 42, 180, 0, 46, 27, 4, 100, 50, 21, 4, 47, 97, 42, 180, 0, 46, 27]
abbrev dktX1_tries_2 : List UInt8 := dkwX1_tries_2 ++ dktX1_tries_3
def dkwX1_tries_1 : List UInt8 := [4, 96, 54, 4, 21, 4, 29, 163, 0, 103, 42, 28, 21, 4, 182, 0, 182, 55, 5, 42, 89, 180, 0, 176]
abbrev dktX1_tries_1 : List UInt8 := dkwX1_tries_1 ++ dktX1_tries_2
def dkwX1_tries_0 : List UInt8 := [42, 89, 180, 0, 179, 29, 28, 100, 96, 181, 0, 179, 42, 180, 0, 46, 27, 50, 28, 20, 0, 192, 80, 28]
abbrev dktX1_tries_0 : List UInt8 := dkwX1_tries_0 ++ dktX1_tries_1
theorem dksX1_tries_0 : cX1_tries.data.toList.drop 0 = dktX1_tries_0 := by decide +kernel
theorem dksX1_tries_1 : cX1_tries.data.toList.drop 24 = dktX1_tries_1 := dk_seg dksX1_tries_0 24 rfl rfl
theorem dksX1_tries_2 : cX1_tries.data.toList.drop 48 = dktX1_tries_2 := dk_seg dksX1_tries_1 24 rfl rfl
theorem dksX1_tries_3 : cX1_tries.data.toList.drop 72 = dktX1_tries_3 := dk_seg dksX1_tries_2 24 rfl rfl
theorem dksX1_tries_4 : cX1_tries.data.toList.drop 96 = dktX1_tries_4 := dk_seg dksX1_tries_3 24 rfl rfl
theorem dksX1_tries_5 : cX1_tries.data.toList.drop 120 = dktX1_tries_5 := dk_seg dksX1_tries_4 24 rfl rfl
theorem dX1_tries_0 : decode cX1_tries 0 = .ok (.aload_n 0, 1) := dk_42 (dk_at dksX1_tries_0 0 rfl rfl)
theorem dX1_tries_1 : decode cX1_tries 1 = .ok (.dup, 1) := dk_89 (dk_at dksX1_tries_0 1 rfl rfl)
theorem dX1_tries_2 : decode cX1_tries 2 = .ok (.getfield 179, 3) := dk_180 0 179 (dk_at dksX1_tries_0 2 rfl rfl)
theorem dX1_tries_5 : decode cX1_tries 5 = .ok (.iload_n 3, 1) := dk_29 (dk_at dksX1_tries_0 5 rfl rfl)
theorem dX1_tries_6 : decode cX1_tries 6 = .ok (.iload_n 2, 1) := dk_28 (dk_at dksX1_tries_0 6 rfl rfl)
theorem dX1_tries_7 : decode cX1_tries 7 = .ok (.isub, 1) := dk_100 (dk_at dksX1_tries_0 7 rfl rfl)
theorem dX1_tries_8 : decode cX1_tries 8 = .ok (.iadd, 1) := dk_96 (dk_at dksX1_tries_0 8 rfl rfl)
theorem dX1_tries_9 : decode cX1_tries 9 = .ok (.putfield 179, 3) := dk_181 0 179 (dk_at dksX1_tries_0 9 rfl rfl)
theorem dX1_tries_12 : decode cX1_tries 12 = .ok (.aload_n 0, 1) := dk_42 (dk_at dksX1_tries_0 12 rfl rfl)
theorem dX1_tries_13 : decode cX1_tries 13 = .ok (.getfield 46, 3) := dk_180 0 46 (dk_at dksX1_tries_0 13 rfl rfl)
theorem dX1_tries_16 : decode cX1_tries 16 = .ok (.iload_n 1, 1) := dk_27 (dk_at dksX1_tries_0 16 rfl rfl)
theorem dX1_tries_17 : decode cX1_tries 17 = .ok (.aaload, 1) := dk_50 (dk_at dksX1_tries_0 17 rfl rfl)
theorem dX1_tries_18 : decode cX1_tries 18 = .ok (.iload_n 2, 1) := dk_28 (dk_at dksX1_tries_0 18 rfl rfl)
theorem dX1_tries_19 : decode cX1_tries 19 = .ok (.ldc2_w 192, 3) := dk_20 0 192 (dk_at dksX1_tries_0 19 rfl rfl)
theorem dX1_tries_22 : decode cX1_tries 22 = .ok (.lastore, 1) := dk_80 (dk_at dksX1_tries_0 22 rfl rfl)
theorem dX1_tries_23 : decode cX1_tries 23 = .ok (.iload_n 2, 1) := dk_28 (dk_at dksX1_tries_0 23 rfl rfl)
theorem dX1_tries_24 : decode cX1_tries 24 = .ok (.iconst 1, 1) := dk_4 (dk_at dksX1_tries_1 0 rfl rfl)
theorem dX1_tries_25 : decode cX1_tries 25 = .ok (.iadd, 1) := dk_96 (dk_at dksX1_tries_1 1 rfl rfl)
theorem dX1_tries_26 : decode cX1_tries 26 = .ok (.istore 4, 2) := dk_54 4 (dk_at dksX1_tries_1 2 rfl rfl)
theorem dX1_tries_28 : decode cX1_tries 28 = .ok (.iload 4, 2) := dk_21 4 (dk_at dksX1_tries_1 4 rfl rfl)
theorem dX1_tries_30 : decode cX1_tries 30 = .ok (.iload_n 3, 1) := dk_29 (dk_at dksX1_tries_1 6 rfl rfl)
theorem dX1_tries_31 : decode cX1_tries 31 = .ok (.if_icmp .gt 103, 3) := dk_163 0 103 (dk_at dksX1_tries_1 7 rfl rfl)
theorem dX1_tries_34 : decode cX1_tries 34 = .ok (.aload_n 0, 1) := dk_42 (dk_at dksX1_tries_1 10 rfl rfl)
theorem dX1_tries_35 : decode cX1_tries 35 = .ok (.iload_n 2, 1) := dk_28 (dk_at dksX1_tries_1 11 rfl rfl)
theorem dX1_tries_36 : decode cX1_tries 36 = .ok (.iload 4, 2) := dk_21 4 (dk_at dksX1_tries_1 12 rfl rfl)
theorem dX1_tries_38 : decode cX1_tries 38 = .ok (.invokevirtual 182, 3) := dk_182 0 182 (dk_at dksX1_tries_1 14 rfl rfl)
theorem dX1_tries_41 : decode cX1_tries 41 = .ok (.lstore 5, 2) := dk_55 5 (dk_at dksX1_tries_1 17 rfl rfl)
theorem dX1_tries_43 : decode cX1_tries 43 = .ok (.aload_n 0, 1) := dk_42 (dk_at dksX1_tries_1 19 rfl rfl)
theorem dX1_tries_44 : decode cX1_tries 44 = .ok (.dup, 1) := dk_89 (dk_at dksX1_tries_1 20 rfl rfl)
theorem dX1_tries_45 : decode cX1_tries 45 = .ok (.getfield 176, 3) := dk_180 0 176 (dk_at dksX1_tries_1 21 rfl rfl)
theorem dX1_tries_48 : decode cX1_tries 48 = .ok (.iconst 1, 1) := dk_4 (dk_at dksX1_tries_2 0 rfl rfl)
theorem dX1_tries_49 : decode cX1_tries 49 = .ok (.iadd, 1) := dk_96 (dk_at dksX1_tries_2 1 rfl rfl)
theorem dX1_tries_50 : decode cX1_tries 50 = .ok (.putfield 176, 3) := dk_181 0 176 (dk_at dksX1_tries_2 2 rfl rfl)
theorem dX1_tries_53 : decode cX1_tries 53 = .ok (.lload 5, 2) := dk_22 5 (dk_at dksX1_tries_2 5 rfl rfl)
theorem dX1_tries_55 : decode cX1_tries 55 = .ok (.aload_n 0, 1) := dk_42 (dk_at dksX1_tries_2 7 rfl rfl)
theorem dX1_tries_56 : decode cX1_tries 56 = .ok (.getfield 46, 3) := dk_180 0 46 (dk_at dksX1_tries_2 8 rfl rfl)
theorem dX1_tries_59 : decode cX1_tries 59 = .ok (.iload_n 1, 1) := dk_27 (dk_at dksX1_tries_2 11 rfl rfl)
theorem dX1_tries_60 : decode cX1_tries 60 = .ok (.iconst 1, 1) := dk_4 (dk_at dksX1_tries_2 12 rfl rfl)
theorem dX1_tries_61 : decode cX1_tries 61 = .ok (.isub, 1) := dk_100 (dk_at dksX1_tries_2 13 rfl rfl)
theorem dX1_tries_62 : decode cX1_tries 62 = .ok (.aaload, 1) := dk_50 (dk_at dksX1_tries_2 14 rfl rfl)
theorem dX1_tries_63 : decode cX1_tries 63 = .ok (.iload 4, 2) := dk_21 4 (dk_at dksX1_tries_2 15 rfl rfl)
theorem dX1_tries_65 : decode cX1_tries 65 = .ok (.laload, 1) := dk_47 (dk_at dksX1_tries_2 17 rfl rfl)
theorem dX1_tries_66 : decode cX1_tries 66 = .ok (.ladd, 1) := dk_97 (dk_at dksX1_tries_2 18 rfl rfl)
theorem dX1_tries_67 : decode cX1_tries 67 = .ok (.aload_n 0, 1) := dk_42 (dk_at dksX1_tries_2 19 rfl rfl)
theorem dX1_tries_68 : decode cX1_tries 68 = .ok (.getfield 46, 3) := dk_180 0 46 (dk_at dksX1_tries_2 20 rfl rfl)
theorem dX1_tries_71 : decode cX1_tries 71 = .ok (.iload_n 1, 1) := dk_27 (dk_at dksX1_tries_2 23 rfl rfl)
theorem dX1_tries_72 : decode cX1_tries 72 = .ok (.aaload, 1) := dk_50 (dk_at dksX1_tries_3 0 rfl rfl)
theorem dX1_tries_73 : decode cX1_tries 73 = .ok (.iload_n 2, 1) := dk_28 (dk_at dksX1_tries_3 1 rfl rfl)
theorem dX1_tries_74 : decode cX1_tries 74 = .ok (.laload, 1) := dk_47 (dk_at dksX1_tries_3 2 rfl rfl)
theorem dX1_tries_75 : decode cX1_tries 75 = .ok (.lcmp, 1) := dk_148 (dk_at dksX1_tries_3 3 rfl rfl)
theorem dX1_tries_76 : decode cX1_tries 76 = .ok (.ifCond .ge 35, 3) := dk_156 0 35 (dk_at dksX1_tries_3 4 rfl rfl)
theorem dX1_tries_79 : decode cX1_tries 79 = .ok (.aload_n 0, 1) := dk_42 (dk_at dksX1_tries_3 7 rfl rfl)
theorem dX1_tries_80 : decode cX1_tries 80 = .ok (.getfield 46, 3) := dk_180 0 46 (dk_at dksX1_tries_3 8 rfl rfl)
theorem dX1_tries_83 : decode cX1_tries 83 = .ok (.iload_n 1, 1) := dk_27 (dk_at dksX1_tries_3 11 rfl rfl)
theorem dX1_tries_84 : decode cX1_tries 84 = .ok (.aaload, 1) := dk_50 (dk_at dksX1_tries_3 12 rfl rfl)
theorem dX1_tries_85 : decode cX1_tries 85 = .ok (.iload_n 2, 1) := dk_28 (dk_at dksX1_tries_3 13 rfl rfl)
theorem dX1_tries_86 : decode cX1_tries 86 = .ok (.lload 5, 2) := dk_22 5 (dk_at dksX1_tries_3 14 rfl rfl)
theorem dX1_tries_88 : decode cX1_tries 88 = .ok (.aload_n 0, 1) := dk_42 (dk_at dksX1_tries_3 16 rfl rfl)
theorem dX1_tries_89 : decode cX1_tries 89 = .ok (.getfield 46, 3) := dk_180 0 46 (dk_at dksX1_tries_3 17 rfl rfl)
theorem dX1_tries_92 : decode cX1_tries 92 = .ok (.iload_n 1, 1) := dk_27 (dk_at dksX1_tries_3 20 rfl rfl)
theorem dX1_tries_93 : decode cX1_tries 93 = .ok (.iconst 1, 1) := dk_4 (dk_at dksX1_tries_3 21 rfl rfl)
theorem dX1_tries_94 : decode cX1_tries 94 = .ok (.isub, 1) := dk_100 (dk_at dksX1_tries_3 22 rfl rfl)
theorem dX1_tries_95 : decode cX1_tries 95 = .ok (.aaload, 1) := dk_50 (dk_at dksX1_tries_3 23 rfl rfl)
theorem dX1_tries_96 : decode cX1_tries 96 = .ok (.iload 4, 2) := dk_21 4 (dk_at dksX1_tries_4 0 rfl rfl)
theorem dX1_tries_98 : decode cX1_tries 98 = .ok (.laload, 1) := dk_47 (dk_at dksX1_tries_4 2 rfl rfl)
theorem dX1_tries_99 : decode cX1_tries 99 = .ok (.ladd, 1) := dk_97 (dk_at dksX1_tries_4 3 rfl rfl)
theorem dX1_tries_100 : decode cX1_tries 100 = .ok (.lastore, 1) := dk_80 (dk_at dksX1_tries_4 4 rfl rfl)
theorem dX1_tries_101 : decode cX1_tries 101 = .ok (.aload_n 0, 1) := dk_42 (dk_at dksX1_tries_4 5 rfl rfl)
theorem dX1_tries_102 : decode cX1_tries 102 = .ok (.getfield 51, 3) := dk_180 0 51 (dk_at dksX1_tries_4 6 rfl rfl)
theorem dX1_tries_105 : decode cX1_tries 105 = .ok (.iload_n 1, 1) := dk_27 (dk_at dksX1_tries_4 9 rfl rfl)
theorem dX1_tries_106 : decode cX1_tries 106 = .ok (.aaload, 1) := dk_50 (dk_at dksX1_tries_4 10 rfl rfl)
theorem dX1_tries_107 : decode cX1_tries 107 = .ok (.iload_n 2, 1) := dk_28 (dk_at dksX1_tries_4 11 rfl rfl)
theorem dX1_tries_108 : decode cX1_tries 108 = .ok (.iload 4, 2) := dk_21 4 (dk_at dksX1_tries_4 12 rfl rfl)
theorem dX1_tries_110 : decode cX1_tries 110 = .ok (.iastore, 1) := dk_79 (dk_at dksX1_tries_4 14 rfl rfl)
theorem dX1_tries_111 : decode cX1_tries 111 = .ok (.lload 5, 2) := dk_22 5 (dk_at dksX1_tries_4 15 rfl rfl)
theorem dX1_tries_113 : decode cX1_tries 113 = .ok (.aload_n 0, 1) := dk_42 (dk_at dksX1_tries_4 17 rfl rfl)
theorem dX1_tries_114 : decode cX1_tries 114 = .ok (.getfield 46, 3) := dk_180 0 46 (dk_at dksX1_tries_4 18 rfl rfl)
theorem dX1_tries_117 : decode cX1_tries 117 = .ok (.iload_n 1, 1) := dk_27 (dk_at dksX1_tries_4 21 rfl rfl)
theorem dX1_tries_118 : decode cX1_tries 118 = .ok (.aaload, 1) := dk_50 (dk_at dksX1_tries_4 22 rfl rfl)
theorem dX1_tries_119 : decode cX1_tries 119 = .ok (.iload_n 2, 1) := dk_28 (dk_at dksX1_tries_4 23 rfl rfl)
theorem dX1_tries_120 : decode cX1_tries 120 = .ok (.laload, 1) := dk_47 (dk_at dksX1_tries_5 0 rfl rfl)
theorem dX1_tries_121 : decode cX1_tries 121 = .ok (.lcmp, 1) := dk_148 (dk_at dksX1_tries_5 1 rfl rfl)
theorem dX1_tries_122 : decode cX1_tries 122 = .ok (.ifCond .lt 6, 3) := dk_155 0 6 (dk_at dksX1_tries_5 2 rfl rfl)
theorem dX1_tries_125 : decode cX1_tries 125 = .ok (.goto 9, 3) := dk_167 0 9 (dk_at dksX1_tries_5 5 rfl rfl)
theorem dX1_tries_128 : decode cX1_tries 128 = .ok (.iinc 4 1, 3) := dk_132 4 1 (dk_at dksX1_tries_5 8 rfl rfl)
theorem dX1_tries_131 : decode cX1_tries 131 = .ok (.goto (-103), 3) := dk_167 255 153 (dk_at dksX1_tries_5 11 rfl rfl)
theorem dX1_tries_134 : decode cX1_tries 134 = .ok (.return_, 1) := dk_177 (dk_at dksX1_tries_5 14 rfl rfl)
abbrev cX1_unit : ByteArray := prog_1_method_10_code
def yX1_unit : MethodName := ⟨RX1, "unit", "(III)I"⟩
def dkwX1_unit_5 : List UInt8 := [100, 54, 5, 132, 6, 1, 167, 255, 178, 18, 146, 172]
abbrev dktX1_unit_5 : List UInt8 := dkwX1_unit_5 ++ []
def dkwX1_unit_4 : List UInt8 := [180, 0, 155, 21, 5, 50, 29, 182, 0, 159, 172, 21, 5, 25, 4, 180, 0, 148, 21, 6, 50, 180, 0, 152]
abbrev dktX1_unit_4 : List UInt8 := dkwX1_unit_4 ++ dktX1_unit_5
def dkwX1_unit_3 : List UInt8 := [50, 180, 0, 152, 162, 0, 31, 29, 154, 0, 8, 21, 6, 167, 0, 21, 25, 4, 180, 0, 148, 21, 6, 50]
abbrev dktX1_unit_3 : List UInt8 := dkwX1_unit_3 ++ dktX1_unit_4
def dkwX1_unit_2 : List UInt8 := [21, 6, 25, 4, 180, 0, 147, 162, 0, 74, 21, 5, 155, 0, 69, 21, 5, 25, 4, 180, 0, 148, 21, 6]
abbrev dktX1_unit_2 : List UInt8 := dkwX1_unit_2 ++ dktX1_unit_3
def dkwX1_unit_1 : List UInt8 := [184, 0, 97, 154, 0, 6, 18, 146, 172, 42, 180, 0, 27, 27, 50, 58, 4, 28, 54, 5, 3, 54, 6]
abbrev dktX1_unit_1 : List UInt8 := dkwX1_unit_1 ++ dktX1_unit_2
def dkwX1_unit_0 : List UInt8 := [27, 133, 9, 42, 180, 0, 123, 4, 100, 133, 184, 0, 97, 153, 0, 15, 29, 133, 9, 20, 0, 144]
abbrev dktX1_unit_0 : List UInt8 := dkwX1_unit_0 ++ dktX1_unit_1
theorem dksX1_unit_0 : cX1_unit.data.toList.drop 0 = dktX1_unit_0 := by decide +kernel
theorem dksX1_unit_1 : cX1_unit.data.toList.drop 22 = dktX1_unit_1 := dk_seg dksX1_unit_0 22 rfl rfl
theorem dksX1_unit_2 : cX1_unit.data.toList.drop 45 = dktX1_unit_2 := dk_seg dksX1_unit_1 23 rfl rfl
theorem dksX1_unit_3 : cX1_unit.data.toList.drop 69 = dktX1_unit_3 := dk_seg dksX1_unit_2 24 rfl rfl
theorem dksX1_unit_4 : cX1_unit.data.toList.drop 93 = dktX1_unit_4 := dk_seg dksX1_unit_3 24 rfl rfl
theorem dksX1_unit_5 : cX1_unit.data.toList.drop 117 = dktX1_unit_5 := dk_seg dksX1_unit_4 24 rfl rfl
theorem dX1_unit_0 : decode cX1_unit 0 = .ok (.iload_n 1, 1) := dk_27 (dk_at dksX1_unit_0 0 rfl rfl)
theorem dX1_unit_1 : decode cX1_unit 1 = .ok (.i2l, 1) := dk_133 (dk_at dksX1_unit_0 1 rfl rfl)
theorem dX1_unit_2 : decode cX1_unit 2 = .ok (.lconst 0, 1) := dk_9 (dk_at dksX1_unit_0 2 rfl rfl)
theorem dX1_unit_3 : decode cX1_unit 3 = .ok (.aload_n 0, 1) := dk_42 (dk_at dksX1_unit_0 3 rfl rfl)
theorem dX1_unit_4 : decode cX1_unit 4 = .ok (.getfield 123, 3) := dk_180 0 123 (dk_at dksX1_unit_0 4 rfl rfl)
theorem dX1_unit_7 : decode cX1_unit 7 = .ok (.iconst 1, 1) := dk_4 (dk_at dksX1_unit_0 7 rfl rfl)
theorem dX1_unit_8 : decode cX1_unit 8 = .ok (.isub, 1) := dk_100 (dk_at dksX1_unit_0 8 rfl rfl)
theorem dX1_unit_9 : decode cX1_unit 9 = .ok (.i2l, 1) := dk_133 (dk_at dksX1_unit_0 9 rfl rfl)
theorem dX1_unit_10 : decode cX1_unit 10 = .ok (.invokestatic 97, 3) := dk_184 0 97 (dk_at dksX1_unit_0 10 rfl rfl)
theorem dX1_unit_13 : decode cX1_unit 13 = .ok (.ifCond .eq 15, 3) := dk_153 0 15 (dk_at dksX1_unit_0 13 rfl rfl)
theorem dX1_unit_16 : decode cX1_unit 16 = .ok (.iload_n 3, 1) := dk_29 (dk_at dksX1_unit_0 16 rfl rfl)
theorem dX1_unit_17 : decode cX1_unit 17 = .ok (.i2l, 1) := dk_133 (dk_at dksX1_unit_0 17 rfl rfl)
theorem dX1_unit_18 : decode cX1_unit 18 = .ok (.lconst 0, 1) := dk_9 (dk_at dksX1_unit_0 18 rfl rfl)
theorem dX1_unit_19 : decode cX1_unit 19 = .ok (.ldc2_w 144, 3) := dk_20 0 144 (dk_at dksX1_unit_0 19 rfl rfl)
theorem dX1_unit_22 : decode cX1_unit 22 = .ok (.invokestatic 97, 3) := dk_184 0 97 (dk_at dksX1_unit_1 0 rfl rfl)
theorem dX1_unit_25 : decode cX1_unit 25 = .ok (.ifCond .ne 6, 3) := dk_154 0 6 (dk_at dksX1_unit_1 3 rfl rfl)
theorem dX1_unit_28 : decode cX1_unit 28 = .ok (.ldc 146, 2) := dk_18 146 (dk_at dksX1_unit_1 6 rfl rfl)
theorem dX1_unit_30 : decode cX1_unit 30 = .ok (.ireturn, 1) := dk_172 (dk_at dksX1_unit_1 8 rfl rfl)
theorem dX1_unit_31 : decode cX1_unit 31 = .ok (.aload_n 0, 1) := dk_42 (dk_at dksX1_unit_1 9 rfl rfl)
theorem dX1_unit_32 : decode cX1_unit 32 = .ok (.getfield 27, 3) := dk_180 0 27 (dk_at dksX1_unit_1 10 rfl rfl)
theorem dX1_unit_35 : decode cX1_unit 35 = .ok (.iload_n 1, 1) := dk_27 (dk_at dksX1_unit_1 13 rfl rfl)
theorem dX1_unit_36 : decode cX1_unit 36 = .ok (.aaload, 1) := dk_50 (dk_at dksX1_unit_1 14 rfl rfl)
theorem dX1_unit_37 : decode cX1_unit 37 = .ok (.astore 4, 2) := dk_58 4 (dk_at dksX1_unit_1 15 rfl rfl)
theorem dX1_unit_39 : decode cX1_unit 39 = .ok (.iload_n 2, 1) := dk_28 (dk_at dksX1_unit_1 17 rfl rfl)
theorem dX1_unit_40 : decode cX1_unit 40 = .ok (.istore 5, 2) := dk_54 5 (dk_at dksX1_unit_1 18 rfl rfl)
theorem dX1_unit_42 : decode cX1_unit 42 = .ok (.iconst 0, 1) := dk_3 (dk_at dksX1_unit_1 20 rfl rfl)
theorem dX1_unit_43 : decode cX1_unit 43 = .ok (.istore 6, 2) := dk_54 6 (dk_at dksX1_unit_1 21 rfl rfl)
theorem dX1_unit_45 : decode cX1_unit 45 = .ok (.iload 6, 2) := dk_21 6 (dk_at dksX1_unit_2 0 rfl rfl)
theorem dX1_unit_47 : decode cX1_unit 47 = .ok (.aload 4, 2) := dk_25 4 (dk_at dksX1_unit_2 2 rfl rfl)
theorem dX1_unit_49 : decode cX1_unit 49 = .ok (.getfield 147, 3) := dk_180 0 147 (dk_at dksX1_unit_2 4 rfl rfl)
theorem dX1_unit_52 : decode cX1_unit 52 = .ok (.if_icmp .ge 74, 3) := dk_162 0 74 (dk_at dksX1_unit_2 7 rfl rfl)
theorem dX1_unit_55 : decode cX1_unit 55 = .ok (.iload 5, 2) := dk_21 5 (dk_at dksX1_unit_2 10 rfl rfl)
theorem dX1_unit_57 : decode cX1_unit 57 = .ok (.ifCond .lt 69, 3) := dk_155 0 69 (dk_at dksX1_unit_2 12 rfl rfl)
theorem dX1_unit_60 : decode cX1_unit 60 = .ok (.iload 5, 2) := dk_21 5 (dk_at dksX1_unit_2 15 rfl rfl)
theorem dX1_unit_62 : decode cX1_unit 62 = .ok (.aload 4, 2) := dk_25 4 (dk_at dksX1_unit_2 17 rfl rfl)
theorem dX1_unit_64 : decode cX1_unit 64 = .ok (.getfield 148, 3) := dk_180 0 148 (dk_at dksX1_unit_2 19 rfl rfl)
theorem dX1_unit_67 : decode cX1_unit 67 = .ok (.iload 6, 2) := dk_21 6 (dk_at dksX1_unit_2 22 rfl rfl)
theorem dX1_unit_69 : decode cX1_unit 69 = .ok (.aaload, 1) := dk_50 (dk_at dksX1_unit_3 0 rfl rfl)
theorem dX1_unit_70 : decode cX1_unit 70 = .ok (.getfield 152, 3) := dk_180 0 152 (dk_at dksX1_unit_3 1 rfl rfl)
theorem dX1_unit_73 : decode cX1_unit 73 = .ok (.if_icmp .ge 31, 3) := dk_162 0 31 (dk_at dksX1_unit_3 4 rfl rfl)
theorem dX1_unit_76 : decode cX1_unit 76 = .ok (.iload_n 3, 1) := dk_29 (dk_at dksX1_unit_3 7 rfl rfl)
theorem dX1_unit_77 : decode cX1_unit 77 = .ok (.ifCond .ne 8, 3) := dk_154 0 8 (dk_at dksX1_unit_3 8 rfl rfl)
theorem dX1_unit_80 : decode cX1_unit 80 = .ok (.iload 6, 2) := dk_21 6 (dk_at dksX1_unit_3 11 rfl rfl)
theorem dX1_unit_82 : decode cX1_unit 82 = .ok (.goto 21, 3) := dk_167 0 21 (dk_at dksX1_unit_3 13 rfl rfl)
theorem dX1_unit_85 : decode cX1_unit 85 = .ok (.aload 4, 2) := dk_25 4 (dk_at dksX1_unit_3 16 rfl rfl)
theorem dX1_unit_87 : decode cX1_unit 87 = .ok (.getfield 148, 3) := dk_180 0 148 (dk_at dksX1_unit_3 18 rfl rfl)
theorem dX1_unit_90 : decode cX1_unit 90 = .ok (.iload 6, 2) := dk_21 6 (dk_at dksX1_unit_3 21 rfl rfl)
theorem dX1_unit_92 : decode cX1_unit 92 = .ok (.aaload, 1) := dk_50 (dk_at dksX1_unit_3 23 rfl rfl)
theorem dX1_unit_93 : decode cX1_unit 93 = .ok (.getfield 155, 3) := dk_180 0 155 (dk_at dksX1_unit_4 0 rfl rfl)
theorem dX1_unit_96 : decode cX1_unit 96 = .ok (.iload 5, 2) := dk_21 5 (dk_at dksX1_unit_4 3 rfl rfl)
theorem dX1_unit_98 : decode cX1_unit 98 = .ok (.aaload, 1) := dk_50 (dk_at dksX1_unit_4 5 rfl rfl)
theorem dX1_unit_99 : decode cX1_unit 99 = .ok (.iload_n 3, 1) := dk_29 (dk_at dksX1_unit_4 6 rfl rfl)
theorem dX1_unit_100 : decode cX1_unit 100 = .ok (.invokevirtual 159, 3) := dk_182 0 159 (dk_at dksX1_unit_4 7 rfl rfl)
theorem dX1_unit_103 : decode cX1_unit 103 = .ok (.ireturn, 1) := dk_172 (dk_at dksX1_unit_4 10 rfl rfl)
theorem dX1_unit_104 : decode cX1_unit 104 = .ok (.iload 5, 2) := dk_21 5 (dk_at dksX1_unit_4 11 rfl rfl)
theorem dX1_unit_106 : decode cX1_unit 106 = .ok (.aload 4, 2) := dk_25 4 (dk_at dksX1_unit_4 13 rfl rfl)
theorem dX1_unit_108 : decode cX1_unit 108 = .ok (.getfield 148, 3) := dk_180 0 148 (dk_at dksX1_unit_4 15 rfl rfl)
theorem dX1_unit_111 : decode cX1_unit 111 = .ok (.iload 6, 2) := dk_21 6 (dk_at dksX1_unit_4 18 rfl rfl)
theorem dX1_unit_113 : decode cX1_unit 113 = .ok (.aaload, 1) := dk_50 (dk_at dksX1_unit_4 20 rfl rfl)
theorem dX1_unit_114 : decode cX1_unit 114 = .ok (.getfield 152, 3) := dk_180 0 152 (dk_at dksX1_unit_4 21 rfl rfl)
theorem dX1_unit_117 : decode cX1_unit 117 = .ok (.isub, 1) := dk_100 (dk_at dksX1_unit_5 0 rfl rfl)
theorem dX1_unit_118 : decode cX1_unit 118 = .ok (.istore 5, 2) := dk_54 5 (dk_at dksX1_unit_5 1 rfl rfl)
theorem dX1_unit_120 : decode cX1_unit 120 = .ok (.iinc 6 1, 3) := dk_132 6 1 (dk_at dksX1_unit_5 3 rfl rfl)
theorem dX1_unit_123 : decode cX1_unit 123 = .ok (.goto (-78), 3) := dk_167 255 178 (dk_at dksX1_unit_5 6 rfl rfl)
theorem dX1_unit_126 : decode cX1_unit 126 = .ok (.ldc 146, 2) := dk_18 146 (dk_at dksX1_unit_5 9 rfl rfl)
theorem dX1_unit_128 : decode cX1_unit 128 = .ok (.ireturn, 1) := dk_172 (dk_at dksX1_unit_5 11 rfl rfl)
abbrev cX1_rule : ByteArray := prog_1_method_19_code
def yX1_rule : MethodName := ⟨RX1, "rule", "(I)I"⟩
def dkwX1_rule_2 : List UInt8 := [46, 172]
abbrev dktX1_rule_2 : List UInt8 := dkwX1_rule_2 ++ []
def dkwX1_rule_1 : List UInt8 := [160, 0, 13, 42, 180, 0, 59, 180, 0, 204, 167, 0, 15, 42, 180, 0, 93, 180, 0, 207, 180, 0, 211, 27]
abbrev dktX1_rule_1 : List UInt8 := dkwX1_rule_1 ++ dktX1_rule_2
def dkwX1_rule_0 : List UInt8 := [42, 180, 0, 93, 198, 0, 15, 27, 133, 9, 20, 0, 202, 184, 0, 97, 154, 0, 5, 2, 172, 27, 5]
abbrev dktX1_rule_0 : List UInt8 := dkwX1_rule_0 ++ dktX1_rule_1
theorem dksX1_rule_0 : cX1_rule.data.toList.drop 0 = dktX1_rule_0 := by decide +kernel
theorem dksX1_rule_1 : cX1_rule.data.toList.drop 23 = dktX1_rule_1 := dk_seg dksX1_rule_0 23 rfl rfl
theorem dksX1_rule_2 : cX1_rule.data.toList.drop 47 = dktX1_rule_2 := dk_seg dksX1_rule_1 24 rfl rfl
theorem dX1_rule_0 : decode cX1_rule 0 = .ok (.aload_n 0, 1) := dk_42 (dk_at dksX1_rule_0 0 rfl rfl)
theorem dX1_rule_1 : decode cX1_rule 1 = .ok (.getfield 93, 3) := dk_180 0 93 (dk_at dksX1_rule_0 1 rfl rfl)
theorem dX1_rule_4 : decode cX1_rule 4 = .ok (.ifnull 15, 3) := dk_198 0 15 (dk_at dksX1_rule_0 4 rfl rfl)
theorem dX1_rule_7 : decode cX1_rule 7 = .ok (.iload_n 1, 1) := dk_27 (dk_at dksX1_rule_0 7 rfl rfl)
theorem dX1_rule_8 : decode cX1_rule 8 = .ok (.i2l, 1) := dk_133 (dk_at dksX1_rule_0 8 rfl rfl)
theorem dX1_rule_9 : decode cX1_rule 9 = .ok (.lconst 0, 1) := dk_9 (dk_at dksX1_rule_0 9 rfl rfl)
theorem dX1_rule_10 : decode cX1_rule 10 = .ok (.ldc2_w 202, 3) := dk_20 0 202 (dk_at dksX1_rule_0 10 rfl rfl)
theorem dX1_rule_13 : decode cX1_rule 13 = .ok (.invokestatic 97, 3) := dk_184 0 97 (dk_at dksX1_rule_0 13 rfl rfl)
theorem dX1_rule_16 : decode cX1_rule 16 = .ok (.ifCond .ne 5, 3) := dk_154 0 5 (dk_at dksX1_rule_0 16 rfl rfl)
theorem dX1_rule_19 : decode cX1_rule 19 = .ok (.iconst (-1), 1) := dk_2 (dk_at dksX1_rule_0 19 rfl rfl)
theorem dX1_rule_20 : decode cX1_rule 20 = .ok (.ireturn, 1) := dk_172 (dk_at dksX1_rule_0 20 rfl rfl)
theorem dX1_rule_21 : decode cX1_rule 21 = .ok (.iload_n 1, 1) := dk_27 (dk_at dksX1_rule_0 21 rfl rfl)
theorem dX1_rule_22 : decode cX1_rule 22 = .ok (.iconst 2, 1) := dk_5 (dk_at dksX1_rule_0 22 rfl rfl)
theorem dX1_rule_23 : decode cX1_rule 23 = .ok (.if_icmp .ne 13, 3) := dk_160 0 13 (dk_at dksX1_rule_1 0 rfl rfl)
theorem dX1_rule_26 : decode cX1_rule 26 = .ok (.aload_n 0, 1) := dk_42 (dk_at dksX1_rule_1 3 rfl rfl)
theorem dX1_rule_27 : decode cX1_rule 27 = .ok (.getfield 59, 3) := dk_180 0 59 (dk_at dksX1_rule_1 4 rfl rfl)
theorem dX1_rule_30 : decode cX1_rule 30 = .ok (.getfield 204, 3) := dk_180 0 204 (dk_at dksX1_rule_1 7 rfl rfl)
theorem dX1_rule_33 : decode cX1_rule 33 = .ok (.goto 15, 3) := dk_167 0 15 (dk_at dksX1_rule_1 10 rfl rfl)
theorem dX1_rule_36 : decode cX1_rule 36 = .ok (.aload_n 0, 1) := dk_42 (dk_at dksX1_rule_1 13 rfl rfl)
theorem dX1_rule_37 : decode cX1_rule 37 = .ok (.getfield 93, 3) := dk_180 0 93 (dk_at dksX1_rule_1 14 rfl rfl)
theorem dX1_rule_40 : decode cX1_rule 40 = .ok (.getfield 207, 3) := dk_180 0 207 (dk_at dksX1_rule_1 17 rfl rfl)
theorem dX1_rule_43 : decode cX1_rule 43 = .ok (.getfield 211, 3) := dk_180 0 211 (dk_at dksX1_rule_1 20 rfl rfl)
theorem dX1_rule_46 : decode cX1_rule 46 = .ok (.iload_n 1, 1) := dk_27 (dk_at dksX1_rule_1 23 rfl rfl)
theorem dX1_rule_47 : decode cX1_rule 47 = .ok (.iaload, 1) := dk_46 (dk_at dksX1_rule_2 0 rfl rfl)
theorem dX1_rule_48 : decode cX1_rule 48 = .ok (.ireturn, 1) := dk_172 (dk_at dksX1_rule_2 1 rfl rfl)
abbrev cX1_rows : ByteArray := prog_1_method_22_code
def yX1_rows : MethodName := ⟨RX1, "rows", "(III)I"⟩
def dkwX1_rows_1 : List UInt8 := [172]
abbrev dktX1_rows_1 : List UInt8 := dkwX1_rows_1 ++ []
def dkwX1_rows_0 : List UInt8 := [42, 27, 28, 29, 182, 0, 231, 153, 0, 16, 42, 27, 182, 0, 218, 28, 29, 182, 0, 235, 167, 0, 4, 2]
abbrev dktX1_rows_0 : List UInt8 := dkwX1_rows_0 ++ dktX1_rows_1
theorem dksX1_rows_0 : cX1_rows.data.toList.drop 0 = dktX1_rows_0 := by decide +kernel
theorem dksX1_rows_1 : cX1_rows.data.toList.drop 24 = dktX1_rows_1 := dk_seg dksX1_rows_0 24 rfl rfl
theorem dX1_rows_0 : decode cX1_rows 0 = .ok (.aload_n 0, 1) := dk_42 (dk_at dksX1_rows_0 0 rfl rfl)
theorem dX1_rows_1 : decode cX1_rows 1 = .ok (.iload_n 1, 1) := dk_27 (dk_at dksX1_rows_0 1 rfl rfl)
theorem dX1_rows_2 : decode cX1_rows 2 = .ok (.iload_n 2, 1) := dk_28 (dk_at dksX1_rows_0 2 rfl rfl)
theorem dX1_rows_3 : decode cX1_rows 3 = .ok (.iload_n 3, 1) := dk_29 (dk_at dksX1_rows_0 3 rfl rfl)
theorem dX1_rows_4 : decode cX1_rows 4 = .ok (.invokevirtual 231, 3) := dk_182 0 231 (dk_at dksX1_rows_0 4 rfl rfl)
theorem dX1_rows_7 : decode cX1_rows 7 = .ok (.ifCond .eq 16, 3) := dk_153 0 16 (dk_at dksX1_rows_0 7 rfl rfl)
theorem dX1_rows_10 : decode cX1_rows 10 = .ok (.aload_n 0, 1) := dk_42 (dk_at dksX1_rows_0 10 rfl rfl)
theorem dX1_rows_11 : decode cX1_rows 11 = .ok (.iload_n 1, 1) := dk_27 (dk_at dksX1_rows_0 11 rfl rfl)
theorem dX1_rows_12 : decode cX1_rows 12 = .ok (.invokevirtual 218, 3) := dk_182 0 218 (dk_at dksX1_rows_0 12 rfl rfl)
theorem dX1_rows_15 : decode cX1_rows 15 = .ok (.iload_n 2, 1) := dk_28 (dk_at dksX1_rows_0 15 rfl rfl)
theorem dX1_rows_16 : decode cX1_rows 16 = .ok (.iload_n 3, 1) := dk_29 (dk_at dksX1_rows_0 16 rfl rfl)
theorem dX1_rows_17 : decode cX1_rows 17 = .ok (.invokevirtual 235, 3) := dk_182 0 235 (dk_at dksX1_rows_0 17 rfl rfl)
theorem dX1_rows_20 : decode cX1_rows 20 = .ok (.goto 4, 3) := dk_167 0 4 (dk_at dksX1_rows_0 20 rfl rfl)
theorem dX1_rows_23 : decode cX1_rows 23 = .ok (.iconst (-1), 1) := dk_2 (dk_at dksX1_rows_0 23 rfl rfl)
theorem dX1_rows_24 : decode cX1_rows 24 = .ok (.ireturn, 1) := dk_172 (dk_at dksX1_rows_1 0 rfl rfl)
abbrev cX1_isPair : ByteArray := prog_1_method_21_code
def yX1_isPair : MethodName := ⟨RX1, "isPair", "(III)Z"⟩
def dkwX1_isPair_1 : List UInt8 := [182, 0, 218, 29, 182, 0, 228, 153, 0, 7, 4, 167, 0, 4, 3, 172]
abbrev dktX1_isPair_1 : List UInt8 := dkwX1_isPair_1 ++ []
def dkwX1_isPair_0 : List UInt8 := [42, 27, 182, 0, 194, 153, 0, 31, 42, 27, 182, 0, 218, 28, 182, 0, 228, 153, 0, 19, 42, 27]
abbrev dktX1_isPair_0 : List UInt8 := dkwX1_isPair_0 ++ dktX1_isPair_1
theorem dksX1_isPair_0 : cX1_isPair.data.toList.drop 0 = dktX1_isPair_0 := by decide +kernel
theorem dksX1_isPair_1 : cX1_isPair.data.toList.drop 22 = dktX1_isPair_1 := dk_seg dksX1_isPair_0 22 rfl rfl
theorem dX1_isPair_0 : decode cX1_isPair 0 = .ok (.aload_n 0, 1) := dk_42 (dk_at dksX1_isPair_0 0 rfl rfl)
theorem dX1_isPair_1 : decode cX1_isPair 1 = .ok (.iload_n 1, 1) := dk_27 (dk_at dksX1_isPair_0 1 rfl rfl)
theorem dX1_isPair_2 : decode cX1_isPair 2 = .ok (.invokevirtual 194, 3) := dk_182 0 194 (dk_at dksX1_isPair_0 2 rfl rfl)
theorem dX1_isPair_5 : decode cX1_isPair 5 = .ok (.ifCond .eq 31, 3) := dk_153 0 31 (dk_at dksX1_isPair_0 5 rfl rfl)
theorem dX1_isPair_8 : decode cX1_isPair 8 = .ok (.aload_n 0, 1) := dk_42 (dk_at dksX1_isPair_0 8 rfl rfl)
theorem dX1_isPair_9 : decode cX1_isPair 9 = .ok (.iload_n 1, 1) := dk_27 (dk_at dksX1_isPair_0 9 rfl rfl)
theorem dX1_isPair_10 : decode cX1_isPair 10 = .ok (.invokevirtual 218, 3) := dk_182 0 218 (dk_at dksX1_isPair_0 10 rfl rfl)
theorem dX1_isPair_13 : decode cX1_isPair 13 = .ok (.iload_n 2, 1) := dk_28 (dk_at dksX1_isPair_0 13 rfl rfl)
theorem dX1_isPair_14 : decode cX1_isPair 14 = .ok (.invokevirtual 228, 3) := dk_182 0 228 (dk_at dksX1_isPair_0 14 rfl rfl)
theorem dX1_isPair_17 : decode cX1_isPair 17 = .ok (.ifCond .eq 19, 3) := dk_153 0 19 (dk_at dksX1_isPair_0 17 rfl rfl)
theorem dX1_isPair_20 : decode cX1_isPair 20 = .ok (.aload_n 0, 1) := dk_42 (dk_at dksX1_isPair_0 20 rfl rfl)
theorem dX1_isPair_21 : decode cX1_isPair 21 = .ok (.iload_n 1, 1) := dk_27 (dk_at dksX1_isPair_0 21 rfl rfl)
theorem dX1_isPair_22 : decode cX1_isPair 22 = .ok (.invokevirtual 218, 3) := dk_182 0 218 (dk_at dksX1_isPair_1 0 rfl rfl)
theorem dX1_isPair_25 : decode cX1_isPair 25 = .ok (.iload_n 3, 1) := dk_29 (dk_at dksX1_isPair_1 3 rfl rfl)
theorem dX1_isPair_26 : decode cX1_isPair 26 = .ok (.invokevirtual 228, 3) := dk_182 0 228 (dk_at dksX1_isPair_1 4 rfl rfl)
theorem dX1_isPair_29 : decode cX1_isPair 29 = .ok (.ifCond .eq 7, 3) := dk_153 0 7 (dk_at dksX1_isPair_1 7 rfl rfl)
theorem dX1_isPair_32 : decode cX1_isPair 32 = .ok (.iconst 1, 1) := dk_4 (dk_at dksX1_isPair_1 10 rfl rfl)
theorem dX1_isPair_33 : decode cX1_isPair 33 = .ok (.goto 4, 3) := dk_167 0 4 (dk_at dksX1_isPair_1 11 rfl rfl)
theorem dX1_isPair_36 : decode cX1_isPair 36 = .ok (.iconst 0, 1) := dk_3 (dk_at dksX1_isPair_1 14 rfl rfl)
theorem dX1_isPair_37 : decode cX1_isPair 37 = .ok (.ireturn, 1) := dk_172 (dk_at dksX1_isPair_1 15 rfl rfl)
abbrev cX1_isTable : ByteArray := prog_1_method_15_code
def yX1_isTable : MethodName := ⟨RX1, "isTable", "(I)Z"⟩
def dkwX1_isTable_1 : List UInt8 := [167, 0, 4, 3, 172]
abbrev dktX1_isTable_1 : List UInt8 := dkwX1_isTable_1 ++ []
def dkwX1_isTable_0 : List UInt8 := [42, 180, 0, 93, 198, 0, 22, 27, 155, 0, 18, 27, 42, 180, 0, 93, 180, 0, 139, 162, 0, 7, 4]
abbrev dktX1_isTable_0 : List UInt8 := dkwX1_isTable_0 ++ dktX1_isTable_1
theorem dksX1_isTable_0 : cX1_isTable.data.toList.drop 0 = dktX1_isTable_0 := by decide +kernel
theorem dksX1_isTable_1 : cX1_isTable.data.toList.drop 23 = dktX1_isTable_1 := dk_seg dksX1_isTable_0 23 rfl rfl
theorem dX1_isTable_0 : decode cX1_isTable 0 = .ok (.aload_n 0, 1) := dk_42 (dk_at dksX1_isTable_0 0 rfl rfl)
theorem dX1_isTable_1 : decode cX1_isTable 1 = .ok (.getfield 93, 3) := dk_180 0 93 (dk_at dksX1_isTable_0 1 rfl rfl)
theorem dX1_isTable_4 : decode cX1_isTable 4 = .ok (.ifnull 22, 3) := dk_198 0 22 (dk_at dksX1_isTable_0 4 rfl rfl)
theorem dX1_isTable_7 : decode cX1_isTable 7 = .ok (.iload_n 1, 1) := dk_27 (dk_at dksX1_isTable_0 7 rfl rfl)
theorem dX1_isTable_8 : decode cX1_isTable 8 = .ok (.ifCond .lt 18, 3) := dk_155 0 18 (dk_at dksX1_isTable_0 8 rfl rfl)
theorem dX1_isTable_11 : decode cX1_isTable 11 = .ok (.iload_n 1, 1) := dk_27 (dk_at dksX1_isTable_0 11 rfl rfl)
theorem dX1_isTable_12 : decode cX1_isTable 12 = .ok (.aload_n 0, 1) := dk_42 (dk_at dksX1_isTable_0 12 rfl rfl)
theorem dX1_isTable_13 : decode cX1_isTable 13 = .ok (.getfield 93, 3) := dk_180 0 93 (dk_at dksX1_isTable_0 13 rfl rfl)
theorem dX1_isTable_16 : decode cX1_isTable 16 = .ok (.getfield 139, 3) := dk_180 0 139 (dk_at dksX1_isTable_0 16 rfl rfl)
theorem dX1_isTable_19 : decode cX1_isTable 19 = .ok (.if_icmp .ge 7, 3) := dk_162 0 7 (dk_at dksX1_isTable_0 19 rfl rfl)
theorem dX1_isTable_22 : decode cX1_isTable 22 = .ok (.iconst 1, 1) := dk_4 (dk_at dksX1_isTable_0 22 rfl rfl)
theorem dX1_isTable_23 : decode cX1_isTable 23 = .ok (.goto 4, 3) := dk_167 0 4 (dk_at dksX1_isTable_1 0 rfl rfl)
theorem dX1_isTable_26 : decode cX1_isTable 26 = .ok (.iconst 0, 1) := dk_3 (dk_at dksX1_isTable_1 3 rfl rfl)
theorem dX1_isTable_27 : decode cX1_isTable 27 = .ok (.ireturn, 1) := dk_172 (dk_at dksX1_isTable_1 4 rfl rfl)
abbrev cX1_sheet : ByteArray := prog_1_method_18_code
def yX1_sheet : MethodName := ⟨RX1, "sheet", "(I)LSafeBuckets$Sheet;"⟩
def dkwX1_sheet_0 : List UInt8 := [42, 180, 0, 59, 180, 0, 198, 27, 50, 176]
abbrev dktX1_sheet_0 : List UInt8 := dkwX1_sheet_0 ++ []
theorem dksX1_sheet_0 : cX1_sheet.data.toList.drop 0 = dktX1_sheet_0 := by decide +kernel
theorem dX1_sheet_0 : decode cX1_sheet 0 = .ok (.aload_n 0, 1) := dk_42 (dk_at dksX1_sheet_0 0 rfl rfl)
theorem dX1_sheet_1 : decode cX1_sheet 1 = .ok (.getfield 59, 3) := dk_180 0 59 (dk_at dksX1_sheet_0 1 rfl rfl)
theorem dX1_sheet_4 : decode cX1_sheet 4 = .ok (.getfield 198, 3) := dk_180 0 198 (dk_at dksX1_sheet_0 4 rfl rfl)
theorem dX1_sheet_7 : decode cX1_sheet 7 = .ok (.iload_n 1, 1) := dk_27 (dk_at dksX1_sheet_0 7 rfl rfl)
theorem dX1_sheet_8 : decode cX1_sheet 8 = .ok (.aaload, 1) := dk_50 (dk_at dksX1_sheet_0 8 rfl rfl)
theorem dX1_sheet_9 : decode cX1_sheet 9 = .ok (.areturn, 1) := dk_176 (dk_at dksX1_sheet_0 9 rfl rfl)
abbrev cX1_countOf : ByteArray := prog_1_method_23_code
def yX1_countOf : MethodName := ⟨RX1, "countOf", "(III)I"⟩
def dkwX1_countOf_1 : List UInt8 := [184, 0, 97, 153, 0, 16, 42, 27, 182, 0, 218, 28, 29, 182, 0, 167, 167, 0, 4, 2, 172]
abbrev dktX1_countOf_1 : List UInt8 := dkwX1_countOf_1 ++ []
def dkwX1_countOf_0 : List UInt8 := [42, 27, 28, 182, 0, 238, 153, 0, 36, 29, 133, 9, 42, 27, 182, 0, 218, 180, 0, 164, 4, 100, 133]
abbrev dktX1_countOf_0 : List UInt8 := dkwX1_countOf_0 ++ dktX1_countOf_1
theorem dksX1_countOf_0 : cX1_countOf.data.toList.drop 0 = dktX1_countOf_0 := by decide +kernel
theorem dksX1_countOf_1 : cX1_countOf.data.toList.drop 23 = dktX1_countOf_1 := dk_seg dksX1_countOf_0 23 rfl rfl
theorem dX1_countOf_0 : decode cX1_countOf 0 = .ok (.aload_n 0, 1) := dk_42 (dk_at dksX1_countOf_0 0 rfl rfl)
theorem dX1_countOf_1 : decode cX1_countOf 1 = .ok (.iload_n 1, 1) := dk_27 (dk_at dksX1_countOf_0 1 rfl rfl)
theorem dX1_countOf_2 : decode cX1_countOf 2 = .ok (.iload_n 2, 1) := dk_28 (dk_at dksX1_countOf_0 2 rfl rfl)
theorem dX1_countOf_3 : decode cX1_countOf 3 = .ok (.invokevirtual 238, 3) := dk_182 0 238 (dk_at dksX1_countOf_0 3 rfl rfl)
theorem dX1_countOf_6 : decode cX1_countOf 6 = .ok (.ifCond .eq 36, 3) := dk_153 0 36 (dk_at dksX1_countOf_0 6 rfl rfl)
theorem dX1_countOf_9 : decode cX1_countOf 9 = .ok (.iload_n 3, 1) := dk_29 (dk_at dksX1_countOf_0 9 rfl rfl)
theorem dX1_countOf_10 : decode cX1_countOf 10 = .ok (.i2l, 1) := dk_133 (dk_at dksX1_countOf_0 10 rfl rfl)
theorem dX1_countOf_11 : decode cX1_countOf 11 = .ok (.lconst 0, 1) := dk_9 (dk_at dksX1_countOf_0 11 rfl rfl)
theorem dX1_countOf_12 : decode cX1_countOf 12 = .ok (.aload_n 0, 1) := dk_42 (dk_at dksX1_countOf_0 12 rfl rfl)
theorem dX1_countOf_13 : decode cX1_countOf 13 = .ok (.iload_n 1, 1) := dk_27 (dk_at dksX1_countOf_0 13 rfl rfl)
theorem dX1_countOf_14 : decode cX1_countOf 14 = .ok (.invokevirtual 218, 3) := dk_182 0 218 (dk_at dksX1_countOf_0 14 rfl rfl)
theorem dX1_countOf_17 : decode cX1_countOf 17 = .ok (.getfield 164, 3) := dk_180 0 164 (dk_at dksX1_countOf_0 17 rfl rfl)
theorem dX1_countOf_20 : decode cX1_countOf 20 = .ok (.iconst 1, 1) := dk_4 (dk_at dksX1_countOf_0 20 rfl rfl)
theorem dX1_countOf_21 : decode cX1_countOf 21 = .ok (.isub, 1) := dk_100 (dk_at dksX1_countOf_0 21 rfl rfl)
theorem dX1_countOf_22 : decode cX1_countOf 22 = .ok (.i2l, 1) := dk_133 (dk_at dksX1_countOf_0 22 rfl rfl)
theorem dX1_countOf_23 : decode cX1_countOf 23 = .ok (.invokestatic 97, 3) := dk_184 0 97 (dk_at dksX1_countOf_1 0 rfl rfl)
theorem dX1_countOf_26 : decode cX1_countOf 26 = .ok (.ifCond .eq 16, 3) := dk_153 0 16 (dk_at dksX1_countOf_1 3 rfl rfl)
theorem dX1_countOf_29 : decode cX1_countOf 29 = .ok (.aload_n 0, 1) := dk_42 (dk_at dksX1_countOf_1 6 rfl rfl)
theorem dX1_countOf_30 : decode cX1_countOf 30 = .ok (.iload_n 1, 1) := dk_27 (dk_at dksX1_countOf_1 7 rfl rfl)
theorem dX1_countOf_31 : decode cX1_countOf 31 = .ok (.invokevirtual 218, 3) := dk_182 0 218 (dk_at dksX1_countOf_1 8 rfl rfl)
theorem dX1_countOf_34 : decode cX1_countOf 34 = .ok (.iload_n 2, 1) := dk_28 (dk_at dksX1_countOf_1 11 rfl rfl)
theorem dX1_countOf_35 : decode cX1_countOf 35 = .ok (.iload_n 3, 1) := dk_29 (dk_at dksX1_countOf_1 12 rfl rfl)
theorem dX1_countOf_36 : decode cX1_countOf 36 = .ok (.invokevirtual 167, 3) := dk_182 0 167 (dk_at dksX1_countOf_1 13 rfl rfl)
theorem dX1_countOf_39 : decode cX1_countOf 39 = .ok (.goto 4, 3) := dk_167 0 4 (dk_at dksX1_countOf_1 16 rfl rfl)
theorem dX1_countOf_42 : decode cX1_countOf 42 = .ok (.iconst (-1), 1) := dk_2 (dk_at dksX1_countOf_1 19 rfl rfl)
theorem dX1_countOf_43 : decode cX1_countOf 43 = .ok (.ireturn, 1) := dk_172 (dk_at dksX1_countOf_1 20 rfl rfl)
abbrev cX1_isColumn : ByteArray := prog_1_method_16_code
def yX1_isColumn : MethodName := ⟨RX1, "isColumn", "(II)Z"⟩
def dkwX1_isColumn_0 : List UInt8 := [42, 27, 182, 0, 194, 153, 0, 17, 28, 133, 9, 10, 184, 0, 97, 153, 0, 7, 4, 167, 0, 4, 3, 172]
abbrev dktX1_isColumn_0 : List UInt8 := dkwX1_isColumn_0 ++ []
theorem dksX1_isColumn_0 : cX1_isColumn.data.toList.drop 0 = dktX1_isColumn_0 := by decide +kernel
theorem dX1_isColumn_0 : decode cX1_isColumn 0 = .ok (.aload_n 0, 1) := dk_42 (dk_at dksX1_isColumn_0 0 rfl rfl)
theorem dX1_isColumn_1 : decode cX1_isColumn 1 = .ok (.iload_n 1, 1) := dk_27 (dk_at dksX1_isColumn_0 1 rfl rfl)
theorem dX1_isColumn_2 : decode cX1_isColumn 2 = .ok (.invokevirtual 194, 3) := dk_182 0 194 (dk_at dksX1_isColumn_0 2 rfl rfl)
theorem dX1_isColumn_5 : decode cX1_isColumn 5 = .ok (.ifCond .eq 17, 3) := dk_153 0 17 (dk_at dksX1_isColumn_0 5 rfl rfl)
theorem dX1_isColumn_8 : decode cX1_isColumn 8 = .ok (.iload_n 2, 1) := dk_28 (dk_at dksX1_isColumn_0 8 rfl rfl)
theorem dX1_isColumn_9 : decode cX1_isColumn 9 = .ok (.i2l, 1) := dk_133 (dk_at dksX1_isColumn_0 9 rfl rfl)
theorem dX1_isColumn_10 : decode cX1_isColumn 10 = .ok (.lconst 0, 1) := dk_9 (dk_at dksX1_isColumn_0 10 rfl rfl)
theorem dX1_isColumn_11 : decode cX1_isColumn 11 = .ok (.lconst 1, 1) := dk_10 (dk_at dksX1_isColumn_0 11 rfl rfl)
theorem dX1_isColumn_12 : decode cX1_isColumn 12 = .ok (.invokestatic 97, 3) := dk_184 0 97 (dk_at dksX1_isColumn_0 12 rfl rfl)
theorem dX1_isColumn_15 : decode cX1_isColumn 15 = .ok (.ifCond .eq 7, 3) := dk_153 0 7 (dk_at dksX1_isColumn_0 15 rfl rfl)
theorem dX1_isColumn_18 : decode cX1_isColumn 18 = .ok (.iconst 1, 1) := dk_4 (dk_at dksX1_isColumn_0 18 rfl rfl)
theorem dX1_isColumn_19 : decode cX1_isColumn 19 = .ok (.goto 4, 3) := dk_167 0 4 (dk_at dksX1_isColumn_0 19 rfl rfl)
theorem dX1_isColumn_22 : decode cX1_isColumn 22 = .ok (.iconst 0, 1) := dk_3 (dk_at dksX1_isColumn_0 22 rfl rfl)
theorem dX1_isColumn_23 : decode cX1_isColumn 23 = .ok (.ireturn, 1) := dk_172 (dk_at dksX1_isColumn_0 23 rfl rfl)
abbrev cX1_bucket : ByteArray := prog_1_method_24_code
def yX1_bucket : MethodName := ⟨RX1, "bucket", "(IIII)I"⟩
def dkwX1_bucket_3 : List UInt8 := [182, 0, 253, 172]
abbrev dktX1_bucket_3 : List UInt8 := dkwX1_bucket_3 ++ []
def dkwX1_bucket_2 : List UInt8 := [154, 0, 6, 18, 146, 172, 42, 27, 182, 0, 218, 180, 0, 242, 28, 50, 180, 0, 249, 29, 50, 21, 4]
abbrev dktX1_bucket_2 : List UInt8 := dkwX1_bucket_2 ++ dktX1_bucket_3
def dkwX1_bucket_1 : List UInt8 := [180, 0, 246, 4, 100, 133, 184, 0, 97, 153, 0, 16, 21, 4, 133, 9, 20, 0, 144, 184, 0, 97]
abbrev dktX1_bucket_1 : List UInt8 := dkwX1_bucket_1 ++ dktX1_bucket_2
def dkwX1_bucket_0 : List UInt8 := [42, 27, 28, 182, 0, 238, 153, 0, 41, 29, 133, 9, 42, 27, 182, 0, 218, 180, 0, 242, 28, 50]
abbrev dktX1_bucket_0 : List UInt8 := dkwX1_bucket_0 ++ dktX1_bucket_1
theorem dksX1_bucket_0 : cX1_bucket.data.toList.drop 0 = dktX1_bucket_0 := by decide +kernel
theorem dksX1_bucket_1 : cX1_bucket.data.toList.drop 22 = dktX1_bucket_1 := dk_seg dksX1_bucket_0 22 rfl rfl
theorem dksX1_bucket_2 : cX1_bucket.data.toList.drop 44 = dktX1_bucket_2 := dk_seg dksX1_bucket_1 22 rfl rfl
theorem dksX1_bucket_3 : cX1_bucket.data.toList.drop 67 = dktX1_bucket_3 := dk_seg dksX1_bucket_2 23 rfl rfl
theorem dX1_bucket_0 : decode cX1_bucket 0 = .ok (.aload_n 0, 1) := dk_42 (dk_at dksX1_bucket_0 0 rfl rfl)
theorem dX1_bucket_1 : decode cX1_bucket 1 = .ok (.iload_n 1, 1) := dk_27 (dk_at dksX1_bucket_0 1 rfl rfl)
theorem dX1_bucket_2 : decode cX1_bucket 2 = .ok (.iload_n 2, 1) := dk_28 (dk_at dksX1_bucket_0 2 rfl rfl)
theorem dX1_bucket_3 : decode cX1_bucket 3 = .ok (.invokevirtual 238, 3) := dk_182 0 238 (dk_at dksX1_bucket_0 3 rfl rfl)
theorem dX1_bucket_6 : decode cX1_bucket 6 = .ok (.ifCond .eq 41, 3) := dk_153 0 41 (dk_at dksX1_bucket_0 6 rfl rfl)
theorem dX1_bucket_9 : decode cX1_bucket 9 = .ok (.iload_n 3, 1) := dk_29 (dk_at dksX1_bucket_0 9 rfl rfl)
theorem dX1_bucket_10 : decode cX1_bucket 10 = .ok (.i2l, 1) := dk_133 (dk_at dksX1_bucket_0 10 rfl rfl)
theorem dX1_bucket_11 : decode cX1_bucket 11 = .ok (.lconst 0, 1) := dk_9 (dk_at dksX1_bucket_0 11 rfl rfl)
theorem dX1_bucket_12 : decode cX1_bucket 12 = .ok (.aload_n 0, 1) := dk_42 (dk_at dksX1_bucket_0 12 rfl rfl)
theorem dX1_bucket_13 : decode cX1_bucket 13 = .ok (.iload_n 1, 1) := dk_27 (dk_at dksX1_bucket_0 13 rfl rfl)
theorem dX1_bucket_14 : decode cX1_bucket 14 = .ok (.invokevirtual 218, 3) := dk_182 0 218 (dk_at dksX1_bucket_0 14 rfl rfl)
theorem dX1_bucket_17 : decode cX1_bucket 17 = .ok (.getfield 242, 3) := dk_180 0 242 (dk_at dksX1_bucket_0 17 rfl rfl)
theorem dX1_bucket_20 : decode cX1_bucket 20 = .ok (.iload_n 2, 1) := dk_28 (dk_at dksX1_bucket_0 20 rfl rfl)
theorem dX1_bucket_21 : decode cX1_bucket 21 = .ok (.aaload, 1) := dk_50 (dk_at dksX1_bucket_0 21 rfl rfl)
theorem dX1_bucket_22 : decode cX1_bucket 22 = .ok (.getfield 246, 3) := dk_180 0 246 (dk_at dksX1_bucket_1 0 rfl rfl)
theorem dX1_bucket_25 : decode cX1_bucket 25 = .ok (.iconst 1, 1) := dk_4 (dk_at dksX1_bucket_1 3 rfl rfl)
theorem dX1_bucket_26 : decode cX1_bucket 26 = .ok (.isub, 1) := dk_100 (dk_at dksX1_bucket_1 4 rfl rfl)
theorem dX1_bucket_27 : decode cX1_bucket 27 = .ok (.i2l, 1) := dk_133 (dk_at dksX1_bucket_1 5 rfl rfl)
theorem dX1_bucket_28 : decode cX1_bucket 28 = .ok (.invokestatic 97, 3) := dk_184 0 97 (dk_at dksX1_bucket_1 6 rfl rfl)
theorem dX1_bucket_31 : decode cX1_bucket 31 = .ok (.ifCond .eq 16, 3) := dk_153 0 16 (dk_at dksX1_bucket_1 9 rfl rfl)
theorem dX1_bucket_34 : decode cX1_bucket 34 = .ok (.iload 4, 2) := dk_21 4 (dk_at dksX1_bucket_1 12 rfl rfl)
theorem dX1_bucket_36 : decode cX1_bucket 36 = .ok (.i2l, 1) := dk_133 (dk_at dksX1_bucket_1 14 rfl rfl)
theorem dX1_bucket_37 : decode cX1_bucket 37 = .ok (.lconst 0, 1) := dk_9 (dk_at dksX1_bucket_1 15 rfl rfl)
theorem dX1_bucket_38 : decode cX1_bucket 38 = .ok (.ldc2_w 144, 3) := dk_20 0 144 (dk_at dksX1_bucket_1 16 rfl rfl)
theorem dX1_bucket_41 : decode cX1_bucket 41 = .ok (.invokestatic 97, 3) := dk_184 0 97 (dk_at dksX1_bucket_1 19 rfl rfl)
theorem dX1_bucket_44 : decode cX1_bucket 44 = .ok (.ifCond .ne 6, 3) := dk_154 0 6 (dk_at dksX1_bucket_2 0 rfl rfl)
theorem dX1_bucket_47 : decode cX1_bucket 47 = .ok (.ldc 146, 2) := dk_18 146 (dk_at dksX1_bucket_2 3 rfl rfl)
theorem dX1_bucket_49 : decode cX1_bucket 49 = .ok (.ireturn, 1) := dk_172 (dk_at dksX1_bucket_2 5 rfl rfl)
theorem dX1_bucket_50 : decode cX1_bucket 50 = .ok (.aload_n 0, 1) := dk_42 (dk_at dksX1_bucket_2 6 rfl rfl)
theorem dX1_bucket_51 : decode cX1_bucket 51 = .ok (.iload_n 1, 1) := dk_27 (dk_at dksX1_bucket_2 7 rfl rfl)
theorem dX1_bucket_52 : decode cX1_bucket 52 = .ok (.invokevirtual 218, 3) := dk_182 0 218 (dk_at dksX1_bucket_2 8 rfl rfl)
theorem dX1_bucket_55 : decode cX1_bucket 55 = .ok (.getfield 242, 3) := dk_180 0 242 (dk_at dksX1_bucket_2 11 rfl rfl)
theorem dX1_bucket_58 : decode cX1_bucket 58 = .ok (.iload_n 2, 1) := dk_28 (dk_at dksX1_bucket_2 14 rfl rfl)
theorem dX1_bucket_59 : decode cX1_bucket 59 = .ok (.aaload, 1) := dk_50 (dk_at dksX1_bucket_2 15 rfl rfl)
theorem dX1_bucket_60 : decode cX1_bucket 60 = .ok (.getfield 249, 3) := dk_180 0 249 (dk_at dksX1_bucket_2 16 rfl rfl)
theorem dX1_bucket_63 : decode cX1_bucket 63 = .ok (.iload_n 3, 1) := dk_29 (dk_at dksX1_bucket_2 19 rfl rfl)
theorem dX1_bucket_64 : decode cX1_bucket 64 = .ok (.aaload, 1) := dk_50 (dk_at dksX1_bucket_2 20 rfl rfl)
theorem dX1_bucket_65 : decode cX1_bucket 65 = .ok (.iload 4, 2) := dk_21 4 (dk_at dksX1_bucket_2 21 rfl rfl)
theorem dX1_bucket_67 : decode cX1_bucket 67 = .ok (.invokevirtual 253, 3) := dk_182 0 253 (dk_at dksX1_bucket_3 0 rfl rfl)
theorem dX1_bucket_70 : decode cX1_bucket 70 = .ok (.ireturn, 1) := dk_172 (dk_at dksX1_bucket_3 3 rfl rfl)
abbrev cX1_column : ByteArray := prog_1_method_26_code
def yX1_column : MethodName := ⟨RX1, "column", "(III)I"⟩
def dkwX1_column_3 : List UInt8 := [180, 0, 93, 180, 0, 207, 180, 0, 211, 4, 46, 25, 4, 180, 1, 6, 100, 172, 2, 172]
abbrev dktX1_column_3 : List UInt8 := dkwX1_column_3 ++ []
def dkwX1_column_2 : List UInt8 := [25, 4, 180, 0, 246, 172, 25, 4, 180, 1, 6, 172, 42, 42, 27, 182, 0, 218, 28, 182, 1, 9, 172, 42]
abbrev dktX1_column_2 : List UInt8 := dkwX1_column_2 ++ dktX1_column_3
def dkwX1_column_1 : List UInt8 := [170, 0, 0, 0, 0, 0, 0, 74, 0, 0, 0, 0, 0, 0, 0, 3, 0, 0, 0, 32, 0, 0, 0, 38, 0, 0, 0, 44, 0, 0, 0, 55]
abbrev dktX1_column_1 : List UInt8 := dkwX1_column_1 ++ dktX1_column_2
def dkwX1_column_0 : List UInt8 := [42, 27, 28, 182, 0, 238, 154, 0, 5, 2, 172, 42, 27, 182, 0, 218, 180, 0, 242, 28, 50, 58, 4, 29]
abbrev dktX1_column_0 : List UInt8 := dkwX1_column_0 ++ dktX1_column_1
theorem dksX1_column_0 : cX1_column.data.toList.drop 0 = dktX1_column_0 := by decide +kernel
theorem dksX1_column_1 : cX1_column.data.toList.drop 24 = dktX1_column_1 := dk_seg dksX1_column_0 24 rfl rfl
theorem dksX1_column_2 : cX1_column.data.toList.drop 56 = dktX1_column_2 := dk_seg dksX1_column_1 32 rfl rfl
theorem dksX1_column_3 : cX1_column.data.toList.drop 80 = dktX1_column_3 := dk_seg dksX1_column_2 24 rfl rfl
theorem dX1_column_0 : decode cX1_column 0 = .ok (.aload_n 0, 1) := dk_42 (dk_at dksX1_column_0 0 rfl rfl)
theorem dX1_column_1 : decode cX1_column 1 = .ok (.iload_n 1, 1) := dk_27 (dk_at dksX1_column_0 1 rfl rfl)
theorem dX1_column_2 : decode cX1_column 2 = .ok (.iload_n 2, 1) := dk_28 (dk_at dksX1_column_0 2 rfl rfl)
theorem dX1_column_3 : decode cX1_column 3 = .ok (.invokevirtual 238, 3) := dk_182 0 238 (dk_at dksX1_column_0 3 rfl rfl)
theorem dX1_column_6 : decode cX1_column 6 = .ok (.ifCond .ne 5, 3) := dk_154 0 5 (dk_at dksX1_column_0 6 rfl rfl)
theorem dX1_column_9 : decode cX1_column 9 = .ok (.iconst (-1), 1) := dk_2 (dk_at dksX1_column_0 9 rfl rfl)
theorem dX1_column_10 : decode cX1_column 10 = .ok (.ireturn, 1) := dk_172 (dk_at dksX1_column_0 10 rfl rfl)
theorem dX1_column_11 : decode cX1_column 11 = .ok (.aload_n 0, 1) := dk_42 (dk_at dksX1_column_0 11 rfl rfl)
theorem dX1_column_12 : decode cX1_column 12 = .ok (.iload_n 1, 1) := dk_27 (dk_at dksX1_column_0 12 rfl rfl)
theorem dX1_column_13 : decode cX1_column 13 = .ok (.invokevirtual 218, 3) := dk_182 0 218 (dk_at dksX1_column_0 13 rfl rfl)
theorem dX1_column_16 : decode cX1_column 16 = .ok (.getfield 242, 3) := dk_180 0 242 (dk_at dksX1_column_0 16 rfl rfl)
theorem dX1_column_19 : decode cX1_column 19 = .ok (.iload_n 2, 1) := dk_28 (dk_at dksX1_column_0 19 rfl rfl)
theorem dX1_column_20 : decode cX1_column 20 = .ok (.aaload, 1) := dk_50 (dk_at dksX1_column_0 20 rfl rfl)
theorem dX1_column_21 : decode cX1_column 21 = .ok (.astore 4, 2) := dk_58 4 (dk_at dksX1_column_0 21 rfl rfl)
theorem dX1_column_23 : decode cX1_column 23 = .ok (.iload_n 3, 1) := dk_29 (dk_at dksX1_column_0 23 rfl rfl)
theorem dX1_column_24 : decode cX1_column 24 = .ok (.tableswitch 74 0 3 #[32, 38, 44, 55], 32) := by decide +kernel
theorem dX1_column_56 : decode cX1_column 56 = .ok (.aload 4, 2) := dk_25 4 (dk_at dksX1_column_2 0 rfl rfl)
theorem dX1_column_58 : decode cX1_column 58 = .ok (.getfield 246, 3) := dk_180 0 246 (dk_at dksX1_column_2 2 rfl rfl)
theorem dX1_column_61 : decode cX1_column 61 = .ok (.ireturn, 1) := dk_172 (dk_at dksX1_column_2 5 rfl rfl)
theorem dX1_column_62 : decode cX1_column 62 = .ok (.aload 4, 2) := dk_25 4 (dk_at dksX1_column_2 6 rfl rfl)
theorem dX1_column_64 : decode cX1_column 64 = .ok (.getfield 262, 3) := dk_180 1 6 (dk_at dksX1_column_2 8 rfl rfl)
theorem dX1_column_67 : decode cX1_column 67 = .ok (.ireturn, 1) := dk_172 (dk_at dksX1_column_2 11 rfl rfl)
theorem dX1_column_68 : decode cX1_column 68 = .ok (.aload_n 0, 1) := dk_42 (dk_at dksX1_column_2 12 rfl rfl)
theorem dX1_column_69 : decode cX1_column 69 = .ok (.aload_n 0, 1) := dk_42 (dk_at dksX1_column_2 13 rfl rfl)
theorem dX1_column_70 : decode cX1_column 70 = .ok (.iload_n 1, 1) := dk_27 (dk_at dksX1_column_2 14 rfl rfl)
theorem dX1_column_71 : decode cX1_column 71 = .ok (.invokevirtual 218, 3) := dk_182 0 218 (dk_at dksX1_column_2 15 rfl rfl)
theorem dX1_column_74 : decode cX1_column 74 = .ok (.iload_n 2, 1) := dk_28 (dk_at dksX1_column_2 18 rfl rfl)
theorem dX1_column_75 : decode cX1_column 75 = .ok (.invokevirtual 265, 3) := dk_182 1 9 (dk_at dksX1_column_2 19 rfl rfl)
theorem dX1_column_78 : decode cX1_column 78 = .ok (.ireturn, 1) := dk_172 (dk_at dksX1_column_2 22 rfl rfl)
theorem dX1_column_79 : decode cX1_column 79 = .ok (.aload_n 0, 1) := dk_42 (dk_at dksX1_column_2 23 rfl rfl)
theorem dX1_column_80 : decode cX1_column 80 = .ok (.getfield 93, 3) := dk_180 0 93 (dk_at dksX1_column_3 0 rfl rfl)
theorem dX1_column_83 : decode cX1_column 83 = .ok (.getfield 207, 3) := dk_180 0 207 (dk_at dksX1_column_3 3 rfl rfl)
theorem dX1_column_86 : decode cX1_column 86 = .ok (.getfield 211, 3) := dk_180 0 211 (dk_at dksX1_column_3 6 rfl rfl)
theorem dX1_column_89 : decode cX1_column 89 = .ok (.iconst 1, 1) := dk_4 (dk_at dksX1_column_3 9 rfl rfl)
theorem dX1_column_90 : decode cX1_column 90 = .ok (.iaload, 1) := dk_46 (dk_at dksX1_column_3 10 rfl rfl)
theorem dX1_column_91 : decode cX1_column 91 = .ok (.aload 4, 2) := dk_25 4 (dk_at dksX1_column_3 11 rfl rfl)
theorem dX1_column_93 : decode cX1_column 93 = .ok (.getfield 262, 3) := dk_180 1 6 (dk_at dksX1_column_3 13 rfl rfl)
theorem dX1_column_96 : decode cX1_column 96 = .ok (.isub, 1) := dk_100 (dk_at dksX1_column_3 16 rfl rfl)
theorem dX1_column_97 : decode cX1_column 97 = .ok (.ireturn, 1) := dk_172 (dk_at dksX1_column_3 17 rfl rfl)
theorem dX1_column_98 : decode cX1_column 98 = .ok (.iconst (-1), 1) := dk_2 (dk_at dksX1_column_3 18 rfl rfl)
theorem dX1_column_99 : decode cX1_column 99 = .ok (.ireturn, 1) := dk_172 (dk_at dksX1_column_3 19 rfl rfl)
abbrev cX1_worst : ByteArray := prog_1_method_25_code
def yX1_worst : MethodName := ⟨RX1, "worst", "(LSafeBuckets$Sheet;I)I"⟩
def dkwX1_worst_4 : List UInt8 := [167, 255, 184, 21, 4, 172]
abbrev dktX1_worst_4 : List UInt8 := dkwX1_worst_4 ++ []
def dkwX1_worst_3 : List UInt8 := [21, 4, 50, 180, 1, 3, 4, 96, 182, 0, 182, 148, 158, 0, 7, 21, 5, 54, 4, 132, 5, 1]
abbrev dktX1_worst_3 : List UInt8 := dkwX1_worst_3 ++ dktX1_worst_4
def dkwX1_worst_2 : List UInt8 := [180, 1, 3, 4, 96, 182, 0, 182, 42, 45, 180, 0, 249, 21, 4, 50, 180, 1, 0, 45, 180, 0, 249]
abbrev dktX1_worst_2 : List UInt8 := dkwX1_worst_2 ++ dktX1_worst_3
def dkwX1_worst_1 : List UInt8 := [180, 0, 246, 162, 0, 69, 42, 45, 180, 0, 249, 21, 5, 50, 180, 1, 0, 45, 180, 0, 249, 21, 5, 50]
abbrev dktX1_worst_1 : List UInt8 := dkwX1_worst_1 ++ dktX1_worst_2
def dkwX1_worst_0 : List UInt8 := [42, 43, 28, 182, 0, 173, 43, 180, 0, 242, 28, 50, 78, 3, 54, 4, 4, 54, 5, 21, 5, 45]
abbrev dktX1_worst_0 : List UInt8 := dkwX1_worst_0 ++ dktX1_worst_1
theorem dksX1_worst_0 : cX1_worst.data.toList.drop 0 = dktX1_worst_0 := by decide +kernel
theorem dksX1_worst_1 : cX1_worst.data.toList.drop 22 = dktX1_worst_1 := dk_seg dksX1_worst_0 22 rfl rfl
theorem dksX1_worst_2 : cX1_worst.data.toList.drop 46 = dktX1_worst_2 := dk_seg dksX1_worst_1 24 rfl rfl
theorem dksX1_worst_3 : cX1_worst.data.toList.drop 69 = dktX1_worst_3 := dk_seg dksX1_worst_2 23 rfl rfl
theorem dksX1_worst_4 : cX1_worst.data.toList.drop 91 = dktX1_worst_4 := dk_seg dksX1_worst_3 22 rfl rfl
theorem dX1_worst_0 : decode cX1_worst 0 = .ok (.aload_n 0, 1) := dk_42 (dk_at dksX1_worst_0 0 rfl rfl)
theorem dX1_worst_1 : decode cX1_worst 1 = .ok (.aload_n 1, 1) := dk_43 (dk_at dksX1_worst_0 1 rfl rfl)
theorem dX1_worst_2 : decode cX1_worst 2 = .ok (.iload_n 2, 1) := dk_28 (dk_at dksX1_worst_0 2 rfl rfl)
theorem dX1_worst_3 : decode cX1_worst 3 = .ok (.invokevirtual 173, 3) := dk_182 0 173 (dk_at dksX1_worst_0 3 rfl rfl)
theorem dX1_worst_6 : decode cX1_worst 6 = .ok (.aload_n 1, 1) := dk_43 (dk_at dksX1_worst_0 6 rfl rfl)
theorem dX1_worst_7 : decode cX1_worst 7 = .ok (.getfield 242, 3) := dk_180 0 242 (dk_at dksX1_worst_0 7 rfl rfl)
theorem dX1_worst_10 : decode cX1_worst 10 = .ok (.iload_n 2, 1) := dk_28 (dk_at dksX1_worst_0 10 rfl rfl)
theorem dX1_worst_11 : decode cX1_worst 11 = .ok (.aaload, 1) := dk_50 (dk_at dksX1_worst_0 11 rfl rfl)
theorem dX1_worst_12 : decode cX1_worst 12 = .ok (.astore_n 3, 1) := dk_78 (dk_at dksX1_worst_0 12 rfl rfl)
theorem dX1_worst_13 : decode cX1_worst 13 = .ok (.iconst 0, 1) := dk_3 (dk_at dksX1_worst_0 13 rfl rfl)
theorem dX1_worst_14 : decode cX1_worst 14 = .ok (.istore 4, 2) := dk_54 4 (dk_at dksX1_worst_0 14 rfl rfl)
theorem dX1_worst_16 : decode cX1_worst 16 = .ok (.iconst 1, 1) := dk_4 (dk_at dksX1_worst_0 16 rfl rfl)
theorem dX1_worst_17 : decode cX1_worst 17 = .ok (.istore 5, 2) := dk_54 5 (dk_at dksX1_worst_0 17 rfl rfl)
theorem dX1_worst_19 : decode cX1_worst 19 = .ok (.iload 5, 2) := dk_21 5 (dk_at dksX1_worst_0 19 rfl rfl)
theorem dX1_worst_21 : decode cX1_worst 21 = .ok (.aload_n 3, 1) := dk_45 (dk_at dksX1_worst_0 21 rfl rfl)
theorem dX1_worst_22 : decode cX1_worst 22 = .ok (.getfield 246, 3) := dk_180 0 246 (dk_at dksX1_worst_1 0 rfl rfl)
theorem dX1_worst_25 : decode cX1_worst 25 = .ok (.if_icmp .ge 69, 3) := dk_162 0 69 (dk_at dksX1_worst_1 3 rfl rfl)
theorem dX1_worst_28 : decode cX1_worst 28 = .ok (.aload_n 0, 1) := dk_42 (dk_at dksX1_worst_1 6 rfl rfl)
theorem dX1_worst_29 : decode cX1_worst 29 = .ok (.aload_n 3, 1) := dk_45 (dk_at dksX1_worst_1 7 rfl rfl)
theorem dX1_worst_30 : decode cX1_worst 30 = .ok (.getfield 249, 3) := dk_180 0 249 (dk_at dksX1_worst_1 8 rfl rfl)
theorem dX1_worst_33 : decode cX1_worst 33 = .ok (.iload 5, 2) := dk_21 5 (dk_at dksX1_worst_1 11 rfl rfl)
theorem dX1_worst_35 : decode cX1_worst 35 = .ok (.aaload, 1) := dk_50 (dk_at dksX1_worst_1 13 rfl rfl)
theorem dX1_worst_36 : decode cX1_worst 36 = .ok (.getfield 256, 3) := dk_180 1 0 (dk_at dksX1_worst_1 14 rfl rfl)
theorem dX1_worst_39 : decode cX1_worst 39 = .ok (.aload_n 3, 1) := dk_45 (dk_at dksX1_worst_1 17 rfl rfl)
theorem dX1_worst_40 : decode cX1_worst 40 = .ok (.getfield 249, 3) := dk_180 0 249 (dk_at dksX1_worst_1 18 rfl rfl)
theorem dX1_worst_43 : decode cX1_worst 43 = .ok (.iload 5, 2) := dk_21 5 (dk_at dksX1_worst_1 21 rfl rfl)
theorem dX1_worst_45 : decode cX1_worst 45 = .ok (.aaload, 1) := dk_50 (dk_at dksX1_worst_1 23 rfl rfl)
theorem dX1_worst_46 : decode cX1_worst 46 = .ok (.getfield 259, 3) := dk_180 1 3 (dk_at dksX1_worst_2 0 rfl rfl)
theorem dX1_worst_49 : decode cX1_worst 49 = .ok (.iconst 1, 1) := dk_4 (dk_at dksX1_worst_2 3 rfl rfl)
theorem dX1_worst_50 : decode cX1_worst 50 = .ok (.iadd, 1) := dk_96 (dk_at dksX1_worst_2 4 rfl rfl)
theorem dX1_worst_51 : decode cX1_worst 51 = .ok (.invokevirtual 182, 3) := dk_182 0 182 (dk_at dksX1_worst_2 5 rfl rfl)
theorem dX1_worst_54 : decode cX1_worst 54 = .ok (.aload_n 0, 1) := dk_42 (dk_at dksX1_worst_2 8 rfl rfl)
theorem dX1_worst_55 : decode cX1_worst 55 = .ok (.aload_n 3, 1) := dk_45 (dk_at dksX1_worst_2 9 rfl rfl)
theorem dX1_worst_56 : decode cX1_worst 56 = .ok (.getfield 249, 3) := dk_180 0 249 (dk_at dksX1_worst_2 10 rfl rfl)
theorem dX1_worst_59 : decode cX1_worst 59 = .ok (.iload 4, 2) := dk_21 4 (dk_at dksX1_worst_2 13 rfl rfl)
theorem dX1_worst_61 : decode cX1_worst 61 = .ok (.aaload, 1) := dk_50 (dk_at dksX1_worst_2 15 rfl rfl)
theorem dX1_worst_62 : decode cX1_worst 62 = .ok (.getfield 256, 3) := dk_180 1 0 (dk_at dksX1_worst_2 16 rfl rfl)
theorem dX1_worst_65 : decode cX1_worst 65 = .ok (.aload_n 3, 1) := dk_45 (dk_at dksX1_worst_2 19 rfl rfl)
theorem dX1_worst_66 : decode cX1_worst 66 = .ok (.getfield 249, 3) := dk_180 0 249 (dk_at dksX1_worst_2 20 rfl rfl)
theorem dX1_worst_69 : decode cX1_worst 69 = .ok (.iload 4, 2) := dk_21 4 (dk_at dksX1_worst_3 0 rfl rfl)
theorem dX1_worst_71 : decode cX1_worst 71 = .ok (.aaload, 1) := dk_50 (dk_at dksX1_worst_3 2 rfl rfl)
theorem dX1_worst_72 : decode cX1_worst 72 = .ok (.getfield 259, 3) := dk_180 1 3 (dk_at dksX1_worst_3 3 rfl rfl)
theorem dX1_worst_75 : decode cX1_worst 75 = .ok (.iconst 1, 1) := dk_4 (dk_at dksX1_worst_3 6 rfl rfl)
theorem dX1_worst_76 : decode cX1_worst 76 = .ok (.iadd, 1) := dk_96 (dk_at dksX1_worst_3 7 rfl rfl)
theorem dX1_worst_77 : decode cX1_worst 77 = .ok (.invokevirtual 182, 3) := dk_182 0 182 (dk_at dksX1_worst_3 8 rfl rfl)
theorem dX1_worst_80 : decode cX1_worst 80 = .ok (.lcmp, 1) := dk_148 (dk_at dksX1_worst_3 11 rfl rfl)
theorem dX1_worst_81 : decode cX1_worst 81 = .ok (.ifCond .le 7, 3) := dk_158 0 7 (dk_at dksX1_worst_3 12 rfl rfl)
theorem dX1_worst_84 : decode cX1_worst 84 = .ok (.iload 5, 2) := dk_21 5 (dk_at dksX1_worst_3 15 rfl rfl)
theorem dX1_worst_86 : decode cX1_worst 86 = .ok (.istore 4, 2) := dk_54 4 (dk_at dksX1_worst_3 17 rfl rfl)
theorem dX1_worst_88 : decode cX1_worst 88 = .ok (.iinc 5 1, 3) := dk_132 5 1 (dk_at dksX1_worst_3 19 rfl rfl)
theorem dX1_worst_91 : decode cX1_worst 91 = .ok (.goto (-72), 3) := dk_167 255 184 (dk_at dksX1_worst_4 0 rfl rfl)
theorem dX1_worst_94 : decode cX1_worst 94 = .ok (.iload 4, 2) := dk_21 4 (dk_at dksX1_worst_4 3 rfl rfl)
theorem dX1_worst_96 : decode cX1_worst 96 = .ok (.ireturn, 1) := dk_172 (dk_at dksX1_worst_4 5 rfl rfl)
abbrev cX1_error : ByteArray := prog_1_method_28_code
def yX1_error : MethodName := ⟨RX1, "error", "(III)J"⟩
def dkwX1_error_1 : List UInt8 := [182, 1, 18, 42, 180, 0, 46, 29, 50, 3, 47, 173]
abbrev dktX1_error_1 : List UInt8 := dkwX1_error_1 ++ []
def dkwX1_error_0 : List UInt8 := [42, 27, 28, 29, 182, 1, 13, 154, 0, 7, 20, 1, 16, 173, 42, 42, 27, 182, 0, 218, 28, 29]
abbrev dktX1_error_0 : List UInt8 := dkwX1_error_0 ++ dktX1_error_1
theorem dksX1_error_0 : cX1_error.data.toList.drop 0 = dktX1_error_0 := by decide +kernel
theorem dksX1_error_1 : cX1_error.data.toList.drop 22 = dktX1_error_1 := dk_seg dksX1_error_0 22 rfl rfl
theorem dX1_error_0 : decode cX1_error 0 = .ok (.aload_n 0, 1) := dk_42 (dk_at dksX1_error_0 0 rfl rfl)
theorem dX1_error_1 : decode cX1_error 1 = .ok (.iload_n 1, 1) := dk_27 (dk_at dksX1_error_0 1 rfl rfl)
theorem dX1_error_2 : decode cX1_error 2 = .ok (.iload_n 2, 1) := dk_28 (dk_at dksX1_error_0 2 rfl rfl)
theorem dX1_error_3 : decode cX1_error 3 = .ok (.iload_n 3, 1) := dk_29 (dk_at dksX1_error_0 3 rfl rfl)
theorem dX1_error_4 : decode cX1_error 4 = .ok (.invokevirtual 269, 3) := dk_182 1 13 (dk_at dksX1_error_0 4 rfl rfl)
theorem dX1_error_7 : decode cX1_error 7 = .ok (.ifCond .ne 7, 3) := dk_154 0 7 (dk_at dksX1_error_0 7 rfl rfl)
theorem dX1_error_10 : decode cX1_error 10 = .ok (.ldc2_w 272, 3) := dk_20 1 16 (dk_at dksX1_error_0 10 rfl rfl)
theorem dX1_error_13 : decode cX1_error 13 = .ok (.lreturn, 1) := dk_173 (dk_at dksX1_error_0 13 rfl rfl)
theorem dX1_error_14 : decode cX1_error 14 = .ok (.aload_n 0, 1) := dk_42 (dk_at dksX1_error_0 14 rfl rfl)
theorem dX1_error_15 : decode cX1_error 15 = .ok (.aload_n 0, 1) := dk_42 (dk_at dksX1_error_0 15 rfl rfl)
theorem dX1_error_16 : decode cX1_error 16 = .ok (.iload_n 1, 1) := dk_27 (dk_at dksX1_error_0 16 rfl rfl)
theorem dX1_error_17 : decode cX1_error 17 = .ok (.invokevirtual 218, 3) := dk_182 0 218 (dk_at dksX1_error_0 17 rfl rfl)
theorem dX1_error_20 : decode cX1_error 20 = .ok (.iload_n 2, 1) := dk_28 (dk_at dksX1_error_0 20 rfl rfl)
theorem dX1_error_21 : decode cX1_error 21 = .ok (.iload_n 3, 1) := dk_29 (dk_at dksX1_error_0 21 rfl rfl)
theorem dX1_error_22 : decode cX1_error 22 = .ok (.invokevirtual 274, 3) := dk_182 1 18 (dk_at dksX1_error_1 0 rfl rfl)
theorem dX1_error_25 : decode cX1_error 25 = .ok (.aload_n 0, 1) := dk_42 (dk_at dksX1_error_1 3 rfl rfl)
theorem dX1_error_26 : decode cX1_error 26 = .ok (.getfield 46, 3) := dk_180 0 46 (dk_at dksX1_error_1 4 rfl rfl)
theorem dX1_error_29 : decode cX1_error 29 = .ok (.iload_n 3, 1) := dk_29 (dk_at dksX1_error_1 7 rfl rfl)
theorem dX1_error_30 : decode cX1_error 30 = .ok (.aaload, 1) := dk_50 (dk_at dksX1_error_1 8 rfl rfl)
theorem dX1_error_31 : decode cX1_error 31 = .ok (.iconst 0, 1) := dk_3 (dk_at dksX1_error_1 9 rfl rfl)
theorem dX1_error_32 : decode cX1_error 32 = .ok (.laload, 1) := dk_47 (dk_at dksX1_error_1 10 rfl rfl)
theorem dX1_error_33 : decode cX1_error 33 = .ok (.lreturn, 1) := dk_173 (dk_at dksX1_error_1 11 rfl rfl)
abbrev cX1_isSplit : ByteArray := prog_1_method_27_code
def yX1_isSplit : MethodName := ⟨RX1, "isSplit", "(III)Z"⟩
def dkwX1_isSplit_1 : List UInt8 := [153, 0, 7, 4, 167, 0, 4, 3, 172]
abbrev dktX1_isSplit_1 : List UInt8 := dkwX1_isSplit_1 ++ []
def dkwX1_isSplit_0 : List UInt8 := [42, 27, 28, 182, 0, 238, 153, 0, 25, 29, 133, 10, 42, 27, 182, 0, 218, 180, 0, 164, 133, 184, 0, 97]
abbrev dktX1_isSplit_0 : List UInt8 := dkwX1_isSplit_0 ++ dktX1_isSplit_1
theorem dksX1_isSplit_0 : cX1_isSplit.data.toList.drop 0 = dktX1_isSplit_0 := by decide +kernel
theorem dksX1_isSplit_1 : cX1_isSplit.data.toList.drop 24 = dktX1_isSplit_1 := dk_seg dksX1_isSplit_0 24 rfl rfl
theorem dX1_isSplit_0 : decode cX1_isSplit 0 = .ok (.aload_n 0, 1) := dk_42 (dk_at dksX1_isSplit_0 0 rfl rfl)
theorem dX1_isSplit_1 : decode cX1_isSplit 1 = .ok (.iload_n 1, 1) := dk_27 (dk_at dksX1_isSplit_0 1 rfl rfl)
theorem dX1_isSplit_2 : decode cX1_isSplit 2 = .ok (.iload_n 2, 1) := dk_28 (dk_at dksX1_isSplit_0 2 rfl rfl)
theorem dX1_isSplit_3 : decode cX1_isSplit 3 = .ok (.invokevirtual 238, 3) := dk_182 0 238 (dk_at dksX1_isSplit_0 3 rfl rfl)
theorem dX1_isSplit_6 : decode cX1_isSplit 6 = .ok (.ifCond .eq 25, 3) := dk_153 0 25 (dk_at dksX1_isSplit_0 6 rfl rfl)
theorem dX1_isSplit_9 : decode cX1_isSplit 9 = .ok (.iload_n 3, 1) := dk_29 (dk_at dksX1_isSplit_0 9 rfl rfl)
theorem dX1_isSplit_10 : decode cX1_isSplit 10 = .ok (.i2l, 1) := dk_133 (dk_at dksX1_isSplit_0 10 rfl rfl)
theorem dX1_isSplit_11 : decode cX1_isSplit 11 = .ok (.lconst 1, 1) := dk_10 (dk_at dksX1_isSplit_0 11 rfl rfl)
theorem dX1_isSplit_12 : decode cX1_isSplit 12 = .ok (.aload_n 0, 1) := dk_42 (dk_at dksX1_isSplit_0 12 rfl rfl)
theorem dX1_isSplit_13 : decode cX1_isSplit 13 = .ok (.iload_n 1, 1) := dk_27 (dk_at dksX1_isSplit_0 13 rfl rfl)
theorem dX1_isSplit_14 : decode cX1_isSplit 14 = .ok (.invokevirtual 218, 3) := dk_182 0 218 (dk_at dksX1_isSplit_0 14 rfl rfl)
theorem dX1_isSplit_17 : decode cX1_isSplit 17 = .ok (.getfield 164, 3) := dk_180 0 164 (dk_at dksX1_isSplit_0 17 rfl rfl)
theorem dX1_isSplit_20 : decode cX1_isSplit 20 = .ok (.i2l, 1) := dk_133 (dk_at dksX1_isSplit_0 20 rfl rfl)
theorem dX1_isSplit_21 : decode cX1_isSplit 21 = .ok (.invokestatic 97, 3) := dk_184 0 97 (dk_at dksX1_isSplit_0 21 rfl rfl)
theorem dX1_isSplit_24 : decode cX1_isSplit 24 = .ok (.ifCond .eq 7, 3) := dk_153 0 7 (dk_at dksX1_isSplit_1 0 rfl rfl)
theorem dX1_isSplit_27 : decode cX1_isSplit 27 = .ok (.iconst 1, 1) := dk_4 (dk_at dksX1_isSplit_1 3 rfl rfl)
theorem dX1_isSplit_28 : decode cX1_isSplit 28 = .ok (.goto 4, 3) := dk_167 0 4 (dk_at dksX1_isSplit_1 4 rfl rfl)
theorem dX1_isSplit_31 : decode cX1_isSplit 31 = .ok (.iconst 0, 1) := dk_3 (dk_at dksX1_isSplit_1 7 rfl rfl)
theorem dX1_isSplit_32 : decode cX1_isSplit 32 = .ok (.ireturn, 1) := dk_172 (dk_at dksX1_isSplit_1 8 rfl rfl)
abbrev cX1_border : ByteArray := prog_1_method_29_code
def yX1_border : MethodName := ⟨RX1, "border", "(IIII)I"⟩
def dkwX1_border_3 : List UInt8 := [21, 5, 172]
abbrev dktX1_border_3 : List UInt8 := dkwX1_border_3 ++ []
def dkwX1_border_2 : List UInt8 := [162, 0, 23, 42, 180, 0, 51, 29, 21, 6, 100, 50, 21, 5, 46, 54, 5, 132, 6, 1, 167, 255, 232]
abbrev dktX1_border_2 : List UInt8 := dkwX1_border_2 ++ dktX1_border_3
def dkwX1_border_1 : List UInt8 := [2, 172, 42, 42, 27, 182, 0, 218, 28, 29, 182, 1, 18, 3, 54, 5, 3, 54, 6, 21, 6, 21, 4]
abbrev dktX1_border_1 : List UInt8 := dkwX1_border_1 ++ dktX1_border_2
def dkwX1_border_0 : List UInt8 := [42, 27, 28, 29, 182, 1, 13, 153, 0, 17, 21, 4, 133, 9, 29, 4, 100, 133, 184, 0, 97, 154, 0, 5]
abbrev dktX1_border_0 : List UInt8 := dkwX1_border_0 ++ dktX1_border_1
theorem dksX1_border_0 : cX1_border.data.toList.drop 0 = dktX1_border_0 := by decide +kernel
theorem dksX1_border_1 : cX1_border.data.toList.drop 24 = dktX1_border_1 := dk_seg dksX1_border_0 24 rfl rfl
theorem dksX1_border_2 : cX1_border.data.toList.drop 47 = dktX1_border_2 := dk_seg dksX1_border_1 23 rfl rfl
theorem dksX1_border_3 : cX1_border.data.toList.drop 70 = dktX1_border_3 := dk_seg dksX1_border_2 23 rfl rfl
theorem dX1_border_0 : decode cX1_border 0 = .ok (.aload_n 0, 1) := dk_42 (dk_at dksX1_border_0 0 rfl rfl)
theorem dX1_border_1 : decode cX1_border 1 = .ok (.iload_n 1, 1) := dk_27 (dk_at dksX1_border_0 1 rfl rfl)
theorem dX1_border_2 : decode cX1_border 2 = .ok (.iload_n 2, 1) := dk_28 (dk_at dksX1_border_0 2 rfl rfl)
theorem dX1_border_3 : decode cX1_border 3 = .ok (.iload_n 3, 1) := dk_29 (dk_at dksX1_border_0 3 rfl rfl)
theorem dX1_border_4 : decode cX1_border 4 = .ok (.invokevirtual 269, 3) := dk_182 1 13 (dk_at dksX1_border_0 4 rfl rfl)
theorem dX1_border_7 : decode cX1_border 7 = .ok (.ifCond .eq 17, 3) := dk_153 0 17 (dk_at dksX1_border_0 7 rfl rfl)
theorem dX1_border_10 : decode cX1_border 10 = .ok (.iload 4, 2) := dk_21 4 (dk_at dksX1_border_0 10 rfl rfl)
theorem dX1_border_12 : decode cX1_border 12 = .ok (.i2l, 1) := dk_133 (dk_at dksX1_border_0 12 rfl rfl)
theorem dX1_border_13 : decode cX1_border 13 = .ok (.lconst 0, 1) := dk_9 (dk_at dksX1_border_0 13 rfl rfl)
theorem dX1_border_14 : decode cX1_border 14 = .ok (.iload_n 3, 1) := dk_29 (dk_at dksX1_border_0 14 rfl rfl)
theorem dX1_border_15 : decode cX1_border 15 = .ok (.iconst 1, 1) := dk_4 (dk_at dksX1_border_0 15 rfl rfl)
theorem dX1_border_16 : decode cX1_border 16 = .ok (.isub, 1) := dk_100 (dk_at dksX1_border_0 16 rfl rfl)
theorem dX1_border_17 : decode cX1_border 17 = .ok (.i2l, 1) := dk_133 (dk_at dksX1_border_0 17 rfl rfl)
theorem dX1_border_18 : decode cX1_border 18 = .ok (.invokestatic 97, 3) := dk_184 0 97 (dk_at dksX1_border_0 18 rfl rfl)
theorem dX1_border_21 : decode cX1_border 21 = .ok (.ifCond .ne 5, 3) := dk_154 0 5 (dk_at dksX1_border_0 21 rfl rfl)
theorem dX1_border_24 : decode cX1_border 24 = .ok (.iconst (-1), 1) := dk_2 (dk_at dksX1_border_1 0 rfl rfl)
theorem dX1_border_25 : decode cX1_border 25 = .ok (.ireturn, 1) := dk_172 (dk_at dksX1_border_1 1 rfl rfl)
theorem dX1_border_26 : decode cX1_border 26 = .ok (.aload_n 0, 1) := dk_42 (dk_at dksX1_border_1 2 rfl rfl)
theorem dX1_border_27 : decode cX1_border 27 = .ok (.aload_n 0, 1) := dk_42 (dk_at dksX1_border_1 3 rfl rfl)
theorem dX1_border_28 : decode cX1_border 28 = .ok (.iload_n 1, 1) := dk_27 (dk_at dksX1_border_1 4 rfl rfl)
theorem dX1_border_29 : decode cX1_border 29 = .ok (.invokevirtual 218, 3) := dk_182 0 218 (dk_at dksX1_border_1 5 rfl rfl)
theorem dX1_border_32 : decode cX1_border 32 = .ok (.iload_n 2, 1) := dk_28 (dk_at dksX1_border_1 8 rfl rfl)
theorem dX1_border_33 : decode cX1_border 33 = .ok (.iload_n 3, 1) := dk_29 (dk_at dksX1_border_1 9 rfl rfl)
theorem dX1_border_34 : decode cX1_border 34 = .ok (.invokevirtual 274, 3) := dk_182 1 18 (dk_at dksX1_border_1 10 rfl rfl)
theorem dX1_border_37 : decode cX1_border 37 = .ok (.iconst 0, 1) := dk_3 (dk_at dksX1_border_1 13 rfl rfl)
theorem dX1_border_38 : decode cX1_border 38 = .ok (.istore 5, 2) := dk_54 5 (dk_at dksX1_border_1 14 rfl rfl)
theorem dX1_border_40 : decode cX1_border 40 = .ok (.iconst 0, 1) := dk_3 (dk_at dksX1_border_1 16 rfl rfl)
theorem dX1_border_41 : decode cX1_border 41 = .ok (.istore 6, 2) := dk_54 6 (dk_at dksX1_border_1 17 rfl rfl)
theorem dX1_border_43 : decode cX1_border 43 = .ok (.iload 6, 2) := dk_21 6 (dk_at dksX1_border_1 19 rfl rfl)
theorem dX1_border_45 : decode cX1_border 45 = .ok (.iload 4, 2) := dk_21 4 (dk_at dksX1_border_1 21 rfl rfl)
theorem dX1_border_47 : decode cX1_border 47 = .ok (.if_icmp .ge 23, 3) := dk_162 0 23 (dk_at dksX1_border_2 0 rfl rfl)
theorem dX1_border_50 : decode cX1_border 50 = .ok (.aload_n 0, 1) := dk_42 (dk_at dksX1_border_2 3 rfl rfl)
theorem dX1_border_51 : decode cX1_border 51 = .ok (.getfield 51, 3) := dk_180 0 51 (dk_at dksX1_border_2 4 rfl rfl)
theorem dX1_border_54 : decode cX1_border 54 = .ok (.iload_n 3, 1) := dk_29 (dk_at dksX1_border_2 7 rfl rfl)
theorem dX1_border_55 : decode cX1_border 55 = .ok (.iload 6, 2) := dk_21 6 (dk_at dksX1_border_2 8 rfl rfl)
theorem dX1_border_57 : decode cX1_border 57 = .ok (.isub, 1) := dk_100 (dk_at dksX1_border_2 10 rfl rfl)
theorem dX1_border_58 : decode cX1_border 58 = .ok (.aaload, 1) := dk_50 (dk_at dksX1_border_2 11 rfl rfl)
theorem dX1_border_59 : decode cX1_border 59 = .ok (.iload 5, 2) := dk_21 5 (dk_at dksX1_border_2 12 rfl rfl)
theorem dX1_border_61 : decode cX1_border 61 = .ok (.iaload, 1) := dk_46 (dk_at dksX1_border_2 14 rfl rfl)
theorem dX1_border_62 : decode cX1_border 62 = .ok (.istore 5, 2) := dk_54 5 (dk_at dksX1_border_2 15 rfl rfl)
theorem dX1_border_64 : decode cX1_border 64 = .ok (.iinc 6 1, 3) := dk_132 6 1 (dk_at dksX1_border_2 17 rfl rfl)
theorem dX1_border_67 : decode cX1_border 67 = .ok (.goto (-24), 3) := dk_167 255 232 (dk_at dksX1_border_2 20 rfl rfl)
theorem dX1_border_70 : decode cX1_border 70 = .ok (.iload 5, 2) := dk_21 5 (dk_at dksX1_border_3 0 rfl rfl)
theorem dX1_border_72 : decode cX1_border 72 = .ok (.ireturn, 1) := dk_172 (dk_at dksX1_border_3 2 rfl rfl)
abbrev cX1_tried : ByteArray := prog_1_method_30_code
def yX1_tried : MethodName := ⟨RX1, "tried", "(IIII)I"⟩
def dkwX1_tried_2 : List UInt8 := [180, 0, 179, 172]
abbrev dktX1_tried_2 : List UInt8 := dkwX1_tried_2 ++ []
def dkwX1_tried_1 : List UInt8 := [42, 27, 182, 0, 218, 28, 29, 182, 1, 18, 21, 4, 154, 0, 10, 42, 180, 0, 176, 167, 0, 7, 42]
abbrev dktX1_tried_1 : List UInt8 := dkwX1_tried_1 ++ dktX1_tried_2
def dkwX1_tried_0 : List UInt8 := [42, 27, 28, 29, 182, 1, 13, 153, 0, 14, 21, 4, 133, 9, 10, 184, 0, 97, 154, 0, 5, 2, 172, 42]
abbrev dktX1_tried_0 : List UInt8 := dkwX1_tried_0 ++ dktX1_tried_1
theorem dksX1_tried_0 : cX1_tried.data.toList.drop 0 = dktX1_tried_0 := by decide +kernel
theorem dksX1_tried_1 : cX1_tried.data.toList.drop 24 = dktX1_tried_1 := dk_seg dksX1_tried_0 24 rfl rfl
theorem dksX1_tried_2 : cX1_tried.data.toList.drop 47 = dktX1_tried_2 := dk_seg dksX1_tried_1 23 rfl rfl
theorem dX1_tried_0 : decode cX1_tried 0 = .ok (.aload_n 0, 1) := dk_42 (dk_at dksX1_tried_0 0 rfl rfl)
theorem dX1_tried_1 : decode cX1_tried 1 = .ok (.iload_n 1, 1) := dk_27 (dk_at dksX1_tried_0 1 rfl rfl)
theorem dX1_tried_2 : decode cX1_tried 2 = .ok (.iload_n 2, 1) := dk_28 (dk_at dksX1_tried_0 2 rfl rfl)
theorem dX1_tried_3 : decode cX1_tried 3 = .ok (.iload_n 3, 1) := dk_29 (dk_at dksX1_tried_0 3 rfl rfl)
theorem dX1_tried_4 : decode cX1_tried 4 = .ok (.invokevirtual 269, 3) := dk_182 1 13 (dk_at dksX1_tried_0 4 rfl rfl)
theorem dX1_tried_7 : decode cX1_tried 7 = .ok (.ifCond .eq 14, 3) := dk_153 0 14 (dk_at dksX1_tried_0 7 rfl rfl)
theorem dX1_tried_10 : decode cX1_tried 10 = .ok (.iload 4, 2) := dk_21 4 (dk_at dksX1_tried_0 10 rfl rfl)
theorem dX1_tried_12 : decode cX1_tried 12 = .ok (.i2l, 1) := dk_133 (dk_at dksX1_tried_0 12 rfl rfl)
theorem dX1_tried_13 : decode cX1_tried 13 = .ok (.lconst 0, 1) := dk_9 (dk_at dksX1_tried_0 13 rfl rfl)
theorem dX1_tried_14 : decode cX1_tried 14 = .ok (.lconst 1, 1) := dk_10 (dk_at dksX1_tried_0 14 rfl rfl)
theorem dX1_tried_15 : decode cX1_tried 15 = .ok (.invokestatic 97, 3) := dk_184 0 97 (dk_at dksX1_tried_0 15 rfl rfl)
theorem dX1_tried_18 : decode cX1_tried 18 = .ok (.ifCond .ne 5, 3) := dk_154 0 5 (dk_at dksX1_tried_0 18 rfl rfl)
theorem dX1_tried_21 : decode cX1_tried 21 = .ok (.iconst (-1), 1) := dk_2 (dk_at dksX1_tried_0 21 rfl rfl)
theorem dX1_tried_22 : decode cX1_tried 22 = .ok (.ireturn, 1) := dk_172 (dk_at dksX1_tried_0 22 rfl rfl)
theorem dX1_tried_23 : decode cX1_tried 23 = .ok (.aload_n 0, 1) := dk_42 (dk_at dksX1_tried_0 23 rfl rfl)
theorem dX1_tried_24 : decode cX1_tried 24 = .ok (.aload_n 0, 1) := dk_42 (dk_at dksX1_tried_1 0 rfl rfl)
theorem dX1_tried_25 : decode cX1_tried 25 = .ok (.iload_n 1, 1) := dk_27 (dk_at dksX1_tried_1 1 rfl rfl)
theorem dX1_tried_26 : decode cX1_tried 26 = .ok (.invokevirtual 218, 3) := dk_182 0 218 (dk_at dksX1_tried_1 2 rfl rfl)
theorem dX1_tried_29 : decode cX1_tried 29 = .ok (.iload_n 2, 1) := dk_28 (dk_at dksX1_tried_1 5 rfl rfl)
theorem dX1_tried_30 : decode cX1_tried 30 = .ok (.iload_n 3, 1) := dk_29 (dk_at dksX1_tried_1 6 rfl rfl)
theorem dX1_tried_31 : decode cX1_tried 31 = .ok (.invokevirtual 274, 3) := dk_182 1 18 (dk_at dksX1_tried_1 7 rfl rfl)
theorem dX1_tried_34 : decode cX1_tried 34 = .ok (.iload 4, 2) := dk_21 4 (dk_at dksX1_tried_1 10 rfl rfl)
theorem dX1_tried_36 : decode cX1_tried 36 = .ok (.ifCond .ne 10, 3) := dk_154 0 10 (dk_at dksX1_tried_1 12 rfl rfl)
theorem dX1_tried_39 : decode cX1_tried 39 = .ok (.aload_n 0, 1) := dk_42 (dk_at dksX1_tried_1 15 rfl rfl)
theorem dX1_tried_40 : decode cX1_tried 40 = .ok (.getfield 176, 3) := dk_180 0 176 (dk_at dksX1_tried_1 16 rfl rfl)
theorem dX1_tried_43 : decode cX1_tried 43 = .ok (.goto 7, 3) := dk_167 0 7 (dk_at dksX1_tried_1 19 rfl rfl)
theorem dX1_tried_46 : decode cX1_tried 46 = .ok (.aload_n 0, 1) := dk_42 (dk_at dksX1_tried_1 22 rfl rfl)
theorem dX1_tried_47 : decode cX1_tried 47 = .ok (.getfield 179, 3) := dk_180 0 179 (dk_at dksX1_tried_2 0 rfl rfl)
theorem dX1_tried_50 : decode cX1_tried 50 = .ok (.ireturn, 1) := dk_172 (dk_at dksX1_tried_2 3 rfl rfl)
abbrev cX1_fewest : ByteArray := prog_1_method_31_code
def yX1_fewest : MethodName := ⟨RX1, "fewest", "(IIJ)I"⟩
def dkwX1_fewest_3 : List UInt8 := [21, 6, 172]
abbrev dktX1_fewest_3 : List UInt8 := dkwX1_fewest_3 ++ []
def dkwX1_fewest_2 : List UInt8 := [162, 0, 23, 42, 180, 0, 46, 21, 6, 50, 3, 47, 33, 148, 158, 0, 9, 132, 6, 1, 167, 255, 232]
abbrev dktX1_fewest_2 : List UInt8 := dkwX1_fewest_2 ++ dktX1_fewest_3
def dkwX1_fewest_1 : List UInt8 := [180, 0, 164, 54, 5, 42, 42, 27, 182, 0, 218, 28, 21, 5, 182, 1, 18, 4, 54, 6, 21, 6, 21, 5]
abbrev dktX1_fewest_1 : List UInt8 := dkwX1_fewest_1 ++ dktX1_fewest_2
def dkwX1_fewest_0 : List UInt8 := [42, 27, 28, 182, 0, 238, 153, 0, 9, 33, 9, 148, 156, 0, 5, 2, 172, 42, 27, 182, 0, 218]
abbrev dktX1_fewest_0 : List UInt8 := dkwX1_fewest_0 ++ dktX1_fewest_1
theorem dksX1_fewest_0 : cX1_fewest.data.toList.drop 0 = dktX1_fewest_0 := by decide +kernel
theorem dksX1_fewest_1 : cX1_fewest.data.toList.drop 22 = dktX1_fewest_1 := dk_seg dksX1_fewest_0 22 rfl rfl
theorem dksX1_fewest_2 : cX1_fewest.data.toList.drop 46 = dktX1_fewest_2 := dk_seg dksX1_fewest_1 24 rfl rfl
theorem dksX1_fewest_3 : cX1_fewest.data.toList.drop 69 = dktX1_fewest_3 := dk_seg dksX1_fewest_2 23 rfl rfl
theorem dX1_fewest_0 : decode cX1_fewest 0 = .ok (.aload_n 0, 1) := dk_42 (dk_at dksX1_fewest_0 0 rfl rfl)
theorem dX1_fewest_1 : decode cX1_fewest 1 = .ok (.iload_n 1, 1) := dk_27 (dk_at dksX1_fewest_0 1 rfl rfl)
theorem dX1_fewest_2 : decode cX1_fewest 2 = .ok (.iload_n 2, 1) := dk_28 (dk_at dksX1_fewest_0 2 rfl rfl)
theorem dX1_fewest_3 : decode cX1_fewest 3 = .ok (.invokevirtual 238, 3) := dk_182 0 238 (dk_at dksX1_fewest_0 3 rfl rfl)
theorem dX1_fewest_6 : decode cX1_fewest 6 = .ok (.ifCond .eq 9, 3) := dk_153 0 9 (dk_at dksX1_fewest_0 6 rfl rfl)
theorem dX1_fewest_9 : decode cX1_fewest 9 = .ok (.lload_n 3, 1) := dk_33 (dk_at dksX1_fewest_0 9 rfl rfl)
theorem dX1_fewest_10 : decode cX1_fewest 10 = .ok (.lconst 0, 1) := dk_9 (dk_at dksX1_fewest_0 10 rfl rfl)
theorem dX1_fewest_11 : decode cX1_fewest 11 = .ok (.lcmp, 1) := dk_148 (dk_at dksX1_fewest_0 11 rfl rfl)
theorem dX1_fewest_12 : decode cX1_fewest 12 = .ok (.ifCond .ge 5, 3) := dk_156 0 5 (dk_at dksX1_fewest_0 12 rfl rfl)
theorem dX1_fewest_15 : decode cX1_fewest 15 = .ok (.iconst (-1), 1) := dk_2 (dk_at dksX1_fewest_0 15 rfl rfl)
theorem dX1_fewest_16 : decode cX1_fewest 16 = .ok (.ireturn, 1) := dk_172 (dk_at dksX1_fewest_0 16 rfl rfl)
theorem dX1_fewest_17 : decode cX1_fewest 17 = .ok (.aload_n 0, 1) := dk_42 (dk_at dksX1_fewest_0 17 rfl rfl)
theorem dX1_fewest_18 : decode cX1_fewest 18 = .ok (.iload_n 1, 1) := dk_27 (dk_at dksX1_fewest_0 18 rfl rfl)
theorem dX1_fewest_19 : decode cX1_fewest 19 = .ok (.invokevirtual 218, 3) := dk_182 0 218 (dk_at dksX1_fewest_0 19 rfl rfl)
theorem dX1_fewest_22 : decode cX1_fewest 22 = .ok (.getfield 164, 3) := dk_180 0 164 (dk_at dksX1_fewest_1 0 rfl rfl)
theorem dX1_fewest_25 : decode cX1_fewest 25 = .ok (.istore 5, 2) := dk_54 5 (dk_at dksX1_fewest_1 3 rfl rfl)
theorem dX1_fewest_27 : decode cX1_fewest 27 = .ok (.aload_n 0, 1) := dk_42 (dk_at dksX1_fewest_1 5 rfl rfl)
theorem dX1_fewest_28 : decode cX1_fewest 28 = .ok (.aload_n 0, 1) := dk_42 (dk_at dksX1_fewest_1 6 rfl rfl)
theorem dX1_fewest_29 : decode cX1_fewest 29 = .ok (.iload_n 1, 1) := dk_27 (dk_at dksX1_fewest_1 7 rfl rfl)
theorem dX1_fewest_30 : decode cX1_fewest 30 = .ok (.invokevirtual 218, 3) := dk_182 0 218 (dk_at dksX1_fewest_1 8 rfl rfl)
theorem dX1_fewest_33 : decode cX1_fewest 33 = .ok (.iload_n 2, 1) := dk_28 (dk_at dksX1_fewest_1 11 rfl rfl)
theorem dX1_fewest_34 : decode cX1_fewest 34 = .ok (.iload 5, 2) := dk_21 5 (dk_at dksX1_fewest_1 12 rfl rfl)
theorem dX1_fewest_36 : decode cX1_fewest 36 = .ok (.invokevirtual 274, 3) := dk_182 1 18 (dk_at dksX1_fewest_1 14 rfl rfl)
theorem dX1_fewest_39 : decode cX1_fewest 39 = .ok (.iconst 1, 1) := dk_4 (dk_at dksX1_fewest_1 17 rfl rfl)
theorem dX1_fewest_40 : decode cX1_fewest 40 = .ok (.istore 6, 2) := dk_54 6 (dk_at dksX1_fewest_1 18 rfl rfl)
theorem dX1_fewest_42 : decode cX1_fewest 42 = .ok (.iload 6, 2) := dk_21 6 (dk_at dksX1_fewest_1 20 rfl rfl)
theorem dX1_fewest_44 : decode cX1_fewest 44 = .ok (.iload 5, 2) := dk_21 5 (dk_at dksX1_fewest_1 22 rfl rfl)
theorem dX1_fewest_46 : decode cX1_fewest 46 = .ok (.if_icmp .ge 23, 3) := dk_162 0 23 (dk_at dksX1_fewest_2 0 rfl rfl)
theorem dX1_fewest_49 : decode cX1_fewest 49 = .ok (.aload_n 0, 1) := dk_42 (dk_at dksX1_fewest_2 3 rfl rfl)
theorem dX1_fewest_50 : decode cX1_fewest 50 = .ok (.getfield 46, 3) := dk_180 0 46 (dk_at dksX1_fewest_2 4 rfl rfl)
theorem dX1_fewest_53 : decode cX1_fewest 53 = .ok (.iload 6, 2) := dk_21 6 (dk_at dksX1_fewest_2 7 rfl rfl)
theorem dX1_fewest_55 : decode cX1_fewest 55 = .ok (.aaload, 1) := dk_50 (dk_at dksX1_fewest_2 9 rfl rfl)
theorem dX1_fewest_56 : decode cX1_fewest 56 = .ok (.iconst 0, 1) := dk_3 (dk_at dksX1_fewest_2 10 rfl rfl)
theorem dX1_fewest_57 : decode cX1_fewest 57 = .ok (.laload, 1) := dk_47 (dk_at dksX1_fewest_2 11 rfl rfl)
theorem dX1_fewest_58 : decode cX1_fewest 58 = .ok (.lload_n 3, 1) := dk_33 (dk_at dksX1_fewest_2 12 rfl rfl)
theorem dX1_fewest_59 : decode cX1_fewest 59 = .ok (.lcmp, 1) := dk_148 (dk_at dksX1_fewest_2 13 rfl rfl)
theorem dX1_fewest_60 : decode cX1_fewest 60 = .ok (.ifCond .le 9, 3) := dk_158 0 9 (dk_at dksX1_fewest_2 14 rfl rfl)
theorem dX1_fewest_63 : decode cX1_fewest 63 = .ok (.iinc 6 1, 3) := dk_132 6 1 (dk_at dksX1_fewest_2 17 rfl rfl)
theorem dX1_fewest_66 : decode cX1_fewest 66 = .ok (.goto (-24), 3) := dk_167 255 232 (dk_at dksX1_fewest_2 20 rfl rfl)
theorem dX1_fewest_69 : decode cX1_fewest 69 = .ok (.iload 6, 2) := dk_21 6 (dk_at dksX1_fewest_3 0 rfl rfl)
theorem dX1_fewest_71 : decode cX1_fewest 71 = .ok (.ireturn, 1) := dk_172 (dk_at dksX1_fewest_3 2 rfl rfl)
abbrev cX1_add : ByteArray := prog_1_method_36_code
def yX1_add : MethodName := ⟨RX1, "add", "(IIII)I"⟩
def dkwX1_add_1 : List UInt8 := [172, 42, 3, 27, 28, 29, 21, 4, 182, 1, 52, 42, 27, 182, 0, 218, 180, 0, 222, 172]
abbrev dktX1_add_1 : List UInt8 := dkwX1_add_1 ++ []
def dkwX1_add_0 : List UInt8 := [42, 27, 28, 29, 21, 4, 4, 182, 1, 45, 54, 5, 21, 5, 2, 159, 0, 10, 42, 21, 5, 182, 1, 49]
abbrev dktX1_add_0 : List UInt8 := dkwX1_add_0 ++ dktX1_add_1
theorem dksX1_add_0 : cX1_add.data.toList.drop 0 = dktX1_add_0 := by decide +kernel
theorem dksX1_add_1 : cX1_add.data.toList.drop 24 = dktX1_add_1 := dk_seg dksX1_add_0 24 rfl rfl
theorem dX1_add_0 : decode cX1_add 0 = .ok (.aload_n 0, 1) := dk_42 (dk_at dksX1_add_0 0 rfl rfl)
theorem dX1_add_1 : decode cX1_add 1 = .ok (.iload_n 1, 1) := dk_27 (dk_at dksX1_add_0 1 rfl rfl)
theorem dX1_add_2 : decode cX1_add 2 = .ok (.iload_n 2, 1) := dk_28 (dk_at dksX1_add_0 2 rfl rfl)
theorem dX1_add_3 : decode cX1_add 3 = .ok (.iload_n 3, 1) := dk_29 (dk_at dksX1_add_0 3 rfl rfl)
theorem dX1_add_4 : decode cX1_add 4 = .ok (.iload 4, 2) := dk_21 4 (dk_at dksX1_add_0 4 rfl rfl)
theorem dX1_add_6 : decode cX1_add 6 = .ok (.iconst 1, 1) := dk_4 (dk_at dksX1_add_0 6 rfl rfl)
theorem dX1_add_7 : decode cX1_add 7 = .ok (.invokevirtual 301, 3) := dk_182 1 45 (dk_at dksX1_add_0 7 rfl rfl)
theorem dX1_add_10 : decode cX1_add 10 = .ok (.istore 5, 2) := dk_54 5 (dk_at dksX1_add_0 10 rfl rfl)
theorem dX1_add_12 : decode cX1_add 12 = .ok (.iload 5, 2) := dk_21 5 (dk_at dksX1_add_0 12 rfl rfl)
theorem dX1_add_14 : decode cX1_add 14 = .ok (.iconst (-1), 1) := dk_2 (dk_at dksX1_add_0 14 rfl rfl)
theorem dX1_add_15 : decode cX1_add 15 = .ok (.if_icmp .eq 10, 3) := dk_159 0 10 (dk_at dksX1_add_0 15 rfl rfl)
theorem dX1_add_18 : decode cX1_add 18 = .ok (.aload_n 0, 1) := dk_42 (dk_at dksX1_add_0 18 rfl rfl)
theorem dX1_add_19 : decode cX1_add 19 = .ok (.iload 5, 2) := dk_21 5 (dk_at dksX1_add_0 19 rfl rfl)
theorem dX1_add_21 : decode cX1_add 21 = .ok (.invokevirtual 305, 3) := dk_182 1 49 (dk_at dksX1_add_0 21 rfl rfl)
theorem dX1_add_24 : decode cX1_add 24 = .ok (.ireturn, 1) := dk_172 (dk_at dksX1_add_1 0 rfl rfl)
theorem dX1_add_25 : decode cX1_add 25 = .ok (.aload_n 0, 1) := dk_42 (dk_at dksX1_add_1 1 rfl rfl)
theorem dX1_add_26 : decode cX1_add 26 = .ok (.iconst 0, 1) := dk_3 (dk_at dksX1_add_1 2 rfl rfl)
theorem dX1_add_27 : decode cX1_add 27 = .ok (.iload_n 1, 1) := dk_27 (dk_at dksX1_add_1 3 rfl rfl)
theorem dX1_add_28 : decode cX1_add 28 = .ok (.iload_n 2, 1) := dk_28 (dk_at dksX1_add_1 4 rfl rfl)
theorem dX1_add_29 : decode cX1_add 29 = .ok (.iload_n 3, 1) := dk_29 (dk_at dksX1_add_1 5 rfl rfl)
theorem dX1_add_30 : decode cX1_add 30 = .ok (.iload 4, 2) := dk_21 4 (dk_at dksX1_add_1 6 rfl rfl)
theorem dX1_add_32 : decode cX1_add 32 = .ok (.invokevirtual 308, 3) := dk_182 1 52 (dk_at dksX1_add_1 8 rfl rfl)
theorem dX1_add_35 : decode cX1_add 35 = .ok (.aload_n 0, 1) := dk_42 (dk_at dksX1_add_1 11 rfl rfl)
theorem dX1_add_36 : decode cX1_add 36 = .ok (.iload_n 1, 1) := dk_27 (dk_at dksX1_add_1 12 rfl rfl)
theorem dX1_add_37 : decode cX1_add 37 = .ok (.invokevirtual 218, 3) := dk_182 0 218 (dk_at dksX1_add_1 13 rfl rfl)
theorem dX1_add_40 : decode cX1_add 40 = .ok (.getfield 222, 3) := dk_180 0 222 (dk_at dksX1_add_1 16 rfl rfl)
theorem dX1_add_43 : decode cX1_add 43 = .ok (.ireturn, 1) := dk_172 (dk_at dksX1_add_1 19 rfl rfl)
abbrev cX1_stops : ByteArray := prog_1_method_34_code
def yX1_stops : MethodName := ⟨RX1, "stops", "(IIIIZ)I"⟩
def dkwX1_stops_3 : List UInt8 := [162, 0, 7, 6, 167, 0, 4, 2, 172]
abbrev dktX1_stops_3 : List UInt8 := dkwX1_stops_3 ++ []
def dkwX1_stops_2 : List UInt8 := [96, 17, 3, 231, 164, 0, 7, 6, 167, 0, 24, 2, 167, 0, 20, 25, 6, 28, 29, 182, 0, 235, 21, 4]
abbrev dktX1_stops_2 : List UInt8 := dkwX1_stops_2 ++ dktX1_stops_3
def dkwX1_stops_1 : List UInt8 := [154, 0, 5, 4, 172, 42, 27, 182, 0, 218, 58, 6, 21, 5, 153, 0, 25, 25, 6, 180, 0, 222, 21, 4]
abbrev dktX1_stops_1 : List UInt8 := dkwX1_stops_1 ++ dktX1_stops_2
def dkwX1_stops_0 : List UInt8 := [42, 27, 28, 29, 182, 0, 231, 154, 0, 5, 3, 172, 21, 4, 133, 10, 20, 1, 34, 184, 0, 97]
abbrev dktX1_stops_0 : List UInt8 := dkwX1_stops_0 ++ dktX1_stops_1
theorem dksX1_stops_0 : cX1_stops.data.toList.drop 0 = dktX1_stops_0 := by decide +kernel
theorem dksX1_stops_1 : cX1_stops.data.toList.drop 22 = dktX1_stops_1 := dk_seg dksX1_stops_0 22 rfl rfl
theorem dksX1_stops_2 : cX1_stops.data.toList.drop 46 = dktX1_stops_2 := dk_seg dksX1_stops_1 24 rfl rfl
theorem dksX1_stops_3 : cX1_stops.data.toList.drop 70 = dktX1_stops_3 := dk_seg dksX1_stops_2 24 rfl rfl
theorem dX1_stops_0 : decode cX1_stops 0 = .ok (.aload_n 0, 1) := dk_42 (dk_at dksX1_stops_0 0 rfl rfl)
theorem dX1_stops_1 : decode cX1_stops 1 = .ok (.iload_n 1, 1) := dk_27 (dk_at dksX1_stops_0 1 rfl rfl)
theorem dX1_stops_2 : decode cX1_stops 2 = .ok (.iload_n 2, 1) := dk_28 (dk_at dksX1_stops_0 2 rfl rfl)
theorem dX1_stops_3 : decode cX1_stops 3 = .ok (.iload_n 3, 1) := dk_29 (dk_at dksX1_stops_0 3 rfl rfl)
theorem dX1_stops_4 : decode cX1_stops 4 = .ok (.invokevirtual 231, 3) := dk_182 0 231 (dk_at dksX1_stops_0 4 rfl rfl)
theorem dX1_stops_7 : decode cX1_stops 7 = .ok (.ifCond .ne 5, 3) := dk_154 0 5 (dk_at dksX1_stops_0 7 rfl rfl)
theorem dX1_stops_10 : decode cX1_stops 10 = .ok (.iconst 0, 1) := dk_3 (dk_at dksX1_stops_0 10 rfl rfl)
theorem dX1_stops_11 : decode cX1_stops 11 = .ok (.ireturn, 1) := dk_172 (dk_at dksX1_stops_0 11 rfl rfl)
theorem dX1_stops_12 : decode cX1_stops 12 = .ok (.iload 4, 2) := dk_21 4 (dk_at dksX1_stops_0 12 rfl rfl)
theorem dX1_stops_14 : decode cX1_stops 14 = .ok (.i2l, 1) := dk_133 (dk_at dksX1_stops_0 14 rfl rfl)
theorem dX1_stops_15 : decode cX1_stops 15 = .ok (.lconst 1, 1) := dk_10 (dk_at dksX1_stops_0 15 rfl rfl)
theorem dX1_stops_16 : decode cX1_stops 16 = .ok (.ldc2_w 290, 3) := dk_20 1 34 (dk_at dksX1_stops_0 16 rfl rfl)
theorem dX1_stops_19 : decode cX1_stops 19 = .ok (.invokestatic 97, 3) := dk_184 0 97 (dk_at dksX1_stops_0 19 rfl rfl)
theorem dX1_stops_22 : decode cX1_stops 22 = .ok (.ifCond .ne 5, 3) := dk_154 0 5 (dk_at dksX1_stops_1 0 rfl rfl)
theorem dX1_stops_25 : decode cX1_stops 25 = .ok (.iconst 1, 1) := dk_4 (dk_at dksX1_stops_1 3 rfl rfl)
theorem dX1_stops_26 : decode cX1_stops 26 = .ok (.ireturn, 1) := dk_172 (dk_at dksX1_stops_1 4 rfl rfl)
theorem dX1_stops_27 : decode cX1_stops 27 = .ok (.aload_n 0, 1) := dk_42 (dk_at dksX1_stops_1 5 rfl rfl)
theorem dX1_stops_28 : decode cX1_stops 28 = .ok (.iload_n 1, 1) := dk_27 (dk_at dksX1_stops_1 6 rfl rfl)
theorem dX1_stops_29 : decode cX1_stops 29 = .ok (.invokevirtual 218, 3) := dk_182 0 218 (dk_at dksX1_stops_1 7 rfl rfl)
theorem dX1_stops_32 : decode cX1_stops 32 = .ok (.astore 6, 2) := dk_58 6 (dk_at dksX1_stops_1 10 rfl rfl)
theorem dX1_stops_34 : decode cX1_stops 34 = .ok (.iload 5, 2) := dk_21 5 (dk_at dksX1_stops_1 12 rfl rfl)
theorem dX1_stops_36 : decode cX1_stops 36 = .ok (.ifCond .eq 25, 3) := dk_153 0 25 (dk_at dksX1_stops_1 14 rfl rfl)
theorem dX1_stops_39 : decode cX1_stops 39 = .ok (.aload 6, 2) := dk_25 6 (dk_at dksX1_stops_1 17 rfl rfl)
theorem dX1_stops_41 : decode cX1_stops 41 = .ok (.getfield 222, 3) := dk_180 0 222 (dk_at dksX1_stops_1 19 rfl rfl)
theorem dX1_stops_44 : decode cX1_stops 44 = .ok (.iload 4, 2) := dk_21 4 (dk_at dksX1_stops_1 22 rfl rfl)
theorem dX1_stops_46 : decode cX1_stops 46 = .ok (.iadd, 1) := dk_96 (dk_at dksX1_stops_2 0 rfl rfl)
theorem dX1_stops_47 : decode cX1_stops 47 = .ok (.sipush 999, 3) := dk_17 3 231 (dk_at dksX1_stops_2 1 rfl rfl)
theorem dX1_stops_50 : decode cX1_stops 50 = .ok (.if_icmp .le 7, 3) := dk_164 0 7 (dk_at dksX1_stops_2 4 rfl rfl)
theorem dX1_stops_53 : decode cX1_stops 53 = .ok (.iconst 3, 1) := dk_6 (dk_at dksX1_stops_2 7 rfl rfl)
theorem dX1_stops_54 : decode cX1_stops 54 = .ok (.goto 24, 3) := dk_167 0 24 (dk_at dksX1_stops_2 8 rfl rfl)
theorem dX1_stops_57 : decode cX1_stops 57 = .ok (.iconst (-1), 1) := dk_2 (dk_at dksX1_stops_2 11 rfl rfl)
theorem dX1_stops_58 : decode cX1_stops 58 = .ok (.goto 20, 3) := dk_167 0 20 (dk_at dksX1_stops_2 12 rfl rfl)
theorem dX1_stops_61 : decode cX1_stops 61 = .ok (.aload 6, 2) := dk_25 6 (dk_at dksX1_stops_2 15 rfl rfl)
theorem dX1_stops_63 : decode cX1_stops 63 = .ok (.iload_n 2, 1) := dk_28 (dk_at dksX1_stops_2 17 rfl rfl)
theorem dX1_stops_64 : decode cX1_stops 64 = .ok (.iload_n 3, 1) := dk_29 (dk_at dksX1_stops_2 18 rfl rfl)
theorem dX1_stops_65 : decode cX1_stops 65 = .ok (.invokevirtual 235, 3) := dk_182 0 235 (dk_at dksX1_stops_2 19 rfl rfl)
theorem dX1_stops_68 : decode cX1_stops 68 = .ok (.iload 4, 2) := dk_21 4 (dk_at dksX1_stops_2 22 rfl rfl)
theorem dX1_stops_70 : decode cX1_stops 70 = .ok (.if_icmp .ge 7, 3) := dk_162 0 7 (dk_at dksX1_stops_3 0 rfl rfl)
theorem dX1_stops_73 : decode cX1_stops 73 = .ok (.iconst 3, 1) := dk_6 (dk_at dksX1_stops_3 3 rfl rfl)
theorem dX1_stops_74 : decode cX1_stops 74 = .ok (.goto 4, 3) := dk_167 0 4 (dk_at dksX1_stops_3 4 rfl rfl)
theorem dX1_stops_77 : decode cX1_stops 77 = .ok (.iconst (-1), 1) := dk_2 (dk_at dksX1_stops_3 7 rfl rfl)
theorem dX1_stops_78 : decode cX1_stops 78 = .ok (.ireturn, 1) := dk_172 (dk_at dksX1_stops_3 8 rfl rfl)
abbrev cX1_refuse : ByteArray := prog_1_method_33_code
def yX1_refuse : MethodName := ⟨RX1, "refuse", "(I)I"⟩
def dkwX1_refuse_0 : List UInt8 := [42, 180, 0, 31, 27, 92, 46, 4, 96, 79, 2, 172]
abbrev dktX1_refuse_0 : List UInt8 := dkwX1_refuse_0 ++ []
theorem dksX1_refuse_0 : cX1_refuse.data.toList.drop 0 = dktX1_refuse_0 := by decide +kernel
theorem dX1_refuse_0 : decode cX1_refuse 0 = .ok (.aload_n 0, 1) := dk_42 (dk_at dksX1_refuse_0 0 rfl rfl)
theorem dX1_refuse_1 : decode cX1_refuse 1 = .ok (.getfield 31, 3) := dk_180 0 31 (dk_at dksX1_refuse_0 1 rfl rfl)
theorem dX1_refuse_4 : decode cX1_refuse 4 = .ok (.iload_n 1, 1) := dk_27 (dk_at dksX1_refuse_0 4 rfl rfl)
theorem dX1_refuse_5 : decode cX1_refuse 5 = .ok (.dup2, 1) := dk_92 (dk_at dksX1_refuse_0 5 rfl rfl)
theorem dX1_refuse_6 : decode cX1_refuse 6 = .ok (.iaload, 1) := dk_46 (dk_at dksX1_refuse_0 6 rfl rfl)
theorem dX1_refuse_7 : decode cX1_refuse 7 = .ok (.iconst 1, 1) := dk_4 (dk_at dksX1_refuse_0 7 rfl rfl)
theorem dX1_refuse_8 : decode cX1_refuse 8 = .ok (.iadd, 1) := dk_96 (dk_at dksX1_refuse_0 8 rfl rfl)
theorem dX1_refuse_9 : decode cX1_refuse 9 = .ok (.iastore, 1) := dk_79 (dk_at dksX1_refuse_0 9 rfl rfl)
theorem dX1_refuse_10 : decode cX1_refuse 10 = .ok (.iconst (-1), 1) := dk_2 (dk_at dksX1_refuse_0 10 rfl rfl)
theorem dX1_refuse_11 : decode cX1_refuse 11 = .ok (.ireturn, 1) := dk_172 (dk_at dksX1_refuse_0 11 rfl rfl)
abbrev cX1_comes : ByteArray := prog_1_method_35_code
def yX1_comes : MethodName := ⟨RX1, "comes", "(IIIII)V"⟩
def dkwX1_comes_1 : List UInt8 := [182, 1, 39, 42, 180, 0, 59, 27, 28, 21, 5, 182, 1, 42, 177]
abbrev dktX1_comes_1 : List UInt8 := dkwX1_comes_1 ++ []
def dkwX1_comes_0 : List UInt8 := [42, 182, 1, 36, 42, 28, 182, 0, 218, 29, 21, 4, 27, 154, 0, 8, 21, 5, 167, 0, 6, 21, 5, 116]
abbrev dktX1_comes_0 : List UInt8 := dkwX1_comes_0 ++ dktX1_comes_1
theorem dksX1_comes_0 : cX1_comes.data.toList.drop 0 = dktX1_comes_0 := by decide +kernel
theorem dksX1_comes_1 : cX1_comes.data.toList.drop 24 = dktX1_comes_1 := dk_seg dksX1_comes_0 24 rfl rfl
theorem dX1_comes_0 : decode cX1_comes 0 = .ok (.aload_n 0, 1) := dk_42 (dk_at dksX1_comes_0 0 rfl rfl)
theorem dX1_comes_1 : decode cX1_comes 1 = .ok (.invokevirtual 292, 3) := dk_182 1 36 (dk_at dksX1_comes_0 1 rfl rfl)
theorem dX1_comes_4 : decode cX1_comes 4 = .ok (.aload_n 0, 1) := dk_42 (dk_at dksX1_comes_0 4 rfl rfl)
theorem dX1_comes_5 : decode cX1_comes 5 = .ok (.iload_n 2, 1) := dk_28 (dk_at dksX1_comes_0 5 rfl rfl)
theorem dX1_comes_6 : decode cX1_comes 6 = .ok (.invokevirtual 218, 3) := dk_182 0 218 (dk_at dksX1_comes_0 6 rfl rfl)
theorem dX1_comes_9 : decode cX1_comes 9 = .ok (.iload_n 3, 1) := dk_29 (dk_at dksX1_comes_0 9 rfl rfl)
theorem dX1_comes_10 : decode cX1_comes 10 = .ok (.iload 4, 2) := dk_21 4 (dk_at dksX1_comes_0 10 rfl rfl)
theorem dX1_comes_12 : decode cX1_comes 12 = .ok (.iload_n 1, 1) := dk_27 (dk_at dksX1_comes_0 12 rfl rfl)
theorem dX1_comes_13 : decode cX1_comes 13 = .ok (.ifCond .ne 8, 3) := dk_154 0 8 (dk_at dksX1_comes_0 13 rfl rfl)
theorem dX1_comes_16 : decode cX1_comes 16 = .ok (.iload 5, 2) := dk_21 5 (dk_at dksX1_comes_0 16 rfl rfl)
theorem dX1_comes_18 : decode cX1_comes 18 = .ok (.goto 6, 3) := dk_167 0 6 (dk_at dksX1_comes_0 18 rfl rfl)
theorem dX1_comes_21 : decode cX1_comes 21 = .ok (.iload 5, 2) := dk_21 5 (dk_at dksX1_comes_0 21 rfl rfl)
theorem dX1_comes_23 : decode cX1_comes 23 = .ok (.ineg, 1) := dk_116 (dk_at dksX1_comes_0 23 rfl rfl)
theorem dX1_comes_24 : decode cX1_comes 24 = .ok (.invokevirtual 295, 3) := dk_182 1 39 (dk_at dksX1_comes_1 0 rfl rfl)
theorem dX1_comes_27 : decode cX1_comes 27 = .ok (.aload_n 0, 1) := dk_42 (dk_at dksX1_comes_1 3 rfl rfl)
theorem dX1_comes_28 : decode cX1_comes 28 = .ok (.getfield 59, 3) := dk_180 0 59 (dk_at dksX1_comes_1 4 rfl rfl)
theorem dX1_comes_31 : decode cX1_comes 31 = .ok (.iload_n 1, 1) := dk_27 (dk_at dksX1_comes_1 7 rfl rfl)
theorem dX1_comes_32 : decode cX1_comes 32 = .ok (.iload_n 2, 1) := dk_28 (dk_at dksX1_comes_1 8 rfl rfl)
theorem dX1_comes_33 : decode cX1_comes 33 = .ok (.iload 5, 2) := dk_21 5 (dk_at dksX1_comes_1 9 rfl rfl)
theorem dX1_comes_35 : decode cX1_comes 35 = .ok (.invokevirtual 298, 3) := dk_182 1 42 (dk_at dksX1_comes_1 11 rfl rfl)
theorem dX1_comes_38 : decode cX1_comes 38 = .ok (.return_, 1) := dk_177 (dk_at dksX1_comes_1 14 rfl rfl)
abbrev cX1_remember : ByteArray := prog_1_method_32_code
def yX1_remember : MethodName := ⟨RX1, "remember", "()V"⟩
def dkwX1_remember_3 : List UInt8 := [181, 0, 132, 177]
abbrev dktX1_remember_3 : List UInt8 := dkwX1_remember_3 ++ []
def dkwX1_remember_2 : List UInt8 := [180, 1, 22, 4, 96, 16, 40, 112, 181, 1, 22, 42, 16, 40, 42, 180, 0, 132, 4, 96, 184, 1, 29]
abbrev dktX1_remember_2 : List UInt8 := dkwX1_remember_2 ++ dktX1_remember_3
def dkwX1_remember_1 : List UInt8 := [42, 183, 0, 56, 83, 42, 180, 0, 73, 42, 180, 1, 22, 50, 42, 180, 0, 59, 182, 1, 25, 42, 42]
abbrev dktX1_remember_1 : List UInt8 := dkwX1_remember_1 ++ dktX1_remember_2
def dkwX1_remember_0 : List UInt8 := [42, 180, 0, 73, 42, 180, 1, 22, 50, 199, 0, 20, 42, 180, 0, 73, 42, 180, 1, 22, 187, 0, 54, 89]
abbrev dktX1_remember_0 : List UInt8 := dkwX1_remember_0 ++ dktX1_remember_1
theorem dksX1_remember_0 : cX1_remember.data.toList.drop 0 = dktX1_remember_0 := by decide +kernel
theorem dksX1_remember_1 : cX1_remember.data.toList.drop 24 = dktX1_remember_1 := dk_seg dksX1_remember_0 24 rfl rfl
theorem dksX1_remember_2 : cX1_remember.data.toList.drop 47 = dktX1_remember_2 := dk_seg dksX1_remember_1 23 rfl rfl
theorem dksX1_remember_3 : cX1_remember.data.toList.drop 70 = dktX1_remember_3 := dk_seg dksX1_remember_2 23 rfl rfl
theorem dX1_remember_0 : decode cX1_remember 0 = .ok (.aload_n 0, 1) := dk_42 (dk_at dksX1_remember_0 0 rfl rfl)
theorem dX1_remember_1 : decode cX1_remember 1 = .ok (.getfield 73, 3) := dk_180 0 73 (dk_at dksX1_remember_0 1 rfl rfl)
theorem dX1_remember_4 : decode cX1_remember 4 = .ok (.aload_n 0, 1) := dk_42 (dk_at dksX1_remember_0 4 rfl rfl)
theorem dX1_remember_5 : decode cX1_remember 5 = .ok (.getfield 278, 3) := dk_180 1 22 (dk_at dksX1_remember_0 5 rfl rfl)
theorem dX1_remember_8 : decode cX1_remember 8 = .ok (.aaload, 1) := dk_50 (dk_at dksX1_remember_0 8 rfl rfl)
theorem dX1_remember_9 : decode cX1_remember 9 = .ok (.ifnonnull 20, 3) := dk_199 0 20 (dk_at dksX1_remember_0 9 rfl rfl)
theorem dX1_remember_12 : decode cX1_remember 12 = .ok (.aload_n 0, 1) := dk_42 (dk_at dksX1_remember_0 12 rfl rfl)
theorem dX1_remember_13 : decode cX1_remember 13 = .ok (.getfield 73, 3) := dk_180 0 73 (dk_at dksX1_remember_0 13 rfl rfl)
theorem dX1_remember_16 : decode cX1_remember 16 = .ok (.aload_n 0, 1) := dk_42 (dk_at dksX1_remember_0 16 rfl rfl)
theorem dX1_remember_17 : decode cX1_remember 17 = .ok (.getfield 278, 3) := dk_180 1 22 (dk_at dksX1_remember_0 17 rfl rfl)
theorem dX1_remember_20 : decode cX1_remember 20 = .ok (.new 54, 3) := dk_187 0 54 (dk_at dksX1_remember_0 20 rfl rfl)
theorem dX1_remember_23 : decode cX1_remember 23 = .ok (.dup, 1) := dk_89 (dk_at dksX1_remember_0 23 rfl rfl)
theorem dX1_remember_24 : decode cX1_remember 24 = .ok (.aload_n 0, 1) := dk_42 (dk_at dksX1_remember_1 0 rfl rfl)
theorem dX1_remember_25 : decode cX1_remember 25 = .ok (.invokespecial 56, 3) := dk_183 0 56 (dk_at dksX1_remember_1 1 rfl rfl)
theorem dX1_remember_28 : decode cX1_remember 28 = .ok (.aastore, 1) := dk_83 (dk_at dksX1_remember_1 4 rfl rfl)
theorem dX1_remember_29 : decode cX1_remember 29 = .ok (.aload_n 0, 1) := dk_42 (dk_at dksX1_remember_1 5 rfl rfl)
theorem dX1_remember_30 : decode cX1_remember 30 = .ok (.getfield 73, 3) := dk_180 0 73 (dk_at dksX1_remember_1 6 rfl rfl)
theorem dX1_remember_33 : decode cX1_remember 33 = .ok (.aload_n 0, 1) := dk_42 (dk_at dksX1_remember_1 9 rfl rfl)
theorem dX1_remember_34 : decode cX1_remember 34 = .ok (.getfield 278, 3) := dk_180 1 22 (dk_at dksX1_remember_1 10 rfl rfl)
theorem dX1_remember_37 : decode cX1_remember 37 = .ok (.aaload, 1) := dk_50 (dk_at dksX1_remember_1 13 rfl rfl)
theorem dX1_remember_38 : decode cX1_remember 38 = .ok (.aload_n 0, 1) := dk_42 (dk_at dksX1_remember_1 14 rfl rfl)
theorem dX1_remember_39 : decode cX1_remember 39 = .ok (.getfield 59, 3) := dk_180 0 59 (dk_at dksX1_remember_1 15 rfl rfl)
theorem dX1_remember_42 : decode cX1_remember 42 = .ok (.invokevirtual 281, 3) := dk_182 1 25 (dk_at dksX1_remember_1 18 rfl rfl)
theorem dX1_remember_45 : decode cX1_remember 45 = .ok (.aload_n 0, 1) := dk_42 (dk_at dksX1_remember_1 21 rfl rfl)
theorem dX1_remember_46 : decode cX1_remember 46 = .ok (.aload_n 0, 1) := dk_42 (dk_at dksX1_remember_1 22 rfl rfl)
theorem dX1_remember_47 : decode cX1_remember 47 = .ok (.getfield 278, 3) := dk_180 1 22 (dk_at dksX1_remember_2 0 rfl rfl)
theorem dX1_remember_50 : decode cX1_remember 50 = .ok (.iconst 1, 1) := dk_4 (dk_at dksX1_remember_2 3 rfl rfl)
theorem dX1_remember_51 : decode cX1_remember 51 = .ok (.iadd, 1) := dk_96 (dk_at dksX1_remember_2 4 rfl rfl)
theorem dX1_remember_52 : decode cX1_remember 52 = .ok (.bipush 40, 2) := dk_16 40 (dk_at dksX1_remember_2 5 rfl rfl)
theorem dX1_remember_54 : decode cX1_remember 54 = .ok (.irem, 1) := dk_112 (dk_at dksX1_remember_2 7 rfl rfl)
theorem dX1_remember_55 : decode cX1_remember 55 = .ok (.putfield 278, 3) := dk_181 1 22 (dk_at dksX1_remember_2 8 rfl rfl)
theorem dX1_remember_58 : decode cX1_remember 58 = .ok (.aload_n 0, 1) := dk_42 (dk_at dksX1_remember_2 11 rfl rfl)
theorem dX1_remember_59 : decode cX1_remember 59 = .ok (.bipush 40, 2) := dk_16 40 (dk_at dksX1_remember_2 12 rfl rfl)
theorem dX1_remember_61 : decode cX1_remember 61 = .ok (.aload_n 0, 1) := dk_42 (dk_at dksX1_remember_2 14 rfl rfl)
theorem dX1_remember_62 : decode cX1_remember 62 = .ok (.getfield 132, 3) := dk_180 0 132 (dk_at dksX1_remember_2 15 rfl rfl)
theorem dX1_remember_65 : decode cX1_remember 65 = .ok (.iconst 1, 1) := dk_4 (dk_at dksX1_remember_2 18 rfl rfl)
theorem dX1_remember_66 : decode cX1_remember 66 = .ok (.iadd, 1) := dk_96 (dk_at dksX1_remember_2 19 rfl rfl)
theorem dX1_remember_67 : decode cX1_remember 67 = .ok (.invokestatic 285, 3) := dk_184 1 29 (dk_at dksX1_remember_2 20 rfl rfl)
theorem dX1_remember_70 : decode cX1_remember 70 = .ok (.putfield 132, 3) := dk_181 0 132 (dk_at dksX1_remember_3 0 rfl rfl)
theorem dX1_remember_73 : decode cX1_remember 73 = .ok (.return_, 1) := dk_177 (dk_at dksX1_remember_3 3 rfl rfl)
abbrev cX1_drop : ByteArray := prog_1_method_37_code
def yX1_drop : MethodName := ⟨RX1, "drop", "(IIII)I"⟩
def dkwX1_drop_1 : List UInt8 := [172, 42, 4, 27, 28, 29, 21, 4, 182, 1, 52, 42, 27, 182, 0, 218, 180, 0, 222, 172]
abbrev dktX1_drop_1 : List UInt8 := dkwX1_drop_1 ++ []
def dkwX1_drop_0 : List UInt8 := [42, 27, 28, 29, 21, 4, 3, 182, 1, 45, 54, 5, 21, 5, 2, 159, 0, 10, 42, 21, 5, 182, 1, 49]
abbrev dktX1_drop_0 : List UInt8 := dkwX1_drop_0 ++ dktX1_drop_1
theorem dksX1_drop_0 : cX1_drop.data.toList.drop 0 = dktX1_drop_0 := by decide +kernel
theorem dksX1_drop_1 : cX1_drop.data.toList.drop 24 = dktX1_drop_1 := dk_seg dksX1_drop_0 24 rfl rfl
theorem dX1_drop_0 : decode cX1_drop 0 = .ok (.aload_n 0, 1) := dk_42 (dk_at dksX1_drop_0 0 rfl rfl)
theorem dX1_drop_1 : decode cX1_drop 1 = .ok (.iload_n 1, 1) := dk_27 (dk_at dksX1_drop_0 1 rfl rfl)
theorem dX1_drop_2 : decode cX1_drop 2 = .ok (.iload_n 2, 1) := dk_28 (dk_at dksX1_drop_0 2 rfl rfl)
theorem dX1_drop_3 : decode cX1_drop 3 = .ok (.iload_n 3, 1) := dk_29 (dk_at dksX1_drop_0 3 rfl rfl)
theorem dX1_drop_4 : decode cX1_drop 4 = .ok (.iload 4, 2) := dk_21 4 (dk_at dksX1_drop_0 4 rfl rfl)
theorem dX1_drop_6 : decode cX1_drop 6 = .ok (.iconst 0, 1) := dk_3 (dk_at dksX1_drop_0 6 rfl rfl)
theorem dX1_drop_7 : decode cX1_drop 7 = .ok (.invokevirtual 301, 3) := dk_182 1 45 (dk_at dksX1_drop_0 7 rfl rfl)
theorem dX1_drop_10 : decode cX1_drop 10 = .ok (.istore 5, 2) := dk_54 5 (dk_at dksX1_drop_0 10 rfl rfl)
theorem dX1_drop_12 : decode cX1_drop 12 = .ok (.iload 5, 2) := dk_21 5 (dk_at dksX1_drop_0 12 rfl rfl)
theorem dX1_drop_14 : decode cX1_drop 14 = .ok (.iconst (-1), 1) := dk_2 (dk_at dksX1_drop_0 14 rfl rfl)
theorem dX1_drop_15 : decode cX1_drop 15 = .ok (.if_icmp .eq 10, 3) := dk_159 0 10 (dk_at dksX1_drop_0 15 rfl rfl)
theorem dX1_drop_18 : decode cX1_drop 18 = .ok (.aload_n 0, 1) := dk_42 (dk_at dksX1_drop_0 18 rfl rfl)
theorem dX1_drop_19 : decode cX1_drop 19 = .ok (.iload 5, 2) := dk_21 5 (dk_at dksX1_drop_0 19 rfl rfl)
theorem dX1_drop_21 : decode cX1_drop 21 = .ok (.invokevirtual 305, 3) := dk_182 1 49 (dk_at dksX1_drop_0 21 rfl rfl)
theorem dX1_drop_24 : decode cX1_drop 24 = .ok (.ireturn, 1) := dk_172 (dk_at dksX1_drop_1 0 rfl rfl)
theorem dX1_drop_25 : decode cX1_drop 25 = .ok (.aload_n 0, 1) := dk_42 (dk_at dksX1_drop_1 1 rfl rfl)
theorem dX1_drop_26 : decode cX1_drop 26 = .ok (.iconst 1, 1) := dk_4 (dk_at dksX1_drop_1 2 rfl rfl)
theorem dX1_drop_27 : decode cX1_drop 27 = .ok (.iload_n 1, 1) := dk_27 (dk_at dksX1_drop_1 3 rfl rfl)
theorem dX1_drop_28 : decode cX1_drop 28 = .ok (.iload_n 2, 1) := dk_28 (dk_at dksX1_drop_1 4 rfl rfl)
theorem dX1_drop_29 : decode cX1_drop 29 = .ok (.iload_n 3, 1) := dk_29 (dk_at dksX1_drop_1 5 rfl rfl)
theorem dX1_drop_30 : decode cX1_drop 30 = .ok (.iload 4, 2) := dk_21 4 (dk_at dksX1_drop_1 6 rfl rfl)
theorem dX1_drop_32 : decode cX1_drop 32 = .ok (.invokevirtual 308, 3) := dk_182 1 52 (dk_at dksX1_drop_1 8 rfl rfl)
theorem dX1_drop_35 : decode cX1_drop 35 = .ok (.aload_n 0, 1) := dk_42 (dk_at dksX1_drop_1 11 rfl rfl)
theorem dX1_drop_36 : decode cX1_drop 36 = .ok (.iload_n 1, 1) := dk_27 (dk_at dksX1_drop_1 12 rfl rfl)
theorem dX1_drop_37 : decode cX1_drop 37 = .ok (.invokevirtual 218, 3) := dk_182 0 218 (dk_at dksX1_drop_1 13 rfl rfl)
theorem dX1_drop_40 : decode cX1_drop 40 = .ok (.getfield 222, 3) := dk_180 0 222 (dk_at dksX1_drop_1 16 rfl rfl)
theorem dX1_drop_43 : decode cX1_drop 43 = .ok (.ireturn, 1) := dk_172 (dk_at dksX1_drop_1 19 rfl rfl)
abbrev cX1_move : ByteArray := prog_1_method_38_code
def yX1_move : MethodName := ⟨RX1, "move", "(IIIII)I"⟩
def dkwX1_move_4 : List UInt8 := [180, 0, 59, 5, 27, 4, 182, 1, 42, 25, 6, 21, 4, 21, 5, 182, 0, 235, 172]
abbrev dktX1_move_4 : List UInt8 := dkwX1_move_4 ++ []
def dkwX1_move_3 : List UInt8 := [182, 1, 36, 25, 6, 28, 29, 2, 182, 1, 39, 25, 6, 21, 4, 21, 5, 4, 182, 1, 39, 42]
abbrev dktX1_move_3 : List UInt8 := dkwX1_move_3 ++ dktX1_move_4
def dkwX1_move_2 : List UInt8 := [182, 0, 218, 58, 6, 25, 6, 28, 29, 182, 0, 235, 154, 0, 9, 42, 6, 182, 1, 49, 172, 42]
abbrev dktX1_move_2 : List UInt8 := dkwX1_move_2 ++ dktX1_move_3
def dkwX1_move_1 : List UInt8 := [182, 1, 49, 172, 28, 21, 4, 160, 0, 15, 29, 21, 5, 160, 0, 9, 42, 5, 182, 1, 49, 172, 42, 27]
abbrev dktX1_move_1 : List UInt8 := dkwX1_move_1 ++ dktX1_move_2
def dkwX1_move_0 : List UInt8 := [42, 27, 28, 29, 182, 0, 231, 153, 0, 15, 42, 27, 21, 4, 21, 5, 182, 0, 231, 154, 0, 9, 42, 3]
abbrev dktX1_move_0 : List UInt8 := dkwX1_move_0 ++ dktX1_move_1
theorem dksX1_move_0 : cX1_move.data.toList.drop 0 = dktX1_move_0 := by decide +kernel
theorem dksX1_move_1 : cX1_move.data.toList.drop 24 = dktX1_move_1 := dk_seg dksX1_move_0 24 rfl rfl
theorem dksX1_move_2 : cX1_move.data.toList.drop 48 = dktX1_move_2 := dk_seg dksX1_move_1 24 rfl rfl
theorem dksX1_move_3 : cX1_move.data.toList.drop 70 = dktX1_move_3 := dk_seg dksX1_move_2 22 rfl rfl
theorem dksX1_move_4 : cX1_move.data.toList.drop 92 = dktX1_move_4 := dk_seg dksX1_move_3 22 rfl rfl
theorem dX1_move_0 : decode cX1_move 0 = .ok (.aload_n 0, 1) := dk_42 (dk_at dksX1_move_0 0 rfl rfl)
theorem dX1_move_1 : decode cX1_move 1 = .ok (.iload_n 1, 1) := dk_27 (dk_at dksX1_move_0 1 rfl rfl)
theorem dX1_move_2 : decode cX1_move 2 = .ok (.iload_n 2, 1) := dk_28 (dk_at dksX1_move_0 2 rfl rfl)
theorem dX1_move_3 : decode cX1_move 3 = .ok (.iload_n 3, 1) := dk_29 (dk_at dksX1_move_0 3 rfl rfl)
theorem dX1_move_4 : decode cX1_move 4 = .ok (.invokevirtual 231, 3) := dk_182 0 231 (dk_at dksX1_move_0 4 rfl rfl)
theorem dX1_move_7 : decode cX1_move 7 = .ok (.ifCond .eq 15, 3) := dk_153 0 15 (dk_at dksX1_move_0 7 rfl rfl)
theorem dX1_move_10 : decode cX1_move 10 = .ok (.aload_n 0, 1) := dk_42 (dk_at dksX1_move_0 10 rfl rfl)
theorem dX1_move_11 : decode cX1_move 11 = .ok (.iload_n 1, 1) := dk_27 (dk_at dksX1_move_0 11 rfl rfl)
theorem dX1_move_12 : decode cX1_move 12 = .ok (.iload 4, 2) := dk_21 4 (dk_at dksX1_move_0 12 rfl rfl)
theorem dX1_move_14 : decode cX1_move 14 = .ok (.iload 5, 2) := dk_21 5 (dk_at dksX1_move_0 14 rfl rfl)
theorem dX1_move_16 : decode cX1_move 16 = .ok (.invokevirtual 231, 3) := dk_182 0 231 (dk_at dksX1_move_0 16 rfl rfl)
theorem dX1_move_19 : decode cX1_move 19 = .ok (.ifCond .ne 9, 3) := dk_154 0 9 (dk_at dksX1_move_0 19 rfl rfl)
theorem dX1_move_22 : decode cX1_move 22 = .ok (.aload_n 0, 1) := dk_42 (dk_at dksX1_move_0 22 rfl rfl)
theorem dX1_move_23 : decode cX1_move 23 = .ok (.iconst 0, 1) := dk_3 (dk_at dksX1_move_0 23 rfl rfl)
theorem dX1_move_24 : decode cX1_move 24 = .ok (.invokevirtual 305, 3) := dk_182 1 49 (dk_at dksX1_move_1 0 rfl rfl)
theorem dX1_move_27 : decode cX1_move 27 = .ok (.ireturn, 1) := dk_172 (dk_at dksX1_move_1 3 rfl rfl)
theorem dX1_move_28 : decode cX1_move 28 = .ok (.iload_n 2, 1) := dk_28 (dk_at dksX1_move_1 4 rfl rfl)
theorem dX1_move_29 : decode cX1_move 29 = .ok (.iload 4, 2) := dk_21 4 (dk_at dksX1_move_1 5 rfl rfl)
theorem dX1_move_31 : decode cX1_move 31 = .ok (.if_icmp .ne 15, 3) := dk_160 0 15 (dk_at dksX1_move_1 7 rfl rfl)
theorem dX1_move_34 : decode cX1_move 34 = .ok (.iload_n 3, 1) := dk_29 (dk_at dksX1_move_1 10 rfl rfl)
theorem dX1_move_35 : decode cX1_move 35 = .ok (.iload 5, 2) := dk_21 5 (dk_at dksX1_move_1 11 rfl rfl)
theorem dX1_move_37 : decode cX1_move 37 = .ok (.if_icmp .ne 9, 3) := dk_160 0 9 (dk_at dksX1_move_1 13 rfl rfl)
theorem dX1_move_40 : decode cX1_move 40 = .ok (.aload_n 0, 1) := dk_42 (dk_at dksX1_move_1 16 rfl rfl)
theorem dX1_move_41 : decode cX1_move 41 = .ok (.iconst 2, 1) := dk_5 (dk_at dksX1_move_1 17 rfl rfl)
theorem dX1_move_42 : decode cX1_move 42 = .ok (.invokevirtual 305, 3) := dk_182 1 49 (dk_at dksX1_move_1 18 rfl rfl)
theorem dX1_move_45 : decode cX1_move 45 = .ok (.ireturn, 1) := dk_172 (dk_at dksX1_move_1 21 rfl rfl)
theorem dX1_move_46 : decode cX1_move 46 = .ok (.aload_n 0, 1) := dk_42 (dk_at dksX1_move_1 22 rfl rfl)
theorem dX1_move_47 : decode cX1_move 47 = .ok (.iload_n 1, 1) := dk_27 (dk_at dksX1_move_1 23 rfl rfl)
theorem dX1_move_48 : decode cX1_move 48 = .ok (.invokevirtual 218, 3) := dk_182 0 218 (dk_at dksX1_move_2 0 rfl rfl)
theorem dX1_move_51 : decode cX1_move 51 = .ok (.astore 6, 2) := dk_58 6 (dk_at dksX1_move_2 3 rfl rfl)
theorem dX1_move_53 : decode cX1_move 53 = .ok (.aload 6, 2) := dk_25 6 (dk_at dksX1_move_2 5 rfl rfl)
theorem dX1_move_55 : decode cX1_move 55 = .ok (.iload_n 2, 1) := dk_28 (dk_at dksX1_move_2 7 rfl rfl)
theorem dX1_move_56 : decode cX1_move 56 = .ok (.iload_n 3, 1) := dk_29 (dk_at dksX1_move_2 8 rfl rfl)
theorem dX1_move_57 : decode cX1_move 57 = .ok (.invokevirtual 235, 3) := dk_182 0 235 (dk_at dksX1_move_2 9 rfl rfl)
theorem dX1_move_60 : decode cX1_move 60 = .ok (.ifCond .ne 9, 3) := dk_154 0 9 (dk_at dksX1_move_2 12 rfl rfl)
theorem dX1_move_63 : decode cX1_move 63 = .ok (.aload_n 0, 1) := dk_42 (dk_at dksX1_move_2 15 rfl rfl)
theorem dX1_move_64 : decode cX1_move 64 = .ok (.iconst 3, 1) := dk_6 (dk_at dksX1_move_2 16 rfl rfl)
theorem dX1_move_65 : decode cX1_move 65 = .ok (.invokevirtual 305, 3) := dk_182 1 49 (dk_at dksX1_move_2 17 rfl rfl)
theorem dX1_move_68 : decode cX1_move 68 = .ok (.ireturn, 1) := dk_172 (dk_at dksX1_move_2 20 rfl rfl)
theorem dX1_move_69 : decode cX1_move 69 = .ok (.aload_n 0, 1) := dk_42 (dk_at dksX1_move_2 21 rfl rfl)
theorem dX1_move_70 : decode cX1_move 70 = .ok (.invokevirtual 292, 3) := dk_182 1 36 (dk_at dksX1_move_3 0 rfl rfl)
theorem dX1_move_73 : decode cX1_move 73 = .ok (.aload 6, 2) := dk_25 6 (dk_at dksX1_move_3 3 rfl rfl)
theorem dX1_move_75 : decode cX1_move 75 = .ok (.iload_n 2, 1) := dk_28 (dk_at dksX1_move_3 5 rfl rfl)
theorem dX1_move_76 : decode cX1_move 76 = .ok (.iload_n 3, 1) := dk_29 (dk_at dksX1_move_3 6 rfl rfl)
theorem dX1_move_77 : decode cX1_move 77 = .ok (.iconst (-1), 1) := dk_2 (dk_at dksX1_move_3 7 rfl rfl)
theorem dX1_move_78 : decode cX1_move 78 = .ok (.invokevirtual 295, 3) := dk_182 1 39 (dk_at dksX1_move_3 8 rfl rfl)
theorem dX1_move_81 : decode cX1_move 81 = .ok (.aload 6, 2) := dk_25 6 (dk_at dksX1_move_3 11 rfl rfl)
theorem dX1_move_83 : decode cX1_move 83 = .ok (.iload 4, 2) := dk_21 4 (dk_at dksX1_move_3 13 rfl rfl)
theorem dX1_move_85 : decode cX1_move 85 = .ok (.iload 5, 2) := dk_21 5 (dk_at dksX1_move_3 15 rfl rfl)
theorem dX1_move_87 : decode cX1_move 87 = .ok (.iconst 1, 1) := dk_4 (dk_at dksX1_move_3 17 rfl rfl)
theorem dX1_move_88 : decode cX1_move 88 = .ok (.invokevirtual 295, 3) := dk_182 1 39 (dk_at dksX1_move_3 18 rfl rfl)
theorem dX1_move_91 : decode cX1_move 91 = .ok (.aload_n 0, 1) := dk_42 (dk_at dksX1_move_3 21 rfl rfl)
theorem dX1_move_92 : decode cX1_move 92 = .ok (.getfield 59, 3) := dk_180 0 59 (dk_at dksX1_move_4 0 rfl rfl)
theorem dX1_move_95 : decode cX1_move 95 = .ok (.iconst 2, 1) := dk_5 (dk_at dksX1_move_4 3 rfl rfl)
theorem dX1_move_96 : decode cX1_move 96 = .ok (.iload_n 1, 1) := dk_27 (dk_at dksX1_move_4 4 rfl rfl)
theorem dX1_move_97 : decode cX1_move 97 = .ok (.iconst 1, 1) := dk_4 (dk_at dksX1_move_4 5 rfl rfl)
theorem dX1_move_98 : decode cX1_move 98 = .ok (.invokevirtual 298, 3) := dk_182 1 42 (dk_at dksX1_move_4 6 rfl rfl)
theorem dX1_move_101 : decode cX1_move 101 = .ok (.aload 6, 2) := dk_25 6 (dk_at dksX1_move_4 9 rfl rfl)
theorem dX1_move_103 : decode cX1_move 103 = .ok (.iload 4, 2) := dk_21 4 (dk_at dksX1_move_4 11 rfl rfl)
theorem dX1_move_105 : decode cX1_move 105 = .ok (.iload 5, 2) := dk_21 5 (dk_at dksX1_move_4 13 rfl rfl)
theorem dX1_move_107 : decode cX1_move 107 = .ok (.invokevirtual 235, 3) := dk_182 0 235 (dk_at dksX1_move_4 15 rfl rfl)
theorem dX1_move_110 : decode cX1_move 110 = .ok (.ireturn, 1) := dk_172 (dk_at dksX1_move_4 18 rfl rfl)
abbrev cX1_build : ByteArray := prog_1_method_40_code
def yX1_build : MethodName := ⟨RX1, "build", "(II)I"⟩
def dkwX1_build_2 : List UInt8 := [180, 0, 242, 28, 50, 180, 0, 246, 172]
abbrev dktX1_build_2 : List UInt8 := dkwX1_build_2 ++ []
def dkwX1_build_1 : List UInt8 := [50, 180, 1, 6, 154, 0, 9, 42, 5, 182, 1, 49, 172, 42, 27, 28, 182, 1, 58, 42, 27, 182, 0, 218]
abbrev dktX1_build_1 : List UInt8 := dkwX1_build_1 ++ dktX1_build_2
def dkwX1_build_0 : List UInt8 := [42, 27, 28, 182, 0, 238, 154, 0, 9, 42, 3, 182, 1, 49, 172, 42, 27, 182, 0, 218, 180, 0, 242, 28]
abbrev dktX1_build_0 : List UInt8 := dkwX1_build_0 ++ dktX1_build_1
theorem dksX1_build_0 : cX1_build.data.toList.drop 0 = dktX1_build_0 := by decide +kernel
theorem dksX1_build_1 : cX1_build.data.toList.drop 24 = dktX1_build_1 := dk_seg dksX1_build_0 24 rfl rfl
theorem dksX1_build_2 : cX1_build.data.toList.drop 48 = dktX1_build_2 := dk_seg dksX1_build_1 24 rfl rfl
theorem dX1_build_0 : decode cX1_build 0 = .ok (.aload_n 0, 1) := dk_42 (dk_at dksX1_build_0 0 rfl rfl)
theorem dX1_build_1 : decode cX1_build 1 = .ok (.iload_n 1, 1) := dk_27 (dk_at dksX1_build_0 1 rfl rfl)
theorem dX1_build_2 : decode cX1_build 2 = .ok (.iload_n 2, 1) := dk_28 (dk_at dksX1_build_0 2 rfl rfl)
theorem dX1_build_3 : decode cX1_build 3 = .ok (.invokevirtual 238, 3) := dk_182 0 238 (dk_at dksX1_build_0 3 rfl rfl)
theorem dX1_build_6 : decode cX1_build 6 = .ok (.ifCond .ne 9, 3) := dk_154 0 9 (dk_at dksX1_build_0 6 rfl rfl)
theorem dX1_build_9 : decode cX1_build 9 = .ok (.aload_n 0, 1) := dk_42 (dk_at dksX1_build_0 9 rfl rfl)
theorem dX1_build_10 : decode cX1_build 10 = .ok (.iconst 0, 1) := dk_3 (dk_at dksX1_build_0 10 rfl rfl)
theorem dX1_build_11 : decode cX1_build 11 = .ok (.invokevirtual 305, 3) := dk_182 1 49 (dk_at dksX1_build_0 11 rfl rfl)
theorem dX1_build_14 : decode cX1_build 14 = .ok (.ireturn, 1) := dk_172 (dk_at dksX1_build_0 14 rfl rfl)
theorem dX1_build_15 : decode cX1_build 15 = .ok (.aload_n 0, 1) := dk_42 (dk_at dksX1_build_0 15 rfl rfl)
theorem dX1_build_16 : decode cX1_build 16 = .ok (.iload_n 1, 1) := dk_27 (dk_at dksX1_build_0 16 rfl rfl)
theorem dX1_build_17 : decode cX1_build 17 = .ok (.invokevirtual 218, 3) := dk_182 0 218 (dk_at dksX1_build_0 17 rfl rfl)
theorem dX1_build_20 : decode cX1_build 20 = .ok (.getfield 242, 3) := dk_180 0 242 (dk_at dksX1_build_0 20 rfl rfl)
theorem dX1_build_23 : decode cX1_build 23 = .ok (.iload_n 2, 1) := dk_28 (dk_at dksX1_build_0 23 rfl rfl)
theorem dX1_build_24 : decode cX1_build 24 = .ok (.aaload, 1) := dk_50 (dk_at dksX1_build_1 0 rfl rfl)
theorem dX1_build_25 : decode cX1_build 25 = .ok (.getfield 262, 3) := dk_180 1 6 (dk_at dksX1_build_1 1 rfl rfl)
theorem dX1_build_28 : decode cX1_build 28 = .ok (.ifCond .ne 9, 3) := dk_154 0 9 (dk_at dksX1_build_1 4 rfl rfl)
theorem dX1_build_31 : decode cX1_build 31 = .ok (.aload_n 0, 1) := dk_42 (dk_at dksX1_build_1 7 rfl rfl)
theorem dX1_build_32 : decode cX1_build 32 = .ok (.iconst 2, 1) := dk_5 (dk_at dksX1_build_1 8 rfl rfl)
theorem dX1_build_33 : decode cX1_build 33 = .ok (.invokevirtual 305, 3) := dk_182 1 49 (dk_at dksX1_build_1 9 rfl rfl)
theorem dX1_build_36 : decode cX1_build 36 = .ok (.ireturn, 1) := dk_172 (dk_at dksX1_build_1 12 rfl rfl)
theorem dX1_build_37 : decode cX1_build 37 = .ok (.aload_n 0, 1) := dk_42 (dk_at dksX1_build_1 13 rfl rfl)
theorem dX1_build_38 : decode cX1_build 38 = .ok (.iload_n 1, 1) := dk_27 (dk_at dksX1_build_1 14 rfl rfl)
theorem dX1_build_39 : decode cX1_build 39 = .ok (.iload_n 2, 1) := dk_28 (dk_at dksX1_build_1 15 rfl rfl)
theorem dX1_build_40 : decode cX1_build 40 = .ok (.invokevirtual 314, 3) := dk_182 1 58 (dk_at dksX1_build_1 16 rfl rfl)
theorem dX1_build_43 : decode cX1_build 43 = .ok (.aload_n 0, 1) := dk_42 (dk_at dksX1_build_1 19 rfl rfl)
theorem dX1_build_44 : decode cX1_build 44 = .ok (.iload_n 1, 1) := dk_27 (dk_at dksX1_build_1 20 rfl rfl)
theorem dX1_build_45 : decode cX1_build 45 = .ok (.invokevirtual 218, 3) := dk_182 0 218 (dk_at dksX1_build_1 21 rfl rfl)
theorem dX1_build_48 : decode cX1_build 48 = .ok (.getfield 242, 3) := dk_180 0 242 (dk_at dksX1_build_2 0 rfl rfl)
theorem dX1_build_51 : decode cX1_build 51 = .ok (.iload_n 2, 1) := dk_28 (dk_at dksX1_build_2 3 rfl rfl)
theorem dX1_build_52 : decode cX1_build 52 = .ok (.aaload, 1) := dk_50 (dk_at dksX1_build_2 4 rfl rfl)
theorem dX1_build_53 : decode cX1_build 53 = .ok (.getfield 246, 3) := dk_180 0 246 (dk_at dksX1_build_2 5 rfl rfl)
theorem dX1_build_56 : decode cX1_build 56 = .ok (.ireturn, 1) := dk_172 (dk_at dksX1_build_2 8 rfl rfl)
abbrev cX1_buildsNow : ByteArray := prog_1_method_39_code
def yX1_buildsNow : MethodName := ⟨RX1, "buildsNow", "(II)V"⟩
def dkwX1_buildsNow_0 : List UInt8 := [42, 182, 1, 36, 42, 27, 182, 0, 218, 28, 182, 1, 55, 42, 180, 0, 59, 6, 27, 28, 182, 1, 42, 177]
abbrev dktX1_buildsNow_0 : List UInt8 := dkwX1_buildsNow_0 ++ []
theorem dksX1_buildsNow_0 : cX1_buildsNow.data.toList.drop 0 = dktX1_buildsNow_0 := by decide +kernel
theorem dX1_buildsNow_0 : decode cX1_buildsNow 0 = .ok (.aload_n 0, 1) := dk_42 (dk_at dksX1_buildsNow_0 0 rfl rfl)
theorem dX1_buildsNow_1 : decode cX1_buildsNow 1 = .ok (.invokevirtual 292, 3) := dk_182 1 36 (dk_at dksX1_buildsNow_0 1 rfl rfl)
theorem dX1_buildsNow_4 : decode cX1_buildsNow 4 = .ok (.aload_n 0, 1) := dk_42 (dk_at dksX1_buildsNow_0 4 rfl rfl)
theorem dX1_buildsNow_5 : decode cX1_buildsNow 5 = .ok (.iload_n 1, 1) := dk_27 (dk_at dksX1_buildsNow_0 5 rfl rfl)
theorem dX1_buildsNow_6 : decode cX1_buildsNow 6 = .ok (.invokevirtual 218, 3) := dk_182 0 218 (dk_at dksX1_buildsNow_0 6 rfl rfl)
theorem dX1_buildsNow_9 : decode cX1_buildsNow 9 = .ok (.iload_n 2, 1) := dk_28 (dk_at dksX1_buildsNow_0 9 rfl rfl)
theorem dX1_buildsNow_10 : decode cX1_buildsNow 10 = .ok (.invokevirtual 311, 3) := dk_182 1 55 (dk_at dksX1_buildsNow_0 10 rfl rfl)
theorem dX1_buildsNow_13 : decode cX1_buildsNow 13 = .ok (.aload_n 0, 1) := dk_42 (dk_at dksX1_buildsNow_0 13 rfl rfl)
theorem dX1_buildsNow_14 : decode cX1_buildsNow 14 = .ok (.getfield 59, 3) := dk_180 0 59 (dk_at dksX1_buildsNow_0 14 rfl rfl)
theorem dX1_buildsNow_17 : decode cX1_buildsNow 17 = .ok (.iconst 3, 1) := dk_6 (dk_at dksX1_buildsNow_0 17 rfl rfl)
theorem dX1_buildsNow_18 : decode cX1_buildsNow 18 = .ok (.iload_n 1, 1) := dk_27 (dk_at dksX1_buildsNow_0 18 rfl rfl)
theorem dX1_buildsNow_19 : decode cX1_buildsNow 19 = .ok (.iload_n 2, 1) := dk_28 (dk_at dksX1_buildsNow_0 19 rfl rfl)
theorem dX1_buildsNow_20 : decode cX1_buildsNow 20 = .ok (.invokevirtual 298, 3) := dk_182 1 42 (dk_at dksX1_buildsNow_0 20 rfl rfl)
theorem dX1_buildsNow_23 : decode cX1_buildsNow 23 = .ok (.return_, 1) := dk_177 (dk_at dksX1_buildsNow_0 23 rfl rfl)
abbrev cX1_budget : ByteArray := prog_1_method_41_code
def yX1_budget : MethodName := ⟨RX1, "budget", "(I)I"⟩
def dkwX1_budget_3 : List UInt8 := [42, 180, 0, 59, 7, 2, 27, 182, 1, 42, 28, 172]
abbrev dktX1_budget_3 : List UInt8 := dkwX1_budget_3 ++ []
def dkwX1_budget_2 : List UInt8 := [182, 1, 49, 172, 42, 180, 0, 59, 180, 0, 204, 61, 42, 182, 1, 36, 42, 180, 0, 59, 27, 181, 0, 204]
abbrev dktX1_budget_2 : List UInt8 := dkwX1_budget_2 ++ dktX1_budget_3
def dkwX1_budget_1 : List UInt8 := [154, 0, 9, 42, 4, 182, 1, 49, 172, 27, 42, 180, 0, 59, 180, 0, 204, 160, 0, 9, 42, 5]
abbrev dktX1_budget_1 : List UInt8 := dkwX1_budget_1 ++ dktX1_budget_2
def dkwX1_budget_0 : List UInt8 := [42, 180, 0, 93, 199, 0, 9, 42, 3, 182, 1, 49, 172, 27, 133, 10, 20, 1, 62, 184, 0, 97]
abbrev dktX1_budget_0 : List UInt8 := dkwX1_budget_0 ++ dktX1_budget_1
theorem dksX1_budget_0 : cX1_budget.data.toList.drop 0 = dktX1_budget_0 := by decide +kernel
theorem dksX1_budget_1 : cX1_budget.data.toList.drop 22 = dktX1_budget_1 := dk_seg dksX1_budget_0 22 rfl rfl
theorem dksX1_budget_2 : cX1_budget.data.toList.drop 44 = dktX1_budget_2 := dk_seg dksX1_budget_1 22 rfl rfl
theorem dksX1_budget_3 : cX1_budget.data.toList.drop 68 = dktX1_budget_3 := dk_seg dksX1_budget_2 24 rfl rfl
theorem dX1_budget_0 : decode cX1_budget 0 = .ok (.aload_n 0, 1) := dk_42 (dk_at dksX1_budget_0 0 rfl rfl)
theorem dX1_budget_1 : decode cX1_budget 1 = .ok (.getfield 93, 3) := dk_180 0 93 (dk_at dksX1_budget_0 1 rfl rfl)
theorem dX1_budget_4 : decode cX1_budget 4 = .ok (.ifnonnull 9, 3) := dk_199 0 9 (dk_at dksX1_budget_0 4 rfl rfl)
theorem dX1_budget_7 : decode cX1_budget 7 = .ok (.aload_n 0, 1) := dk_42 (dk_at dksX1_budget_0 7 rfl rfl)
theorem dX1_budget_8 : decode cX1_budget 8 = .ok (.iconst 0, 1) := dk_3 (dk_at dksX1_budget_0 8 rfl rfl)
theorem dX1_budget_9 : decode cX1_budget 9 = .ok (.invokevirtual 305, 3) := dk_182 1 49 (dk_at dksX1_budget_0 9 rfl rfl)
theorem dX1_budget_12 : decode cX1_budget 12 = .ok (.ireturn, 1) := dk_172 (dk_at dksX1_budget_0 12 rfl rfl)
theorem dX1_budget_13 : decode cX1_budget 13 = .ok (.iload_n 1, 1) := dk_27 (dk_at dksX1_budget_0 13 rfl rfl)
theorem dX1_budget_14 : decode cX1_budget 14 = .ok (.i2l, 1) := dk_133 (dk_at dksX1_budget_0 14 rfl rfl)
theorem dX1_budget_15 : decode cX1_budget 15 = .ok (.lconst 1, 1) := dk_10 (dk_at dksX1_budget_0 15 rfl rfl)
theorem dX1_budget_16 : decode cX1_budget 16 = .ok (.ldc2_w 318, 3) := dk_20 1 62 (dk_at dksX1_budget_0 16 rfl rfl)
theorem dX1_budget_19 : decode cX1_budget 19 = .ok (.invokestatic 97, 3) := dk_184 0 97 (dk_at dksX1_budget_0 19 rfl rfl)
theorem dX1_budget_22 : decode cX1_budget 22 = .ok (.ifCond .ne 9, 3) := dk_154 0 9 (dk_at dksX1_budget_1 0 rfl rfl)
theorem dX1_budget_25 : decode cX1_budget 25 = .ok (.aload_n 0, 1) := dk_42 (dk_at dksX1_budget_1 3 rfl rfl)
theorem dX1_budget_26 : decode cX1_budget 26 = .ok (.iconst 1, 1) := dk_4 (dk_at dksX1_budget_1 4 rfl rfl)
theorem dX1_budget_27 : decode cX1_budget 27 = .ok (.invokevirtual 305, 3) := dk_182 1 49 (dk_at dksX1_budget_1 5 rfl rfl)
theorem dX1_budget_30 : decode cX1_budget 30 = .ok (.ireturn, 1) := dk_172 (dk_at dksX1_budget_1 8 rfl rfl)
theorem dX1_budget_31 : decode cX1_budget 31 = .ok (.iload_n 1, 1) := dk_27 (dk_at dksX1_budget_1 9 rfl rfl)
theorem dX1_budget_32 : decode cX1_budget 32 = .ok (.aload_n 0, 1) := dk_42 (dk_at dksX1_budget_1 10 rfl rfl)
theorem dX1_budget_33 : decode cX1_budget 33 = .ok (.getfield 59, 3) := dk_180 0 59 (dk_at dksX1_budget_1 11 rfl rfl)
theorem dX1_budget_36 : decode cX1_budget 36 = .ok (.getfield 204, 3) := dk_180 0 204 (dk_at dksX1_budget_1 14 rfl rfl)
theorem dX1_budget_39 : decode cX1_budget 39 = .ok (.if_icmp .ne 9, 3) := dk_160 0 9 (dk_at dksX1_budget_1 17 rfl rfl)
theorem dX1_budget_42 : decode cX1_budget 42 = .ok (.aload_n 0, 1) := dk_42 (dk_at dksX1_budget_1 20 rfl rfl)
theorem dX1_budget_43 : decode cX1_budget 43 = .ok (.iconst 2, 1) := dk_5 (dk_at dksX1_budget_1 21 rfl rfl)
theorem dX1_budget_44 : decode cX1_budget 44 = .ok (.invokevirtual 305, 3) := dk_182 1 49 (dk_at dksX1_budget_2 0 rfl rfl)
theorem dX1_budget_47 : decode cX1_budget 47 = .ok (.ireturn, 1) := dk_172 (dk_at dksX1_budget_2 3 rfl rfl)
theorem dX1_budget_48 : decode cX1_budget 48 = .ok (.aload_n 0, 1) := dk_42 (dk_at dksX1_budget_2 4 rfl rfl)
theorem dX1_budget_49 : decode cX1_budget 49 = .ok (.getfield 59, 3) := dk_180 0 59 (dk_at dksX1_budget_2 5 rfl rfl)
theorem dX1_budget_52 : decode cX1_budget 52 = .ok (.getfield 204, 3) := dk_180 0 204 (dk_at dksX1_budget_2 8 rfl rfl)
theorem dX1_budget_55 : decode cX1_budget 55 = .ok (.istore_n 2, 1) := dk_61 (dk_at dksX1_budget_2 11 rfl rfl)
theorem dX1_budget_56 : decode cX1_budget 56 = .ok (.aload_n 0, 1) := dk_42 (dk_at dksX1_budget_2 12 rfl rfl)
theorem dX1_budget_57 : decode cX1_budget 57 = .ok (.invokevirtual 292, 3) := dk_182 1 36 (dk_at dksX1_budget_2 13 rfl rfl)
theorem dX1_budget_60 : decode cX1_budget 60 = .ok (.aload_n 0, 1) := dk_42 (dk_at dksX1_budget_2 16 rfl rfl)
theorem dX1_budget_61 : decode cX1_budget 61 = .ok (.getfield 59, 3) := dk_180 0 59 (dk_at dksX1_budget_2 17 rfl rfl)
theorem dX1_budget_64 : decode cX1_budget 64 = .ok (.iload_n 1, 1) := dk_27 (dk_at dksX1_budget_2 20 rfl rfl)
theorem dX1_budget_65 : decode cX1_budget 65 = .ok (.putfield 204, 3) := dk_181 0 204 (dk_at dksX1_budget_2 21 rfl rfl)
theorem dX1_budget_68 : decode cX1_budget 68 = .ok (.aload_n 0, 1) := dk_42 (dk_at dksX1_budget_3 0 rfl rfl)
theorem dX1_budget_69 : decode cX1_budget 69 = .ok (.getfield 59, 3) := dk_180 0 59 (dk_at dksX1_budget_3 1 rfl rfl)
theorem dX1_budget_72 : decode cX1_budget 72 = .ok (.iconst 4, 1) := dk_7 (dk_at dksX1_budget_3 4 rfl rfl)
theorem dX1_budget_73 : decode cX1_budget 73 = .ok (.iconst (-1), 1) := dk_2 (dk_at dksX1_budget_3 5 rfl rfl)
theorem dX1_budget_74 : decode cX1_budget 74 = .ok (.iload_n 1, 1) := dk_27 (dk_at dksX1_budget_3 6 rfl rfl)
theorem dX1_budget_75 : decode cX1_budget 75 = .ok (.invokevirtual 298, 3) := dk_182 1 42 (dk_at dksX1_budget_3 7 rfl rfl)
theorem dX1_budget_78 : decode cX1_budget 78 = .ok (.iload_n 2, 1) := dk_28 (dk_at dksX1_budget_3 10 rfl rfl)
theorem dX1_budget_79 : decode cX1_budget 79 = .ok (.ireturn, 1) := dk_172 (dk_at dksX1_budget_3 11 rfl rfl)
abbrev cX1_years : ByteArray := prog_1_method_45_code
def yX1_years : MethodName := ⟨RX1, "years", "(IJ)I"⟩
def dkwX1_years_2 : List UInt8 := [180, 0, 59, 182, 1, 83, 172]
abbrev dktX1_years_2 : List UInt8 := dkwX1_years_2 ++ []
def dkwX1_years_1 : List UInt8 := [181, 1, 64, 3, 54, 4, 21, 4, 27, 162, 0, 13, 42, 182, 1, 80, 132, 4, 1, 167, 255, 243, 42]
abbrev dktX1_years_1 : List UInt8 := dkwX1_years_1 ++ dktX1_years_2
def dkwX1_years_0 : List UInt8 := [42, 180, 0, 93, 198, 0, 15, 27, 133, 10, 20, 1, 78, 184, 0, 97, 154, 0, 5, 2, 172, 42, 32]
abbrev dktX1_years_0 : List UInt8 := dkwX1_years_0 ++ dktX1_years_1
theorem dksX1_years_0 : cX1_years.data.toList.drop 0 = dktX1_years_0 := by decide +kernel
theorem dksX1_years_1 : cX1_years.data.toList.drop 23 = dktX1_years_1 := dk_seg dksX1_years_0 23 rfl rfl
theorem dksX1_years_2 : cX1_years.data.toList.drop 46 = dktX1_years_2 := dk_seg dksX1_years_1 23 rfl rfl
theorem dX1_years_0 : decode cX1_years 0 = .ok (.aload_n 0, 1) := dk_42 (dk_at dksX1_years_0 0 rfl rfl)
theorem dX1_years_1 : decode cX1_years 1 = .ok (.getfield 93, 3) := dk_180 0 93 (dk_at dksX1_years_0 1 rfl rfl)
theorem dX1_years_4 : decode cX1_years 4 = .ok (.ifnull 15, 3) := dk_198 0 15 (dk_at dksX1_years_0 4 rfl rfl)
theorem dX1_years_7 : decode cX1_years 7 = .ok (.iload_n 1, 1) := dk_27 (dk_at dksX1_years_0 7 rfl rfl)
theorem dX1_years_8 : decode cX1_years 8 = .ok (.i2l, 1) := dk_133 (dk_at dksX1_years_0 8 rfl rfl)
theorem dX1_years_9 : decode cX1_years 9 = .ok (.lconst 1, 1) := dk_10 (dk_at dksX1_years_0 9 rfl rfl)
theorem dX1_years_10 : decode cX1_years 10 = .ok (.ldc2_w 334, 3) := dk_20 1 78 (dk_at dksX1_years_0 10 rfl rfl)
theorem dX1_years_13 : decode cX1_years 13 = .ok (.invokestatic 97, 3) := dk_184 0 97 (dk_at dksX1_years_0 13 rfl rfl)
theorem dX1_years_16 : decode cX1_years 16 = .ok (.ifCond .ne 5, 3) := dk_154 0 5 (dk_at dksX1_years_0 16 rfl rfl)
theorem dX1_years_19 : decode cX1_years 19 = .ok (.iconst (-1), 1) := dk_2 (dk_at dksX1_years_0 19 rfl rfl)
theorem dX1_years_20 : decode cX1_years 20 = .ok (.ireturn, 1) := dk_172 (dk_at dksX1_years_0 20 rfl rfl)
theorem dX1_years_21 : decode cX1_years 21 = .ok (.aload_n 0, 1) := dk_42 (dk_at dksX1_years_0 21 rfl rfl)
theorem dX1_years_22 : decode cX1_years 22 = .ok (.lload_n 2, 1) := dk_32 (dk_at dksX1_years_0 22 rfl rfl)
theorem dX1_years_23 : decode cX1_years 23 = .ok (.putfield 320, 3) := dk_181 1 64 (dk_at dksX1_years_1 0 rfl rfl)
theorem dX1_years_26 : decode cX1_years 26 = .ok (.iconst 0, 1) := dk_3 (dk_at dksX1_years_1 3 rfl rfl)
theorem dX1_years_27 : decode cX1_years 27 = .ok (.istore 4, 2) := dk_54 4 (dk_at dksX1_years_1 4 rfl rfl)
theorem dX1_years_29 : decode cX1_years 29 = .ok (.iload 4, 2) := dk_21 4 (dk_at dksX1_years_1 6 rfl rfl)
theorem dX1_years_31 : decode cX1_years 31 = .ok (.iload_n 1, 1) := dk_27 (dk_at dksX1_years_1 8 rfl rfl)
theorem dX1_years_32 : decode cX1_years 32 = .ok (.if_icmp .ge 13, 3) := dk_162 0 13 (dk_at dksX1_years_1 9 rfl rfl)
theorem dX1_years_35 : decode cX1_years 35 = .ok (.aload_n 0, 1) := dk_42 (dk_at dksX1_years_1 12 rfl rfl)
theorem dX1_years_36 : decode cX1_years 36 = .ok (.invokevirtual 336, 3) := dk_182 1 80 (dk_at dksX1_years_1 13 rfl rfl)
theorem dX1_years_39 : decode cX1_years 39 = .ok (.iinc 4 1, 3) := dk_132 4 1 (dk_at dksX1_years_1 16 rfl rfl)
theorem dX1_years_42 : decode cX1_years 42 = .ok (.goto (-13), 3) := dk_167 255 243 (dk_at dksX1_years_1 19 rfl rfl)
theorem dX1_years_45 : decode cX1_years 45 = .ok (.aload_n 0, 1) := dk_42 (dk_at dksX1_years_1 22 rfl rfl)
theorem dX1_years_46 : decode cX1_years 46 = .ok (.getfield 59, 3) := dk_180 0 59 (dk_at dksX1_years_2 0 rfl rfl)
theorem dX1_years_49 : decode cX1_years 49 = .ok (.invokevirtual 339, 3) := dk_182 1 83 (dk_at dksX1_years_2 3 rfl rfl)
theorem dX1_years_52 : decode cX1_years 52 = .ok (.ireturn, 1) := dk_172 (dk_at dksX1_years_2 6 rfl rfl)
abbrev cX1_happens : ByteArray := prog_1_method_44_code
def yX1_happens : MethodName := ⟨RX1, "happens", "()V"⟩
def dkwX1_happens_6 : List UInt8 := [177]
abbrev dktX1_happens_6 : List UInt8 := dkwX1_happens_6 ++ []
def dkwX1_happens_5 : List UInt8 := [160, 0, 24, 42, 27, 5, 162, 0, 7, 3, 167, 0, 4, 4, 28, 21, 4, 21, 5, 21, 6, 182, 1, 52]
abbrev dktX1_happens_5 : List UInt8 := dkwX1_happens_5 ++ dktX1_happens_6
def dkwX1_happens_4 : List UInt8 := [42, 28, 21, 4, 21, 5, 21, 6, 27, 5, 162, 0, 7, 4, 167, 0, 4, 3, 182, 1, 45, 2]
abbrev dktX1_happens_4 : List UInt8 := dkwX1_happens_4 ++ dktX1_happens_5
def dkwX1_happens_3 : List UInt8 := [54, 4, 42, 29, 4, 96, 182, 1, 72, 29, 184, 1, 75, 54, 5, 42, 8, 182, 1, 72, 4, 96, 54, 6]
abbrev dktX1_happens_3 : List UInt8 := dkwX1_happens_3 ++ dktX1_happens_4
def dkwX1_happens_2 : List UInt8 := [182, 1, 58, 177, 42, 28, 182, 0, 218, 180, 0, 164, 62, 42, 29, 4, 96, 182, 1, 72, 29, 184, 1, 75]
abbrev dktX1_happens_2 : List UInt8 := dkwX1_happens_2 ++ dktX1_happens_3
def dkwX1_happens_1 : List UInt8 := [5, 182, 1, 72, 62, 42, 28, 182, 0, 218, 180, 0, 242, 29, 50, 180, 1, 6, 158, 0, 9, 42, 28, 29]
abbrev dktX1_happens_1 : List UInt8 := dkwX1_happens_1 ++ dktX1_happens_2
def dkwX1_happens_0 : List UInt8 := [42, 7, 182, 1, 72, 60, 42, 42, 180, 0, 93, 180, 0, 139, 182, 1, 72, 61, 27, 6, 160, 0, 32, 42]
abbrev dktX1_happens_0 : List UInt8 := dkwX1_happens_0 ++ dktX1_happens_1
theorem dksX1_happens_0 : cX1_happens.data.toList.drop 0 = dktX1_happens_0 := by decide +kernel
theorem dksX1_happens_1 : cX1_happens.data.toList.drop 24 = dktX1_happens_1 := dk_seg dksX1_happens_0 24 rfl rfl
theorem dksX1_happens_2 : cX1_happens.data.toList.drop 48 = dktX1_happens_2 := dk_seg dksX1_happens_1 24 rfl rfl
theorem dksX1_happens_3 : cX1_happens.data.toList.drop 72 = dktX1_happens_3 := dk_seg dksX1_happens_2 24 rfl rfl
theorem dksX1_happens_4 : cX1_happens.data.toList.drop 96 = dktX1_happens_4 := dk_seg dksX1_happens_3 24 rfl rfl
theorem dksX1_happens_5 : cX1_happens.data.toList.drop 118 = dktX1_happens_5 := dk_seg dksX1_happens_4 22 rfl rfl
theorem dksX1_happens_6 : cX1_happens.data.toList.drop 142 = dktX1_happens_6 := dk_seg dksX1_happens_5 24 rfl rfl
theorem dX1_happens_0 : decode cX1_happens 0 = .ok (.aload_n 0, 1) := dk_42 (dk_at dksX1_happens_0 0 rfl rfl)
theorem dX1_happens_1 : decode cX1_happens 1 = .ok (.iconst 4, 1) := dk_7 (dk_at dksX1_happens_0 1 rfl rfl)
theorem dX1_happens_2 : decode cX1_happens 2 = .ok (.invokevirtual 328, 3) := dk_182 1 72 (dk_at dksX1_happens_0 2 rfl rfl)
theorem dX1_happens_5 : decode cX1_happens 5 = .ok (.istore_n 1, 1) := dk_60 (dk_at dksX1_happens_0 5 rfl rfl)
theorem dX1_happens_6 : decode cX1_happens 6 = .ok (.aload_n 0, 1) := dk_42 (dk_at dksX1_happens_0 6 rfl rfl)
theorem dX1_happens_7 : decode cX1_happens 7 = .ok (.aload_n 0, 1) := dk_42 (dk_at dksX1_happens_0 7 rfl rfl)
theorem dX1_happens_8 : decode cX1_happens 8 = .ok (.getfield 93, 3) := dk_180 0 93 (dk_at dksX1_happens_0 8 rfl rfl)
theorem dX1_happens_11 : decode cX1_happens 11 = .ok (.getfield 139, 3) := dk_180 0 139 (dk_at dksX1_happens_0 11 rfl rfl)
theorem dX1_happens_14 : decode cX1_happens 14 = .ok (.invokevirtual 328, 3) := dk_182 1 72 (dk_at dksX1_happens_0 14 rfl rfl)
theorem dX1_happens_17 : decode cX1_happens 17 = .ok (.istore_n 2, 1) := dk_61 (dk_at dksX1_happens_0 17 rfl rfl)
theorem dX1_happens_18 : decode cX1_happens 18 = .ok (.iload_n 1, 1) := dk_27 (dk_at dksX1_happens_0 18 rfl rfl)
theorem dX1_happens_19 : decode cX1_happens 19 = .ok (.iconst 3, 1) := dk_6 (dk_at dksX1_happens_0 19 rfl rfl)
theorem dX1_happens_20 : decode cX1_happens 20 = .ok (.if_icmp .ne 32, 3) := dk_160 0 32 (dk_at dksX1_happens_0 20 rfl rfl)
theorem dX1_happens_23 : decode cX1_happens 23 = .ok (.aload_n 0, 1) := dk_42 (dk_at dksX1_happens_0 23 rfl rfl)
theorem dX1_happens_24 : decode cX1_happens 24 = .ok (.iconst 2, 1) := dk_5 (dk_at dksX1_happens_1 0 rfl rfl)
theorem dX1_happens_25 : decode cX1_happens 25 = .ok (.invokevirtual 328, 3) := dk_182 1 72 (dk_at dksX1_happens_1 1 rfl rfl)
theorem dX1_happens_28 : decode cX1_happens 28 = .ok (.istore_n 3, 1) := dk_62 (dk_at dksX1_happens_1 4 rfl rfl)
theorem dX1_happens_29 : decode cX1_happens 29 = .ok (.aload_n 0, 1) := dk_42 (dk_at dksX1_happens_1 5 rfl rfl)
theorem dX1_happens_30 : decode cX1_happens 30 = .ok (.iload_n 2, 1) := dk_28 (dk_at dksX1_happens_1 6 rfl rfl)
theorem dX1_happens_31 : decode cX1_happens 31 = .ok (.invokevirtual 218, 3) := dk_182 0 218 (dk_at dksX1_happens_1 7 rfl rfl)
theorem dX1_happens_34 : decode cX1_happens 34 = .ok (.getfield 242, 3) := dk_180 0 242 (dk_at dksX1_happens_1 10 rfl rfl)
theorem dX1_happens_37 : decode cX1_happens 37 = .ok (.iload_n 3, 1) := dk_29 (dk_at dksX1_happens_1 13 rfl rfl)
theorem dX1_happens_38 : decode cX1_happens 38 = .ok (.aaload, 1) := dk_50 (dk_at dksX1_happens_1 14 rfl rfl)
theorem dX1_happens_39 : decode cX1_happens 39 = .ok (.getfield 262, 3) := dk_180 1 6 (dk_at dksX1_happens_1 15 rfl rfl)
theorem dX1_happens_42 : decode cX1_happens 42 = .ok (.ifCond .le 9, 3) := dk_158 0 9 (dk_at dksX1_happens_1 18 rfl rfl)
theorem dX1_happens_45 : decode cX1_happens 45 = .ok (.aload_n 0, 1) := dk_42 (dk_at dksX1_happens_1 21 rfl rfl)
theorem dX1_happens_46 : decode cX1_happens 46 = .ok (.iload_n 2, 1) := dk_28 (dk_at dksX1_happens_1 22 rfl rfl)
theorem dX1_happens_47 : decode cX1_happens 47 = .ok (.iload_n 3, 1) := dk_29 (dk_at dksX1_happens_1 23 rfl rfl)
theorem dX1_happens_48 : decode cX1_happens 48 = .ok (.invokevirtual 314, 3) := dk_182 1 58 (dk_at dksX1_happens_2 0 rfl rfl)
theorem dX1_happens_51 : decode cX1_happens 51 = .ok (.return_, 1) := dk_177 (dk_at dksX1_happens_2 3 rfl rfl)
theorem dX1_happens_52 : decode cX1_happens 52 = .ok (.aload_n 0, 1) := dk_42 (dk_at dksX1_happens_2 4 rfl rfl)
theorem dX1_happens_53 : decode cX1_happens 53 = .ok (.iload_n 2, 1) := dk_28 (dk_at dksX1_happens_2 5 rfl rfl)
theorem dX1_happens_54 : decode cX1_happens 54 = .ok (.invokevirtual 218, 3) := dk_182 0 218 (dk_at dksX1_happens_2 6 rfl rfl)
theorem dX1_happens_57 : decode cX1_happens 57 = .ok (.getfield 164, 3) := dk_180 0 164 (dk_at dksX1_happens_2 9 rfl rfl)
theorem dX1_happens_60 : decode cX1_happens 60 = .ok (.istore_n 3, 1) := dk_62 (dk_at dksX1_happens_2 12 rfl rfl)
theorem dX1_happens_61 : decode cX1_happens 61 = .ok (.aload_n 0, 1) := dk_42 (dk_at dksX1_happens_2 13 rfl rfl)
theorem dX1_happens_62 : decode cX1_happens 62 = .ok (.iload_n 3, 1) := dk_29 (dk_at dksX1_happens_2 14 rfl rfl)
theorem dX1_happens_63 : decode cX1_happens 63 = .ok (.iconst 1, 1) := dk_4 (dk_at dksX1_happens_2 15 rfl rfl)
theorem dX1_happens_64 : decode cX1_happens 64 = .ok (.iadd, 1) := dk_96 (dk_at dksX1_happens_2 16 rfl rfl)
theorem dX1_happens_65 : decode cX1_happens 65 = .ok (.invokevirtual 328, 3) := dk_182 1 72 (dk_at dksX1_happens_2 17 rfl rfl)
theorem dX1_happens_68 : decode cX1_happens 68 = .ok (.iload_n 3, 1) := dk_29 (dk_at dksX1_happens_2 20 rfl rfl)
theorem dX1_happens_69 : decode cX1_happens 69 = .ok (.invokestatic 331, 3) := dk_184 1 75 (dk_at dksX1_happens_2 21 rfl rfl)
theorem dX1_happens_72 : decode cX1_happens 72 = .ok (.istore 4, 2) := dk_54 4 (dk_at dksX1_happens_3 0 rfl rfl)
theorem dX1_happens_74 : decode cX1_happens 74 = .ok (.aload_n 0, 1) := dk_42 (dk_at dksX1_happens_3 2 rfl rfl)
theorem dX1_happens_75 : decode cX1_happens 75 = .ok (.iload_n 3, 1) := dk_29 (dk_at dksX1_happens_3 3 rfl rfl)
theorem dX1_happens_76 : decode cX1_happens 76 = .ok (.iconst 1, 1) := dk_4 (dk_at dksX1_happens_3 4 rfl rfl)
theorem dX1_happens_77 : decode cX1_happens 77 = .ok (.iadd, 1) := dk_96 (dk_at dksX1_happens_3 5 rfl rfl)
theorem dX1_happens_78 : decode cX1_happens 78 = .ok (.invokevirtual 328, 3) := dk_182 1 72 (dk_at dksX1_happens_3 6 rfl rfl)
theorem dX1_happens_81 : decode cX1_happens 81 = .ok (.iload_n 3, 1) := dk_29 (dk_at dksX1_happens_3 9 rfl rfl)
theorem dX1_happens_82 : decode cX1_happens 82 = .ok (.invokestatic 331, 3) := dk_184 1 75 (dk_at dksX1_happens_3 10 rfl rfl)
theorem dX1_happens_85 : decode cX1_happens 85 = .ok (.istore 5, 2) := dk_54 5 (dk_at dksX1_happens_3 13 rfl rfl)
theorem dX1_happens_87 : decode cX1_happens 87 = .ok (.aload_n 0, 1) := dk_42 (dk_at dksX1_happens_3 15 rfl rfl)
theorem dX1_happens_88 : decode cX1_happens 88 = .ok (.iconst 5, 1) := dk_8 (dk_at dksX1_happens_3 16 rfl rfl)
theorem dX1_happens_89 : decode cX1_happens 89 = .ok (.invokevirtual 328, 3) := dk_182 1 72 (dk_at dksX1_happens_3 17 rfl rfl)
theorem dX1_happens_92 : decode cX1_happens 92 = .ok (.iconst 1, 1) := dk_4 (dk_at dksX1_happens_3 20 rfl rfl)
theorem dX1_happens_93 : decode cX1_happens 93 = .ok (.iadd, 1) := dk_96 (dk_at dksX1_happens_3 21 rfl rfl)
theorem dX1_happens_94 : decode cX1_happens 94 = .ok (.istore 6, 2) := dk_54 6 (dk_at dksX1_happens_3 22 rfl rfl)
theorem dX1_happens_96 : decode cX1_happens 96 = .ok (.aload_n 0, 1) := dk_42 (dk_at dksX1_happens_4 0 rfl rfl)
theorem dX1_happens_97 : decode cX1_happens 97 = .ok (.iload_n 2, 1) := dk_28 (dk_at dksX1_happens_4 1 rfl rfl)
theorem dX1_happens_98 : decode cX1_happens 98 = .ok (.iload 4, 2) := dk_21 4 (dk_at dksX1_happens_4 2 rfl rfl)
theorem dX1_happens_100 : decode cX1_happens 100 = .ok (.iload 5, 2) := dk_21 5 (dk_at dksX1_happens_4 4 rfl rfl)
theorem dX1_happens_102 : decode cX1_happens 102 = .ok (.iload 6, 2) := dk_21 6 (dk_at dksX1_happens_4 6 rfl rfl)
theorem dX1_happens_104 : decode cX1_happens 104 = .ok (.iload_n 1, 1) := dk_27 (dk_at dksX1_happens_4 8 rfl rfl)
theorem dX1_happens_105 : decode cX1_happens 105 = .ok (.iconst 2, 1) := dk_5 (dk_at dksX1_happens_4 9 rfl rfl)
theorem dX1_happens_106 : decode cX1_happens 106 = .ok (.if_icmp .ge 7, 3) := dk_162 0 7 (dk_at dksX1_happens_4 10 rfl rfl)
theorem dX1_happens_109 : decode cX1_happens 109 = .ok (.iconst 1, 1) := dk_4 (dk_at dksX1_happens_4 13 rfl rfl)
theorem dX1_happens_110 : decode cX1_happens 110 = .ok (.goto 4, 3) := dk_167 0 4 (dk_at dksX1_happens_4 14 rfl rfl)
theorem dX1_happens_113 : decode cX1_happens 113 = .ok (.iconst 0, 1) := dk_3 (dk_at dksX1_happens_4 17 rfl rfl)
theorem dX1_happens_114 : decode cX1_happens 114 = .ok (.invokevirtual 301, 3) := dk_182 1 45 (dk_at dksX1_happens_4 18 rfl rfl)
theorem dX1_happens_117 : decode cX1_happens 117 = .ok (.iconst (-1), 1) := dk_2 (dk_at dksX1_happens_4 21 rfl rfl)
theorem dX1_happens_118 : decode cX1_happens 118 = .ok (.if_icmp .ne 24, 3) := dk_160 0 24 (dk_at dksX1_happens_5 0 rfl rfl)
theorem dX1_happens_121 : decode cX1_happens 121 = .ok (.aload_n 0, 1) := dk_42 (dk_at dksX1_happens_5 3 rfl rfl)
theorem dX1_happens_122 : decode cX1_happens 122 = .ok (.iload_n 1, 1) := dk_27 (dk_at dksX1_happens_5 4 rfl rfl)
theorem dX1_happens_123 : decode cX1_happens 123 = .ok (.iconst 2, 1) := dk_5 (dk_at dksX1_happens_5 5 rfl rfl)
theorem dX1_happens_124 : decode cX1_happens 124 = .ok (.if_icmp .ge 7, 3) := dk_162 0 7 (dk_at dksX1_happens_5 6 rfl rfl)
theorem dX1_happens_127 : decode cX1_happens 127 = .ok (.iconst 0, 1) := dk_3 (dk_at dksX1_happens_5 9 rfl rfl)
theorem dX1_happens_128 : decode cX1_happens 128 = .ok (.goto 4, 3) := dk_167 0 4 (dk_at dksX1_happens_5 10 rfl rfl)
theorem dX1_happens_131 : decode cX1_happens 131 = .ok (.iconst 1, 1) := dk_4 (dk_at dksX1_happens_5 13 rfl rfl)
theorem dX1_happens_132 : decode cX1_happens 132 = .ok (.iload_n 2, 1) := dk_28 (dk_at dksX1_happens_5 14 rfl rfl)
theorem dX1_happens_133 : decode cX1_happens 133 = .ok (.iload 4, 2) := dk_21 4 (dk_at dksX1_happens_5 15 rfl rfl)
theorem dX1_happens_135 : decode cX1_happens 135 = .ok (.iload 5, 2) := dk_21 5 (dk_at dksX1_happens_5 17 rfl rfl)
theorem dX1_happens_137 : decode cX1_happens 137 = .ok (.iload 6, 2) := dk_21 6 (dk_at dksX1_happens_5 19 rfl rfl)
theorem dX1_happens_139 : decode cX1_happens 139 = .ok (.invokevirtual 308, 3) := dk_182 1 52 (dk_at dksX1_happens_5 21 rfl rfl)
theorem dX1_happens_142 : decode cX1_happens 142 = .ok (.return_, 1) := dk_177 (dk_at dksX1_happens_6 0 rfl rfl)
abbrev cX1_draw : ByteArray := prog_1_method_42_code
def yX1_draw : MethodName := ⟨RX1, "draw", "(I)I"⟩
def dkwX1_draw_1 : List UInt8 := [133, 113, 136, 172]
abbrev dktX1_draw_1 : List UInt8 := dkwX1_draw_1 ++ []
def dkwX1_draw_0 : List UInt8 := [42, 42, 180, 1, 64, 20, 1, 68, 105, 20, 1, 70, 97, 181, 1, 64, 42, 180, 1, 64, 16, 33, 125, 27]
abbrev dktX1_draw_0 : List UInt8 := dkwX1_draw_0 ++ dktX1_draw_1
theorem dksX1_draw_0 : cX1_draw.data.toList.drop 0 = dktX1_draw_0 := by decide +kernel
theorem dksX1_draw_1 : cX1_draw.data.toList.drop 24 = dktX1_draw_1 := dk_seg dksX1_draw_0 24 rfl rfl
theorem dX1_draw_0 : decode cX1_draw 0 = .ok (.aload_n 0, 1) := dk_42 (dk_at dksX1_draw_0 0 rfl rfl)
theorem dX1_draw_1 : decode cX1_draw 1 = .ok (.aload_n 0, 1) := dk_42 (dk_at dksX1_draw_0 1 rfl rfl)
theorem dX1_draw_2 : decode cX1_draw 2 = .ok (.getfield 320, 3) := dk_180 1 64 (dk_at dksX1_draw_0 2 rfl rfl)
theorem dX1_draw_5 : decode cX1_draw 5 = .ok (.ldc2_w 324, 3) := dk_20 1 68 (dk_at dksX1_draw_0 5 rfl rfl)
theorem dX1_draw_8 : decode cX1_draw 8 = .ok (.lmul, 1) := dk_105 (dk_at dksX1_draw_0 8 rfl rfl)
theorem dX1_draw_9 : decode cX1_draw 9 = .ok (.ldc2_w 326, 3) := dk_20 1 70 (dk_at dksX1_draw_0 9 rfl rfl)
theorem dX1_draw_12 : decode cX1_draw 12 = .ok (.ladd, 1) := dk_97 (dk_at dksX1_draw_0 12 rfl rfl)
theorem dX1_draw_13 : decode cX1_draw 13 = .ok (.putfield 320, 3) := dk_181 1 64 (dk_at dksX1_draw_0 13 rfl rfl)
theorem dX1_draw_16 : decode cX1_draw 16 = .ok (.aload_n 0, 1) := dk_42 (dk_at dksX1_draw_0 16 rfl rfl)
theorem dX1_draw_17 : decode cX1_draw 17 = .ok (.getfield 320, 3) := dk_180 1 64 (dk_at dksX1_draw_0 17 rfl rfl)
theorem dX1_draw_20 : decode cX1_draw 20 = .ok (.bipush 33, 2) := dk_16 33 (dk_at dksX1_draw_0 20 rfl rfl)
theorem dX1_draw_22 : decode cX1_draw 22 = .ok (.lushr, 1) := dk_125 (dk_at dksX1_draw_0 22 rfl rfl)
theorem dX1_draw_23 : decode cX1_draw 23 = .ok (.iload_n 1, 1) := dk_27 (dk_at dksX1_draw_0 23 rfl rfl)
theorem dX1_draw_24 : decode cX1_draw 24 = .ok (.i2l, 1) := dk_133 (dk_at dksX1_draw_1 0 rfl rfl)
theorem dX1_draw_25 : decode cX1_draw 25 = .ok (.lrem, 1) := dk_113 (dk_at dksX1_draw_1 1 rfl rfl)
theorem dX1_draw_26 : decode cX1_draw 26 = .ok (.l2i, 1) := dk_136 (dk_at dksX1_draw_1 2 rfl rfl)
theorem dX1_draw_27 : decode cX1_draw 27 = .ok (.ireturn, 1) := dk_172 (dk_at dksX1_draw_1 3 rfl rfl)
abbrev cX1_valueOf : ByteArray := prog_1_method_43_code
def yX1_valueOf : MethodName := ⟨RX1, "valueOf", "(II)I"⟩
def dkwX1_valueOf_0 : List UInt8 := [26, 27, 160, 0, 7, 2, 167, 0, 4, 26, 172]
abbrev dktX1_valueOf_0 : List UInt8 := dkwX1_valueOf_0 ++ []
theorem dksX1_valueOf_0 : cX1_valueOf.data.toList.drop 0 = dktX1_valueOf_0 := by decide +kernel
theorem dX1_valueOf_0 : decode cX1_valueOf 0 = .ok (.iload_n 0, 1) := dk_26 (dk_at dksX1_valueOf_0 0 rfl rfl)
theorem dX1_valueOf_1 : decode cX1_valueOf 1 = .ok (.iload_n 1, 1) := dk_27 (dk_at dksX1_valueOf_0 1 rfl rfl)
theorem dX1_valueOf_2 : decode cX1_valueOf 2 = .ok (.if_icmp .ne 7, 3) := dk_160 0 7 (dk_at dksX1_valueOf_0 2 rfl rfl)
theorem dX1_valueOf_5 : decode cX1_valueOf 5 = .ok (.iconst (-1), 1) := dk_2 (dk_at dksX1_valueOf_0 5 rfl rfl)
theorem dX1_valueOf_6 : decode cX1_valueOf 6 = .ok (.goto 4, 3) := dk_167 0 4 (dk_at dksX1_valueOf_0 6 rfl rfl)
theorem dX1_valueOf_9 : decode cX1_valueOf 9 = .ok (.iload_n 0, 1) := dk_26 (dk_at dksX1_valueOf_0 9 rfl rfl)
theorem dX1_valueOf_10 : decode cX1_valueOf 10 = .ok (.ireturn, 1) := dk_172 (dk_at dksX1_valueOf_0 10 rfl rfl)
abbrev cX1_status : ByteArray := prog_1_method_46_code
def yX1_status : MethodName := ⟨RX1, "status", "(I)I"⟩
def dkwX1_status_0 : List UInt8 := [27, 133, 9, 20, 1, 86, 184, 0, 97, 153, 0, 12, 42, 180, 0, 31, 27, 46, 167, 0, 4, 2, 172]
abbrev dktX1_status_0 : List UInt8 := dkwX1_status_0 ++ []
theorem dksX1_status_0 : cX1_status.data.toList.drop 0 = dktX1_status_0 := by decide +kernel
theorem dX1_status_0 : decode cX1_status 0 = .ok (.iload_n 1, 1) := dk_27 (dk_at dksX1_status_0 0 rfl rfl)
theorem dX1_status_1 : decode cX1_status 1 = .ok (.i2l, 1) := dk_133 (dk_at dksX1_status_0 1 rfl rfl)
theorem dX1_status_2 : decode cX1_status 2 = .ok (.lconst 0, 1) := dk_9 (dk_at dksX1_status_0 2 rfl rfl)
theorem dX1_status_3 : decode cX1_status 3 = .ok (.ldc2_w 342, 3) := dk_20 1 86 (dk_at dksX1_status_0 3 rfl rfl)
theorem dX1_status_6 : decode cX1_status 6 = .ok (.invokestatic 97, 3) := dk_184 0 97 (dk_at dksX1_status_0 6 rfl rfl)
theorem dX1_status_9 : decode cX1_status 9 = .ok (.ifCond .eq 12, 3) := dk_153 0 12 (dk_at dksX1_status_0 9 rfl rfl)
theorem dX1_status_12 : decode cX1_status 12 = .ok (.aload_n 0, 1) := dk_42 (dk_at dksX1_status_0 12 rfl rfl)
theorem dX1_status_13 : decode cX1_status 13 = .ok (.getfield 31, 3) := dk_180 0 31 (dk_at dksX1_status_0 13 rfl rfl)
theorem dX1_status_16 : decode cX1_status 16 = .ok (.iload_n 1, 1) := dk_27 (dk_at dksX1_status_0 16 rfl rfl)
theorem dX1_status_17 : decode cX1_status 17 = .ok (.iaload, 1) := dk_46 (dk_at dksX1_status_0 17 rfl rfl)
theorem dX1_status_18 : decode cX1_status 18 = .ok (.goto 4, 3) := dk_167 0 4 (dk_at dksX1_status_0 18 rfl rfl)
theorem dX1_status_21 : decode cX1_status 21 = .ok (.iconst (-1), 1) := dk_2 (dk_at dksX1_status_0 21 rfl rfl)
theorem dX1_status_22 : decode cX1_status 22 = .ok (.ireturn, 1) := dk_172 (dk_at dksX1_status_0 22 rfl rfl)
abbrev cX1_undo : ByteArray := prog_1_method_47_code
def yX1_undo : MethodName := ⟨RX1, "undo", "()I"⟩
def dkwX1_undo_2 : List UInt8 := [182, 1, 25, 42, 180, 0, 132, 172]
abbrev dktX1_undo_2 : List UInt8 := dkwX1_undo_2 ++ []
def dkwX1_undo_1 : List UInt8 := [16, 40, 96, 4, 100, 16, 40, 112, 181, 1, 22, 42, 180, 0, 59, 42, 180, 0, 73, 42, 180, 1, 22, 50]
abbrev dktX1_undo_1 : List UInt8 := dkwX1_undo_1 ++ dktX1_undo_2
def dkwX1_undo_0 : List UInt8 := [42, 180, 0, 132, 154, 0, 5, 2, 172, 42, 89, 180, 0, 132, 4, 100, 181, 0, 132, 42, 42, 180, 1, 22]
abbrev dktX1_undo_0 : List UInt8 := dkwX1_undo_0 ++ dktX1_undo_1
theorem dksX1_undo_0 : cX1_undo.data.toList.drop 0 = dktX1_undo_0 := by decide +kernel
theorem dksX1_undo_1 : cX1_undo.data.toList.drop 24 = dktX1_undo_1 := dk_seg dksX1_undo_0 24 rfl rfl
theorem dksX1_undo_2 : cX1_undo.data.toList.drop 48 = dktX1_undo_2 := dk_seg dksX1_undo_1 24 rfl rfl
theorem dX1_undo_0 : decode cX1_undo 0 = .ok (.aload_n 0, 1) := dk_42 (dk_at dksX1_undo_0 0 rfl rfl)
theorem dX1_undo_1 : decode cX1_undo 1 = .ok (.getfield 132, 3) := dk_180 0 132 (dk_at dksX1_undo_0 1 rfl rfl)
theorem dX1_undo_4 : decode cX1_undo 4 = .ok (.ifCond .ne 5, 3) := dk_154 0 5 (dk_at dksX1_undo_0 4 rfl rfl)
theorem dX1_undo_7 : decode cX1_undo 7 = .ok (.iconst (-1), 1) := dk_2 (dk_at dksX1_undo_0 7 rfl rfl)
theorem dX1_undo_8 : decode cX1_undo 8 = .ok (.ireturn, 1) := dk_172 (dk_at dksX1_undo_0 8 rfl rfl)
theorem dX1_undo_9 : decode cX1_undo 9 = .ok (.aload_n 0, 1) := dk_42 (dk_at dksX1_undo_0 9 rfl rfl)
theorem dX1_undo_10 : decode cX1_undo 10 = .ok (.dup, 1) := dk_89 (dk_at dksX1_undo_0 10 rfl rfl)
theorem dX1_undo_11 : decode cX1_undo 11 = .ok (.getfield 132, 3) := dk_180 0 132 (dk_at dksX1_undo_0 11 rfl rfl)
theorem dX1_undo_14 : decode cX1_undo 14 = .ok (.iconst 1, 1) := dk_4 (dk_at dksX1_undo_0 14 rfl rfl)
theorem dX1_undo_15 : decode cX1_undo 15 = .ok (.isub, 1) := dk_100 (dk_at dksX1_undo_0 15 rfl rfl)
theorem dX1_undo_16 : decode cX1_undo 16 = .ok (.putfield 132, 3) := dk_181 0 132 (dk_at dksX1_undo_0 16 rfl rfl)
theorem dX1_undo_19 : decode cX1_undo 19 = .ok (.aload_n 0, 1) := dk_42 (dk_at dksX1_undo_0 19 rfl rfl)
theorem dX1_undo_20 : decode cX1_undo 20 = .ok (.aload_n 0, 1) := dk_42 (dk_at dksX1_undo_0 20 rfl rfl)
theorem dX1_undo_21 : decode cX1_undo 21 = .ok (.getfield 278, 3) := dk_180 1 22 (dk_at dksX1_undo_0 21 rfl rfl)
theorem dX1_undo_24 : decode cX1_undo 24 = .ok (.bipush 40, 2) := dk_16 40 (dk_at dksX1_undo_1 0 rfl rfl)
theorem dX1_undo_26 : decode cX1_undo 26 = .ok (.iadd, 1) := dk_96 (dk_at dksX1_undo_1 2 rfl rfl)
theorem dX1_undo_27 : decode cX1_undo 27 = .ok (.iconst 1, 1) := dk_4 (dk_at dksX1_undo_1 3 rfl rfl)
theorem dX1_undo_28 : decode cX1_undo 28 = .ok (.isub, 1) := dk_100 (dk_at dksX1_undo_1 4 rfl rfl)
theorem dX1_undo_29 : decode cX1_undo 29 = .ok (.bipush 40, 2) := dk_16 40 (dk_at dksX1_undo_1 5 rfl rfl)
theorem dX1_undo_31 : decode cX1_undo 31 = .ok (.irem, 1) := dk_112 (dk_at dksX1_undo_1 7 rfl rfl)
theorem dX1_undo_32 : decode cX1_undo 32 = .ok (.putfield 278, 3) := dk_181 1 22 (dk_at dksX1_undo_1 8 rfl rfl)
theorem dX1_undo_35 : decode cX1_undo 35 = .ok (.aload_n 0, 1) := dk_42 (dk_at dksX1_undo_1 11 rfl rfl)
theorem dX1_undo_36 : decode cX1_undo 36 = .ok (.getfield 59, 3) := dk_180 0 59 (dk_at dksX1_undo_1 12 rfl rfl)
theorem dX1_undo_39 : decode cX1_undo 39 = .ok (.aload_n 0, 1) := dk_42 (dk_at dksX1_undo_1 15 rfl rfl)
theorem dX1_undo_40 : decode cX1_undo 40 = .ok (.getfield 73, 3) := dk_180 0 73 (dk_at dksX1_undo_1 16 rfl rfl)
theorem dX1_undo_43 : decode cX1_undo 43 = .ok (.aload_n 0, 1) := dk_42 (dk_at dksX1_undo_1 19 rfl rfl)
theorem dX1_undo_44 : decode cX1_undo 44 = .ok (.getfield 278, 3) := dk_180 1 22 (dk_at dksX1_undo_1 20 rfl rfl)
theorem dX1_undo_47 : decode cX1_undo 47 = .ok (.aaload, 1) := dk_50 (dk_at dksX1_undo_1 23 rfl rfl)
theorem dX1_undo_48 : decode cX1_undo 48 = .ok (.invokevirtual 281, 3) := dk_182 1 25 (dk_at dksX1_undo_2 0 rfl rfl)
theorem dX1_undo_51 : decode cX1_undo 51 = .ok (.aload_n 0, 1) := dk_42 (dk_at dksX1_undo_2 3 rfl rfl)
theorem dX1_undo_52 : decode cX1_undo 52 = .ok (.getfield 132, 3) := dk_180 0 132 (dk_at dksX1_undo_2 4 rfl rfl)
theorem dX1_undo_55 : decode cX1_undo 55 = .ok (.ireturn, 1) := dk_172 (dk_at dksX1_undo_2 7 rfl rfl)
abbrev cX1_log : ByteArray := prog_1_method_48_code
def yX1_log : MethodName := ⟨RX1, "log", "(II)I"⟩
def dkwX1_log_2 : List UInt8 := [180, 1, 91, 6, 42, 180, 0, 59, 180, 1, 88, 4, 100, 27, 100, 104, 28, 96, 46, 172]
abbrev dktX1_log_2 : List UInt8 := dkwX1_log_2 ++ []
def dkwX1_log_1 : List UInt8 := [153, 0, 15, 28, 133, 9, 20, 0, 202, 184, 0, 97, 154, 0, 6, 18, 146, 172, 42, 180, 0, 59]
abbrev dktX1_log_1 : List UInt8 := dkwX1_log_1 ++ dktX1_log_2
def dkwX1_log_0 : List UInt8 := [42, 180, 0, 93, 198, 0, 34, 27, 133, 9, 42, 180, 0, 59, 180, 1, 88, 4, 100, 133, 184, 0, 97]
abbrev dktX1_log_0 : List UInt8 := dkwX1_log_0 ++ dktX1_log_1
theorem dksX1_log_0 : cX1_log.data.toList.drop 0 = dktX1_log_0 := by decide +kernel
theorem dksX1_log_1 : cX1_log.data.toList.drop 23 = dktX1_log_1 := dk_seg dksX1_log_0 23 rfl rfl
theorem dksX1_log_2 : cX1_log.data.toList.drop 45 = dktX1_log_2 := dk_seg dksX1_log_1 22 rfl rfl
theorem dX1_log_0 : decode cX1_log 0 = .ok (.aload_n 0, 1) := dk_42 (dk_at dksX1_log_0 0 rfl rfl)
theorem dX1_log_1 : decode cX1_log 1 = .ok (.getfield 93, 3) := dk_180 0 93 (dk_at dksX1_log_0 1 rfl rfl)
theorem dX1_log_4 : decode cX1_log 4 = .ok (.ifnull 34, 3) := dk_198 0 34 (dk_at dksX1_log_0 4 rfl rfl)
theorem dX1_log_7 : decode cX1_log 7 = .ok (.iload_n 1, 1) := dk_27 (dk_at dksX1_log_0 7 rfl rfl)
theorem dX1_log_8 : decode cX1_log 8 = .ok (.i2l, 1) := dk_133 (dk_at dksX1_log_0 8 rfl rfl)
theorem dX1_log_9 : decode cX1_log 9 = .ok (.lconst 0, 1) := dk_9 (dk_at dksX1_log_0 9 rfl rfl)
theorem dX1_log_10 : decode cX1_log 10 = .ok (.aload_n 0, 1) := dk_42 (dk_at dksX1_log_0 10 rfl rfl)
theorem dX1_log_11 : decode cX1_log 11 = .ok (.getfield 59, 3) := dk_180 0 59 (dk_at dksX1_log_0 11 rfl rfl)
theorem dX1_log_14 : decode cX1_log 14 = .ok (.getfield 344, 3) := dk_180 1 88 (dk_at dksX1_log_0 14 rfl rfl)
theorem dX1_log_17 : decode cX1_log 17 = .ok (.iconst 1, 1) := dk_4 (dk_at dksX1_log_0 17 rfl rfl)
theorem dX1_log_18 : decode cX1_log 18 = .ok (.isub, 1) := dk_100 (dk_at dksX1_log_0 18 rfl rfl)
theorem dX1_log_19 : decode cX1_log 19 = .ok (.i2l, 1) := dk_133 (dk_at dksX1_log_0 19 rfl rfl)
theorem dX1_log_20 : decode cX1_log 20 = .ok (.invokestatic 97, 3) := dk_184 0 97 (dk_at dksX1_log_0 20 rfl rfl)
theorem dX1_log_23 : decode cX1_log 23 = .ok (.ifCond .eq 15, 3) := dk_153 0 15 (dk_at dksX1_log_1 0 rfl rfl)
theorem dX1_log_26 : decode cX1_log 26 = .ok (.iload_n 2, 1) := dk_28 (dk_at dksX1_log_1 3 rfl rfl)
theorem dX1_log_27 : decode cX1_log 27 = .ok (.i2l, 1) := dk_133 (dk_at dksX1_log_1 4 rfl rfl)
theorem dX1_log_28 : decode cX1_log 28 = .ok (.lconst 0, 1) := dk_9 (dk_at dksX1_log_1 5 rfl rfl)
theorem dX1_log_29 : decode cX1_log 29 = .ok (.ldc2_w 202, 3) := dk_20 0 202 (dk_at dksX1_log_1 6 rfl rfl)
theorem dX1_log_32 : decode cX1_log 32 = .ok (.invokestatic 97, 3) := dk_184 0 97 (dk_at dksX1_log_1 9 rfl rfl)
theorem dX1_log_35 : decode cX1_log 35 = .ok (.ifCond .ne 6, 3) := dk_154 0 6 (dk_at dksX1_log_1 12 rfl rfl)
theorem dX1_log_38 : decode cX1_log 38 = .ok (.ldc 146, 2) := dk_18 146 (dk_at dksX1_log_1 15 rfl rfl)
theorem dX1_log_40 : decode cX1_log 40 = .ok (.ireturn, 1) := dk_172 (dk_at dksX1_log_1 17 rfl rfl)
theorem dX1_log_41 : decode cX1_log 41 = .ok (.aload_n 0, 1) := dk_42 (dk_at dksX1_log_1 18 rfl rfl)
theorem dX1_log_42 : decode cX1_log 42 = .ok (.getfield 59, 3) := dk_180 0 59 (dk_at dksX1_log_1 19 rfl rfl)
theorem dX1_log_45 : decode cX1_log 45 = .ok (.getfield 347, 3) := dk_180 1 91 (dk_at dksX1_log_2 0 rfl rfl)
theorem dX1_log_48 : decode cX1_log 48 = .ok (.iconst 3, 1) := dk_6 (dk_at dksX1_log_2 3 rfl rfl)
theorem dX1_log_49 : decode cX1_log 49 = .ok (.aload_n 0, 1) := dk_42 (dk_at dksX1_log_2 4 rfl rfl)
theorem dX1_log_50 : decode cX1_log 50 = .ok (.getfield 59, 3) := dk_180 0 59 (dk_at dksX1_log_2 5 rfl rfl)
theorem dX1_log_53 : decode cX1_log 53 = .ok (.getfield 344, 3) := dk_180 1 88 (dk_at dksX1_log_2 8 rfl rfl)
theorem dX1_log_56 : decode cX1_log 56 = .ok (.iconst 1, 1) := dk_4 (dk_at dksX1_log_2 11 rfl rfl)
theorem dX1_log_57 : decode cX1_log 57 = .ok (.isub, 1) := dk_100 (dk_at dksX1_log_2 12 rfl rfl)
theorem dX1_log_58 : decode cX1_log 58 = .ok (.iload_n 1, 1) := dk_27 (dk_at dksX1_log_2 13 rfl rfl)
theorem dX1_log_59 : decode cX1_log 59 = .ok (.isub, 1) := dk_100 (dk_at dksX1_log_2 14 rfl rfl)
theorem dX1_log_60 : decode cX1_log 60 = .ok (.imul, 1) := dk_104 (dk_at dksX1_log_2 15 rfl rfl)
theorem dX1_log_61 : decode cX1_log 61 = .ok (.iload_n 2, 1) := dk_28 (dk_at dksX1_log_2 16 rfl rfl)
theorem dX1_log_62 : decode cX1_log 62 = .ok (.iadd, 1) := dk_96 (dk_at dksX1_log_2 17 rfl rfl)
theorem dX1_log_63 : decode cX1_log 63 = .ok (.iaload, 1) := dk_46 (dk_at dksX1_log_2 18 rfl rfl)
theorem dX1_log_64 : decode cX1_log 64 = .ok (.ireturn, 1) := dk_172 (dk_at dksX1_log_2 19 rfl rfl)
abbrev cX1_where : ByteArray := prog_1_method_56_code
def yX1_where : MethodName := ⟨RX1, "where", "(III)I"⟩
def dkwX1_where_4 : List UInt8 := [182, 1, 138, 42, 27, 25, 4, 182, 1, 141, 172, 58, 5, 42, 7, 182, 1, 49, 172]
abbrev dktX1_where_4 : List UInt8 := dkwX1_where_4 ++ []
def dkwX1_where_3 : List UInt8 := [27, 182, 0, 218, 182, 1, 132, 167, 0, 13, 25, 4, 42, 27, 182, 0, 218, 182, 1, 135, 172, 42]
abbrev dktX1_where_3 : List UInt8 := dkwX1_where_3 ++ dktX1_where_4
def dkwX1_where_2 : List UInt8 := [160, 0, 16, 25, 4, 42, 27, 182, 0, 218, 182, 1, 128, 167, 0, 31, 29, 5, 160, 0, 16, 25, 4, 42]
abbrev dktX1_where_2 : List UInt8 := dkwX1_where_2 ++ dktX1_where_3
def dkwX1_where_1 : List UInt8 := [184, 0, 97, 154, 0, 5, 2, 172, 42, 180, 0, 27, 28, 50, 58, 4, 29, 158, 0, 50, 29, 4]
abbrev dktX1_where_1 : List UInt8 := dkwX1_where_1 ++ dktX1_where_2
def dkwX1_where_0 : List UInt8 := [42, 27, 182, 0, 194, 153, 0, 23, 42, 28, 182, 1, 125, 153, 0, 15, 29, 133, 9, 20, 0, 144]
abbrev dktX1_where_0 : List UInt8 := dkwX1_where_0 ++ dktX1_where_1
theorem dksX1_where_0 : cX1_where.data.toList.drop 0 = dktX1_where_0 := by decide +kernel
theorem dksX1_where_1 : cX1_where.data.toList.drop 22 = dktX1_where_1 := dk_seg dksX1_where_0 22 rfl rfl
theorem dksX1_where_2 : cX1_where.data.toList.drop 44 = dktX1_where_2 := dk_seg dksX1_where_1 22 rfl rfl
theorem dksX1_where_3 : cX1_where.data.toList.drop 68 = dktX1_where_3 := dk_seg dksX1_where_2 24 rfl rfl
theorem dksX1_where_4 : cX1_where.data.toList.drop 90 = dktX1_where_4 := dk_seg dksX1_where_3 22 rfl rfl
theorem dX1_where_0 : decode cX1_where 0 = .ok (.aload_n 0, 1) := dk_42 (dk_at dksX1_where_0 0 rfl rfl)
theorem dX1_where_1 : decode cX1_where 1 = .ok (.iload_n 1, 1) := dk_27 (dk_at dksX1_where_0 1 rfl rfl)
theorem dX1_where_2 : decode cX1_where 2 = .ok (.invokevirtual 194, 3) := dk_182 0 194 (dk_at dksX1_where_0 2 rfl rfl)
theorem dX1_where_5 : decode cX1_where 5 = .ok (.ifCond .eq 23, 3) := dk_153 0 23 (dk_at dksX1_where_0 5 rfl rfl)
theorem dX1_where_8 : decode cX1_where 8 = .ok (.aload_n 0, 1) := dk_42 (dk_at dksX1_where_0 8 rfl rfl)
theorem dX1_where_9 : decode cX1_where 9 = .ok (.iload_n 2, 1) := dk_28 (dk_at dksX1_where_0 9 rfl rfl)
theorem dX1_where_10 : decode cX1_where 10 = .ok (.invokevirtual 381, 3) := dk_182 1 125 (dk_at dksX1_where_0 10 rfl rfl)
theorem dX1_where_13 : decode cX1_where 13 = .ok (.ifCond .eq 15, 3) := dk_153 0 15 (dk_at dksX1_where_0 13 rfl rfl)
theorem dX1_where_16 : decode cX1_where 16 = .ok (.iload_n 3, 1) := dk_29 (dk_at dksX1_where_0 16 rfl rfl)
theorem dX1_where_17 : decode cX1_where 17 = .ok (.i2l, 1) := dk_133 (dk_at dksX1_where_0 17 rfl rfl)
theorem dX1_where_18 : decode cX1_where 18 = .ok (.lconst 0, 1) := dk_9 (dk_at dksX1_where_0 18 rfl rfl)
theorem dX1_where_19 : decode cX1_where 19 = .ok (.ldc2_w 144, 3) := dk_20 0 144 (dk_at dksX1_where_0 19 rfl rfl)
theorem dX1_where_22 : decode cX1_where 22 = .ok (.invokestatic 97, 3) := dk_184 0 97 (dk_at dksX1_where_1 0 rfl rfl)
theorem dX1_where_25 : decode cX1_where 25 = .ok (.ifCond .ne 5, 3) := dk_154 0 5 (dk_at dksX1_where_1 3 rfl rfl)
theorem dX1_where_28 : decode cX1_where 28 = .ok (.iconst (-1), 1) := dk_2 (dk_at dksX1_where_1 6 rfl rfl)
theorem dX1_where_29 : decode cX1_where 29 = .ok (.ireturn, 1) := dk_172 (dk_at dksX1_where_1 7 rfl rfl)
theorem dX1_where_30 : decode cX1_where 30 = .ok (.aload_n 0, 1) := dk_42 (dk_at dksX1_where_1 8 rfl rfl)
theorem dX1_where_31 : decode cX1_where 31 = .ok (.getfield 27, 3) := dk_180 0 27 (dk_at dksX1_where_1 9 rfl rfl)
theorem dX1_where_34 : decode cX1_where 34 = .ok (.iload_n 2, 1) := dk_28 (dk_at dksX1_where_1 12 rfl rfl)
theorem dX1_where_35 : decode cX1_where 35 = .ok (.aaload, 1) := dk_50 (dk_at dksX1_where_1 13 rfl rfl)
theorem dX1_where_36 : decode cX1_where 36 = .ok (.astore 4, 2) := dk_58 4 (dk_at dksX1_where_1 14 rfl rfl)
theorem dX1_where_38 : decode cX1_where 38 = .ok (.iload_n 3, 1) := dk_29 (dk_at dksX1_where_1 16 rfl rfl)
theorem dX1_where_39 : decode cX1_where 39 = .ok (.ifCond .le 50, 3) := dk_158 0 50 (dk_at dksX1_where_1 17 rfl rfl)
theorem dX1_where_42 : decode cX1_where 42 = .ok (.iload_n 3, 1) := dk_29 (dk_at dksX1_where_1 20 rfl rfl)
theorem dX1_where_43 : decode cX1_where 43 = .ok (.iconst 1, 1) := dk_4 (dk_at dksX1_where_1 21 rfl rfl)
theorem dX1_where_44 : decode cX1_where 44 = .ok (.if_icmp .ne 16, 3) := dk_160 0 16 (dk_at dksX1_where_2 0 rfl rfl)
theorem dX1_where_47 : decode cX1_where 47 = .ok (.aload 4, 2) := dk_25 4 (dk_at dksX1_where_2 3 rfl rfl)
theorem dX1_where_49 : decode cX1_where 49 = .ok (.aload_n 0, 1) := dk_42 (dk_at dksX1_where_2 5 rfl rfl)
theorem dX1_where_50 : decode cX1_where 50 = .ok (.iload_n 1, 1) := dk_27 (dk_at dksX1_where_2 6 rfl rfl)
theorem dX1_where_51 : decode cX1_where 51 = .ok (.invokevirtual 218, 3) := dk_182 0 218 (dk_at dksX1_where_2 7 rfl rfl)
theorem dX1_where_54 : decode cX1_where 54 = .ok (.invokevirtual 384, 3) := dk_182 1 128 (dk_at dksX1_where_2 10 rfl rfl)
theorem dX1_where_57 : decode cX1_where 57 = .ok (.goto 31, 3) := dk_167 0 31 (dk_at dksX1_where_2 13 rfl rfl)
theorem dX1_where_60 : decode cX1_where 60 = .ok (.iload_n 3, 1) := dk_29 (dk_at dksX1_where_2 16 rfl rfl)
theorem dX1_where_61 : decode cX1_where 61 = .ok (.iconst 2, 1) := dk_5 (dk_at dksX1_where_2 17 rfl rfl)
theorem dX1_where_62 : decode cX1_where 62 = .ok (.if_icmp .ne 16, 3) := dk_160 0 16 (dk_at dksX1_where_2 18 rfl rfl)
theorem dX1_where_65 : decode cX1_where 65 = .ok (.aload 4, 2) := dk_25 4 (dk_at dksX1_where_2 21 rfl rfl)
theorem dX1_where_67 : decode cX1_where 67 = .ok (.aload_n 0, 1) := dk_42 (dk_at dksX1_where_2 23 rfl rfl)
theorem dX1_where_68 : decode cX1_where 68 = .ok (.iload_n 1, 1) := dk_27 (dk_at dksX1_where_3 0 rfl rfl)
theorem dX1_where_69 : decode cX1_where 69 = .ok (.invokevirtual 218, 3) := dk_182 0 218 (dk_at dksX1_where_3 1 rfl rfl)
theorem dX1_where_72 : decode cX1_where 72 = .ok (.invokevirtual 388, 3) := dk_182 1 132 (dk_at dksX1_where_3 4 rfl rfl)
theorem dX1_where_75 : decode cX1_where 75 = .ok (.goto 13, 3) := dk_167 0 13 (dk_at dksX1_where_3 7 rfl rfl)
theorem dX1_where_78 : decode cX1_where 78 = .ok (.aload 4, 2) := dk_25 4 (dk_at dksX1_where_3 10 rfl rfl)
theorem dX1_where_80 : decode cX1_where 80 = .ok (.aload_n 0, 1) := dk_42 (dk_at dksX1_where_3 12 rfl rfl)
theorem dX1_where_81 : decode cX1_where 81 = .ok (.iload_n 1, 1) := dk_27 (dk_at dksX1_where_3 13 rfl rfl)
theorem dX1_where_82 : decode cX1_where 82 = .ok (.invokevirtual 218, 3) := dk_182 0 218 (dk_at dksX1_where_3 14 rfl rfl)
theorem dX1_where_85 : decode cX1_where 85 = .ok (.invokevirtual 391, 3) := dk_182 1 135 (dk_at dksX1_where_3 17 rfl rfl)
theorem dX1_where_88 : decode cX1_where 88 = .ok (.ireturn, 1) := dk_172 (dk_at dksX1_where_3 20 rfl rfl)
theorem dX1_where_89 : decode cX1_where 89 = .ok (.aload_n 0, 1) := dk_42 (dk_at dksX1_where_3 21 rfl rfl)
theorem dX1_where_90 : decode cX1_where 90 = .ok (.invokevirtual 394, 3) := dk_182 1 138 (dk_at dksX1_where_4 0 rfl rfl)
theorem dX1_where_93 : decode cX1_where 93 = .ok (.aload_n 0, 1) := dk_42 (dk_at dksX1_where_4 3 rfl rfl)
theorem dX1_where_94 : decode cX1_where 94 = .ok (.iload_n 1, 1) := dk_27 (dk_at dksX1_where_4 4 rfl rfl)
theorem dX1_where_95 : decode cX1_where 95 = .ok (.aload 4, 2) := dk_25 4 (dk_at dksX1_where_4 5 rfl rfl)
theorem dX1_where_97 : decode cX1_where 97 = .ok (.invokevirtual 397, 3) := dk_182 1 141 (dk_at dksX1_where_4 7 rfl rfl)
theorem dX1_where_100 : decode cX1_where 100 = .ok (.ireturn, 1) := dk_172 (dk_at dksX1_where_4 10 rfl rfl)
theorem dX1_where_101 : decode cX1_where 101 = .ok (.astore 5, 2) := dk_58 5 (dk_at dksX1_where_4 11 rfl rfl)
theorem dX1_where_103 : decode cX1_where 103 = .ok (.aload_n 0, 1) := dk_42 (dk_at dksX1_where_4 13 rfl rfl)
theorem dX1_where_104 : decode cX1_where 104 = .ok (.iconst 4, 1) := dk_7 (dk_at dksX1_where_4 14 rfl rfl)
theorem dX1_where_105 : decode cX1_where 105 = .ok (.invokevirtual 305, 3) := dk_182 1 49 (dk_at dksX1_where_4 15 rfl rfl)
theorem dX1_where_108 : decode cX1_where 108 = .ok (.ireturn, 1) := dk_172 (dk_at dksX1_where_4 18 rfl rfl)
abbrev cX1_isWhere : ByteArray := prog_1_method_17_code
def yX1_isWhere : MethodName := ⟨RX1, "isWhere", "(I)Z"⟩
def dkwX1_isWhere_0 : List UInt8 := [27, 133, 9, 42, 180, 0, 123, 4, 100, 133, 184, 0, 97, 172]
abbrev dktX1_isWhere_0 : List UInt8 := dkwX1_isWhere_0 ++ []
theorem dksX1_isWhere_0 : cX1_isWhere.data.toList.drop 0 = dktX1_isWhere_0 := by decide +kernel
theorem dX1_isWhere_0 : decode cX1_isWhere 0 = .ok (.iload_n 1, 1) := dk_27 (dk_at dksX1_isWhere_0 0 rfl rfl)
theorem dX1_isWhere_1 : decode cX1_isWhere 1 = .ok (.i2l, 1) := dk_133 (dk_at dksX1_isWhere_0 1 rfl rfl)
theorem dX1_isWhere_2 : decode cX1_isWhere 2 = .ok (.lconst 0, 1) := dk_9 (dk_at dksX1_isWhere_0 2 rfl rfl)
theorem dX1_isWhere_3 : decode cX1_isWhere 3 = .ok (.aload_n 0, 1) := dk_42 (dk_at dksX1_isWhere_0 3 rfl rfl)
theorem dX1_isWhere_4 : decode cX1_isWhere 4 = .ok (.getfield 123, 3) := dk_180 0 123 (dk_at dksX1_isWhere_0 4 rfl rfl)
theorem dX1_isWhere_7 : decode cX1_isWhere 7 = .ok (.iconst 1, 1) := dk_4 (dk_at dksX1_isWhere_0 7 rfl rfl)
theorem dX1_isWhere_8 : decode cX1_isWhere 8 = .ok (.isub, 1) := dk_100 (dk_at dksX1_isWhere_0 8 rfl rfl)
theorem dX1_isWhere_9 : decode cX1_isWhere 9 = .ok (.i2l, 1) := dk_133 (dk_at dksX1_isWhere_0 9 rfl rfl)
theorem dX1_isWhere_10 : decode cX1_isWhere 10 = .ok (.invokestatic 97, 3) := dk_184 0 97 (dk_at dksX1_isWhere_0 10 rfl rfl)
theorem dX1_isWhere_13 : decode cX1_isWhere 13 = .ok (.ireturn, 1) := dk_172 (dk_at dksX1_isWhere_0 13 rfl rfl)
abbrev cX1_begins : ByteArray := prog_1_method_50_code
def yX1_begins : MethodName := ⟨RX1, "begins", "()V"⟩
def dkwX1_begins_0 : List UInt8 := [42, 3, 181, 1, 93, 42, 3, 181, 1, 96, 177]
abbrev dktX1_begins_0 : List UInt8 := dkwX1_begins_0 ++ []
theorem dksX1_begins_0 : cX1_begins.data.toList.drop 0 = dktX1_begins_0 := by decide +kernel
theorem dX1_begins_0 : decode cX1_begins 0 = .ok (.aload_n 0, 1) := dk_42 (dk_at dksX1_begins_0 0 rfl rfl)
theorem dX1_begins_1 : decode cX1_begins 1 = .ok (.iconst 0, 1) := dk_3 (dk_at dksX1_begins_0 1 rfl rfl)
theorem dX1_begins_2 : decode cX1_begins 2 = .ok (.putfield 349, 3) := dk_181 1 93 (dk_at dksX1_begins_0 2 rfl rfl)
theorem dX1_begins_5 : decode cX1_begins 5 = .ok (.aload_n 0, 1) := dk_42 (dk_at dksX1_begins_0 5 rfl rfl)
theorem dX1_begins_6 : decode cX1_begins 6 = .ok (.iconst 0, 1) := dk_3 (dk_at dksX1_begins_0 6 rfl rfl)
theorem dX1_begins_7 : decode cX1_begins 7 = .ok (.putfield 352, 3) := dk_181 1 96 (dk_at dksX1_begins_0 7 rfl rfl)
theorem dX1_begins_10 : decode cX1_begins 10 = .ok (.return_, 1) := dk_177 (dk_at dksX1_begins_0 10 rfl rfl)
abbrev cX1_truthOf : ByteArray := prog_1_method_52_code
def yX1_truthOf : MethodName := ⟨RX1, "truthOf", "(ILSafeBuckets$Where;)I"⟩
def dkwX1_truthOf_6 : List UInt8 := [172, 58, 4, 45, 182, 1, 113, 167, 0, 12, 58, 5, 25, 4, 25, 5, 182, 1, 118, 25, 4, 191]
abbrev dktX1_truthOf_6 : List UInt8 := dkwX1_truthOf_6 ++ []
def dkwX1_truthOf_5 : List UInt8 := [54, 5, 132, 7, 1, 167, 255, 170, 132, 6, 1, 167, 255, 151, 21, 5, 54, 6, 45, 182, 1, 113, 21, 6]
abbrev dktX1_truthOf_5 : List UInt8 := dkwX1_truthOf_5 ++ dktX1_truthOf_6
def dkwX1_truthOf_4 : List UInt8 := [184, 1, 75, 21, 7, 25, 4, 180, 0, 164, 184, 1, 75, 182, 1, 110, 153, 0, 10, 21, 5, 21, 8, 96]
abbrev dktX1_truthOf_4 : List UInt8 := dkwX1_truthOf_4 ++ dktX1_truthOf_5
def dkwX1_truthOf_3 : List UInt8 := [54, 8, 21, 8, 154, 0, 6, 167, 0, 41, 42, 182, 1, 107, 44, 21, 6, 25, 4, 180, 0, 164]
abbrev dktX1_truthOf_3 : List UInt8 := dkwX1_truthOf_3 ++ dktX1_truthOf_4
def dkwX1_truthOf_2 : List UInt8 := [21, 6, 25, 4, 180, 0, 164, 184, 1, 75, 21, 7, 25, 4, 180, 0, 164, 184, 1, 75, 182, 0, 235]
abbrev dktX1_truthOf_2 : List UInt8 := dkwX1_truthOf_2 ++ dktX1_truthOf_3
def dkwX1_truthOf_1 : List UInt8 := [25, 4, 180, 0, 164, 163, 0, 101, 3, 54, 7, 21, 7, 25, 4, 180, 0, 164, 163, 0, 82, 25, 4]
abbrev dktX1_truthOf_1 : List UInt8 := dkwX1_truthOf_1 ++ dktX1_truthOf_2
def dkwX1_truthOf_0 : List UInt8 := [187, 1, 99, 89, 42, 27, 183, 1, 101, 78, 45, 182, 1, 104, 58, 4, 3, 54, 5, 3, 54, 6, 21, 6]
abbrev dktX1_truthOf_0 : List UInt8 := dkwX1_truthOf_0 ++ dktX1_truthOf_1
theorem dksX1_truthOf_0 : cX1_truthOf.data.toList.drop 0 = dktX1_truthOf_0 := by decide +kernel
theorem dksX1_truthOf_1 : cX1_truthOf.data.toList.drop 24 = dktX1_truthOf_1 := dk_seg dksX1_truthOf_0 24 rfl rfl
theorem dksX1_truthOf_2 : cX1_truthOf.data.toList.drop 47 = dktX1_truthOf_2 := dk_seg dksX1_truthOf_1 23 rfl rfl
theorem dksX1_truthOf_3 : cX1_truthOf.data.toList.drop 70 = dktX1_truthOf_3 := dk_seg dksX1_truthOf_2 23 rfl rfl
theorem dksX1_truthOf_4 : cX1_truthOf.data.toList.drop 92 = dktX1_truthOf_4 := dk_seg dksX1_truthOf_3 22 rfl rfl
theorem dksX1_truthOf_5 : cX1_truthOf.data.toList.drop 116 = dktX1_truthOf_5 := dk_seg dksX1_truthOf_4 24 rfl rfl
theorem dksX1_truthOf_6 : cX1_truthOf.data.toList.drop 140 = dktX1_truthOf_6 := dk_seg dksX1_truthOf_5 24 rfl rfl
theorem dX1_truthOf_0 : decode cX1_truthOf 0 = .ok (.new 355, 3) := dk_187 1 99 (dk_at dksX1_truthOf_0 0 rfl rfl)
theorem dX1_truthOf_3 : decode cX1_truthOf 3 = .ok (.dup, 1) := dk_89 (dk_at dksX1_truthOf_0 3 rfl rfl)
theorem dX1_truthOf_4 : decode cX1_truthOf 4 = .ok (.aload_n 0, 1) := dk_42 (dk_at dksX1_truthOf_0 4 rfl rfl)
theorem dX1_truthOf_5 : decode cX1_truthOf 5 = .ok (.iload_n 1, 1) := dk_27 (dk_at dksX1_truthOf_0 5 rfl rfl)
theorem dX1_truthOf_6 : decode cX1_truthOf 6 = .ok (.invokespecial 357, 3) := dk_183 1 101 (dk_at dksX1_truthOf_0 6 rfl rfl)
theorem dX1_truthOf_9 : decode cX1_truthOf 9 = .ok (.astore_n 3, 1) := dk_78 (dk_at dksX1_truthOf_0 9 rfl rfl)
theorem dX1_truthOf_10 : decode cX1_truthOf 10 = .ok (.aload_n 3, 1) := dk_45 (dk_at dksX1_truthOf_0 10 rfl rfl)
theorem dX1_truthOf_11 : decode cX1_truthOf 11 = .ok (.invokevirtual 360, 3) := dk_182 1 104 (dk_at dksX1_truthOf_0 11 rfl rfl)
theorem dX1_truthOf_14 : decode cX1_truthOf 14 = .ok (.astore 4, 2) := dk_58 4 (dk_at dksX1_truthOf_0 14 rfl rfl)
theorem dX1_truthOf_16 : decode cX1_truthOf 16 = .ok (.iconst 0, 1) := dk_3 (dk_at dksX1_truthOf_0 16 rfl rfl)
theorem dX1_truthOf_17 : decode cX1_truthOf 17 = .ok (.istore 5, 2) := dk_54 5 (dk_at dksX1_truthOf_0 17 rfl rfl)
theorem dX1_truthOf_19 : decode cX1_truthOf 19 = .ok (.iconst 0, 1) := dk_3 (dk_at dksX1_truthOf_0 19 rfl rfl)
theorem dX1_truthOf_20 : decode cX1_truthOf 20 = .ok (.istore 6, 2) := dk_54 6 (dk_at dksX1_truthOf_0 20 rfl rfl)
theorem dX1_truthOf_22 : decode cX1_truthOf 22 = .ok (.iload 6, 2) := dk_21 6 (dk_at dksX1_truthOf_0 22 rfl rfl)
theorem dX1_truthOf_24 : decode cX1_truthOf 24 = .ok (.aload 4, 2) := dk_25 4 (dk_at dksX1_truthOf_1 0 rfl rfl)
theorem dX1_truthOf_26 : decode cX1_truthOf 26 = .ok (.getfield 164, 3) := dk_180 0 164 (dk_at dksX1_truthOf_1 2 rfl rfl)
theorem dX1_truthOf_29 : decode cX1_truthOf 29 = .ok (.if_icmp .gt 101, 3) := dk_163 0 101 (dk_at dksX1_truthOf_1 5 rfl rfl)
theorem dX1_truthOf_32 : decode cX1_truthOf 32 = .ok (.iconst 0, 1) := dk_3 (dk_at dksX1_truthOf_1 8 rfl rfl)
theorem dX1_truthOf_33 : decode cX1_truthOf 33 = .ok (.istore 7, 2) := dk_54 7 (dk_at dksX1_truthOf_1 9 rfl rfl)
theorem dX1_truthOf_35 : decode cX1_truthOf 35 = .ok (.iload 7, 2) := dk_21 7 (dk_at dksX1_truthOf_1 11 rfl rfl)
theorem dX1_truthOf_37 : decode cX1_truthOf 37 = .ok (.aload 4, 2) := dk_25 4 (dk_at dksX1_truthOf_1 13 rfl rfl)
theorem dX1_truthOf_39 : decode cX1_truthOf 39 = .ok (.getfield 164, 3) := dk_180 0 164 (dk_at dksX1_truthOf_1 15 rfl rfl)
theorem dX1_truthOf_42 : decode cX1_truthOf 42 = .ok (.if_icmp .gt 82, 3) := dk_163 0 82 (dk_at dksX1_truthOf_1 18 rfl rfl)
theorem dX1_truthOf_45 : decode cX1_truthOf 45 = .ok (.aload 4, 2) := dk_25 4 (dk_at dksX1_truthOf_1 21 rfl rfl)
theorem dX1_truthOf_47 : decode cX1_truthOf 47 = .ok (.iload 6, 2) := dk_21 6 (dk_at dksX1_truthOf_2 0 rfl rfl)
theorem dX1_truthOf_49 : decode cX1_truthOf 49 = .ok (.aload 4, 2) := dk_25 4 (dk_at dksX1_truthOf_2 2 rfl rfl)
theorem dX1_truthOf_51 : decode cX1_truthOf 51 = .ok (.getfield 164, 3) := dk_180 0 164 (dk_at dksX1_truthOf_2 4 rfl rfl)
theorem dX1_truthOf_54 : decode cX1_truthOf 54 = .ok (.invokestatic 331, 3) := dk_184 1 75 (dk_at dksX1_truthOf_2 7 rfl rfl)
theorem dX1_truthOf_57 : decode cX1_truthOf 57 = .ok (.iload 7, 2) := dk_21 7 (dk_at dksX1_truthOf_2 10 rfl rfl)
theorem dX1_truthOf_59 : decode cX1_truthOf 59 = .ok (.aload 4, 2) := dk_25 4 (dk_at dksX1_truthOf_2 12 rfl rfl)
theorem dX1_truthOf_61 : decode cX1_truthOf 61 = .ok (.getfield 164, 3) := dk_180 0 164 (dk_at dksX1_truthOf_2 14 rfl rfl)
theorem dX1_truthOf_64 : decode cX1_truthOf 64 = .ok (.invokestatic 331, 3) := dk_184 1 75 (dk_at dksX1_truthOf_2 17 rfl rfl)
theorem dX1_truthOf_67 : decode cX1_truthOf 67 = .ok (.invokevirtual 235, 3) := dk_182 0 235 (dk_at dksX1_truthOf_2 20 rfl rfl)
theorem dX1_truthOf_70 : decode cX1_truthOf 70 = .ok (.istore 8, 2) := dk_54 8 (dk_at dksX1_truthOf_3 0 rfl rfl)
theorem dX1_truthOf_72 : decode cX1_truthOf 72 = .ok (.iload 8, 2) := dk_21 8 (dk_at dksX1_truthOf_3 2 rfl rfl)
theorem dX1_truthOf_74 : decode cX1_truthOf 74 = .ok (.ifCond .ne 6, 3) := dk_154 0 6 (dk_at dksX1_truthOf_3 4 rfl rfl)
theorem dX1_truthOf_77 : decode cX1_truthOf 77 = .ok (.goto 41, 3) := dk_167 0 41 (dk_at dksX1_truthOf_3 7 rfl rfl)
theorem dX1_truthOf_80 : decode cX1_truthOf 80 = .ok (.aload_n 0, 1) := dk_42 (dk_at dksX1_truthOf_3 10 rfl rfl)
theorem dX1_truthOf_81 : decode cX1_truthOf 81 = .ok (.invokevirtual 363, 3) := dk_182 1 107 (dk_at dksX1_truthOf_3 11 rfl rfl)
theorem dX1_truthOf_84 : decode cX1_truthOf 84 = .ok (.aload_n 2, 1) := dk_44 (dk_at dksX1_truthOf_3 14 rfl rfl)
theorem dX1_truthOf_85 : decode cX1_truthOf 85 = .ok (.iload 6, 2) := dk_21 6 (dk_at dksX1_truthOf_3 15 rfl rfl)
theorem dX1_truthOf_87 : decode cX1_truthOf 87 = .ok (.aload 4, 2) := dk_25 4 (dk_at dksX1_truthOf_3 17 rfl rfl)
theorem dX1_truthOf_89 : decode cX1_truthOf 89 = .ok (.getfield 164, 3) := dk_180 0 164 (dk_at dksX1_truthOf_3 19 rfl rfl)
theorem dX1_truthOf_92 : decode cX1_truthOf 92 = .ok (.invokestatic 331, 3) := dk_184 1 75 (dk_at dksX1_truthOf_4 0 rfl rfl)
theorem dX1_truthOf_95 : decode cX1_truthOf 95 = .ok (.iload 7, 2) := dk_21 7 (dk_at dksX1_truthOf_4 3 rfl rfl)
theorem dX1_truthOf_97 : decode cX1_truthOf 97 = .ok (.aload 4, 2) := dk_25 4 (dk_at dksX1_truthOf_4 5 rfl rfl)
theorem dX1_truthOf_99 : decode cX1_truthOf 99 = .ok (.getfield 164, 3) := dk_180 0 164 (dk_at dksX1_truthOf_4 7 rfl rfl)
theorem dX1_truthOf_102 : decode cX1_truthOf 102 = .ok (.invokestatic 331, 3) := dk_184 1 75 (dk_at dksX1_truthOf_4 10 rfl rfl)
theorem dX1_truthOf_105 : decode cX1_truthOf 105 = .ok (.invokevirtual 366, 3) := dk_182 1 110 (dk_at dksX1_truthOf_4 13 rfl rfl)
theorem dX1_truthOf_108 : decode cX1_truthOf 108 = .ok (.ifCond .eq 10, 3) := dk_153 0 10 (dk_at dksX1_truthOf_4 16 rfl rfl)
theorem dX1_truthOf_111 : decode cX1_truthOf 111 = .ok (.iload 5, 2) := dk_21 5 (dk_at dksX1_truthOf_4 19 rfl rfl)
theorem dX1_truthOf_113 : decode cX1_truthOf 113 = .ok (.iload 8, 2) := dk_21 8 (dk_at dksX1_truthOf_4 21 rfl rfl)
theorem dX1_truthOf_115 : decode cX1_truthOf 115 = .ok (.iadd, 1) := dk_96 (dk_at dksX1_truthOf_4 23 rfl rfl)
theorem dX1_truthOf_116 : decode cX1_truthOf 116 = .ok (.istore 5, 2) := dk_54 5 (dk_at dksX1_truthOf_5 0 rfl rfl)
theorem dX1_truthOf_118 : decode cX1_truthOf 118 = .ok (.iinc 7 1, 3) := dk_132 7 1 (dk_at dksX1_truthOf_5 2 rfl rfl)
theorem dX1_truthOf_121 : decode cX1_truthOf 121 = .ok (.goto (-86), 3) := dk_167 255 170 (dk_at dksX1_truthOf_5 5 rfl rfl)
theorem dX1_truthOf_124 : decode cX1_truthOf 124 = .ok (.iinc 6 1, 3) := dk_132 6 1 (dk_at dksX1_truthOf_5 8 rfl rfl)
theorem dX1_truthOf_127 : decode cX1_truthOf 127 = .ok (.goto (-105), 3) := dk_167 255 151 (dk_at dksX1_truthOf_5 11 rfl rfl)
theorem dX1_truthOf_130 : decode cX1_truthOf 130 = .ok (.iload 5, 2) := dk_21 5 (dk_at dksX1_truthOf_5 14 rfl rfl)
theorem dX1_truthOf_132 : decode cX1_truthOf 132 = .ok (.istore 6, 2) := dk_54 6 (dk_at dksX1_truthOf_5 16 rfl rfl)
theorem dX1_truthOf_134 : decode cX1_truthOf 134 = .ok (.aload_n 3, 1) := dk_45 (dk_at dksX1_truthOf_5 18 rfl rfl)
theorem dX1_truthOf_135 : decode cX1_truthOf 135 = .ok (.invokevirtual 369, 3) := dk_182 1 113 (dk_at dksX1_truthOf_5 19 rfl rfl)
theorem dX1_truthOf_138 : decode cX1_truthOf 138 = .ok (.iload 6, 2) := dk_21 6 (dk_at dksX1_truthOf_5 22 rfl rfl)
theorem dX1_truthOf_140 : decode cX1_truthOf 140 = .ok (.ireturn, 1) := dk_172 (dk_at dksX1_truthOf_6 0 rfl rfl)
theorem dX1_truthOf_141 : decode cX1_truthOf 141 = .ok (.astore 4, 2) := dk_58 4 (dk_at dksX1_truthOf_6 1 rfl rfl)
theorem dX1_truthOf_143 : decode cX1_truthOf 143 = .ok (.aload_n 3, 1) := dk_45 (dk_at dksX1_truthOf_6 3 rfl rfl)
theorem dX1_truthOf_144 : decode cX1_truthOf 144 = .ok (.invokevirtual 369, 3) := dk_182 1 113 (dk_at dksX1_truthOf_6 4 rfl rfl)
theorem dX1_truthOf_147 : decode cX1_truthOf 147 = .ok (.goto 12, 3) := dk_167 0 12 (dk_at dksX1_truthOf_6 7 rfl rfl)
theorem dX1_truthOf_150 : decode cX1_truthOf 150 = .ok (.astore 5, 2) := dk_58 5 (dk_at dksX1_truthOf_6 10 rfl rfl)
theorem dX1_truthOf_152 : decode cX1_truthOf 152 = .ok (.aload 4, 2) := dk_25 4 (dk_at dksX1_truthOf_6 12 rfl rfl)
theorem dX1_truthOf_154 : decode cX1_truthOf 154 = .ok (.aload 5, 2) := dk_25 5 (dk_at dksX1_truthOf_6 14 rfl rfl)
theorem dX1_truthOf_156 : decode cX1_truthOf 156 = .ok (.invokevirtual 374, 3) := dk_182 1 118 (dk_at dksX1_truthOf_6 16 rfl rfl)
theorem dX1_truthOf_159 : decode cX1_truthOf 159 = .ok (.aload 4, 2) := dk_25 4 (dk_at dksX1_truthOf_6 19 rfl rfl)
theorem dX1_truthOf_161 : decode cX1_truthOf 161 = .ok (.athrow, 1) := dk_191 (dk_at dksX1_truthOf_6 21 rfl rfl)
abbrev cX1_traces : ByteArray := prog_1_method_49_code
def yX1_traces : MethodName := ⟨RX1, "traces", "(I)V"⟩
def dkwX1_traces_0 : List UInt8 := [42, 180, 0, 84, 42, 180, 1, 93, 27, 79, 42, 89, 180, 1, 93, 4, 96, 181, 1, 93, 177]
abbrev dktX1_traces_0 : List UInt8 := dkwX1_traces_0 ++ []
theorem dksX1_traces_0 : cX1_traces.data.toList.drop 0 = dktX1_traces_0 := by decide +kernel
theorem dX1_traces_0 : decode cX1_traces 0 = .ok (.aload_n 0, 1) := dk_42 (dk_at dksX1_traces_0 0 rfl rfl)
theorem dX1_traces_1 : decode cX1_traces 1 = .ok (.getfield 84, 3) := dk_180 0 84 (dk_at dksX1_traces_0 1 rfl rfl)
theorem dX1_traces_4 : decode cX1_traces 4 = .ok (.aload_n 0, 1) := dk_42 (dk_at dksX1_traces_0 4 rfl rfl)
theorem dX1_traces_5 : decode cX1_traces 5 = .ok (.getfield 349, 3) := dk_180 1 93 (dk_at dksX1_traces_0 5 rfl rfl)
theorem dX1_traces_8 : decode cX1_traces 8 = .ok (.iload_n 1, 1) := dk_27 (dk_at dksX1_traces_0 8 rfl rfl)
theorem dX1_traces_9 : decode cX1_traces 9 = .ok (.iastore, 1) := dk_79 (dk_at dksX1_traces_0 9 rfl rfl)
theorem dX1_traces_10 : decode cX1_traces 10 = .ok (.aload_n 0, 1) := dk_42 (dk_at dksX1_traces_0 10 rfl rfl)
theorem dX1_traces_11 : decode cX1_traces 11 = .ok (.dup, 1) := dk_89 (dk_at dksX1_traces_0 11 rfl rfl)
theorem dX1_traces_12 : decode cX1_traces 12 = .ok (.getfield 349, 3) := dk_180 1 93 (dk_at dksX1_traces_0 12 rfl rfl)
theorem dX1_traces_15 : decode cX1_traces 15 = .ok (.iconst 1, 1) := dk_4 (dk_at dksX1_traces_0 15 rfl rfl)
theorem dX1_traces_16 : decode cX1_traces 16 = .ok (.iadd, 1) := dk_96 (dk_at dksX1_traces_0 16 rfl rfl)
theorem dX1_traces_17 : decode cX1_traces 17 = .ok (.putfield 349, 3) := dk_181 1 93 (dk_at dksX1_traces_0 17 rfl rfl)
theorem dX1_traces_20 : decode cX1_traces 20 = .ok (.return_, 1) := dk_177 (dk_at dksX1_traces_0 20 rfl rfl)
abbrev cX1_goes : ByteArray := prog_1_method_51_code
def yX1_goes : MethodName := ⟨RX1, "goes", "()V"⟩
def dkwX1_goes_1 : List UInt8 := [4, 96, 181, 1, 96, 177]
abbrev dktX1_goes_1 : List UInt8 := dkwX1_goes_1 ++ []
def dkwX1_goes_0 : List UInt8 := [42, 180, 1, 96, 42, 180, 0, 59, 180, 0, 204, 160, 0, 8, 42, 180, 0, 80, 191, 42, 89, 180, 1, 96]
abbrev dktX1_goes_0 : List UInt8 := dkwX1_goes_0 ++ dktX1_goes_1
theorem dksX1_goes_0 : cX1_goes.data.toList.drop 0 = dktX1_goes_0 := by decide +kernel
theorem dksX1_goes_1 : cX1_goes.data.toList.drop 24 = dktX1_goes_1 := dk_seg dksX1_goes_0 24 rfl rfl
theorem dX1_goes_0 : decode cX1_goes 0 = .ok (.aload_n 0, 1) := dk_42 (dk_at dksX1_goes_0 0 rfl rfl)
theorem dX1_goes_1 : decode cX1_goes 1 = .ok (.getfield 352, 3) := dk_180 1 96 (dk_at dksX1_goes_0 1 rfl rfl)
theorem dX1_goes_4 : decode cX1_goes 4 = .ok (.aload_n 0, 1) := dk_42 (dk_at dksX1_goes_0 4 rfl rfl)
theorem dX1_goes_5 : decode cX1_goes 5 = .ok (.getfield 59, 3) := dk_180 0 59 (dk_at dksX1_goes_0 5 rfl rfl)
theorem dX1_goes_8 : decode cX1_goes 8 = .ok (.getfield 204, 3) := dk_180 0 204 (dk_at dksX1_goes_0 8 rfl rfl)
theorem dX1_goes_11 : decode cX1_goes 11 = .ok (.if_icmp .ne 8, 3) := dk_160 0 8 (dk_at dksX1_goes_0 11 rfl rfl)
theorem dX1_goes_14 : decode cX1_goes 14 = .ok (.aload_n 0, 1) := dk_42 (dk_at dksX1_goes_0 14 rfl rfl)
theorem dX1_goes_15 : decode cX1_goes 15 = .ok (.getfield 80, 3) := dk_180 0 80 (dk_at dksX1_goes_0 15 rfl rfl)
theorem dX1_goes_18 : decode cX1_goes 18 = .ok (.athrow, 1) := dk_191 (dk_at dksX1_goes_0 18 rfl rfl)
theorem dX1_goes_19 : decode cX1_goes 19 = .ok (.aload_n 0, 1) := dk_42 (dk_at dksX1_goes_0 19 rfl rfl)
theorem dX1_goes_20 : decode cX1_goes 20 = .ok (.dup, 1) := dk_89 (dk_at dksX1_goes_0 20 rfl rfl)
theorem dX1_goes_21 : decode cX1_goes 21 = .ok (.getfield 352, 3) := dk_180 1 96 (dk_at dksX1_goes_0 21 rfl rfl)
theorem dX1_goes_24 : decode cX1_goes 24 = .ok (.iconst 1, 1) := dk_4 (dk_at dksX1_goes_1 0 rfl rfl)
theorem dX1_goes_25 : decode cX1_goes 25 = .ok (.iadd, 1) := dk_96 (dk_at dksX1_goes_1 1 rfl rfl)
theorem dX1_goes_26 : decode cX1_goes 26 = .ok (.putfield 352, 3) := dk_181 1 96 (dk_at dksX1_goes_1 2 rfl rfl)
theorem dX1_goes_29 : decode cX1_goes 29 = .ok (.return_, 1) := dk_177 (dk_at dksX1_goes_1 5 rfl rfl)
abbrev cX1_join : ByteArray := prog_1_method_60_code
def yX1_join : MethodName := ⟨RX1, "join", "(IIIII)J"⟩
def dkwX1_join_5 : List UInt8 := [182, 1, 175, 173, 58, 8, 42, 7, 182, 1, 49, 133, 173]
abbrev dktX1_join_5 : List UInt8 := dkwX1_join_5 ++ []
def dkwX1_join_4 : List UInt8 := [160, 0, 7, 4, 167, 0, 4, 3, 184, 1, 171, 173, 42, 182, 1, 138, 42, 27, 28, 29, 21, 4]
abbrev dktX1_join_4 : List UInt8 := dkwX1_join_4 ++ dktX1_join_5
def dkwX1_join_3 : List UInt8 := [21, 5, 158, 0, 33, 25, 6, 180, 0, 242, 28, 50, 25, 7, 180, 0, 242, 21, 4, 50, 21, 5, 4]
abbrev dktX1_join_3 : List UInt8 := dkwX1_join_3 ++ dktX1_join_4
def dkwX1_join_2 : List UInt8 := [182, 0, 218, 58, 7, 21, 5, 5, 160, 0, 15, 42, 25, 6, 28, 25, 7, 21, 4, 182, 1, 167, 173]
abbrev dktX1_join_2 : List UInt8 := dkwX1_join_2 ++ dktX1_join_3
def dkwX1_join_1 : List UInt8 := [20, 0, 144, 184, 0, 97, 154, 0, 7, 20, 1, 16, 173, 42, 27, 182, 0, 218, 58, 6, 42, 29]
abbrev dktX1_join_1 : List UInt8 := dkwX1_join_1 ++ dktX1_join_2
def dkwX1_join_0 : List UInt8 := [42, 27, 28, 182, 0, 238, 153, 0, 26, 42, 29, 21, 4, 182, 0, 238, 153, 0, 16, 21, 5, 133, 9]
abbrev dktX1_join_0 : List UInt8 := dkwX1_join_0 ++ dktX1_join_1
theorem dksX1_join_0 : cX1_join.data.toList.drop 0 = dktX1_join_0 := by decide +kernel
theorem dksX1_join_1 : cX1_join.data.toList.drop 23 = dktX1_join_1 := dk_seg dksX1_join_0 23 rfl rfl
theorem dksX1_join_2 : cX1_join.data.toList.drop 45 = dktX1_join_2 := dk_seg dksX1_join_1 22 rfl rfl
theorem dksX1_join_3 : cX1_join.data.toList.drop 68 = dktX1_join_3 := dk_seg dksX1_join_2 23 rfl rfl
theorem dksX1_join_4 : cX1_join.data.toList.drop 91 = dktX1_join_4 := dk_seg dksX1_join_3 23 rfl rfl
theorem dksX1_join_5 : cX1_join.data.toList.drop 113 = dktX1_join_5 := dk_seg dksX1_join_4 22 rfl rfl
theorem dX1_join_0 : decode cX1_join 0 = .ok (.aload_n 0, 1) := dk_42 (dk_at dksX1_join_0 0 rfl rfl)
theorem dX1_join_1 : decode cX1_join 1 = .ok (.iload_n 1, 1) := dk_27 (dk_at dksX1_join_0 1 rfl rfl)
theorem dX1_join_2 : decode cX1_join 2 = .ok (.iload_n 2, 1) := dk_28 (dk_at dksX1_join_0 2 rfl rfl)
theorem dX1_join_3 : decode cX1_join 3 = .ok (.invokevirtual 238, 3) := dk_182 0 238 (dk_at dksX1_join_0 3 rfl rfl)
theorem dX1_join_6 : decode cX1_join 6 = .ok (.ifCond .eq 26, 3) := dk_153 0 26 (dk_at dksX1_join_0 6 rfl rfl)
theorem dX1_join_9 : decode cX1_join 9 = .ok (.aload_n 0, 1) := dk_42 (dk_at dksX1_join_0 9 rfl rfl)
theorem dX1_join_10 : decode cX1_join 10 = .ok (.iload_n 3, 1) := dk_29 (dk_at dksX1_join_0 10 rfl rfl)
theorem dX1_join_11 : decode cX1_join 11 = .ok (.iload 4, 2) := dk_21 4 (dk_at dksX1_join_0 11 rfl rfl)
theorem dX1_join_13 : decode cX1_join 13 = .ok (.invokevirtual 238, 3) := dk_182 0 238 (dk_at dksX1_join_0 13 rfl rfl)
theorem dX1_join_16 : decode cX1_join 16 = .ok (.ifCond .eq 16, 3) := dk_153 0 16 (dk_at dksX1_join_0 16 rfl rfl)
theorem dX1_join_19 : decode cX1_join 19 = .ok (.iload 5, 2) := dk_21 5 (dk_at dksX1_join_0 19 rfl rfl)
theorem dX1_join_21 : decode cX1_join 21 = .ok (.i2l, 1) := dk_133 (dk_at dksX1_join_0 21 rfl rfl)
theorem dX1_join_22 : decode cX1_join 22 = .ok (.lconst 0, 1) := dk_9 (dk_at dksX1_join_0 22 rfl rfl)
theorem dX1_join_23 : decode cX1_join 23 = .ok (.ldc2_w 144, 3) := dk_20 0 144 (dk_at dksX1_join_1 0 rfl rfl)
theorem dX1_join_26 : decode cX1_join 26 = .ok (.invokestatic 97, 3) := dk_184 0 97 (dk_at dksX1_join_1 3 rfl rfl)
theorem dX1_join_29 : decode cX1_join 29 = .ok (.ifCond .ne 7, 3) := dk_154 0 7 (dk_at dksX1_join_1 6 rfl rfl)
theorem dX1_join_32 : decode cX1_join 32 = .ok (.ldc2_w 272, 3) := dk_20 1 16 (dk_at dksX1_join_1 9 rfl rfl)
theorem dX1_join_35 : decode cX1_join 35 = .ok (.lreturn, 1) := dk_173 (dk_at dksX1_join_1 12 rfl rfl)
theorem dX1_join_36 : decode cX1_join 36 = .ok (.aload_n 0, 1) := dk_42 (dk_at dksX1_join_1 13 rfl rfl)
theorem dX1_join_37 : decode cX1_join 37 = .ok (.iload_n 1, 1) := dk_27 (dk_at dksX1_join_1 14 rfl rfl)
theorem dX1_join_38 : decode cX1_join 38 = .ok (.invokevirtual 218, 3) := dk_182 0 218 (dk_at dksX1_join_1 15 rfl rfl)
theorem dX1_join_41 : decode cX1_join 41 = .ok (.astore 6, 2) := dk_58 6 (dk_at dksX1_join_1 18 rfl rfl)
theorem dX1_join_43 : decode cX1_join 43 = .ok (.aload_n 0, 1) := dk_42 (dk_at dksX1_join_1 20 rfl rfl)
theorem dX1_join_44 : decode cX1_join 44 = .ok (.iload_n 3, 1) := dk_29 (dk_at dksX1_join_1 21 rfl rfl)
theorem dX1_join_45 : decode cX1_join 45 = .ok (.invokevirtual 218, 3) := dk_182 0 218 (dk_at dksX1_join_2 0 rfl rfl)
theorem dX1_join_48 : decode cX1_join 48 = .ok (.astore 7, 2) := dk_58 7 (dk_at dksX1_join_2 3 rfl rfl)
theorem dX1_join_50 : decode cX1_join 50 = .ok (.iload 5, 2) := dk_21 5 (dk_at dksX1_join_2 5 rfl rfl)
theorem dX1_join_52 : decode cX1_join 52 = .ok (.iconst 2, 1) := dk_5 (dk_at dksX1_join_2 7 rfl rfl)
theorem dX1_join_53 : decode cX1_join 53 = .ok (.if_icmp .ne 15, 3) := dk_160 0 15 (dk_at dksX1_join_2 8 rfl rfl)
theorem dX1_join_56 : decode cX1_join 56 = .ok (.aload_n 0, 1) := dk_42 (dk_at dksX1_join_2 11 rfl rfl)
theorem dX1_join_57 : decode cX1_join 57 = .ok (.aload 6, 2) := dk_25 6 (dk_at dksX1_join_2 12 rfl rfl)
theorem dX1_join_59 : decode cX1_join 59 = .ok (.iload_n 2, 1) := dk_28 (dk_at dksX1_join_2 14 rfl rfl)
theorem dX1_join_60 : decode cX1_join 60 = .ok (.aload 7, 2) := dk_25 7 (dk_at dksX1_join_2 15 rfl rfl)
theorem dX1_join_62 : decode cX1_join 62 = .ok (.iload 4, 2) := dk_21 4 (dk_at dksX1_join_2 17 rfl rfl)
theorem dX1_join_64 : decode cX1_join 64 = .ok (.invokevirtual 423, 3) := dk_182 1 167 (dk_at dksX1_join_2 19 rfl rfl)
theorem dX1_join_67 : decode cX1_join 67 = .ok (.lreturn, 1) := dk_173 (dk_at dksX1_join_2 22 rfl rfl)
theorem dX1_join_68 : decode cX1_join 68 = .ok (.iload 5, 2) := dk_21 5 (dk_at dksX1_join_3 0 rfl rfl)
theorem dX1_join_70 : decode cX1_join 70 = .ok (.ifCond .le 33, 3) := dk_158 0 33 (dk_at dksX1_join_3 2 rfl rfl)
theorem dX1_join_73 : decode cX1_join 73 = .ok (.aload 6, 2) := dk_25 6 (dk_at dksX1_join_3 5 rfl rfl)
theorem dX1_join_75 : decode cX1_join 75 = .ok (.getfield 242, 3) := dk_180 0 242 (dk_at dksX1_join_3 7 rfl rfl)
theorem dX1_join_78 : decode cX1_join 78 = .ok (.iload_n 2, 1) := dk_28 (dk_at dksX1_join_3 10 rfl rfl)
theorem dX1_join_79 : decode cX1_join 79 = .ok (.aaload, 1) := dk_50 (dk_at dksX1_join_3 11 rfl rfl)
theorem dX1_join_80 : decode cX1_join 80 = .ok (.aload 7, 2) := dk_25 7 (dk_at dksX1_join_3 12 rfl rfl)
theorem dX1_join_82 : decode cX1_join 82 = .ok (.getfield 242, 3) := dk_180 0 242 (dk_at dksX1_join_3 14 rfl rfl)
theorem dX1_join_85 : decode cX1_join 85 = .ok (.iload 4, 2) := dk_21 4 (dk_at dksX1_join_3 17 rfl rfl)
theorem dX1_join_87 : decode cX1_join 87 = .ok (.aaload, 1) := dk_50 (dk_at dksX1_join_3 19 rfl rfl)
theorem dX1_join_88 : decode cX1_join 88 = .ok (.iload 5, 2) := dk_21 5 (dk_at dksX1_join_3 20 rfl rfl)
theorem dX1_join_90 : decode cX1_join 90 = .ok (.iconst 1, 1) := dk_4 (dk_at dksX1_join_3 22 rfl rfl)
theorem dX1_join_91 : decode cX1_join 91 = .ok (.if_icmp .ne 7, 3) := dk_160 0 7 (dk_at dksX1_join_4 0 rfl rfl)
theorem dX1_join_94 : decode cX1_join 94 = .ok (.iconst 1, 1) := dk_4 (dk_at dksX1_join_4 3 rfl rfl)
theorem dX1_join_95 : decode cX1_join 95 = .ok (.goto 4, 3) := dk_167 0 4 (dk_at dksX1_join_4 4 rfl rfl)
theorem dX1_join_98 : decode cX1_join 98 = .ok (.iconst 0, 1) := dk_3 (dk_at dksX1_join_4 7 rfl rfl)
theorem dX1_join_99 : decode cX1_join 99 = .ok (.invokestatic 427, 3) := dk_184 1 171 (dk_at dksX1_join_4 8 rfl rfl)
theorem dX1_join_102 : decode cX1_join 102 = .ok (.lreturn, 1) := dk_173 (dk_at dksX1_join_4 11 rfl rfl)
theorem dX1_join_103 : decode cX1_join 103 = .ok (.aload_n 0, 1) := dk_42 (dk_at dksX1_join_4 12 rfl rfl)
theorem dX1_join_104 : decode cX1_join 104 = .ok (.invokevirtual 394, 3) := dk_182 1 138 (dk_at dksX1_join_4 13 rfl rfl)
theorem dX1_join_107 : decode cX1_join 107 = .ok (.aload_n 0, 1) := dk_42 (dk_at dksX1_join_4 16 rfl rfl)
theorem dX1_join_108 : decode cX1_join 108 = .ok (.iload_n 1, 1) := dk_27 (dk_at dksX1_join_4 17 rfl rfl)
theorem dX1_join_109 : decode cX1_join 109 = .ok (.iload_n 2, 1) := dk_28 (dk_at dksX1_join_4 18 rfl rfl)
theorem dX1_join_110 : decode cX1_join 110 = .ok (.iload_n 3, 1) := dk_29 (dk_at dksX1_join_4 19 rfl rfl)
theorem dX1_join_111 : decode cX1_join 111 = .ok (.iload 4, 2) := dk_21 4 (dk_at dksX1_join_4 20 rfl rfl)
theorem dX1_join_113 : decode cX1_join 113 = .ok (.invokevirtual 431, 3) := dk_182 1 175 (dk_at dksX1_join_5 0 rfl rfl)
theorem dX1_join_116 : decode cX1_join 116 = .ok (.lreturn, 1) := dk_173 (dk_at dksX1_join_5 3 rfl rfl)
theorem dX1_join_117 : decode cX1_join 117 = .ok (.astore 8, 2) := dk_58 8 (dk_at dksX1_join_5 4 rfl rfl)
theorem dX1_join_119 : decode cX1_join 119 = .ok (.aload_n 0, 1) := dk_42 (dk_at dksX1_join_5 6 rfl rfl)
theorem dX1_join_120 : decode cX1_join 120 = .ok (.iconst 4, 1) := dk_7 (dk_at dksX1_join_5 7 rfl rfl)
theorem dX1_join_121 : decode cX1_join 121 = .ok (.invokevirtual 305, 3) := dk_182 1 49 (dk_at dksX1_join_5 8 rfl rfl)
theorem dX1_join_124 : decode cX1_join 124 = .ok (.i2l, 1) := dk_133 (dk_at dksX1_join_5 11 rfl rfl)
theorem dX1_join_125 : decode cX1_join 125 = .ok (.lreturn, 1) := dk_173 (dk_at dksX1_join_5 12 rfl rfl)
abbrev cX1_byDegrees : ByteArray := prog_1_method_59_code
def yX1_byDegrees : MethodName := ⟨RX1, "byDegrees", "(LSafeBuckets$Sheet;ILSafeBuckets$Sheet;I)J"⟩
def dkwX1_byDegrees_2 : List UInt8 := [180, 0, 90, 21, 8, 46, 133, 105, 97, 55, 6, 132, 8, 1, 167, 255, 224, 22, 6, 173]
abbrev dktX1_byDegrees_2 : List UInt8 := dkwX1_byDegrees_2 ++ []
def dkwX1_byDegrees_1 : List UInt8 := [9, 55, 6, 3, 54, 8, 21, 8, 21, 5, 162, 0, 31, 22, 6, 42, 180, 0, 87, 21, 8, 46, 133, 42]
abbrev dktX1_byDegrees_1 : List UInt8 := dkwX1_byDegrees_1 ++ dktX1_byDegrees_2
def dkwX1_byDegrees_0 : List UInt8 := [43, 28, 42, 180, 0, 87, 184, 1, 163, 45, 21, 4, 42, 180, 0, 90, 184, 1, 163, 184, 1, 29, 54, 5]
abbrev dktX1_byDegrees_0 : List UInt8 := dkwX1_byDegrees_0 ++ dktX1_byDegrees_1
theorem dksX1_byDegrees_0 : cX1_byDegrees.data.toList.drop 0 = dktX1_byDegrees_0 := by decide +kernel
theorem dksX1_byDegrees_1 : cX1_byDegrees.data.toList.drop 24 = dktX1_byDegrees_1 := dk_seg dksX1_byDegrees_0 24 rfl rfl
theorem dksX1_byDegrees_2 : cX1_byDegrees.data.toList.drop 48 = dktX1_byDegrees_2 := dk_seg dksX1_byDegrees_1 24 rfl rfl
theorem dX1_byDegrees_0 : decode cX1_byDegrees 0 = .ok (.aload_n 1, 1) := dk_43 (dk_at dksX1_byDegrees_0 0 rfl rfl)
theorem dX1_byDegrees_1 : decode cX1_byDegrees 1 = .ok (.iload_n 2, 1) := dk_28 (dk_at dksX1_byDegrees_0 1 rfl rfl)
theorem dX1_byDegrees_2 : decode cX1_byDegrees 2 = .ok (.aload_n 0, 1) := dk_42 (dk_at dksX1_byDegrees_0 2 rfl rfl)
theorem dX1_byDegrees_3 : decode cX1_byDegrees 3 = .ok (.getfield 87, 3) := dk_180 0 87 (dk_at dksX1_byDegrees_0 3 rfl rfl)
theorem dX1_byDegrees_6 : decode cX1_byDegrees 6 = .ok (.invokestatic 419, 3) := dk_184 1 163 (dk_at dksX1_byDegrees_0 6 rfl rfl)
theorem dX1_byDegrees_9 : decode cX1_byDegrees 9 = .ok (.aload_n 3, 1) := dk_45 (dk_at dksX1_byDegrees_0 9 rfl rfl)
theorem dX1_byDegrees_10 : decode cX1_byDegrees 10 = .ok (.iload 4, 2) := dk_21 4 (dk_at dksX1_byDegrees_0 10 rfl rfl)
theorem dX1_byDegrees_12 : decode cX1_byDegrees 12 = .ok (.aload_n 0, 1) := dk_42 (dk_at dksX1_byDegrees_0 12 rfl rfl)
theorem dX1_byDegrees_13 : decode cX1_byDegrees 13 = .ok (.getfield 90, 3) := dk_180 0 90 (dk_at dksX1_byDegrees_0 13 rfl rfl)
theorem dX1_byDegrees_16 : decode cX1_byDegrees 16 = .ok (.invokestatic 419, 3) := dk_184 1 163 (dk_at dksX1_byDegrees_0 16 rfl rfl)
theorem dX1_byDegrees_19 : decode cX1_byDegrees 19 = .ok (.invokestatic 285, 3) := dk_184 1 29 (dk_at dksX1_byDegrees_0 19 rfl rfl)
theorem dX1_byDegrees_22 : decode cX1_byDegrees 22 = .ok (.istore 5, 2) := dk_54 5 (dk_at dksX1_byDegrees_0 22 rfl rfl)
theorem dX1_byDegrees_24 : decode cX1_byDegrees 24 = .ok (.lconst 0, 1) := dk_9 (dk_at dksX1_byDegrees_1 0 rfl rfl)
theorem dX1_byDegrees_25 : decode cX1_byDegrees 25 = .ok (.lstore 6, 2) := dk_55 6 (dk_at dksX1_byDegrees_1 1 rfl rfl)
theorem dX1_byDegrees_27 : decode cX1_byDegrees 27 = .ok (.iconst 0, 1) := dk_3 (dk_at dksX1_byDegrees_1 3 rfl rfl)
theorem dX1_byDegrees_28 : decode cX1_byDegrees 28 = .ok (.istore 8, 2) := dk_54 8 (dk_at dksX1_byDegrees_1 4 rfl rfl)
theorem dX1_byDegrees_30 : decode cX1_byDegrees 30 = .ok (.iload 8, 2) := dk_21 8 (dk_at dksX1_byDegrees_1 6 rfl rfl)
theorem dX1_byDegrees_32 : decode cX1_byDegrees 32 = .ok (.iload 5, 2) := dk_21 5 (dk_at dksX1_byDegrees_1 8 rfl rfl)
theorem dX1_byDegrees_34 : decode cX1_byDegrees 34 = .ok (.if_icmp .ge 31, 3) := dk_162 0 31 (dk_at dksX1_byDegrees_1 10 rfl rfl)
theorem dX1_byDegrees_37 : decode cX1_byDegrees 37 = .ok (.lload 6, 2) := dk_22 6 (dk_at dksX1_byDegrees_1 13 rfl rfl)
theorem dX1_byDegrees_39 : decode cX1_byDegrees 39 = .ok (.aload_n 0, 1) := dk_42 (dk_at dksX1_byDegrees_1 15 rfl rfl)
theorem dX1_byDegrees_40 : decode cX1_byDegrees 40 = .ok (.getfield 87, 3) := dk_180 0 87 (dk_at dksX1_byDegrees_1 16 rfl rfl)
theorem dX1_byDegrees_43 : decode cX1_byDegrees 43 = .ok (.iload 8, 2) := dk_21 8 (dk_at dksX1_byDegrees_1 19 rfl rfl)
theorem dX1_byDegrees_45 : decode cX1_byDegrees 45 = .ok (.iaload, 1) := dk_46 (dk_at dksX1_byDegrees_1 21 rfl rfl)
theorem dX1_byDegrees_46 : decode cX1_byDegrees 46 = .ok (.i2l, 1) := dk_133 (dk_at dksX1_byDegrees_1 22 rfl rfl)
theorem dX1_byDegrees_47 : decode cX1_byDegrees 47 = .ok (.aload_n 0, 1) := dk_42 (dk_at dksX1_byDegrees_1 23 rfl rfl)
theorem dX1_byDegrees_48 : decode cX1_byDegrees 48 = .ok (.getfield 90, 3) := dk_180 0 90 (dk_at dksX1_byDegrees_2 0 rfl rfl)
theorem dX1_byDegrees_51 : decode cX1_byDegrees 51 = .ok (.iload 8, 2) := dk_21 8 (dk_at dksX1_byDegrees_2 3 rfl rfl)
theorem dX1_byDegrees_53 : decode cX1_byDegrees 53 = .ok (.iaload, 1) := dk_46 (dk_at dksX1_byDegrees_2 5 rfl rfl)
theorem dX1_byDegrees_54 : decode cX1_byDegrees 54 = .ok (.i2l, 1) := dk_133 (dk_at dksX1_byDegrees_2 6 rfl rfl)
theorem dX1_byDegrees_55 : decode cX1_byDegrees 55 = .ok (.lmul, 1) := dk_105 (dk_at dksX1_byDegrees_2 7 rfl rfl)
theorem dX1_byDegrees_56 : decode cX1_byDegrees 56 = .ok (.ladd, 1) := dk_97 (dk_at dksX1_byDegrees_2 8 rfl rfl)
theorem dX1_byDegrees_57 : decode cX1_byDegrees 57 = .ok (.lstore 6, 2) := dk_55 6 (dk_at dksX1_byDegrees_2 9 rfl rfl)
theorem dX1_byDegrees_59 : decode cX1_byDegrees 59 = .ok (.iinc 8 1, 3) := dk_132 8 1 (dk_at dksX1_byDegrees_2 11 rfl rfl)
theorem dX1_byDegrees_62 : decode cX1_byDegrees 62 = .ok (.goto (-32), 3) := dk_167 255 224 (dk_at dksX1_byDegrees_2 14 rfl rfl)
theorem dX1_byDegrees_65 : decode cX1_byDegrees 65 = .ok (.lload 6, 2) := dk_22 6 (dk_at dksX1_byDegrees_2 17 rfl rfl)
theorem dX1_byDegrees_67 : decode cX1_byDegrees 67 = .ok (.lreturn, 1) := dk_173 (dk_at dksX1_byDegrees_2 19 rfl rfl)
abbrev cX1_sorts : ByteArray := prog_1_method_58_code
def yX1_sorts : MethodName := ⟨RX1, "sorts", "(LSafeBuckets$Sheet;I[I)I"⟩
def dkwX1_sorts_2 : List UInt8 := [132, 5, 255, 167, 255, 227, 44, 21, 5, 21, 4, 79, 132, 3, 1, 167, 255, 196, 42, 180, 0, 164, 172]
abbrev dktX1_sorts_2 : List UInt8 := dkwX1_sorts_2 ++ []
def dkwX1_sorts_1 : List UInt8 := [158, 0, 30, 44, 21, 5, 4, 100, 46, 21, 4, 162, 0, 19, 44, 21, 5, 44, 21, 5, 4, 100, 46, 79]
abbrev dktX1_sorts_1 : List UInt8 := dkwX1_sorts_1 ++ dktX1_sorts_2
def dkwX1_sorts_0 : List UInt8 := [3, 62, 29, 42, 180, 0, 164, 162, 0, 58, 42, 27, 29, 182, 0, 167, 54, 4, 29, 54, 5, 21, 5]
abbrev dktX1_sorts_0 : List UInt8 := dkwX1_sorts_0 ++ dktX1_sorts_1
theorem dksX1_sorts_0 : cX1_sorts.data.toList.drop 0 = dktX1_sorts_0 := by decide +kernel
theorem dksX1_sorts_1 : cX1_sorts.data.toList.drop 23 = dktX1_sorts_1 := dk_seg dksX1_sorts_0 23 rfl rfl
theorem dksX1_sorts_2 : cX1_sorts.data.toList.drop 47 = dktX1_sorts_2 := dk_seg dksX1_sorts_1 24 rfl rfl
theorem dX1_sorts_0 : decode cX1_sorts 0 = .ok (.iconst 0, 1) := dk_3 (dk_at dksX1_sorts_0 0 rfl rfl)
theorem dX1_sorts_1 : decode cX1_sorts 1 = .ok (.istore_n 3, 1) := dk_62 (dk_at dksX1_sorts_0 1 rfl rfl)
theorem dX1_sorts_2 : decode cX1_sorts 2 = .ok (.iload_n 3, 1) := dk_29 (dk_at dksX1_sorts_0 2 rfl rfl)
theorem dX1_sorts_3 : decode cX1_sorts 3 = .ok (.aload_n 0, 1) := dk_42 (dk_at dksX1_sorts_0 3 rfl rfl)
theorem dX1_sorts_4 : decode cX1_sorts 4 = .ok (.getfield 164, 3) := dk_180 0 164 (dk_at dksX1_sorts_0 4 rfl rfl)
theorem dX1_sorts_7 : decode cX1_sorts 7 = .ok (.if_icmp .ge 58, 3) := dk_162 0 58 (dk_at dksX1_sorts_0 7 rfl rfl)
theorem dX1_sorts_10 : decode cX1_sorts 10 = .ok (.aload_n 0, 1) := dk_42 (dk_at dksX1_sorts_0 10 rfl rfl)
theorem dX1_sorts_11 : decode cX1_sorts 11 = .ok (.iload_n 1, 1) := dk_27 (dk_at dksX1_sorts_0 11 rfl rfl)
theorem dX1_sorts_12 : decode cX1_sorts 12 = .ok (.iload_n 3, 1) := dk_29 (dk_at dksX1_sorts_0 12 rfl rfl)
theorem dX1_sorts_13 : decode cX1_sorts 13 = .ok (.invokevirtual 167, 3) := dk_182 0 167 (dk_at dksX1_sorts_0 13 rfl rfl)
theorem dX1_sorts_16 : decode cX1_sorts 16 = .ok (.istore 4, 2) := dk_54 4 (dk_at dksX1_sorts_0 16 rfl rfl)
theorem dX1_sorts_18 : decode cX1_sorts 18 = .ok (.iload_n 3, 1) := dk_29 (dk_at dksX1_sorts_0 18 rfl rfl)
theorem dX1_sorts_19 : decode cX1_sorts 19 = .ok (.istore 5, 2) := dk_54 5 (dk_at dksX1_sorts_0 19 rfl rfl)
theorem dX1_sorts_21 : decode cX1_sorts 21 = .ok (.iload 5, 2) := dk_21 5 (dk_at dksX1_sorts_0 21 rfl rfl)
theorem dX1_sorts_23 : decode cX1_sorts 23 = .ok (.ifCond .le 30, 3) := dk_158 0 30 (dk_at dksX1_sorts_1 0 rfl rfl)
theorem dX1_sorts_26 : decode cX1_sorts 26 = .ok (.aload_n 2, 1) := dk_44 (dk_at dksX1_sorts_1 3 rfl rfl)
theorem dX1_sorts_27 : decode cX1_sorts 27 = .ok (.iload 5, 2) := dk_21 5 (dk_at dksX1_sorts_1 4 rfl rfl)
theorem dX1_sorts_29 : decode cX1_sorts 29 = .ok (.iconst 1, 1) := dk_4 (dk_at dksX1_sorts_1 6 rfl rfl)
theorem dX1_sorts_30 : decode cX1_sorts 30 = .ok (.isub, 1) := dk_100 (dk_at dksX1_sorts_1 7 rfl rfl)
theorem dX1_sorts_31 : decode cX1_sorts 31 = .ok (.iaload, 1) := dk_46 (dk_at dksX1_sorts_1 8 rfl rfl)
theorem dX1_sorts_32 : decode cX1_sorts 32 = .ok (.iload 4, 2) := dk_21 4 (dk_at dksX1_sorts_1 9 rfl rfl)
theorem dX1_sorts_34 : decode cX1_sorts 34 = .ok (.if_icmp .ge 19, 3) := dk_162 0 19 (dk_at dksX1_sorts_1 11 rfl rfl)
theorem dX1_sorts_37 : decode cX1_sorts 37 = .ok (.aload_n 2, 1) := dk_44 (dk_at dksX1_sorts_1 14 rfl rfl)
theorem dX1_sorts_38 : decode cX1_sorts 38 = .ok (.iload 5, 2) := dk_21 5 (dk_at dksX1_sorts_1 15 rfl rfl)
theorem dX1_sorts_40 : decode cX1_sorts 40 = .ok (.aload_n 2, 1) := dk_44 (dk_at dksX1_sorts_1 17 rfl rfl)
theorem dX1_sorts_41 : decode cX1_sorts 41 = .ok (.iload 5, 2) := dk_21 5 (dk_at dksX1_sorts_1 18 rfl rfl)
theorem dX1_sorts_43 : decode cX1_sorts 43 = .ok (.iconst 1, 1) := dk_4 (dk_at dksX1_sorts_1 20 rfl rfl)
theorem dX1_sorts_44 : decode cX1_sorts 44 = .ok (.isub, 1) := dk_100 (dk_at dksX1_sorts_1 21 rfl rfl)
theorem dX1_sorts_45 : decode cX1_sorts 45 = .ok (.iaload, 1) := dk_46 (dk_at dksX1_sorts_1 22 rfl rfl)
theorem dX1_sorts_46 : decode cX1_sorts 46 = .ok (.iastore, 1) := dk_79 (dk_at dksX1_sorts_1 23 rfl rfl)
theorem dX1_sorts_47 : decode cX1_sorts 47 = .ok (.iinc 5 (-1), 3) := dk_132 5 255 (dk_at dksX1_sorts_2 0 rfl rfl)
theorem dX1_sorts_50 : decode cX1_sorts 50 = .ok (.goto (-29), 3) := dk_167 255 227 (dk_at dksX1_sorts_2 3 rfl rfl)
theorem dX1_sorts_53 : decode cX1_sorts 53 = .ok (.aload_n 2, 1) := dk_44 (dk_at dksX1_sorts_2 6 rfl rfl)
theorem dX1_sorts_54 : decode cX1_sorts 54 = .ok (.iload 5, 2) := dk_21 5 (dk_at dksX1_sorts_2 7 rfl rfl)
theorem dX1_sorts_56 : decode cX1_sorts 56 = .ok (.iload 4, 2) := dk_21 4 (dk_at dksX1_sorts_2 9 rfl rfl)
theorem dX1_sorts_58 : decode cX1_sorts 58 = .ok (.iastore, 1) := dk_79 (dk_at dksX1_sorts_2 11 rfl rfl)
theorem dX1_sorts_59 : decode cX1_sorts 59 = .ok (.iinc 3 1, 3) := dk_132 3 1 (dk_at dksX1_sorts_2 12 rfl rfl)
theorem dX1_sorts_62 : decode cX1_sorts 62 = .ok (.goto (-60), 3) := dk_167 255 196 (dk_at dksX1_sorts_2 15 rfl rfl)
theorem dX1_sorts_65 : decode cX1_sorts 65 = .ok (.aload_n 0, 1) := dk_42 (dk_at dksX1_sorts_2 18 rfl rfl)
theorem dX1_sorts_66 : decode cX1_sorts 66 = .ok (.getfield 164, 3) := dk_180 0 164 (dk_at dksX1_sorts_2 19 rfl rfl)
theorem dX1_sorts_69 : decode cX1_sorts 69 = .ok (.ireturn, 1) := dk_172 (dk_at dksX1_sorts_2 22 rfl rfl)
abbrev cX1_joined : ByteArray := prog_1_method_57_code
def yX1_joined : MethodName := ⟨RX1, "joined", "(LSafeBuckets$Column;LSafeBuckets$Column;Z)J"⟩
def dkwX1_joined_7 : List UInt8 := [132, 5, 1, 167, 255, 96, 33, 173]
abbrev dktX1_joined_7 : List UInt8 := dkwX1_joined_7 ++ []
def dkwX1_joined_6 : List UInt8 := [25, 7, 182, 1, 160, 133, 25, 8, 182, 1, 160, 133, 105, 109, 97, 66, 132, 6, 1, 167, 255, 114]
abbrev dktX1_joined_6 : List UInt8 := dkwX1_joined_6 ++ dktX1_joined_7
def dkwX1_joined_5 : List UInt8 := [105, 184, 1, 157, 167, 0, 33, 22, 9, 25, 7, 180, 1, 151, 133, 105, 25, 8, 180, 1, 151, 133, 105]
abbrev dktX1_joined_5 : List UInt8 := dkwX1_joined_5 ++ dktX1_joined_6
def dkwX1_joined_4 : List UInt8 := [55, 11, 33, 28, 153, 0, 27, 22, 11, 22, 9, 25, 7, 180, 1, 154, 133, 105, 25, 8, 180, 1, 154, 133]
abbrev dktX1_joined_4 : List UInt8 := dkwX1_joined_4 ++ dktX1_joined_5
def dkwX1_joined_3 : List UInt8 := [25, 8, 180, 1, 154, 133, 105, 25, 8, 180, 1, 151, 133, 25, 7, 180, 1, 154, 133, 105, 184, 1, 157]
abbrev dktX1_joined_3 : List UInt8 := dkwX1_joined_3 ++ dktX1_joined_4
def dkwX1_joined_2 : List UInt8 := [25, 8, 184, 1, 145, 133, 55, 9, 22, 9, 9, 148, 154, 0, 6, 167, 0, 95, 25, 7, 180, 1, 151, 133]
abbrev dktX1_joined_2 : List UInt8 := dkwX1_joined_2 ++ dktX1_joined_3
def dkwX1_joined_1 : List UInt8 := [162, 0, 139, 42, 180, 0, 249, 21, 5, 50, 58, 7, 43, 180, 0, 249, 21, 6, 50, 58, 8, 25, 7]
abbrev dktX1_joined_1 : List UInt8 := dkwX1_joined_1 ++ dktX1_joined_2
def dkwX1_joined_0 : List UInt8 := [9, 66, 3, 54, 5, 21, 5, 42, 180, 0, 246, 162, 0, 157, 3, 54, 6, 21, 6, 43, 180, 0, 246]
abbrev dktX1_joined_0 : List UInt8 := dkwX1_joined_0 ++ dktX1_joined_1
theorem dksX1_joined_0 : cX1_joined.data.toList.drop 0 = dktX1_joined_0 := by decide +kernel
theorem dksX1_joined_1 : cX1_joined.data.toList.drop 23 = dktX1_joined_1 := dk_seg dksX1_joined_0 23 rfl rfl
theorem dksX1_joined_2 : cX1_joined.data.toList.drop 46 = dktX1_joined_2 := dk_seg dksX1_joined_1 23 rfl rfl
theorem dksX1_joined_3 : cX1_joined.data.toList.drop 70 = dktX1_joined_3 := dk_seg dksX1_joined_2 24 rfl rfl
theorem dksX1_joined_4 : cX1_joined.data.toList.drop 93 = dktX1_joined_4 := dk_seg dksX1_joined_3 23 rfl rfl
theorem dksX1_joined_5 : cX1_joined.data.toList.drop 117 = dktX1_joined_5 := dk_seg dksX1_joined_4 24 rfl rfl
theorem dksX1_joined_6 : cX1_joined.data.toList.drop 140 = dktX1_joined_6 := dk_seg dksX1_joined_5 23 rfl rfl
theorem dksX1_joined_7 : cX1_joined.data.toList.drop 162 = dktX1_joined_7 := dk_seg dksX1_joined_6 22 rfl rfl
theorem dX1_joined_0 : decode cX1_joined 0 = .ok (.lconst 0, 1) := dk_9 (dk_at dksX1_joined_0 0 rfl rfl)
theorem dX1_joined_1 : decode cX1_joined 1 = .ok (.lstore_n 3, 1) := dk_66 (dk_at dksX1_joined_0 1 rfl rfl)
theorem dX1_joined_2 : decode cX1_joined 2 = .ok (.iconst 0, 1) := dk_3 (dk_at dksX1_joined_0 2 rfl rfl)
theorem dX1_joined_3 : decode cX1_joined 3 = .ok (.istore 5, 2) := dk_54 5 (dk_at dksX1_joined_0 3 rfl rfl)
theorem dX1_joined_5 : decode cX1_joined 5 = .ok (.iload 5, 2) := dk_21 5 (dk_at dksX1_joined_0 5 rfl rfl)
theorem dX1_joined_7 : decode cX1_joined 7 = .ok (.aload_n 0, 1) := dk_42 (dk_at dksX1_joined_0 7 rfl rfl)
theorem dX1_joined_8 : decode cX1_joined 8 = .ok (.getfield 246, 3) := dk_180 0 246 (dk_at dksX1_joined_0 8 rfl rfl)
theorem dX1_joined_11 : decode cX1_joined 11 = .ok (.if_icmp .ge 157, 3) := dk_162 0 157 (dk_at dksX1_joined_0 11 rfl rfl)
theorem dX1_joined_14 : decode cX1_joined 14 = .ok (.iconst 0, 1) := dk_3 (dk_at dksX1_joined_0 14 rfl rfl)
theorem dX1_joined_15 : decode cX1_joined 15 = .ok (.istore 6, 2) := dk_54 6 (dk_at dksX1_joined_0 15 rfl rfl)
theorem dX1_joined_17 : decode cX1_joined 17 = .ok (.iload 6, 2) := dk_21 6 (dk_at dksX1_joined_0 17 rfl rfl)
theorem dX1_joined_19 : decode cX1_joined 19 = .ok (.aload_n 1, 1) := dk_43 (dk_at dksX1_joined_0 19 rfl rfl)
theorem dX1_joined_20 : decode cX1_joined 20 = .ok (.getfield 246, 3) := dk_180 0 246 (dk_at dksX1_joined_0 20 rfl rfl)
theorem dX1_joined_23 : decode cX1_joined 23 = .ok (.if_icmp .ge 139, 3) := dk_162 0 139 (dk_at dksX1_joined_1 0 rfl rfl)
theorem dX1_joined_26 : decode cX1_joined 26 = .ok (.aload_n 0, 1) := dk_42 (dk_at dksX1_joined_1 3 rfl rfl)
theorem dX1_joined_27 : decode cX1_joined 27 = .ok (.getfield 249, 3) := dk_180 0 249 (dk_at dksX1_joined_1 4 rfl rfl)
theorem dX1_joined_30 : decode cX1_joined 30 = .ok (.iload 5, 2) := dk_21 5 (dk_at dksX1_joined_1 7 rfl rfl)
theorem dX1_joined_32 : decode cX1_joined 32 = .ok (.aaload, 1) := dk_50 (dk_at dksX1_joined_1 9 rfl rfl)
theorem dX1_joined_33 : decode cX1_joined 33 = .ok (.astore 7, 2) := dk_58 7 (dk_at dksX1_joined_1 10 rfl rfl)
theorem dX1_joined_35 : decode cX1_joined 35 = .ok (.aload_n 1, 1) := dk_43 (dk_at dksX1_joined_1 12 rfl rfl)
theorem dX1_joined_36 : decode cX1_joined 36 = .ok (.getfield 249, 3) := dk_180 0 249 (dk_at dksX1_joined_1 13 rfl rfl)
theorem dX1_joined_39 : decode cX1_joined 39 = .ok (.iload 6, 2) := dk_21 6 (dk_at dksX1_joined_1 16 rfl rfl)
theorem dX1_joined_41 : decode cX1_joined 41 = .ok (.aaload, 1) := dk_50 (dk_at dksX1_joined_1 18 rfl rfl)
theorem dX1_joined_42 : decode cX1_joined 42 = .ok (.astore 8, 2) := dk_58 8 (dk_at dksX1_joined_1 19 rfl rfl)
theorem dX1_joined_44 : decode cX1_joined 44 = .ok (.aload 7, 2) := dk_25 7 (dk_at dksX1_joined_1 21 rfl rfl)
theorem dX1_joined_46 : decode cX1_joined 46 = .ok (.aload 8, 2) := dk_25 8 (dk_at dksX1_joined_2 0 rfl rfl)
theorem dX1_joined_48 : decode cX1_joined 48 = .ok (.invokestatic 401, 3) := dk_184 1 145 (dk_at dksX1_joined_2 2 rfl rfl)
theorem dX1_joined_51 : decode cX1_joined 51 = .ok (.i2l, 1) := dk_133 (dk_at dksX1_joined_2 5 rfl rfl)
theorem dX1_joined_52 : decode cX1_joined 52 = .ok (.lstore 9, 2) := dk_55 9 (dk_at dksX1_joined_2 6 rfl rfl)
theorem dX1_joined_54 : decode cX1_joined 54 = .ok (.lload 9, 2) := dk_22 9 (dk_at dksX1_joined_2 8 rfl rfl)
theorem dX1_joined_56 : decode cX1_joined 56 = .ok (.lconst 0, 1) := dk_9 (dk_at dksX1_joined_2 10 rfl rfl)
theorem dX1_joined_57 : decode cX1_joined 57 = .ok (.lcmp, 1) := dk_148 (dk_at dksX1_joined_2 11 rfl rfl)
theorem dX1_joined_58 : decode cX1_joined 58 = .ok (.ifCond .ne 6, 3) := dk_154 0 6 (dk_at dksX1_joined_2 12 rfl rfl)
theorem dX1_joined_61 : decode cX1_joined 61 = .ok (.goto 95, 3) := dk_167 0 95 (dk_at dksX1_joined_2 15 rfl rfl)
theorem dX1_joined_64 : decode cX1_joined 64 = .ok (.aload 7, 2) := dk_25 7 (dk_at dksX1_joined_2 18 rfl rfl)
theorem dX1_joined_66 : decode cX1_joined 66 = .ok (.getfield 407, 3) := dk_180 1 151 (dk_at dksX1_joined_2 20 rfl rfl)
theorem dX1_joined_69 : decode cX1_joined 69 = .ok (.i2l, 1) := dk_133 (dk_at dksX1_joined_2 23 rfl rfl)
theorem dX1_joined_70 : decode cX1_joined 70 = .ok (.aload 8, 2) := dk_25 8 (dk_at dksX1_joined_3 0 rfl rfl)
theorem dX1_joined_72 : decode cX1_joined 72 = .ok (.getfield 410, 3) := dk_180 1 154 (dk_at dksX1_joined_3 2 rfl rfl)
theorem dX1_joined_75 : decode cX1_joined 75 = .ok (.i2l, 1) := dk_133 (dk_at dksX1_joined_3 5 rfl rfl)
theorem dX1_joined_76 : decode cX1_joined 76 = .ok (.lmul, 1) := dk_105 (dk_at dksX1_joined_3 6 rfl rfl)
theorem dX1_joined_77 : decode cX1_joined 77 = .ok (.aload 8, 2) := dk_25 8 (dk_at dksX1_joined_3 7 rfl rfl)
theorem dX1_joined_79 : decode cX1_joined 79 = .ok (.getfield 407, 3) := dk_180 1 151 (dk_at dksX1_joined_3 9 rfl rfl)
theorem dX1_joined_82 : decode cX1_joined 82 = .ok (.i2l, 1) := dk_133 (dk_at dksX1_joined_3 12 rfl rfl)
theorem dX1_joined_83 : decode cX1_joined 83 = .ok (.aload 7, 2) := dk_25 7 (dk_at dksX1_joined_3 13 rfl rfl)
theorem dX1_joined_85 : decode cX1_joined 85 = .ok (.getfield 410, 3) := dk_180 1 154 (dk_at dksX1_joined_3 15 rfl rfl)
theorem dX1_joined_88 : decode cX1_joined 88 = .ok (.i2l, 1) := dk_133 (dk_at dksX1_joined_3 18 rfl rfl)
theorem dX1_joined_89 : decode cX1_joined 89 = .ok (.lmul, 1) := dk_105 (dk_at dksX1_joined_3 19 rfl rfl)
theorem dX1_joined_90 : decode cX1_joined 90 = .ok (.invokestatic 413, 3) := dk_184 1 157 (dk_at dksX1_joined_3 20 rfl rfl)
theorem dX1_joined_93 : decode cX1_joined 93 = .ok (.lstore 11, 2) := dk_55 11 (dk_at dksX1_joined_4 0 rfl rfl)
theorem dX1_joined_95 : decode cX1_joined 95 = .ok (.lload_n 3, 1) := dk_33 (dk_at dksX1_joined_4 2 rfl rfl)
theorem dX1_joined_96 : decode cX1_joined 96 = .ok (.iload_n 2, 1) := dk_28 (dk_at dksX1_joined_4 3 rfl rfl)
theorem dX1_joined_97 : decode cX1_joined 97 = .ok (.ifCond .eq 27, 3) := dk_153 0 27 (dk_at dksX1_joined_4 4 rfl rfl)
theorem dX1_joined_100 : decode cX1_joined 100 = .ok (.lload 11, 2) := dk_22 11 (dk_at dksX1_joined_4 7 rfl rfl)
theorem dX1_joined_102 : decode cX1_joined 102 = .ok (.lload 9, 2) := dk_22 9 (dk_at dksX1_joined_4 9 rfl rfl)
theorem dX1_joined_104 : decode cX1_joined 104 = .ok (.aload 7, 2) := dk_25 7 (dk_at dksX1_joined_4 11 rfl rfl)
theorem dX1_joined_106 : decode cX1_joined 106 = .ok (.getfield 410, 3) := dk_180 1 154 (dk_at dksX1_joined_4 13 rfl rfl)
theorem dX1_joined_109 : decode cX1_joined 109 = .ok (.i2l, 1) := dk_133 (dk_at dksX1_joined_4 16 rfl rfl)
theorem dX1_joined_110 : decode cX1_joined 110 = .ok (.lmul, 1) := dk_105 (dk_at dksX1_joined_4 17 rfl rfl)
theorem dX1_joined_111 : decode cX1_joined 111 = .ok (.aload 8, 2) := dk_25 8 (dk_at dksX1_joined_4 18 rfl rfl)
theorem dX1_joined_113 : decode cX1_joined 113 = .ok (.getfield 410, 3) := dk_180 1 154 (dk_at dksX1_joined_4 20 rfl rfl)
theorem dX1_joined_116 : decode cX1_joined 116 = .ok (.i2l, 1) := dk_133 (dk_at dksX1_joined_4 23 rfl rfl)
theorem dX1_joined_117 : decode cX1_joined 117 = .ok (.lmul, 1) := dk_105 (dk_at dksX1_joined_5 0 rfl rfl)
theorem dX1_joined_118 : decode cX1_joined 118 = .ok (.invokestatic 413, 3) := dk_184 1 157 (dk_at dksX1_joined_5 1 rfl rfl)
theorem dX1_joined_121 : decode cX1_joined 121 = .ok (.goto 33, 3) := dk_167 0 33 (dk_at dksX1_joined_5 4 rfl rfl)
theorem dX1_joined_124 : decode cX1_joined 124 = .ok (.lload 9, 2) := dk_22 9 (dk_at dksX1_joined_5 7 rfl rfl)
theorem dX1_joined_126 : decode cX1_joined 126 = .ok (.aload 7, 2) := dk_25 7 (dk_at dksX1_joined_5 9 rfl rfl)
theorem dX1_joined_128 : decode cX1_joined 128 = .ok (.getfield 407, 3) := dk_180 1 151 (dk_at dksX1_joined_5 11 rfl rfl)
theorem dX1_joined_131 : decode cX1_joined 131 = .ok (.i2l, 1) := dk_133 (dk_at dksX1_joined_5 14 rfl rfl)
theorem dX1_joined_132 : decode cX1_joined 132 = .ok (.lmul, 1) := dk_105 (dk_at dksX1_joined_5 15 rfl rfl)
theorem dX1_joined_133 : decode cX1_joined 133 = .ok (.aload 8, 2) := dk_25 8 (dk_at dksX1_joined_5 16 rfl rfl)
theorem dX1_joined_135 : decode cX1_joined 135 = .ok (.getfield 407, 3) := dk_180 1 151 (dk_at dksX1_joined_5 18 rfl rfl)
theorem dX1_joined_138 : decode cX1_joined 138 = .ok (.i2l, 1) := dk_133 (dk_at dksX1_joined_5 21 rfl rfl)
theorem dX1_joined_139 : decode cX1_joined 139 = .ok (.lmul, 1) := dk_105 (dk_at dksX1_joined_5 22 rfl rfl)
theorem dX1_joined_140 : decode cX1_joined 140 = .ok (.aload 7, 2) := dk_25 7 (dk_at dksX1_joined_6 0 rfl rfl)
theorem dX1_joined_142 : decode cX1_joined 142 = .ok (.invokevirtual 416, 3) := dk_182 1 160 (dk_at dksX1_joined_6 2 rfl rfl)
theorem dX1_joined_145 : decode cX1_joined 145 = .ok (.i2l, 1) := dk_133 (dk_at dksX1_joined_6 5 rfl rfl)
theorem dX1_joined_146 : decode cX1_joined 146 = .ok (.aload 8, 2) := dk_25 8 (dk_at dksX1_joined_6 6 rfl rfl)
theorem dX1_joined_148 : decode cX1_joined 148 = .ok (.invokevirtual 416, 3) := dk_182 1 160 (dk_at dksX1_joined_6 8 rfl rfl)
theorem dX1_joined_151 : decode cX1_joined 151 = .ok (.i2l, 1) := dk_133 (dk_at dksX1_joined_6 11 rfl rfl)
theorem dX1_joined_152 : decode cX1_joined 152 = .ok (.lmul, 1) := dk_105 (dk_at dksX1_joined_6 12 rfl rfl)
theorem dX1_joined_153 : decode cX1_joined 153 = .ok (.ldiv, 1) := dk_109 (dk_at dksX1_joined_6 13 rfl rfl)
theorem dX1_joined_154 : decode cX1_joined 154 = .ok (.ladd, 1) := dk_97 (dk_at dksX1_joined_6 14 rfl rfl)
theorem dX1_joined_155 : decode cX1_joined 155 = .ok (.lstore_n 3, 1) := dk_66 (dk_at dksX1_joined_6 15 rfl rfl)
theorem dX1_joined_156 : decode cX1_joined 156 = .ok (.iinc 6 1, 3) := dk_132 6 1 (dk_at dksX1_joined_6 16 rfl rfl)
theorem dX1_joined_159 : decode cX1_joined 159 = .ok (.goto (-142), 3) := dk_167 255 114 (dk_at dksX1_joined_6 19 rfl rfl)
theorem dX1_joined_162 : decode cX1_joined 162 = .ok (.iinc 5 1, 3) := dk_132 5 1 (dk_at dksX1_joined_7 0 rfl rfl)
theorem dX1_joined_165 : decode cX1_joined 165 = .ok (.goto (-160), 3) := dk_167 255 96 (dk_at dksX1_joined_7 3 rfl rfl)
theorem dX1_joined_168 : decode cX1_joined 168 = .ok (.lload_n 3, 1) := dk_33 (dk_at dksX1_joined_7 6 rfl rfl)
theorem dX1_joined_169 : decode cX1_joined 169 = .ok (.lreturn, 1) := dk_173 (dk_at dksX1_joined_7 7 rfl rfl)
abbrev cX1_truthOfJoin : ByteArray := prog_1_method_53_code
def yX1_truthOfJoin : MethodName := ⟨RX1, "truthOfJoin", "(IIII)J"⟩
def dkwX1_truthOfJoin_7 : List UInt8 := [182, 1, 118, 25, 6, 191]
abbrev dktX1_truthOfJoin_7 : List UInt8 := dkwX1_truthOfJoin_7 ++ []
def dkwX1_truthOfJoin_6 : List UInt8 := [182, 1, 118, 25, 7, 191, 58, 6, 25, 5, 182, 1, 113, 167, 0, 12, 58, 7, 25, 6, 25, 7]
abbrev dktX1_truthOfJoin_6 : List UInt8 := dkwX1_truthOfJoin_6 ++ dktX1_truthOfJoin_7
def dkwX1_truthOfJoin_5 : List UInt8 := [25, 5, 182, 1, 113, 22, 9, 173, 58, 7, 25, 6, 182, 1, 113, 167, 0, 12, 58, 8, 25, 7, 25, 8]
abbrev dktX1_truthOfJoin_5 : List UInt8 := dkwX1_truthOfJoin_5 ++ dktX1_truthOfJoin_6
def dkwX1_truthOfJoin_4 : List UInt8 := [182, 0, 167, 133, 105, 97, 55, 7, 132, 9, 1, 167, 255, 180, 22, 7, 55, 9, 25, 6, 182, 1, 113]
abbrev dktX1_truthOfJoin_4 : List UInt8 := dkwX1_truthOfJoin_4 ++ dktX1_truthOfJoin_5
def dkwX1_truthOfJoin_3 : List UInt8 := [182, 1, 104, 180, 0, 164, 162, 0, 25, 22, 7, 21, 10, 133, 25, 6, 182, 1, 104, 21, 4, 21, 9]
abbrev dktX1_truthOfJoin_3 : List UInt8 := dkwX1_truthOfJoin_3 ++ dktX1_truthOfJoin_4
def dkwX1_truthOfJoin_2 : List UInt8 := [21, 9, 182, 0, 167, 54, 10, 21, 10, 154, 0, 6, 167, 0, 42, 42, 182, 1, 107, 21, 9, 25, 6]
abbrev dktX1_truthOfJoin_2 : List UInt8 := dkwX1_truthOfJoin_2 ++ dktX1_truthOfJoin_3
def dkwX1_truthOfJoin_1 : List UInt8 := [55, 7, 3, 54, 9, 21, 9, 25, 5, 182, 1, 104, 180, 0, 164, 162, 0, 69, 25, 5, 182, 1, 104, 28]
abbrev dktX1_truthOfJoin_1 : List UInt8 := dkwX1_truthOfJoin_1 ++ dktX1_truthOfJoin_2
def dkwX1_truthOfJoin_0 : List UInt8 := [187, 1, 99, 89, 42, 27, 183, 1, 101, 58, 5, 187, 1, 99, 89, 42, 29, 183, 1, 101, 58, 6, 9]
abbrev dktX1_truthOfJoin_0 : List UInt8 := dkwX1_truthOfJoin_0 ++ dktX1_truthOfJoin_1
theorem dksX1_truthOfJoin_0 : cX1_truthOfJoin.data.toList.drop 0 = dktX1_truthOfJoin_0 := by decide +kernel
theorem dksX1_truthOfJoin_1 : cX1_truthOfJoin.data.toList.drop 23 = dktX1_truthOfJoin_1 := dk_seg dksX1_truthOfJoin_0 23 rfl rfl
theorem dksX1_truthOfJoin_2 : cX1_truthOfJoin.data.toList.drop 47 = dktX1_truthOfJoin_2 := dk_seg dksX1_truthOfJoin_1 24 rfl rfl
theorem dksX1_truthOfJoin_3 : cX1_truthOfJoin.data.toList.drop 70 = dktX1_truthOfJoin_3 := dk_seg dksX1_truthOfJoin_2 23 rfl rfl
theorem dksX1_truthOfJoin_4 : cX1_truthOfJoin.data.toList.drop 93 = dktX1_truthOfJoin_4 := dk_seg dksX1_truthOfJoin_3 23 rfl rfl
theorem dksX1_truthOfJoin_5 : cX1_truthOfJoin.data.toList.drop 116 = dktX1_truthOfJoin_5 := dk_seg dksX1_truthOfJoin_4 23 rfl rfl
theorem dksX1_truthOfJoin_6 : cX1_truthOfJoin.data.toList.drop 140 = dktX1_truthOfJoin_6 := dk_seg dksX1_truthOfJoin_5 24 rfl rfl
theorem dksX1_truthOfJoin_7 : cX1_truthOfJoin.data.toList.drop 162 = dktX1_truthOfJoin_7 := dk_seg dksX1_truthOfJoin_6 22 rfl rfl
theorem dX1_truthOfJoin_0 : decode cX1_truthOfJoin 0 = .ok (.new 355, 3) := dk_187 1 99 (dk_at dksX1_truthOfJoin_0 0 rfl rfl)
theorem dX1_truthOfJoin_3 : decode cX1_truthOfJoin 3 = .ok (.dup, 1) := dk_89 (dk_at dksX1_truthOfJoin_0 3 rfl rfl)
theorem dX1_truthOfJoin_4 : decode cX1_truthOfJoin 4 = .ok (.aload_n 0, 1) := dk_42 (dk_at dksX1_truthOfJoin_0 4 rfl rfl)
theorem dX1_truthOfJoin_5 : decode cX1_truthOfJoin 5 = .ok (.iload_n 1, 1) := dk_27 (dk_at dksX1_truthOfJoin_0 5 rfl rfl)
theorem dX1_truthOfJoin_6 : decode cX1_truthOfJoin 6 = .ok (.invokespecial 357, 3) := dk_183 1 101 (dk_at dksX1_truthOfJoin_0 6 rfl rfl)
theorem dX1_truthOfJoin_9 : decode cX1_truthOfJoin 9 = .ok (.astore 5, 2) := dk_58 5 (dk_at dksX1_truthOfJoin_0 9 rfl rfl)
theorem dX1_truthOfJoin_11 : decode cX1_truthOfJoin 11 = .ok (.new 355, 3) := dk_187 1 99 (dk_at dksX1_truthOfJoin_0 11 rfl rfl)
theorem dX1_truthOfJoin_14 : decode cX1_truthOfJoin 14 = .ok (.dup, 1) := dk_89 (dk_at dksX1_truthOfJoin_0 14 rfl rfl)
theorem dX1_truthOfJoin_15 : decode cX1_truthOfJoin 15 = .ok (.aload_n 0, 1) := dk_42 (dk_at dksX1_truthOfJoin_0 15 rfl rfl)
theorem dX1_truthOfJoin_16 : decode cX1_truthOfJoin 16 = .ok (.iload_n 3, 1) := dk_29 (dk_at dksX1_truthOfJoin_0 16 rfl rfl)
theorem dX1_truthOfJoin_17 : decode cX1_truthOfJoin 17 = .ok (.invokespecial 357, 3) := dk_183 1 101 (dk_at dksX1_truthOfJoin_0 17 rfl rfl)
theorem dX1_truthOfJoin_20 : decode cX1_truthOfJoin 20 = .ok (.astore 6, 2) := dk_58 6 (dk_at dksX1_truthOfJoin_0 20 rfl rfl)
theorem dX1_truthOfJoin_22 : decode cX1_truthOfJoin 22 = .ok (.lconst 0, 1) := dk_9 (dk_at dksX1_truthOfJoin_0 22 rfl rfl)
theorem dX1_truthOfJoin_23 : decode cX1_truthOfJoin 23 = .ok (.lstore 7, 2) := dk_55 7 (dk_at dksX1_truthOfJoin_1 0 rfl rfl)
theorem dX1_truthOfJoin_25 : decode cX1_truthOfJoin 25 = .ok (.iconst 0, 1) := dk_3 (dk_at dksX1_truthOfJoin_1 2 rfl rfl)
theorem dX1_truthOfJoin_26 : decode cX1_truthOfJoin 26 = .ok (.istore 9, 2) := dk_54 9 (dk_at dksX1_truthOfJoin_1 3 rfl rfl)
theorem dX1_truthOfJoin_28 : decode cX1_truthOfJoin 28 = .ok (.iload 9, 2) := dk_21 9 (dk_at dksX1_truthOfJoin_1 5 rfl rfl)
theorem dX1_truthOfJoin_30 : decode cX1_truthOfJoin 30 = .ok (.aload 5, 2) := dk_25 5 (dk_at dksX1_truthOfJoin_1 7 rfl rfl)
theorem dX1_truthOfJoin_32 : decode cX1_truthOfJoin 32 = .ok (.invokevirtual 360, 3) := dk_182 1 104 (dk_at dksX1_truthOfJoin_1 9 rfl rfl)
theorem dX1_truthOfJoin_35 : decode cX1_truthOfJoin 35 = .ok (.getfield 164, 3) := dk_180 0 164 (dk_at dksX1_truthOfJoin_1 12 rfl rfl)
theorem dX1_truthOfJoin_38 : decode cX1_truthOfJoin 38 = .ok (.if_icmp .ge 69, 3) := dk_162 0 69 (dk_at dksX1_truthOfJoin_1 15 rfl rfl)
theorem dX1_truthOfJoin_41 : decode cX1_truthOfJoin 41 = .ok (.aload 5, 2) := dk_25 5 (dk_at dksX1_truthOfJoin_1 18 rfl rfl)
theorem dX1_truthOfJoin_43 : decode cX1_truthOfJoin 43 = .ok (.invokevirtual 360, 3) := dk_182 1 104 (dk_at dksX1_truthOfJoin_1 20 rfl rfl)
theorem dX1_truthOfJoin_46 : decode cX1_truthOfJoin 46 = .ok (.iload_n 2, 1) := dk_28 (dk_at dksX1_truthOfJoin_1 23 rfl rfl)
theorem dX1_truthOfJoin_47 : decode cX1_truthOfJoin 47 = .ok (.iload 9, 2) := dk_21 9 (dk_at dksX1_truthOfJoin_2 0 rfl rfl)
theorem dX1_truthOfJoin_49 : decode cX1_truthOfJoin 49 = .ok (.invokevirtual 167, 3) := dk_182 0 167 (dk_at dksX1_truthOfJoin_2 2 rfl rfl)
theorem dX1_truthOfJoin_52 : decode cX1_truthOfJoin 52 = .ok (.istore 10, 2) := dk_54 10 (dk_at dksX1_truthOfJoin_2 5 rfl rfl)
theorem dX1_truthOfJoin_54 : decode cX1_truthOfJoin 54 = .ok (.iload 10, 2) := dk_21 10 (dk_at dksX1_truthOfJoin_2 7 rfl rfl)
theorem dX1_truthOfJoin_56 : decode cX1_truthOfJoin 56 = .ok (.ifCond .ne 6, 3) := dk_154 0 6 (dk_at dksX1_truthOfJoin_2 9 rfl rfl)
theorem dX1_truthOfJoin_59 : decode cX1_truthOfJoin 59 = .ok (.goto 42, 3) := dk_167 0 42 (dk_at dksX1_truthOfJoin_2 12 rfl rfl)
theorem dX1_truthOfJoin_62 : decode cX1_truthOfJoin 62 = .ok (.aload_n 0, 1) := dk_42 (dk_at dksX1_truthOfJoin_2 15 rfl rfl)
theorem dX1_truthOfJoin_63 : decode cX1_truthOfJoin 63 = .ok (.invokevirtual 363, 3) := dk_182 1 107 (dk_at dksX1_truthOfJoin_2 16 rfl rfl)
theorem dX1_truthOfJoin_66 : decode cX1_truthOfJoin 66 = .ok (.iload 9, 2) := dk_21 9 (dk_at dksX1_truthOfJoin_2 19 rfl rfl)
theorem dX1_truthOfJoin_68 : decode cX1_truthOfJoin 68 = .ok (.aload 6, 2) := dk_25 6 (dk_at dksX1_truthOfJoin_2 21 rfl rfl)
theorem dX1_truthOfJoin_70 : decode cX1_truthOfJoin 70 = .ok (.invokevirtual 360, 3) := dk_182 1 104 (dk_at dksX1_truthOfJoin_3 0 rfl rfl)
theorem dX1_truthOfJoin_73 : decode cX1_truthOfJoin 73 = .ok (.getfield 164, 3) := dk_180 0 164 (dk_at dksX1_truthOfJoin_3 3 rfl rfl)
theorem dX1_truthOfJoin_76 : decode cX1_truthOfJoin 76 = .ok (.if_icmp .ge 25, 3) := dk_162 0 25 (dk_at dksX1_truthOfJoin_3 6 rfl rfl)
theorem dX1_truthOfJoin_79 : decode cX1_truthOfJoin 79 = .ok (.lload 7, 2) := dk_22 7 (dk_at dksX1_truthOfJoin_3 9 rfl rfl)
theorem dX1_truthOfJoin_81 : decode cX1_truthOfJoin 81 = .ok (.iload 10, 2) := dk_21 10 (dk_at dksX1_truthOfJoin_3 11 rfl rfl)
theorem dX1_truthOfJoin_83 : decode cX1_truthOfJoin 83 = .ok (.i2l, 1) := dk_133 (dk_at dksX1_truthOfJoin_3 13 rfl rfl)
theorem dX1_truthOfJoin_84 : decode cX1_truthOfJoin 84 = .ok (.aload 6, 2) := dk_25 6 (dk_at dksX1_truthOfJoin_3 14 rfl rfl)
theorem dX1_truthOfJoin_86 : decode cX1_truthOfJoin 86 = .ok (.invokevirtual 360, 3) := dk_182 1 104 (dk_at dksX1_truthOfJoin_3 16 rfl rfl)
theorem dX1_truthOfJoin_89 : decode cX1_truthOfJoin 89 = .ok (.iload 4, 2) := dk_21 4 (dk_at dksX1_truthOfJoin_3 19 rfl rfl)
theorem dX1_truthOfJoin_91 : decode cX1_truthOfJoin 91 = .ok (.iload 9, 2) := dk_21 9 (dk_at dksX1_truthOfJoin_3 21 rfl rfl)
theorem dX1_truthOfJoin_93 : decode cX1_truthOfJoin 93 = .ok (.invokevirtual 167, 3) := dk_182 0 167 (dk_at dksX1_truthOfJoin_4 0 rfl rfl)
theorem dX1_truthOfJoin_96 : decode cX1_truthOfJoin 96 = .ok (.i2l, 1) := dk_133 (dk_at dksX1_truthOfJoin_4 3 rfl rfl)
theorem dX1_truthOfJoin_97 : decode cX1_truthOfJoin 97 = .ok (.lmul, 1) := dk_105 (dk_at dksX1_truthOfJoin_4 4 rfl rfl)
theorem dX1_truthOfJoin_98 : decode cX1_truthOfJoin 98 = .ok (.ladd, 1) := dk_97 (dk_at dksX1_truthOfJoin_4 5 rfl rfl)
theorem dX1_truthOfJoin_99 : decode cX1_truthOfJoin 99 = .ok (.lstore 7, 2) := dk_55 7 (dk_at dksX1_truthOfJoin_4 6 rfl rfl)
theorem dX1_truthOfJoin_101 : decode cX1_truthOfJoin 101 = .ok (.iinc 9 1, 3) := dk_132 9 1 (dk_at dksX1_truthOfJoin_4 8 rfl rfl)
theorem dX1_truthOfJoin_104 : decode cX1_truthOfJoin 104 = .ok (.goto (-76), 3) := dk_167 255 180 (dk_at dksX1_truthOfJoin_4 11 rfl rfl)
theorem dX1_truthOfJoin_107 : decode cX1_truthOfJoin 107 = .ok (.lload 7, 2) := dk_22 7 (dk_at dksX1_truthOfJoin_4 14 rfl rfl)
theorem dX1_truthOfJoin_109 : decode cX1_truthOfJoin 109 = .ok (.lstore 9, 2) := dk_55 9 (dk_at dksX1_truthOfJoin_4 16 rfl rfl)
theorem dX1_truthOfJoin_111 : decode cX1_truthOfJoin 111 = .ok (.aload 6, 2) := dk_25 6 (dk_at dksX1_truthOfJoin_4 18 rfl rfl)
theorem dX1_truthOfJoin_113 : decode cX1_truthOfJoin 113 = .ok (.invokevirtual 369, 3) := dk_182 1 113 (dk_at dksX1_truthOfJoin_4 20 rfl rfl)
theorem dX1_truthOfJoin_116 : decode cX1_truthOfJoin 116 = .ok (.aload 5, 2) := dk_25 5 (dk_at dksX1_truthOfJoin_5 0 rfl rfl)
theorem dX1_truthOfJoin_118 : decode cX1_truthOfJoin 118 = .ok (.invokevirtual 369, 3) := dk_182 1 113 (dk_at dksX1_truthOfJoin_5 2 rfl rfl)
theorem dX1_truthOfJoin_121 : decode cX1_truthOfJoin 121 = .ok (.lload 9, 2) := dk_22 9 (dk_at dksX1_truthOfJoin_5 5 rfl rfl)
theorem dX1_truthOfJoin_123 : decode cX1_truthOfJoin 123 = .ok (.lreturn, 1) := dk_173 (dk_at dksX1_truthOfJoin_5 7 rfl rfl)
theorem dX1_truthOfJoin_124 : decode cX1_truthOfJoin 124 = .ok (.astore 7, 2) := dk_58 7 (dk_at dksX1_truthOfJoin_5 8 rfl rfl)
theorem dX1_truthOfJoin_126 : decode cX1_truthOfJoin 126 = .ok (.aload 6, 2) := dk_25 6 (dk_at dksX1_truthOfJoin_5 10 rfl rfl)
theorem dX1_truthOfJoin_128 : decode cX1_truthOfJoin 128 = .ok (.invokevirtual 369, 3) := dk_182 1 113 (dk_at dksX1_truthOfJoin_5 12 rfl rfl)
theorem dX1_truthOfJoin_131 : decode cX1_truthOfJoin 131 = .ok (.goto 12, 3) := dk_167 0 12 (dk_at dksX1_truthOfJoin_5 15 rfl rfl)
theorem dX1_truthOfJoin_134 : decode cX1_truthOfJoin 134 = .ok (.astore 8, 2) := dk_58 8 (dk_at dksX1_truthOfJoin_5 18 rfl rfl)
theorem dX1_truthOfJoin_136 : decode cX1_truthOfJoin 136 = .ok (.aload 7, 2) := dk_25 7 (dk_at dksX1_truthOfJoin_5 20 rfl rfl)
theorem dX1_truthOfJoin_138 : decode cX1_truthOfJoin 138 = .ok (.aload 8, 2) := dk_25 8 (dk_at dksX1_truthOfJoin_5 22 rfl rfl)
theorem dX1_truthOfJoin_140 : decode cX1_truthOfJoin 140 = .ok (.invokevirtual 374, 3) := dk_182 1 118 (dk_at dksX1_truthOfJoin_6 0 rfl rfl)
theorem dX1_truthOfJoin_143 : decode cX1_truthOfJoin 143 = .ok (.aload 7, 2) := dk_25 7 (dk_at dksX1_truthOfJoin_6 3 rfl rfl)
theorem dX1_truthOfJoin_145 : decode cX1_truthOfJoin 145 = .ok (.athrow, 1) := dk_191 (dk_at dksX1_truthOfJoin_6 5 rfl rfl)
theorem dX1_truthOfJoin_146 : decode cX1_truthOfJoin 146 = .ok (.astore 6, 2) := dk_58 6 (dk_at dksX1_truthOfJoin_6 6 rfl rfl)
theorem dX1_truthOfJoin_148 : decode cX1_truthOfJoin 148 = .ok (.aload 5, 2) := dk_25 5 (dk_at dksX1_truthOfJoin_6 8 rfl rfl)
theorem dX1_truthOfJoin_150 : decode cX1_truthOfJoin 150 = .ok (.invokevirtual 369, 3) := dk_182 1 113 (dk_at dksX1_truthOfJoin_6 10 rfl rfl)
theorem dX1_truthOfJoin_153 : decode cX1_truthOfJoin 153 = .ok (.goto 12, 3) := dk_167 0 12 (dk_at dksX1_truthOfJoin_6 13 rfl rfl)
theorem dX1_truthOfJoin_156 : decode cX1_truthOfJoin 156 = .ok (.astore 7, 2) := dk_58 7 (dk_at dksX1_truthOfJoin_6 16 rfl rfl)
theorem dX1_truthOfJoin_158 : decode cX1_truthOfJoin 158 = .ok (.aload 6, 2) := dk_25 6 (dk_at dksX1_truthOfJoin_6 18 rfl rfl)
theorem dX1_truthOfJoin_160 : decode cX1_truthOfJoin 160 = .ok (.aload 7, 2) := dk_25 7 (dk_at dksX1_truthOfJoin_6 20 rfl rfl)
theorem dX1_truthOfJoin_162 : decode cX1_truthOfJoin 162 = .ok (.invokevirtual 374, 3) := dk_182 1 118 (dk_at dksX1_truthOfJoin_7 0 rfl rfl)
theorem dX1_truthOfJoin_165 : decode cX1_truthOfJoin 165 = .ok (.aload 6, 2) := dk_25 6 (dk_at dksX1_truthOfJoin_7 3 rfl rfl)
theorem dX1_truthOfJoin_167 : decode cX1_truthOfJoin 167 = .ok (.athrow, 1) := dk_191 (dk_at dksX1_truthOfJoin_7 5 rfl rfl)
abbrev cX1_chain : ByteArray := prog_1_method_61_code
def yX1_chain : MethodName := ⟨RX1, "chain", "(I)J"⟩
def dkwX1_chain_5 : List UInt8 := [182, 1, 138, 42, 182, 1, 181, 173, 77, 42, 7, 182, 1, 49, 133, 173]
abbrev dktX1_chain_5 : List UInt8 := dkwX1_chain_5 ++ []
def dkwX1_chain_4 : List UInt8 := [182, 1, 179, 133, 105, 25, 4, 25, 5, 4, 184, 1, 171, 44, 182, 1, 179, 133, 105, 184, 1, 157, 173, 42]
abbrev dktX1_chain_4 : List UInt8 := dkwX1_chain_4 ++ dktX1_chain_5
def dkwX1_chain_3 : List UInt8 := [58, 4, 42, 5, 182, 0, 218, 180, 0, 242, 3, 50, 58, 5, 44, 45, 4, 184, 1, 171, 25, 5]
abbrev dktX1_chain_3 : List UInt8 := dkwX1_chain_3 ++ dktX1_chain_4
def dkwX1_chain_2 : List UInt8 := [50, 77, 42, 4, 182, 0, 218, 180, 0, 242, 3, 50, 78, 42, 4, 182, 0, 218, 180, 0, 242, 4, 50]
abbrev dktX1_chain_2 : List UInt8 := dkwX1_chain_2 ++ dktX1_chain_3
def dkwX1_chain_1 : List UInt8 := [184, 0, 97, 154, 0, 7, 20, 1, 16, 173, 27, 4, 160, 0, 80, 42, 3, 182, 0, 218, 180, 0, 242, 4]
abbrev dktX1_chain_1 : List UInt8 := dkwX1_chain_1 ++ dktX1_chain_2
def dkwX1_chain_0 : List UInt8 := [42, 180, 0, 93, 198, 0, 24, 42, 180, 0, 93, 180, 0, 139, 6, 161, 0, 13, 27, 133, 9, 10]
abbrev dktX1_chain_0 : List UInt8 := dkwX1_chain_0 ++ dktX1_chain_1
theorem dksX1_chain_0 : cX1_chain.data.toList.drop 0 = dktX1_chain_0 := by decide +kernel
theorem dksX1_chain_1 : cX1_chain.data.toList.drop 22 = dktX1_chain_1 := dk_seg dksX1_chain_0 22 rfl rfl
theorem dksX1_chain_2 : cX1_chain.data.toList.drop 46 = dktX1_chain_2 := dk_seg dksX1_chain_1 24 rfl rfl
theorem dksX1_chain_3 : cX1_chain.data.toList.drop 69 = dktX1_chain_3 := dk_seg dksX1_chain_2 23 rfl rfl
theorem dksX1_chain_4 : cX1_chain.data.toList.drop 91 = dktX1_chain_4 := dk_seg dksX1_chain_3 22 rfl rfl
theorem dksX1_chain_5 : cX1_chain.data.toList.drop 115 = dktX1_chain_5 := dk_seg dksX1_chain_4 24 rfl rfl
theorem dX1_chain_0 : decode cX1_chain 0 = .ok (.aload_n 0, 1) := dk_42 (dk_at dksX1_chain_0 0 rfl rfl)
theorem dX1_chain_1 : decode cX1_chain 1 = .ok (.getfield 93, 3) := dk_180 0 93 (dk_at dksX1_chain_0 1 rfl rfl)
theorem dX1_chain_4 : decode cX1_chain 4 = .ok (.ifnull 24, 3) := dk_198 0 24 (dk_at dksX1_chain_0 4 rfl rfl)
theorem dX1_chain_7 : decode cX1_chain 7 = .ok (.aload_n 0, 1) := dk_42 (dk_at dksX1_chain_0 7 rfl rfl)
theorem dX1_chain_8 : decode cX1_chain 8 = .ok (.getfield 93, 3) := dk_180 0 93 (dk_at dksX1_chain_0 8 rfl rfl)
theorem dX1_chain_11 : decode cX1_chain 11 = .ok (.getfield 139, 3) := dk_180 0 139 (dk_at dksX1_chain_0 11 rfl rfl)
theorem dX1_chain_14 : decode cX1_chain 14 = .ok (.iconst 3, 1) := dk_6 (dk_at dksX1_chain_0 14 rfl rfl)
theorem dX1_chain_15 : decode cX1_chain 15 = .ok (.if_icmp .lt 13, 3) := dk_161 0 13 (dk_at dksX1_chain_0 15 rfl rfl)
theorem dX1_chain_18 : decode cX1_chain 18 = .ok (.iload_n 1, 1) := dk_27 (dk_at dksX1_chain_0 18 rfl rfl)
theorem dX1_chain_19 : decode cX1_chain 19 = .ok (.i2l, 1) := dk_133 (dk_at dksX1_chain_0 19 rfl rfl)
theorem dX1_chain_20 : decode cX1_chain 20 = .ok (.lconst 0, 1) := dk_9 (dk_at dksX1_chain_0 20 rfl rfl)
theorem dX1_chain_21 : decode cX1_chain 21 = .ok (.lconst 1, 1) := dk_10 (dk_at dksX1_chain_0 21 rfl rfl)
theorem dX1_chain_22 : decode cX1_chain 22 = .ok (.invokestatic 97, 3) := dk_184 0 97 (dk_at dksX1_chain_1 0 rfl rfl)
theorem dX1_chain_25 : decode cX1_chain 25 = .ok (.ifCond .ne 7, 3) := dk_154 0 7 (dk_at dksX1_chain_1 3 rfl rfl)
theorem dX1_chain_28 : decode cX1_chain 28 = .ok (.ldc2_w 272, 3) := dk_20 1 16 (dk_at dksX1_chain_1 6 rfl rfl)
theorem dX1_chain_31 : decode cX1_chain 31 = .ok (.lreturn, 1) := dk_173 (dk_at dksX1_chain_1 9 rfl rfl)
theorem dX1_chain_32 : decode cX1_chain 32 = .ok (.iload_n 1, 1) := dk_27 (dk_at dksX1_chain_1 10 rfl rfl)
theorem dX1_chain_33 : decode cX1_chain 33 = .ok (.iconst 1, 1) := dk_4 (dk_at dksX1_chain_1 11 rfl rfl)
theorem dX1_chain_34 : decode cX1_chain 34 = .ok (.if_icmp .ne 80, 3) := dk_160 0 80 (dk_at dksX1_chain_1 12 rfl rfl)
theorem dX1_chain_37 : decode cX1_chain 37 = .ok (.aload_n 0, 1) := dk_42 (dk_at dksX1_chain_1 15 rfl rfl)
theorem dX1_chain_38 : decode cX1_chain 38 = .ok (.iconst 0, 1) := dk_3 (dk_at dksX1_chain_1 16 rfl rfl)
theorem dX1_chain_39 : decode cX1_chain 39 = .ok (.invokevirtual 218, 3) := dk_182 0 218 (dk_at dksX1_chain_1 17 rfl rfl)
theorem dX1_chain_42 : decode cX1_chain 42 = .ok (.getfield 242, 3) := dk_180 0 242 (dk_at dksX1_chain_1 20 rfl rfl)
theorem dX1_chain_45 : decode cX1_chain 45 = .ok (.iconst 1, 1) := dk_4 (dk_at dksX1_chain_1 23 rfl rfl)
theorem dX1_chain_46 : decode cX1_chain 46 = .ok (.aaload, 1) := dk_50 (dk_at dksX1_chain_2 0 rfl rfl)
theorem dX1_chain_47 : decode cX1_chain 47 = .ok (.astore_n 2, 1) := dk_77 (dk_at dksX1_chain_2 1 rfl rfl)
theorem dX1_chain_48 : decode cX1_chain 48 = .ok (.aload_n 0, 1) := dk_42 (dk_at dksX1_chain_2 2 rfl rfl)
theorem dX1_chain_49 : decode cX1_chain 49 = .ok (.iconst 1, 1) := dk_4 (dk_at dksX1_chain_2 3 rfl rfl)
theorem dX1_chain_50 : decode cX1_chain 50 = .ok (.invokevirtual 218, 3) := dk_182 0 218 (dk_at dksX1_chain_2 4 rfl rfl)
theorem dX1_chain_53 : decode cX1_chain 53 = .ok (.getfield 242, 3) := dk_180 0 242 (dk_at dksX1_chain_2 7 rfl rfl)
theorem dX1_chain_56 : decode cX1_chain 56 = .ok (.iconst 0, 1) := dk_3 (dk_at dksX1_chain_2 10 rfl rfl)
theorem dX1_chain_57 : decode cX1_chain 57 = .ok (.aaload, 1) := dk_50 (dk_at dksX1_chain_2 11 rfl rfl)
theorem dX1_chain_58 : decode cX1_chain 58 = .ok (.astore_n 3, 1) := dk_78 (dk_at dksX1_chain_2 12 rfl rfl)
theorem dX1_chain_59 : decode cX1_chain 59 = .ok (.aload_n 0, 1) := dk_42 (dk_at dksX1_chain_2 13 rfl rfl)
theorem dX1_chain_60 : decode cX1_chain 60 = .ok (.iconst 1, 1) := dk_4 (dk_at dksX1_chain_2 14 rfl rfl)
theorem dX1_chain_61 : decode cX1_chain 61 = .ok (.invokevirtual 218, 3) := dk_182 0 218 (dk_at dksX1_chain_2 15 rfl rfl)
theorem dX1_chain_64 : decode cX1_chain 64 = .ok (.getfield 242, 3) := dk_180 0 242 (dk_at dksX1_chain_2 18 rfl rfl)
theorem dX1_chain_67 : decode cX1_chain 67 = .ok (.iconst 1, 1) := dk_4 (dk_at dksX1_chain_2 21 rfl rfl)
theorem dX1_chain_68 : decode cX1_chain 68 = .ok (.aaload, 1) := dk_50 (dk_at dksX1_chain_2 22 rfl rfl)
theorem dX1_chain_69 : decode cX1_chain 69 = .ok (.astore 4, 2) := dk_58 4 (dk_at dksX1_chain_3 0 rfl rfl)
theorem dX1_chain_71 : decode cX1_chain 71 = .ok (.aload_n 0, 1) := dk_42 (dk_at dksX1_chain_3 2 rfl rfl)
theorem dX1_chain_72 : decode cX1_chain 72 = .ok (.iconst 2, 1) := dk_5 (dk_at dksX1_chain_3 3 rfl rfl)
theorem dX1_chain_73 : decode cX1_chain 73 = .ok (.invokevirtual 218, 3) := dk_182 0 218 (dk_at dksX1_chain_3 4 rfl rfl)
theorem dX1_chain_76 : decode cX1_chain 76 = .ok (.getfield 242, 3) := dk_180 0 242 (dk_at dksX1_chain_3 7 rfl rfl)
theorem dX1_chain_79 : decode cX1_chain 79 = .ok (.iconst 0, 1) := dk_3 (dk_at dksX1_chain_3 10 rfl rfl)
theorem dX1_chain_80 : decode cX1_chain 80 = .ok (.aaload, 1) := dk_50 (dk_at dksX1_chain_3 11 rfl rfl)
theorem dX1_chain_81 : decode cX1_chain 81 = .ok (.astore 5, 2) := dk_58 5 (dk_at dksX1_chain_3 12 rfl rfl)
theorem dX1_chain_83 : decode cX1_chain 83 = .ok (.aload_n 2, 1) := dk_44 (dk_at dksX1_chain_3 14 rfl rfl)
theorem dX1_chain_84 : decode cX1_chain 84 = .ok (.aload_n 3, 1) := dk_45 (dk_at dksX1_chain_3 15 rfl rfl)
theorem dX1_chain_85 : decode cX1_chain 85 = .ok (.iconst 1, 1) := dk_4 (dk_at dksX1_chain_3 16 rfl rfl)
theorem dX1_chain_86 : decode cX1_chain 86 = .ok (.invokestatic 427, 3) := dk_184 1 171 (dk_at dksX1_chain_3 17 rfl rfl)
theorem dX1_chain_89 : decode cX1_chain 89 = .ok (.aload 5, 2) := dk_25 5 (dk_at dksX1_chain_3 20 rfl rfl)
theorem dX1_chain_91 : decode cX1_chain 91 = .ok (.invokevirtual 435, 3) := dk_182 1 179 (dk_at dksX1_chain_4 0 rfl rfl)
theorem dX1_chain_94 : decode cX1_chain 94 = .ok (.i2l, 1) := dk_133 (dk_at dksX1_chain_4 3 rfl rfl)
theorem dX1_chain_95 : decode cX1_chain 95 = .ok (.lmul, 1) := dk_105 (dk_at dksX1_chain_4 4 rfl rfl)
theorem dX1_chain_96 : decode cX1_chain 96 = .ok (.aload 4, 2) := dk_25 4 (dk_at dksX1_chain_4 5 rfl rfl)
theorem dX1_chain_98 : decode cX1_chain 98 = .ok (.aload 5, 2) := dk_25 5 (dk_at dksX1_chain_4 7 rfl rfl)
theorem dX1_chain_100 : decode cX1_chain 100 = .ok (.iconst 1, 1) := dk_4 (dk_at dksX1_chain_4 9 rfl rfl)
theorem dX1_chain_101 : decode cX1_chain 101 = .ok (.invokestatic 427, 3) := dk_184 1 171 (dk_at dksX1_chain_4 10 rfl rfl)
theorem dX1_chain_104 : decode cX1_chain 104 = .ok (.aload_n 2, 1) := dk_44 (dk_at dksX1_chain_4 13 rfl rfl)
theorem dX1_chain_105 : decode cX1_chain 105 = .ok (.invokevirtual 435, 3) := dk_182 1 179 (dk_at dksX1_chain_4 14 rfl rfl)
theorem dX1_chain_108 : decode cX1_chain 108 = .ok (.i2l, 1) := dk_133 (dk_at dksX1_chain_4 17 rfl rfl)
theorem dX1_chain_109 : decode cX1_chain 109 = .ok (.lmul, 1) := dk_105 (dk_at dksX1_chain_4 18 rfl rfl)
theorem dX1_chain_110 : decode cX1_chain 110 = .ok (.invokestatic 413, 3) := dk_184 1 157 (dk_at dksX1_chain_4 19 rfl rfl)
theorem dX1_chain_113 : decode cX1_chain 113 = .ok (.lreturn, 1) := dk_173 (dk_at dksX1_chain_4 22 rfl rfl)
theorem dX1_chain_114 : decode cX1_chain 114 = .ok (.aload_n 0, 1) := dk_42 (dk_at dksX1_chain_4 23 rfl rfl)
theorem dX1_chain_115 : decode cX1_chain 115 = .ok (.invokevirtual 394, 3) := dk_182 1 138 (dk_at dksX1_chain_5 0 rfl rfl)
theorem dX1_chain_118 : decode cX1_chain 118 = .ok (.aload_n 0, 1) := dk_42 (dk_at dksX1_chain_5 3 rfl rfl)
theorem dX1_chain_119 : decode cX1_chain 119 = .ok (.invokevirtual 437, 3) := dk_182 1 181 (dk_at dksX1_chain_5 4 rfl rfl)
theorem dX1_chain_122 : decode cX1_chain 122 = .ok (.lreturn, 1) := dk_173 (dk_at dksX1_chain_5 7 rfl rfl)
theorem dX1_chain_123 : decode cX1_chain 123 = .ok (.astore_n 2, 1) := dk_77 (dk_at dksX1_chain_5 8 rfl rfl)
theorem dX1_chain_124 : decode cX1_chain 124 = .ok (.aload_n 0, 1) := dk_42 (dk_at dksX1_chain_5 9 rfl rfl)
theorem dX1_chain_125 : decode cX1_chain 125 = .ok (.iconst 4, 1) := dk_7 (dk_at dksX1_chain_5 10 rfl rfl)
theorem dX1_chain_126 : decode cX1_chain 126 = .ok (.invokevirtual 305, 3) := dk_182 1 49 (dk_at dksX1_chain_5 11 rfl rfl)
theorem dX1_chain_129 : decode cX1_chain 129 = .ok (.i2l, 1) := dk_133 (dk_at dksX1_chain_5 14 rfl rfl)
theorem dX1_chain_130 : decode cX1_chain 130 = .ok (.lreturn, 1) := dk_173 (dk_at dksX1_chain_5 15 rfl rfl)
abbrev cX1_truthOfChain : ByteArray := prog_1_method_54_code
def yX1_truthOfChain : MethodName := ⟨RX1, "truthOfChain", "()J"⟩
def dkwX1_truthOfChain_9 : List UInt8 := [25, 4, 182, 1, 118, 45, 191, 77, 43, 182, 1, 113, 167, 0, 9, 78, 44, 45, 182, 1, 118, 44, 191]
abbrev dktX1_truthOfChain_9 : List UInt8 := dkwX1_truthOfChain_9 ++ []
def dkwX1_truthOfChain_8 : List UInt8 := [58, 5, 25, 4, 25, 5, 182, 1, 118, 25, 4, 191, 78, 44, 182, 1, 113, 167, 0, 11, 58, 4, 45]
abbrev dktX1_truthOfChain_8 : List UInt8 := dkwX1_truthOfChain_8 ++ dktX1_truthOfChain_9
def dkwX1_truthOfChain_7 : List UInt8 := [45, 182, 1, 113, 44, 182, 1, 113, 43, 182, 1, 113, 22, 7, 173, 58, 4, 45, 182, 1, 113, 167, 0, 12]
abbrev dktX1_truthOfChain_7 : List UInt8 := dkwX1_truthOfChain_7 ++ dktX1_truthOfChain_8
def dkwX1_truthOfChain_6 : List UInt8 := [182, 0, 167, 133, 105, 97, 55, 5, 132, 8, 1, 167, 255, 161, 132, 7, 1, 167, 255, 142, 22, 5, 55, 7]
abbrev dktX1_truthOfChain_6 : List UInt8 := dkwX1_truthOfChain_6 ++ dktX1_truthOfChain_7
def dkwX1_truthOfChain_5 : List UInt8 := [182, 0, 235, 133, 43, 182, 1, 104, 4, 21, 7, 182, 0, 167, 133, 105, 45, 182, 1, 104, 3, 21, 8]
abbrev dktX1_truthOfChain_5 : List UInt8 := dkwX1_truthOfChain_5 ++ dktX1_truthOfChain_6
def dkwX1_truthOfChain_4 : List UInt8 := [162, 0, 54, 21, 8, 45, 182, 1, 104, 180, 0, 164, 162, 0, 42, 22, 5, 25, 4, 21, 7, 21, 8]
abbrev dktX1_truthOfChain_4 : List UInt8 := dkwX1_truthOfChain_4 ++ dktX1_truthOfChain_5
def dkwX1_truthOfChain_3 : List UInt8 := [21, 8, 182, 0, 235, 154, 0, 6, 167, 0, 70, 42, 182, 1, 107, 21, 7, 43, 182, 1, 104, 180, 0, 164]
abbrev dktX1_truthOfChain_3 : List UInt8 := dkwX1_truthOfChain_3 ++ dktX1_truthOfChain_4
def dkwX1_truthOfChain_2 : List UInt8 := [180, 0, 164, 162, 0, 110, 3, 54, 8, 21, 8, 25, 4, 180, 0, 164, 162, 0, 91, 25, 4, 21, 7]
abbrev dktX1_truthOfChain_2 : List UInt8 := dkwX1_truthOfChain_2 ++ dktX1_truthOfChain_3
def dkwX1_truthOfChain_1 : List UInt8 := [42, 5, 183, 1, 101, 78, 44, 182, 1, 104, 58, 4, 9, 55, 5, 3, 54, 7, 21, 7, 25, 4]
abbrev dktX1_truthOfChain_1 : List UInt8 := dkwX1_truthOfChain_1 ++ dktX1_truthOfChain_2
def dkwX1_truthOfChain_0 : List UInt8 := [187, 1, 99, 89, 42, 3, 183, 1, 101, 76, 187, 1, 99, 89, 42, 4, 183, 1, 101, 77, 187, 1, 99, 89]
abbrev dktX1_truthOfChain_0 : List UInt8 := dkwX1_truthOfChain_0 ++ dktX1_truthOfChain_1
theorem dksX1_truthOfChain_0 : cX1_truthOfChain.data.toList.drop 0 = dktX1_truthOfChain_0 := by decide +kernel
theorem dksX1_truthOfChain_1 : cX1_truthOfChain.data.toList.drop 24 = dktX1_truthOfChain_1 := dk_seg dksX1_truthOfChain_0 24 rfl rfl
theorem dksX1_truthOfChain_2 : cX1_truthOfChain.data.toList.drop 46 = dktX1_truthOfChain_2 := dk_seg dksX1_truthOfChain_1 22 rfl rfl
theorem dksX1_truthOfChain_3 : cX1_truthOfChain.data.toList.drop 69 = dktX1_truthOfChain_3 := dk_seg dksX1_truthOfChain_2 23 rfl rfl
theorem dksX1_truthOfChain_4 : cX1_truthOfChain.data.toList.drop 93 = dktX1_truthOfChain_4 := dk_seg dksX1_truthOfChain_3 24 rfl rfl
theorem dksX1_truthOfChain_5 : cX1_truthOfChain.data.toList.drop 116 = dktX1_truthOfChain_5 := dk_seg dksX1_truthOfChain_4 23 rfl rfl
theorem dksX1_truthOfChain_6 : cX1_truthOfChain.data.toList.drop 139 = dktX1_truthOfChain_6 := dk_seg dksX1_truthOfChain_5 23 rfl rfl
theorem dksX1_truthOfChain_7 : cX1_truthOfChain.data.toList.drop 163 = dktX1_truthOfChain_7 := dk_seg dksX1_truthOfChain_6 24 rfl rfl
theorem dksX1_truthOfChain_8 : cX1_truthOfChain.data.toList.drop 187 = dktX1_truthOfChain_8 := dk_seg dksX1_truthOfChain_7 24 rfl rfl
theorem dksX1_truthOfChain_9 : cX1_truthOfChain.data.toList.drop 210 = dktX1_truthOfChain_9 := dk_seg dksX1_truthOfChain_8 23 rfl rfl
theorem dX1_truthOfChain_0 : decode cX1_truthOfChain 0 = .ok (.new 355, 3) := dk_187 1 99 (dk_at dksX1_truthOfChain_0 0 rfl rfl)
theorem dX1_truthOfChain_3 : decode cX1_truthOfChain 3 = .ok (.dup, 1) := dk_89 (dk_at dksX1_truthOfChain_0 3 rfl rfl)
theorem dX1_truthOfChain_4 : decode cX1_truthOfChain 4 = .ok (.aload_n 0, 1) := dk_42 (dk_at dksX1_truthOfChain_0 4 rfl rfl)
theorem dX1_truthOfChain_5 : decode cX1_truthOfChain 5 = .ok (.iconst 0, 1) := dk_3 (dk_at dksX1_truthOfChain_0 5 rfl rfl)
theorem dX1_truthOfChain_6 : decode cX1_truthOfChain 6 = .ok (.invokespecial 357, 3) := dk_183 1 101 (dk_at dksX1_truthOfChain_0 6 rfl rfl)
theorem dX1_truthOfChain_9 : decode cX1_truthOfChain 9 = .ok (.astore_n 1, 1) := dk_76 (dk_at dksX1_truthOfChain_0 9 rfl rfl)
theorem dX1_truthOfChain_10 : decode cX1_truthOfChain 10 = .ok (.new 355, 3) := dk_187 1 99 (dk_at dksX1_truthOfChain_0 10 rfl rfl)
theorem dX1_truthOfChain_13 : decode cX1_truthOfChain 13 = .ok (.dup, 1) := dk_89 (dk_at dksX1_truthOfChain_0 13 rfl rfl)
theorem dX1_truthOfChain_14 : decode cX1_truthOfChain 14 = .ok (.aload_n 0, 1) := dk_42 (dk_at dksX1_truthOfChain_0 14 rfl rfl)
theorem dX1_truthOfChain_15 : decode cX1_truthOfChain 15 = .ok (.iconst 1, 1) := dk_4 (dk_at dksX1_truthOfChain_0 15 rfl rfl)
theorem dX1_truthOfChain_16 : decode cX1_truthOfChain 16 = .ok (.invokespecial 357, 3) := dk_183 1 101 (dk_at dksX1_truthOfChain_0 16 rfl rfl)
theorem dX1_truthOfChain_19 : decode cX1_truthOfChain 19 = .ok (.astore_n 2, 1) := dk_77 (dk_at dksX1_truthOfChain_0 19 rfl rfl)
theorem dX1_truthOfChain_20 : decode cX1_truthOfChain 20 = .ok (.new 355, 3) := dk_187 1 99 (dk_at dksX1_truthOfChain_0 20 rfl rfl)
theorem dX1_truthOfChain_23 : decode cX1_truthOfChain 23 = .ok (.dup, 1) := dk_89 (dk_at dksX1_truthOfChain_0 23 rfl rfl)
theorem dX1_truthOfChain_24 : decode cX1_truthOfChain 24 = .ok (.aload_n 0, 1) := dk_42 (dk_at dksX1_truthOfChain_1 0 rfl rfl)
theorem dX1_truthOfChain_25 : decode cX1_truthOfChain 25 = .ok (.iconst 2, 1) := dk_5 (dk_at dksX1_truthOfChain_1 1 rfl rfl)
theorem dX1_truthOfChain_26 : decode cX1_truthOfChain 26 = .ok (.invokespecial 357, 3) := dk_183 1 101 (dk_at dksX1_truthOfChain_1 2 rfl rfl)
theorem dX1_truthOfChain_29 : decode cX1_truthOfChain 29 = .ok (.astore_n 3, 1) := dk_78 (dk_at dksX1_truthOfChain_1 5 rfl rfl)
theorem dX1_truthOfChain_30 : decode cX1_truthOfChain 30 = .ok (.aload_n 2, 1) := dk_44 (dk_at dksX1_truthOfChain_1 6 rfl rfl)
theorem dX1_truthOfChain_31 : decode cX1_truthOfChain 31 = .ok (.invokevirtual 360, 3) := dk_182 1 104 (dk_at dksX1_truthOfChain_1 7 rfl rfl)
theorem dX1_truthOfChain_34 : decode cX1_truthOfChain 34 = .ok (.astore 4, 2) := dk_58 4 (dk_at dksX1_truthOfChain_1 10 rfl rfl)
theorem dX1_truthOfChain_36 : decode cX1_truthOfChain 36 = .ok (.lconst 0, 1) := dk_9 (dk_at dksX1_truthOfChain_1 12 rfl rfl)
theorem dX1_truthOfChain_37 : decode cX1_truthOfChain 37 = .ok (.lstore 5, 2) := dk_55 5 (dk_at dksX1_truthOfChain_1 13 rfl rfl)
theorem dX1_truthOfChain_39 : decode cX1_truthOfChain 39 = .ok (.iconst 0, 1) := dk_3 (dk_at dksX1_truthOfChain_1 15 rfl rfl)
theorem dX1_truthOfChain_40 : decode cX1_truthOfChain 40 = .ok (.istore 7, 2) := dk_54 7 (dk_at dksX1_truthOfChain_1 16 rfl rfl)
theorem dX1_truthOfChain_42 : decode cX1_truthOfChain 42 = .ok (.iload 7, 2) := dk_21 7 (dk_at dksX1_truthOfChain_1 18 rfl rfl)
theorem dX1_truthOfChain_44 : decode cX1_truthOfChain 44 = .ok (.aload 4, 2) := dk_25 4 (dk_at dksX1_truthOfChain_1 20 rfl rfl)
theorem dX1_truthOfChain_46 : decode cX1_truthOfChain 46 = .ok (.getfield 164, 3) := dk_180 0 164 (dk_at dksX1_truthOfChain_2 0 rfl rfl)
theorem dX1_truthOfChain_49 : decode cX1_truthOfChain 49 = .ok (.if_icmp .ge 110, 3) := dk_162 0 110 (dk_at dksX1_truthOfChain_2 3 rfl rfl)
theorem dX1_truthOfChain_52 : decode cX1_truthOfChain 52 = .ok (.iconst 0, 1) := dk_3 (dk_at dksX1_truthOfChain_2 6 rfl rfl)
theorem dX1_truthOfChain_53 : decode cX1_truthOfChain 53 = .ok (.istore 8, 2) := dk_54 8 (dk_at dksX1_truthOfChain_2 7 rfl rfl)
theorem dX1_truthOfChain_55 : decode cX1_truthOfChain 55 = .ok (.iload 8, 2) := dk_21 8 (dk_at dksX1_truthOfChain_2 9 rfl rfl)
theorem dX1_truthOfChain_57 : decode cX1_truthOfChain 57 = .ok (.aload 4, 2) := dk_25 4 (dk_at dksX1_truthOfChain_2 11 rfl rfl)
theorem dX1_truthOfChain_59 : decode cX1_truthOfChain 59 = .ok (.getfield 164, 3) := dk_180 0 164 (dk_at dksX1_truthOfChain_2 13 rfl rfl)
theorem dX1_truthOfChain_62 : decode cX1_truthOfChain 62 = .ok (.if_icmp .ge 91, 3) := dk_162 0 91 (dk_at dksX1_truthOfChain_2 16 rfl rfl)
theorem dX1_truthOfChain_65 : decode cX1_truthOfChain 65 = .ok (.aload 4, 2) := dk_25 4 (dk_at dksX1_truthOfChain_2 19 rfl rfl)
theorem dX1_truthOfChain_67 : decode cX1_truthOfChain 67 = .ok (.iload 7, 2) := dk_21 7 (dk_at dksX1_truthOfChain_2 21 rfl rfl)
theorem dX1_truthOfChain_69 : decode cX1_truthOfChain 69 = .ok (.iload 8, 2) := dk_21 8 (dk_at dksX1_truthOfChain_3 0 rfl rfl)
theorem dX1_truthOfChain_71 : decode cX1_truthOfChain 71 = .ok (.invokevirtual 235, 3) := dk_182 0 235 (dk_at dksX1_truthOfChain_3 2 rfl rfl)
theorem dX1_truthOfChain_74 : decode cX1_truthOfChain 74 = .ok (.ifCond .ne 6, 3) := dk_154 0 6 (dk_at dksX1_truthOfChain_3 5 rfl rfl)
theorem dX1_truthOfChain_77 : decode cX1_truthOfChain 77 = .ok (.goto 70, 3) := dk_167 0 70 (dk_at dksX1_truthOfChain_3 8 rfl rfl)
theorem dX1_truthOfChain_80 : decode cX1_truthOfChain 80 = .ok (.aload_n 0, 1) := dk_42 (dk_at dksX1_truthOfChain_3 11 rfl rfl)
theorem dX1_truthOfChain_81 : decode cX1_truthOfChain 81 = .ok (.invokevirtual 363, 3) := dk_182 1 107 (dk_at dksX1_truthOfChain_3 12 rfl rfl)
theorem dX1_truthOfChain_84 : decode cX1_truthOfChain 84 = .ok (.iload 7, 2) := dk_21 7 (dk_at dksX1_truthOfChain_3 15 rfl rfl)
theorem dX1_truthOfChain_86 : decode cX1_truthOfChain 86 = .ok (.aload_n 1, 1) := dk_43 (dk_at dksX1_truthOfChain_3 17 rfl rfl)
theorem dX1_truthOfChain_87 : decode cX1_truthOfChain 87 = .ok (.invokevirtual 360, 3) := dk_182 1 104 (dk_at dksX1_truthOfChain_3 18 rfl rfl)
theorem dX1_truthOfChain_90 : decode cX1_truthOfChain 90 = .ok (.getfield 164, 3) := dk_180 0 164 (dk_at dksX1_truthOfChain_3 21 rfl rfl)
theorem dX1_truthOfChain_93 : decode cX1_truthOfChain 93 = .ok (.if_icmp .ge 54, 3) := dk_162 0 54 (dk_at dksX1_truthOfChain_4 0 rfl rfl)
theorem dX1_truthOfChain_96 : decode cX1_truthOfChain 96 = .ok (.iload 8, 2) := dk_21 8 (dk_at dksX1_truthOfChain_4 3 rfl rfl)
theorem dX1_truthOfChain_98 : decode cX1_truthOfChain 98 = .ok (.aload_n 3, 1) := dk_45 (dk_at dksX1_truthOfChain_4 5 rfl rfl)
theorem dX1_truthOfChain_99 : decode cX1_truthOfChain 99 = .ok (.invokevirtual 360, 3) := dk_182 1 104 (dk_at dksX1_truthOfChain_4 6 rfl rfl)
theorem dX1_truthOfChain_102 : decode cX1_truthOfChain 102 = .ok (.getfield 164, 3) := dk_180 0 164 (dk_at dksX1_truthOfChain_4 9 rfl rfl)
theorem dX1_truthOfChain_105 : decode cX1_truthOfChain 105 = .ok (.if_icmp .ge 42, 3) := dk_162 0 42 (dk_at dksX1_truthOfChain_4 12 rfl rfl)
theorem dX1_truthOfChain_108 : decode cX1_truthOfChain 108 = .ok (.lload 5, 2) := dk_22 5 (dk_at dksX1_truthOfChain_4 15 rfl rfl)
theorem dX1_truthOfChain_110 : decode cX1_truthOfChain 110 = .ok (.aload 4, 2) := dk_25 4 (dk_at dksX1_truthOfChain_4 17 rfl rfl)
theorem dX1_truthOfChain_112 : decode cX1_truthOfChain 112 = .ok (.iload 7, 2) := dk_21 7 (dk_at dksX1_truthOfChain_4 19 rfl rfl)
theorem dX1_truthOfChain_114 : decode cX1_truthOfChain 114 = .ok (.iload 8, 2) := dk_21 8 (dk_at dksX1_truthOfChain_4 21 rfl rfl)
theorem dX1_truthOfChain_116 : decode cX1_truthOfChain 116 = .ok (.invokevirtual 235, 3) := dk_182 0 235 (dk_at dksX1_truthOfChain_5 0 rfl rfl)
theorem dX1_truthOfChain_119 : decode cX1_truthOfChain 119 = .ok (.i2l, 1) := dk_133 (dk_at dksX1_truthOfChain_5 3 rfl rfl)
theorem dX1_truthOfChain_120 : decode cX1_truthOfChain 120 = .ok (.aload_n 1, 1) := dk_43 (dk_at dksX1_truthOfChain_5 4 rfl rfl)
theorem dX1_truthOfChain_121 : decode cX1_truthOfChain 121 = .ok (.invokevirtual 360, 3) := dk_182 1 104 (dk_at dksX1_truthOfChain_5 5 rfl rfl)
theorem dX1_truthOfChain_124 : decode cX1_truthOfChain 124 = .ok (.iconst 1, 1) := dk_4 (dk_at dksX1_truthOfChain_5 8 rfl rfl)
theorem dX1_truthOfChain_125 : decode cX1_truthOfChain 125 = .ok (.iload 7, 2) := dk_21 7 (dk_at dksX1_truthOfChain_5 9 rfl rfl)
theorem dX1_truthOfChain_127 : decode cX1_truthOfChain 127 = .ok (.invokevirtual 167, 3) := dk_182 0 167 (dk_at dksX1_truthOfChain_5 11 rfl rfl)
theorem dX1_truthOfChain_130 : decode cX1_truthOfChain 130 = .ok (.i2l, 1) := dk_133 (dk_at dksX1_truthOfChain_5 14 rfl rfl)
theorem dX1_truthOfChain_131 : decode cX1_truthOfChain 131 = .ok (.lmul, 1) := dk_105 (dk_at dksX1_truthOfChain_5 15 rfl rfl)
theorem dX1_truthOfChain_132 : decode cX1_truthOfChain 132 = .ok (.aload_n 3, 1) := dk_45 (dk_at dksX1_truthOfChain_5 16 rfl rfl)
theorem dX1_truthOfChain_133 : decode cX1_truthOfChain 133 = .ok (.invokevirtual 360, 3) := dk_182 1 104 (dk_at dksX1_truthOfChain_5 17 rfl rfl)
theorem dX1_truthOfChain_136 : decode cX1_truthOfChain 136 = .ok (.iconst 0, 1) := dk_3 (dk_at dksX1_truthOfChain_5 20 rfl rfl)
theorem dX1_truthOfChain_137 : decode cX1_truthOfChain 137 = .ok (.iload 8, 2) := dk_21 8 (dk_at dksX1_truthOfChain_5 21 rfl rfl)
theorem dX1_truthOfChain_139 : decode cX1_truthOfChain 139 = .ok (.invokevirtual 167, 3) := dk_182 0 167 (dk_at dksX1_truthOfChain_6 0 rfl rfl)
theorem dX1_truthOfChain_142 : decode cX1_truthOfChain 142 = .ok (.i2l, 1) := dk_133 (dk_at dksX1_truthOfChain_6 3 rfl rfl)
theorem dX1_truthOfChain_143 : decode cX1_truthOfChain 143 = .ok (.lmul, 1) := dk_105 (dk_at dksX1_truthOfChain_6 4 rfl rfl)
theorem dX1_truthOfChain_144 : decode cX1_truthOfChain 144 = .ok (.ladd, 1) := dk_97 (dk_at dksX1_truthOfChain_6 5 rfl rfl)
theorem dX1_truthOfChain_145 : decode cX1_truthOfChain 145 = .ok (.lstore 5, 2) := dk_55 5 (dk_at dksX1_truthOfChain_6 6 rfl rfl)
theorem dX1_truthOfChain_147 : decode cX1_truthOfChain 147 = .ok (.iinc 8 1, 3) := dk_132 8 1 (dk_at dksX1_truthOfChain_6 8 rfl rfl)
theorem dX1_truthOfChain_150 : decode cX1_truthOfChain 150 = .ok (.goto (-95), 3) := dk_167 255 161 (dk_at dksX1_truthOfChain_6 11 rfl rfl)
theorem dX1_truthOfChain_153 : decode cX1_truthOfChain 153 = .ok (.iinc 7 1, 3) := dk_132 7 1 (dk_at dksX1_truthOfChain_6 14 rfl rfl)
theorem dX1_truthOfChain_156 : decode cX1_truthOfChain 156 = .ok (.goto (-114), 3) := dk_167 255 142 (dk_at dksX1_truthOfChain_6 17 rfl rfl)
theorem dX1_truthOfChain_159 : decode cX1_truthOfChain 159 = .ok (.lload 5, 2) := dk_22 5 (dk_at dksX1_truthOfChain_6 20 rfl rfl)
theorem dX1_truthOfChain_161 : decode cX1_truthOfChain 161 = .ok (.lstore 7, 2) := dk_55 7 (dk_at dksX1_truthOfChain_6 22 rfl rfl)
theorem dX1_truthOfChain_163 : decode cX1_truthOfChain 163 = .ok (.aload_n 3, 1) := dk_45 (dk_at dksX1_truthOfChain_7 0 rfl rfl)
theorem dX1_truthOfChain_164 : decode cX1_truthOfChain 164 = .ok (.invokevirtual 369, 3) := dk_182 1 113 (dk_at dksX1_truthOfChain_7 1 rfl rfl)
theorem dX1_truthOfChain_167 : decode cX1_truthOfChain 167 = .ok (.aload_n 2, 1) := dk_44 (dk_at dksX1_truthOfChain_7 4 rfl rfl)
theorem dX1_truthOfChain_168 : decode cX1_truthOfChain 168 = .ok (.invokevirtual 369, 3) := dk_182 1 113 (dk_at dksX1_truthOfChain_7 5 rfl rfl)
theorem dX1_truthOfChain_171 : decode cX1_truthOfChain 171 = .ok (.aload_n 1, 1) := dk_43 (dk_at dksX1_truthOfChain_7 8 rfl rfl)
theorem dX1_truthOfChain_172 : decode cX1_truthOfChain 172 = .ok (.invokevirtual 369, 3) := dk_182 1 113 (dk_at dksX1_truthOfChain_7 9 rfl rfl)
theorem dX1_truthOfChain_175 : decode cX1_truthOfChain 175 = .ok (.lload 7, 2) := dk_22 7 (dk_at dksX1_truthOfChain_7 12 rfl rfl)
theorem dX1_truthOfChain_177 : decode cX1_truthOfChain 177 = .ok (.lreturn, 1) := dk_173 (dk_at dksX1_truthOfChain_7 14 rfl rfl)
theorem dX1_truthOfChain_178 : decode cX1_truthOfChain 178 = .ok (.astore 4, 2) := dk_58 4 (dk_at dksX1_truthOfChain_7 15 rfl rfl)
theorem dX1_truthOfChain_180 : decode cX1_truthOfChain 180 = .ok (.aload_n 3, 1) := dk_45 (dk_at dksX1_truthOfChain_7 17 rfl rfl)
theorem dX1_truthOfChain_181 : decode cX1_truthOfChain 181 = .ok (.invokevirtual 369, 3) := dk_182 1 113 (dk_at dksX1_truthOfChain_7 18 rfl rfl)
theorem dX1_truthOfChain_184 : decode cX1_truthOfChain 184 = .ok (.goto 12, 3) := dk_167 0 12 (dk_at dksX1_truthOfChain_7 21 rfl rfl)
theorem dX1_truthOfChain_187 : decode cX1_truthOfChain 187 = .ok (.astore 5, 2) := dk_58 5 (dk_at dksX1_truthOfChain_8 0 rfl rfl)
theorem dX1_truthOfChain_189 : decode cX1_truthOfChain 189 = .ok (.aload 4, 2) := dk_25 4 (dk_at dksX1_truthOfChain_8 2 rfl rfl)
theorem dX1_truthOfChain_191 : decode cX1_truthOfChain 191 = .ok (.aload 5, 2) := dk_25 5 (dk_at dksX1_truthOfChain_8 4 rfl rfl)
theorem dX1_truthOfChain_193 : decode cX1_truthOfChain 193 = .ok (.invokevirtual 374, 3) := dk_182 1 118 (dk_at dksX1_truthOfChain_8 6 rfl rfl)
theorem dX1_truthOfChain_196 : decode cX1_truthOfChain 196 = .ok (.aload 4, 2) := dk_25 4 (dk_at dksX1_truthOfChain_8 9 rfl rfl)
theorem dX1_truthOfChain_198 : decode cX1_truthOfChain 198 = .ok (.athrow, 1) := dk_191 (dk_at dksX1_truthOfChain_8 11 rfl rfl)
theorem dX1_truthOfChain_199 : decode cX1_truthOfChain 199 = .ok (.astore_n 3, 1) := dk_78 (dk_at dksX1_truthOfChain_8 12 rfl rfl)
theorem dX1_truthOfChain_200 : decode cX1_truthOfChain 200 = .ok (.aload_n 2, 1) := dk_44 (dk_at dksX1_truthOfChain_8 13 rfl rfl)
theorem dX1_truthOfChain_201 : decode cX1_truthOfChain 201 = .ok (.invokevirtual 369, 3) := dk_182 1 113 (dk_at dksX1_truthOfChain_8 14 rfl rfl)
theorem dX1_truthOfChain_204 : decode cX1_truthOfChain 204 = .ok (.goto 11, 3) := dk_167 0 11 (dk_at dksX1_truthOfChain_8 17 rfl rfl)
theorem dX1_truthOfChain_207 : decode cX1_truthOfChain 207 = .ok (.astore 4, 2) := dk_58 4 (dk_at dksX1_truthOfChain_8 20 rfl rfl)
theorem dX1_truthOfChain_209 : decode cX1_truthOfChain 209 = .ok (.aload_n 3, 1) := dk_45 (dk_at dksX1_truthOfChain_8 22 rfl rfl)
theorem dX1_truthOfChain_210 : decode cX1_truthOfChain 210 = .ok (.aload 4, 2) := dk_25 4 (dk_at dksX1_truthOfChain_9 0 rfl rfl)
theorem dX1_truthOfChain_212 : decode cX1_truthOfChain 212 = .ok (.invokevirtual 374, 3) := dk_182 1 118 (dk_at dksX1_truthOfChain_9 2 rfl rfl)
theorem dX1_truthOfChain_215 : decode cX1_truthOfChain 215 = .ok (.aload_n 3, 1) := dk_45 (dk_at dksX1_truthOfChain_9 5 rfl rfl)
theorem dX1_truthOfChain_216 : decode cX1_truthOfChain 216 = .ok (.athrow, 1) := dk_191 (dk_at dksX1_truthOfChain_9 6 rfl rfl)
theorem dX1_truthOfChain_217 : decode cX1_truthOfChain 217 = .ok (.astore_n 2, 1) := dk_77 (dk_at dksX1_truthOfChain_9 7 rfl rfl)
theorem dX1_truthOfChain_218 : decode cX1_truthOfChain 218 = .ok (.aload_n 1, 1) := dk_43 (dk_at dksX1_truthOfChain_9 8 rfl rfl)
theorem dX1_truthOfChain_219 : decode cX1_truthOfChain 219 = .ok (.invokevirtual 369, 3) := dk_182 1 113 (dk_at dksX1_truthOfChain_9 9 rfl rfl)
theorem dX1_truthOfChain_222 : decode cX1_truthOfChain 222 = .ok (.goto 9, 3) := dk_167 0 9 (dk_at dksX1_truthOfChain_9 12 rfl rfl)
theorem dX1_truthOfChain_225 : decode cX1_truthOfChain 225 = .ok (.astore_n 3, 1) := dk_78 (dk_at dksX1_truthOfChain_9 15 rfl rfl)
theorem dX1_truthOfChain_226 : decode cX1_truthOfChain 226 = .ok (.aload_n 2, 1) := dk_44 (dk_at dksX1_truthOfChain_9 16 rfl rfl)
theorem dX1_truthOfChain_227 : decode cX1_truthOfChain 227 = .ok (.aload_n 3, 1) := dk_45 (dk_at dksX1_truthOfChain_9 17 rfl rfl)
theorem dX1_truthOfChain_228 : decode cX1_truthOfChain 228 = .ok (.invokevirtual 374, 3) := dk_182 1 118 (dk_at dksX1_truthOfChain_9 18 rfl rfl)
theorem dX1_truthOfChain_231 : decode cX1_truthOfChain 231 = .ok (.aload_n 2, 1) := dk_44 (dk_at dksX1_truthOfChain_9 21 rfl rfl)
theorem dX1_truthOfChain_232 : decode cX1_truthOfChain 232 = .ok (.athrow, 1) := dk_191 (dk_at dksX1_truthOfChain_9 22 rfl rfl)
abbrev cX1_trace : ByteArray := prog_1_method_62_code
def yX1_trace : MethodName := ⟨RX1, "trace", "(I)I"⟩
def dkwX1_trace_1 : List UInt8 := [167, 0, 4, 2, 172]
abbrev dktX1_trace_1 : List UInt8 := dkwX1_trace_1 ++ []
def dkwX1_trace_0 : List UInt8 := [27, 133, 9, 42, 180, 1, 93, 4, 100, 133, 184, 0, 97, 153, 0, 12, 42, 180, 0, 84, 27, 46]
abbrev dktX1_trace_0 : List UInt8 := dkwX1_trace_0 ++ dktX1_trace_1
theorem dksX1_trace_0 : cX1_trace.data.toList.drop 0 = dktX1_trace_0 := by decide +kernel
theorem dksX1_trace_1 : cX1_trace.data.toList.drop 22 = dktX1_trace_1 := dk_seg dksX1_trace_0 22 rfl rfl
theorem dX1_trace_0 : decode cX1_trace 0 = .ok (.iload_n 1, 1) := dk_27 (dk_at dksX1_trace_0 0 rfl rfl)
theorem dX1_trace_1 : decode cX1_trace 1 = .ok (.i2l, 1) := dk_133 (dk_at dksX1_trace_0 1 rfl rfl)
theorem dX1_trace_2 : decode cX1_trace 2 = .ok (.lconst 0, 1) := dk_9 (dk_at dksX1_trace_0 2 rfl rfl)
theorem dX1_trace_3 : decode cX1_trace 3 = .ok (.aload_n 0, 1) := dk_42 (dk_at dksX1_trace_0 3 rfl rfl)
theorem dX1_trace_4 : decode cX1_trace 4 = .ok (.getfield 349, 3) := dk_180 1 93 (dk_at dksX1_trace_0 4 rfl rfl)
theorem dX1_trace_7 : decode cX1_trace 7 = .ok (.iconst 1, 1) := dk_4 (dk_at dksX1_trace_0 7 rfl rfl)
theorem dX1_trace_8 : decode cX1_trace 8 = .ok (.isub, 1) := dk_100 (dk_at dksX1_trace_0 8 rfl rfl)
theorem dX1_trace_9 : decode cX1_trace 9 = .ok (.i2l, 1) := dk_133 (dk_at dksX1_trace_0 9 rfl rfl)
theorem dX1_trace_10 : decode cX1_trace 10 = .ok (.invokestatic 97, 3) := dk_184 0 97 (dk_at dksX1_trace_0 10 rfl rfl)
theorem dX1_trace_13 : decode cX1_trace 13 = .ok (.ifCond .eq 12, 3) := dk_153 0 12 (dk_at dksX1_trace_0 13 rfl rfl)
theorem dX1_trace_16 : decode cX1_trace 16 = .ok (.aload_n 0, 1) := dk_42 (dk_at dksX1_trace_0 16 rfl rfl)
theorem dX1_trace_17 : decode cX1_trace 17 = .ok (.getfield 84, 3) := dk_180 0 84 (dk_at dksX1_trace_0 17 rfl rfl)
theorem dX1_trace_20 : decode cX1_trace 20 = .ok (.iload_n 1, 1) := dk_27 (dk_at dksX1_trace_0 20 rfl rfl)
theorem dX1_trace_21 : decode cX1_trace 21 = .ok (.iaload, 1) := dk_46 (dk_at dksX1_trace_0 21 rfl rfl)
theorem dX1_trace_22 : decode cX1_trace 22 = .ok (.goto 4, 3) := dk_167 0 4 (dk_at dksX1_trace_1 0 rfl rfl)
theorem dX1_trace_25 : decode cX1_trace 25 = .ok (.iconst (-1), 1) := dk_2 (dk_at dksX1_trace_1 3 rfl rfl)
theorem dX1_trace_26 : decode cX1_trace 26 = .ok (.ireturn, 1) := dk_172 (dk_at dksX1_trace_1 4 rfl rfl)
abbrev cX1_narrow : ByteArray := prog_1_method_64_code
def yX1_narrow : MethodName := ⟨RX1, "narrow", "(III)I"⟩
def dkwX1_narrow_5 : List UInt8 := [132, 7, 1, 167, 255, 193, 29, 154, 0, 8, 21, 5, 167, 0, 8, 21, 4, 21, 6, 100, 172]
abbrev dktX1_narrow_5 : List UInt8 := dkwX1_narrow_5 ++ []
def dkwX1_narrow_4 : List UInt8 := [184, 1, 187, 54, 8, 21, 8, 21, 6, 161, 0, 6, 167, 0, 11, 21, 7, 54, 5, 21, 8, 54, 6]
abbrev dktX1_narrow_4 : List UInt8 := dkwX1_narrow_4 ++ dktX1_narrow_5
def dkwX1_narrow_3 : List UInt8 := [182, 1, 191, 42, 180, 0, 69, 21, 7, 182, 1, 55, 42, 180, 0, 27, 28, 50, 42, 180, 0, 69]
abbrev dktX1_narrow_3 : List UInt8 := dkwX1_narrow_3 ++ dktX1_narrow_4
def dkwX1_narrow_2 : List UInt8 := [54, 5, 21, 4, 54, 6, 3, 54, 7, 21, 7, 5, 162, 0, 63, 42, 180, 0, 69, 42, 27, 182, 0, 218]
abbrev dktX1_narrow_2 : List UInt8 := dkwX1_narrow_2 ++ dktX1_narrow_3
def dkwX1_narrow_1 : List UInt8 := [154, 0, 6, 18, 146, 172, 42, 180, 0, 27, 28, 50, 42, 27, 182, 0, 218, 184, 1, 187, 54, 4, 2]
abbrev dktX1_narrow_1 : List UInt8 := dkwX1_narrow_1 ++ dktX1_narrow_2
def dkwX1_narrow_0 : List UInt8 := [42, 27, 182, 0, 194, 153, 0, 21, 42, 28, 182, 1, 125, 153, 0, 13, 29, 133, 9, 10, 184, 0, 97]
abbrev dktX1_narrow_0 : List UInt8 := dkwX1_narrow_0 ++ dktX1_narrow_1
theorem dksX1_narrow_0 : cX1_narrow.data.toList.drop 0 = dktX1_narrow_0 := by decide +kernel
theorem dksX1_narrow_1 : cX1_narrow.data.toList.drop 23 = dktX1_narrow_1 := dk_seg dksX1_narrow_0 23 rfl rfl
theorem dksX1_narrow_2 : cX1_narrow.data.toList.drop 46 = dktX1_narrow_2 := dk_seg dksX1_narrow_1 23 rfl rfl
theorem dksX1_narrow_3 : cX1_narrow.data.toList.drop 70 = dktX1_narrow_3 := dk_seg dksX1_narrow_2 24 rfl rfl
theorem dksX1_narrow_4 : cX1_narrow.data.toList.drop 92 = dktX1_narrow_4 := dk_seg dksX1_narrow_3 22 rfl rfl
theorem dksX1_narrow_5 : cX1_narrow.data.toList.drop 115 = dktX1_narrow_5 := dk_seg dksX1_narrow_4 23 rfl rfl
theorem dX1_narrow_0 : decode cX1_narrow 0 = .ok (.aload_n 0, 1) := dk_42 (dk_at dksX1_narrow_0 0 rfl rfl)
theorem dX1_narrow_1 : decode cX1_narrow 1 = .ok (.iload_n 1, 1) := dk_27 (dk_at dksX1_narrow_0 1 rfl rfl)
theorem dX1_narrow_2 : decode cX1_narrow 2 = .ok (.invokevirtual 194, 3) := dk_182 0 194 (dk_at dksX1_narrow_0 2 rfl rfl)
theorem dX1_narrow_5 : decode cX1_narrow 5 = .ok (.ifCond .eq 21, 3) := dk_153 0 21 (dk_at dksX1_narrow_0 5 rfl rfl)
theorem dX1_narrow_8 : decode cX1_narrow 8 = .ok (.aload_n 0, 1) := dk_42 (dk_at dksX1_narrow_0 8 rfl rfl)
theorem dX1_narrow_9 : decode cX1_narrow 9 = .ok (.iload_n 2, 1) := dk_28 (dk_at dksX1_narrow_0 9 rfl rfl)
theorem dX1_narrow_10 : decode cX1_narrow 10 = .ok (.invokevirtual 381, 3) := dk_182 1 125 (dk_at dksX1_narrow_0 10 rfl rfl)
theorem dX1_narrow_13 : decode cX1_narrow 13 = .ok (.ifCond .eq 13, 3) := dk_153 0 13 (dk_at dksX1_narrow_0 13 rfl rfl)
theorem dX1_narrow_16 : decode cX1_narrow 16 = .ok (.iload_n 3, 1) := dk_29 (dk_at dksX1_narrow_0 16 rfl rfl)
theorem dX1_narrow_17 : decode cX1_narrow 17 = .ok (.i2l, 1) := dk_133 (dk_at dksX1_narrow_0 17 rfl rfl)
theorem dX1_narrow_18 : decode cX1_narrow 18 = .ok (.lconst 0, 1) := dk_9 (dk_at dksX1_narrow_0 18 rfl rfl)
theorem dX1_narrow_19 : decode cX1_narrow 19 = .ok (.lconst 1, 1) := dk_10 (dk_at dksX1_narrow_0 19 rfl rfl)
theorem dX1_narrow_20 : decode cX1_narrow 20 = .ok (.invokestatic 97, 3) := dk_184 0 97 (dk_at dksX1_narrow_0 20 rfl rfl)
theorem dX1_narrow_23 : decode cX1_narrow 23 = .ok (.ifCond .ne 6, 3) := dk_154 0 6 (dk_at dksX1_narrow_1 0 rfl rfl)
theorem dX1_narrow_26 : decode cX1_narrow 26 = .ok (.ldc 146, 2) := dk_18 146 (dk_at dksX1_narrow_1 3 rfl rfl)
theorem dX1_narrow_28 : decode cX1_narrow 28 = .ok (.ireturn, 1) := dk_172 (dk_at dksX1_narrow_1 5 rfl rfl)
theorem dX1_narrow_29 : decode cX1_narrow 29 = .ok (.aload_n 0, 1) := dk_42 (dk_at dksX1_narrow_1 6 rfl rfl)
theorem dX1_narrow_30 : decode cX1_narrow 30 = .ok (.getfield 27, 3) := dk_180 0 27 (dk_at dksX1_narrow_1 7 rfl rfl)
theorem dX1_narrow_33 : decode cX1_narrow 33 = .ok (.iload_n 2, 1) := dk_28 (dk_at dksX1_narrow_1 10 rfl rfl)
theorem dX1_narrow_34 : decode cX1_narrow 34 = .ok (.aaload, 1) := dk_50 (dk_at dksX1_narrow_1 11 rfl rfl)
theorem dX1_narrow_35 : decode cX1_narrow 35 = .ok (.aload_n 0, 1) := dk_42 (dk_at dksX1_narrow_1 12 rfl rfl)
theorem dX1_narrow_36 : decode cX1_narrow 36 = .ok (.iload_n 1, 1) := dk_27 (dk_at dksX1_narrow_1 13 rfl rfl)
theorem dX1_narrow_37 : decode cX1_narrow 37 = .ok (.invokevirtual 218, 3) := dk_182 0 218 (dk_at dksX1_narrow_1 14 rfl rfl)
theorem dX1_narrow_40 : decode cX1_narrow 40 = .ok (.invokestatic 443, 3) := dk_184 1 187 (dk_at dksX1_narrow_1 17 rfl rfl)
theorem dX1_narrow_43 : decode cX1_narrow 43 = .ok (.istore 4, 2) := dk_54 4 (dk_at dksX1_narrow_1 20 rfl rfl)
theorem dX1_narrow_45 : decode cX1_narrow 45 = .ok (.iconst (-1), 1) := dk_2 (dk_at dksX1_narrow_1 22 rfl rfl)
theorem dX1_narrow_46 : decode cX1_narrow 46 = .ok (.istore 5, 2) := dk_54 5 (dk_at dksX1_narrow_2 0 rfl rfl)
theorem dX1_narrow_48 : decode cX1_narrow 48 = .ok (.iload 4, 2) := dk_21 4 (dk_at dksX1_narrow_2 2 rfl rfl)
theorem dX1_narrow_50 : decode cX1_narrow 50 = .ok (.istore 6, 2) := dk_54 6 (dk_at dksX1_narrow_2 4 rfl rfl)
theorem dX1_narrow_52 : decode cX1_narrow 52 = .ok (.iconst 0, 1) := dk_3 (dk_at dksX1_narrow_2 6 rfl rfl)
theorem dX1_narrow_53 : decode cX1_narrow 53 = .ok (.istore 7, 2) := dk_54 7 (dk_at dksX1_narrow_2 7 rfl rfl)
theorem dX1_narrow_55 : decode cX1_narrow 55 = .ok (.iload 7, 2) := dk_21 7 (dk_at dksX1_narrow_2 9 rfl rfl)
theorem dX1_narrow_57 : decode cX1_narrow 57 = .ok (.iconst 2, 1) := dk_5 (dk_at dksX1_narrow_2 11 rfl rfl)
theorem dX1_narrow_58 : decode cX1_narrow 58 = .ok (.if_icmp .ge 63, 3) := dk_162 0 63 (dk_at dksX1_narrow_2 12 rfl rfl)
theorem dX1_narrow_61 : decode cX1_narrow 61 = .ok (.aload_n 0, 1) := dk_42 (dk_at dksX1_narrow_2 15 rfl rfl)
theorem dX1_narrow_62 : decode cX1_narrow 62 = .ok (.getfield 69, 3) := dk_180 0 69 (dk_at dksX1_narrow_2 16 rfl rfl)
theorem dX1_narrow_65 : decode cX1_narrow 65 = .ok (.aload_n 0, 1) := dk_42 (dk_at dksX1_narrow_2 19 rfl rfl)
theorem dX1_narrow_66 : decode cX1_narrow 66 = .ok (.iload_n 1, 1) := dk_27 (dk_at dksX1_narrow_2 20 rfl rfl)
theorem dX1_narrow_67 : decode cX1_narrow 67 = .ok (.invokevirtual 218, 3) := dk_182 0 218 (dk_at dksX1_narrow_2 21 rfl rfl)
theorem dX1_narrow_70 : decode cX1_narrow 70 = .ok (.invokevirtual 447, 3) := dk_182 1 191 (dk_at dksX1_narrow_3 0 rfl rfl)
theorem dX1_narrow_73 : decode cX1_narrow 73 = .ok (.aload_n 0, 1) := dk_42 (dk_at dksX1_narrow_3 3 rfl rfl)
theorem dX1_narrow_74 : decode cX1_narrow 74 = .ok (.getfield 69, 3) := dk_180 0 69 (dk_at dksX1_narrow_3 4 rfl rfl)
theorem dX1_narrow_77 : decode cX1_narrow 77 = .ok (.iload 7, 2) := dk_21 7 (dk_at dksX1_narrow_3 7 rfl rfl)
theorem dX1_narrow_79 : decode cX1_narrow 79 = .ok (.invokevirtual 311, 3) := dk_182 1 55 (dk_at dksX1_narrow_3 9 rfl rfl)
theorem dX1_narrow_82 : decode cX1_narrow 82 = .ok (.aload_n 0, 1) := dk_42 (dk_at dksX1_narrow_3 12 rfl rfl)
theorem dX1_narrow_83 : decode cX1_narrow 83 = .ok (.getfield 27, 3) := dk_180 0 27 (dk_at dksX1_narrow_3 13 rfl rfl)
theorem dX1_narrow_86 : decode cX1_narrow 86 = .ok (.iload_n 2, 1) := dk_28 (dk_at dksX1_narrow_3 16 rfl rfl)
theorem dX1_narrow_87 : decode cX1_narrow 87 = .ok (.aaload, 1) := dk_50 (dk_at dksX1_narrow_3 17 rfl rfl)
theorem dX1_narrow_88 : decode cX1_narrow 88 = .ok (.aload_n 0, 1) := dk_42 (dk_at dksX1_narrow_3 18 rfl rfl)
theorem dX1_narrow_89 : decode cX1_narrow 89 = .ok (.getfield 69, 3) := dk_180 0 69 (dk_at dksX1_narrow_3 19 rfl rfl)
theorem dX1_narrow_92 : decode cX1_narrow 92 = .ok (.invokestatic 443, 3) := dk_184 1 187 (dk_at dksX1_narrow_4 0 rfl rfl)
theorem dX1_narrow_95 : decode cX1_narrow 95 = .ok (.istore 8, 2) := dk_54 8 (dk_at dksX1_narrow_4 3 rfl rfl)
theorem dX1_narrow_97 : decode cX1_narrow 97 = .ok (.iload 8, 2) := dk_21 8 (dk_at dksX1_narrow_4 5 rfl rfl)
theorem dX1_narrow_99 : decode cX1_narrow 99 = .ok (.iload 6, 2) := dk_21 6 (dk_at dksX1_narrow_4 7 rfl rfl)
theorem dX1_narrow_101 : decode cX1_narrow 101 = .ok (.if_icmp .lt 6, 3) := dk_161 0 6 (dk_at dksX1_narrow_4 9 rfl rfl)
theorem dX1_narrow_104 : decode cX1_narrow 104 = .ok (.goto 11, 3) := dk_167 0 11 (dk_at dksX1_narrow_4 12 rfl rfl)
theorem dX1_narrow_107 : decode cX1_narrow 107 = .ok (.iload 7, 2) := dk_21 7 (dk_at dksX1_narrow_4 15 rfl rfl)
theorem dX1_narrow_109 : decode cX1_narrow 109 = .ok (.istore 5, 2) := dk_54 5 (dk_at dksX1_narrow_4 17 rfl rfl)
theorem dX1_narrow_111 : decode cX1_narrow 111 = .ok (.iload 8, 2) := dk_21 8 (dk_at dksX1_narrow_4 19 rfl rfl)
theorem dX1_narrow_113 : decode cX1_narrow 113 = .ok (.istore 6, 2) := dk_54 6 (dk_at dksX1_narrow_4 21 rfl rfl)
theorem dX1_narrow_115 : decode cX1_narrow 115 = .ok (.iinc 7 1, 3) := dk_132 7 1 (dk_at dksX1_narrow_5 0 rfl rfl)
theorem dX1_narrow_118 : decode cX1_narrow 118 = .ok (.goto (-63), 3) := dk_167 255 193 (dk_at dksX1_narrow_5 3 rfl rfl)
theorem dX1_narrow_121 : decode cX1_narrow 121 = .ok (.iload_n 3, 1) := dk_29 (dk_at dksX1_narrow_5 6 rfl rfl)
theorem dX1_narrow_122 : decode cX1_narrow 122 = .ok (.ifCond .ne 8, 3) := dk_154 0 8 (dk_at dksX1_narrow_5 7 rfl rfl)
theorem dX1_narrow_125 : decode cX1_narrow 125 = .ok (.iload 5, 2) := dk_21 5 (dk_at dksX1_narrow_5 10 rfl rfl)
theorem dX1_narrow_127 : decode cX1_narrow 127 = .ok (.goto 8, 3) := dk_167 0 8 (dk_at dksX1_narrow_5 12 rfl rfl)
theorem dX1_narrow_130 : decode cX1_narrow 130 = .ok (.iload 4, 2) := dk_21 4 (dk_at dksX1_narrow_5 15 rfl rfl)
theorem dX1_narrow_132 : decode cX1_narrow 132 = .ok (.iload 6, 2) := dk_21 6 (dk_at dksX1_narrow_5 17 rfl rfl)
theorem dX1_narrow_134 : decode cX1_narrow 134 = .ok (.isub, 1) := dk_100 (dk_at dksX1_narrow_5 19 rfl rfl)
theorem dX1_narrow_135 : decode cX1_narrow 135 = .ok (.ireturn, 1) := dk_172 (dk_at dksX1_narrow_5 20 rfl rfl)
abbrev cX1_spreadOf : ByteArray := prog_1_method_63_code
def yX1_spreadOf : MethodName := ⟨RX1, "spreadOf", "(LSafeBuckets$Condition;LSafeBuckets$Sheet;)I"⟩
def dkwX1_spreadOf_0 : List UInt8 := [42, 43, 185, 1, 185, 2, 0, 42, 43, 185, 1, 186, 2, 0, 100, 172]
abbrev dktX1_spreadOf_0 : List UInt8 := dkwX1_spreadOf_0 ++ []
theorem dksX1_spreadOf_0 : cX1_spreadOf.data.toList.drop 0 = dktX1_spreadOf_0 := by decide +kernel
theorem dX1_spreadOf_0 : decode cX1_spreadOf 0 = .ok (.aload_n 0, 1) := dk_42 (dk_at dksX1_spreadOf_0 0 rfl rfl)
theorem dX1_spreadOf_1 : decode cX1_spreadOf 1 = .ok (.aload_n 1, 1) := dk_43 (dk_at dksX1_spreadOf_0 1 rfl rfl)
theorem dX1_spreadOf_2 : decode cX1_spreadOf 2 = .ok (.invokeinterface 441 2, 5) := by decide +kernel
theorem dX1_spreadOf_7 : decode cX1_spreadOf 7 = .ok (.aload_n 0, 1) := dk_42 (dk_at dksX1_spreadOf_0 7 rfl rfl)
theorem dX1_spreadOf_8 : decode cX1_spreadOf 8 = .ok (.aload_n 1, 1) := dk_43 (dk_at dksX1_spreadOf_0 8 rfl rfl)
theorem dX1_spreadOf_9 : decode cX1_spreadOf 9 = .ok (.invokeinterface 442 2, 5) := by decide +kernel
theorem dX1_spreadOf_14 : decode cX1_spreadOf 14 = .ok (.isub, 1) := dk_100 (dk_at dksX1_spreadOf_0 14 rfl rfl)
theorem dX1_spreadOf_15 : decode cX1_spreadOf 15 = .ok (.ireturn, 1) := dk_172 (dk_at dksX1_spreadOf_0 15 rfl rfl)
abbrev cX1_odds : ByteArray := prog_1_method_67_code
def yX1_odds : MethodName := ⟨RX1, "odds", "(IIII)J"⟩
def dkwX1_odds_4 : List UInt8 := [154, 0, 8, 22, 7, 167, 0, 5, 22, 5, 22, 5, 22, 7, 184, 1, 194, 109, 173]
abbrev dktX1_odds_4 : List UInt8 := dkwX1_odds_4 ++ []
def dkwX1_odds_3 : List UInt8 := [55, 5, 42, 27, 182, 0, 218, 42, 180, 0, 27, 28, 50, 184, 1, 200, 29, 184, 1, 197, 55, 7, 21, 4]
abbrev dktX1_odds_3 : List UInt8 := dkwX1_odds_3 ++ dktX1_odds_4
def dkwX1_odds_2 : List UInt8 := [180, 0, 222, 29, 162, 0, 7, 20, 1, 16, 173, 42, 27, 182, 0, 218, 180, 0, 222, 29, 184, 1, 197]
abbrev dktX1_odds_2 : List UInt8 := dkwX1_odds_2 ++ dktX1_odds_3
def dkwX1_odds_1 : List UInt8 := [184, 0, 97, 153, 0, 26, 21, 4, 133, 9, 10, 184, 0, 97, 153, 0, 15, 42, 27, 182, 0, 218]
abbrev dktX1_odds_1 : List UInt8 := dkwX1_odds_1 ++ dktX1_odds_2
def dkwX1_odds_0 : List UInt8 := [42, 27, 182, 0, 194, 153, 0, 46, 42, 28, 182, 1, 125, 153, 0, 38, 29, 133, 10, 20, 1, 86]
abbrev dktX1_odds_0 : List UInt8 := dkwX1_odds_0 ++ dktX1_odds_1
theorem dksX1_odds_0 : cX1_odds.data.toList.drop 0 = dktX1_odds_0 := by decide +kernel
theorem dksX1_odds_1 : cX1_odds.data.toList.drop 22 = dktX1_odds_1 := dk_seg dksX1_odds_0 22 rfl rfl
theorem dksX1_odds_2 : cX1_odds.data.toList.drop 44 = dktX1_odds_2 := dk_seg dksX1_odds_1 22 rfl rfl
theorem dksX1_odds_3 : cX1_odds.data.toList.drop 67 = dktX1_odds_3 := dk_seg dksX1_odds_2 23 rfl rfl
theorem dksX1_odds_4 : cX1_odds.data.toList.drop 91 = dktX1_odds_4 := dk_seg dksX1_odds_3 24 rfl rfl
theorem dX1_odds_0 : decode cX1_odds 0 = .ok (.aload_n 0, 1) := dk_42 (dk_at dksX1_odds_0 0 rfl rfl)
theorem dX1_odds_1 : decode cX1_odds 1 = .ok (.iload_n 1, 1) := dk_27 (dk_at dksX1_odds_0 1 rfl rfl)
theorem dX1_odds_2 : decode cX1_odds 2 = .ok (.invokevirtual 194, 3) := dk_182 0 194 (dk_at dksX1_odds_0 2 rfl rfl)
theorem dX1_odds_5 : decode cX1_odds 5 = .ok (.ifCond .eq 46, 3) := dk_153 0 46 (dk_at dksX1_odds_0 5 rfl rfl)
theorem dX1_odds_8 : decode cX1_odds 8 = .ok (.aload_n 0, 1) := dk_42 (dk_at dksX1_odds_0 8 rfl rfl)
theorem dX1_odds_9 : decode cX1_odds 9 = .ok (.iload_n 2, 1) := dk_28 (dk_at dksX1_odds_0 9 rfl rfl)
theorem dX1_odds_10 : decode cX1_odds 10 = .ok (.invokevirtual 381, 3) := dk_182 1 125 (dk_at dksX1_odds_0 10 rfl rfl)
theorem dX1_odds_13 : decode cX1_odds 13 = .ok (.ifCond .eq 38, 3) := dk_153 0 38 (dk_at dksX1_odds_0 13 rfl rfl)
theorem dX1_odds_16 : decode cX1_odds 16 = .ok (.iload_n 3, 1) := dk_29 (dk_at dksX1_odds_0 16 rfl rfl)
theorem dX1_odds_17 : decode cX1_odds 17 = .ok (.i2l, 1) := dk_133 (dk_at dksX1_odds_0 17 rfl rfl)
theorem dX1_odds_18 : decode cX1_odds 18 = .ok (.lconst 1, 1) := dk_10 (dk_at dksX1_odds_0 18 rfl rfl)
theorem dX1_odds_19 : decode cX1_odds 19 = .ok (.ldc2_w 342, 3) := dk_20 1 86 (dk_at dksX1_odds_0 19 rfl rfl)
theorem dX1_odds_22 : decode cX1_odds 22 = .ok (.invokestatic 97, 3) := dk_184 0 97 (dk_at dksX1_odds_1 0 rfl rfl)
theorem dX1_odds_25 : decode cX1_odds 25 = .ok (.ifCond .eq 26, 3) := dk_153 0 26 (dk_at dksX1_odds_1 3 rfl rfl)
theorem dX1_odds_28 : decode cX1_odds 28 = .ok (.iload 4, 2) := dk_21 4 (dk_at dksX1_odds_1 6 rfl rfl)
theorem dX1_odds_30 : decode cX1_odds 30 = .ok (.i2l, 1) := dk_133 (dk_at dksX1_odds_1 8 rfl rfl)
theorem dX1_odds_31 : decode cX1_odds 31 = .ok (.lconst 0, 1) := dk_9 (dk_at dksX1_odds_1 9 rfl rfl)
theorem dX1_odds_32 : decode cX1_odds 32 = .ok (.lconst 1, 1) := dk_10 (dk_at dksX1_odds_1 10 rfl rfl)
theorem dX1_odds_33 : decode cX1_odds 33 = .ok (.invokestatic 97, 3) := dk_184 0 97 (dk_at dksX1_odds_1 11 rfl rfl)
theorem dX1_odds_36 : decode cX1_odds 36 = .ok (.ifCond .eq 15, 3) := dk_153 0 15 (dk_at dksX1_odds_1 14 rfl rfl)
theorem dX1_odds_39 : decode cX1_odds 39 = .ok (.aload_n 0, 1) := dk_42 (dk_at dksX1_odds_1 17 rfl rfl)
theorem dX1_odds_40 : decode cX1_odds 40 = .ok (.iload_n 1, 1) := dk_27 (dk_at dksX1_odds_1 18 rfl rfl)
theorem dX1_odds_41 : decode cX1_odds 41 = .ok (.invokevirtual 218, 3) := dk_182 0 218 (dk_at dksX1_odds_1 19 rfl rfl)
theorem dX1_odds_44 : decode cX1_odds 44 = .ok (.getfield 222, 3) := dk_180 0 222 (dk_at dksX1_odds_2 0 rfl rfl)
theorem dX1_odds_47 : decode cX1_odds 47 = .ok (.iload_n 3, 1) := dk_29 (dk_at dksX1_odds_2 3 rfl rfl)
theorem dX1_odds_48 : decode cX1_odds 48 = .ok (.if_icmp .ge 7, 3) := dk_162 0 7 (dk_at dksX1_odds_2 4 rfl rfl)
theorem dX1_odds_51 : decode cX1_odds 51 = .ok (.ldc2_w 272, 3) := dk_20 1 16 (dk_at dksX1_odds_2 7 rfl rfl)
theorem dX1_odds_54 : decode cX1_odds 54 = .ok (.lreturn, 1) := dk_173 (dk_at dksX1_odds_2 10 rfl rfl)
theorem dX1_odds_55 : decode cX1_odds 55 = .ok (.aload_n 0, 1) := dk_42 (dk_at dksX1_odds_2 11 rfl rfl)
theorem dX1_odds_56 : decode cX1_odds 56 = .ok (.iload_n 1, 1) := dk_27 (dk_at dksX1_odds_2 12 rfl rfl)
theorem dX1_odds_57 : decode cX1_odds 57 = .ok (.invokevirtual 218, 3) := dk_182 0 218 (dk_at dksX1_odds_2 13 rfl rfl)
theorem dX1_odds_60 : decode cX1_odds 60 = .ok (.getfield 222, 3) := dk_180 0 222 (dk_at dksX1_odds_2 16 rfl rfl)
theorem dX1_odds_63 : decode cX1_odds 63 = .ok (.iload_n 3, 1) := dk_29 (dk_at dksX1_odds_2 19 rfl rfl)
theorem dX1_odds_64 : decode cX1_odds 64 = .ok (.invokestatic 453, 3) := dk_184 1 197 (dk_at dksX1_odds_2 20 rfl rfl)
theorem dX1_odds_67 : decode cX1_odds 67 = .ok (.lstore 5, 2) := dk_55 5 (dk_at dksX1_odds_3 0 rfl rfl)
theorem dX1_odds_69 : decode cX1_odds 69 = .ok (.aload_n 0, 1) := dk_42 (dk_at dksX1_odds_3 2 rfl rfl)
theorem dX1_odds_70 : decode cX1_odds 70 = .ok (.iload_n 1, 1) := dk_27 (dk_at dksX1_odds_3 3 rfl rfl)
theorem dX1_odds_71 : decode cX1_odds 71 = .ok (.invokevirtual 218, 3) := dk_182 0 218 (dk_at dksX1_odds_3 4 rfl rfl)
theorem dX1_odds_74 : decode cX1_odds 74 = .ok (.aload_n 0, 1) := dk_42 (dk_at dksX1_odds_3 7 rfl rfl)
theorem dX1_odds_75 : decode cX1_odds 75 = .ok (.getfield 27, 3) := dk_180 0 27 (dk_at dksX1_odds_3 8 rfl rfl)
theorem dX1_odds_78 : decode cX1_odds 78 = .ok (.iload_n 2, 1) := dk_28 (dk_at dksX1_odds_3 11 rfl rfl)
theorem dX1_odds_79 : decode cX1_odds 79 = .ok (.aaload, 1) := dk_50 (dk_at dksX1_odds_3 12 rfl rfl)
theorem dX1_odds_80 : decode cX1_odds 80 = .ok (.invokestatic 456, 3) := dk_184 1 200 (dk_at dksX1_odds_3 13 rfl rfl)
theorem dX1_odds_83 : decode cX1_odds 83 = .ok (.iload_n 3, 1) := dk_29 (dk_at dksX1_odds_3 16 rfl rfl)
theorem dX1_odds_84 : decode cX1_odds 84 = .ok (.invokestatic 453, 3) := dk_184 1 197 (dk_at dksX1_odds_3 17 rfl rfl)
theorem dX1_odds_87 : decode cX1_odds 87 = .ok (.lstore 7, 2) := dk_55 7 (dk_at dksX1_odds_3 20 rfl rfl)
theorem dX1_odds_89 : decode cX1_odds 89 = .ok (.iload 4, 2) := dk_21 4 (dk_at dksX1_odds_3 22 rfl rfl)
theorem dX1_odds_91 : decode cX1_odds 91 = .ok (.ifCond .ne 8, 3) := dk_154 0 8 (dk_at dksX1_odds_4 0 rfl rfl)
theorem dX1_odds_94 : decode cX1_odds 94 = .ok (.lload 7, 2) := dk_22 7 (dk_at dksX1_odds_4 3 rfl rfl)
theorem dX1_odds_96 : decode cX1_odds 96 = .ok (.goto 5, 3) := dk_167 0 5 (dk_at dksX1_odds_4 5 rfl rfl)
theorem dX1_odds_99 : decode cX1_odds 99 = .ok (.lload 5, 2) := dk_22 5 (dk_at dksX1_odds_4 8 rfl rfl)
theorem dX1_odds_101 : decode cX1_odds 101 = .ok (.lload 5, 2) := dk_22 5 (dk_at dksX1_odds_4 10 rfl rfl)
theorem dX1_odds_103 : decode cX1_odds 103 = .ok (.lload 7, 2) := dk_22 7 (dk_at dksX1_odds_4 12 rfl rfl)
theorem dX1_odds_105 : decode cX1_odds 105 = .ok (.invokestatic 450, 3) := dk_184 1 194 (dk_at dksX1_odds_4 14 rfl rfl)
theorem dX1_odds_108 : decode cX1_odds 108 = .ok (.ldiv, 1) := dk_109 (dk_at dksX1_odds_4 17 rfl rfl)
theorem dX1_odds_109 : decode cX1_odds 109 = .ok (.lreturn, 1) := dk_173 (dk_at dksX1_odds_4 18 rfl rfl)
abbrev cX1_drawn : ByteArray := prog_1_method_65_code
def yX1_drawn : MethodName := ⟨RX1, "drawn", "(II)J"⟩
def dkwX1_drawn_1 : List UInt8 := [65, 132, 4, 1, 167, 255, 233, 26, 27, 162, 0, 7, 9, 167, 0, 4, 32, 173]
abbrev dktX1_drawn_1 : List UInt8 := dkwX1_drawn_1 ++ []
def dkwX1_drawn_0 : List UInt8 := [10, 65, 3, 54, 4, 21, 4, 27, 162, 0, 23, 32, 26, 21, 4, 100, 133, 105, 21, 4, 4, 96, 133, 109]
abbrev dktX1_drawn_0 : List UInt8 := dkwX1_drawn_0 ++ dktX1_drawn_1
theorem dksX1_drawn_0 : cX1_drawn.data.toList.drop 0 = dktX1_drawn_0 := by decide +kernel
theorem dksX1_drawn_1 : cX1_drawn.data.toList.drop 24 = dktX1_drawn_1 := dk_seg dksX1_drawn_0 24 rfl rfl
theorem dX1_drawn_0 : decode cX1_drawn 0 = .ok (.lconst 1, 1) := dk_10 (dk_at dksX1_drawn_0 0 rfl rfl)
theorem dX1_drawn_1 : decode cX1_drawn 1 = .ok (.lstore_n 2, 1) := dk_65 (dk_at dksX1_drawn_0 1 rfl rfl)
theorem dX1_drawn_2 : decode cX1_drawn 2 = .ok (.iconst 0, 1) := dk_3 (dk_at dksX1_drawn_0 2 rfl rfl)
theorem dX1_drawn_3 : decode cX1_drawn 3 = .ok (.istore 4, 2) := dk_54 4 (dk_at dksX1_drawn_0 3 rfl rfl)
theorem dX1_drawn_5 : decode cX1_drawn 5 = .ok (.iload 4, 2) := dk_21 4 (dk_at dksX1_drawn_0 5 rfl rfl)
theorem dX1_drawn_7 : decode cX1_drawn 7 = .ok (.iload_n 1, 1) := dk_27 (dk_at dksX1_drawn_0 7 rfl rfl)
theorem dX1_drawn_8 : decode cX1_drawn 8 = .ok (.if_icmp .ge 23, 3) := dk_162 0 23 (dk_at dksX1_drawn_0 8 rfl rfl)
theorem dX1_drawn_11 : decode cX1_drawn 11 = .ok (.lload_n 2, 1) := dk_32 (dk_at dksX1_drawn_0 11 rfl rfl)
theorem dX1_drawn_12 : decode cX1_drawn 12 = .ok (.iload_n 0, 1) := dk_26 (dk_at dksX1_drawn_0 12 rfl rfl)
theorem dX1_drawn_13 : decode cX1_drawn 13 = .ok (.iload 4, 2) := dk_21 4 (dk_at dksX1_drawn_0 13 rfl rfl)
theorem dX1_drawn_15 : decode cX1_drawn 15 = .ok (.isub, 1) := dk_100 (dk_at dksX1_drawn_0 15 rfl rfl)
theorem dX1_drawn_16 : decode cX1_drawn 16 = .ok (.i2l, 1) := dk_133 (dk_at dksX1_drawn_0 16 rfl rfl)
theorem dX1_drawn_17 : decode cX1_drawn 17 = .ok (.lmul, 1) := dk_105 (dk_at dksX1_drawn_0 17 rfl rfl)
theorem dX1_drawn_18 : decode cX1_drawn 18 = .ok (.iload 4, 2) := dk_21 4 (dk_at dksX1_drawn_0 18 rfl rfl)
theorem dX1_drawn_20 : decode cX1_drawn 20 = .ok (.iconst 1, 1) := dk_4 (dk_at dksX1_drawn_0 20 rfl rfl)
theorem dX1_drawn_21 : decode cX1_drawn 21 = .ok (.iadd, 1) := dk_96 (dk_at dksX1_drawn_0 21 rfl rfl)
theorem dX1_drawn_22 : decode cX1_drawn 22 = .ok (.i2l, 1) := dk_133 (dk_at dksX1_drawn_0 22 rfl rfl)
theorem dX1_drawn_23 : decode cX1_drawn 23 = .ok (.ldiv, 1) := dk_109 (dk_at dksX1_drawn_0 23 rfl rfl)
theorem dX1_drawn_24 : decode cX1_drawn 24 = .ok (.lstore_n 2, 1) := dk_65 (dk_at dksX1_drawn_1 0 rfl rfl)
theorem dX1_drawn_25 : decode cX1_drawn 25 = .ok (.iinc 4 1, 3) := dk_132 4 1 (dk_at dksX1_drawn_1 1 rfl rfl)
theorem dX1_drawn_28 : decode cX1_drawn 28 = .ok (.goto (-23), 3) := dk_167 255 233 (dk_at dksX1_drawn_1 4 rfl rfl)
theorem dX1_drawn_31 : decode cX1_drawn 31 = .ok (.iload_n 0, 1) := dk_26 (dk_at dksX1_drawn_1 7 rfl rfl)
theorem dX1_drawn_32 : decode cX1_drawn 32 = .ok (.iload_n 1, 1) := dk_27 (dk_at dksX1_drawn_1 8 rfl rfl)
theorem dX1_drawn_33 : decode cX1_drawn 33 = .ok (.if_icmp .ge 7, 3) := dk_162 0 7 (dk_at dksX1_drawn_1 9 rfl rfl)
theorem dX1_drawn_36 : decode cX1_drawn 36 = .ok (.lconst 0, 1) := dk_9 (dk_at dksX1_drawn_1 12 rfl rfl)
theorem dX1_drawn_37 : decode cX1_drawn 37 = .ok (.goto 4, 3) := dk_167 0 4 (dk_at dksX1_drawn_1 13 rfl rfl)
theorem dX1_drawn_40 : decode cX1_drawn 40 = .ok (.lload_n 2, 1) := dk_32 (dk_at dksX1_drawn_1 16 rfl rfl)
theorem dX1_drawn_41 : decode cX1_drawn 41 = .ok (.lreturn, 1) := dk_173 (dk_at dksX1_drawn_1 17 rfl rfl)
abbrev cX1_holdsFor : ByteArray := prog_1_method_55_code
def yX1_holdsFor : MethodName := ⟨RX1, "holdsFor", "(LSafeBuckets$Sheet;LSafeBuckets$Condition;)I"⟩
def dkwX1_holdsFor_2 : List UInt8 := [96, 61, 132, 4, 1, 167, 255, 218, 132, 3, 1, 167, 255, 201, 28, 172]
abbrev dktX1_holdsFor_2 : List UInt8 := dkwX1_holdsFor_2 ++ []
def dkwX1_holdsFor_1 : List UInt8 := [28, 43, 29, 21, 4, 185, 1, 122, 3, 0, 153, 0, 13, 42, 29, 21, 4, 182, 0, 235, 167, 0, 4, 3]
abbrev dktX1_holdsFor_1 : List UInt8 := dkwX1_holdsFor_1 ++ dktX1_holdsFor_2
def dkwX1_holdsFor_0 : List UInt8 := [3, 61, 2, 62, 29, 42, 180, 0, 164, 162, 0, 53, 2, 54, 4, 21, 4, 42, 180, 0, 164, 162, 0, 35]
abbrev dktX1_holdsFor_0 : List UInt8 := dkwX1_holdsFor_0 ++ dktX1_holdsFor_1
theorem dksX1_holdsFor_0 : cX1_holdsFor.data.toList.drop 0 = dktX1_holdsFor_0 := by decide +kernel
theorem dksX1_holdsFor_1 : cX1_holdsFor.data.toList.drop 24 = dktX1_holdsFor_1 := dk_seg dksX1_holdsFor_0 24 rfl rfl
theorem dksX1_holdsFor_2 : cX1_holdsFor.data.toList.drop 48 = dktX1_holdsFor_2 := dk_seg dksX1_holdsFor_1 24 rfl rfl
theorem dX1_holdsFor_0 : decode cX1_holdsFor 0 = .ok (.iconst 0, 1) := dk_3 (dk_at dksX1_holdsFor_0 0 rfl rfl)
theorem dX1_holdsFor_1 : decode cX1_holdsFor 1 = .ok (.istore_n 2, 1) := dk_61 (dk_at dksX1_holdsFor_0 1 rfl rfl)
theorem dX1_holdsFor_2 : decode cX1_holdsFor 2 = .ok (.iconst (-1), 1) := dk_2 (dk_at dksX1_holdsFor_0 2 rfl rfl)
theorem dX1_holdsFor_3 : decode cX1_holdsFor 3 = .ok (.istore_n 3, 1) := dk_62 (dk_at dksX1_holdsFor_0 3 rfl rfl)
theorem dX1_holdsFor_4 : decode cX1_holdsFor 4 = .ok (.iload_n 3, 1) := dk_29 (dk_at dksX1_holdsFor_0 4 rfl rfl)
theorem dX1_holdsFor_5 : decode cX1_holdsFor 5 = .ok (.aload_n 0, 1) := dk_42 (dk_at dksX1_holdsFor_0 5 rfl rfl)
theorem dX1_holdsFor_6 : decode cX1_holdsFor 6 = .ok (.getfield 164, 3) := dk_180 0 164 (dk_at dksX1_holdsFor_0 6 rfl rfl)
theorem dX1_holdsFor_9 : decode cX1_holdsFor 9 = .ok (.if_icmp .ge 53, 3) := dk_162 0 53 (dk_at dksX1_holdsFor_0 9 rfl rfl)
theorem dX1_holdsFor_12 : decode cX1_holdsFor 12 = .ok (.iconst (-1), 1) := dk_2 (dk_at dksX1_holdsFor_0 12 rfl rfl)
theorem dX1_holdsFor_13 : decode cX1_holdsFor 13 = .ok (.istore 4, 2) := dk_54 4 (dk_at dksX1_holdsFor_0 13 rfl rfl)
theorem dX1_holdsFor_15 : decode cX1_holdsFor 15 = .ok (.iload 4, 2) := dk_21 4 (dk_at dksX1_holdsFor_0 15 rfl rfl)
theorem dX1_holdsFor_17 : decode cX1_holdsFor 17 = .ok (.aload_n 0, 1) := dk_42 (dk_at dksX1_holdsFor_0 17 rfl rfl)
theorem dX1_holdsFor_18 : decode cX1_holdsFor 18 = .ok (.getfield 164, 3) := dk_180 0 164 (dk_at dksX1_holdsFor_0 18 rfl rfl)
theorem dX1_holdsFor_21 : decode cX1_holdsFor 21 = .ok (.if_icmp .ge 35, 3) := dk_162 0 35 (dk_at dksX1_holdsFor_0 21 rfl rfl)
theorem dX1_holdsFor_24 : decode cX1_holdsFor 24 = .ok (.iload_n 2, 1) := dk_28 (dk_at dksX1_holdsFor_1 0 rfl rfl)
theorem dX1_holdsFor_25 : decode cX1_holdsFor 25 = .ok (.aload_n 1, 1) := dk_43 (dk_at dksX1_holdsFor_1 1 rfl rfl)
theorem dX1_holdsFor_26 : decode cX1_holdsFor 26 = .ok (.iload_n 3, 1) := dk_29 (dk_at dksX1_holdsFor_1 2 rfl rfl)
theorem dX1_holdsFor_27 : decode cX1_holdsFor 27 = .ok (.iload 4, 2) := dk_21 4 (dk_at dksX1_holdsFor_1 3 rfl rfl)
theorem dX1_holdsFor_29 : decode cX1_holdsFor 29 = .ok (.invokeinterface 378 3, 5) := by decide +kernel
theorem dX1_holdsFor_34 : decode cX1_holdsFor 34 = .ok (.ifCond .eq 13, 3) := dk_153 0 13 (dk_at dksX1_holdsFor_1 10 rfl rfl)
theorem dX1_holdsFor_37 : decode cX1_holdsFor 37 = .ok (.aload_n 0, 1) := dk_42 (dk_at dksX1_holdsFor_1 13 rfl rfl)
theorem dX1_holdsFor_38 : decode cX1_holdsFor 38 = .ok (.iload_n 3, 1) := dk_29 (dk_at dksX1_holdsFor_1 14 rfl rfl)
theorem dX1_holdsFor_39 : decode cX1_holdsFor 39 = .ok (.iload 4, 2) := dk_21 4 (dk_at dksX1_holdsFor_1 15 rfl rfl)
theorem dX1_holdsFor_41 : decode cX1_holdsFor 41 = .ok (.invokevirtual 235, 3) := dk_182 0 235 (dk_at dksX1_holdsFor_1 17 rfl rfl)
theorem dX1_holdsFor_44 : decode cX1_holdsFor 44 = .ok (.goto 4, 3) := dk_167 0 4 (dk_at dksX1_holdsFor_1 20 rfl rfl)
theorem dX1_holdsFor_47 : decode cX1_holdsFor 47 = .ok (.iconst 0, 1) := dk_3 (dk_at dksX1_holdsFor_1 23 rfl rfl)
theorem dX1_holdsFor_48 : decode cX1_holdsFor 48 = .ok (.iadd, 1) := dk_96 (dk_at dksX1_holdsFor_2 0 rfl rfl)
theorem dX1_holdsFor_49 : decode cX1_holdsFor 49 = .ok (.istore_n 2, 1) := dk_61 (dk_at dksX1_holdsFor_2 1 rfl rfl)
theorem dX1_holdsFor_50 : decode cX1_holdsFor 50 = .ok (.iinc 4 1, 3) := dk_132 4 1 (dk_at dksX1_holdsFor_2 2 rfl rfl)
theorem dX1_holdsFor_53 : decode cX1_holdsFor 53 = .ok (.goto (-38), 3) := dk_167 255 218 (dk_at dksX1_holdsFor_2 5 rfl rfl)
theorem dX1_holdsFor_56 : decode cX1_holdsFor 56 = .ok (.iinc 3 1, 3) := dk_132 3 1 (dk_at dksX1_holdsFor_2 8 rfl rfl)
theorem dX1_holdsFor_59 : decode cX1_holdsFor 59 = .ok (.goto (-55), 3) := dk_167 255 201 (dk_at dksX1_holdsFor_2 11 rfl rfl)
theorem dX1_holdsFor_62 : decode cX1_holdsFor 62 = .ok (.iload_n 2, 1) := dk_28 (dk_at dksX1_holdsFor_2 14 rfl rfl)
theorem dX1_holdsFor_63 : decode cX1_holdsFor 63 = .ok (.ireturn, 1) := dk_172 (dk_at dksX1_holdsFor_2 15 rfl rfl)
abbrev cX1_divisor : ByteArray := prog_1_method_66_code
def yX1_divisor : MethodName := ⟨RX1, "divisor", "(JJ)J"⟩
def dkwX1_divisor_0 : List UInt8 := [32, 9, 148, 154, 0, 7, 30, 167, 0, 10, 32, 30, 32, 113, 184, 1, 194, 173]
abbrev dktX1_divisor_0 : List UInt8 := dkwX1_divisor_0 ++ []
theorem dksX1_divisor_0 : cX1_divisor.data.toList.drop 0 = dktX1_divisor_0 := by decide +kernel
theorem dX1_divisor_0 : decode cX1_divisor 0 = .ok (.lload_n 2, 1) := dk_32 (dk_at dksX1_divisor_0 0 rfl rfl)
theorem dX1_divisor_1 : decode cX1_divisor 1 = .ok (.lconst 0, 1) := dk_9 (dk_at dksX1_divisor_0 1 rfl rfl)
theorem dX1_divisor_2 : decode cX1_divisor 2 = .ok (.lcmp, 1) := dk_148 (dk_at dksX1_divisor_0 2 rfl rfl)
theorem dX1_divisor_3 : decode cX1_divisor 3 = .ok (.ifCond .ne 7, 3) := dk_154 0 7 (dk_at dksX1_divisor_0 3 rfl rfl)
theorem dX1_divisor_6 : decode cX1_divisor 6 = .ok (.lload_n 0, 1) := dk_30 (dk_at dksX1_divisor_0 6 rfl rfl)
theorem dX1_divisor_7 : decode cX1_divisor 7 = .ok (.goto 10, 3) := dk_167 0 10 (dk_at dksX1_divisor_0 7 rfl rfl)
theorem dX1_divisor_10 : decode cX1_divisor 10 = .ok (.lload_n 2, 1) := dk_32 (dk_at dksX1_divisor_0 10 rfl rfl)
theorem dX1_divisor_11 : decode cX1_divisor 11 = .ok (.lload_n 0, 1) := dk_30 (dk_at dksX1_divisor_0 11 rfl rfl)
theorem dX1_divisor_12 : decode cX1_divisor 12 = .ok (.lload_n 2, 1) := dk_32 (dk_at dksX1_divisor_0 12 rfl rfl)
theorem dX1_divisor_13 : decode cX1_divisor 13 = .ok (.lrem, 1) := dk_113 (dk_at dksX1_divisor_0 13 rfl rfl)
theorem dX1_divisor_14 : decode cX1_divisor 14 = .ok (.invokestatic 450, 3) := dk_184 1 194 (dk_at dksX1_divisor_0 14 rfl rfl)
theorem dX1_divisor_17 : decode cX1_divisor 17 = .ok (.lreturn, 1) := dk_173 (dk_at dksX1_divisor_0 17 rfl rfl)
abbrev cX1_shares : ByteArray := prog_1_method_68_code
def yX1_shares : MethodName := ⟨RX1, "shares", "(II)I"⟩
def dkwX1_shares_2 : List UInt8 := [180, 0, 59, 182, 1, 83, 108, 172]
abbrev dktX1_shares_2 : List UInt8 := dkwX1_shares_2 ++ []
def dkwX1_shares_1 : List UInt8 := [180, 0, 59, 182, 1, 83, 154, 0, 7, 3, 167, 0, 21, 28, 42, 27, 182, 0, 218, 180, 0, 222, 104, 42]
abbrev dktX1_shares_1 : List UInt8 := dkwX1_shares_1 ++ dktX1_shares_2
def dkwX1_shares_0 : List UInt8 := [42, 27, 182, 0, 194, 153, 0, 15, 28, 133, 9, 20, 1, 62, 184, 0, 97, 154, 0, 5, 2, 172, 42]
abbrev dktX1_shares_0 : List UInt8 := dkwX1_shares_0 ++ dktX1_shares_1
theorem dksX1_shares_0 : cX1_shares.data.toList.drop 0 = dktX1_shares_0 := by decide +kernel
theorem dksX1_shares_1 : cX1_shares.data.toList.drop 23 = dktX1_shares_1 := dk_seg dksX1_shares_0 23 rfl rfl
theorem dksX1_shares_2 : cX1_shares.data.toList.drop 47 = dktX1_shares_2 := dk_seg dksX1_shares_1 24 rfl rfl
theorem dX1_shares_0 : decode cX1_shares 0 = .ok (.aload_n 0, 1) := dk_42 (dk_at dksX1_shares_0 0 rfl rfl)
theorem dX1_shares_1 : decode cX1_shares 1 = .ok (.iload_n 1, 1) := dk_27 (dk_at dksX1_shares_0 1 rfl rfl)
theorem dX1_shares_2 : decode cX1_shares 2 = .ok (.invokevirtual 194, 3) := dk_182 0 194 (dk_at dksX1_shares_0 2 rfl rfl)
theorem dX1_shares_5 : decode cX1_shares 5 = .ok (.ifCond .eq 15, 3) := dk_153 0 15 (dk_at dksX1_shares_0 5 rfl rfl)
theorem dX1_shares_8 : decode cX1_shares 8 = .ok (.iload_n 2, 1) := dk_28 (dk_at dksX1_shares_0 8 rfl rfl)
theorem dX1_shares_9 : decode cX1_shares 9 = .ok (.i2l, 1) := dk_133 (dk_at dksX1_shares_0 9 rfl rfl)
theorem dX1_shares_10 : decode cX1_shares 10 = .ok (.lconst 0, 1) := dk_9 (dk_at dksX1_shares_0 10 rfl rfl)
theorem dX1_shares_11 : decode cX1_shares 11 = .ok (.ldc2_w 318, 3) := dk_20 1 62 (dk_at dksX1_shares_0 11 rfl rfl)
theorem dX1_shares_14 : decode cX1_shares 14 = .ok (.invokestatic 97, 3) := dk_184 0 97 (dk_at dksX1_shares_0 14 rfl rfl)
theorem dX1_shares_17 : decode cX1_shares 17 = .ok (.ifCond .ne 5, 3) := dk_154 0 5 (dk_at dksX1_shares_0 17 rfl rfl)
theorem dX1_shares_20 : decode cX1_shares 20 = .ok (.iconst (-1), 1) := dk_2 (dk_at dksX1_shares_0 20 rfl rfl)
theorem dX1_shares_21 : decode cX1_shares 21 = .ok (.ireturn, 1) := dk_172 (dk_at dksX1_shares_0 21 rfl rfl)
theorem dX1_shares_22 : decode cX1_shares 22 = .ok (.aload_n 0, 1) := dk_42 (dk_at dksX1_shares_0 22 rfl rfl)
theorem dX1_shares_23 : decode cX1_shares 23 = .ok (.getfield 59, 3) := dk_180 0 59 (dk_at dksX1_shares_1 0 rfl rfl)
theorem dX1_shares_26 : decode cX1_shares 26 = .ok (.invokevirtual 339, 3) := dk_182 1 83 (dk_at dksX1_shares_1 3 rfl rfl)
theorem dX1_shares_29 : decode cX1_shares 29 = .ok (.ifCond .ne 7, 3) := dk_154 0 7 (dk_at dksX1_shares_1 6 rfl rfl)
theorem dX1_shares_32 : decode cX1_shares 32 = .ok (.iconst 0, 1) := dk_3 (dk_at dksX1_shares_1 9 rfl rfl)
theorem dX1_shares_33 : decode cX1_shares 33 = .ok (.goto 21, 3) := dk_167 0 21 (dk_at dksX1_shares_1 10 rfl rfl)
theorem dX1_shares_36 : decode cX1_shares 36 = .ok (.iload_n 2, 1) := dk_28 (dk_at dksX1_shares_1 13 rfl rfl)
theorem dX1_shares_37 : decode cX1_shares 37 = .ok (.aload_n 0, 1) := dk_42 (dk_at dksX1_shares_1 14 rfl rfl)
theorem dX1_shares_38 : decode cX1_shares 38 = .ok (.iload_n 1, 1) := dk_27 (dk_at dksX1_shares_1 15 rfl rfl)
theorem dX1_shares_39 : decode cX1_shares 39 = .ok (.invokevirtual 218, 3) := dk_182 0 218 (dk_at dksX1_shares_1 16 rfl rfl)
theorem dX1_shares_42 : decode cX1_shares 42 = .ok (.getfield 222, 3) := dk_180 0 222 (dk_at dksX1_shares_1 19 rfl rfl)
theorem dX1_shares_45 : decode cX1_shares 45 = .ok (.imul, 1) := dk_104 (dk_at dksX1_shares_1 22 rfl rfl)
theorem dX1_shares_46 : decode cX1_shares 46 = .ok (.aload_n 0, 1) := dk_42 (dk_at dksX1_shares_1 23 rfl rfl)
theorem dX1_shares_47 : decode cX1_shares 47 = .ok (.getfield 59, 3) := dk_180 0 59 (dk_at dksX1_shares_2 0 rfl rfl)
theorem dX1_shares_50 : decode cX1_shares 50 = .ok (.invokevirtual 339, 3) := dk_182 1 83 (dk_at dksX1_shares_2 3 rfl rfl)
theorem dX1_shares_53 : decode cX1_shares 53 = .ok (.idiv, 1) := dk_108 (dk_at dksX1_shares_2 6 rfl rfl)
theorem dX1_shares_54 : decode cX1_shares 54 = .ok (.ireturn, 1) := dk_172 (dk_at dksX1_shares_2 7 rfl rfl)
abbrev cX1_most : ByteArray := prog_1_method_75_code
def yX1_most : MethodName := ⟨RX1, "most", "(I)I"⟩
def dkwX1_most_3 : List UInt8 := [182, 1, 83, 172, 42, 182, 1, 225, 172, 18, 146, 172]
abbrev dktX1_most_3 : List UInt8 := dkwX1_most_3 ++ []
def dkwX1_most_2 : List UInt8 := [42, 182, 1, 213, 172, 42, 182, 1, 216, 172, 42, 182, 1, 219, 172, 42, 182, 1, 222, 172, 42, 180, 0, 59]
abbrev dktX1_most_2 : List UInt8 := dkwX1_most_2 ++ dktX1_most_3
def dkwX1_most_1 : List UInt8 := [170, 0, 0, 0, 70, 0, 0, 0, 0, 0, 0, 0, 5, 0, 0, 0, 37, 0, 0, 0, 42, 0, 0, 0, 47, 0, 0, 0, 52, 0, 0, 0, 57, 0, 0, 0, 65]
abbrev dktX1_most_1 : List UInt8 := dkwX1_most_1 ++ dktX1_most_2
def dkwX1_most_0 : List UInt8 := [42, 180, 0, 93, 199, 0, 6, 18, 146, 172, 27]
abbrev dktX1_most_0 : List UInt8 := dkwX1_most_0 ++ dktX1_most_1
theorem dksX1_most_0 : cX1_most.data.toList.drop 0 = dktX1_most_0 := by decide +kernel
theorem dksX1_most_1 : cX1_most.data.toList.drop 11 = dktX1_most_1 := dk_seg dksX1_most_0 11 rfl rfl
theorem dksX1_most_2 : cX1_most.data.toList.drop 48 = dktX1_most_2 := dk_seg dksX1_most_1 37 rfl rfl
theorem dksX1_most_3 : cX1_most.data.toList.drop 72 = dktX1_most_3 := dk_seg dksX1_most_2 24 rfl rfl
theorem dX1_most_0 : decode cX1_most 0 = .ok (.aload_n 0, 1) := dk_42 (dk_at dksX1_most_0 0 rfl rfl)
theorem dX1_most_1 : decode cX1_most 1 = .ok (.getfield 93, 3) := dk_180 0 93 (dk_at dksX1_most_0 1 rfl rfl)
theorem dX1_most_4 : decode cX1_most 4 = .ok (.ifnonnull 6, 3) := dk_199 0 6 (dk_at dksX1_most_0 4 rfl rfl)
theorem dX1_most_7 : decode cX1_most 7 = .ok (.ldc 146, 2) := dk_18 146 (dk_at dksX1_most_0 7 rfl rfl)
theorem dX1_most_9 : decode cX1_most 9 = .ok (.ireturn, 1) := dk_172 (dk_at dksX1_most_0 9 rfl rfl)
theorem dX1_most_10 : decode cX1_most 10 = .ok (.iload_n 1, 1) := dk_27 (dk_at dksX1_most_0 10 rfl rfl)
theorem dX1_most_11 : decode cX1_most 11 = .ok (.tableswitch 70 0 5 #[37, 42, 47, 52, 57, 65], 37) := by decide +kernel
theorem dX1_most_48 : decode cX1_most 48 = .ok (.aload_n 0, 1) := dk_42 (dk_at dksX1_most_2 0 rfl rfl)
theorem dX1_most_49 : decode cX1_most 49 = .ok (.invokevirtual 469, 3) := dk_182 1 213 (dk_at dksX1_most_2 1 rfl rfl)
theorem dX1_most_52 : decode cX1_most 52 = .ok (.ireturn, 1) := dk_172 (dk_at dksX1_most_2 4 rfl rfl)
theorem dX1_most_53 : decode cX1_most 53 = .ok (.aload_n 0, 1) := dk_42 (dk_at dksX1_most_2 5 rfl rfl)
theorem dX1_most_54 : decode cX1_most 54 = .ok (.invokevirtual 472, 3) := dk_182 1 216 (dk_at dksX1_most_2 6 rfl rfl)
theorem dX1_most_57 : decode cX1_most 57 = .ok (.ireturn, 1) := dk_172 (dk_at dksX1_most_2 9 rfl rfl)
theorem dX1_most_58 : decode cX1_most 58 = .ok (.aload_n 0, 1) := dk_42 (dk_at dksX1_most_2 10 rfl rfl)
theorem dX1_most_59 : decode cX1_most 59 = .ok (.invokevirtual 475, 3) := dk_182 1 219 (dk_at dksX1_most_2 11 rfl rfl)
theorem dX1_most_62 : decode cX1_most 62 = .ok (.ireturn, 1) := dk_172 (dk_at dksX1_most_2 14 rfl rfl)
theorem dX1_most_63 : decode cX1_most 63 = .ok (.aload_n 0, 1) := dk_42 (dk_at dksX1_most_2 15 rfl rfl)
theorem dX1_most_64 : decode cX1_most 64 = .ok (.invokevirtual 478, 3) := dk_182 1 222 (dk_at dksX1_most_2 16 rfl rfl)
theorem dX1_most_67 : decode cX1_most 67 = .ok (.ireturn, 1) := dk_172 (dk_at dksX1_most_2 19 rfl rfl)
theorem dX1_most_68 : decode cX1_most 68 = .ok (.aload_n 0, 1) := dk_42 (dk_at dksX1_most_2 20 rfl rfl)
theorem dX1_most_69 : decode cX1_most 69 = .ok (.getfield 59, 3) := dk_180 0 59 (dk_at dksX1_most_2 21 rfl rfl)
theorem dX1_most_72 : decode cX1_most 72 = .ok (.invokevirtual 339, 3) := dk_182 1 83 (dk_at dksX1_most_3 0 rfl rfl)
theorem dX1_most_75 : decode cX1_most 75 = .ok (.ireturn, 1) := dk_172 (dk_at dksX1_most_3 3 rfl rfl)
theorem dX1_most_76 : decode cX1_most 76 = .ok (.aload_n 0, 1) := dk_42 (dk_at dksX1_most_3 4 rfl rfl)
theorem dX1_most_77 : decode cX1_most 77 = .ok (.invokevirtual 481, 3) := dk_182 1 225 (dk_at dksX1_most_3 5 rfl rfl)
theorem dX1_most_80 : decode cX1_most 80 = .ok (.ireturn, 1) := dk_172 (dk_at dksX1_most_3 8 rfl rfl)
theorem dX1_most_81 : decode cX1_most 81 = .ok (.ldc 146, 2) := dk_18 146 (dk_at dksX1_most_3 9 rfl rfl)
theorem dX1_most_83 : decode cX1_most 83 = .ok (.ireturn, 1) := dk_172 (dk_at dksX1_most_3 11 rfl rfl)
abbrev cX1_greatestRows : ByteArray := prog_1_method_72_code
def yX1_greatestRows : MethodName := ⟨RX1, "greatestRows", "()I"⟩
def dkwX1_greatestRows_1 : List UInt8 := [27, 182, 0, 218, 180, 0, 222, 164, 0, 7, 28, 167, 0, 4, 27, 60, 132, 2, 1, 167, 255, 217, 27, 172]
abbrev dktX1_greatestRows_1 : List UInt8 := dkwX1_greatestRows_1 ++ []
def dkwX1_greatestRows_0 : List UInt8 := [3, 60, 4, 61, 28, 42, 180, 0, 93, 180, 0, 139, 162, 0, 34, 42, 28, 182, 0, 218, 180, 0, 222, 42]
abbrev dktX1_greatestRows_0 : List UInt8 := dkwX1_greatestRows_0 ++ dktX1_greatestRows_1
theorem dksX1_greatestRows_0 : cX1_greatestRows.data.toList.drop 0 = dktX1_greatestRows_0 := by decide +kernel
theorem dksX1_greatestRows_1 : cX1_greatestRows.data.toList.drop 24 = dktX1_greatestRows_1 := dk_seg dksX1_greatestRows_0 24 rfl rfl
theorem dX1_greatestRows_0 : decode cX1_greatestRows 0 = .ok (.iconst 0, 1) := dk_3 (dk_at dksX1_greatestRows_0 0 rfl rfl)
theorem dX1_greatestRows_1 : decode cX1_greatestRows 1 = .ok (.istore_n 1, 1) := dk_60 (dk_at dksX1_greatestRows_0 1 rfl rfl)
theorem dX1_greatestRows_2 : decode cX1_greatestRows 2 = .ok (.iconst 1, 1) := dk_4 (dk_at dksX1_greatestRows_0 2 rfl rfl)
theorem dX1_greatestRows_3 : decode cX1_greatestRows 3 = .ok (.istore_n 2, 1) := dk_61 (dk_at dksX1_greatestRows_0 3 rfl rfl)
theorem dX1_greatestRows_4 : decode cX1_greatestRows 4 = .ok (.iload_n 2, 1) := dk_28 (dk_at dksX1_greatestRows_0 4 rfl rfl)
theorem dX1_greatestRows_5 : decode cX1_greatestRows 5 = .ok (.aload_n 0, 1) := dk_42 (dk_at dksX1_greatestRows_0 5 rfl rfl)
theorem dX1_greatestRows_6 : decode cX1_greatestRows 6 = .ok (.getfield 93, 3) := dk_180 0 93 (dk_at dksX1_greatestRows_0 6 rfl rfl)
theorem dX1_greatestRows_9 : decode cX1_greatestRows 9 = .ok (.getfield 139, 3) := dk_180 0 139 (dk_at dksX1_greatestRows_0 9 rfl rfl)
theorem dX1_greatestRows_12 : decode cX1_greatestRows 12 = .ok (.if_icmp .ge 34, 3) := dk_162 0 34 (dk_at dksX1_greatestRows_0 12 rfl rfl)
theorem dX1_greatestRows_15 : decode cX1_greatestRows 15 = .ok (.aload_n 0, 1) := dk_42 (dk_at dksX1_greatestRows_0 15 rfl rfl)
theorem dX1_greatestRows_16 : decode cX1_greatestRows 16 = .ok (.iload_n 2, 1) := dk_28 (dk_at dksX1_greatestRows_0 16 rfl rfl)
theorem dX1_greatestRows_17 : decode cX1_greatestRows 17 = .ok (.invokevirtual 218, 3) := dk_182 0 218 (dk_at dksX1_greatestRows_0 17 rfl rfl)
theorem dX1_greatestRows_20 : decode cX1_greatestRows 20 = .ok (.getfield 222, 3) := dk_180 0 222 (dk_at dksX1_greatestRows_0 20 rfl rfl)
theorem dX1_greatestRows_23 : decode cX1_greatestRows 23 = .ok (.aload_n 0, 1) := dk_42 (dk_at dksX1_greatestRows_0 23 rfl rfl)
theorem dX1_greatestRows_24 : decode cX1_greatestRows 24 = .ok (.iload_n 1, 1) := dk_27 (dk_at dksX1_greatestRows_1 0 rfl rfl)
theorem dX1_greatestRows_25 : decode cX1_greatestRows 25 = .ok (.invokevirtual 218, 3) := dk_182 0 218 (dk_at dksX1_greatestRows_1 1 rfl rfl)
theorem dX1_greatestRows_28 : decode cX1_greatestRows 28 = .ok (.getfield 222, 3) := dk_180 0 222 (dk_at dksX1_greatestRows_1 4 rfl rfl)
theorem dX1_greatestRows_31 : decode cX1_greatestRows 31 = .ok (.if_icmp .le 7, 3) := dk_164 0 7 (dk_at dksX1_greatestRows_1 7 rfl rfl)
theorem dX1_greatestRows_34 : decode cX1_greatestRows 34 = .ok (.iload_n 2, 1) := dk_28 (dk_at dksX1_greatestRows_1 10 rfl rfl)
theorem dX1_greatestRows_35 : decode cX1_greatestRows 35 = .ok (.goto 4, 3) := dk_167 0 4 (dk_at dksX1_greatestRows_1 11 rfl rfl)
theorem dX1_greatestRows_38 : decode cX1_greatestRows 38 = .ok (.iload_n 1, 1) := dk_27 (dk_at dksX1_greatestRows_1 14 rfl rfl)
theorem dX1_greatestRows_39 : decode cX1_greatestRows 39 = .ok (.istore_n 1, 1) := dk_60 (dk_at dksX1_greatestRows_1 15 rfl rfl)
theorem dX1_greatestRows_40 : decode cX1_greatestRows 40 = .ok (.iinc 2 1, 3) := dk_132 2 1 (dk_at dksX1_greatestRows_1 16 rfl rfl)
theorem dX1_greatestRows_43 : decode cX1_greatestRows 43 = .ok (.goto (-39), 3) := dk_167 255 217 (dk_at dksX1_greatestRows_1 19 rfl rfl)
theorem dX1_greatestRows_46 : decode cX1_greatestRows 46 = .ok (.iload_n 1, 1) := dk_27 (dk_at dksX1_greatestRows_1 22 rfl rfl)
theorem dX1_greatestRows_47 : decode cX1_greatestRows 47 = .ok (.ireturn, 1) := dk_172 (dk_at dksX1_greatestRows_1 23 rfl rfl)
abbrev cX1_mostDrifted : ByteArray := prog_1_method_69_code
def yX1_mostDrifted : MethodName := ⟨RX1, "mostDrifted", "()I"⟩
def dkwX1_mostDrifted_3 : List UInt8 := [132, 2, 1, 167, 255, 187, 27, 172]
abbrev dktX1_mostDrifted_3 : List UInt8 := dkwX1_mostDrifted_3 ++ []
def dkwX1_mostDrifted_2 : List UInt8 := [16, 10, 112, 50, 180, 1, 6, 164, 0, 10, 16, 10, 28, 104, 29, 96, 60, 132, 3, 1, 167, 255, 206]
abbrev dktX1_mostDrifted_2 : List UInt8 := dkwX1_mostDrifted_2 ++ dktX1_mostDrifted_3
def dkwX1_mostDrifted_1 : List UInt8 := [182, 0, 218, 180, 0, 242, 29, 50, 180, 1, 6, 42, 27, 16, 10, 108, 182, 0, 218, 180, 0, 242, 27]
abbrev dktX1_mostDrifted_1 : List UInt8 := dkwX1_mostDrifted_1 ++ dktX1_mostDrifted_2
def dkwX1_mostDrifted_0 : List UInt8 := [3, 60, 3, 61, 28, 42, 180, 0, 93, 180, 0, 139, 162, 0, 64, 3, 62, 29, 5, 162, 0, 51, 42, 28]
abbrev dktX1_mostDrifted_0 : List UInt8 := dkwX1_mostDrifted_0 ++ dktX1_mostDrifted_1
theorem dksX1_mostDrifted_0 : cX1_mostDrifted.data.toList.drop 0 = dktX1_mostDrifted_0 := by decide +kernel
theorem dksX1_mostDrifted_1 : cX1_mostDrifted.data.toList.drop 24 = dktX1_mostDrifted_1 := dk_seg dksX1_mostDrifted_0 24 rfl rfl
theorem dksX1_mostDrifted_2 : cX1_mostDrifted.data.toList.drop 47 = dktX1_mostDrifted_2 := dk_seg dksX1_mostDrifted_1 23 rfl rfl
theorem dksX1_mostDrifted_3 : cX1_mostDrifted.data.toList.drop 70 = dktX1_mostDrifted_3 := dk_seg dksX1_mostDrifted_2 23 rfl rfl
theorem dX1_mostDrifted_0 : decode cX1_mostDrifted 0 = .ok (.iconst 0, 1) := dk_3 (dk_at dksX1_mostDrifted_0 0 rfl rfl)
theorem dX1_mostDrifted_1 : decode cX1_mostDrifted 1 = .ok (.istore_n 1, 1) := dk_60 (dk_at dksX1_mostDrifted_0 1 rfl rfl)
theorem dX1_mostDrifted_2 : decode cX1_mostDrifted 2 = .ok (.iconst 0, 1) := dk_3 (dk_at dksX1_mostDrifted_0 2 rfl rfl)
theorem dX1_mostDrifted_3 : decode cX1_mostDrifted 3 = .ok (.istore_n 2, 1) := dk_61 (dk_at dksX1_mostDrifted_0 3 rfl rfl)
theorem dX1_mostDrifted_4 : decode cX1_mostDrifted 4 = .ok (.iload_n 2, 1) := dk_28 (dk_at dksX1_mostDrifted_0 4 rfl rfl)
theorem dX1_mostDrifted_5 : decode cX1_mostDrifted 5 = .ok (.aload_n 0, 1) := dk_42 (dk_at dksX1_mostDrifted_0 5 rfl rfl)
theorem dX1_mostDrifted_6 : decode cX1_mostDrifted 6 = .ok (.getfield 93, 3) := dk_180 0 93 (dk_at dksX1_mostDrifted_0 6 rfl rfl)
theorem dX1_mostDrifted_9 : decode cX1_mostDrifted 9 = .ok (.getfield 139, 3) := dk_180 0 139 (dk_at dksX1_mostDrifted_0 9 rfl rfl)
theorem dX1_mostDrifted_12 : decode cX1_mostDrifted 12 = .ok (.if_icmp .ge 64, 3) := dk_162 0 64 (dk_at dksX1_mostDrifted_0 12 rfl rfl)
theorem dX1_mostDrifted_15 : decode cX1_mostDrifted 15 = .ok (.iconst 0, 1) := dk_3 (dk_at dksX1_mostDrifted_0 15 rfl rfl)
theorem dX1_mostDrifted_16 : decode cX1_mostDrifted 16 = .ok (.istore_n 3, 1) := dk_62 (dk_at dksX1_mostDrifted_0 16 rfl rfl)
theorem dX1_mostDrifted_17 : decode cX1_mostDrifted 17 = .ok (.iload_n 3, 1) := dk_29 (dk_at dksX1_mostDrifted_0 17 rfl rfl)
theorem dX1_mostDrifted_18 : decode cX1_mostDrifted 18 = .ok (.iconst 2, 1) := dk_5 (dk_at dksX1_mostDrifted_0 18 rfl rfl)
theorem dX1_mostDrifted_19 : decode cX1_mostDrifted 19 = .ok (.if_icmp .ge 51, 3) := dk_162 0 51 (dk_at dksX1_mostDrifted_0 19 rfl rfl)
theorem dX1_mostDrifted_22 : decode cX1_mostDrifted 22 = .ok (.aload_n 0, 1) := dk_42 (dk_at dksX1_mostDrifted_0 22 rfl rfl)
theorem dX1_mostDrifted_23 : decode cX1_mostDrifted 23 = .ok (.iload_n 2, 1) := dk_28 (dk_at dksX1_mostDrifted_0 23 rfl rfl)
theorem dX1_mostDrifted_24 : decode cX1_mostDrifted 24 = .ok (.invokevirtual 218, 3) := dk_182 0 218 (dk_at dksX1_mostDrifted_1 0 rfl rfl)
theorem dX1_mostDrifted_27 : decode cX1_mostDrifted 27 = .ok (.getfield 242, 3) := dk_180 0 242 (dk_at dksX1_mostDrifted_1 3 rfl rfl)
theorem dX1_mostDrifted_30 : decode cX1_mostDrifted 30 = .ok (.iload_n 3, 1) := dk_29 (dk_at dksX1_mostDrifted_1 6 rfl rfl)
theorem dX1_mostDrifted_31 : decode cX1_mostDrifted 31 = .ok (.aaload, 1) := dk_50 (dk_at dksX1_mostDrifted_1 7 rfl rfl)
theorem dX1_mostDrifted_32 : decode cX1_mostDrifted 32 = .ok (.getfield 262, 3) := dk_180 1 6 (dk_at dksX1_mostDrifted_1 8 rfl rfl)
theorem dX1_mostDrifted_35 : decode cX1_mostDrifted 35 = .ok (.aload_n 0, 1) := dk_42 (dk_at dksX1_mostDrifted_1 11 rfl rfl)
theorem dX1_mostDrifted_36 : decode cX1_mostDrifted 36 = .ok (.iload_n 1, 1) := dk_27 (dk_at dksX1_mostDrifted_1 12 rfl rfl)
theorem dX1_mostDrifted_37 : decode cX1_mostDrifted 37 = .ok (.bipush 10, 2) := dk_16 10 (dk_at dksX1_mostDrifted_1 13 rfl rfl)
theorem dX1_mostDrifted_39 : decode cX1_mostDrifted 39 = .ok (.idiv, 1) := dk_108 (dk_at dksX1_mostDrifted_1 15 rfl rfl)
theorem dX1_mostDrifted_40 : decode cX1_mostDrifted 40 = .ok (.invokevirtual 218, 3) := dk_182 0 218 (dk_at dksX1_mostDrifted_1 16 rfl rfl)
theorem dX1_mostDrifted_43 : decode cX1_mostDrifted 43 = .ok (.getfield 242, 3) := dk_180 0 242 (dk_at dksX1_mostDrifted_1 19 rfl rfl)
theorem dX1_mostDrifted_46 : decode cX1_mostDrifted 46 = .ok (.iload_n 1, 1) := dk_27 (dk_at dksX1_mostDrifted_1 22 rfl rfl)
theorem dX1_mostDrifted_47 : decode cX1_mostDrifted 47 = .ok (.bipush 10, 2) := dk_16 10 (dk_at dksX1_mostDrifted_2 0 rfl rfl)
theorem dX1_mostDrifted_49 : decode cX1_mostDrifted 49 = .ok (.irem, 1) := dk_112 (dk_at dksX1_mostDrifted_2 2 rfl rfl)
theorem dX1_mostDrifted_50 : decode cX1_mostDrifted 50 = .ok (.aaload, 1) := dk_50 (dk_at dksX1_mostDrifted_2 3 rfl rfl)
theorem dX1_mostDrifted_51 : decode cX1_mostDrifted 51 = .ok (.getfield 262, 3) := dk_180 1 6 (dk_at dksX1_mostDrifted_2 4 rfl rfl)
theorem dX1_mostDrifted_54 : decode cX1_mostDrifted 54 = .ok (.if_icmp .le 10, 3) := dk_164 0 10 (dk_at dksX1_mostDrifted_2 7 rfl rfl)
theorem dX1_mostDrifted_57 : decode cX1_mostDrifted 57 = .ok (.bipush 10, 2) := dk_16 10 (dk_at dksX1_mostDrifted_2 10 rfl rfl)
theorem dX1_mostDrifted_59 : decode cX1_mostDrifted 59 = .ok (.iload_n 2, 1) := dk_28 (dk_at dksX1_mostDrifted_2 12 rfl rfl)
theorem dX1_mostDrifted_60 : decode cX1_mostDrifted 60 = .ok (.imul, 1) := dk_104 (dk_at dksX1_mostDrifted_2 13 rfl rfl)
theorem dX1_mostDrifted_61 : decode cX1_mostDrifted 61 = .ok (.iload_n 3, 1) := dk_29 (dk_at dksX1_mostDrifted_2 14 rfl rfl)
theorem dX1_mostDrifted_62 : decode cX1_mostDrifted 62 = .ok (.iadd, 1) := dk_96 (dk_at dksX1_mostDrifted_2 15 rfl rfl)
theorem dX1_mostDrifted_63 : decode cX1_mostDrifted 63 = .ok (.istore_n 1, 1) := dk_60 (dk_at dksX1_mostDrifted_2 16 rfl rfl)
theorem dX1_mostDrifted_64 : decode cX1_mostDrifted 64 = .ok (.iinc 3 1, 3) := dk_132 3 1 (dk_at dksX1_mostDrifted_2 17 rfl rfl)
theorem dX1_mostDrifted_67 : decode cX1_mostDrifted 67 = .ok (.goto (-50), 3) := dk_167 255 206 (dk_at dksX1_mostDrifted_2 20 rfl rfl)
theorem dX1_mostDrifted_70 : decode cX1_mostDrifted 70 = .ok (.iinc 2 1, 3) := dk_132 2 1 (dk_at dksX1_mostDrifted_3 0 rfl rfl)
theorem dX1_mostDrifted_73 : decode cX1_mostDrifted 73 = .ok (.goto (-69), 3) := dk_167 255 187 (dk_at dksX1_mostDrifted_3 3 rfl rfl)
theorem dX1_mostDrifted_76 : decode cX1_mostDrifted 76 = .ok (.iload_n 1, 1) := dk_27 (dk_at dksX1_mostDrifted_3 6 rfl rfl)
theorem dX1_mostDrifted_77 : decode cX1_mostDrifted 77 = .ok (.ireturn, 1) := dk_172 (dk_at dksX1_mostDrifted_3 7 rfl rfl)
abbrev cX1_greatestTotal : ByteArray := prog_1_method_70_code
def yX1_greatestTotal : MethodName := ⟨RX1, "greatestTotal", "()I"⟩
def dkwX1_greatestTotal_3 : List UInt8 := [184, 1, 204, 60, 132, 7, 1, 167, 255, 227, 132, 5, 1, 167, 255, 205, 132, 2, 1, 167, 255, 172, 27, 172]
abbrev dktX1_greatestTotal_3 : List UInt8 := dkwX1_greatestTotal_3 ++ []
def dkwX1_greatestTotal_2 : List UInt8 := [21, 7, 25, 6, 180, 0, 246, 162, 0, 25, 27, 25, 6, 180, 0, 249, 21, 7, 50, 180, 1, 151]
abbrev dktX1_greatestTotal_2 : List UInt8 := dkwX1_greatestTotal_2 ++ dktX1_greatestTotal_3
def dkwX1_greatestTotal_1 : List UInt8 := [45, 190, 54, 4, 3, 54, 5, 21, 5, 21, 4, 162, 0, 50, 45, 21, 5, 50, 58, 6, 3, 54, 7]
abbrev dktX1_greatestTotal_1 : List UInt8 := dkwX1_greatestTotal_1 ++ dktX1_greatestTotal_2
def dkwX1_greatestTotal_0 : List UInt8 := [3, 60, 3, 61, 28, 42, 180, 0, 93, 180, 0, 139, 162, 0, 79, 42, 28, 182, 0, 218, 180, 0, 242, 78]
abbrev dktX1_greatestTotal_0 : List UInt8 := dkwX1_greatestTotal_0 ++ dktX1_greatestTotal_1
theorem dksX1_greatestTotal_0 : cX1_greatestTotal.data.toList.drop 0 = dktX1_greatestTotal_0 := by decide +kernel
theorem dksX1_greatestTotal_1 : cX1_greatestTotal.data.toList.drop 24 = dktX1_greatestTotal_1 := dk_seg dksX1_greatestTotal_0 24 rfl rfl
theorem dksX1_greatestTotal_2 : cX1_greatestTotal.data.toList.drop 47 = dktX1_greatestTotal_2 := dk_seg dksX1_greatestTotal_1 23 rfl rfl
theorem dksX1_greatestTotal_3 : cX1_greatestTotal.data.toList.drop 69 = dktX1_greatestTotal_3 := dk_seg dksX1_greatestTotal_2 22 rfl rfl
theorem dX1_greatestTotal_0 : decode cX1_greatestTotal 0 = .ok (.iconst 0, 1) := dk_3 (dk_at dksX1_greatestTotal_0 0 rfl rfl)
theorem dX1_greatestTotal_1 : decode cX1_greatestTotal 1 = .ok (.istore_n 1, 1) := dk_60 (dk_at dksX1_greatestTotal_0 1 rfl rfl)
theorem dX1_greatestTotal_2 : decode cX1_greatestTotal 2 = .ok (.iconst 0, 1) := dk_3 (dk_at dksX1_greatestTotal_0 2 rfl rfl)
theorem dX1_greatestTotal_3 : decode cX1_greatestTotal 3 = .ok (.istore_n 2, 1) := dk_61 (dk_at dksX1_greatestTotal_0 3 rfl rfl)
theorem dX1_greatestTotal_4 : decode cX1_greatestTotal 4 = .ok (.iload_n 2, 1) := dk_28 (dk_at dksX1_greatestTotal_0 4 rfl rfl)
theorem dX1_greatestTotal_5 : decode cX1_greatestTotal 5 = .ok (.aload_n 0, 1) := dk_42 (dk_at dksX1_greatestTotal_0 5 rfl rfl)
theorem dX1_greatestTotal_6 : decode cX1_greatestTotal 6 = .ok (.getfield 93, 3) := dk_180 0 93 (dk_at dksX1_greatestTotal_0 6 rfl rfl)
theorem dX1_greatestTotal_9 : decode cX1_greatestTotal 9 = .ok (.getfield 139, 3) := dk_180 0 139 (dk_at dksX1_greatestTotal_0 9 rfl rfl)
theorem dX1_greatestTotal_12 : decode cX1_greatestTotal 12 = .ok (.if_icmp .ge 79, 3) := dk_162 0 79 (dk_at dksX1_greatestTotal_0 12 rfl rfl)
theorem dX1_greatestTotal_15 : decode cX1_greatestTotal 15 = .ok (.aload_n 0, 1) := dk_42 (dk_at dksX1_greatestTotal_0 15 rfl rfl)
theorem dX1_greatestTotal_16 : decode cX1_greatestTotal 16 = .ok (.iload_n 2, 1) := dk_28 (dk_at dksX1_greatestTotal_0 16 rfl rfl)
theorem dX1_greatestTotal_17 : decode cX1_greatestTotal 17 = .ok (.invokevirtual 218, 3) := dk_182 0 218 (dk_at dksX1_greatestTotal_0 17 rfl rfl)
theorem dX1_greatestTotal_20 : decode cX1_greatestTotal 20 = .ok (.getfield 242, 3) := dk_180 0 242 (dk_at dksX1_greatestTotal_0 20 rfl rfl)
theorem dX1_greatestTotal_23 : decode cX1_greatestTotal 23 = .ok (.astore_n 3, 1) := dk_78 (dk_at dksX1_greatestTotal_0 23 rfl rfl)
theorem dX1_greatestTotal_24 : decode cX1_greatestTotal 24 = .ok (.aload_n 3, 1) := dk_45 (dk_at dksX1_greatestTotal_1 0 rfl rfl)
theorem dX1_greatestTotal_25 : decode cX1_greatestTotal 25 = .ok (.arraylength, 1) := dk_190 (dk_at dksX1_greatestTotal_1 1 rfl rfl)
theorem dX1_greatestTotal_26 : decode cX1_greatestTotal 26 = .ok (.istore 4, 2) := dk_54 4 (dk_at dksX1_greatestTotal_1 2 rfl rfl)
theorem dX1_greatestTotal_28 : decode cX1_greatestTotal 28 = .ok (.iconst 0, 1) := dk_3 (dk_at dksX1_greatestTotal_1 4 rfl rfl)
theorem dX1_greatestTotal_29 : decode cX1_greatestTotal 29 = .ok (.istore 5, 2) := dk_54 5 (dk_at dksX1_greatestTotal_1 5 rfl rfl)
theorem dX1_greatestTotal_31 : decode cX1_greatestTotal 31 = .ok (.iload 5, 2) := dk_21 5 (dk_at dksX1_greatestTotal_1 7 rfl rfl)
theorem dX1_greatestTotal_33 : decode cX1_greatestTotal 33 = .ok (.iload 4, 2) := dk_21 4 (dk_at dksX1_greatestTotal_1 9 rfl rfl)
theorem dX1_greatestTotal_35 : decode cX1_greatestTotal 35 = .ok (.if_icmp .ge 50, 3) := dk_162 0 50 (dk_at dksX1_greatestTotal_1 11 rfl rfl)
theorem dX1_greatestTotal_38 : decode cX1_greatestTotal 38 = .ok (.aload_n 3, 1) := dk_45 (dk_at dksX1_greatestTotal_1 14 rfl rfl)
theorem dX1_greatestTotal_39 : decode cX1_greatestTotal 39 = .ok (.iload 5, 2) := dk_21 5 (dk_at dksX1_greatestTotal_1 15 rfl rfl)
theorem dX1_greatestTotal_41 : decode cX1_greatestTotal 41 = .ok (.aaload, 1) := dk_50 (dk_at dksX1_greatestTotal_1 17 rfl rfl)
theorem dX1_greatestTotal_42 : decode cX1_greatestTotal 42 = .ok (.astore 6, 2) := dk_58 6 (dk_at dksX1_greatestTotal_1 18 rfl rfl)
theorem dX1_greatestTotal_44 : decode cX1_greatestTotal 44 = .ok (.iconst 0, 1) := dk_3 (dk_at dksX1_greatestTotal_1 20 rfl rfl)
theorem dX1_greatestTotal_45 : decode cX1_greatestTotal 45 = .ok (.istore 7, 2) := dk_54 7 (dk_at dksX1_greatestTotal_1 21 rfl rfl)
theorem dX1_greatestTotal_47 : decode cX1_greatestTotal 47 = .ok (.iload 7, 2) := dk_21 7 (dk_at dksX1_greatestTotal_2 0 rfl rfl)
theorem dX1_greatestTotal_49 : decode cX1_greatestTotal 49 = .ok (.aload 6, 2) := dk_25 6 (dk_at dksX1_greatestTotal_2 2 rfl rfl)
theorem dX1_greatestTotal_51 : decode cX1_greatestTotal 51 = .ok (.getfield 246, 3) := dk_180 0 246 (dk_at dksX1_greatestTotal_2 4 rfl rfl)
theorem dX1_greatestTotal_54 : decode cX1_greatestTotal 54 = .ok (.if_icmp .ge 25, 3) := dk_162 0 25 (dk_at dksX1_greatestTotal_2 7 rfl rfl)
theorem dX1_greatestTotal_57 : decode cX1_greatestTotal 57 = .ok (.iload_n 1, 1) := dk_27 (dk_at dksX1_greatestTotal_2 10 rfl rfl)
theorem dX1_greatestTotal_58 : decode cX1_greatestTotal 58 = .ok (.aload 6, 2) := dk_25 6 (dk_at dksX1_greatestTotal_2 11 rfl rfl)
theorem dX1_greatestTotal_60 : decode cX1_greatestTotal 60 = .ok (.getfield 249, 3) := dk_180 0 249 (dk_at dksX1_greatestTotal_2 13 rfl rfl)
theorem dX1_greatestTotal_63 : decode cX1_greatestTotal 63 = .ok (.iload 7, 2) := dk_21 7 (dk_at dksX1_greatestTotal_2 16 rfl rfl)
theorem dX1_greatestTotal_65 : decode cX1_greatestTotal 65 = .ok (.aaload, 1) := dk_50 (dk_at dksX1_greatestTotal_2 18 rfl rfl)
theorem dX1_greatestTotal_66 : decode cX1_greatestTotal 66 = .ok (.getfield 407, 3) := dk_180 1 151 (dk_at dksX1_greatestTotal_2 19 rfl rfl)
theorem dX1_greatestTotal_69 : decode cX1_greatestTotal 69 = .ok (.invokestatic 460, 3) := dk_184 1 204 (dk_at dksX1_greatestTotal_3 0 rfl rfl)
theorem dX1_greatestTotal_72 : decode cX1_greatestTotal 72 = .ok (.istore_n 1, 1) := dk_60 (dk_at dksX1_greatestTotal_3 3 rfl rfl)
theorem dX1_greatestTotal_73 : decode cX1_greatestTotal 73 = .ok (.iinc 7 1, 3) := dk_132 7 1 (dk_at dksX1_greatestTotal_3 4 rfl rfl)
theorem dX1_greatestTotal_76 : decode cX1_greatestTotal 76 = .ok (.goto (-29), 3) := dk_167 255 227 (dk_at dksX1_greatestTotal_3 7 rfl rfl)
theorem dX1_greatestTotal_79 : decode cX1_greatestTotal 79 = .ok (.iinc 5 1, 3) := dk_132 5 1 (dk_at dksX1_greatestTotal_3 10 rfl rfl)
theorem dX1_greatestTotal_82 : decode cX1_greatestTotal 82 = .ok (.goto (-51), 3) := dk_167 255 205 (dk_at dksX1_greatestTotal_3 13 rfl rfl)
theorem dX1_greatestTotal_85 : decode cX1_greatestTotal 85 = .ok (.iinc 2 1, 3) := dk_132 2 1 (dk_at dksX1_greatestTotal_3 16 rfl rfl)
theorem dX1_greatestTotal_88 : decode cX1_greatestTotal 88 = .ok (.goto (-84), 3) := dk_167 255 172 (dk_at dksX1_greatestTotal_3 19 rfl rfl)
theorem dX1_greatestTotal_91 : decode cX1_greatestTotal 91 = .ok (.iload_n 1, 1) := dk_27 (dk_at dksX1_greatestTotal_3 22 rfl rfl)
theorem dX1_greatestTotal_92 : decode cX1_greatestTotal 92 = .ok (.ireturn, 1) := dk_172 (dk_at dksX1_greatestTotal_3 23 rfl rfl)
abbrev cX1_mostAlike : ByteArray := prog_1_method_71_code
def yX1_mostAlike : MethodName := ⟨RX1, "mostAlike", "()I"⟩
def dkwX1_mostAlike_2 : List UInt8 := [184, 1, 204, 60, 132, 5, 1, 167, 255, 233, 132, 2, 1, 167, 255, 200, 27, 172]
abbrev dktX1_mostAlike_2 : List UInt8 := dkwX1_mostAlike_2 ++ []
def dkwX1_mostAlike_1 : List UInt8 := [45, 190, 54, 4, 3, 54, 5, 21, 5, 21, 4, 162, 0, 22, 45, 21, 5, 46, 54, 6, 27, 21, 6]
abbrev dktX1_mostAlike_1 : List UInt8 := dkwX1_mostAlike_1 ++ dktX1_mostAlike_2
def dkwX1_mostAlike_0 : List UInt8 := [3, 60, 3, 61, 28, 42, 180, 0, 93, 180, 0, 139, 162, 0, 51, 42, 28, 182, 0, 218, 180, 1, 207, 78]
abbrev dktX1_mostAlike_0 : List UInt8 := dkwX1_mostAlike_0 ++ dktX1_mostAlike_1
theorem dksX1_mostAlike_0 : cX1_mostAlike.data.toList.drop 0 = dktX1_mostAlike_0 := by decide +kernel
theorem dksX1_mostAlike_1 : cX1_mostAlike.data.toList.drop 24 = dktX1_mostAlike_1 := dk_seg dksX1_mostAlike_0 24 rfl rfl
theorem dksX1_mostAlike_2 : cX1_mostAlike.data.toList.drop 47 = dktX1_mostAlike_2 := dk_seg dksX1_mostAlike_1 23 rfl rfl
theorem dX1_mostAlike_0 : decode cX1_mostAlike 0 = .ok (.iconst 0, 1) := dk_3 (dk_at dksX1_mostAlike_0 0 rfl rfl)
theorem dX1_mostAlike_1 : decode cX1_mostAlike 1 = .ok (.istore_n 1, 1) := dk_60 (dk_at dksX1_mostAlike_0 1 rfl rfl)
theorem dX1_mostAlike_2 : decode cX1_mostAlike 2 = .ok (.iconst 0, 1) := dk_3 (dk_at dksX1_mostAlike_0 2 rfl rfl)
theorem dX1_mostAlike_3 : decode cX1_mostAlike 3 = .ok (.istore_n 2, 1) := dk_61 (dk_at dksX1_mostAlike_0 3 rfl rfl)
theorem dX1_mostAlike_4 : decode cX1_mostAlike 4 = .ok (.iload_n 2, 1) := dk_28 (dk_at dksX1_mostAlike_0 4 rfl rfl)
theorem dX1_mostAlike_5 : decode cX1_mostAlike 5 = .ok (.aload_n 0, 1) := dk_42 (dk_at dksX1_mostAlike_0 5 rfl rfl)
theorem dX1_mostAlike_6 : decode cX1_mostAlike 6 = .ok (.getfield 93, 3) := dk_180 0 93 (dk_at dksX1_mostAlike_0 6 rfl rfl)
theorem dX1_mostAlike_9 : decode cX1_mostAlike 9 = .ok (.getfield 139, 3) := dk_180 0 139 (dk_at dksX1_mostAlike_0 9 rfl rfl)
theorem dX1_mostAlike_12 : decode cX1_mostAlike 12 = .ok (.if_icmp .ge 51, 3) := dk_162 0 51 (dk_at dksX1_mostAlike_0 12 rfl rfl)
theorem dX1_mostAlike_15 : decode cX1_mostAlike 15 = .ok (.aload_n 0, 1) := dk_42 (dk_at dksX1_mostAlike_0 15 rfl rfl)
theorem dX1_mostAlike_16 : decode cX1_mostAlike 16 = .ok (.iload_n 2, 1) := dk_28 (dk_at dksX1_mostAlike_0 16 rfl rfl)
theorem dX1_mostAlike_17 : decode cX1_mostAlike 17 = .ok (.invokevirtual 218, 3) := dk_182 0 218 (dk_at dksX1_mostAlike_0 17 rfl rfl)
theorem dX1_mostAlike_20 : decode cX1_mostAlike 20 = .ok (.getfield 463, 3) := dk_180 1 207 (dk_at dksX1_mostAlike_0 20 rfl rfl)
theorem dX1_mostAlike_23 : decode cX1_mostAlike 23 = .ok (.astore_n 3, 1) := dk_78 (dk_at dksX1_mostAlike_0 23 rfl rfl)
theorem dX1_mostAlike_24 : decode cX1_mostAlike 24 = .ok (.aload_n 3, 1) := dk_45 (dk_at dksX1_mostAlike_1 0 rfl rfl)
theorem dX1_mostAlike_25 : decode cX1_mostAlike 25 = .ok (.arraylength, 1) := dk_190 (dk_at dksX1_mostAlike_1 1 rfl rfl)
theorem dX1_mostAlike_26 : decode cX1_mostAlike 26 = .ok (.istore 4, 2) := dk_54 4 (dk_at dksX1_mostAlike_1 2 rfl rfl)
theorem dX1_mostAlike_28 : decode cX1_mostAlike 28 = .ok (.iconst 0, 1) := dk_3 (dk_at dksX1_mostAlike_1 4 rfl rfl)
theorem dX1_mostAlike_29 : decode cX1_mostAlike 29 = .ok (.istore 5, 2) := dk_54 5 (dk_at dksX1_mostAlike_1 5 rfl rfl)
theorem dX1_mostAlike_31 : decode cX1_mostAlike 31 = .ok (.iload 5, 2) := dk_21 5 (dk_at dksX1_mostAlike_1 7 rfl rfl)
theorem dX1_mostAlike_33 : decode cX1_mostAlike 33 = .ok (.iload 4, 2) := dk_21 4 (dk_at dksX1_mostAlike_1 9 rfl rfl)
theorem dX1_mostAlike_35 : decode cX1_mostAlike 35 = .ok (.if_icmp .ge 22, 3) := dk_162 0 22 (dk_at dksX1_mostAlike_1 11 rfl rfl)
theorem dX1_mostAlike_38 : decode cX1_mostAlike 38 = .ok (.aload_n 3, 1) := dk_45 (dk_at dksX1_mostAlike_1 14 rfl rfl)
theorem dX1_mostAlike_39 : decode cX1_mostAlike 39 = .ok (.iload 5, 2) := dk_21 5 (dk_at dksX1_mostAlike_1 15 rfl rfl)
theorem dX1_mostAlike_41 : decode cX1_mostAlike 41 = .ok (.iaload, 1) := dk_46 (dk_at dksX1_mostAlike_1 17 rfl rfl)
theorem dX1_mostAlike_42 : decode cX1_mostAlike 42 = .ok (.istore 6, 2) := dk_54 6 (dk_at dksX1_mostAlike_1 18 rfl rfl)
theorem dX1_mostAlike_44 : decode cX1_mostAlike 44 = .ok (.iload_n 1, 1) := dk_27 (dk_at dksX1_mostAlike_1 20 rfl rfl)
theorem dX1_mostAlike_45 : decode cX1_mostAlike 45 = .ok (.iload 6, 2) := dk_21 6 (dk_at dksX1_mostAlike_1 21 rfl rfl)
theorem dX1_mostAlike_47 : decode cX1_mostAlike 47 = .ok (.invokestatic 460, 3) := dk_184 1 204 (dk_at dksX1_mostAlike_2 0 rfl rfl)
theorem dX1_mostAlike_50 : decode cX1_mostAlike 50 = .ok (.istore_n 1, 1) := dk_60 (dk_at dksX1_mostAlike_2 3 rfl rfl)
theorem dX1_mostAlike_51 : decode cX1_mostAlike 51 = .ok (.iinc 5 1, 3) := dk_132 5 1 (dk_at dksX1_mostAlike_2 4 rfl rfl)
theorem dX1_mostAlike_54 : decode cX1_mostAlike 54 = .ok (.goto (-23), 3) := dk_167 255 233 (dk_at dksX1_mostAlike_2 7 rfl rfl)
theorem dX1_mostAlike_57 : decode cX1_mostAlike 57 = .ok (.iinc 2 1, 3) := dk_132 2 1 (dk_at dksX1_mostAlike_2 10 rfl rfl)
theorem dX1_mostAlike_60 : decode cX1_mostAlike 60 = .ok (.goto (-56), 3) := dk_167 255 200 (dk_at dksX1_mostAlike_2 13 rfl rfl)
theorem dX1_mostAlike_63 : decode cX1_mostAlike 63 = .ok (.iload_n 1, 1) := dk_27 (dk_at dksX1_mostAlike_2 16 rfl rfl)
theorem dX1_mostAlike_64 : decode cX1_mostAlike 64 = .ok (.ireturn, 1) := dk_172 (dk_at dksX1_mostAlike_2 17 rfl rfl)
abbrev cX1_commonest : ByteArray := prog_1_method_74_code
def yX1_commonest : MethodName := ⟨RX1, "commonest", "()I"⟩
def dkwX1_commonest_1 : List UInt8 := [167, 0, 4, 27, 60, 132, 2, 1, 167, 255, 228, 27, 172]
abbrev dktX1_commonest_1 : List UInt8 := dkwX1_commonest_1 ++ []
def dkwX1_commonest_0 : List UInt8 := [3, 60, 4, 61, 28, 16, 16, 162, 0, 28, 42, 28, 182, 1, 210, 42, 27, 182, 1, 210, 164, 0, 7, 28]
abbrev dktX1_commonest_0 : List UInt8 := dkwX1_commonest_0 ++ dktX1_commonest_1
theorem dksX1_commonest_0 : cX1_commonest.data.toList.drop 0 = dktX1_commonest_0 := by decide +kernel
theorem dksX1_commonest_1 : cX1_commonest.data.toList.drop 24 = dktX1_commonest_1 := dk_seg dksX1_commonest_0 24 rfl rfl
theorem dX1_commonest_0 : decode cX1_commonest 0 = .ok (.iconst 0, 1) := dk_3 (dk_at dksX1_commonest_0 0 rfl rfl)
theorem dX1_commonest_1 : decode cX1_commonest 1 = .ok (.istore_n 1, 1) := dk_60 (dk_at dksX1_commonest_0 1 rfl rfl)
theorem dX1_commonest_2 : decode cX1_commonest 2 = .ok (.iconst 1, 1) := dk_4 (dk_at dksX1_commonest_0 2 rfl rfl)
theorem dX1_commonest_3 : decode cX1_commonest 3 = .ok (.istore_n 2, 1) := dk_61 (dk_at dksX1_commonest_0 3 rfl rfl)
theorem dX1_commonest_4 : decode cX1_commonest 4 = .ok (.iload_n 2, 1) := dk_28 (dk_at dksX1_commonest_0 4 rfl rfl)
theorem dX1_commonest_5 : decode cX1_commonest 5 = .ok (.bipush 16, 2) := dk_16 16 (dk_at dksX1_commonest_0 5 rfl rfl)
theorem dX1_commonest_7 : decode cX1_commonest 7 = .ok (.if_icmp .ge 28, 3) := dk_162 0 28 (dk_at dksX1_commonest_0 7 rfl rfl)
theorem dX1_commonest_10 : decode cX1_commonest 10 = .ok (.aload_n 0, 1) := dk_42 (dk_at dksX1_commonest_0 10 rfl rfl)
theorem dX1_commonest_11 : decode cX1_commonest 11 = .ok (.iload_n 2, 1) := dk_28 (dk_at dksX1_commonest_0 11 rfl rfl)
theorem dX1_commonest_12 : decode cX1_commonest 12 = .ok (.invokevirtual 466, 3) := dk_182 1 210 (dk_at dksX1_commonest_0 12 rfl rfl)
theorem dX1_commonest_15 : decode cX1_commonest 15 = .ok (.aload_n 0, 1) := dk_42 (dk_at dksX1_commonest_0 15 rfl rfl)
theorem dX1_commonest_16 : decode cX1_commonest 16 = .ok (.iload_n 1, 1) := dk_27 (dk_at dksX1_commonest_0 16 rfl rfl)
theorem dX1_commonest_17 : decode cX1_commonest 17 = .ok (.invokevirtual 466, 3) := dk_182 1 210 (dk_at dksX1_commonest_0 17 rfl rfl)
theorem dX1_commonest_20 : decode cX1_commonest 20 = .ok (.if_icmp .le 7, 3) := dk_164 0 7 (dk_at dksX1_commonest_0 20 rfl rfl)
theorem dX1_commonest_23 : decode cX1_commonest 23 = .ok (.iload_n 2, 1) := dk_28 (dk_at dksX1_commonest_0 23 rfl rfl)
theorem dX1_commonest_24 : decode cX1_commonest 24 = .ok (.goto 4, 3) := dk_167 0 4 (dk_at dksX1_commonest_1 0 rfl rfl)
theorem dX1_commonest_27 : decode cX1_commonest 27 = .ok (.iload_n 1, 1) := dk_27 (dk_at dksX1_commonest_1 3 rfl rfl)
theorem dX1_commonest_28 : decode cX1_commonest 28 = .ok (.istore_n 1, 1) := dk_60 (dk_at dksX1_commonest_1 4 rfl rfl)
theorem dX1_commonest_29 : decode cX1_commonest 29 = .ok (.iinc 2 1, 3) := dk_132 2 1 (dk_at dksX1_commonest_1 5 rfl rfl)
theorem dX1_commonest_32 : decode cX1_commonest 32 = .ok (.goto (-28), 3) := dk_167 255 228 (dk_at dksX1_commonest_1 8 rfl rfl)
theorem dX1_commonest_35 : decode cX1_commonest 35 = .ok (.iload_n 1, 1) := dk_27 (dk_at dksX1_commonest_1 11 rfl rfl)
theorem dX1_commonest_36 : decode cX1_commonest 36 = .ok (.ireturn, 1) := dk_172 (dk_at dksX1_commonest_1 12 rfl rfl)
abbrev cX1_countedMost : ByteArray := prog_1_method_73_code
def yX1_countedMost : MethodName := ⟨RX1, "countedMost", "(I)I"⟩
def dkwX1_countedMost_2 : List UInt8 := [184, 1, 204, 61, 132, 4, 1, 167, 255, 219, 132, 3, 1, 167, 255, 199, 28, 172]
abbrev dktX1_countedMost_2 : List UInt8 := dkwX1_countedMost_2 ++ []
def dkwX1_countedMost_1 : List UInt8 := [27, 42, 29, 182, 0, 218, 180, 0, 164, 162, 0, 19, 28, 42, 29, 182, 0, 218, 21, 4, 27, 182, 0, 167]
abbrev dktX1_countedMost_1 : List UInt8 := dkwX1_countedMost_1 ++ dktX1_countedMost_2
def dkwX1_countedMost_0 : List UInt8 := [3, 61, 3, 62, 29, 42, 180, 0, 93, 180, 0, 139, 162, 0, 52, 3, 54, 4, 21, 4, 5, 162, 0, 37]
abbrev dktX1_countedMost_0 : List UInt8 := dkwX1_countedMost_0 ++ dktX1_countedMost_1
theorem dksX1_countedMost_0 : cX1_countedMost.data.toList.drop 0 = dktX1_countedMost_0 := by decide +kernel
theorem dksX1_countedMost_1 : cX1_countedMost.data.toList.drop 24 = dktX1_countedMost_1 := dk_seg dksX1_countedMost_0 24 rfl rfl
theorem dksX1_countedMost_2 : cX1_countedMost.data.toList.drop 48 = dktX1_countedMost_2 := dk_seg dksX1_countedMost_1 24 rfl rfl
theorem dX1_countedMost_0 : decode cX1_countedMost 0 = .ok (.iconst 0, 1) := dk_3 (dk_at dksX1_countedMost_0 0 rfl rfl)
theorem dX1_countedMost_1 : decode cX1_countedMost 1 = .ok (.istore_n 2, 1) := dk_61 (dk_at dksX1_countedMost_0 1 rfl rfl)
theorem dX1_countedMost_2 : decode cX1_countedMost 2 = .ok (.iconst 0, 1) := dk_3 (dk_at dksX1_countedMost_0 2 rfl rfl)
theorem dX1_countedMost_3 : decode cX1_countedMost 3 = .ok (.istore_n 3, 1) := dk_62 (dk_at dksX1_countedMost_0 3 rfl rfl)
theorem dX1_countedMost_4 : decode cX1_countedMost 4 = .ok (.iload_n 3, 1) := dk_29 (dk_at dksX1_countedMost_0 4 rfl rfl)
theorem dX1_countedMost_5 : decode cX1_countedMost 5 = .ok (.aload_n 0, 1) := dk_42 (dk_at dksX1_countedMost_0 5 rfl rfl)
theorem dX1_countedMost_6 : decode cX1_countedMost 6 = .ok (.getfield 93, 3) := dk_180 0 93 (dk_at dksX1_countedMost_0 6 rfl rfl)
theorem dX1_countedMost_9 : decode cX1_countedMost 9 = .ok (.getfield 139, 3) := dk_180 0 139 (dk_at dksX1_countedMost_0 9 rfl rfl)
theorem dX1_countedMost_12 : decode cX1_countedMost 12 = .ok (.if_icmp .ge 52, 3) := dk_162 0 52 (dk_at dksX1_countedMost_0 12 rfl rfl)
theorem dX1_countedMost_15 : decode cX1_countedMost 15 = .ok (.iconst 0, 1) := dk_3 (dk_at dksX1_countedMost_0 15 rfl rfl)
theorem dX1_countedMost_16 : decode cX1_countedMost 16 = .ok (.istore 4, 2) := dk_54 4 (dk_at dksX1_countedMost_0 16 rfl rfl)
theorem dX1_countedMost_18 : decode cX1_countedMost 18 = .ok (.iload 4, 2) := dk_21 4 (dk_at dksX1_countedMost_0 18 rfl rfl)
theorem dX1_countedMost_20 : decode cX1_countedMost 20 = .ok (.iconst 2, 1) := dk_5 (dk_at dksX1_countedMost_0 20 rfl rfl)
theorem dX1_countedMost_21 : decode cX1_countedMost 21 = .ok (.if_icmp .ge 37, 3) := dk_162 0 37 (dk_at dksX1_countedMost_0 21 rfl rfl)
theorem dX1_countedMost_24 : decode cX1_countedMost 24 = .ok (.iload_n 1, 1) := dk_27 (dk_at dksX1_countedMost_1 0 rfl rfl)
theorem dX1_countedMost_25 : decode cX1_countedMost 25 = .ok (.aload_n 0, 1) := dk_42 (dk_at dksX1_countedMost_1 1 rfl rfl)
theorem dX1_countedMost_26 : decode cX1_countedMost 26 = .ok (.iload_n 3, 1) := dk_29 (dk_at dksX1_countedMost_1 2 rfl rfl)
theorem dX1_countedMost_27 : decode cX1_countedMost 27 = .ok (.invokevirtual 218, 3) := dk_182 0 218 (dk_at dksX1_countedMost_1 3 rfl rfl)
theorem dX1_countedMost_30 : decode cX1_countedMost 30 = .ok (.getfield 164, 3) := dk_180 0 164 (dk_at dksX1_countedMost_1 6 rfl rfl)
theorem dX1_countedMost_33 : decode cX1_countedMost 33 = .ok (.if_icmp .ge 19, 3) := dk_162 0 19 (dk_at dksX1_countedMost_1 9 rfl rfl)
theorem dX1_countedMost_36 : decode cX1_countedMost 36 = .ok (.iload_n 2, 1) := dk_28 (dk_at dksX1_countedMost_1 12 rfl rfl)
theorem dX1_countedMost_37 : decode cX1_countedMost 37 = .ok (.aload_n 0, 1) := dk_42 (dk_at dksX1_countedMost_1 13 rfl rfl)
theorem dX1_countedMost_38 : decode cX1_countedMost 38 = .ok (.iload_n 3, 1) := dk_29 (dk_at dksX1_countedMost_1 14 rfl rfl)
theorem dX1_countedMost_39 : decode cX1_countedMost 39 = .ok (.invokevirtual 218, 3) := dk_182 0 218 (dk_at dksX1_countedMost_1 15 rfl rfl)
theorem dX1_countedMost_42 : decode cX1_countedMost 42 = .ok (.iload 4, 2) := dk_21 4 (dk_at dksX1_countedMost_1 18 rfl rfl)
theorem dX1_countedMost_44 : decode cX1_countedMost 44 = .ok (.iload_n 1, 1) := dk_27 (dk_at dksX1_countedMost_1 20 rfl rfl)
theorem dX1_countedMost_45 : decode cX1_countedMost 45 = .ok (.invokevirtual 167, 3) := dk_182 0 167 (dk_at dksX1_countedMost_1 21 rfl rfl)
theorem dX1_countedMost_48 : decode cX1_countedMost 48 = .ok (.invokestatic 460, 3) := dk_184 1 204 (dk_at dksX1_countedMost_2 0 rfl rfl)
theorem dX1_countedMost_51 : decode cX1_countedMost 51 = .ok (.istore_n 2, 1) := dk_61 (dk_at dksX1_countedMost_2 3 rfl rfl)
theorem dX1_countedMost_52 : decode cX1_countedMost 52 = .ok (.iinc 4 1, 3) := dk_132 4 1 (dk_at dksX1_countedMost_2 4 rfl rfl)
theorem dX1_countedMost_55 : decode cX1_countedMost 55 = .ok (.goto (-37), 3) := dk_167 255 219 (dk_at dksX1_countedMost_2 7 rfl rfl)
theorem dX1_countedMost_58 : decode cX1_countedMost 58 = .ok (.iinc 3 1, 3) := dk_132 3 1 (dk_at dksX1_countedMost_2 10 rfl rfl)
theorem dX1_countedMost_61 : decode cX1_countedMost 61 = .ok (.goto (-57), 3) := dk_167 255 199 (dk_at dksX1_countedMost_2 13 rfl rfl)
theorem dX1_countedMost_64 : decode cX1_countedMost 64 = .ok (.iload_n 2, 1) := dk_28 (dk_at dksX1_countedMost_2 16 rfl rfl)
theorem dX1_countedMost_65 : decode cX1_countedMost 65 = .ok (.ireturn, 1) := dk_172 (dk_at dksX1_countedMost_2 17 rfl rfl)
abbrev cX1_image : ByteArray := prog_1_method_76_code
def yX1_image : MethodName := ⟨RX1, "image", "()I"⟩
def dkwX1_image_1 : List UInt8 := [181, 0, 135, 42, 180, 0, 59, 182, 1, 83, 172]
abbrev dktX1_image_1 : List UInt8 := dkwX1_image_1 ++ []
def dkwX1_image_0 : List UInt8 := [42, 180, 0, 93, 199, 0, 5, 2, 172, 42, 180, 0, 63, 42, 180, 0, 59, 182, 1, 25, 42, 4]
abbrev dktX1_image_0 : List UInt8 := dkwX1_image_0 ++ dktX1_image_1
theorem dksX1_image_0 : cX1_image.data.toList.drop 0 = dktX1_image_0 := by decide +kernel
theorem dksX1_image_1 : cX1_image.data.toList.drop 22 = dktX1_image_1 := dk_seg dksX1_image_0 22 rfl rfl
theorem dX1_image_0 : decode cX1_image 0 = .ok (.aload_n 0, 1) := dk_42 (dk_at dksX1_image_0 0 rfl rfl)
theorem dX1_image_1 : decode cX1_image 1 = .ok (.getfield 93, 3) := dk_180 0 93 (dk_at dksX1_image_0 1 rfl rfl)
theorem dX1_image_4 : decode cX1_image 4 = .ok (.ifnonnull 5, 3) := dk_199 0 5 (dk_at dksX1_image_0 4 rfl rfl)
theorem dX1_image_7 : decode cX1_image 7 = .ok (.iconst (-1), 1) := dk_2 (dk_at dksX1_image_0 7 rfl rfl)
theorem dX1_image_8 : decode cX1_image 8 = .ok (.ireturn, 1) := dk_172 (dk_at dksX1_image_0 8 rfl rfl)
theorem dX1_image_9 : decode cX1_image 9 = .ok (.aload_n 0, 1) := dk_42 (dk_at dksX1_image_0 9 rfl rfl)
theorem dX1_image_10 : decode cX1_image 10 = .ok (.getfield 63, 3) := dk_180 0 63 (dk_at dksX1_image_0 10 rfl rfl)
theorem dX1_image_13 : decode cX1_image 13 = .ok (.aload_n 0, 1) := dk_42 (dk_at dksX1_image_0 13 rfl rfl)
theorem dX1_image_14 : decode cX1_image 14 = .ok (.getfield 59, 3) := dk_180 0 59 (dk_at dksX1_image_0 14 rfl rfl)
theorem dX1_image_17 : decode cX1_image 17 = .ok (.invokevirtual 281, 3) := dk_182 1 25 (dk_at dksX1_image_0 17 rfl rfl)
theorem dX1_image_20 : decode cX1_image 20 = .ok (.aload_n 0, 1) := dk_42 (dk_at dksX1_image_0 20 rfl rfl)
theorem dX1_image_21 : decode cX1_image 21 = .ok (.iconst 1, 1) := dk_4 (dk_at dksX1_image_0 21 rfl rfl)
theorem dX1_image_22 : decode cX1_image 22 = .ok (.putfield 135, 3) := dk_181 0 135 (dk_at dksX1_image_1 0 rfl rfl)
theorem dX1_image_25 : decode cX1_image 25 = .ok (.aload_n 0, 1) := dk_42 (dk_at dksX1_image_1 3 rfl rfl)
theorem dX1_image_26 : decode cX1_image 26 = .ok (.getfield 59, 3) := dk_180 0 59 (dk_at dksX1_image_1 4 rfl rfl)
theorem dX1_image_29 : decode cX1_image 29 = .ok (.invokevirtual 339, 3) := dk_182 1 83 (dk_at dksX1_image_1 7 rfl rfl)
theorem dX1_image_32 : decode cX1_image 32 = .ok (.ireturn, 1) := dk_172 (dk_at dksX1_image_1 10 rfl rfl)
abbrev cX1_back : ByteArray := prog_1_method_77_code
def yX1_back : MethodName := ⟨RX1, "back", "()I"⟩
def dkwX1_back_1 : List UInt8 := [181, 0, 132, 42, 180, 0, 59, 182, 1, 83, 172]
abbrev dktX1_back_1 : List UInt8 := dkwX1_back_1 ++ []
def dkwX1_back_0 : List UInt8 := [42, 180, 0, 135, 154, 0, 5, 2, 172, 42, 180, 0, 59, 42, 180, 0, 63, 182, 1, 25, 42, 3]
abbrev dktX1_back_0 : List UInt8 := dkwX1_back_0 ++ dktX1_back_1
theorem dksX1_back_0 : cX1_back.data.toList.drop 0 = dktX1_back_0 := by decide +kernel
theorem dksX1_back_1 : cX1_back.data.toList.drop 22 = dktX1_back_1 := dk_seg dksX1_back_0 22 rfl rfl
theorem dX1_back_0 : decode cX1_back 0 = .ok (.aload_n 0, 1) := dk_42 (dk_at dksX1_back_0 0 rfl rfl)
theorem dX1_back_1 : decode cX1_back 1 = .ok (.getfield 135, 3) := dk_180 0 135 (dk_at dksX1_back_0 1 rfl rfl)
theorem dX1_back_4 : decode cX1_back 4 = .ok (.ifCond .ne 5, 3) := dk_154 0 5 (dk_at dksX1_back_0 4 rfl rfl)
theorem dX1_back_7 : decode cX1_back 7 = .ok (.iconst (-1), 1) := dk_2 (dk_at dksX1_back_0 7 rfl rfl)
theorem dX1_back_8 : decode cX1_back 8 = .ok (.ireturn, 1) := dk_172 (dk_at dksX1_back_0 8 rfl rfl)
theorem dX1_back_9 : decode cX1_back 9 = .ok (.aload_n 0, 1) := dk_42 (dk_at dksX1_back_0 9 rfl rfl)
theorem dX1_back_10 : decode cX1_back 10 = .ok (.getfield 59, 3) := dk_180 0 59 (dk_at dksX1_back_0 10 rfl rfl)
theorem dX1_back_13 : decode cX1_back 13 = .ok (.aload_n 0, 1) := dk_42 (dk_at dksX1_back_0 13 rfl rfl)
theorem dX1_back_14 : decode cX1_back 14 = .ok (.getfield 63, 3) := dk_180 0 63 (dk_at dksX1_back_0 14 rfl rfl)
theorem dX1_back_17 : decode cX1_back 17 = .ok (.invokevirtual 281, 3) := dk_182 1 25 (dk_at dksX1_back_0 17 rfl rfl)
theorem dX1_back_20 : decode cX1_back 20 = .ok (.aload_n 0, 1) := dk_42 (dk_at dksX1_back_0 20 rfl rfl)
theorem dX1_back_21 : decode cX1_back 21 = .ok (.iconst 0, 1) := dk_3 (dk_at dksX1_back_0 21 rfl rfl)
theorem dX1_back_22 : decode cX1_back 22 = .ok (.putfield 132, 3) := dk_181 0 132 (dk_at dksX1_back_1 0 rfl rfl)
theorem dX1_back_25 : decode cX1_back 25 = .ok (.aload_n 0, 1) := dk_42 (dk_at dksX1_back_1 3 rfl rfl)
theorem dX1_back_26 : decode cX1_back 26 = .ok (.getfield 59, 3) := dk_180 0 59 (dk_at dksX1_back_1 4 rfl rfl)
theorem dX1_back_29 : decode cX1_back 29 = .ok (.invokevirtual 339, 3) := dk_182 1 83 (dk_at dksX1_back_1 7 rfl rfl)
theorem dX1_back_32 : decode cX1_back 32 = .ok (.ireturn, 1) := dk_172 (dk_at dksX1_back_1 10 rfl rfl)
abbrev cX1_count : ByteArray := prog_1_method_78_code
def yX1_count : MethodName := ⟨RX1, "count", "(I)I"⟩
def dkwX1_count_4 : List UInt8 := [42, 180, 0, 132, 172, 42, 180, 1, 93, 172, 18, 146, 172]
abbrev dktX1_count_4 : List UInt8 := dkwX1_count_4 ++ []
def dkwX1_count_3 : List UInt8 := [42, 180, 0, 7, 172, 42, 180, 0, 93, 199, 0, 7, 3, 167, 0, 10, 42, 180, 0, 59, 180, 1, 88, 172]
abbrev dktX1_count_3 : List UInt8 := dkwX1_count_3 ++ dktX1_count_4
def dkwX1_count_2 : List UInt8 := [42, 180, 0, 93, 199, 0, 7, 3, 167, 0, 10, 42, 180, 0, 93, 180, 0, 139, 172, 42, 180, 0, 123, 172]
abbrev dktX1_count_2 : List UInt8 := dkwX1_count_2 ++ dktX1_count_3
def dkwX1_count_1 : List UInt8 := [170, 0, 0, 0, 0, 0, 97, 0, 0, 0, 0, 0, 0, 0, 5, 0, 0, 0, 39, 0, 0, 0, 58, 0, 0, 0, 63, 0, 0, 0, 68, 0, 0, 0, 87, 0, 0, 0, 92]
abbrev dktX1_count_1 : List UInt8 := dkwX1_count_1 ++ dktX1_count_2
def dkwX1_count_0 : List UInt8 := [27]
abbrev dktX1_count_0 : List UInt8 := dkwX1_count_0 ++ dktX1_count_1
theorem dksX1_count_0 : cX1_count.data.toList.drop 0 = dktX1_count_0 := by decide +kernel
theorem dksX1_count_1 : cX1_count.data.toList.drop 1 = dktX1_count_1 := dk_seg dksX1_count_0 1 rfl rfl
theorem dksX1_count_2 : cX1_count.data.toList.drop 40 = dktX1_count_2 := dk_seg dksX1_count_1 39 rfl rfl
theorem dksX1_count_3 : cX1_count.data.toList.drop 64 = dktX1_count_3 := dk_seg dksX1_count_2 24 rfl rfl
theorem dksX1_count_4 : cX1_count.data.toList.drop 88 = dktX1_count_4 := dk_seg dksX1_count_3 24 rfl rfl
theorem dX1_count_0 : decode cX1_count 0 = .ok (.iload_n 1, 1) := dk_27 (dk_at dksX1_count_0 0 rfl rfl)
theorem dX1_count_1 : decode cX1_count 1 = .ok (.tableswitch 97 0 5 #[39, 58, 63, 68, 87, 92], 39) := by decide +kernel
theorem dX1_count_40 : decode cX1_count 40 = .ok (.aload_n 0, 1) := dk_42 (dk_at dksX1_count_2 0 rfl rfl)
theorem dX1_count_41 : decode cX1_count 41 = .ok (.getfield 93, 3) := dk_180 0 93 (dk_at dksX1_count_2 1 rfl rfl)
theorem dX1_count_44 : decode cX1_count 44 = .ok (.ifnonnull 7, 3) := dk_199 0 7 (dk_at dksX1_count_2 4 rfl rfl)
theorem dX1_count_47 : decode cX1_count 47 = .ok (.iconst 0, 1) := dk_3 (dk_at dksX1_count_2 7 rfl rfl)
theorem dX1_count_48 : decode cX1_count 48 = .ok (.goto 10, 3) := dk_167 0 10 (dk_at dksX1_count_2 8 rfl rfl)
theorem dX1_count_51 : decode cX1_count 51 = .ok (.aload_n 0, 1) := dk_42 (dk_at dksX1_count_2 11 rfl rfl)
theorem dX1_count_52 : decode cX1_count 52 = .ok (.getfield 93, 3) := dk_180 0 93 (dk_at dksX1_count_2 12 rfl rfl)
theorem dX1_count_55 : decode cX1_count 55 = .ok (.getfield 139, 3) := dk_180 0 139 (dk_at dksX1_count_2 15 rfl rfl)
theorem dX1_count_58 : decode cX1_count 58 = .ok (.ireturn, 1) := dk_172 (dk_at dksX1_count_2 18 rfl rfl)
theorem dX1_count_59 : decode cX1_count 59 = .ok (.aload_n 0, 1) := dk_42 (dk_at dksX1_count_2 19 rfl rfl)
theorem dX1_count_60 : decode cX1_count 60 = .ok (.getfield 123, 3) := dk_180 0 123 (dk_at dksX1_count_2 20 rfl rfl)
theorem dX1_count_63 : decode cX1_count 63 = .ok (.ireturn, 1) := dk_172 (dk_at dksX1_count_2 23 rfl rfl)
theorem dX1_count_64 : decode cX1_count 64 = .ok (.aload_n 0, 1) := dk_42 (dk_at dksX1_count_3 0 rfl rfl)
theorem dX1_count_65 : decode cX1_count 65 = .ok (.getfield 7, 3) := dk_180 0 7 (dk_at dksX1_count_3 1 rfl rfl)
theorem dX1_count_68 : decode cX1_count 68 = .ok (.ireturn, 1) := dk_172 (dk_at dksX1_count_3 4 rfl rfl)
theorem dX1_count_69 : decode cX1_count 69 = .ok (.aload_n 0, 1) := dk_42 (dk_at dksX1_count_3 5 rfl rfl)
theorem dX1_count_70 : decode cX1_count 70 = .ok (.getfield 93, 3) := dk_180 0 93 (dk_at dksX1_count_3 6 rfl rfl)
theorem dX1_count_73 : decode cX1_count 73 = .ok (.ifnonnull 7, 3) := dk_199 0 7 (dk_at dksX1_count_3 9 rfl rfl)
theorem dX1_count_76 : decode cX1_count 76 = .ok (.iconst 0, 1) := dk_3 (dk_at dksX1_count_3 12 rfl rfl)
theorem dX1_count_77 : decode cX1_count 77 = .ok (.goto 10, 3) := dk_167 0 10 (dk_at dksX1_count_3 13 rfl rfl)
theorem dX1_count_80 : decode cX1_count 80 = .ok (.aload_n 0, 1) := dk_42 (dk_at dksX1_count_3 16 rfl rfl)
theorem dX1_count_81 : decode cX1_count 81 = .ok (.getfield 59, 3) := dk_180 0 59 (dk_at dksX1_count_3 17 rfl rfl)
theorem dX1_count_84 : decode cX1_count 84 = .ok (.getfield 344, 3) := dk_180 1 88 (dk_at dksX1_count_3 20 rfl rfl)
theorem dX1_count_87 : decode cX1_count 87 = .ok (.ireturn, 1) := dk_172 (dk_at dksX1_count_3 23 rfl rfl)
theorem dX1_count_88 : decode cX1_count 88 = .ok (.aload_n 0, 1) := dk_42 (dk_at dksX1_count_4 0 rfl rfl)
theorem dX1_count_89 : decode cX1_count 89 = .ok (.getfield 132, 3) := dk_180 0 132 (dk_at dksX1_count_4 1 rfl rfl)
theorem dX1_count_92 : decode cX1_count 92 = .ok (.ireturn, 1) := dk_172 (dk_at dksX1_count_4 4 rfl rfl)
theorem dX1_count_93 : decode cX1_count 93 = .ok (.aload_n 0, 1) := dk_42 (dk_at dksX1_count_4 5 rfl rfl)
theorem dX1_count_94 : decode cX1_count 94 = .ok (.getfield 349, 3) := dk_180 1 93 (dk_at dksX1_count_4 6 rfl rfl)
theorem dX1_count_97 : decode cX1_count 97 = .ok (.ireturn, 1) := dk_172 (dk_at dksX1_count_4 9 rfl rfl)
theorem dX1_count_98 : decode cX1_count 98 = .ok (.ldc 146, 2) := dk_18 146 (dk_at dksX1_count_4 10 rfl rfl)
theorem dX1_count_100 : decode cX1_count 100 = .ok (.ireturn, 1) := dk_172 (dk_at dksX1_count_4 12 rfl rfl)
abbrev cX1_table : ByteArray := prog_1_method_20_code
def yX1_table : MethodName := ⟨RX1, "table", "(II)I"⟩
def dkwX1_table_2 : List UInt8 := [160, 0, 10, 45, 180, 0, 222, 167, 0, 10, 45, 28, 5, 100, 182, 0, 225, 172]
abbrev dktX1_table_2 : List UInt8 := dkwX1_table_2 ++ []
def dkwX1_table_1 : List UInt8 := [183, 0, 217, 191, 42, 27, 182, 0, 218, 78, 28, 154, 0, 10, 45, 180, 0, 164, 167, 0, 22, 28, 4]
abbrev dktX1_table_1 : List UInt8 := dkwX1_table_1 ++ dktX1_table_2
def dkwX1_table_0 : List UInt8 := [42, 27, 182, 0, 194, 153, 0, 15, 28, 133, 9, 20, 0, 144, 184, 0, 97, 154, 0, 11, 187, 0, 215, 89]
abbrev dktX1_table_0 : List UInt8 := dkwX1_table_0 ++ dktX1_table_1
theorem dksX1_table_0 : cX1_table.data.toList.drop 0 = dktX1_table_0 := by decide +kernel
theorem dksX1_table_1 : cX1_table.data.toList.drop 24 = dktX1_table_1 := dk_seg dksX1_table_0 24 rfl rfl
theorem dksX1_table_2 : cX1_table.data.toList.drop 47 = dktX1_table_2 := dk_seg dksX1_table_1 23 rfl rfl
theorem dX1_table_0 : decode cX1_table 0 = .ok (.aload_n 0, 1) := dk_42 (dk_at dksX1_table_0 0 rfl rfl)
theorem dX1_table_1 : decode cX1_table 1 = .ok (.iload_n 1, 1) := dk_27 (dk_at dksX1_table_0 1 rfl rfl)
theorem dX1_table_2 : decode cX1_table 2 = .ok (.invokevirtual 194, 3) := dk_182 0 194 (dk_at dksX1_table_0 2 rfl rfl)
theorem dX1_table_5 : decode cX1_table 5 = .ok (.ifCond .eq 15, 3) := dk_153 0 15 (dk_at dksX1_table_0 5 rfl rfl)
theorem dX1_table_8 : decode cX1_table 8 = .ok (.iload_n 2, 1) := dk_28 (dk_at dksX1_table_0 8 rfl rfl)
theorem dX1_table_9 : decode cX1_table 9 = .ok (.i2l, 1) := dk_133 (dk_at dksX1_table_0 9 rfl rfl)
theorem dX1_table_10 : decode cX1_table 10 = .ok (.lconst 0, 1) := dk_9 (dk_at dksX1_table_0 10 rfl rfl)
theorem dX1_table_11 : decode cX1_table 11 = .ok (.ldc2_w 144, 3) := dk_20 0 144 (dk_at dksX1_table_0 11 rfl rfl)
theorem dX1_table_14 : decode cX1_table 14 = .ok (.invokestatic 97, 3) := dk_184 0 97 (dk_at dksX1_table_0 14 rfl rfl)
theorem dX1_table_17 : decode cX1_table 17 = .ok (.ifCond .ne 11, 3) := dk_154 0 11 (dk_at dksX1_table_0 17 rfl rfl)
theorem dX1_table_20 : decode cX1_table 20 = .ok (.new 215, 3) := dk_187 0 215 (dk_at dksX1_table_0 20 rfl rfl)
theorem dX1_table_23 : decode cX1_table 23 = .ok (.dup, 1) := dk_89 (dk_at dksX1_table_0 23 rfl rfl)
theorem dX1_table_24 : decode cX1_table 24 = .ok (.invokespecial 217, 3) := dk_183 0 217 (dk_at dksX1_table_1 0 rfl rfl)
theorem dX1_table_27 : decode cX1_table 27 = .ok (.athrow, 1) := dk_191 (dk_at dksX1_table_1 3 rfl rfl)
theorem dX1_table_28 : decode cX1_table 28 = .ok (.aload_n 0, 1) := dk_42 (dk_at dksX1_table_1 4 rfl rfl)
theorem dX1_table_29 : decode cX1_table 29 = .ok (.iload_n 1, 1) := dk_27 (dk_at dksX1_table_1 5 rfl rfl)
theorem dX1_table_30 : decode cX1_table 30 = .ok (.invokevirtual 218, 3) := dk_182 0 218 (dk_at dksX1_table_1 6 rfl rfl)
theorem dX1_table_33 : decode cX1_table 33 = .ok (.astore_n 3, 1) := dk_78 (dk_at dksX1_table_1 9 rfl rfl)
theorem dX1_table_34 : decode cX1_table 34 = .ok (.iload_n 2, 1) := dk_28 (dk_at dksX1_table_1 10 rfl rfl)
theorem dX1_table_35 : decode cX1_table 35 = .ok (.ifCond .ne 10, 3) := dk_154 0 10 (dk_at dksX1_table_1 11 rfl rfl)
theorem dX1_table_38 : decode cX1_table 38 = .ok (.aload_n 3, 1) := dk_45 (dk_at dksX1_table_1 14 rfl rfl)
theorem dX1_table_39 : decode cX1_table 39 = .ok (.getfield 164, 3) := dk_180 0 164 (dk_at dksX1_table_1 15 rfl rfl)
theorem dX1_table_42 : decode cX1_table 42 = .ok (.goto 22, 3) := dk_167 0 22 (dk_at dksX1_table_1 18 rfl rfl)
theorem dX1_table_45 : decode cX1_table 45 = .ok (.iload_n 2, 1) := dk_28 (dk_at dksX1_table_1 21 rfl rfl)
theorem dX1_table_46 : decode cX1_table 46 = .ok (.iconst 1, 1) := dk_4 (dk_at dksX1_table_1 22 rfl rfl)
theorem dX1_table_47 : decode cX1_table 47 = .ok (.if_icmp .ne 10, 3) := dk_160 0 10 (dk_at dksX1_table_2 0 rfl rfl)
theorem dX1_table_50 : decode cX1_table 50 = .ok (.aload_n 3, 1) := dk_45 (dk_at dksX1_table_2 3 rfl rfl)
theorem dX1_table_51 : decode cX1_table 51 = .ok (.getfield 222, 3) := dk_180 0 222 (dk_at dksX1_table_2 4 rfl rfl)
theorem dX1_table_54 : decode cX1_table 54 = .ok (.goto 10, 3) := dk_167 0 10 (dk_at dksX1_table_2 7 rfl rfl)
theorem dX1_table_57 : decode cX1_table 57 = .ok (.aload_n 3, 1) := dk_45 (dk_at dksX1_table_2 10 rfl rfl)
theorem dX1_table_58 : decode cX1_table 58 = .ok (.iload_n 2, 1) := dk_28 (dk_at dksX1_table_2 11 rfl rfl)
theorem dX1_table_59 : decode cX1_table 59 = .ok (.iconst 2, 1) := dk_5 (dk_at dksX1_table_2 12 rfl rfl)
theorem dX1_table_60 : decode cX1_table 60 = .ok (.isub, 1) := dk_100 (dk_at dksX1_table_2 13 rfl rfl)
theorem dX1_table_61 : decode cX1_table 61 = .ok (.invokevirtual 225, 3) := dk_182 0 225 (dk_at dksX1_table_2 14 rfl rfl)
theorem dX1_table_64 : decode cX1_table 64 = .ok (.ireturn, 1) := dk_172 (dk_at dksX1_table_2 17 rfl rfl)
theorem q116 : (Jvm.Cond.initialized "SafeBuckets") ∈ lw_all := lw_g (lw_at lw_m1 1 rfl) rfl
theorem q157 : (Jvm.Cond.instanceMethod ({ cls := "SafeBuckets", name := "feed", desc := "(IIIII)I" } : Jvm.MethodName)) ∈ lw_all := lw_g (lw_at lw_m1 42 rfl) rfl
theorem q158 : (Jvm.Cond.selects "SafeBuckets" ({ cls := "SafeBuckets", name := "feed", desc := "(IIIII)I" } : Jvm.MethodName) ({ cls := "SafeBuckets", name := "feed", desc := "(IIIII)I" } : Jvm.MethodName)) ∈ lw_all := lw_g (lw_at lw_m1 43 rfl) rfl
theorem q159 : (Jvm.Cond.code ({ cls := "SafeBuckets", name := "feed", desc := "(IIIII)I" } : Jvm.MethodName) prog_1_method_3_code (7 : Nat) (Option.some Jvm.ClassFile.FieldType.int)) ∈ lw_all := lw_g (lw_at lw_m1 44 rfl) rfl
theorem q160 : (Jvm.Cond.methodLink "SafeBuckets" (3 : Nat) ({ cls := "SafeBuckets", name := "bytes", desc := "(I)I" } : Jvm.MethodName)) ∈ lw_all := lw_g (lw_at lw_m1 45 rfl) rfl
theorem q161 : (Jvm.Cond.static ({ cls := "SafeBuckets", name := "bytes", desc := "(I)I" } : Jvm.MethodName)) ∈ lw_all := lw_g (lw_at lw_m1 46 rfl) rfl
theorem q162 : (Jvm.Cond.code ({ cls := "SafeBuckets", name := "bytes", desc := "(I)I" } : Jvm.MethodName) prog_1_method_4_code (3 : Nat) (Option.some Jvm.ClassFile.FieldType.int)) ∈ lw_all := lw_g (lw_at lw_m1 47 rfl) rfl
theorem q163 : (Jvm.Cond.methodLink "SafeBuckets" (11 : Nat) ({ cls := "SafeBuckets", name := "bring", desc := "(I)V" } : Jvm.MethodName)) ∈ lw_all := lw_g (lw_at lw_m1 48 rfl) rfl
theorem q164 : (Jvm.Cond.privateMethod ({ cls := "SafeBuckets", name := "bring", desc := "(I)V" } : Jvm.MethodName)) ∈ lw_tbl := lw_at lw_m1 49 rfl
theorem q165 : (Jvm.Cond.instanceMethod ({ cls := "SafeBuckets", name := "bring", desc := "(I)V" } : Jvm.MethodName)) ∈ lw_all := lw_g (lw_at lw_m1 50 rfl) rfl
theorem q166 : (Jvm.Cond.instantiable "SafeBuckets" (29 : Nat)) ∈ lw_all := lw_g (lw_at lw_m1 51 rfl) rfl
theorem q167 : (Jvm.Cond.code ({ cls := "SafeBuckets", name := "bring", desc := "(I)V" } : Jvm.MethodName) prog_1_method_5_code (3 : Nat) (Option.none : Option Jvm.ClassFile.FieldType)) ∈ lw_all := lw_g (lw_at lw_m1 52 rfl) rfl
theorem q169 : (Jvm.Cond.instanceMethod ({ cls := "SafeBuckets", name := "end", desc := "(I)Z" } : Jvm.MethodName)) ∈ lw_all := lw_g (lw_at lw_m1 54 rfl) rfl
theorem q170 : (Jvm.Cond.selects "SafeBuckets" ({ cls := "SafeBuckets", name := "end", desc := "(I)Z" } : Jvm.MethodName) ({ cls := "SafeBuckets", name := "end", desc := "(I)Z" } : Jvm.MethodName)) ∈ lw_all := lw_g (lw_at lw_m1 55 rfl) rfl
theorem q171 : (Jvm.Cond.code ({ cls := "SafeBuckets", name := "end", desc := "(I)Z" } : Jvm.MethodName) prog_1_method_6_code (2 : Nat) (Option.some Jvm.ClassFile.FieldType.boolean)) ∈ lw_all := lw_g (lw_at lw_m1 56 rfl) rfl
theorem q174 : (Jvm.Cond.instanceMethod ({ cls := "SafeBuckets", name := "<init>", desc := "()V" } : Jvm.MethodName)) ∈ lw_all := lw_g (lw_at lw_m1 59 rfl) rfl
theorem q175 : (Jvm.Cond.code ({ cls := "SafeBuckets", name := "<init>", desc := "()V" } : Jvm.MethodName) prog_1_method_7_code (1 : Nat) (Option.none : Option Jvm.ClassFile.FieldType)) ∈ lw_all := lw_g (lw_at lw_m1 60 rfl) rfl
theorem q176 : (Jvm.Cond.methodLink "SafeBuckets" (19 : Nat) ({ cls := "java/lang/Object", name := "<init>", desc := "()V" } : Jvm.MethodName)) ∈ lw_all := lw_g (lw_at lw_m1 61 rfl) rfl
theorem q179 : (Jvm.Cond.classLink "SafeBuckets" (25 : Nat) "SafeBuckets$Where") ∈ lw_all := lw_g (lw_at lw_m1 64 rfl) rfl
theorem q181 : (Jvm.Cond.classLink "SafeBuckets" (44 : Nat) "[[J") ∈ lw_all := lw_g (lw_at lw_m1 66 rfl) rfl
theorem q183 : (Jvm.Cond.classLink "SafeBuckets" (49 : Nat) "[[I") ∈ lw_all := lw_g (lw_at lw_m1 68 rfl) rfl
theorem q185 : (Jvm.Cond.classLink "SafeBuckets" (54 : Nat) "SafeBuckets$State") ∈ lw_all := lw_g (lw_at lw_m1 70 rfl) rfl
theorem q187 : (Jvm.Cond.methodLinkNest "SafeBuckets" (56 : Nat) ({ cls := "SafeBuckets$State", name := "<init>", desc := "(LSafeBuckets;)V" } : Jvm.MethodName) "SafeBuckets") ∈ lw_tbl := lw_at lw_m1 72 rfl
theorem q223 : (Jvm.Cond.fieldLink "SafeBuckets" (407 : Nat) "SafeBuckets$Bucket" "total" "I") ∈ lw_all := lw_g (lw_at lw_m1 108 rfl) rfl
theorem q229 : (Jvm.Cond.fieldLink "SafeBuckets" (410 : Nat) "SafeBuckets$Bucket" "greatest" "I") ∈ lw_all := lw_g (lw_at lw_m1 114 rfl) rfl
theorem q235 : (Jvm.Cond.fieldLink "SafeBuckets" (256 : Nat) "SafeBuckets$Bucket" "from" "I") ∈ lw_all := lw_g (lw_at lw_m1 120 rfl) rfl
theorem q242 : (Jvm.Cond.fieldLink "SafeBuckets" (259 : Nat) "SafeBuckets$Bucket" "to" "I") ∈ lw_all := lw_g (lw_at lw_m1 127 rfl) rfl
theorem q258 : (Jvm.Cond.fieldLinkNest "SafeBuckets" (249 : Nat) "SafeBuckets$Column" "buckets" "[LSafeBuckets$Bucket;" "SafeBuckets") ∈ lw_tbl := lw_at lw_m1 143 rfl
theorem q262 : (Jvm.Cond.fieldLinkNest "SafeBuckets" (246 : Nat) "SafeBuckets$Column" "many" "I" "SafeBuckets") ∈ lw_tbl := lw_at lw_m1 147 rfl
theorem q265 : (Jvm.Cond.fieldLinkNest "SafeBuckets" (262 : Nat) "SafeBuckets$Column" "drift" "I" "SafeBuckets") ∈ lw_tbl := lw_at lw_m1 150 rfl
theorem q274 : (Jvm.Cond.fieldLinkNest "SafeBuckets" (463 : Nat) "SafeBuckets$Sheet" "cells" "[I" "SafeBuckets") ∈ lw_tbl := lw_at lw_m1 159 rfl
theorem q277 : (Jvm.Cond.fieldLinkNest "SafeBuckets" (242 : Nat) "SafeBuckets$Sheet" "columns" "[LSafeBuckets$Column;" "SafeBuckets") ∈ lw_tbl := lw_at lw_m1 162 rfl
theorem q282 : (Jvm.Cond.fieldLinkNest "SafeBuckets" (222 : Nat) "SafeBuckets$Sheet" "rows" "I" "SafeBuckets") ∈ lw_tbl := lw_at lw_m1 167 rfl
theorem q284 : (Jvm.Cond.fieldLinkNest "SafeBuckets" (164 : Nat) "SafeBuckets$Sheet" "values" "I" "SafeBuckets") ∈ lw_tbl := lw_at lw_m1 169 rfl
theorem q299 : (Jvm.Cond.fieldLinkNest "SafeBuckets" (198 : Nat) "SafeBuckets$State" "sheets" "[LSafeBuckets$Sheet;" "SafeBuckets") ∈ lw_tbl := lw_at lw_m1 184 rfl
theorem q301 : (Jvm.Cond.fieldLinkNest "SafeBuckets" (347 : Nat) "SafeBuckets$State" "notes" "[I" "SafeBuckets") ∈ lw_tbl := lw_at lw_m1 186 rfl
theorem q303 : (Jvm.Cond.fieldLinkNest "SafeBuckets" (204 : Nat) "SafeBuckets$State" "budget" "I" "SafeBuckets") ∈ lw_tbl := lw_at lw_m1 188 rfl
theorem q305 : (Jvm.Cond.fieldLinkNest "SafeBuckets" (344 : Nat) "SafeBuckets$State" "noteMany" "I" "SafeBuckets") ∈ lw_tbl := lw_at lw_m1 190 rfl
theorem q318 : (Jvm.Cond.classLink "SafeBuckets" (66 : Nat) "SafeBuckets$Sheet") ∈ lw_all := lw_g (lw_at lw_m1 203 rfl) rfl
theorem q319 : (Jvm.Cond.methodLinkNest "SafeBuckets" (68 : Nat) ({ cls := "SafeBuckets$Sheet", name := "<init>", desc := "(LSafeBuckets;)V" } : Jvm.MethodName) "SafeBuckets") ∈ lw_tbl := lw_at lw_m1 204 rfl
theorem q321 : (Jvm.Cond.classLink "SafeBuckets" (77 : Nat) "SafeBuckets$TooLong") ∈ lw_all := lw_g (lw_at lw_m1 206 rfl) rfl
theorem q360 : (Jvm.Cond.methodLink "SafeBuckets" (79 : Nat) ({ cls := "SafeBuckets$TooLong", name := "<init>", desc := "()V" } : Jvm.MethodName)) ∈ lw_all := lw_g (lw_at lw_m2 5 rfl) rfl
theorem q383 : (Jvm.Cond.fieldLink "SafeBuckets" (15 : Nat) "SafeBuckets" "tape" "[B") ∈ lw_all := lw_g (lw_at lw_m2 28 rfl) rfl
theorem q385 : (Jvm.Cond.fieldLink "SafeBuckets" (7 : Nat) "SafeBuckets" "length" "I") ∈ lw_all := lw_g (lw_at lw_m2 30 rfl) rfl
theorem q386 : (Jvm.Cond.fieldLink "SafeBuckets" (27 : Nat) "SafeBuckets" "wheres" "[LSafeBuckets$Where;") ∈ lw_all := lw_g (lw_at lw_m2 31 rfl) rfl
theorem q387 : (Jvm.Cond.fieldLink "SafeBuckets" (31 : Nat) "SafeBuckets" "refused" "[I") ∈ lw_all := lw_g (lw_at lw_m2 32 rfl) rfl
theorem q388 : (Jvm.Cond.fieldLink "SafeBuckets" (123 : Nat) "SafeBuckets" "whereMany" "I") ∈ lw_all := lw_g (lw_at lw_m2 33 rfl) rfl
theorem q390 : (Jvm.Cond.fieldLink "SafeBuckets" (93 : Nat) "SafeBuckets" "book" "LSafeBuckets$Book;") ∈ lw_all := lw_g (lw_at lw_m2 35 rfl) rfl
theorem q392 : (Jvm.Cond.fieldLink "SafeBuckets" (107 : Nat) "SafeBuckets" "bookRead" "LSafeBuckets$Book;") ∈ lw_all := lw_g (lw_at lw_m2 37 rfl) rfl
theorem q393 : (Jvm.Cond.fieldLink "SafeBuckets" (114 : Nat) "SafeBuckets" "whereRead" "LSafeBuckets$Where;") ∈ lw_all := lw_g (lw_at lw_m2 38 rfl) rfl
theorem q394 : (Jvm.Cond.fieldLink "SafeBuckets" (35 : Nat) "SafeBuckets" "counts" "[I") ∈ lw_all := lw_g (lw_at lw_m2 39 rfl) rfl
theorem q396 : (Jvm.Cond.fieldLink "SafeBuckets" (38 : Nat) "SafeBuckets" "sums" "[I") ∈ lw_all := lw_g (lw_at lw_m2 41 rfl) rfl
theorem q397 : (Jvm.Cond.fieldLink "SafeBuckets" (41 : Nat) "SafeBuckets" "squares" "[I") ∈ lw_all := lw_g (lw_at lw_m2 42 rfl) rfl
theorem q398 : (Jvm.Cond.fieldLink "SafeBuckets" (46 : Nat) "SafeBuckets" "least" "[[J") ∈ lw_all := lw_g (lw_at lw_m2 43 rfl) rfl
theorem q399 : (Jvm.Cond.fieldLink "SafeBuckets" (51 : Nat) "SafeBuckets" "next" "[[I") ∈ lw_all := lw_g (lw_at lw_m2 44 rfl) rfl
theorem q401 : (Jvm.Cond.fieldLink "SafeBuckets" (176 : Nat) "SafeBuckets" "triedMany" "I") ∈ lw_all := lw_g (lw_at lw_m2 46 rfl) rfl
theorem q402 : (Jvm.Cond.fieldLink "SafeBuckets" (179 : Nat) "SafeBuckets" "plainMany" "I") ∈ lw_all := lw_g (lw_at lw_m2 47 rfl) rfl
theorem q404 : (Jvm.Cond.fieldLink "SafeBuckets" (59 : Nat) "SafeBuckets" "now" "LSafeBuckets$State;") ∈ lw_all := lw_g (lw_at lw_m2 49 rfl) rfl
theorem q405 : (Jvm.Cond.fieldLink "SafeBuckets" (63 : Nat) "SafeBuckets" "image" "LSafeBuckets$State;") ∈ lw_all := lw_g (lw_at lw_m2 50 rfl) rfl
theorem q406 : (Jvm.Cond.fieldLink "SafeBuckets" (69 : Nat) "SafeBuckets" "tried" "LSafeBuckets$Sheet;") ∈ lw_all := lw_g (lw_at lw_m2 51 rfl) rfl
theorem q407 : (Jvm.Cond.fieldLink "SafeBuckets" (73 : Nat) "SafeBuckets" "backs" "[LSafeBuckets$State;") ∈ lw_all := lw_g (lw_at lw_m2 52 rfl) rfl
theorem q408 : (Jvm.Cond.fieldLink "SafeBuckets" (132 : Nat) "SafeBuckets" "undos" "I") ∈ lw_all := lw_g (lw_at lw_m2 53 rfl) rfl
theorem q409 : (Jvm.Cond.fieldLink "SafeBuckets" (278 : Nat) "SafeBuckets" "undoAt" "I") ∈ lw_all := lw_g (lw_at lw_m2 54 rfl) rfl
theorem q410 : (Jvm.Cond.fieldLink "SafeBuckets" (320 : Nat) "SafeBuckets" "x" "J") ∈ lw_all := lw_g (lw_at lw_m2 55 rfl) rfl
theorem q411 : (Jvm.Cond.fieldLink "SafeBuckets" (80 : Nat) "SafeBuckets" "tooLong" "LSafeBuckets$TooLong;") ∈ lw_all := lw_g (lw_at lw_m2 56 rfl) rfl
theorem q412 : (Jvm.Cond.fieldLink "SafeBuckets" (84 : Nat) "SafeBuckets" "events" "[I") ∈ lw_all := lw_g (lw_at lw_m2 57 rfl) rfl
theorem q413 : (Jvm.Cond.fieldLink "SafeBuckets" (349 : Nat) "SafeBuckets" "eventMany" "I") ∈ lw_all := lw_g (lw_at lw_m2 58 rfl) rfl
theorem q414 : (Jvm.Cond.fieldLink "SafeBuckets" (352 : Nat) "SafeBuckets" "steps" "I") ∈ lw_all := lw_g (lw_at lw_m2 59 rfl) rfl
theorem q415 : (Jvm.Cond.fieldLink "SafeBuckets" (87 : Nat) "SafeBuckets" "degrees" "[I") ∈ lw_all := lw_g (lw_at lw_m2 60 rfl) rfl
theorem q416 : (Jvm.Cond.fieldLink "SafeBuckets" (90 : Nat) "SafeBuckets" "others" "[I") ∈ lw_all := lw_g (lw_at lw_m2 61 rfl) rfl
theorem q417 : (Jvm.Cond.fieldLink "SafeBuckets" (135 : Nat) "SafeBuckets" "hasImage" "Z") ∈ lw_all := lw_g (lw_at lw_m2 62 rfl) rfl
theorem q418 : (Jvm.Cond.laysFinal "SafeBuckets" "SafeBuckets" "tape" "[B") ∈ lw_all := lw_g (lw_at lw_m2 63 rfl) rfl
theorem q419 : (Jvm.Cond.soleField "SafeBuckets" "tape") ∈ lw_all := lw_g (lw_at lw_m2 64 rfl) rfl
theorem q420 : (Jvm.Cond.lays "SafeBuckets" "SafeBuckets" "length" "I") ∈ lw_all := lw_g (lw_at lw_m2 65 rfl) rfl
theorem q421 : (Jvm.Cond.soleField "SafeBuckets" "length") ∈ lw_all := lw_g (lw_at lw_m2 66 rfl) rfl
theorem q422 : (Jvm.Cond.laysFinal "SafeBuckets" "SafeBuckets" "wheres" "[LSafeBuckets$Where;") ∈ lw_all := lw_g (lw_at lw_m2 67 rfl) rfl
theorem q423 : (Jvm.Cond.soleField "SafeBuckets" "wheres") ∈ lw_all := lw_g (lw_at lw_m2 68 rfl) rfl
theorem q424 : (Jvm.Cond.laysFinal "SafeBuckets" "SafeBuckets" "refused" "[I") ∈ lw_all := lw_g (lw_at lw_m2 69 rfl) rfl
theorem q425 : (Jvm.Cond.soleField "SafeBuckets" "refused") ∈ lw_all := lw_g (lw_at lw_m2 70 rfl) rfl
theorem q426 : (Jvm.Cond.lays "SafeBuckets" "SafeBuckets" "whereMany" "I") ∈ lw_all := lw_g (lw_at lw_m2 71 rfl) rfl
theorem q427 : (Jvm.Cond.soleField "SafeBuckets" "whereMany") ∈ lw_all := lw_g (lw_at lw_m2 72 rfl) rfl
theorem q428 : (Jvm.Cond.lays "SafeBuckets" "SafeBuckets" "book" "LSafeBuckets$Book;") ∈ lw_all := lw_g (lw_at lw_m2 73 rfl) rfl
theorem q429 : (Jvm.Cond.soleField "SafeBuckets" "book") ∈ lw_all := lw_g (lw_at lw_m2 74 rfl) rfl
theorem q430 : (Jvm.Cond.lays "SafeBuckets" "SafeBuckets" "bookRead" "LSafeBuckets$Book;") ∈ lw_all := lw_g (lw_at lw_m2 75 rfl) rfl
theorem q431 : (Jvm.Cond.soleField "SafeBuckets" "bookRead") ∈ lw_all := lw_g (lw_at lw_m2 76 rfl) rfl
theorem q432 : (Jvm.Cond.lays "SafeBuckets" "SafeBuckets" "whereRead" "LSafeBuckets$Where;") ∈ lw_all := lw_g (lw_at lw_m2 77 rfl) rfl
theorem q433 : (Jvm.Cond.soleField "SafeBuckets" "whereRead") ∈ lw_all := lw_g (lw_at lw_m2 78 rfl) rfl
theorem q434 : (Jvm.Cond.laysFinal "SafeBuckets" "SafeBuckets" "counts" "[I") ∈ lw_all := lw_g (lw_at lw_m2 79 rfl) rfl
theorem q435 : (Jvm.Cond.soleField "SafeBuckets" "counts") ∈ lw_all := lw_g (lw_at lw_m2 80 rfl) rfl
theorem q436 : (Jvm.Cond.laysFinal "SafeBuckets" "SafeBuckets" "sums" "[I") ∈ lw_all := lw_g (lw_at lw_m2 81 rfl) rfl
theorem q437 : (Jvm.Cond.soleField "SafeBuckets" "sums") ∈ lw_all := lw_g (lw_at lw_m2 82 rfl) rfl
theorem q438 : (Jvm.Cond.laysFinal "SafeBuckets" "SafeBuckets" "squares" "[I") ∈ lw_all := lw_g (lw_at lw_m2 83 rfl) rfl
theorem q439 : (Jvm.Cond.soleField "SafeBuckets" "squares") ∈ lw_all := lw_g (lw_at lw_m2 84 rfl) rfl
theorem q440 : (Jvm.Cond.laysFinal "SafeBuckets" "SafeBuckets" "least" "[[J") ∈ lw_all := lw_g (lw_at lw_m2 85 rfl) rfl
theorem q441 : (Jvm.Cond.soleField "SafeBuckets" "least") ∈ lw_all := lw_g (lw_at lw_m2 86 rfl) rfl
theorem q442 : (Jvm.Cond.laysFinal "SafeBuckets" "SafeBuckets" "next" "[[I") ∈ lw_all := lw_g (lw_at lw_m2 87 rfl) rfl
theorem q443 : (Jvm.Cond.soleField "SafeBuckets" "next") ∈ lw_all := lw_g (lw_at lw_m2 88 rfl) rfl
theorem q444 : (Jvm.Cond.lays "SafeBuckets" "SafeBuckets" "triedMany" "I") ∈ lw_all := lw_g (lw_at lw_m2 89 rfl) rfl
theorem q445 : (Jvm.Cond.soleField "SafeBuckets" "triedMany") ∈ lw_all := lw_g (lw_at lw_m2 90 rfl) rfl
theorem q446 : (Jvm.Cond.lays "SafeBuckets" "SafeBuckets" "plainMany" "I") ∈ lw_all := lw_g (lw_at lw_m2 91 rfl) rfl
theorem q447 : (Jvm.Cond.soleField "SafeBuckets" "plainMany") ∈ lw_all := lw_g (lw_at lw_m2 92 rfl) rfl
theorem q448 : (Jvm.Cond.laysFinal "SafeBuckets" "SafeBuckets" "now" "LSafeBuckets$State;") ∈ lw_all := lw_g (lw_at lw_m2 93 rfl) rfl
theorem q449 : (Jvm.Cond.soleField "SafeBuckets" "now") ∈ lw_all := lw_g (lw_at lw_m2 94 rfl) rfl
theorem q450 : (Jvm.Cond.laysFinal "SafeBuckets" "SafeBuckets" "image" "LSafeBuckets$State;") ∈ lw_all := lw_g (lw_at lw_m2 95 rfl) rfl
theorem q451 : (Jvm.Cond.soleField "SafeBuckets" "image") ∈ lw_all := lw_g (lw_at lw_m2 96 rfl) rfl
theorem q452 : (Jvm.Cond.laysFinal "SafeBuckets" "SafeBuckets" "tried" "LSafeBuckets$Sheet;") ∈ lw_all := lw_g (lw_at lw_m2 97 rfl) rfl
theorem q453 : (Jvm.Cond.soleField "SafeBuckets" "tried") ∈ lw_all := lw_g (lw_at lw_m2 98 rfl) rfl
theorem q454 : (Jvm.Cond.laysFinal "SafeBuckets" "SafeBuckets" "backs" "[LSafeBuckets$State;") ∈ lw_all := lw_g (lw_at lw_m2 99 rfl) rfl
theorem q455 : (Jvm.Cond.soleField "SafeBuckets" "backs") ∈ lw_all := lw_g (lw_at lw_m2 100 rfl) rfl
theorem q456 : (Jvm.Cond.lays "SafeBuckets" "SafeBuckets" "undos" "I") ∈ lw_all := lw_g (lw_at lw_m2 101 rfl) rfl
theorem q457 : (Jvm.Cond.soleField "SafeBuckets" "undos") ∈ lw_all := lw_g (lw_at lw_m2 102 rfl) rfl
theorem q458 : (Jvm.Cond.lays "SafeBuckets" "SafeBuckets" "undoAt" "I") ∈ lw_all := lw_g (lw_at lw_m2 103 rfl) rfl
theorem q459 : (Jvm.Cond.soleField "SafeBuckets" "undoAt") ∈ lw_all := lw_g (lw_at lw_m2 104 rfl) rfl
theorem q460 : (Jvm.Cond.lays "SafeBuckets" "SafeBuckets" "x" "J") ∈ lw_all := lw_g (lw_at lw_m2 105 rfl) rfl
theorem q461 : (Jvm.Cond.soleField "SafeBuckets" "x") ∈ lw_all := lw_g (lw_at lw_m2 106 rfl) rfl
theorem q462 : (Jvm.Cond.laysFinal "SafeBuckets" "SafeBuckets" "tooLong" "LSafeBuckets$TooLong;") ∈ lw_all := lw_g (lw_at lw_m2 107 rfl) rfl
theorem q463 : (Jvm.Cond.soleField "SafeBuckets" "tooLong") ∈ lw_all := lw_g (lw_at lw_m2 108 rfl) rfl
theorem q464 : (Jvm.Cond.laysFinal "SafeBuckets" "SafeBuckets" "events" "[I") ∈ lw_all := lw_g (lw_at lw_m2 109 rfl) rfl
theorem q465 : (Jvm.Cond.soleField "SafeBuckets" "events") ∈ lw_all := lw_g (lw_at lw_m2 110 rfl) rfl
theorem q466 : (Jvm.Cond.lays "SafeBuckets" "SafeBuckets" "eventMany" "I") ∈ lw_all := lw_g (lw_at lw_m2 111 rfl) rfl
theorem q467 : (Jvm.Cond.soleField "SafeBuckets" "eventMany") ∈ lw_all := lw_g (lw_at lw_m2 112 rfl) rfl
theorem q468 : (Jvm.Cond.lays "SafeBuckets" "SafeBuckets" "steps" "I") ∈ lw_all := lw_g (lw_at lw_m2 113 rfl) rfl
theorem q469 : (Jvm.Cond.soleField "SafeBuckets" "steps") ∈ lw_all := lw_g (lw_at lw_m2 114 rfl) rfl
theorem q470 : (Jvm.Cond.laysFinal "SafeBuckets" "SafeBuckets" "degrees" "[I") ∈ lw_all := lw_g (lw_at lw_m2 115 rfl) rfl
theorem q471 : (Jvm.Cond.soleField "SafeBuckets" "degrees") ∈ lw_all := lw_g (lw_at lw_m2 116 rfl) rfl
theorem q472 : (Jvm.Cond.laysFinal "SafeBuckets" "SafeBuckets" "others" "[I") ∈ lw_all := lw_g (lw_at lw_m2 117 rfl) rfl
theorem q473 : (Jvm.Cond.soleField "SafeBuckets" "others") ∈ lw_all := lw_g (lw_at lw_m2 118 rfl) rfl
theorem q474 : (Jvm.Cond.lays "SafeBuckets" "SafeBuckets" "hasImage" "Z") ∈ lw_all := lw_g (lw_at lw_m2 119 rfl) rfl
theorem q475 : (Jvm.Cond.soleField "SafeBuckets" "hasImage") ∈ lw_all := lw_g (lw_at lw_m2 120 rfl) rfl
theorem q476 : (Jvm.Cond.superclass "SafeBuckets" "java/lang/Object") ∈ lw_all := lw_g (lw_at lw_m2 121 rfl) rfl
theorem q478 : (Jvm.Cond.instanceMethod ({ cls := "SafeBuckets", name := "fault", desc := "(I)I" } : Jvm.MethodName)) ∈ lw_all := lw_g (lw_at lw_m2 123 rfl) rfl
theorem q479 : (Jvm.Cond.selects "SafeBuckets" ({ cls := "SafeBuckets", name := "fault", desc := "(I)I" } : Jvm.MethodName) ({ cls := "SafeBuckets", name := "fault", desc := "(I)I" } : Jvm.MethodName)) ∈ lw_all := lw_g (lw_at lw_m2 124 rfl) rfl
theorem q480 : (Jvm.Cond.codeWith ({ cls := "SafeBuckets", name := "fault", desc := "(I)I" } : Jvm.MethodName) prog_1_method_8_code (3 : Nat) (Option.some Jvm.ClassFile.FieldType.int) [((13 : Nat), (46 : Nat), (47 : Nat), (118 : Nat))]) ∈ lw_all := lw_g (lw_at lw_m2 125 rfl) rfl
theorem q481 : (Jvm.Cond.classLink "SafeBuckets" (118 : Nat) "SafeBuckets$Wrong") ∈ lw_all := lw_g (lw_at lw_m2 126 rfl) rfl
theorem q482 : (Jvm.Cond.methodLink "SafeBuckets" (97 : Nat) ({ cls := "SafeBuckets", name := "isIn", desc := "(JJJ)Z" } : Jvm.MethodName)) ∈ lw_all := lw_g (lw_at lw_m2 127 rfl) rfl
theorem q483 : (Jvm.Cond.static ({ cls := "SafeBuckets", name := "isIn", desc := "(JJJ)Z" } : Jvm.MethodName)) ∈ lw_all := lw_g (lw_at lw_m2 128 rfl) rfl
theorem q484 : (Jvm.Cond.code ({ cls := "SafeBuckets", name := "isIn", desc := "(JJJ)Z" } : Jvm.MethodName) prog_1_method_1_code (6 : Nat) (Option.some Jvm.ClassFile.FieldType.boolean)) ∈ lw_all := lw_g (lw_at lw_m2 129 rfl) rfl
theorem q485 : (Jvm.Cond.classLink "SafeBuckets" (101 : Nat) "SafeBuckets$Reader") ∈ lw_all := lw_g (lw_at lw_m2 130 rfl) rfl
theorem q487 : (Jvm.Cond.methodLinkNest "SafeBuckets" (103 : Nat) ({ cls := "SafeBuckets$Reader", name := "<init>", desc := "(LSafeBuckets;)V" } : Jvm.MethodName) "SafeBuckets") ∈ lw_tbl := lw_at lw_m2 132 rfl
theorem q498 : (Jvm.Cond.methodLink "SafeBuckets" (104 : Nat) ({ cls := "SafeBuckets$Reader", name := "book", desc := "()LSafeBuckets$Book;" } : Jvm.MethodName)) ∈ lw_all := lw_g (lw_at lw_m2 143 rfl) rfl
theorem q521 : (Jvm.Cond.fieldLinkNest "SafeBuckets" (207 : Nat) "SafeBuckets$Book" "rules" "LSafeBuckets$Rules;" "SafeBuckets") ∈ lw_tbl := lw_at lw_m2 166 rfl
theorem q525 : (Jvm.Cond.fieldLinkNest "SafeBuckets" (139 : Nat) "SafeBuckets$Book" "many" "I" "SafeBuckets") ∈ lw_tbl := lw_at lw_m2 170 rfl
theorem q566 : (Jvm.Cond.fieldLinkNest "SafeBuckets" (120 : Nat) "SafeBuckets$Wrong" "at" "I" "SafeBuckets") ∈ lw_tbl := lw_at lw_m2 211 rfl
theorem q594 : (Jvm.Cond.fieldLink "SafeBuckets" (211 : Nat) "SafeBuckets$Rules" "values" "[I") ∈ lw_all := lw_g (lw_at lw_m2 239 rfl) rfl
theorem q720 : (Jvm.Cond.static ({ cls := "SafeBuckets", name := "has", desc := "(II)Z" } : Jvm.MethodName)) ∈ lw_all := lw_g (lw_at lw_m3 125 rfl) rfl
theorem q721 : (Jvm.Cond.code ({ cls := "SafeBuckets", name := "has", desc := "(II)Z" } : Jvm.MethodName) prog_1_method_2_code (2 : Nat) (Option.some Jvm.ClassFile.FieldType.boolean)) ∈ lw_all := lw_g (lw_at lw_m3 126 rfl) rfl
theorem q769 : (Jvm.Cond.methodLink "SafeBuckets" (110 : Nat) ({ cls := "SafeBuckets$Reader", name := "where", desc := "()LSafeBuckets$Where;" } : Jvm.MethodName)) ∈ lw_all := lw_g (lw_at lw_m3 174 rfl) rfl
theorem q782 : (Jvm.Cond.fieldLinkNest "SafeBuckets" (148 : Nat) "SafeBuckets$Where" "terms" "[LSafeBuckets$Term;" "SafeBuckets") ∈ lw_tbl := lw_at lw_m3 187 rfl
theorem q785 : (Jvm.Cond.fieldLinkNest "SafeBuckets" (147 : Nat) "SafeBuckets$Where" "many" "I" "SafeBuckets") ∈ lw_tbl := lw_at lw_m3 190 rfl
theorem q802 : (Jvm.Cond.fieldLinkNest "SafeBuckets" (155 : Nat) "SafeBuckets$Term" "units" "[LSafeBuckets$Unit;" "SafeBuckets") ∈ lw_tbl := lw_at lw_m3 207 rfl
theorem q805 : (Jvm.Cond.fieldLinkNest "SafeBuckets" (152 : Nat) "SafeBuckets$Term" "many" "I" "SafeBuckets") ∈ lw_tbl := lw_at lw_m3 210 rfl
theorem q855 : (Jvm.Cond.instanceMethod ({ cls := "SafeBuckets", name := "text", desc := "(I)I" } : Jvm.MethodName)) ∈ lw_all := lw_g (lw_at lw_m4 20 rfl) rfl
theorem q856 : (Jvm.Cond.selects "SafeBuckets" ({ cls := "SafeBuckets", name := "text", desc := "(I)I" } : Jvm.MethodName) ({ cls := "SafeBuckets", name := "text", desc := "(I)I" } : Jvm.MethodName)) ∈ lw_all := lw_g (lw_at lw_m4 21 rfl) rfl
theorem q857 : (Jvm.Cond.code ({ cls := "SafeBuckets", name := "text", desc := "(I)I" } : Jvm.MethodName) prog_1_method_9_code (2 : Nat) (Option.some Jvm.ClassFile.FieldType.int)) ∈ lw_all := lw_g (lw_at lw_m4 22 rfl) rfl
theorem q858 : (Jvm.Cond.methodLink "SafeBuckets" (126 : Nat) ({ cls := "SafeBuckets", name := "fault", desc := "(I)I" } : Jvm.MethodName)) ∈ lw_all := lw_g (lw_at lw_m4 23 rfl) rfl
theorem q859 : (Jvm.Cond.methodLink "SafeBuckets" (129 : Nat) ({ cls := "SafeBuckets$State", name := "starts", desc := "()V" } : Jvm.MethodName)) ∈ lw_all := lw_g (lw_at lw_m4 24 rfl) rfl
theorem q885 : (Jvm.Cond.privateMethod ({ cls := "SafeBuckets", name := "lays", desc := "(LSafeBuckets$Sheet;II)V" } : Jvm.MethodName)) ∈ lw_tbl := lw_at lw_m4 50 rfl
theorem q886 : (Jvm.Cond.instanceMethod ({ cls := "SafeBuckets", name := "lays", desc := "(LSafeBuckets$Sheet;II)V" } : Jvm.MethodName)) ∈ lw_all := lw_g (lw_at lw_m4 51 rfl) rfl
theorem q887 : (Jvm.Cond.code ({ cls := "SafeBuckets", name := "lays", desc := "(LSafeBuckets$Sheet;II)V" } : Jvm.MethodName) prog_1_method_13_code (7 : Nat) (Option.none : Option Jvm.ClassFile.FieldType)) ∈ lw_all := lw_g (lw_at lw_m4 52 rfl) rfl
theorem q888 : (Jvm.Cond.methodLink "SafeBuckets" (173 : Nat) ({ cls := "SafeBuckets", name := "counts", desc := "(LSafeBuckets$Sheet;I)V" } : Jvm.MethodName)) ∈ lw_all := lw_g (lw_at lw_m4 53 rfl) rfl
theorem q889 : (Jvm.Cond.privateMethod ({ cls := "SafeBuckets", name := "counts", desc := "(LSafeBuckets$Sheet;I)V" } : Jvm.MethodName)) ∈ lw_tbl := lw_at lw_m4 54 rfl
theorem q890 : (Jvm.Cond.instanceMethod ({ cls := "SafeBuckets", name := "counts", desc := "(LSafeBuckets$Sheet;I)V" } : Jvm.MethodName)) ∈ lw_all := lw_g (lw_at lw_m4 55 rfl) rfl
theorem q891 : (Jvm.Cond.code ({ cls := "SafeBuckets", name := "counts", desc := "(LSafeBuckets$Sheet;I)V" } : Jvm.MethodName) prog_1_method_11_code (4 : Nat) (Option.none : Option Jvm.ClassFile.FieldType)) ∈ lw_all := lw_g (lw_at lw_m4 56 rfl) rfl
theorem q892 : (Jvm.Cond.methodLink "SafeBuckets" (167 : Nat) ({ cls := "SafeBuckets$Sheet", name := "count", desc := "(II)I" } : Jvm.MethodName)) ∈ lw_all := lw_g (lw_at lw_m4 57 rfl) rfl
theorem q900 : (Jvm.Cond.methodLink "SafeBuckets" (182 : Nat) ({ cls := "SafeBuckets", name := "errorOf", desc := "(II)J" } : Jvm.MethodName)) ∈ lw_all := lw_g (lw_at lw_m4 65 rfl) rfl
theorem q901 : (Jvm.Cond.privateMethod ({ cls := "SafeBuckets", name := "errorOf", desc := "(II)J" } : Jvm.MethodName)) ∈ lw_tbl := lw_at lw_m4 66 rfl
theorem q902 : (Jvm.Cond.instanceMethod ({ cls := "SafeBuckets", name := "errorOf", desc := "(II)J" } : Jvm.MethodName)) ∈ lw_all := lw_g (lw_at lw_m4 67 rfl) rfl
theorem q903 : (Jvm.Cond.code ({ cls := "SafeBuckets", name := "errorOf", desc := "(II)J" } : Jvm.MethodName) prog_1_method_12_code (5 : Nat) (Option.some Jvm.ClassFile.FieldType.long)) ∈ lw_all := lw_g (lw_at lw_m4 68 rfl) rfl
theorem q904 : (Jvm.Cond.constantLong "SafeBuckets" (171 : Nat) (720720 : Int64)) ∈ lw_all := lw_g (lw_at lw_m4 69 rfl) rfl
theorem q905 : (Jvm.Cond.methodLink "SafeBuckets" (186 : Nat) ({ cls := "SafeBuckets", name := "tries", desc := "(III)V" } : Jvm.MethodName)) ∈ lw_all := lw_g (lw_at lw_m4 70 rfl) rfl
theorem q906 : (Jvm.Cond.privateMethod ({ cls := "SafeBuckets", name := "tries", desc := "(III)V" } : Jvm.MethodName)) ∈ lw_tbl := lw_at lw_m4 71 rfl
theorem q907 : (Jvm.Cond.instanceMethod ({ cls := "SafeBuckets", name := "tries", desc := "(III)V" } : Jvm.MethodName)) ∈ lw_all := lw_g (lw_at lw_m4 72 rfl) rfl
theorem q908 : (Jvm.Cond.code ({ cls := "SafeBuckets", name := "tries", desc := "(III)V" } : Jvm.MethodName) prog_1_method_14_code (7 : Nat) (Option.none : Option Jvm.ClassFile.FieldType)) ∈ lw_all := lw_g (lw_at lw_m4 73 rfl) rfl
theorem q909 : (Jvm.Cond.constantLong "SafeBuckets" (192 : Nat) (9223372036854775807 : Int64)) ∈ lw_all := lw_g (lw_at lw_m4 74 rfl) rfl
theorem q912 : (Jvm.Cond.instanceMethod ({ cls := "SafeBuckets", name := "unit", desc := "(III)I" } : Jvm.MethodName)) ∈ lw_all := lw_g (lw_at lw_m4 77 rfl) rfl
theorem q913 : (Jvm.Cond.selects "SafeBuckets" ({ cls := "SafeBuckets", name := "unit", desc := "(III)I" } : Jvm.MethodName) ({ cls := "SafeBuckets", name := "unit", desc := "(III)I" } : Jvm.MethodName)) ∈ lw_all := lw_g (lw_at lw_m4 78 rfl) rfl
theorem q914 : (Jvm.Cond.code ({ cls := "SafeBuckets", name := "unit", desc := "(III)I" } : Jvm.MethodName) prog_1_method_10_code (7 : Nat) (Option.some Jvm.ClassFile.FieldType.int)) ∈ lw_all := lw_g (lw_at lw_m4 79 rfl) rfl
theorem q915 : (Jvm.Cond.constantLong "SafeBuckets" (144 : Nat) (3 : Int64)) ∈ lw_all := lw_g (lw_at lw_m4 80 rfl) rfl
theorem q916 : (Jvm.Cond.constant "SafeBuckets" (146 : Nat) (-1000000 : Int32)) ∈ lw_all := lw_g (lw_at lw_m4 81 rfl) rfl
theorem q917 : (Jvm.Cond.methodLink "SafeBuckets" (159 : Nat) ({ cls := "SafeBuckets$Unit", name := "told", desc := "(I)I" } : Jvm.MethodName)) ∈ lw_all := lw_g (lw_at lw_m4 82 rfl) rfl
theorem q926 : (Jvm.Cond.instanceMethod ({ cls := "SafeBuckets", name := "rule", desc := "(I)I" } : Jvm.MethodName)) ∈ lw_all := lw_g (lw_at lw_m4 91 rfl) rfl
theorem q927 : (Jvm.Cond.selects "SafeBuckets" ({ cls := "SafeBuckets", name := "rule", desc := "(I)I" } : Jvm.MethodName) ({ cls := "SafeBuckets", name := "rule", desc := "(I)I" } : Jvm.MethodName)) ∈ lw_all := lw_g (lw_at lw_m4 92 rfl) rfl
theorem q928 : (Jvm.Cond.code ({ cls := "SafeBuckets", name := "rule", desc := "(I)I" } : Jvm.MethodName) prog_1_method_19_code (2 : Nat) (Option.some Jvm.ClassFile.FieldType.int)) ∈ lw_all := lw_g (lw_at lw_m4 93 rfl) rfl
theorem q929 : (Jvm.Cond.constantLong "SafeBuckets" (202 : Nat) (2 : Int64)) ∈ lw_all := lw_g (lw_at lw_m4 94 rfl) rfl
theorem q931 : (Jvm.Cond.instanceMethod ({ cls := "SafeBuckets", name := "rows", desc := "(III)I" } : Jvm.MethodName)) ∈ lw_all := lw_g (lw_at lw_m4 96 rfl) rfl
theorem q932 : (Jvm.Cond.selects "SafeBuckets" ({ cls := "SafeBuckets", name := "rows", desc := "(III)I" } : Jvm.MethodName) ({ cls := "SafeBuckets", name := "rows", desc := "(III)I" } : Jvm.MethodName)) ∈ lw_all := lw_g (lw_at lw_m4 97 rfl) rfl
theorem q933 : (Jvm.Cond.code ({ cls := "SafeBuckets", name := "rows", desc := "(III)I" } : Jvm.MethodName) prog_1_method_22_code (4 : Nat) (Option.some Jvm.ClassFile.FieldType.int)) ∈ lw_all := lw_g (lw_at lw_m4 98 rfl) rfl
theorem q934 : (Jvm.Cond.methodLink "SafeBuckets" (231 : Nat) ({ cls := "SafeBuckets", name := "isPair", desc := "(III)Z" } : Jvm.MethodName)) ∈ lw_all := lw_g (lw_at lw_m4 99 rfl) rfl
theorem q935 : (Jvm.Cond.privateMethod ({ cls := "SafeBuckets", name := "isPair", desc := "(III)Z" } : Jvm.MethodName)) ∈ lw_tbl := lw_at lw_m4 100 rfl
theorem q936 : (Jvm.Cond.instanceMethod ({ cls := "SafeBuckets", name := "isPair", desc := "(III)Z" } : Jvm.MethodName)) ∈ lw_all := lw_g (lw_at lw_m4 101 rfl) rfl
theorem q937 : (Jvm.Cond.code ({ cls := "SafeBuckets", name := "isPair", desc := "(III)Z" } : Jvm.MethodName) prog_1_method_21_code (4 : Nat) (Option.some Jvm.ClassFile.FieldType.boolean)) ∈ lw_all := lw_g (lw_at lw_m4 102 rfl) rfl
theorem q938 : (Jvm.Cond.methodLink "SafeBuckets" (194 : Nat) ({ cls := "SafeBuckets", name := "isTable", desc := "(I)Z" } : Jvm.MethodName)) ∈ lw_all := lw_g (lw_at lw_m4 103 rfl) rfl
theorem q939 : (Jvm.Cond.privateMethod ({ cls := "SafeBuckets", name := "isTable", desc := "(I)Z" } : Jvm.MethodName)) ∈ lw_tbl := lw_at lw_m4 104 rfl
theorem q940 : (Jvm.Cond.instanceMethod ({ cls := "SafeBuckets", name := "isTable", desc := "(I)Z" } : Jvm.MethodName)) ∈ lw_all := lw_g (lw_at lw_m4 105 rfl) rfl
theorem q941 : (Jvm.Cond.code ({ cls := "SafeBuckets", name := "isTable", desc := "(I)Z" } : Jvm.MethodName) prog_1_method_15_code (2 : Nat) (Option.some Jvm.ClassFile.FieldType.boolean)) ∈ lw_all := lw_g (lw_at lw_m4 106 rfl) rfl
theorem q942 : (Jvm.Cond.methodLink "SafeBuckets" (218 : Nat) ({ cls := "SafeBuckets", name := "sheet", desc := "(I)LSafeBuckets$Sheet;" } : Jvm.MethodName)) ∈ lw_all := lw_g (lw_at lw_m4 107 rfl) rfl
theorem q943 : (Jvm.Cond.privateMethod ({ cls := "SafeBuckets", name := "sheet", desc := "(I)LSafeBuckets$Sheet;" } : Jvm.MethodName)) ∈ lw_tbl := lw_at lw_m4 108 rfl
theorem q944 : (Jvm.Cond.instanceMethod ({ cls := "SafeBuckets", name := "sheet", desc := "(I)LSafeBuckets$Sheet;" } : Jvm.MethodName)) ∈ lw_all := lw_g (lw_at lw_m4 109 rfl) rfl
theorem q945 : (Jvm.Cond.code ({ cls := "SafeBuckets", name := "sheet", desc := "(I)LSafeBuckets$Sheet;" } : Jvm.MethodName) prog_1_method_18_code (2 : Nat) (Option.some (Jvm.ClassFile.FieldType.object "SafeBuckets$Sheet"))) ∈ lw_all := lw_g (lw_at lw_m4 110 rfl) rfl
theorem q946 : (Jvm.Cond.methodLink "SafeBuckets" (228 : Nat) ({ cls := "SafeBuckets$Sheet", name := "isValue", desc := "(I)Z" } : Jvm.MethodName)) ∈ lw_all := lw_g (lw_at lw_m4 111 rfl) rfl
theorem q951 : (Jvm.Cond.methodLink "SafeBuckets" (235 : Nat) ({ cls := "SafeBuckets$Sheet", name := "alike", desc := "(II)I" } : Jvm.MethodName)) ∈ lw_all := lw_g (lw_at lw_m4 116 rfl) rfl
theorem q953 : (Jvm.Cond.instanceMethod ({ cls := "SafeBuckets", name := "countOf", desc := "(III)I" } : Jvm.MethodName)) ∈ lw_all := lw_g (lw_at lw_m4 118 rfl) rfl
theorem q954 : (Jvm.Cond.selects "SafeBuckets" ({ cls := "SafeBuckets", name := "countOf", desc := "(III)I" } : Jvm.MethodName) ({ cls := "SafeBuckets", name := "countOf", desc := "(III)I" } : Jvm.MethodName)) ∈ lw_all := lw_g (lw_at lw_m4 119 rfl) rfl
theorem q955 : (Jvm.Cond.code ({ cls := "SafeBuckets", name := "countOf", desc := "(III)I" } : Jvm.MethodName) prog_1_method_23_code (4 : Nat) (Option.some Jvm.ClassFile.FieldType.int)) ∈ lw_all := lw_g (lw_at lw_m4 120 rfl) rfl
theorem q956 : (Jvm.Cond.methodLink "SafeBuckets" (238 : Nat) ({ cls := "SafeBuckets", name := "isColumn", desc := "(II)Z" } : Jvm.MethodName)) ∈ lw_all := lw_g (lw_at lw_m4 121 rfl) rfl
theorem q957 : (Jvm.Cond.privateMethod ({ cls := "SafeBuckets", name := "isColumn", desc := "(II)Z" } : Jvm.MethodName)) ∈ lw_tbl := lw_at lw_m4 122 rfl
theorem q958 : (Jvm.Cond.instanceMethod ({ cls := "SafeBuckets", name := "isColumn", desc := "(II)Z" } : Jvm.MethodName)) ∈ lw_all := lw_g (lw_at lw_m4 123 rfl) rfl
theorem q959 : (Jvm.Cond.code ({ cls := "SafeBuckets", name := "isColumn", desc := "(II)Z" } : Jvm.MethodName) prog_1_method_16_code (3 : Nat) (Option.some Jvm.ClassFile.FieldType.boolean)) ∈ lw_all := lw_g (lw_at lw_m4 124 rfl) rfl
theorem q961 : (Jvm.Cond.instanceMethod ({ cls := "SafeBuckets", name := "bucket", desc := "(IIII)I" } : Jvm.MethodName)) ∈ lw_all := lw_g (lw_at lw_m4 126 rfl) rfl
theorem q962 : (Jvm.Cond.selects "SafeBuckets" ({ cls := "SafeBuckets", name := "bucket", desc := "(IIII)I" } : Jvm.MethodName) ({ cls := "SafeBuckets", name := "bucket", desc := "(IIII)I" } : Jvm.MethodName)) ∈ lw_all := lw_g (lw_at lw_m4 127 rfl) rfl
theorem q963 : (Jvm.Cond.code ({ cls := "SafeBuckets", name := "bucket", desc := "(IIII)I" } : Jvm.MethodName) prog_1_method_24_code (5 : Nat) (Option.some Jvm.ClassFile.FieldType.int)) ∈ lw_all := lw_g (lw_at lw_m4 128 rfl) rfl
theorem q964 : (Jvm.Cond.methodLink "SafeBuckets" (253 : Nat) ({ cls := "SafeBuckets$Bucket", name := "told", desc := "(I)I" } : Jvm.MethodName)) ∈ lw_all := lw_g (lw_at lw_m4 129 rfl) rfl
theorem q969 : (Jvm.Cond.instanceMethod ({ cls := "SafeBuckets", name := "column", desc := "(III)I" } : Jvm.MethodName)) ∈ lw_all := lw_g (lw_at lw_m4 134 rfl) rfl
theorem q970 : (Jvm.Cond.selects "SafeBuckets" ({ cls := "SafeBuckets", name := "column", desc := "(III)I" } : Jvm.MethodName) ({ cls := "SafeBuckets", name := "column", desc := "(III)I" } : Jvm.MethodName)) ∈ lw_all := lw_g (lw_at lw_m4 135 rfl) rfl
theorem q971 : (Jvm.Cond.code ({ cls := "SafeBuckets", name := "column", desc := "(III)I" } : Jvm.MethodName) prog_1_method_26_code (5 : Nat) (Option.some Jvm.ClassFile.FieldType.int)) ∈ lw_all := lw_g (lw_at lw_m4 136 rfl) rfl
theorem q972 : (Jvm.Cond.methodLink "SafeBuckets" (265 : Nat) ({ cls := "SafeBuckets", name := "worst", desc := "(LSafeBuckets$Sheet;I)I" } : Jvm.MethodName)) ∈ lw_all := lw_g (lw_at lw_m4 137 rfl) rfl
theorem q973 : (Jvm.Cond.privateMethod ({ cls := "SafeBuckets", name := "worst", desc := "(LSafeBuckets$Sheet;I)I" } : Jvm.MethodName)) ∈ lw_tbl := lw_at lw_m4 138 rfl
theorem q974 : (Jvm.Cond.instanceMethod ({ cls := "SafeBuckets", name := "worst", desc := "(LSafeBuckets$Sheet;I)I" } : Jvm.MethodName)) ∈ lw_all := lw_g (lw_at lw_m4 139 rfl) rfl
theorem q975 : (Jvm.Cond.code ({ cls := "SafeBuckets", name := "worst", desc := "(LSafeBuckets$Sheet;I)I" } : Jvm.MethodName) prog_1_method_25_code (6 : Nat) (Option.some Jvm.ClassFile.FieldType.int)) ∈ lw_all := lw_g (lw_at lw_m4 140 rfl) rfl
theorem q977 : (Jvm.Cond.instanceMethod ({ cls := "SafeBuckets", name := "error", desc := "(III)J" } : Jvm.MethodName)) ∈ lw_all := lw_g (lw_at lw_m4 142 rfl) rfl
theorem q978 : (Jvm.Cond.selects "SafeBuckets" ({ cls := "SafeBuckets", name := "error", desc := "(III)J" } : Jvm.MethodName) ({ cls := "SafeBuckets", name := "error", desc := "(III)J" } : Jvm.MethodName)) ∈ lw_all := lw_g (lw_at lw_m4 143 rfl) rfl
theorem q979 : (Jvm.Cond.code ({ cls := "SafeBuckets", name := "error", desc := "(III)J" } : Jvm.MethodName) prog_1_method_28_code (4 : Nat) (Option.some Jvm.ClassFile.FieldType.long)) ∈ lw_all := lw_g (lw_at lw_m4 144 rfl) rfl
theorem q980 : (Jvm.Cond.methodLink "SafeBuckets" (269 : Nat) ({ cls := "SafeBuckets", name := "isSplit", desc := "(III)Z" } : Jvm.MethodName)) ∈ lw_all := lw_g (lw_at lw_m4 145 rfl) rfl
theorem q981 : (Jvm.Cond.privateMethod ({ cls := "SafeBuckets", name := "isSplit", desc := "(III)Z" } : Jvm.MethodName)) ∈ lw_tbl := lw_at lw_m4 146 rfl
theorem q982 : (Jvm.Cond.instanceMethod ({ cls := "SafeBuckets", name := "isSplit", desc := "(III)Z" } : Jvm.MethodName)) ∈ lw_all := lw_g (lw_at lw_m4 147 rfl) rfl
theorem q983 : (Jvm.Cond.code ({ cls := "SafeBuckets", name := "isSplit", desc := "(III)Z" } : Jvm.MethodName) prog_1_method_27_code (4 : Nat) (Option.some Jvm.ClassFile.FieldType.boolean)) ∈ lw_all := lw_g (lw_at lw_m4 148 rfl) rfl
theorem q984 : (Jvm.Cond.constantLong "SafeBuckets" (272 : Nat) (-1 : Int64)) ∈ lw_all := lw_g (lw_at lw_m4 149 rfl) rfl
theorem q985 : (Jvm.Cond.methodLink "SafeBuckets" (274 : Nat) ({ cls := "SafeBuckets", name := "lays", desc := "(LSafeBuckets$Sheet;II)V" } : Jvm.MethodName)) ∈ lw_all := lw_g (lw_at lw_m4 150 rfl) rfl
theorem q987 : (Jvm.Cond.instanceMethod ({ cls := "SafeBuckets", name := "border", desc := "(IIII)I" } : Jvm.MethodName)) ∈ lw_all := lw_g (lw_at lw_m4 152 rfl) rfl
theorem q988 : (Jvm.Cond.selects "SafeBuckets" ({ cls := "SafeBuckets", name := "border", desc := "(IIII)I" } : Jvm.MethodName) ({ cls := "SafeBuckets", name := "border", desc := "(IIII)I" } : Jvm.MethodName)) ∈ lw_all := lw_g (lw_at lw_m4 153 rfl) rfl
theorem q989 : (Jvm.Cond.code ({ cls := "SafeBuckets", name := "border", desc := "(IIII)I" } : Jvm.MethodName) prog_1_method_29_code (7 : Nat) (Option.some Jvm.ClassFile.FieldType.int)) ∈ lw_all := lw_g (lw_at lw_m4 154 rfl) rfl
theorem q991 : (Jvm.Cond.instanceMethod ({ cls := "SafeBuckets", name := "tried", desc := "(IIII)I" } : Jvm.MethodName)) ∈ lw_all := lw_g (lw_at lw_m4 156 rfl) rfl
theorem q992 : (Jvm.Cond.selects "SafeBuckets" ({ cls := "SafeBuckets", name := "tried", desc := "(IIII)I" } : Jvm.MethodName) ({ cls := "SafeBuckets", name := "tried", desc := "(IIII)I" } : Jvm.MethodName)) ∈ lw_all := lw_g (lw_at lw_m4 157 rfl) rfl
theorem q993 : (Jvm.Cond.code ({ cls := "SafeBuckets", name := "tried", desc := "(IIII)I" } : Jvm.MethodName) prog_1_method_30_code (5 : Nat) (Option.some Jvm.ClassFile.FieldType.int)) ∈ lw_all := lw_g (lw_at lw_m4 158 rfl) rfl
theorem q995 : (Jvm.Cond.instanceMethod ({ cls := "SafeBuckets", name := "fewest", desc := "(IIJ)I" } : Jvm.MethodName)) ∈ lw_all := lw_g (lw_at lw_m4 160 rfl) rfl
theorem q996 : (Jvm.Cond.selects "SafeBuckets" ({ cls := "SafeBuckets", name := "fewest", desc := "(IIJ)I" } : Jvm.MethodName) ({ cls := "SafeBuckets", name := "fewest", desc := "(IIJ)I" } : Jvm.MethodName)) ∈ lw_all := lw_g (lw_at lw_m4 161 rfl) rfl
theorem q997 : (Jvm.Cond.code ({ cls := "SafeBuckets", name := "fewest", desc := "(IIJ)I" } : Jvm.MethodName) prog_1_method_31_code (7 : Nat) (Option.some Jvm.ClassFile.FieldType.int)) ∈ lw_all := lw_g (lw_at lw_m4 162 rfl) rfl
theorem q999 : (Jvm.Cond.instanceMethod ({ cls := "SafeBuckets", name := "add", desc := "(IIII)I" } : Jvm.MethodName)) ∈ lw_all := lw_g (lw_at lw_m4 164 rfl) rfl
theorem q1000 : (Jvm.Cond.selects "SafeBuckets" ({ cls := "SafeBuckets", name := "add", desc := "(IIII)I" } : Jvm.MethodName) ({ cls := "SafeBuckets", name := "add", desc := "(IIII)I" } : Jvm.MethodName)) ∈ lw_all := lw_g (lw_at lw_m4 165 rfl) rfl
theorem q1001 : (Jvm.Cond.code ({ cls := "SafeBuckets", name := "add", desc := "(IIII)I" } : Jvm.MethodName) prog_1_method_36_code (6 : Nat) (Option.some Jvm.ClassFile.FieldType.int)) ∈ lw_all := lw_g (lw_at lw_m4 166 rfl) rfl
theorem q1002 : (Jvm.Cond.methodLink "SafeBuckets" (301 : Nat) ({ cls := "SafeBuckets", name := "stops", desc := "(IIIIZ)I" } : Jvm.MethodName)) ∈ lw_all := lw_g (lw_at lw_m4 167 rfl) rfl
theorem q1003 : (Jvm.Cond.privateMethod ({ cls := "SafeBuckets", name := "stops", desc := "(IIIIZ)I" } : Jvm.MethodName)) ∈ lw_tbl := lw_at lw_m4 168 rfl
theorem q1004 : (Jvm.Cond.instanceMethod ({ cls := "SafeBuckets", name := "stops", desc := "(IIIIZ)I" } : Jvm.MethodName)) ∈ lw_all := lw_g (lw_at lw_m4 169 rfl) rfl
theorem q1005 : (Jvm.Cond.code ({ cls := "SafeBuckets", name := "stops", desc := "(IIIIZ)I" } : Jvm.MethodName) prog_1_method_34_code (7 : Nat) (Option.some Jvm.ClassFile.FieldType.int)) ∈ lw_all := lw_g (lw_at lw_m4 170 rfl) rfl
theorem q1006 : (Jvm.Cond.constantLong "SafeBuckets" (290 : Nat) (99 : Int64)) ∈ lw_all := lw_g (lw_at lw_m4 171 rfl) rfl
theorem q1007 : (Jvm.Cond.methodLink "SafeBuckets" (305 : Nat) ({ cls := "SafeBuckets", name := "refuse", desc := "(I)I" } : Jvm.MethodName)) ∈ lw_all := lw_g (lw_at lw_m4 172 rfl) rfl
theorem q1008 : (Jvm.Cond.privateMethod ({ cls := "SafeBuckets", name := "refuse", desc := "(I)I" } : Jvm.MethodName)) ∈ lw_tbl := lw_at lw_m4 173 rfl
theorem q1009 : (Jvm.Cond.instanceMethod ({ cls := "SafeBuckets", name := "refuse", desc := "(I)I" } : Jvm.MethodName)) ∈ lw_all := lw_g (lw_at lw_m4 174 rfl) rfl
theorem q1010 : (Jvm.Cond.code ({ cls := "SafeBuckets", name := "refuse", desc := "(I)I" } : Jvm.MethodName) prog_1_method_33_code (2 : Nat) (Option.some Jvm.ClassFile.FieldType.int)) ∈ lw_all := lw_g (lw_at lw_m4 175 rfl) rfl
theorem q1011 : (Jvm.Cond.methodLink "SafeBuckets" (308 : Nat) ({ cls := "SafeBuckets", name := "comes", desc := "(IIIII)V" } : Jvm.MethodName)) ∈ lw_all := lw_g (lw_at lw_m4 176 rfl) rfl
theorem q1012 : (Jvm.Cond.privateMethod ({ cls := "SafeBuckets", name := "comes", desc := "(IIIII)V" } : Jvm.MethodName)) ∈ lw_tbl := lw_at lw_m4 177 rfl
theorem q1013 : (Jvm.Cond.instanceMethod ({ cls := "SafeBuckets", name := "comes", desc := "(IIIII)V" } : Jvm.MethodName)) ∈ lw_all := lw_g (lw_at lw_m4 178 rfl) rfl
theorem q1014 : (Jvm.Cond.code ({ cls := "SafeBuckets", name := "comes", desc := "(IIIII)V" } : Jvm.MethodName) prog_1_method_35_code (6 : Nat) (Option.none : Option Jvm.ClassFile.FieldType)) ∈ lw_all := lw_g (lw_at lw_m4 179 rfl) rfl
theorem q1015 : (Jvm.Cond.methodLink "SafeBuckets" (292 : Nat) ({ cls := "SafeBuckets", name := "remember", desc := "()V" } : Jvm.MethodName)) ∈ lw_all := lw_g (lw_at lw_m4 180 rfl) rfl
theorem q1016 : (Jvm.Cond.privateMethod ({ cls := "SafeBuckets", name := "remember", desc := "()V" } : Jvm.MethodName)) ∈ lw_tbl := lw_at lw_m4 181 rfl
theorem q1017 : (Jvm.Cond.instanceMethod ({ cls := "SafeBuckets", name := "remember", desc := "()V" } : Jvm.MethodName)) ∈ lw_all := lw_g (lw_at lw_m4 182 rfl) rfl
theorem q1018 : (Jvm.Cond.code ({ cls := "SafeBuckets", name := "remember", desc := "()V" } : Jvm.MethodName) prog_1_method_32_code (1 : Nat) (Option.none : Option Jvm.ClassFile.FieldType)) ∈ lw_all := lw_g (lw_at lw_m4 183 rfl) rfl
theorem q1019 : (Jvm.Cond.methodLink "SafeBuckets" (281 : Nat) ({ cls := "SafeBuckets$State", name := "becomes", desc := "(LSafeBuckets$State;)V" } : Jvm.MethodName)) ∈ lw_all := lw_g (lw_at lw_m4 184 rfl) rfl
theorem q1039 : (Jvm.Cond.methodLink "SafeBuckets" (285 : Nat) ({ cls := "java/lang/Math", name := "min", desc := "(II)I" } : Jvm.MethodName)) ∈ lw_all := lw_g (lw_at lw_m4 204 rfl) rfl
theorem q1040 : (Jvm.Cond.methodLink "SafeBuckets" (295 : Nat) ({ cls := "SafeBuckets$Sheet", name := "comes", desc := "(III)V" } : Jvm.MethodName)) ∈ lw_all := lw_g (lw_at lw_m4 205 rfl) rfl
theorem q1066 : (Jvm.Cond.methodLink "SafeBuckets" (298 : Nat) ({ cls := "SafeBuckets$State", name := "notes", desc := "(III)V" } : Jvm.MethodName)) ∈ lw_all := lw_g (lw_at lw_m4 231 rfl) rfl
theorem q1071 : (Jvm.Cond.instanceMethod ({ cls := "SafeBuckets", name := "drop", desc := "(IIII)I" } : Jvm.MethodName)) ∈ lw_all := lw_g (lw_at lw_m4 236 rfl) rfl
theorem q1072 : (Jvm.Cond.selects "SafeBuckets" ({ cls := "SafeBuckets", name := "drop", desc := "(IIII)I" } : Jvm.MethodName) ({ cls := "SafeBuckets", name := "drop", desc := "(IIII)I" } : Jvm.MethodName)) ∈ lw_all := lw_g (lw_at lw_m4 237 rfl) rfl
theorem q1073 : (Jvm.Cond.code ({ cls := "SafeBuckets", name := "drop", desc := "(IIII)I" } : Jvm.MethodName) prog_1_method_37_code (6 : Nat) (Option.some Jvm.ClassFile.FieldType.int)) ∈ lw_all := lw_g (lw_at lw_m4 238 rfl) rfl
theorem q1075 : (Jvm.Cond.instanceMethod ({ cls := "SafeBuckets", name := "move", desc := "(IIIII)I" } : Jvm.MethodName)) ∈ lw_all := lw_g (lw_at lw_m5 0 rfl) rfl
theorem q1076 : (Jvm.Cond.selects "SafeBuckets" ({ cls := "SafeBuckets", name := "move", desc := "(IIIII)I" } : Jvm.MethodName) ({ cls := "SafeBuckets", name := "move", desc := "(IIIII)I" } : Jvm.MethodName)) ∈ lw_all := lw_g (lw_at lw_m5 1 rfl) rfl
theorem q1077 : (Jvm.Cond.code ({ cls := "SafeBuckets", name := "move", desc := "(IIIII)I" } : Jvm.MethodName) prog_1_method_38_code (7 : Nat) (Option.some Jvm.ClassFile.FieldType.int)) ∈ lw_all := lw_g (lw_at lw_m5 2 rfl) rfl
theorem q1079 : (Jvm.Cond.instanceMethod ({ cls := "SafeBuckets", name := "build", desc := "(II)I" } : Jvm.MethodName)) ∈ lw_all := lw_g (lw_at lw_m5 4 rfl) rfl
theorem q1080 : (Jvm.Cond.selects "SafeBuckets" ({ cls := "SafeBuckets", name := "build", desc := "(II)I" } : Jvm.MethodName) ({ cls := "SafeBuckets", name := "build", desc := "(II)I" } : Jvm.MethodName)) ∈ lw_all := lw_g (lw_at lw_m5 5 rfl) rfl
theorem q1081 : (Jvm.Cond.code ({ cls := "SafeBuckets", name := "build", desc := "(II)I" } : Jvm.MethodName) prog_1_method_40_code (3 : Nat) (Option.some Jvm.ClassFile.FieldType.int)) ∈ lw_all := lw_g (lw_at lw_m5 6 rfl) rfl
theorem q1082 : (Jvm.Cond.methodLink "SafeBuckets" (314 : Nat) ({ cls := "SafeBuckets", name := "buildsNow", desc := "(II)V" } : Jvm.MethodName)) ∈ lw_all := lw_g (lw_at lw_m5 7 rfl) rfl
theorem q1083 : (Jvm.Cond.privateMethod ({ cls := "SafeBuckets", name := "buildsNow", desc := "(II)V" } : Jvm.MethodName)) ∈ lw_tbl := lw_at lw_m5 8 rfl
theorem q1084 : (Jvm.Cond.instanceMethod ({ cls := "SafeBuckets", name := "buildsNow", desc := "(II)V" } : Jvm.MethodName)) ∈ lw_all := lw_g (lw_at lw_m5 9 rfl) rfl
theorem q1085 : (Jvm.Cond.code ({ cls := "SafeBuckets", name := "buildsNow", desc := "(II)V" } : Jvm.MethodName) prog_1_method_39_code (3 : Nat) (Option.none : Option Jvm.ClassFile.FieldType)) ∈ lw_all := lw_g (lw_at lw_m5 10 rfl) rfl
theorem q1086 : (Jvm.Cond.methodLink "SafeBuckets" (311 : Nat) ({ cls := "SafeBuckets$Sheet", name := "builds", desc := "(I)V" } : Jvm.MethodName)) ∈ lw_all := lw_g (lw_at lw_m5 11 rfl) rfl
theorem q1088 : (Jvm.Cond.instanceMethod ({ cls := "SafeBuckets", name := "budget", desc := "(I)I" } : Jvm.MethodName)) ∈ lw_all := lw_g (lw_at lw_m5 13 rfl) rfl
theorem q1089 : (Jvm.Cond.selects "SafeBuckets" ({ cls := "SafeBuckets", name := "budget", desc := "(I)I" } : Jvm.MethodName) ({ cls := "SafeBuckets", name := "budget", desc := "(I)I" } : Jvm.MethodName)) ∈ lw_all := lw_g (lw_at lw_m5 14 rfl) rfl
theorem q1090 : (Jvm.Cond.code ({ cls := "SafeBuckets", name := "budget", desc := "(I)I" } : Jvm.MethodName) prog_1_method_41_code (3 : Nat) (Option.some Jvm.ClassFile.FieldType.int)) ∈ lw_all := lw_g (lw_at lw_m5 15 rfl) rfl
theorem q1091 : (Jvm.Cond.constantLong "SafeBuckets" (318 : Nat) (999 : Int64)) ∈ lw_all := lw_g (lw_at lw_m5 16 rfl) rfl
theorem q1093 : (Jvm.Cond.instanceMethod ({ cls := "SafeBuckets", name := "years", desc := "(IJ)I" } : Jvm.MethodName)) ∈ lw_all := lw_g (lw_at lw_m5 18 rfl) rfl
theorem q1094 : (Jvm.Cond.selects "SafeBuckets" ({ cls := "SafeBuckets", name := "years", desc := "(IJ)I" } : Jvm.MethodName) ({ cls := "SafeBuckets", name := "years", desc := "(IJ)I" } : Jvm.MethodName)) ∈ lw_all := lw_g (lw_at lw_m5 19 rfl) rfl
theorem q1095 : (Jvm.Cond.code ({ cls := "SafeBuckets", name := "years", desc := "(IJ)I" } : Jvm.MethodName) prog_1_method_45_code (5 : Nat) (Option.some Jvm.ClassFile.FieldType.int)) ∈ lw_all := lw_g (lw_at lw_m5 20 rfl) rfl
theorem q1096 : (Jvm.Cond.constantLong "SafeBuckets" (334 : Nat) (40 : Int64)) ∈ lw_all := lw_g (lw_at lw_m5 21 rfl) rfl
theorem q1097 : (Jvm.Cond.methodLink "SafeBuckets" (336 : Nat) ({ cls := "SafeBuckets", name := "happens", desc := "()V" } : Jvm.MethodName)) ∈ lw_all := lw_g (lw_at lw_m5 22 rfl) rfl
theorem q1098 : (Jvm.Cond.privateMethod ({ cls := "SafeBuckets", name := "happens", desc := "()V" } : Jvm.MethodName)) ∈ lw_tbl := lw_at lw_m5 23 rfl
theorem q1099 : (Jvm.Cond.instanceMethod ({ cls := "SafeBuckets", name := "happens", desc := "()V" } : Jvm.MethodName)) ∈ lw_all := lw_g (lw_at lw_m5 24 rfl) rfl
theorem q1100 : (Jvm.Cond.code ({ cls := "SafeBuckets", name := "happens", desc := "()V" } : Jvm.MethodName) prog_1_method_44_code (7 : Nat) (Option.none : Option Jvm.ClassFile.FieldType)) ∈ lw_all := lw_g (lw_at lw_m5 25 rfl) rfl
theorem q1101 : (Jvm.Cond.methodLink "SafeBuckets" (328 : Nat) ({ cls := "SafeBuckets", name := "draw", desc := "(I)I" } : Jvm.MethodName)) ∈ lw_all := lw_g (lw_at lw_m5 26 rfl) rfl
theorem q1102 : (Jvm.Cond.privateMethod ({ cls := "SafeBuckets", name := "draw", desc := "(I)I" } : Jvm.MethodName)) ∈ lw_tbl := lw_at lw_m5 27 rfl
theorem q1103 : (Jvm.Cond.instanceMethod ({ cls := "SafeBuckets", name := "draw", desc := "(I)I" } : Jvm.MethodName)) ∈ lw_all := lw_g (lw_at lw_m5 28 rfl) rfl
theorem q1104 : (Jvm.Cond.code ({ cls := "SafeBuckets", name := "draw", desc := "(I)I" } : Jvm.MethodName) prog_1_method_42_code (2 : Nat) (Option.some Jvm.ClassFile.FieldType.int)) ∈ lw_all := lw_g (lw_at lw_m5 29 rfl) rfl
theorem q1105 : (Jvm.Cond.constantLong "SafeBuckets" (324 : Nat) (6364136223846793005 : Int64)) ∈ lw_all := lw_g (lw_at lw_m5 30 rfl) rfl
theorem q1106 : (Jvm.Cond.constantLong "SafeBuckets" (326 : Nat) (1442695040888963407 : Int64)) ∈ lw_all := lw_g (lw_at lw_m5 31 rfl) rfl
theorem q1107 : (Jvm.Cond.methodLink "SafeBuckets" (331 : Nat) ({ cls := "SafeBuckets", name := "valueOf", desc := "(II)I" } : Jvm.MethodName)) ∈ lw_all := lw_g (lw_at lw_m5 32 rfl) rfl
theorem q1108 : (Jvm.Cond.static ({ cls := "SafeBuckets", name := "valueOf", desc := "(II)I" } : Jvm.MethodName)) ∈ lw_all := lw_g (lw_at lw_m5 33 rfl) rfl
theorem q1109 : (Jvm.Cond.code ({ cls := "SafeBuckets", name := "valueOf", desc := "(II)I" } : Jvm.MethodName) prog_1_method_43_code (2 : Nat) (Option.some Jvm.ClassFile.FieldType.int)) ∈ lw_all := lw_g (lw_at lw_m5 34 rfl) rfl
theorem q1110 : (Jvm.Cond.methodLink "SafeBuckets" (339 : Nat) ({ cls := "SafeBuckets$State", name := "rows", desc := "()I" } : Jvm.MethodName)) ∈ lw_all := lw_g (lw_at lw_m5 35 rfl) rfl
theorem q1115 : (Jvm.Cond.instanceMethod ({ cls := "SafeBuckets", name := "status", desc := "(I)I" } : Jvm.MethodName)) ∈ lw_all := lw_g (lw_at lw_m5 40 rfl) rfl
theorem q1116 : (Jvm.Cond.selects "SafeBuckets" ({ cls := "SafeBuckets", name := "status", desc := "(I)I" } : Jvm.MethodName) ({ cls := "SafeBuckets", name := "status", desc := "(I)I" } : Jvm.MethodName)) ∈ lw_all := lw_g (lw_at lw_m5 41 rfl) rfl
theorem q1117 : (Jvm.Cond.code ({ cls := "SafeBuckets", name := "status", desc := "(I)I" } : Jvm.MethodName) prog_1_method_46_code (2 : Nat) (Option.some Jvm.ClassFile.FieldType.int)) ∈ lw_all := lw_g (lw_at lw_m5 42 rfl) rfl
theorem q1118 : (Jvm.Cond.constantLong "SafeBuckets" (342 : Nat) (4 : Int64)) ∈ lw_all := lw_g (lw_at lw_m5 43 rfl) rfl
theorem q1120 : (Jvm.Cond.instanceMethod ({ cls := "SafeBuckets", name := "undo", desc := "()I" } : Jvm.MethodName)) ∈ lw_all := lw_g (lw_at lw_m5 45 rfl) rfl
theorem q1121 : (Jvm.Cond.selects "SafeBuckets" ({ cls := "SafeBuckets", name := "undo", desc := "()I" } : Jvm.MethodName) ({ cls := "SafeBuckets", name := "undo", desc := "()I" } : Jvm.MethodName)) ∈ lw_all := lw_g (lw_at lw_m5 46 rfl) rfl
theorem q1122 : (Jvm.Cond.code ({ cls := "SafeBuckets", name := "undo", desc := "()I" } : Jvm.MethodName) prog_1_method_47_code (1 : Nat) (Option.some Jvm.ClassFile.FieldType.int)) ∈ lw_all := lw_g (lw_at lw_m5 47 rfl) rfl
theorem q1124 : (Jvm.Cond.instanceMethod ({ cls := "SafeBuckets", name := "log", desc := "(II)I" } : Jvm.MethodName)) ∈ lw_all := lw_g (lw_at lw_m5 49 rfl) rfl
theorem q1125 : (Jvm.Cond.selects "SafeBuckets" ({ cls := "SafeBuckets", name := "log", desc := "(II)I" } : Jvm.MethodName) ({ cls := "SafeBuckets", name := "log", desc := "(II)I" } : Jvm.MethodName)) ∈ lw_all := lw_g (lw_at lw_m5 50 rfl) rfl
theorem q1126 : (Jvm.Cond.code ({ cls := "SafeBuckets", name := "log", desc := "(II)I" } : Jvm.MethodName) prog_1_method_48_code (3 : Nat) (Option.some Jvm.ClassFile.FieldType.int)) ∈ lw_all := lw_g (lw_at lw_m5 51 rfl) rfl
theorem q1128 : (Jvm.Cond.instanceMethod ({ cls := "SafeBuckets", name := "where", desc := "(III)I" } : Jvm.MethodName)) ∈ lw_all := lw_g (lw_at lw_m5 53 rfl) rfl
theorem q1129 : (Jvm.Cond.selects "SafeBuckets" ({ cls := "SafeBuckets", name := "where", desc := "(III)I" } : Jvm.MethodName) ({ cls := "SafeBuckets", name := "where", desc := "(III)I" } : Jvm.MethodName)) ∈ lw_all := lw_g (lw_at lw_m5 54 rfl) rfl
theorem q1130 : (Jvm.Cond.codeWith ({ cls := "SafeBuckets", name := "where", desc := "(III)I" } : Jvm.MethodName) prog_1_method_56_code (6 : Nat) (Option.some Jvm.ClassFile.FieldType.int) [((93 : Nat), (100 : Nat), (101 : Nat), (77 : Nat))]) ∈ lw_all := lw_g (lw_at lw_m5 55 rfl) rfl
theorem q1131 : (Jvm.Cond.methodLink "SafeBuckets" (381 : Nat) ({ cls := "SafeBuckets", name := "isWhere", desc := "(I)Z" } : Jvm.MethodName)) ∈ lw_all := lw_g (lw_at lw_m5 56 rfl) rfl
theorem q1132 : (Jvm.Cond.privateMethod ({ cls := "SafeBuckets", name := "isWhere", desc := "(I)Z" } : Jvm.MethodName)) ∈ lw_tbl := lw_at lw_m5 57 rfl
theorem q1133 : (Jvm.Cond.instanceMethod ({ cls := "SafeBuckets", name := "isWhere", desc := "(I)Z" } : Jvm.MethodName)) ∈ lw_all := lw_g (lw_at lw_m5 58 rfl) rfl
theorem q1134 : (Jvm.Cond.code ({ cls := "SafeBuckets", name := "isWhere", desc := "(I)Z" } : Jvm.MethodName) prog_1_method_17_code (2 : Nat) (Option.some Jvm.ClassFile.FieldType.boolean)) ∈ lw_all := lw_g (lw_at lw_m5 59 rfl) rfl
theorem q1135 : (Jvm.Cond.methodLink "SafeBuckets" (384 : Nat) ({ cls := "SafeBuckets$Where", name := "lower", desc := "(LSafeBuckets$Sheet;)I" } : Jvm.MethodName)) ∈ lw_all := lw_g (lw_at lw_m5 60 rfl) rfl
theorem q1188 : (Jvm.Cond.methodLink "SafeBuckets" (388 : Nat) ({ cls := "SafeBuckets$Where", name := "upper", desc := "(LSafeBuckets$Sheet;)I" } : Jvm.MethodName)) ∈ lw_all := lw_g (lw_at lw_m5 113 rfl) rfl
theorem q1207 : (Jvm.Cond.methodLink "SafeBuckets" (391 : Nat) ({ cls := "SafeBuckets$Where", name := "estimate", desc := "(LSafeBuckets$Sheet;)I" } : Jvm.MethodName)) ∈ lw_all := lw_g (lw_at lw_m5 132 rfl) rfl
theorem q1220 : (Jvm.Cond.methodLink "SafeBuckets" (394 : Nat) ({ cls := "SafeBuckets", name := "begins", desc := "()V" } : Jvm.MethodName)) ∈ lw_all := lw_g (lw_at lw_m5 145 rfl) rfl
theorem q1221 : (Jvm.Cond.privateMethod ({ cls := "SafeBuckets", name := "begins", desc := "()V" } : Jvm.MethodName)) ∈ lw_tbl := lw_at lw_m5 146 rfl
theorem q1222 : (Jvm.Cond.instanceMethod ({ cls := "SafeBuckets", name := "begins", desc := "()V" } : Jvm.MethodName)) ∈ lw_all := lw_g (lw_at lw_m5 147 rfl) rfl
theorem q1223 : (Jvm.Cond.code ({ cls := "SafeBuckets", name := "begins", desc := "()V" } : Jvm.MethodName) prog_1_method_50_code (1 : Nat) (Option.none : Option Jvm.ClassFile.FieldType)) ∈ lw_all := lw_g (lw_at lw_m5 148 rfl) rfl
theorem q1224 : (Jvm.Cond.methodLink "SafeBuckets" (397 : Nat) ({ cls := "SafeBuckets", name := "truthOf", desc := "(ILSafeBuckets$Where;)I" } : Jvm.MethodName)) ∈ lw_all := lw_g (lw_at lw_m5 149 rfl) rfl
theorem q1225 : (Jvm.Cond.privateMethod ({ cls := "SafeBuckets", name := "truthOf", desc := "(ILSafeBuckets$Where;)I" } : Jvm.MethodName)) ∈ lw_tbl := lw_at lw_m5 150 rfl
theorem q1226 : (Jvm.Cond.instanceMethod ({ cls := "SafeBuckets", name := "truthOf", desc := "(ILSafeBuckets$Where;)I" } : Jvm.MethodName)) ∈ lw_all := lw_g (lw_at lw_m5 151 rfl) rfl
theorem q1227 : (Jvm.Cond.codeWith ({ cls := "SafeBuckets", name := "truthOf", desc := "(ILSafeBuckets$Where;)I" } : Jvm.MethodName) prog_1_method_52_code (9 : Nat) (Option.some Jvm.ClassFile.FieldType.int) [((10 : Nat), (134 : Nat), (141 : Nat), (372 : Nat)), ((143 : Nat), (147 : Nat), (150 : Nat), (372 : Nat))]) ∈ lw_all := lw_g (lw_at lw_m5 152 rfl) rfl
theorem q1228 : (Jvm.Cond.classLink "SafeBuckets" (372 : Nat) "java/lang/Throwable") ∈ lw_all := lw_g (lw_at lw_m5 153 rfl) rfl
theorem q1229 : (Jvm.Cond.classLink "SafeBuckets" (355 : Nat) "SafeBuckets$Lease") ∈ lw_all := lw_g (lw_at lw_m5 154 rfl) rfl
theorem q1231 : (Jvm.Cond.methodLink "SafeBuckets" (357 : Nat) ({ cls := "SafeBuckets$Lease", name := "<init>", desc := "(LSafeBuckets;I)V" } : Jvm.MethodName)) ∈ lw_all := lw_g (lw_at lw_m5 156 rfl) rfl
theorem q1236 : (Jvm.Cond.privateMethod ({ cls := "SafeBuckets", name := "traces", desc := "(I)V" } : Jvm.MethodName)) ∈ lw_tbl := lw_at lw_m5 161 rfl
theorem q1237 : (Jvm.Cond.instanceMethod ({ cls := "SafeBuckets", name := "traces", desc := "(I)V" } : Jvm.MethodName)) ∈ lw_all := lw_g (lw_at lw_m5 162 rfl) rfl
theorem q1238 : (Jvm.Cond.code ({ cls := "SafeBuckets", name := "traces", desc := "(I)V" } : Jvm.MethodName) prog_1_method_49_code (2 : Nat) (Option.none : Option Jvm.ClassFile.FieldType)) ∈ lw_all := lw_g (lw_at lw_m5 163 rfl) rfl
theorem q1246 : (Jvm.Cond.methodLink "SafeBuckets" (360 : Nat) ({ cls := "SafeBuckets$Lease", name := "sheet", desc := "()LSafeBuckets$Sheet;" } : Jvm.MethodName)) ∈ lw_all := lw_g (lw_at lw_m5 171 rfl) rfl
theorem q1250 : (Jvm.Cond.methodLink "SafeBuckets" (363 : Nat) ({ cls := "SafeBuckets", name := "goes", desc := "()V" } : Jvm.MethodName)) ∈ lw_all := lw_g (lw_at lw_m5 175 rfl) rfl
theorem q1251 : (Jvm.Cond.privateMethod ({ cls := "SafeBuckets", name := "goes", desc := "()V" } : Jvm.MethodName)) ∈ lw_tbl := lw_at lw_m5 176 rfl
theorem q1252 : (Jvm.Cond.instanceMethod ({ cls := "SafeBuckets", name := "goes", desc := "()V" } : Jvm.MethodName)) ∈ lw_all := lw_g (lw_at lw_m5 177 rfl) rfl
theorem q1253 : (Jvm.Cond.code ({ cls := "SafeBuckets", name := "goes", desc := "()V" } : Jvm.MethodName) prog_1_method_51_code (1 : Nat) (Option.none : Option Jvm.ClassFile.FieldType)) ∈ lw_all := lw_g (lw_at lw_m5 178 rfl) rfl
theorem q1254 : (Jvm.Cond.methodLink "SafeBuckets" (366 : Nat) ({ cls := "SafeBuckets$Where", name := "holds", desc := "(II)Z" } : Jvm.MethodName)) ∈ lw_all := lw_g (lw_at lw_m5 179 rfl) rfl
theorem q1266 : (Jvm.Cond.methodLink "SafeBuckets" (369 : Nat) ({ cls := "SafeBuckets$Lease", name := "close", desc := "()V" } : Jvm.MethodName)) ∈ lw_all := lw_g (lw_at lw_m5 191 rfl) rfl
theorem q1270 : (Jvm.Cond.methodLink "SafeBuckets" (374 : Nat) ({ cls := "java/lang/Throwable", name := "addSuppressed", desc := "(Ljava/lang/Throwable;)V" } : Jvm.MethodName)) ∈ lw_all := lw_g (lw_at lw_m5 195 rfl) rfl
theorem q1347 : (Jvm.Cond.selects "SafeBuckets" ({ cls := "java/lang/Object", name := "getClass", desc := "()Ljava/lang/Class;" } : Jvm.MethodName) ({ cls := "java/lang/Object", name := "getClass", desc := "()Ljava/lang/Class;" } : Jvm.MethodName)) ∈ lw_all := lw_g (lw_at lw_m6 32 rfl) rfl
theorem q1380 : (Jvm.Cond.instanceMethod ({ cls := "SafeBuckets", name := "join", desc := "(IIIII)J" } : Jvm.MethodName)) ∈ lw_all := lw_g (lw_at lw_m6 65 rfl) rfl
theorem q1381 : (Jvm.Cond.selects "SafeBuckets" ({ cls := "SafeBuckets", name := "join", desc := "(IIIII)J" } : Jvm.MethodName) ({ cls := "SafeBuckets", name := "join", desc := "(IIIII)J" } : Jvm.MethodName)) ∈ lw_all := lw_g (lw_at lw_m6 66 rfl) rfl
theorem q1382 : (Jvm.Cond.codeWith ({ cls := "SafeBuckets", name := "join", desc := "(IIIII)J" } : Jvm.MethodName) prog_1_method_60_code (9 : Nat) (Option.some Jvm.ClassFile.FieldType.long) [((107 : Nat), (116 : Nat), (117 : Nat), (77 : Nat))]) ∈ lw_all := lw_g (lw_at lw_m6 67 rfl) rfl
theorem q1383 : (Jvm.Cond.methodLink "SafeBuckets" (423 : Nat) ({ cls := "SafeBuckets", name := "byDegrees", desc := "(LSafeBuckets$Sheet;ILSafeBuckets$Sheet;I)J" } : Jvm.MethodName)) ∈ lw_all := lw_g (lw_at lw_m6 68 rfl) rfl
theorem q1384 : (Jvm.Cond.privateMethod ({ cls := "SafeBuckets", name := "byDegrees", desc := "(LSafeBuckets$Sheet;ILSafeBuckets$Sheet;I)J" } : Jvm.MethodName)) ∈ lw_tbl := lw_at lw_m6 69 rfl
theorem q1385 : (Jvm.Cond.instanceMethod ({ cls := "SafeBuckets", name := "byDegrees", desc := "(LSafeBuckets$Sheet;ILSafeBuckets$Sheet;I)J" } : Jvm.MethodName)) ∈ lw_all := lw_g (lw_at lw_m6 70 rfl) rfl
theorem q1386 : (Jvm.Cond.code ({ cls := "SafeBuckets", name := "byDegrees", desc := "(LSafeBuckets$Sheet;ILSafeBuckets$Sheet;I)J" } : Jvm.MethodName) prog_1_method_59_code (9 : Nat) (Option.some Jvm.ClassFile.FieldType.long)) ∈ lw_all := lw_g (lw_at lw_m6 71 rfl) rfl
theorem q1387 : (Jvm.Cond.methodLink "SafeBuckets" (419 : Nat) ({ cls := "SafeBuckets", name := "sorts", desc := "(LSafeBuckets$Sheet;I[I)I" } : Jvm.MethodName)) ∈ lw_all := lw_g (lw_at lw_m6 72 rfl) rfl
theorem q1388 : (Jvm.Cond.static ({ cls := "SafeBuckets", name := "sorts", desc := "(LSafeBuckets$Sheet;I[I)I" } : Jvm.MethodName)) ∈ lw_all := lw_g (lw_at lw_m6 73 rfl) rfl
theorem q1389 : (Jvm.Cond.code ({ cls := "SafeBuckets", name := "sorts", desc := "(LSafeBuckets$Sheet;I[I)I" } : Jvm.MethodName) prog_1_method_58_code (6 : Nat) (Option.some Jvm.ClassFile.FieldType.int)) ∈ lw_all := lw_g (lw_at lw_m6 74 rfl) rfl
theorem q1390 : (Jvm.Cond.methodLink "SafeBuckets" (427 : Nat) ({ cls := "SafeBuckets", name := "joined", desc := "(LSafeBuckets$Column;LSafeBuckets$Column;Z)J" } : Jvm.MethodName)) ∈ lw_all := lw_g (lw_at lw_m6 75 rfl) rfl
theorem q1391 : (Jvm.Cond.static ({ cls := "SafeBuckets", name := "joined", desc := "(LSafeBuckets$Column;LSafeBuckets$Column;Z)J" } : Jvm.MethodName)) ∈ lw_all := lw_g (lw_at lw_m6 76 rfl) rfl
theorem q1392 : (Jvm.Cond.code ({ cls := "SafeBuckets", name := "joined", desc := "(LSafeBuckets$Column;LSafeBuckets$Column;Z)J" } : Jvm.MethodName) prog_1_method_57_code (13 : Nat) (Option.some Jvm.ClassFile.FieldType.long)) ∈ lw_all := lw_g (lw_at lw_m6 77 rfl) rfl
theorem q1393 : (Jvm.Cond.methodLink "SafeBuckets" (401 : Nat) ({ cls := "SafeBuckets$Span", name := "common", desc := "(LSafeBuckets$Span;LSafeBuckets$Span;)I" } : Jvm.MethodName)) ∈ lw_all := lw_g (lw_at lw_m6 78 rfl) rfl
theorem q1398 : (Jvm.Cond.methodLink "SafeBuckets" (413 : Nat) ({ cls := "java/lang/Math", name := "min", desc := "(JJ)J" } : Jvm.MethodName)) ∈ lw_all := lw_g (lw_at lw_m6 83 rfl) rfl
theorem q1401 : (Jvm.Cond.methodLink "SafeBuckets" (416 : Nat) ({ cls := "SafeBuckets$Bucket", name := "width", desc := "()I" } : Jvm.MethodName)) ∈ lw_all := lw_g (lw_at lw_m6 86 rfl) rfl
theorem q1402 : (Jvm.Cond.methodLink "SafeBuckets" (431 : Nat) ({ cls := "SafeBuckets", name := "truthOfJoin", desc := "(IIII)J" } : Jvm.MethodName)) ∈ lw_all := lw_g (lw_at lw_m6 87 rfl) rfl
theorem q1403 : (Jvm.Cond.privateMethod ({ cls := "SafeBuckets", name := "truthOfJoin", desc := "(IIII)J" } : Jvm.MethodName)) ∈ lw_tbl := lw_at lw_m6 88 rfl
theorem q1404 : (Jvm.Cond.instanceMethod ({ cls := "SafeBuckets", name := "truthOfJoin", desc := "(IIII)J" } : Jvm.MethodName)) ∈ lw_all := lw_g (lw_at lw_m6 89 rfl) rfl
theorem q1405 : (Jvm.Cond.codeWith ({ cls := "SafeBuckets", name := "truthOfJoin", desc := "(IIII)J" } : Jvm.MethodName) prog_1_method_53_code (11 : Nat) (Option.some Jvm.ClassFile.FieldType.long) [((22 : Nat), (111 : Nat), (124 : Nat), (372 : Nat)), ((126 : Nat), (131 : Nat), (134 : Nat), (372 : Nat)), ((11 : Nat), (116 : Nat), (146 : Nat), (372 : Nat)), ((124 : Nat), (146 : Nat), (146 : Nat), (372 : Nat)), ((148 : Nat), (153 : Nat), (156 : Nat), (372 : Nat))]) ∈ lw_all := lw_g (lw_at lw_m6 90 rfl) rfl
theorem q1407 : (Jvm.Cond.instanceMethod ({ cls := "SafeBuckets", name := "chain", desc := "(I)J" } : Jvm.MethodName)) ∈ lw_all := lw_g (lw_at lw_m6 92 rfl) rfl
theorem q1408 : (Jvm.Cond.selects "SafeBuckets" ({ cls := "SafeBuckets", name := "chain", desc := "(I)J" } : Jvm.MethodName) ({ cls := "SafeBuckets", name := "chain", desc := "(I)J" } : Jvm.MethodName)) ∈ lw_all := lw_g (lw_at lw_m6 93 rfl) rfl
theorem q1409 : (Jvm.Cond.codeWith ({ cls := "SafeBuckets", name := "chain", desc := "(I)J" } : Jvm.MethodName) prog_1_method_61_code (6 : Nat) (Option.some Jvm.ClassFile.FieldType.long) [((118 : Nat), (122 : Nat), (123 : Nat), (77 : Nat))]) ∈ lw_all := lw_g (lw_at lw_m6 94 rfl) rfl
theorem q1410 : (Jvm.Cond.methodLink "SafeBuckets" (435 : Nat) ({ cls := "SafeBuckets$Column", name := "greatest", desc := "()I" } : Jvm.MethodName)) ∈ lw_all := lw_g (lw_at lw_m6 95 rfl) rfl
theorem q1415 : (Jvm.Cond.methodLink "SafeBuckets" (437 : Nat) ({ cls := "SafeBuckets", name := "truthOfChain", desc := "()J" } : Jvm.MethodName)) ∈ lw_all := lw_g (lw_at lw_m6 100 rfl) rfl
theorem q1416 : (Jvm.Cond.privateMethod ({ cls := "SafeBuckets", name := "truthOfChain", desc := "()J" } : Jvm.MethodName)) ∈ lw_tbl := lw_at lw_m6 101 rfl
theorem q1417 : (Jvm.Cond.instanceMethod ({ cls := "SafeBuckets", name := "truthOfChain", desc := "()J" } : Jvm.MethodName)) ∈ lw_all := lw_g (lw_at lw_m6 102 rfl) rfl
theorem q1418 : (Jvm.Cond.codeWith ({ cls := "SafeBuckets", name := "truthOfChain", desc := "()J" } : Jvm.MethodName) prog_1_method_54_code (9 : Nat) (Option.some Jvm.ClassFile.FieldType.long) [((30 : Nat), (163 : Nat), (178 : Nat), (372 : Nat)), ((180 : Nat), (184 : Nat), (187 : Nat), (372 : Nat)), ((20 : Nat), (167 : Nat), (199 : Nat), (372 : Nat)), ((178 : Nat), (199 : Nat), (199 : Nat), (372 : Nat)), ((200 : Nat), (204 : Nat), (207 : Nat), (372 : Nat)), ((10 : Nat), (171 : Nat), (217 : Nat), (372 : Nat)), ((178 : Nat), (217 : Nat), (217 : Nat), (372 : Nat)), ((218 : Nat), (222 : Nat), (225 : Nat), (372 : Nat))]) ∈ lw_all := lw_g (lw_at lw_m6 103 rfl) rfl
theorem q1420 : (Jvm.Cond.instanceMethod ({ cls := "SafeBuckets", name := "trace", desc := "(I)I" } : Jvm.MethodName)) ∈ lw_all := lw_g (lw_at lw_m6 105 rfl) rfl
theorem q1421 : (Jvm.Cond.selects "SafeBuckets" ({ cls := "SafeBuckets", name := "trace", desc := "(I)I" } : Jvm.MethodName) ({ cls := "SafeBuckets", name := "trace", desc := "(I)I" } : Jvm.MethodName)) ∈ lw_all := lw_g (lw_at lw_m6 106 rfl) rfl
theorem q1422 : (Jvm.Cond.code ({ cls := "SafeBuckets", name := "trace", desc := "(I)I" } : Jvm.MethodName) prog_1_method_62_code (2 : Nat) (Option.some Jvm.ClassFile.FieldType.int)) ∈ lw_all := lw_g (lw_at lw_m6 107 rfl) rfl
theorem q1424 : (Jvm.Cond.instanceMethod ({ cls := "SafeBuckets", name := "narrow", desc := "(III)I" } : Jvm.MethodName)) ∈ lw_all := lw_g (lw_at lw_m6 109 rfl) rfl
theorem q1425 : (Jvm.Cond.selects "SafeBuckets" ({ cls := "SafeBuckets", name := "narrow", desc := "(III)I" } : Jvm.MethodName) ({ cls := "SafeBuckets", name := "narrow", desc := "(III)I" } : Jvm.MethodName)) ∈ lw_all := lw_g (lw_at lw_m6 110 rfl) rfl
theorem q1426 : (Jvm.Cond.code ({ cls := "SafeBuckets", name := "narrow", desc := "(III)I" } : Jvm.MethodName) prog_1_method_64_code (9 : Nat) (Option.some Jvm.ClassFile.FieldType.int)) ∈ lw_all := lw_g (lw_at lw_m6 111 rfl) rfl
theorem q1427 : (Jvm.Cond.methodLink "SafeBuckets" (443 : Nat) ({ cls := "SafeBuckets", name := "spreadOf", desc := "(LSafeBuckets$Condition;LSafeBuckets$Sheet;)I" } : Jvm.MethodName)) ∈ lw_all := lw_g (lw_at lw_m6 112 rfl) rfl
theorem q1428 : (Jvm.Cond.static ({ cls := "SafeBuckets", name := "spreadOf", desc := "(LSafeBuckets$Condition;LSafeBuckets$Sheet;)I" } : Jvm.MethodName)) ∈ lw_all := lw_g (lw_at lw_m6 113 rfl) rfl
theorem q1429 : (Jvm.Cond.code ({ cls := "SafeBuckets", name := "spreadOf", desc := "(LSafeBuckets$Condition;LSafeBuckets$Sheet;)I" } : Jvm.MethodName) prog_1_method_63_code (2 : Nat) (Option.some Jvm.ClassFile.FieldType.int)) ∈ lw_all := lw_g (lw_at lw_m6 114 rfl) rfl
theorem q1430 : (Jvm.Cond.interfaceEntry "SafeBuckets" (441 : Nat)) ∈ lw_tbl := lw_at lw_m6 115 rfl
theorem q1431 : (Jvm.Cond.methodLink "SafeBuckets" (441 : Nat) ({ cls := "SafeBuckets$Condition", name := "upper", desc := "(LSafeBuckets$Sheet;)I" } : Jvm.MethodName)) ∈ lw_all := lw_g (lw_at lw_m6 116 rfl) rfl
theorem q1446 : (Jvm.Cond.interfaceEntry "SafeBuckets" (442 : Nat)) ∈ lw_tbl := lw_at lw_m6 131 rfl
theorem q1447 : (Jvm.Cond.methodLink "SafeBuckets" (442 : Nat) ({ cls := "SafeBuckets$Condition", name := "lower", desc := "(LSafeBuckets$Sheet;)I" } : Jvm.MethodName)) ∈ lw_all := lw_g (lw_at lw_m6 132 rfl) rfl
theorem q1459 : (Jvm.Cond.methodLink "SafeBuckets" (447 : Nat) ({ cls := "SafeBuckets$Sheet", name := "becomes", desc := "(LSafeBuckets$Sheet;)V" } : Jvm.MethodName)) ∈ lw_all := lw_g (lw_at lw_m6 144 rfl) rfl
theorem q1461 : (Jvm.Cond.instanceMethod ({ cls := "SafeBuckets", name := "odds", desc := "(IIII)J" } : Jvm.MethodName)) ∈ lw_all := lw_g (lw_at lw_m6 146 rfl) rfl
theorem q1462 : (Jvm.Cond.selects "SafeBuckets" ({ cls := "SafeBuckets", name := "odds", desc := "(IIII)J" } : Jvm.MethodName) ({ cls := "SafeBuckets", name := "odds", desc := "(IIII)J" } : Jvm.MethodName)) ∈ lw_all := lw_g (lw_at lw_m6 147 rfl) rfl
theorem q1463 : (Jvm.Cond.code ({ cls := "SafeBuckets", name := "odds", desc := "(IIII)J" } : Jvm.MethodName) prog_1_method_67_code (9 : Nat) (Option.some Jvm.ClassFile.FieldType.long)) ∈ lw_all := lw_g (lw_at lw_m6 148 rfl) rfl
theorem q1464 : (Jvm.Cond.methodLink "SafeBuckets" (453 : Nat) ({ cls := "SafeBuckets", name := "drawn", desc := "(II)J" } : Jvm.MethodName)) ∈ lw_all := lw_g (lw_at lw_m6 149 rfl) rfl
theorem q1465 : (Jvm.Cond.static ({ cls := "SafeBuckets", name := "drawn", desc := "(II)J" } : Jvm.MethodName)) ∈ lw_all := lw_g (lw_at lw_m6 150 rfl) rfl
theorem q1466 : (Jvm.Cond.code ({ cls := "SafeBuckets", name := "drawn", desc := "(II)J" } : Jvm.MethodName) prog_1_method_65_code (5 : Nat) (Option.some Jvm.ClassFile.FieldType.long)) ∈ lw_all := lw_g (lw_at lw_m6 151 rfl) rfl
theorem q1467 : (Jvm.Cond.methodLink "SafeBuckets" (456 : Nat) ({ cls := "SafeBuckets", name := "holdsFor", desc := "(LSafeBuckets$Sheet;LSafeBuckets$Condition;)I" } : Jvm.MethodName)) ∈ lw_all := lw_g (lw_at lw_m6 152 rfl) rfl
theorem q1468 : (Jvm.Cond.static ({ cls := "SafeBuckets", name := "holdsFor", desc := "(LSafeBuckets$Sheet;LSafeBuckets$Condition;)I" } : Jvm.MethodName)) ∈ lw_all := lw_g (lw_at lw_m6 153 rfl) rfl
theorem q1469 : (Jvm.Cond.code ({ cls := "SafeBuckets", name := "holdsFor", desc := "(LSafeBuckets$Sheet;LSafeBuckets$Condition;)I" } : Jvm.MethodName) prog_1_method_55_code (5 : Nat) (Option.some Jvm.ClassFile.FieldType.int)) ∈ lw_all := lw_g (lw_at lw_m6 154 rfl) rfl
theorem q1470 : (Jvm.Cond.interfaceEntry "SafeBuckets" (378 : Nat)) ∈ lw_tbl := lw_at lw_m6 155 rfl
theorem q1471 : (Jvm.Cond.methodLink "SafeBuckets" (378 : Nat) ({ cls := "SafeBuckets$Condition", name := "holds", desc := "(II)Z" } : Jvm.MethodName)) ∈ lw_all := lw_g (lw_at lw_m6 156 rfl) rfl
theorem q1483 : (Jvm.Cond.methodLink "SafeBuckets" (450 : Nat) ({ cls := "SafeBuckets", name := "divisor", desc := "(JJ)J" } : Jvm.MethodName)) ∈ lw_all := lw_g (lw_at lw_m6 168 rfl) rfl
theorem q1484 : (Jvm.Cond.static ({ cls := "SafeBuckets", name := "divisor", desc := "(JJ)J" } : Jvm.MethodName)) ∈ lw_all := lw_g (lw_at lw_m6 169 rfl) rfl
theorem q1485 : (Jvm.Cond.code ({ cls := "SafeBuckets", name := "divisor", desc := "(JJ)J" } : Jvm.MethodName) prog_1_method_66_code (4 : Nat) (Option.some Jvm.ClassFile.FieldType.long)) ∈ lw_all := lw_g (lw_at lw_m6 170 rfl) rfl
theorem q1487 : (Jvm.Cond.instanceMethod ({ cls := "SafeBuckets", name := "shares", desc := "(II)I" } : Jvm.MethodName)) ∈ lw_all := lw_g (lw_at lw_m6 172 rfl) rfl
theorem q1488 : (Jvm.Cond.selects "SafeBuckets" ({ cls := "SafeBuckets", name := "shares", desc := "(II)I" } : Jvm.MethodName) ({ cls := "SafeBuckets", name := "shares", desc := "(II)I" } : Jvm.MethodName)) ∈ lw_all := lw_g (lw_at lw_m6 173 rfl) rfl
theorem q1489 : (Jvm.Cond.code ({ cls := "SafeBuckets", name := "shares", desc := "(II)I" } : Jvm.MethodName) prog_1_method_68_code (3 : Nat) (Option.some Jvm.ClassFile.FieldType.int)) ∈ lw_all := lw_g (lw_at lw_m6 174 rfl) rfl
theorem q1491 : (Jvm.Cond.instanceMethod ({ cls := "SafeBuckets", name := "most", desc := "(I)I" } : Jvm.MethodName)) ∈ lw_all := lw_g (lw_at lw_m6 176 rfl) rfl
theorem q1492 : (Jvm.Cond.selects "SafeBuckets" ({ cls := "SafeBuckets", name := "most", desc := "(I)I" } : Jvm.MethodName) ({ cls := "SafeBuckets", name := "most", desc := "(I)I" } : Jvm.MethodName)) ∈ lw_all := lw_g (lw_at lw_m6 177 rfl) rfl
theorem q1493 : (Jvm.Cond.code ({ cls := "SafeBuckets", name := "most", desc := "(I)I" } : Jvm.MethodName) prog_1_method_75_code (2 : Nat) (Option.some Jvm.ClassFile.FieldType.int)) ∈ lw_all := lw_g (lw_at lw_m6 178 rfl) rfl
theorem q1494 : (Jvm.Cond.methodLink "SafeBuckets" (469 : Nat) ({ cls := "SafeBuckets", name := "greatestRows", desc := "()I" } : Jvm.MethodName)) ∈ lw_all := lw_g (lw_at lw_m6 179 rfl) rfl
theorem q1495 : (Jvm.Cond.privateMethod ({ cls := "SafeBuckets", name := "greatestRows", desc := "()I" } : Jvm.MethodName)) ∈ lw_tbl := lw_at lw_m6 180 rfl
theorem q1496 : (Jvm.Cond.instanceMethod ({ cls := "SafeBuckets", name := "greatestRows", desc := "()I" } : Jvm.MethodName)) ∈ lw_all := lw_g (lw_at lw_m6 181 rfl) rfl
theorem q1497 : (Jvm.Cond.code ({ cls := "SafeBuckets", name := "greatestRows", desc := "()I" } : Jvm.MethodName) prog_1_method_72_code (3 : Nat) (Option.some Jvm.ClassFile.FieldType.int)) ∈ lw_all := lw_g (lw_at lw_m6 182 rfl) rfl
theorem q1498 : (Jvm.Cond.methodLink "SafeBuckets" (472 : Nat) ({ cls := "SafeBuckets", name := "mostDrifted", desc := "()I" } : Jvm.MethodName)) ∈ lw_all := lw_g (lw_at lw_m6 183 rfl) rfl
theorem q1499 : (Jvm.Cond.privateMethod ({ cls := "SafeBuckets", name := "mostDrifted", desc := "()I" } : Jvm.MethodName)) ∈ lw_tbl := lw_at lw_m6 184 rfl
theorem q1500 : (Jvm.Cond.instanceMethod ({ cls := "SafeBuckets", name := "mostDrifted", desc := "()I" } : Jvm.MethodName)) ∈ lw_all := lw_g (lw_at lw_m6 185 rfl) rfl
theorem q1501 : (Jvm.Cond.code ({ cls := "SafeBuckets", name := "mostDrifted", desc := "()I" } : Jvm.MethodName) prog_1_method_69_code (4 : Nat) (Option.some Jvm.ClassFile.FieldType.int)) ∈ lw_all := lw_g (lw_at lw_m6 186 rfl) rfl
theorem q1502 : (Jvm.Cond.methodLink "SafeBuckets" (475 : Nat) ({ cls := "SafeBuckets", name := "greatestTotal", desc := "()I" } : Jvm.MethodName)) ∈ lw_all := lw_g (lw_at lw_m6 187 rfl) rfl
theorem q1503 : (Jvm.Cond.privateMethod ({ cls := "SafeBuckets", name := "greatestTotal", desc := "()I" } : Jvm.MethodName)) ∈ lw_tbl := lw_at lw_m6 188 rfl
theorem q1504 : (Jvm.Cond.instanceMethod ({ cls := "SafeBuckets", name := "greatestTotal", desc := "()I" } : Jvm.MethodName)) ∈ lw_all := lw_g (lw_at lw_m6 189 rfl) rfl
theorem q1505 : (Jvm.Cond.code ({ cls := "SafeBuckets", name := "greatestTotal", desc := "()I" } : Jvm.MethodName) prog_1_method_70_code (8 : Nat) (Option.some Jvm.ClassFile.FieldType.int)) ∈ lw_all := lw_g (lw_at lw_m6 190 rfl) rfl
theorem q1506 : (Jvm.Cond.methodLink "SafeBuckets" (460 : Nat) ({ cls := "java/lang/Math", name := "max", desc := "(II)I" } : Jvm.MethodName)) ∈ lw_all := lw_g (lw_at lw_m6 191 rfl) rfl
theorem q1507 : (Jvm.Cond.methodLink "SafeBuckets" (478 : Nat) ({ cls := "SafeBuckets", name := "mostAlike", desc := "()I" } : Jvm.MethodName)) ∈ lw_all := lw_g (lw_at lw_m6 192 rfl) rfl
theorem q1508 : (Jvm.Cond.privateMethod ({ cls := "SafeBuckets", name := "mostAlike", desc := "()I" } : Jvm.MethodName)) ∈ lw_tbl := lw_at lw_m6 193 rfl
theorem q1509 : (Jvm.Cond.instanceMethod ({ cls := "SafeBuckets", name := "mostAlike", desc := "()I" } : Jvm.MethodName)) ∈ lw_all := lw_g (lw_at lw_m6 194 rfl) rfl
theorem q1510 : (Jvm.Cond.code ({ cls := "SafeBuckets", name := "mostAlike", desc := "()I" } : Jvm.MethodName) prog_1_method_71_code (7 : Nat) (Option.some Jvm.ClassFile.FieldType.int)) ∈ lw_all := lw_g (lw_at lw_m6 195 rfl) rfl
theorem q1511 : (Jvm.Cond.methodLink "SafeBuckets" (481 : Nat) ({ cls := "SafeBuckets", name := "commonest", desc := "()I" } : Jvm.MethodName)) ∈ lw_all := lw_g (lw_at lw_m6 196 rfl) rfl
theorem q1512 : (Jvm.Cond.privateMethod ({ cls := "SafeBuckets", name := "commonest", desc := "()I" } : Jvm.MethodName)) ∈ lw_tbl := lw_at lw_m6 197 rfl
theorem q1513 : (Jvm.Cond.instanceMethod ({ cls := "SafeBuckets", name := "commonest", desc := "()I" } : Jvm.MethodName)) ∈ lw_all := lw_g (lw_at lw_m6 198 rfl) rfl
theorem q1514 : (Jvm.Cond.code ({ cls := "SafeBuckets", name := "commonest", desc := "()I" } : Jvm.MethodName) prog_1_method_74_code (3 : Nat) (Option.some Jvm.ClassFile.FieldType.int)) ∈ lw_all := lw_g (lw_at lw_m6 199 rfl) rfl
theorem q1515 : (Jvm.Cond.methodLink "SafeBuckets" (466 : Nat) ({ cls := "SafeBuckets", name := "countedMost", desc := "(I)I" } : Jvm.MethodName)) ∈ lw_all := lw_g (lw_at lw_m6 200 rfl) rfl
theorem q1516 : (Jvm.Cond.privateMethod ({ cls := "SafeBuckets", name := "countedMost", desc := "(I)I" } : Jvm.MethodName)) ∈ lw_tbl := lw_at lw_m6 201 rfl
theorem q1517 : (Jvm.Cond.instanceMethod ({ cls := "SafeBuckets", name := "countedMost", desc := "(I)I" } : Jvm.MethodName)) ∈ lw_all := lw_g (lw_at lw_m6 202 rfl) rfl
theorem q1518 : (Jvm.Cond.code ({ cls := "SafeBuckets", name := "countedMost", desc := "(I)I" } : Jvm.MethodName) prog_1_method_73_code (5 : Nat) (Option.some Jvm.ClassFile.FieldType.int)) ∈ lw_all := lw_g (lw_at lw_m6 203 rfl) rfl
theorem q1520 : (Jvm.Cond.instanceMethod ({ cls := "SafeBuckets", name := "image", desc := "()I" } : Jvm.MethodName)) ∈ lw_all := lw_g (lw_at lw_m6 205 rfl) rfl
theorem q1521 : (Jvm.Cond.selects "SafeBuckets" ({ cls := "SafeBuckets", name := "image", desc := "()I" } : Jvm.MethodName) ({ cls := "SafeBuckets", name := "image", desc := "()I" } : Jvm.MethodName)) ∈ lw_all := lw_g (lw_at lw_m6 206 rfl) rfl
theorem q1522 : (Jvm.Cond.code ({ cls := "SafeBuckets", name := "image", desc := "()I" } : Jvm.MethodName) prog_1_method_76_code (1 : Nat) (Option.some Jvm.ClassFile.FieldType.int)) ∈ lw_all := lw_g (lw_at lw_m6 207 rfl) rfl
theorem q1524 : (Jvm.Cond.instanceMethod ({ cls := "SafeBuckets", name := "back", desc := "()I" } : Jvm.MethodName)) ∈ lw_all := lw_g (lw_at lw_m6 209 rfl) rfl
theorem q1525 : (Jvm.Cond.selects "SafeBuckets" ({ cls := "SafeBuckets", name := "back", desc := "()I" } : Jvm.MethodName) ({ cls := "SafeBuckets", name := "back", desc := "()I" } : Jvm.MethodName)) ∈ lw_all := lw_g (lw_at lw_m6 210 rfl) rfl
theorem q1526 : (Jvm.Cond.code ({ cls := "SafeBuckets", name := "back", desc := "()I" } : Jvm.MethodName) prog_1_method_77_code (1 : Nat) (Option.some Jvm.ClassFile.FieldType.int)) ∈ lw_all := lw_g (lw_at lw_m6 211 rfl) rfl
theorem q1528 : (Jvm.Cond.instanceMethod ({ cls := "SafeBuckets", name := "count", desc := "(I)I" } : Jvm.MethodName)) ∈ lw_all := lw_g (lw_at lw_m6 213 rfl) rfl
theorem q1529 : (Jvm.Cond.selects "SafeBuckets" ({ cls := "SafeBuckets", name := "count", desc := "(I)I" } : Jvm.MethodName) ({ cls := "SafeBuckets", name := "count", desc := "(I)I" } : Jvm.MethodName)) ∈ lw_all := lw_g (lw_at lw_m6 214 rfl) rfl
theorem q1530 : (Jvm.Cond.code ({ cls := "SafeBuckets", name := "count", desc := "(I)I" } : Jvm.MethodName) prog_1_method_78_code (2 : Nat) (Option.some Jvm.ClassFile.FieldType.int)) ∈ lw_all := lw_g (lw_at lw_m6 215 rfl) rfl
theorem q1536 : (Jvm.Cond.instanceMethod ({ cls := "SafeBuckets", name := "table", desc := "(II)I" } : Jvm.MethodName)) ∈ lw_all := lw_g (lw_at lw_m6 221 rfl) rfl
theorem q1537 : (Jvm.Cond.selects "SafeBuckets" ({ cls := "SafeBuckets", name := "table", desc := "(II)I" } : Jvm.MethodName) ({ cls := "SafeBuckets", name := "table", desc := "(II)I" } : Jvm.MethodName)) ∈ lw_all := lw_g (lw_at lw_m6 222 rfl) rfl
theorem q1538 : (Jvm.Cond.code ({ cls := "SafeBuckets", name := "table", desc := "(II)I" } : Jvm.MethodName) prog_1_method_20_code (4 : Nat) (Option.some Jvm.ClassFile.FieldType.int)) ∈ lw_all := lw_g (lw_at lw_m6 223 rfl) rfl
theorem q1539 : (Jvm.Cond.classLink "SafeBuckets" (215 : Nat) "java/util/NoSuchElementException") ∈ lw_all := lw_g (lw_at lw_m6 224 rfl) rfl
theorem q1550 : (Jvm.Cond.methodLink "SafeBuckets" (217 : Nat) ({ cls := "java/util/NoSuchElementException", name := "<init>", desc := "()V" } : Jvm.MethodName)) ∈ lw_all := lw_g (lw_at lw_m6 235 rfl) rfl
theorem q1562 : (Jvm.Cond.methodLink "SafeBuckets" (225 : Nat) ({ cls := "SafeBuckets$Sheet", name := "missing", desc := "(I)I" } : Jvm.MethodName)) ∈ lw_all := lw_g (lw_at lw_m7 7 rfl) rfl
theorem q2152 : (Jvm.Cond.castable "SafeBuckets" "java/lang/Object") ∈ lw_tbl := lw_at lw_m9 117 rfl
theorem in_X1 : ∀ w ∈ wsX10, w ∈ lw_all := lw_in wsX10 [418, 420, 422, 424, 426, 428, 430, 432, 434, 436, 438, 440, 442, 444, 446, 448, 450, 452, 454, 456, 458, 460, 462, 464, 466, 468, 470, 472, 474] (by decide +kernel) (by decide +kernel)
