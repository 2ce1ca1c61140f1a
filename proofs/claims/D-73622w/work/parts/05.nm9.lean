/-! SafeBucketsModel -/
set_option maxRecDepth 100000
def RX9 : String := "SafeBucketsModel"
def TX9 : u_T := fun k => match k with
  | 0 => ("SafeBucketsModel", "thrown", "I", false)
  | 1 => ("SafeBucketsModel", "tape", "[I", true)
  | 2 => ("SafeBucketsModel", "taped", "I", false)
  | 3 => ("SafeBucketsModel", "at", "I", false)
  | 4 => ("SafeBucketsModel", "wrong", "I", false)
  | 5 => ("SafeBucketsModel", "readRule", "[I", true)
  | 6 => ("SafeBucketsModel", "readTable", "[I", true)
  | 7 => ("SafeBucketsModel", "readRows", "[I", true)
  | 8 => ("SafeBucketsModel", "readTables", "I", false)
  | 9 => ("SafeBucketsModel", "readLines", "I", false)
  | 10 => ("SafeBucketsModel", "rule", "[I", true)
  | 11 => ("SafeBucketsModel", "values", "[I", true)
  | 12 => ("SafeBucketsModel", "tables", "I", false)
  | 13 => ("SafeBucketsModel", "units", "[I", true)
  | 14 => ("SafeBucketsModel", "unitMany", "[I", true)
  | 15 => ("SafeBucketsModel", "wheres", "I", false)
  | 16 => ("SafeBucketsModel", "now", "[I", true)
  | 17 => ("SafeBucketsModel", "refused", "[I", true)
  | 18 => ("SafeBucketsModel", "counts", "[I", true)
  | 19 => ("SafeBucketsModel", "countMany", "I", false)
  | 20 => ("SafeBucketsModel", "least", "[J", true)
  | 21 => ("SafeBucketsModel", "borders", "[I", true)
  | 22 => ("SafeBucketsModel", "kept", "[I", true)
  | 23 => ("SafeBucketsModel", "acts", "I", false)
  | 24 => ("SafeBucketsModel", "drawn", "J", false)
  | 25 => ("SafeBucketsModel", "trace", "[I", true)
  | 26 => ("SafeBucketsModel", "traced", "I", false)
  | 27 => ("SafeBucketsModel", "stepsLeft", "I", false)
  | 28 => ("SafeBucketsModel", "isStopped", "Z", false)
  | 29 => ("SafeBucketsModel", "sorted", "[I", true)
  | 30 => ("SafeBucketsModel", "aside", "[I", true)
  | 31 => ("SafeBucketsModel", "image", "[I", true)
  | _ => ("SafeBucketsModel", "hasImage", "Z", false)
def tyX9 : Nat → FieldType := fun k => match k with
  | 0 => .int
  | 1 => .array .int
  | 2 => .int
  | 3 => .int
  | 4 => .int
  | 5 => .array .int
  | 6 => .array .int
  | 7 => .array .int
  | 8 => .int
  | 9 => .int
  | 10 => .array .int
  | 11 => .array .int
  | 12 => .int
  | 13 => .array .int
  | 14 => .array .int
  | 15 => .int
  | 16 => .array .int
  | 17 => .array .int
  | 18 => .array .int
  | 19 => .int
  | 20 => .array .long
  | 21 => .array .int
  | 22 => .array .int
  | 23 => .int
  | 24 => .long
  | 25 => .array .int
  | 26 => .int
  | 27 => .int
  | 28 => .boolean
  | 29 => .array .int
  | 30 => .array .int
  | 31 => .array .int
  | _ => .boolean
abbrev wsX90 : List Cond := u_ws RX9 TX9 33
set_option maxRecDepth 100000 in
theorem nmX9 : ∀ a, a < 33 → ∀ b, b < 33 → a ≠ b → (TX9 a).2.1 ≠ (TX9 b).2.1 := by decide +kernel
set_option maxRecDepth 100000 in
theorem tyX9_ok : ∀ k, k < 33 → parseFieldDescriptor (TX9 k).2.2.1 = some (tyX9 k) := by decide +kernel
abbrev cX9_init : ByteArray := prog_28_method_3_code
def yX9_init : MethodName := ⟨RX9, "<init>", "()V"⟩
def dkwX9_init_6 : List UInt8 := [188, 10, 181, 0, 63, 177]
abbrev dktX9_init_6 : List UInt8 := dkwX9_init_6 ++ []
def dkwX9_init_5 : List UInt8 := [181, 0, 54, 42, 16, 32, 188, 10, 181, 0, 57, 42, 17, 4, 48, 188, 10, 181, 0, 60, 42, 17, 4, 229]
abbrev dktX9_init_5 : List UInt8 := dkwX9_init_5 ++ dktX9_init_6
def dkwX9_init_4 : List UInt8 := [181, 0, 43, 42, 16, 17, 188, 10, 181, 0, 47, 42, 18, 50, 188, 10, 181, 0, 51, 42, 16, 6, 188, 10]
abbrev dktX9_init_4 : List UInt8 := dkwX9_init_4 ++ dktX9_init_5
def dkwX9_init_3 : List UInt8 := [181, 0, 34, 42, 8, 188, 10, 181, 0, 37, 42, 16, 16, 188, 10, 181, 0, 40, 42, 17, 1, 50, 188, 11]
abbrev dktX9_init_3 : List UInt8 := dkwX9_init_3 ++ dktX9_init_4
def dkwX9_init_2 : List UInt8 := [181, 0, 25, 42, 16, 120, 188, 10, 181, 0, 28, 42, 8, 188, 10, 181, 0, 31, 42, 17, 4, 229, 188, 10]
abbrev dktX9_init_2 : List UInt8 := dkwX9_init_2 ++ dktX9_init_3
def dkwX9_init_1 : List UInt8 := [181, 0, 16, 42, 16, 80, 188, 10, 181, 0, 19, 42, 6, 188, 10, 181, 0, 22, 42, 6, 188, 10]
abbrev dktX9_init_1 : List UInt8 := dkwX9_init_1 ++ dktX9_init_2
def dkwX9_init_0 : List UInt8 := [42, 183, 0, 3, 42, 17, 0, 240, 188, 10, 181, 0, 9, 42, 6, 188, 10, 181, 0, 13, 42, 6, 188, 10]
abbrev dktX9_init_0 : List UInt8 := dkwX9_init_0 ++ dktX9_init_1
theorem dksX9_init_0 : cX9_init.data.toList.drop 0 = dktX9_init_0 := by decide +kernel
theorem dksX9_init_1 : cX9_init.data.toList.drop 24 = dktX9_init_1 := dk_seg dksX9_init_0 24 rfl rfl
theorem dksX9_init_2 : cX9_init.data.toList.drop 46 = dktX9_init_2 := dk_seg dksX9_init_1 22 rfl rfl
theorem dksX9_init_3 : cX9_init.data.toList.drop 70 = dktX9_init_3 := dk_seg dksX9_init_2 24 rfl rfl
theorem dksX9_init_4 : cX9_init.data.toList.drop 94 = dktX9_init_4 := dk_seg dksX9_init_3 24 rfl rfl
theorem dksX9_init_5 : cX9_init.data.toList.drop 118 = dktX9_init_5 := dk_seg dksX9_init_4 24 rfl rfl
theorem dksX9_init_6 : cX9_init.data.toList.drop 142 = dktX9_init_6 := dk_seg dksX9_init_5 24 rfl rfl
theorem dX9_init_0 : decode cX9_init 0 = .ok (.aload_n 0, 1) := dk_42 (dk_at dksX9_init_0 0 rfl rfl)
theorem dX9_init_1 : decode cX9_init 1 = .ok (.invokespecial 3, 3) := dk_183 0 3 (dk_at dksX9_init_0 1 rfl rfl)
theorem dX9_init_4 : decode cX9_init 4 = .ok (.aload_n 0, 1) := dk_42 (dk_at dksX9_init_0 4 rfl rfl)
theorem dX9_init_5 : decode cX9_init 5 = .ok (.sipush 240, 3) := dk_17 0 240 (dk_at dksX9_init_0 5 rfl rfl)
theorem dX9_init_8 : decode cX9_init 8 = .ok (.newarray .int, 2) := dk_188_10 (dk_at dksX9_init_0 8 rfl rfl)
theorem dX9_init_10 : decode cX9_init 10 = .ok (.putfield 9, 3) := dk_181 0 9 (dk_at dksX9_init_0 10 rfl rfl)
theorem dX9_init_13 : decode cX9_init 13 = .ok (.aload_n 0, 1) := dk_42 (dk_at dksX9_init_0 13 rfl rfl)
theorem dX9_init_14 : decode cX9_init 14 = .ok (.iconst 3, 1) := dk_6 (dk_at dksX9_init_0 14 rfl rfl)
theorem dX9_init_15 : decode cX9_init 15 = .ok (.newarray .int, 2) := dk_188_10 (dk_at dksX9_init_0 15 rfl rfl)
theorem dX9_init_17 : decode cX9_init 17 = .ok (.putfield 13, 3) := dk_181 0 13 (dk_at dksX9_init_0 17 rfl rfl)
theorem dX9_init_20 : decode cX9_init 20 = .ok (.aload_n 0, 1) := dk_42 (dk_at dksX9_init_0 20 rfl rfl)
theorem dX9_init_21 : decode cX9_init 21 = .ok (.iconst 3, 1) := dk_6 (dk_at dksX9_init_0 21 rfl rfl)
theorem dX9_init_22 : decode cX9_init 22 = .ok (.newarray .int, 2) := dk_188_10 (dk_at dksX9_init_0 22 rfl rfl)
theorem dX9_init_24 : decode cX9_init 24 = .ok (.putfield 16, 3) := dk_181 0 16 (dk_at dksX9_init_1 0 rfl rfl)
theorem dX9_init_27 : decode cX9_init 27 = .ok (.aload_n 0, 1) := dk_42 (dk_at dksX9_init_1 3 rfl rfl)
theorem dX9_init_28 : decode cX9_init 28 = .ok (.bipush 80, 2) := dk_16 80 (dk_at dksX9_init_1 4 rfl rfl)
theorem dX9_init_30 : decode cX9_init 30 = .ok (.newarray .int, 2) := dk_188_10 (dk_at dksX9_init_1 6 rfl rfl)
theorem dX9_init_32 : decode cX9_init 32 = .ok (.putfield 19, 3) := dk_181 0 19 (dk_at dksX9_init_1 8 rfl rfl)
theorem dX9_init_35 : decode cX9_init 35 = .ok (.aload_n 0, 1) := dk_42 (dk_at dksX9_init_1 11 rfl rfl)
theorem dX9_init_36 : decode cX9_init 36 = .ok (.iconst 3, 1) := dk_6 (dk_at dksX9_init_1 12 rfl rfl)
theorem dX9_init_37 : decode cX9_init 37 = .ok (.newarray .int, 2) := dk_188_10 (dk_at dksX9_init_1 13 rfl rfl)
theorem dX9_init_39 : decode cX9_init 39 = .ok (.putfield 22, 3) := dk_181 0 22 (dk_at dksX9_init_1 15 rfl rfl)
theorem dX9_init_42 : decode cX9_init 42 = .ok (.aload_n 0, 1) := dk_42 (dk_at dksX9_init_1 18 rfl rfl)
theorem dX9_init_43 : decode cX9_init 43 = .ok (.iconst 3, 1) := dk_6 (dk_at dksX9_init_1 19 rfl rfl)
theorem dX9_init_44 : decode cX9_init 44 = .ok (.newarray .int, 2) := dk_188_10 (dk_at dksX9_init_1 20 rfl rfl)
theorem dX9_init_46 : decode cX9_init 46 = .ok (.putfield 25, 3) := dk_181 0 25 (dk_at dksX9_init_2 0 rfl rfl)
theorem dX9_init_49 : decode cX9_init 49 = .ok (.aload_n 0, 1) := dk_42 (dk_at dksX9_init_2 3 rfl rfl)
theorem dX9_init_50 : decode cX9_init 50 = .ok (.bipush 120, 2) := dk_16 120 (dk_at dksX9_init_2 4 rfl rfl)
theorem dX9_init_52 : decode cX9_init 52 = .ok (.newarray .int, 2) := dk_188_10 (dk_at dksX9_init_2 6 rfl rfl)
theorem dX9_init_54 : decode cX9_init 54 = .ok (.putfield 28, 3) := dk_181 0 28 (dk_at dksX9_init_2 8 rfl rfl)
theorem dX9_init_57 : decode cX9_init 57 = .ok (.aload_n 0, 1) := dk_42 (dk_at dksX9_init_2 11 rfl rfl)
theorem dX9_init_58 : decode cX9_init 58 = .ok (.iconst 5, 1) := dk_8 (dk_at dksX9_init_2 12 rfl rfl)
theorem dX9_init_59 : decode cX9_init 59 = .ok (.newarray .int, 2) := dk_188_10 (dk_at dksX9_init_2 13 rfl rfl)
theorem dX9_init_61 : decode cX9_init 61 = .ok (.putfield 31, 3) := dk_181 0 31 (dk_at dksX9_init_2 15 rfl rfl)
theorem dX9_init_64 : decode cX9_init 64 = .ok (.aload_n 0, 1) := dk_42 (dk_at dksX9_init_2 18 rfl rfl)
theorem dX9_init_65 : decode cX9_init 65 = .ok (.sipush 1253, 3) := dk_17 4 229 (dk_at dksX9_init_2 19 rfl rfl)
theorem dX9_init_68 : decode cX9_init 68 = .ok (.newarray .int, 2) := dk_188_10 (dk_at dksX9_init_2 22 rfl rfl)
theorem dX9_init_70 : decode cX9_init 70 = .ok (.putfield 34, 3) := dk_181 0 34 (dk_at dksX9_init_3 0 rfl rfl)
theorem dX9_init_73 : decode cX9_init 73 = .ok (.aload_n 0, 1) := dk_42 (dk_at dksX9_init_3 3 rfl rfl)
theorem dX9_init_74 : decode cX9_init 74 = .ok (.iconst 5, 1) := dk_8 (dk_at dksX9_init_3 4 rfl rfl)
theorem dX9_init_75 : decode cX9_init 75 = .ok (.newarray .int, 2) := dk_188_10 (dk_at dksX9_init_3 5 rfl rfl)
theorem dX9_init_77 : decode cX9_init 77 = .ok (.putfield 37, 3) := dk_181 0 37 (dk_at dksX9_init_3 7 rfl rfl)
theorem dX9_init_80 : decode cX9_init 80 = .ok (.aload_n 0, 1) := dk_42 (dk_at dksX9_init_3 10 rfl rfl)
theorem dX9_init_81 : decode cX9_init 81 = .ok (.bipush 16, 2) := dk_16 16 (dk_at dksX9_init_3 11 rfl rfl)
theorem dX9_init_83 : decode cX9_init 83 = .ok (.newarray .int, 2) := dk_188_10 (dk_at dksX9_init_3 13 rfl rfl)
theorem dX9_init_85 : decode cX9_init 85 = .ok (.putfield 40, 3) := dk_181 0 40 (dk_at dksX9_init_3 15 rfl rfl)
theorem dX9_init_88 : decode cX9_init 88 = .ok (.aload_n 0, 1) := dk_42 (dk_at dksX9_init_3 18 rfl rfl)
theorem dX9_init_89 : decode cX9_init 89 = .ok (.sipush 306, 3) := dk_17 1 50 (dk_at dksX9_init_3 19 rfl rfl)
theorem dX9_init_92 : decode cX9_init 92 = .ok (.newarray .long, 2) := dk_188_11 (dk_at dksX9_init_3 22 rfl rfl)
theorem dX9_init_94 : decode cX9_init 94 = .ok (.putfield 43, 3) := dk_181 0 43 (dk_at dksX9_init_4 0 rfl rfl)
theorem dX9_init_97 : decode cX9_init 97 = .ok (.aload_n 0, 1) := dk_42 (dk_at dksX9_init_4 3 rfl rfl)
theorem dX9_init_98 : decode cX9_init 98 = .ok (.bipush 17, 2) := dk_16 17 (dk_at dksX9_init_4 4 rfl rfl)
theorem dX9_init_100 : decode cX9_init 100 = .ok (.newarray .int, 2) := dk_188_10 (dk_at dksX9_init_4 6 rfl rfl)
theorem dX9_init_102 : decode cX9_init 102 = .ok (.putfield 47, 3) := dk_181 0 47 (dk_at dksX9_init_4 8 rfl rfl)
theorem dX9_init_105 : decode cX9_init 105 = .ok (.aload_n 0, 1) := dk_42 (dk_at dksX9_init_4 11 rfl rfl)
theorem dX9_init_106 : decode cX9_init 106 = .ok (.ldc 50, 2) := dk_18 50 (dk_at dksX9_init_4 12 rfl rfl)
theorem dX9_init_108 : decode cX9_init 108 = .ok (.newarray .int, 2) := dk_188_10 (dk_at dksX9_init_4 14 rfl rfl)
theorem dX9_init_110 : decode cX9_init 110 = .ok (.putfield 51, 3) := dk_181 0 51 (dk_at dksX9_init_4 16 rfl rfl)
theorem dX9_init_113 : decode cX9_init 113 = .ok (.aload_n 0, 1) := dk_42 (dk_at dksX9_init_4 19 rfl rfl)
theorem dX9_init_114 : decode cX9_init 114 = .ok (.bipush 6, 2) := dk_16 6 (dk_at dksX9_init_4 20 rfl rfl)
theorem dX9_init_116 : decode cX9_init 116 = .ok (.newarray .int, 2) := dk_188_10 (dk_at dksX9_init_4 22 rfl rfl)
theorem dX9_init_118 : decode cX9_init 118 = .ok (.putfield 54, 3) := dk_181 0 54 (dk_at dksX9_init_5 0 rfl rfl)
theorem dX9_init_121 : decode cX9_init 121 = .ok (.aload_n 0, 1) := dk_42 (dk_at dksX9_init_5 3 rfl rfl)
theorem dX9_init_122 : decode cX9_init 122 = .ok (.bipush 32, 2) := dk_16 32 (dk_at dksX9_init_5 4 rfl rfl)
theorem dX9_init_124 : decode cX9_init 124 = .ok (.newarray .int, 2) := dk_188_10 (dk_at dksX9_init_5 6 rfl rfl)
theorem dX9_init_126 : decode cX9_init 126 = .ok (.putfield 57, 3) := dk_181 0 57 (dk_at dksX9_init_5 8 rfl rfl)
theorem dX9_init_129 : decode cX9_init 129 = .ok (.aload_n 0, 1) := dk_42 (dk_at dksX9_init_5 11 rfl rfl)
theorem dX9_init_130 : decode cX9_init 130 = .ok (.sipush 1072, 3) := dk_17 4 48 (dk_at dksX9_init_5 12 rfl rfl)
theorem dX9_init_133 : decode cX9_init 133 = .ok (.newarray .int, 2) := dk_188_10 (dk_at dksX9_init_5 15 rfl rfl)
theorem dX9_init_135 : decode cX9_init 135 = .ok (.putfield 60, 3) := dk_181 0 60 (dk_at dksX9_init_5 17 rfl rfl)
theorem dX9_init_138 : decode cX9_init 138 = .ok (.aload_n 0, 1) := dk_42 (dk_at dksX9_init_5 20 rfl rfl)
theorem dX9_init_139 : decode cX9_init 139 = .ok (.sipush 1253, 3) := dk_17 4 229 (dk_at dksX9_init_5 21 rfl rfl)
theorem dX9_init_142 : decode cX9_init 142 = .ok (.newarray .int, 2) := dk_188_10 (dk_at dksX9_init_6 0 rfl rfl)
theorem dX9_init_144 : decode cX9_init 144 = .ok (.putfield 63, 3) := dk_181 0 63 (dk_at dksX9_init_6 2 rfl rfl)
theorem dX9_init_147 : decode cX9_init 147 = .ok (.return_, 1) := dk_177 (dk_at dksX9_init_6 5 rfl rfl)
abbrev cX9_thrown : ByteArray := prog_28_method_4_code
def yX9_thrown : MethodName := ⟨RX9, "thrown", "()I"⟩
theorem dX9_thrown_0 : decode cX9_thrown 0 = .ok (.aload_n 0, 1) := by decide +kernel
theorem dX9_thrown_1 : decode cX9_thrown 1 = .ok (.getfield 66, 3) := by decide +kernel
theorem dX9_thrown_4 : decode cX9_thrown 4 = .ok (.ireturn, 1) := by decide +kernel
abbrev cX9_feed : ByteArray := prog_28_method_6_code
def yX9_feed : MethodName := ⟨RX9, "feed", "(IIIII)I"⟩
def dkwX9_feed_4 : List UInt8 := [21, 8, 79, 42, 89, 180, 0, 74, 4, 96, 181, 0, 74, 132, 7, 1, 167, 255, 206, 42, 180, 0, 74, 172]
abbrev dktX9_feed_4 : List UInt8 := dkwX9_feed_4 ++ []
def dkwX9_feed_3 : List UInt8 := [21, 4, 21, 5, 21, 7, 184, 0, 70, 54, 8, 21, 8, 153, 0, 24, 42, 180, 0, 9, 42, 180, 0, 74]
abbrev dktX9_feed_3 : List UInt8 := dkwX9_feed_3 ++ dktX9_feed_4
def dkwX9_feed_2 : List UInt8 := [21, 6, 96, 17, 0, 240, 164, 0, 5, 2, 172, 3, 54, 7, 21, 7, 16, 20, 162, 0, 49, 27, 28, 29]
abbrev dktX9_feed_2 : List UInt8 := dkwX9_feed_2 ++ dktX9_feed_3
def dkwX9_feed_1 : List UInt8 := [184, 0, 70, 153, 0, 7, 4, 167, 0, 4, 3, 96, 54, 6, 132, 7, 1, 167, 255, 221, 42, 180, 0, 74]
abbrev dktX9_feed_1 : List UInt8 := dkwX9_feed_1 ++ dktX9_feed_2
def dkwX9_feed_0 : List UInt8 := [3, 54, 6, 3, 54, 7, 21, 7, 16, 20, 162, 0, 34, 21, 6, 27, 28, 29, 21, 4, 21, 5, 21, 7]
abbrev dktX9_feed_0 : List UInt8 := dkwX9_feed_0 ++ dktX9_feed_1
theorem dksX9_feed_0 : cX9_feed.data.toList.drop 0 = dktX9_feed_0 := by decide +kernel
theorem dksX9_feed_1 : cX9_feed.data.toList.drop 24 = dktX9_feed_1 := dk_seg dksX9_feed_0 24 rfl rfl
theorem dksX9_feed_2 : cX9_feed.data.toList.drop 48 = dktX9_feed_2 := dk_seg dksX9_feed_1 24 rfl rfl
theorem dksX9_feed_3 : cX9_feed.data.toList.drop 72 = dktX9_feed_3 := dk_seg dksX9_feed_2 24 rfl rfl
theorem dksX9_feed_4 : cX9_feed.data.toList.drop 96 = dktX9_feed_4 := dk_seg dksX9_feed_3 24 rfl rfl
theorem dX9_feed_0 : decode cX9_feed 0 = .ok (.iconst 0, 1) := dk_3 (dk_at dksX9_feed_0 0 rfl rfl)
theorem dX9_feed_1 : decode cX9_feed 1 = .ok (.istore 6, 2) := dk_54 6 (dk_at dksX9_feed_0 1 rfl rfl)
theorem dX9_feed_3 : decode cX9_feed 3 = .ok (.iconst 0, 1) := dk_3 (dk_at dksX9_feed_0 3 rfl rfl)
theorem dX9_feed_4 : decode cX9_feed 4 = .ok (.istore 7, 2) := dk_54 7 (dk_at dksX9_feed_0 4 rfl rfl)
theorem dX9_feed_6 : decode cX9_feed 6 = .ok (.iload 7, 2) := dk_21 7 (dk_at dksX9_feed_0 6 rfl rfl)
theorem dX9_feed_8 : decode cX9_feed 8 = .ok (.bipush 20, 2) := dk_16 20 (dk_at dksX9_feed_0 8 rfl rfl)
theorem dX9_feed_10 : decode cX9_feed 10 = .ok (.if_icmp .ge 34, 3) := dk_162 0 34 (dk_at dksX9_feed_0 10 rfl rfl)
theorem dX9_feed_13 : decode cX9_feed 13 = .ok (.iload 6, 2) := dk_21 6 (dk_at dksX9_feed_0 13 rfl rfl)
theorem dX9_feed_15 : decode cX9_feed 15 = .ok (.iload_n 1, 1) := dk_27 (dk_at dksX9_feed_0 15 rfl rfl)
theorem dX9_feed_16 : decode cX9_feed 16 = .ok (.iload_n 2, 1) := dk_28 (dk_at dksX9_feed_0 16 rfl rfl)
theorem dX9_feed_17 : decode cX9_feed 17 = .ok (.iload_n 3, 1) := dk_29 (dk_at dksX9_feed_0 17 rfl rfl)
theorem dX9_feed_18 : decode cX9_feed 18 = .ok (.iload 4, 2) := dk_21 4 (dk_at dksX9_feed_0 18 rfl rfl)
theorem dX9_feed_20 : decode cX9_feed 20 = .ok (.iload 5, 2) := dk_21 5 (dk_at dksX9_feed_0 20 rfl rfl)
theorem dX9_feed_22 : decode cX9_feed 22 = .ok (.iload 7, 2) := dk_21 7 (dk_at dksX9_feed_0 22 rfl rfl)
theorem dX9_feed_24 : decode cX9_feed 24 = .ok (.invokestatic 70, 3) := dk_184 0 70 (dk_at dksX9_feed_1 0 rfl rfl)
theorem dX9_feed_27 : decode cX9_feed 27 = .ok (.ifCond .eq 7, 3) := dk_153 0 7 (dk_at dksX9_feed_1 3 rfl rfl)
theorem dX9_feed_30 : decode cX9_feed 30 = .ok (.iconst 1, 1) := dk_4 (dk_at dksX9_feed_1 6 rfl rfl)
theorem dX9_feed_31 : decode cX9_feed 31 = .ok (.goto 4, 3) := dk_167 0 4 (dk_at dksX9_feed_1 7 rfl rfl)
theorem dX9_feed_34 : decode cX9_feed 34 = .ok (.iconst 0, 1) := dk_3 (dk_at dksX9_feed_1 10 rfl rfl)
theorem dX9_feed_35 : decode cX9_feed 35 = .ok (.iadd, 1) := dk_96 (dk_at dksX9_feed_1 11 rfl rfl)
theorem dX9_feed_36 : decode cX9_feed 36 = .ok (.istore 6, 2) := dk_54 6 (dk_at dksX9_feed_1 12 rfl rfl)
theorem dX9_feed_38 : decode cX9_feed 38 = .ok (.iinc 7 1, 3) := dk_132 7 1 (dk_at dksX9_feed_1 14 rfl rfl)
theorem dX9_feed_41 : decode cX9_feed 41 = .ok (.goto (-35), 3) := dk_167 255 221 (dk_at dksX9_feed_1 17 rfl rfl)
theorem dX9_feed_44 : decode cX9_feed 44 = .ok (.aload_n 0, 1) := dk_42 (dk_at dksX9_feed_1 20 rfl rfl)
theorem dX9_feed_45 : decode cX9_feed 45 = .ok (.getfield 74, 3) := dk_180 0 74 (dk_at dksX9_feed_1 21 rfl rfl)
theorem dX9_feed_48 : decode cX9_feed 48 = .ok (.iload 6, 2) := dk_21 6 (dk_at dksX9_feed_2 0 rfl rfl)
theorem dX9_feed_50 : decode cX9_feed 50 = .ok (.iadd, 1) := dk_96 (dk_at dksX9_feed_2 2 rfl rfl)
theorem dX9_feed_51 : decode cX9_feed 51 = .ok (.sipush 240, 3) := dk_17 0 240 (dk_at dksX9_feed_2 3 rfl rfl)
theorem dX9_feed_54 : decode cX9_feed 54 = .ok (.if_icmp .le 5, 3) := dk_164 0 5 (dk_at dksX9_feed_2 6 rfl rfl)
theorem dX9_feed_57 : decode cX9_feed 57 = .ok (.iconst (-1), 1) := dk_2 (dk_at dksX9_feed_2 9 rfl rfl)
theorem dX9_feed_58 : decode cX9_feed 58 = .ok (.ireturn, 1) := dk_172 (dk_at dksX9_feed_2 10 rfl rfl)
theorem dX9_feed_59 : decode cX9_feed 59 = .ok (.iconst 0, 1) := dk_3 (dk_at dksX9_feed_2 11 rfl rfl)
theorem dX9_feed_60 : decode cX9_feed 60 = .ok (.istore 7, 2) := dk_54 7 (dk_at dksX9_feed_2 12 rfl rfl)
theorem dX9_feed_62 : decode cX9_feed 62 = .ok (.iload 7, 2) := dk_21 7 (dk_at dksX9_feed_2 14 rfl rfl)
theorem dX9_feed_64 : decode cX9_feed 64 = .ok (.bipush 20, 2) := dk_16 20 (dk_at dksX9_feed_2 16 rfl rfl)
theorem dX9_feed_66 : decode cX9_feed 66 = .ok (.if_icmp .ge 49, 3) := dk_162 0 49 (dk_at dksX9_feed_2 18 rfl rfl)
theorem dX9_feed_69 : decode cX9_feed 69 = .ok (.iload_n 1, 1) := dk_27 (dk_at dksX9_feed_2 21 rfl rfl)
theorem dX9_feed_70 : decode cX9_feed 70 = .ok (.iload_n 2, 1) := dk_28 (dk_at dksX9_feed_2 22 rfl rfl)
theorem dX9_feed_71 : decode cX9_feed 71 = .ok (.iload_n 3, 1) := dk_29 (dk_at dksX9_feed_2 23 rfl rfl)
theorem dX9_feed_72 : decode cX9_feed 72 = .ok (.iload 4, 2) := dk_21 4 (dk_at dksX9_feed_3 0 rfl rfl)
theorem dX9_feed_74 : decode cX9_feed 74 = .ok (.iload 5, 2) := dk_21 5 (dk_at dksX9_feed_3 2 rfl rfl)
theorem dX9_feed_76 : decode cX9_feed 76 = .ok (.iload 7, 2) := dk_21 7 (dk_at dksX9_feed_3 4 rfl rfl)
theorem dX9_feed_78 : decode cX9_feed 78 = .ok (.invokestatic 70, 3) := dk_184 0 70 (dk_at dksX9_feed_3 6 rfl rfl)
theorem dX9_feed_81 : decode cX9_feed 81 = .ok (.istore 8, 2) := dk_54 8 (dk_at dksX9_feed_3 9 rfl rfl)
theorem dX9_feed_83 : decode cX9_feed 83 = .ok (.iload 8, 2) := dk_21 8 (dk_at dksX9_feed_3 11 rfl rfl)
theorem dX9_feed_85 : decode cX9_feed 85 = .ok (.ifCond .eq 24, 3) := dk_153 0 24 (dk_at dksX9_feed_3 13 rfl rfl)
theorem dX9_feed_88 : decode cX9_feed 88 = .ok (.aload_n 0, 1) := dk_42 (dk_at dksX9_feed_3 16 rfl rfl)
theorem dX9_feed_89 : decode cX9_feed 89 = .ok (.getfield 9, 3) := dk_180 0 9 (dk_at dksX9_feed_3 17 rfl rfl)
theorem dX9_feed_92 : decode cX9_feed 92 = .ok (.aload_n 0, 1) := dk_42 (dk_at dksX9_feed_3 20 rfl rfl)
theorem dX9_feed_93 : decode cX9_feed 93 = .ok (.getfield 74, 3) := dk_180 0 74 (dk_at dksX9_feed_3 21 rfl rfl)
theorem dX9_feed_96 : decode cX9_feed 96 = .ok (.iload 8, 2) := dk_21 8 (dk_at dksX9_feed_4 0 rfl rfl)
theorem dX9_feed_98 : decode cX9_feed 98 = .ok (.iastore, 1) := dk_79 (dk_at dksX9_feed_4 2 rfl rfl)
theorem dX9_feed_99 : decode cX9_feed 99 = .ok (.aload_n 0, 1) := dk_42 (dk_at dksX9_feed_4 3 rfl rfl)
theorem dX9_feed_100 : decode cX9_feed 100 = .ok (.dup, 1) := dk_89 (dk_at dksX9_feed_4 4 rfl rfl)
theorem dX9_feed_101 : decode cX9_feed 101 = .ok (.getfield 74, 3) := dk_180 0 74 (dk_at dksX9_feed_4 5 rfl rfl)
theorem dX9_feed_104 : decode cX9_feed 104 = .ok (.iconst 1, 1) := dk_4 (dk_at dksX9_feed_4 8 rfl rfl)
theorem dX9_feed_105 : decode cX9_feed 105 = .ok (.iadd, 1) := dk_96 (dk_at dksX9_feed_4 9 rfl rfl)
theorem dX9_feed_106 : decode cX9_feed 106 = .ok (.putfield 74, 3) := dk_181 0 74 (dk_at dksX9_feed_4 10 rfl rfl)
theorem dX9_feed_109 : decode cX9_feed 109 = .ok (.iinc 7 1, 3) := dk_132 7 1 (dk_at dksX9_feed_4 13 rfl rfl)
theorem dX9_feed_112 : decode cX9_feed 112 = .ok (.goto (-50), 3) := dk_167 255 206 (dk_at dksX9_feed_4 16 rfl rfl)
theorem dX9_feed_115 : decode cX9_feed 115 = .ok (.aload_n 0, 1) := dk_42 (dk_at dksX9_feed_4 19 rfl rfl)
theorem dX9_feed_116 : decode cX9_feed 116 = .ok (.getfield 74, 3) := dk_180 0 74 (dk_at dksX9_feed_4 20 rfl rfl)
theorem dX9_feed_119 : decode cX9_feed 119 = .ok (.ireturn, 1) := dk_172 (dk_at dksX9_feed_4 23 rfl rfl)
abbrev cX9_byteOf : ByteArray := prog_28_method_5_code
def yX9_byteOf : MethodName := ⟨RX9, "byteOf", "(IIIIII)I"⟩
def dkwX9_byteOf_2 : List UInt8 := [21, 6, 16, 24, 16, 8, 21, 5, 7, 112, 104, 100, 122, 17, 0, 255, 126, 172]
abbrev dktX9_byteOf_2 : List UInt8 := dkwX9_byteOf_2 ++ []
def dkwX9_byteOf_1 : List UInt8 := [16, 12, 162, 0, 7, 28, 167, 0, 16, 21, 5, 16, 16, 162, 0, 7, 29, 167, 0, 5, 21, 4, 54, 6]
abbrev dktX9_byteOf_1 : List UInt8 := dkwX9_byteOf_1 ++ dktX9_byteOf_2
def dkwX9_byteOf_0 : List UInt8 := [21, 5, 7, 162, 0, 7, 26, 167, 0, 38, 21, 5, 16, 8, 162, 0, 7, 27, 167, 0, 27, 21, 5]
abbrev dktX9_byteOf_0 : List UInt8 := dkwX9_byteOf_0 ++ dktX9_byteOf_1
theorem dksX9_byteOf_0 : cX9_byteOf.data.toList.drop 0 = dktX9_byteOf_0 := by decide +kernel
theorem dksX9_byteOf_1 : cX9_byteOf.data.toList.drop 23 = dktX9_byteOf_1 := dk_seg dksX9_byteOf_0 23 rfl rfl
theorem dksX9_byteOf_2 : cX9_byteOf.data.toList.drop 47 = dktX9_byteOf_2 := dk_seg dksX9_byteOf_1 24 rfl rfl
theorem dX9_byteOf_0 : decode cX9_byteOf 0 = .ok (.iload 5, 2) := dk_21 5 (dk_at dksX9_byteOf_0 0 rfl rfl)
theorem dX9_byteOf_2 : decode cX9_byteOf 2 = .ok (.iconst 4, 1) := dk_7 (dk_at dksX9_byteOf_0 2 rfl rfl)
theorem dX9_byteOf_3 : decode cX9_byteOf 3 = .ok (.if_icmp .ge 7, 3) := dk_162 0 7 (dk_at dksX9_byteOf_0 3 rfl rfl)
theorem dX9_byteOf_6 : decode cX9_byteOf 6 = .ok (.iload_n 0, 1) := dk_26 (dk_at dksX9_byteOf_0 6 rfl rfl)
theorem dX9_byteOf_7 : decode cX9_byteOf 7 = .ok (.goto 38, 3) := dk_167 0 38 (dk_at dksX9_byteOf_0 7 rfl rfl)
theorem dX9_byteOf_10 : decode cX9_byteOf 10 = .ok (.iload 5, 2) := dk_21 5 (dk_at dksX9_byteOf_0 10 rfl rfl)
theorem dX9_byteOf_12 : decode cX9_byteOf 12 = .ok (.bipush 8, 2) := dk_16 8 (dk_at dksX9_byteOf_0 12 rfl rfl)
theorem dX9_byteOf_14 : decode cX9_byteOf 14 = .ok (.if_icmp .ge 7, 3) := dk_162 0 7 (dk_at dksX9_byteOf_0 14 rfl rfl)
theorem dX9_byteOf_17 : decode cX9_byteOf 17 = .ok (.iload_n 1, 1) := dk_27 (dk_at dksX9_byteOf_0 17 rfl rfl)
theorem dX9_byteOf_18 : decode cX9_byteOf 18 = .ok (.goto 27, 3) := dk_167 0 27 (dk_at dksX9_byteOf_0 18 rfl rfl)
theorem dX9_byteOf_21 : decode cX9_byteOf 21 = .ok (.iload 5, 2) := dk_21 5 (dk_at dksX9_byteOf_0 21 rfl rfl)
theorem dX9_byteOf_23 : decode cX9_byteOf 23 = .ok (.bipush 12, 2) := dk_16 12 (dk_at dksX9_byteOf_1 0 rfl rfl)
theorem dX9_byteOf_25 : decode cX9_byteOf 25 = .ok (.if_icmp .ge 7, 3) := dk_162 0 7 (dk_at dksX9_byteOf_1 2 rfl rfl)
theorem dX9_byteOf_28 : decode cX9_byteOf 28 = .ok (.iload_n 2, 1) := dk_28 (dk_at dksX9_byteOf_1 5 rfl rfl)
theorem dX9_byteOf_29 : decode cX9_byteOf 29 = .ok (.goto 16, 3) := dk_167 0 16 (dk_at dksX9_byteOf_1 6 rfl rfl)
theorem dX9_byteOf_32 : decode cX9_byteOf 32 = .ok (.iload 5, 2) := dk_21 5 (dk_at dksX9_byteOf_1 9 rfl rfl)
theorem dX9_byteOf_34 : decode cX9_byteOf 34 = .ok (.bipush 16, 2) := dk_16 16 (dk_at dksX9_byteOf_1 11 rfl rfl)
theorem dX9_byteOf_36 : decode cX9_byteOf 36 = .ok (.if_icmp .ge 7, 3) := dk_162 0 7 (dk_at dksX9_byteOf_1 13 rfl rfl)
theorem dX9_byteOf_39 : decode cX9_byteOf 39 = .ok (.iload_n 3, 1) := dk_29 (dk_at dksX9_byteOf_1 16 rfl rfl)
theorem dX9_byteOf_40 : decode cX9_byteOf 40 = .ok (.goto 5, 3) := dk_167 0 5 (dk_at dksX9_byteOf_1 17 rfl rfl)
theorem dX9_byteOf_43 : decode cX9_byteOf 43 = .ok (.iload 4, 2) := dk_21 4 (dk_at dksX9_byteOf_1 20 rfl rfl)
theorem dX9_byteOf_45 : decode cX9_byteOf 45 = .ok (.istore 6, 2) := dk_54 6 (dk_at dksX9_byteOf_1 22 rfl rfl)
theorem dX9_byteOf_47 : decode cX9_byteOf 47 = .ok (.iload 6, 2) := dk_21 6 (dk_at dksX9_byteOf_2 0 rfl rfl)
theorem dX9_byteOf_49 : decode cX9_byteOf 49 = .ok (.bipush 24, 2) := dk_16 24 (dk_at dksX9_byteOf_2 2 rfl rfl)
theorem dX9_byteOf_51 : decode cX9_byteOf 51 = .ok (.bipush 8, 2) := dk_16 8 (dk_at dksX9_byteOf_2 4 rfl rfl)
theorem dX9_byteOf_53 : decode cX9_byteOf 53 = .ok (.iload 5, 2) := dk_21 5 (dk_at dksX9_byteOf_2 6 rfl rfl)
theorem dX9_byteOf_55 : decode cX9_byteOf 55 = .ok (.iconst 4, 1) := dk_7 (dk_at dksX9_byteOf_2 8 rfl rfl)
theorem dX9_byteOf_56 : decode cX9_byteOf 56 = .ok (.irem, 1) := dk_112 (dk_at dksX9_byteOf_2 9 rfl rfl)
theorem dX9_byteOf_57 : decode cX9_byteOf 57 = .ok (.imul, 1) := dk_104 (dk_at dksX9_byteOf_2 10 rfl rfl)
theorem dX9_byteOf_58 : decode cX9_byteOf 58 = .ok (.isub, 1) := dk_100 (dk_at dksX9_byteOf_2 11 rfl rfl)
theorem dX9_byteOf_59 : decode cX9_byteOf 59 = .ok (.ishr, 1) := dk_122 (dk_at dksX9_byteOf_2 12 rfl rfl)
theorem dX9_byteOf_60 : decode cX9_byteOf 60 = .ok (.sipush 255, 3) := dk_17 0 255 (dk_at dksX9_byteOf_2 13 rfl rfl)
theorem dX9_byteOf_63 : decode cX9_byteOf 63 = .ok (.iand, 1) := dk_126 (dk_at dksX9_byteOf_2 16 rfl rfl)
theorem dX9_byteOf_64 : decode cX9_byteOf 64 = .ok (.ireturn, 1) := dk_172 (dk_at dksX9_byteOf_2 17 rfl rfl)
abbrev cX9_end : ByteArray := prog_28_method_7_code
def yX9_end : MethodName := ⟨RX9, "end", "(I)Z"⟩
def dkwX9_end_0 : List UInt8 := [27, 133, 9, 42, 180, 0, 74, 133, 184, 0, 77, 154, 0, 5, 3, 172, 42, 27, 181, 0, 74, 4, 172]
abbrev dktX9_end_0 : List UInt8 := dkwX9_end_0 ++ []
theorem dksX9_end_0 : cX9_end.data.toList.drop 0 = dktX9_end_0 := by decide +kernel
theorem dX9_end_0 : decode cX9_end 0 = .ok (.iload_n 1, 1) := dk_27 (dk_at dksX9_end_0 0 rfl rfl)
theorem dX9_end_1 : decode cX9_end 1 = .ok (.i2l, 1) := dk_133 (dk_at dksX9_end_0 1 rfl rfl)
theorem dX9_end_2 : decode cX9_end 2 = .ok (.lconst 0, 1) := dk_9 (dk_at dksX9_end_0 2 rfl rfl)
theorem dX9_end_3 : decode cX9_end 3 = .ok (.aload_n 0, 1) := dk_42 (dk_at dksX9_end_0 3 rfl rfl)
theorem dX9_end_4 : decode cX9_end 4 = .ok (.getfield 74, 3) := dk_180 0 74 (dk_at dksX9_end_0 4 rfl rfl)
theorem dX9_end_7 : decode cX9_end 7 = .ok (.i2l, 1) := dk_133 (dk_at dksX9_end_0 7 rfl rfl)
theorem dX9_end_8 : decode cX9_end 8 = .ok (.invokestatic 77, 3) := dk_184 0 77 (dk_at dksX9_end_0 8 rfl rfl)
theorem dX9_end_11 : decode cX9_end 11 = .ok (.ifCond .ne 5, 3) := dk_154 0 5 (dk_at dksX9_end_0 11 rfl rfl)
theorem dX9_end_14 : decode cX9_end 14 = .ok (.iconst 0, 1) := dk_3 (dk_at dksX9_end_0 14 rfl rfl)
theorem dX9_end_15 : decode cX9_end 15 = .ok (.ireturn, 1) := dk_172 (dk_at dksX9_end_0 15 rfl rfl)
theorem dX9_end_16 : decode cX9_end 16 = .ok (.aload_n 0, 1) := dk_42 (dk_at dksX9_end_0 16 rfl rfl)
theorem dX9_end_17 : decode cX9_end 17 = .ok (.iload_n 1, 1) := dk_27 (dk_at dksX9_end_0 17 rfl rfl)
theorem dX9_end_18 : decode cX9_end 18 = .ok (.putfield 74, 3) := dk_181 0 74 (dk_at dksX9_end_0 18 rfl rfl)
theorem dX9_end_21 : decode cX9_end 21 = .ok (.iconst 1, 1) := dk_4 (dk_at dksX9_end_0 21 rfl rfl)
theorem dX9_end_22 : decode cX9_end 22 = .ok (.ireturn, 1) := dk_172 (dk_at dksX9_end_0 22 rfl rfl)
abbrev cX9_in : ByteArray := prog_28_method_1_code
def yX9_in : MethodName := ⟨RX9, "in", "(JJJ)Z"⟩
def dkwX9_in_0 : List UInt8 := [30, 32, 148, 155, 0, 14, 30, 22, 4, 148, 157, 0, 7, 4, 167, 0, 4, 3, 172]
abbrev dktX9_in_0 : List UInt8 := dkwX9_in_0 ++ []
theorem dksX9_in_0 : cX9_in.data.toList.drop 0 = dktX9_in_0 := by decide +kernel
theorem dX9_in_0 : decode cX9_in 0 = .ok (.lload_n 0, 1) := dk_30 (dk_at dksX9_in_0 0 rfl rfl)
theorem dX9_in_1 : decode cX9_in 1 = .ok (.lload_n 2, 1) := dk_32 (dk_at dksX9_in_0 1 rfl rfl)
theorem dX9_in_2 : decode cX9_in 2 = .ok (.lcmp, 1) := dk_148 (dk_at dksX9_in_0 2 rfl rfl)
theorem dX9_in_3 : decode cX9_in 3 = .ok (.ifCond .lt 14, 3) := dk_155 0 14 (dk_at dksX9_in_0 3 rfl rfl)
theorem dX9_in_6 : decode cX9_in 6 = .ok (.lload_n 0, 1) := dk_30 (dk_at dksX9_in_0 6 rfl rfl)
theorem dX9_in_7 : decode cX9_in 7 = .ok (.lload 4, 2) := dk_22 4 (dk_at dksX9_in_0 7 rfl rfl)
theorem dX9_in_9 : decode cX9_in 9 = .ok (.lcmp, 1) := dk_148 (dk_at dksX9_in_0 9 rfl rfl)
theorem dX9_in_10 : decode cX9_in 10 = .ok (.ifCond .gt 7, 3) := dk_157 0 7 (dk_at dksX9_in_0 10 rfl rfl)
theorem dX9_in_13 : decode cX9_in 13 = .ok (.iconst 1, 1) := dk_4 (dk_at dksX9_in_0 13 rfl rfl)
theorem dX9_in_14 : decode cX9_in 14 = .ok (.goto 4, 3) := dk_167 0 4 (dk_at dksX9_in_0 14 rfl rfl)
theorem dX9_in_17 : decode cX9_in 17 = .ok (.iconst 0, 1) := dk_3 (dk_at dksX9_in_0 17 rfl rfl)
theorem dX9_in_18 : decode cX9_in 18 = .ok (.ireturn, 1) := dk_172 (dk_at dksX9_in_0 18 rfl rfl)
abbrev cX9_fault : ByteArray := prog_28_method_22_code
def yX9_fault : MethodName := ⟨RX9, "fault", "(I)I"⟩
def dkwX9_fault_1 : List UInt8 := [16, 254, 172]
abbrev dktX9_fault_1 : List UInt8 := dkwX9_fault_1 ++ []
def dkwX9_fault_0 : List UInt8 := [27, 154, 0, 10, 42, 182, 0, 140, 167, 0, 18, 27, 4, 160, 0, 11, 42, 7, 182, 0, 143, 167, 0, 5]
abbrev dktX9_fault_0 : List UInt8 := dkwX9_fault_0 ++ dktX9_fault_1
theorem dksX9_fault_0 : cX9_fault.data.toList.drop 0 = dktX9_fault_0 := by decide +kernel
theorem dksX9_fault_1 : cX9_fault.data.toList.drop 24 = dktX9_fault_1 := dk_seg dksX9_fault_0 24 rfl rfl
theorem dX9_fault_0 : decode cX9_fault 0 = .ok (.iload_n 1, 1) := dk_27 (dk_at dksX9_fault_0 0 rfl rfl)
theorem dX9_fault_1 : decode cX9_fault 1 = .ok (.ifCond .ne 10, 3) := dk_154 0 10 (dk_at dksX9_fault_0 1 rfl rfl)
theorem dX9_fault_4 : decode cX9_fault 4 = .ok (.aload_n 0, 1) := dk_42 (dk_at dksX9_fault_0 4 rfl rfl)
theorem dX9_fault_5 : decode cX9_fault 5 = .ok (.invokevirtual 140, 3) := dk_182 0 140 (dk_at dksX9_fault_0 5 rfl rfl)
theorem dX9_fault_8 : decode cX9_fault 8 = .ok (.goto 18, 3) := dk_167 0 18 (dk_at dksX9_fault_0 8 rfl rfl)
theorem dX9_fault_11 : decode cX9_fault 11 = .ok (.iload_n 1, 1) := dk_27 (dk_at dksX9_fault_0 11 rfl rfl)
theorem dX9_fault_12 : decode cX9_fault 12 = .ok (.iconst 1, 1) := dk_4 (dk_at dksX9_fault_0 12 rfl rfl)
theorem dX9_fault_13 : decode cX9_fault 13 = .ok (.if_icmp .ne 11, 3) := dk_160 0 11 (dk_at dksX9_fault_0 13 rfl rfl)
theorem dX9_fault_16 : decode cX9_fault 16 = .ok (.aload_n 0, 1) := dk_42 (dk_at dksX9_fault_0 16 rfl rfl)
theorem dX9_fault_17 : decode cX9_fault 17 = .ok (.iconst 4, 1) := dk_7 (dk_at dksX9_fault_0 17 rfl rfl)
theorem dX9_fault_18 : decode cX9_fault 18 = .ok (.invokevirtual 143, 3) := dk_182 0 143 (dk_at dksX9_fault_0 18 rfl rfl)
theorem dX9_fault_21 : decode cX9_fault 21 = .ok (.goto 5, 3) := dk_167 0 5 (dk_at dksX9_fault_0 21 rfl rfl)
theorem dX9_fault_24 : decode cX9_fault 24 = .ok (.bipush (-2), 2) := dk_16 254 (dk_at dksX9_fault_1 0 rfl rfl)
theorem dX9_fault_26 : decode cX9_fault 26 = .ok (.ireturn, 1) := dk_172 (dk_at dksX9_fault_1 2 rfl rfl)
abbrev cX9_readBook : ByteArray := prog_28_method_19_code
def yX9_readBook : MethodName := ⟨RX9, "readBook", "()I"⟩
def dkwX9_readBook_12 : List UInt8 := [180, 0, 88, 172]
abbrev dktX9_readBook_12 : List UInt8 := dkwX9_readBook_12 ++ []
def dkwX9_readBook_11 : List UInt8 := [160, 0, 22, 42, 182, 0, 91, 2, 160, 0, 10, 42, 182, 0, 132, 154, 0, 7, 42, 182, 0, 98, 42]
abbrev dktX9_readBook_11 : List UInt8 := dkwX9_readBook_11 ++ dktX9_readBook_12
def dkwX9_readBook_10 : List UInt8 := [180, 0, 81, 28, 153, 0, 7, 4, 167, 0, 4, 3, 96, 181, 0, 81, 167, 255, 53, 42, 180, 0, 88, 2]
abbrev dktX9_readBook_10 : List UInt8 := dkwX9_readBook_10 ++ dktX9_readBook_11
def dkwX9_readBook_9 : List UInt8 := [180, 0, 88, 2, 160, 0, 16, 42, 182, 0, 91, 16, 59, 160, 0, 7, 4, 167, 0, 4, 3, 61, 42, 89]
abbrev dktX9_readBook_9 : List UInt8 := dkwX9_readBook_9 ++ dktX9_readBook_10
def dkwX9_readBook_8 : List UInt8 := [104, 7, 182, 0, 128, 42, 89, 180, 0, 125, 4, 96, 181, 0, 125, 167, 0, 7, 42, 182, 0, 98, 42]
abbrev dktX9_readBook_8 : List UInt8 := dkwX9_readBook_8 ++ dktX9_readBook_9
def dkwX9_readBook_7 : List UInt8 := [162, 0, 42, 42, 89, 180, 0, 81, 4, 96, 181, 0, 81, 42, 29, 42, 180, 0, 19, 7, 42, 180, 0, 125]
abbrev dktX9_readBook_7 : List UInt8 := dkwX9_readBook_7 ++ dktX9_readBook_8
def dkwX9_readBook_6 : List UInt8 := [180, 0, 122, 4, 96, 181, 0, 122, 167, 0, 61, 29, 16, 114, 160, 0, 51, 42, 180, 0, 125, 16, 20]
abbrev dktX9_readBook_6 : List UInt8 := dkwX9_readBook_6 ++ dktX9_readBook_7
def dkwX9_readBook_5 : List UInt8 := [180, 0, 81, 4, 96, 181, 0, 81, 42, 29, 42, 180, 0, 16, 42, 180, 0, 122, 4, 182, 0, 128, 42, 89]
abbrev dktX9_readBook_5 : List UInt8 := dkwX9_readBook_5 ++ dktX9_readBook_6
def dkwX9_readBook_4 : List UInt8 := [182, 0, 128, 167, 0, 112, 29, 16, 116, 160, 0, 48, 42, 180, 0, 122, 6, 162, 0, 40, 42, 89]
abbrev dktX9_readBook_4 : List UInt8 := dkwX9_readBook_4 ++ dktX9_readBook_5
def dkwX9_readBook_3 : List UInt8 := [27, 154, 0, 29, 4, 60, 42, 89, 180, 0, 81, 4, 96, 181, 0, 81, 42, 29, 42, 180, 0, 13, 3, 6]
abbrev dktX9_readBook_3 : List UInt8 := dkwX9_readBook_3 ++ dktX9_readBook_4
def dkwX9_readBook_2 : List UInt8 := [61, 28, 153, 0, 205, 42, 180, 0, 88, 2, 160, 0, 197, 42, 182, 0, 91, 62, 29, 16, 115, 160, 0, 33]
abbrev dktX9_readBook_2 : List UInt8 := dkwX9_readBook_2 ++ dktX9_readBook_3
def dkwX9_readBook_1 : List UInt8 := [28, 6, 162, 0, 21, 42, 180, 0, 13, 28, 16, 115, 28, 184, 0, 101, 79, 132, 2, 1, 167, 255, 236, 4]
abbrev dktX9_readBook_1 : List UInt8 := dkwX9_readBook_1 ++ dktX9_readBook_2
def dkwX9_readBook_0 : List UInt8 := [42, 3, 181, 0, 81, 42, 2, 181, 0, 88, 42, 3, 181, 0, 122, 42, 3, 181, 0, 125, 3, 60, 3, 61]
abbrev dktX9_readBook_0 : List UInt8 := dkwX9_readBook_0 ++ dktX9_readBook_1
theorem dksX9_readBook_0 : cX9_readBook.data.toList.drop 0 = dktX9_readBook_0 := by decide +kernel
theorem dksX9_readBook_1 : cX9_readBook.data.toList.drop 24 = dktX9_readBook_1 := dk_seg dksX9_readBook_0 24 rfl rfl
theorem dksX9_readBook_2 : cX9_readBook.data.toList.drop 48 = dktX9_readBook_2 := dk_seg dksX9_readBook_1 24 rfl rfl
theorem dksX9_readBook_3 : cX9_readBook.data.toList.drop 72 = dktX9_readBook_3 := dk_seg dksX9_readBook_2 24 rfl rfl
theorem dksX9_readBook_4 : cX9_readBook.data.toList.drop 96 = dktX9_readBook_4 := dk_seg dksX9_readBook_3 24 rfl rfl
theorem dksX9_readBook_5 : cX9_readBook.data.toList.drop 118 = dktX9_readBook_5 := dk_seg dksX9_readBook_4 22 rfl rfl
theorem dksX9_readBook_6 : cX9_readBook.data.toList.drop 142 = dktX9_readBook_6 := dk_seg dksX9_readBook_5 24 rfl rfl
theorem dksX9_readBook_7 : cX9_readBook.data.toList.drop 165 = dktX9_readBook_7 := dk_seg dksX9_readBook_6 23 rfl rfl
theorem dksX9_readBook_8 : cX9_readBook.data.toList.drop 189 = dktX9_readBook_8 := dk_seg dksX9_readBook_7 24 rfl rfl
theorem dksX9_readBook_9 : cX9_readBook.data.toList.drop 212 = dktX9_readBook_9 := dk_seg dksX9_readBook_8 23 rfl rfl
theorem dksX9_readBook_10 : cX9_readBook.data.toList.drop 236 = dktX9_readBook_10 := dk_seg dksX9_readBook_9 24 rfl rfl
theorem dksX9_readBook_11 : cX9_readBook.data.toList.drop 260 = dktX9_readBook_11 := dk_seg dksX9_readBook_10 24 rfl rfl
theorem dksX9_readBook_12 : cX9_readBook.data.toList.drop 283 = dktX9_readBook_12 := dk_seg dksX9_readBook_11 23 rfl rfl
theorem dX9_readBook_0 : decode cX9_readBook 0 = .ok (.aload_n 0, 1) := dk_42 (dk_at dksX9_readBook_0 0 rfl rfl)
theorem dX9_readBook_1 : decode cX9_readBook 1 = .ok (.iconst 0, 1) := dk_3 (dk_at dksX9_readBook_0 1 rfl rfl)
theorem dX9_readBook_2 : decode cX9_readBook 2 = .ok (.putfield 81, 3) := dk_181 0 81 (dk_at dksX9_readBook_0 2 rfl rfl)
theorem dX9_readBook_5 : decode cX9_readBook 5 = .ok (.aload_n 0, 1) := dk_42 (dk_at dksX9_readBook_0 5 rfl rfl)
theorem dX9_readBook_6 : decode cX9_readBook 6 = .ok (.iconst (-1), 1) := dk_2 (dk_at dksX9_readBook_0 6 rfl rfl)
theorem dX9_readBook_7 : decode cX9_readBook 7 = .ok (.putfield 88, 3) := dk_181 0 88 (dk_at dksX9_readBook_0 7 rfl rfl)
theorem dX9_readBook_10 : decode cX9_readBook 10 = .ok (.aload_n 0, 1) := dk_42 (dk_at dksX9_readBook_0 10 rfl rfl)
theorem dX9_readBook_11 : decode cX9_readBook 11 = .ok (.iconst 0, 1) := dk_3 (dk_at dksX9_readBook_0 11 rfl rfl)
theorem dX9_readBook_12 : decode cX9_readBook 12 = .ok (.putfield 122, 3) := dk_181 0 122 (dk_at dksX9_readBook_0 12 rfl rfl)
theorem dX9_readBook_15 : decode cX9_readBook 15 = .ok (.aload_n 0, 1) := dk_42 (dk_at dksX9_readBook_0 15 rfl rfl)
theorem dX9_readBook_16 : decode cX9_readBook 16 = .ok (.iconst 0, 1) := dk_3 (dk_at dksX9_readBook_0 16 rfl rfl)
theorem dX9_readBook_17 : decode cX9_readBook 17 = .ok (.putfield 125, 3) := dk_181 0 125 (dk_at dksX9_readBook_0 17 rfl rfl)
theorem dX9_readBook_20 : decode cX9_readBook 20 = .ok (.iconst 0, 1) := dk_3 (dk_at dksX9_readBook_0 20 rfl rfl)
theorem dX9_readBook_21 : decode cX9_readBook 21 = .ok (.istore_n 1, 1) := dk_60 (dk_at dksX9_readBook_0 21 rfl rfl)
theorem dX9_readBook_22 : decode cX9_readBook 22 = .ok (.iconst 0, 1) := dk_3 (dk_at dksX9_readBook_0 22 rfl rfl)
theorem dX9_readBook_23 : decode cX9_readBook 23 = .ok (.istore_n 2, 1) := dk_61 (dk_at dksX9_readBook_0 23 rfl rfl)
theorem dX9_readBook_24 : decode cX9_readBook 24 = .ok (.iload_n 2, 1) := dk_28 (dk_at dksX9_readBook_1 0 rfl rfl)
theorem dX9_readBook_25 : decode cX9_readBook 25 = .ok (.iconst 3, 1) := dk_6 (dk_at dksX9_readBook_1 1 rfl rfl)
theorem dX9_readBook_26 : decode cX9_readBook 26 = .ok (.if_icmp .ge 21, 3) := dk_162 0 21 (dk_at dksX9_readBook_1 2 rfl rfl)
theorem dX9_readBook_29 : decode cX9_readBook 29 = .ok (.aload_n 0, 1) := dk_42 (dk_at dksX9_readBook_1 5 rfl rfl)
theorem dX9_readBook_30 : decode cX9_readBook 30 = .ok (.getfield 13, 3) := dk_180 0 13 (dk_at dksX9_readBook_1 6 rfl rfl)
theorem dX9_readBook_33 : decode cX9_readBook 33 = .ok (.iload_n 2, 1) := dk_28 (dk_at dksX9_readBook_1 9 rfl rfl)
theorem dX9_readBook_34 : decode cX9_readBook 34 = .ok (.bipush 115, 2) := dk_16 115 (dk_at dksX9_readBook_1 10 rfl rfl)
theorem dX9_readBook_36 : decode cX9_readBook 36 = .ok (.iload_n 2, 1) := dk_28 (dk_at dksX9_readBook_1 12 rfl rfl)
theorem dX9_readBook_37 : decode cX9_readBook 37 = .ok (.invokestatic 101, 3) := dk_184 0 101 (dk_at dksX9_readBook_1 13 rfl rfl)
theorem dX9_readBook_40 : decode cX9_readBook 40 = .ok (.iastore, 1) := dk_79 (dk_at dksX9_readBook_1 16 rfl rfl)
theorem dX9_readBook_41 : decode cX9_readBook 41 = .ok (.iinc 2 1, 3) := dk_132 2 1 (dk_at dksX9_readBook_1 17 rfl rfl)
theorem dX9_readBook_44 : decode cX9_readBook 44 = .ok (.goto (-20), 3) := dk_167 255 236 (dk_at dksX9_readBook_1 20 rfl rfl)
theorem dX9_readBook_47 : decode cX9_readBook 47 = .ok (.iconst 1, 1) := dk_4 (dk_at dksX9_readBook_1 23 rfl rfl)
theorem dX9_readBook_48 : decode cX9_readBook 48 = .ok (.istore_n 2, 1) := dk_61 (dk_at dksX9_readBook_2 0 rfl rfl)
theorem dX9_readBook_49 : decode cX9_readBook 49 = .ok (.iload_n 2, 1) := dk_28 (dk_at dksX9_readBook_2 1 rfl rfl)
theorem dX9_readBook_50 : decode cX9_readBook 50 = .ok (.ifCond .eq 205, 3) := dk_153 0 205 (dk_at dksX9_readBook_2 2 rfl rfl)
theorem dX9_readBook_53 : decode cX9_readBook 53 = .ok (.aload_n 0, 1) := dk_42 (dk_at dksX9_readBook_2 5 rfl rfl)
theorem dX9_readBook_54 : decode cX9_readBook 54 = .ok (.getfield 88, 3) := dk_180 0 88 (dk_at dksX9_readBook_2 6 rfl rfl)
theorem dX9_readBook_57 : decode cX9_readBook 57 = .ok (.iconst (-1), 1) := dk_2 (dk_at dksX9_readBook_2 9 rfl rfl)
theorem dX9_readBook_58 : decode cX9_readBook 58 = .ok (.if_icmp .ne 197, 3) := dk_160 0 197 (dk_at dksX9_readBook_2 10 rfl rfl)
theorem dX9_readBook_61 : decode cX9_readBook 61 = .ok (.aload_n 0, 1) := dk_42 (dk_at dksX9_readBook_2 13 rfl rfl)
theorem dX9_readBook_62 : decode cX9_readBook 62 = .ok (.invokevirtual 91, 3) := dk_182 0 91 (dk_at dksX9_readBook_2 14 rfl rfl)
theorem dX9_readBook_65 : decode cX9_readBook 65 = .ok (.istore_n 3, 1) := dk_62 (dk_at dksX9_readBook_2 17 rfl rfl)
theorem dX9_readBook_66 : decode cX9_readBook 66 = .ok (.iload_n 3, 1) := dk_29 (dk_at dksX9_readBook_2 18 rfl rfl)
theorem dX9_readBook_67 : decode cX9_readBook 67 = .ok (.bipush 115, 2) := dk_16 115 (dk_at dksX9_readBook_2 19 rfl rfl)
theorem dX9_readBook_69 : decode cX9_readBook 69 = .ok (.if_icmp .ne 33, 3) := dk_160 0 33 (dk_at dksX9_readBook_2 21 rfl rfl)
theorem dX9_readBook_72 : decode cX9_readBook 72 = .ok (.iload_n 1, 1) := dk_27 (dk_at dksX9_readBook_3 0 rfl rfl)
theorem dX9_readBook_73 : decode cX9_readBook 73 = .ok (.ifCond .ne 29, 3) := dk_154 0 29 (dk_at dksX9_readBook_3 1 rfl rfl)
theorem dX9_readBook_76 : decode cX9_readBook 76 = .ok (.iconst 1, 1) := dk_4 (dk_at dksX9_readBook_3 4 rfl rfl)
theorem dX9_readBook_77 : decode cX9_readBook 77 = .ok (.istore_n 1, 1) := dk_60 (dk_at dksX9_readBook_3 5 rfl rfl)
theorem dX9_readBook_78 : decode cX9_readBook 78 = .ok (.aload_n 0, 1) := dk_42 (dk_at dksX9_readBook_3 6 rfl rfl)
theorem dX9_readBook_79 : decode cX9_readBook 79 = .ok (.dup, 1) := dk_89 (dk_at dksX9_readBook_3 7 rfl rfl)
theorem dX9_readBook_80 : decode cX9_readBook 80 = .ok (.getfield 81, 3) := dk_180 0 81 (dk_at dksX9_readBook_3 8 rfl rfl)
theorem dX9_readBook_83 : decode cX9_readBook 83 = .ok (.iconst 1, 1) := dk_4 (dk_at dksX9_readBook_3 11 rfl rfl)
theorem dX9_readBook_84 : decode cX9_readBook 84 = .ok (.iadd, 1) := dk_96 (dk_at dksX9_readBook_3 12 rfl rfl)
theorem dX9_readBook_85 : decode cX9_readBook 85 = .ok (.putfield 81, 3) := dk_181 0 81 (dk_at dksX9_readBook_3 13 rfl rfl)
theorem dX9_readBook_88 : decode cX9_readBook 88 = .ok (.aload_n 0, 1) := dk_42 (dk_at dksX9_readBook_3 16 rfl rfl)
theorem dX9_readBook_89 : decode cX9_readBook 89 = .ok (.iload_n 3, 1) := dk_29 (dk_at dksX9_readBook_3 17 rfl rfl)
theorem dX9_readBook_90 : decode cX9_readBook 90 = .ok (.aload_n 0, 1) := dk_42 (dk_at dksX9_readBook_3 18 rfl rfl)
theorem dX9_readBook_91 : decode cX9_readBook 91 = .ok (.getfield 13, 3) := dk_180 0 13 (dk_at dksX9_readBook_3 19 rfl rfl)
theorem dX9_readBook_94 : decode cX9_readBook 94 = .ok (.iconst 0, 1) := dk_3 (dk_at dksX9_readBook_3 22 rfl rfl)
theorem dX9_readBook_95 : decode cX9_readBook 95 = .ok (.iconst 3, 1) := dk_6 (dk_at dksX9_readBook_3 23 rfl rfl)
theorem dX9_readBook_96 : decode cX9_readBook 96 = .ok (.invokevirtual 128, 3) := dk_182 0 128 (dk_at dksX9_readBook_4 0 rfl rfl)
theorem dX9_readBook_99 : decode cX9_readBook 99 = .ok (.goto 112, 3) := dk_167 0 112 (dk_at dksX9_readBook_4 3 rfl rfl)
theorem dX9_readBook_102 : decode cX9_readBook 102 = .ok (.iload_n 3, 1) := dk_29 (dk_at dksX9_readBook_4 6 rfl rfl)
theorem dX9_readBook_103 : decode cX9_readBook 103 = .ok (.bipush 116, 2) := dk_16 116 (dk_at dksX9_readBook_4 7 rfl rfl)
theorem dX9_readBook_105 : decode cX9_readBook 105 = .ok (.if_icmp .ne 48, 3) := dk_160 0 48 (dk_at dksX9_readBook_4 9 rfl rfl)
theorem dX9_readBook_108 : decode cX9_readBook 108 = .ok (.aload_n 0, 1) := dk_42 (dk_at dksX9_readBook_4 12 rfl rfl)
theorem dX9_readBook_109 : decode cX9_readBook 109 = .ok (.getfield 122, 3) := dk_180 0 122 (dk_at dksX9_readBook_4 13 rfl rfl)
theorem dX9_readBook_112 : decode cX9_readBook 112 = .ok (.iconst 3, 1) := dk_6 (dk_at dksX9_readBook_4 16 rfl rfl)
theorem dX9_readBook_113 : decode cX9_readBook 113 = .ok (.if_icmp .ge 40, 3) := dk_162 0 40 (dk_at dksX9_readBook_4 17 rfl rfl)
theorem dX9_readBook_116 : decode cX9_readBook 116 = .ok (.aload_n 0, 1) := dk_42 (dk_at dksX9_readBook_4 20 rfl rfl)
theorem dX9_readBook_117 : decode cX9_readBook 117 = .ok (.dup, 1) := dk_89 (dk_at dksX9_readBook_4 21 rfl rfl)
theorem dX9_readBook_118 : decode cX9_readBook 118 = .ok (.getfield 81, 3) := dk_180 0 81 (dk_at dksX9_readBook_5 0 rfl rfl)
theorem dX9_readBook_121 : decode cX9_readBook 121 = .ok (.iconst 1, 1) := dk_4 (dk_at dksX9_readBook_5 3 rfl rfl)
theorem dX9_readBook_122 : decode cX9_readBook 122 = .ok (.iadd, 1) := dk_96 (dk_at dksX9_readBook_5 4 rfl rfl)
theorem dX9_readBook_123 : decode cX9_readBook 123 = .ok (.putfield 81, 3) := dk_181 0 81 (dk_at dksX9_readBook_5 5 rfl rfl)
theorem dX9_readBook_126 : decode cX9_readBook 126 = .ok (.aload_n 0, 1) := dk_42 (dk_at dksX9_readBook_5 8 rfl rfl)
theorem dX9_readBook_127 : decode cX9_readBook 127 = .ok (.iload_n 3, 1) := dk_29 (dk_at dksX9_readBook_5 9 rfl rfl)
theorem dX9_readBook_128 : decode cX9_readBook 128 = .ok (.aload_n 0, 1) := dk_42 (dk_at dksX9_readBook_5 10 rfl rfl)
theorem dX9_readBook_129 : decode cX9_readBook 129 = .ok (.getfield 16, 3) := dk_180 0 16 (dk_at dksX9_readBook_5 11 rfl rfl)
theorem dX9_readBook_132 : decode cX9_readBook 132 = .ok (.aload_n 0, 1) := dk_42 (dk_at dksX9_readBook_5 14 rfl rfl)
theorem dX9_readBook_133 : decode cX9_readBook 133 = .ok (.getfield 122, 3) := dk_180 0 122 (dk_at dksX9_readBook_5 15 rfl rfl)
theorem dX9_readBook_136 : decode cX9_readBook 136 = .ok (.iconst 1, 1) := dk_4 (dk_at dksX9_readBook_5 18 rfl rfl)
theorem dX9_readBook_137 : decode cX9_readBook 137 = .ok (.invokevirtual 128, 3) := dk_182 0 128 (dk_at dksX9_readBook_5 19 rfl rfl)
theorem dX9_readBook_140 : decode cX9_readBook 140 = .ok (.aload_n 0, 1) := dk_42 (dk_at dksX9_readBook_5 22 rfl rfl)
theorem dX9_readBook_141 : decode cX9_readBook 141 = .ok (.dup, 1) := dk_89 (dk_at dksX9_readBook_5 23 rfl rfl)
theorem dX9_readBook_142 : decode cX9_readBook 142 = .ok (.getfield 122, 3) := dk_180 0 122 (dk_at dksX9_readBook_6 0 rfl rfl)
theorem dX9_readBook_145 : decode cX9_readBook 145 = .ok (.iconst 1, 1) := dk_4 (dk_at dksX9_readBook_6 3 rfl rfl)
theorem dX9_readBook_146 : decode cX9_readBook 146 = .ok (.iadd, 1) := dk_96 (dk_at dksX9_readBook_6 4 rfl rfl)
theorem dX9_readBook_147 : decode cX9_readBook 147 = .ok (.putfield 122, 3) := dk_181 0 122 (dk_at dksX9_readBook_6 5 rfl rfl)
theorem dX9_readBook_150 : decode cX9_readBook 150 = .ok (.goto 61, 3) := dk_167 0 61 (dk_at dksX9_readBook_6 8 rfl rfl)
theorem dX9_readBook_153 : decode cX9_readBook 153 = .ok (.iload_n 3, 1) := dk_29 (dk_at dksX9_readBook_6 11 rfl rfl)
theorem dX9_readBook_154 : decode cX9_readBook 154 = .ok (.bipush 114, 2) := dk_16 114 (dk_at dksX9_readBook_6 12 rfl rfl)
theorem dX9_readBook_156 : decode cX9_readBook 156 = .ok (.if_icmp .ne 51, 3) := dk_160 0 51 (dk_at dksX9_readBook_6 14 rfl rfl)
theorem dX9_readBook_159 : decode cX9_readBook 159 = .ok (.aload_n 0, 1) := dk_42 (dk_at dksX9_readBook_6 17 rfl rfl)
theorem dX9_readBook_160 : decode cX9_readBook 160 = .ok (.getfield 125, 3) := dk_180 0 125 (dk_at dksX9_readBook_6 18 rfl rfl)
theorem dX9_readBook_163 : decode cX9_readBook 163 = .ok (.bipush 20, 2) := dk_16 20 (dk_at dksX9_readBook_6 21 rfl rfl)
theorem dX9_readBook_165 : decode cX9_readBook 165 = .ok (.if_icmp .ge 42, 3) := dk_162 0 42 (dk_at dksX9_readBook_7 0 rfl rfl)
theorem dX9_readBook_168 : decode cX9_readBook 168 = .ok (.aload_n 0, 1) := dk_42 (dk_at dksX9_readBook_7 3 rfl rfl)
theorem dX9_readBook_169 : decode cX9_readBook 169 = .ok (.dup, 1) := dk_89 (dk_at dksX9_readBook_7 4 rfl rfl)
theorem dX9_readBook_170 : decode cX9_readBook 170 = .ok (.getfield 81, 3) := dk_180 0 81 (dk_at dksX9_readBook_7 5 rfl rfl)
theorem dX9_readBook_173 : decode cX9_readBook 173 = .ok (.iconst 1, 1) := dk_4 (dk_at dksX9_readBook_7 8 rfl rfl)
theorem dX9_readBook_174 : decode cX9_readBook 174 = .ok (.iadd, 1) := dk_96 (dk_at dksX9_readBook_7 9 rfl rfl)
theorem dX9_readBook_175 : decode cX9_readBook 175 = .ok (.putfield 81, 3) := dk_181 0 81 (dk_at dksX9_readBook_7 10 rfl rfl)
theorem dX9_readBook_178 : decode cX9_readBook 178 = .ok (.aload_n 0, 1) := dk_42 (dk_at dksX9_readBook_7 13 rfl rfl)
theorem dX9_readBook_179 : decode cX9_readBook 179 = .ok (.iload_n 3, 1) := dk_29 (dk_at dksX9_readBook_7 14 rfl rfl)
theorem dX9_readBook_180 : decode cX9_readBook 180 = .ok (.aload_n 0, 1) := dk_42 (dk_at dksX9_readBook_7 15 rfl rfl)
theorem dX9_readBook_181 : decode cX9_readBook 181 = .ok (.getfield 19, 3) := dk_180 0 19 (dk_at dksX9_readBook_7 16 rfl rfl)
theorem dX9_readBook_184 : decode cX9_readBook 184 = .ok (.iconst 4, 1) := dk_7 (dk_at dksX9_readBook_7 19 rfl rfl)
theorem dX9_readBook_185 : decode cX9_readBook 185 = .ok (.aload_n 0, 1) := dk_42 (dk_at dksX9_readBook_7 20 rfl rfl)
theorem dX9_readBook_186 : decode cX9_readBook 186 = .ok (.getfield 125, 3) := dk_180 0 125 (dk_at dksX9_readBook_7 21 rfl rfl)
theorem dX9_readBook_189 : decode cX9_readBook 189 = .ok (.imul, 1) := dk_104 (dk_at dksX9_readBook_8 0 rfl rfl)
theorem dX9_readBook_190 : decode cX9_readBook 190 = .ok (.iconst 4, 1) := dk_7 (dk_at dksX9_readBook_8 1 rfl rfl)
theorem dX9_readBook_191 : decode cX9_readBook 191 = .ok (.invokevirtual 128, 3) := dk_182 0 128 (dk_at dksX9_readBook_8 2 rfl rfl)
theorem dX9_readBook_194 : decode cX9_readBook 194 = .ok (.aload_n 0, 1) := dk_42 (dk_at dksX9_readBook_8 5 rfl rfl)
theorem dX9_readBook_195 : decode cX9_readBook 195 = .ok (.dup, 1) := dk_89 (dk_at dksX9_readBook_8 6 rfl rfl)
theorem dX9_readBook_196 : decode cX9_readBook 196 = .ok (.getfield 125, 3) := dk_180 0 125 (dk_at dksX9_readBook_8 7 rfl rfl)
theorem dX9_readBook_199 : decode cX9_readBook 199 = .ok (.iconst 1, 1) := dk_4 (dk_at dksX9_readBook_8 10 rfl rfl)
theorem dX9_readBook_200 : decode cX9_readBook 200 = .ok (.iadd, 1) := dk_96 (dk_at dksX9_readBook_8 11 rfl rfl)
theorem dX9_readBook_201 : decode cX9_readBook 201 = .ok (.putfield 125, 3) := dk_181 0 125 (dk_at dksX9_readBook_8 12 rfl rfl)
theorem dX9_readBook_204 : decode cX9_readBook 204 = .ok (.goto 7, 3) := dk_167 0 7 (dk_at dksX9_readBook_8 15 rfl rfl)
theorem dX9_readBook_207 : decode cX9_readBook 207 = .ok (.aload_n 0, 1) := dk_42 (dk_at dksX9_readBook_8 18 rfl rfl)
theorem dX9_readBook_208 : decode cX9_readBook 208 = .ok (.invokevirtual 98, 3) := dk_182 0 98 (dk_at dksX9_readBook_8 19 rfl rfl)
theorem dX9_readBook_211 : decode cX9_readBook 211 = .ok (.aload_n 0, 1) := dk_42 (dk_at dksX9_readBook_8 22 rfl rfl)
theorem dX9_readBook_212 : decode cX9_readBook 212 = .ok (.getfield 88, 3) := dk_180 0 88 (dk_at dksX9_readBook_9 0 rfl rfl)
theorem dX9_readBook_215 : decode cX9_readBook 215 = .ok (.iconst (-1), 1) := dk_2 (dk_at dksX9_readBook_9 3 rfl rfl)
theorem dX9_readBook_216 : decode cX9_readBook 216 = .ok (.if_icmp .ne 16, 3) := dk_160 0 16 (dk_at dksX9_readBook_9 4 rfl rfl)
theorem dX9_readBook_219 : decode cX9_readBook 219 = .ok (.aload_n 0, 1) := dk_42 (dk_at dksX9_readBook_9 7 rfl rfl)
theorem dX9_readBook_220 : decode cX9_readBook 220 = .ok (.invokevirtual 91, 3) := dk_182 0 91 (dk_at dksX9_readBook_9 8 rfl rfl)
theorem dX9_readBook_223 : decode cX9_readBook 223 = .ok (.bipush 59, 2) := dk_16 59 (dk_at dksX9_readBook_9 11 rfl rfl)
theorem dX9_readBook_225 : decode cX9_readBook 225 = .ok (.if_icmp .ne 7, 3) := dk_160 0 7 (dk_at dksX9_readBook_9 13 rfl rfl)
theorem dX9_readBook_228 : decode cX9_readBook 228 = .ok (.iconst 1, 1) := dk_4 (dk_at dksX9_readBook_9 16 rfl rfl)
theorem dX9_readBook_229 : decode cX9_readBook 229 = .ok (.goto 4, 3) := dk_167 0 4 (dk_at dksX9_readBook_9 17 rfl rfl)
theorem dX9_readBook_232 : decode cX9_readBook 232 = .ok (.iconst 0, 1) := dk_3 (dk_at dksX9_readBook_9 20 rfl rfl)
theorem dX9_readBook_233 : decode cX9_readBook 233 = .ok (.istore_n 2, 1) := dk_61 (dk_at dksX9_readBook_9 21 rfl rfl)
theorem dX9_readBook_234 : decode cX9_readBook 234 = .ok (.aload_n 0, 1) := dk_42 (dk_at dksX9_readBook_9 22 rfl rfl)
theorem dX9_readBook_235 : decode cX9_readBook 235 = .ok (.dup, 1) := dk_89 (dk_at dksX9_readBook_9 23 rfl rfl)
theorem dX9_readBook_236 : decode cX9_readBook 236 = .ok (.getfield 81, 3) := dk_180 0 81 (dk_at dksX9_readBook_10 0 rfl rfl)
theorem dX9_readBook_239 : decode cX9_readBook 239 = .ok (.iload_n 2, 1) := dk_28 (dk_at dksX9_readBook_10 3 rfl rfl)
theorem dX9_readBook_240 : decode cX9_readBook 240 = .ok (.ifCond .eq 7, 3) := dk_153 0 7 (dk_at dksX9_readBook_10 4 rfl rfl)
theorem dX9_readBook_243 : decode cX9_readBook 243 = .ok (.iconst 1, 1) := dk_4 (dk_at dksX9_readBook_10 7 rfl rfl)
theorem dX9_readBook_244 : decode cX9_readBook 244 = .ok (.goto 4, 3) := dk_167 0 4 (dk_at dksX9_readBook_10 8 rfl rfl)
theorem dX9_readBook_247 : decode cX9_readBook 247 = .ok (.iconst 0, 1) := dk_3 (dk_at dksX9_readBook_10 11 rfl rfl)
theorem dX9_readBook_248 : decode cX9_readBook 248 = .ok (.iadd, 1) := dk_96 (dk_at dksX9_readBook_10 12 rfl rfl)
theorem dX9_readBook_249 : decode cX9_readBook 249 = .ok (.putfield 81, 3) := dk_181 0 81 (dk_at dksX9_readBook_10 13 rfl rfl)
theorem dX9_readBook_252 : decode cX9_readBook 252 = .ok (.goto (-203), 3) := dk_167 255 53 (dk_at dksX9_readBook_10 16 rfl rfl)
theorem dX9_readBook_255 : decode cX9_readBook 255 = .ok (.aload_n 0, 1) := dk_42 (dk_at dksX9_readBook_10 19 rfl rfl)
theorem dX9_readBook_256 : decode cX9_readBook 256 = .ok (.getfield 88, 3) := dk_180 0 88 (dk_at dksX9_readBook_10 20 rfl rfl)
theorem dX9_readBook_259 : decode cX9_readBook 259 = .ok (.iconst (-1), 1) := dk_2 (dk_at dksX9_readBook_10 23 rfl rfl)
theorem dX9_readBook_260 : decode cX9_readBook 260 = .ok (.if_icmp .ne 22, 3) := dk_160 0 22 (dk_at dksX9_readBook_11 0 rfl rfl)
theorem dX9_readBook_263 : decode cX9_readBook 263 = .ok (.aload_n 0, 1) := dk_42 (dk_at dksX9_readBook_11 3 rfl rfl)
theorem dX9_readBook_264 : decode cX9_readBook 264 = .ok (.invokevirtual 91, 3) := dk_182 0 91 (dk_at dksX9_readBook_11 4 rfl rfl)
theorem dX9_readBook_267 : decode cX9_readBook 267 = .ok (.iconst (-1), 1) := dk_2 (dk_at dksX9_readBook_11 7 rfl rfl)
theorem dX9_readBook_268 : decode cX9_readBook 268 = .ok (.if_icmp .ne 10, 3) := dk_160 0 10 (dk_at dksX9_readBook_11 8 rfl rfl)
theorem dX9_readBook_271 : decode cX9_readBook 271 = .ok (.aload_n 0, 1) := dk_42 (dk_at dksX9_readBook_11 11 rfl rfl)
theorem dX9_readBook_272 : decode cX9_readBook 272 = .ok (.invokevirtual 132, 3) := dk_182 0 132 (dk_at dksX9_readBook_11 12 rfl rfl)
theorem dX9_readBook_275 : decode cX9_readBook 275 = .ok (.ifCond .ne 7, 3) := dk_154 0 7 (dk_at dksX9_readBook_11 15 rfl rfl)
theorem dX9_readBook_278 : decode cX9_readBook 278 = .ok (.aload_n 0, 1) := dk_42 (dk_at dksX9_readBook_11 18 rfl rfl)
theorem dX9_readBook_279 : decode cX9_readBook 279 = .ok (.invokevirtual 98, 3) := dk_182 0 98 (dk_at dksX9_readBook_11 19 rfl rfl)
theorem dX9_readBook_282 : decode cX9_readBook 282 = .ok (.aload_n 0, 1) := dk_42 (dk_at dksX9_readBook_11 22 rfl rfl)
theorem dX9_readBook_283 : decode cX9_readBook 283 = .ok (.getfield 88, 3) := dk_180 0 88 (dk_at dksX9_readBook_12 0 rfl rfl)
theorem dX9_readBook_286 : decode cX9_readBook 286 = .ok (.ireturn, 1) := dk_172 (dk_at dksX9_readBook_12 3 rfl rfl)
abbrev cX9_usual : ByteArray := prog_28_method_16_code
def yX9_usual : MethodName := ⟨RX9, "usual", "(II)I"⟩
def dkwX9_usual_2 : List UInt8 := [160, 0, 7, 4, 167, 0, 4, 2, 172]
abbrev dktX9_usual_2 : List UInt8 := dkwX9_usual_2 ++ []
def dkwX9_usual_1 : List UInt8 := [4, 160, 0, 8, 16, 20, 167, 0, 6, 17, 3, 231, 172, 27, 154, 0, 7, 3, 167, 0, 13, 27, 6]
abbrev dktX9_usual_1 : List UInt8 := dkwX9_usual_1 ++ dktX9_usual_2
def dkwX9_usual_0 : List UInt8 := [26, 16, 116, 160, 0, 6, 16, 8, 172, 26, 16, 115, 160, 0, 25, 27, 154, 0, 7, 6, 167, 0, 16, 27]
abbrev dktX9_usual_0 : List UInt8 := dkwX9_usual_0 ++ dktX9_usual_1
theorem dksX9_usual_0 : cX9_usual.data.toList.drop 0 = dktX9_usual_0 := by decide +kernel
theorem dksX9_usual_1 : cX9_usual.data.toList.drop 24 = dktX9_usual_1 := dk_seg dksX9_usual_0 24 rfl rfl
theorem dksX9_usual_2 : cX9_usual.data.toList.drop 47 = dktX9_usual_2 := dk_seg dksX9_usual_1 23 rfl rfl
theorem dX9_usual_0 : decode cX9_usual 0 = .ok (.iload_n 0, 1) := dk_26 (dk_at dksX9_usual_0 0 rfl rfl)
theorem dX9_usual_1 : decode cX9_usual 1 = .ok (.bipush 116, 2) := dk_16 116 (dk_at dksX9_usual_0 1 rfl rfl)
theorem dX9_usual_3 : decode cX9_usual 3 = .ok (.if_icmp .ne 6, 3) := dk_160 0 6 (dk_at dksX9_usual_0 3 rfl rfl)
theorem dX9_usual_6 : decode cX9_usual 6 = .ok (.bipush 8, 2) := dk_16 8 (dk_at dksX9_usual_0 6 rfl rfl)
theorem dX9_usual_8 : decode cX9_usual 8 = .ok (.ireturn, 1) := dk_172 (dk_at dksX9_usual_0 8 rfl rfl)
theorem dX9_usual_9 : decode cX9_usual 9 = .ok (.iload_n 0, 1) := dk_26 (dk_at dksX9_usual_0 9 rfl rfl)
theorem dX9_usual_10 : decode cX9_usual 10 = .ok (.bipush 115, 2) := dk_16 115 (dk_at dksX9_usual_0 10 rfl rfl)
theorem dX9_usual_12 : decode cX9_usual 12 = .ok (.if_icmp .ne 25, 3) := dk_160 0 25 (dk_at dksX9_usual_0 12 rfl rfl)
theorem dX9_usual_15 : decode cX9_usual 15 = .ok (.iload_n 1, 1) := dk_27 (dk_at dksX9_usual_0 15 rfl rfl)
theorem dX9_usual_16 : decode cX9_usual 16 = .ok (.ifCond .ne 7, 3) := dk_154 0 7 (dk_at dksX9_usual_0 16 rfl rfl)
theorem dX9_usual_19 : decode cX9_usual 19 = .ok (.iconst 3, 1) := dk_6 (dk_at dksX9_usual_0 19 rfl rfl)
theorem dX9_usual_20 : decode cX9_usual 20 = .ok (.goto 16, 3) := dk_167 0 16 (dk_at dksX9_usual_0 20 rfl rfl)
theorem dX9_usual_23 : decode cX9_usual 23 = .ok (.iload_n 1, 1) := dk_27 (dk_at dksX9_usual_0 23 rfl rfl)
theorem dX9_usual_24 : decode cX9_usual 24 = .ok (.iconst 1, 1) := dk_4 (dk_at dksX9_usual_1 0 rfl rfl)
theorem dX9_usual_25 : decode cX9_usual 25 = .ok (.if_icmp .ne 8, 3) := dk_160 0 8 (dk_at dksX9_usual_1 1 rfl rfl)
theorem dX9_usual_28 : decode cX9_usual 28 = .ok (.bipush 20, 2) := dk_16 20 (dk_at dksX9_usual_1 4 rfl rfl)
theorem dX9_usual_30 : decode cX9_usual 30 = .ok (.goto 6, 3) := dk_167 0 6 (dk_at dksX9_usual_1 6 rfl rfl)
theorem dX9_usual_33 : decode cX9_usual 33 = .ok (.sipush 999, 3) := dk_17 3 231 (dk_at dksX9_usual_1 9 rfl rfl)
theorem dX9_usual_36 : decode cX9_usual 36 = .ok (.ireturn, 1) := dk_172 (dk_at dksX9_usual_1 12 rfl rfl)
theorem dX9_usual_37 : decode cX9_usual 37 = .ok (.iload_n 1, 1) := dk_27 (dk_at dksX9_usual_1 13 rfl rfl)
theorem dX9_usual_38 : decode cX9_usual 38 = .ok (.ifCond .ne 7, 3) := dk_154 0 7 (dk_at dksX9_usual_1 14 rfl rfl)
theorem dX9_usual_41 : decode cX9_usual 41 = .ok (.iconst 0, 1) := dk_3 (dk_at dksX9_usual_1 17 rfl rfl)
theorem dX9_usual_42 : decode cX9_usual 42 = .ok (.goto 13, 3) := dk_167 0 13 (dk_at dksX9_usual_1 18 rfl rfl)
theorem dX9_usual_45 : decode cX9_usual 45 = .ok (.iload_n 1, 1) := dk_27 (dk_at dksX9_usual_1 21 rfl rfl)
theorem dX9_usual_46 : decode cX9_usual 46 = .ok (.iconst 3, 1) := dk_6 (dk_at dksX9_usual_1 22 rfl rfl)
theorem dX9_usual_47 : decode cX9_usual 47 = .ok (.if_icmp .ne 7, 3) := dk_160 0 7 (dk_at dksX9_usual_2 0 rfl rfl)
theorem dX9_usual_50 : decode cX9_usual 50 = .ok (.iconst 1, 1) := dk_4 (dk_at dksX9_usual_2 3 rfl rfl)
theorem dX9_usual_51 : decode cX9_usual 51 = .ok (.goto 4, 3) := dk_167 0 4 (dk_at dksX9_usual_2 4 rfl rfl)
theorem dX9_usual_54 : decode cX9_usual 54 = .ok (.iconst (-1), 1) := dk_2 (dk_at dksX9_usual_2 7 rfl rfl)
theorem dX9_usual_55 : decode cX9_usual 55 = .ok (.ireturn, 1) := dk_172 (dk_at dksX9_usual_2 8 rfl rfl)
abbrev cX9_ahead : ByteArray := prog_28_method_9_code
def yX9_ahead : MethodName := ⟨RX9, "ahead", "()I"⟩
def dkwX9_ahead_1 : List UInt8 := [182, 0, 84, 172]
abbrev dktX9_ahead_1 : List UInt8 := dkwX9_ahead_1 ++ []
def dkwX9_ahead_0 : List UInt8 := [42, 182, 0, 84, 16, 32, 160, 0, 16, 42, 89, 180, 0, 81, 4, 96, 181, 0, 81, 167, 255, 237, 42]
abbrev dktX9_ahead_0 : List UInt8 := dkwX9_ahead_0 ++ dktX9_ahead_1
theorem dksX9_ahead_0 : cX9_ahead.data.toList.drop 0 = dktX9_ahead_0 := by decide +kernel
theorem dksX9_ahead_1 : cX9_ahead.data.toList.drop 23 = dktX9_ahead_1 := dk_seg dksX9_ahead_0 23 rfl rfl
theorem dX9_ahead_0 : decode cX9_ahead 0 = .ok (.aload_n 0, 1) := dk_42 (dk_at dksX9_ahead_0 0 rfl rfl)
theorem dX9_ahead_1 : decode cX9_ahead 1 = .ok (.invokevirtual 84, 3) := dk_182 0 84 (dk_at dksX9_ahead_0 1 rfl rfl)
theorem dX9_ahead_4 : decode cX9_ahead 4 = .ok (.bipush 32, 2) := dk_16 32 (dk_at dksX9_ahead_0 4 rfl rfl)
theorem dX9_ahead_6 : decode cX9_ahead 6 = .ok (.if_icmp .ne 16, 3) := dk_160 0 16 (dk_at dksX9_ahead_0 6 rfl rfl)
theorem dX9_ahead_9 : decode cX9_ahead 9 = .ok (.aload_n 0, 1) := dk_42 (dk_at dksX9_ahead_0 9 rfl rfl)
theorem dX9_ahead_10 : decode cX9_ahead 10 = .ok (.dup, 1) := dk_89 (dk_at dksX9_ahead_0 10 rfl rfl)
theorem dX9_ahead_11 : decode cX9_ahead 11 = .ok (.getfield 81, 3) := dk_180 0 81 (dk_at dksX9_ahead_0 11 rfl rfl)
theorem dX9_ahead_14 : decode cX9_ahead 14 = .ok (.iconst 1, 1) := dk_4 (dk_at dksX9_ahead_0 14 rfl rfl)
theorem dX9_ahead_15 : decode cX9_ahead 15 = .ok (.iadd, 1) := dk_96 (dk_at dksX9_ahead_0 15 rfl rfl)
theorem dX9_ahead_16 : decode cX9_ahead 16 = .ok (.putfield 81, 3) := dk_181 0 81 (dk_at dksX9_ahead_0 16 rfl rfl)
theorem dX9_ahead_19 : decode cX9_ahead 19 = .ok (.goto (-19), 3) := dk_167 255 237 (dk_at dksX9_ahead_0 19 rfl rfl)
theorem dX9_ahead_22 : decode cX9_ahead 22 = .ok (.aload_n 0, 1) := dk_42 (dk_at dksX9_ahead_0 22 rfl rfl)
theorem dX9_ahead_23 : decode cX9_ahead 23 = .ok (.invokevirtual 84, 3) := dk_182 0 84 (dk_at dksX9_ahead_1 0 rfl rfl)
theorem dX9_ahead_26 : decode cX9_ahead 26 = .ok (.ireturn, 1) := dk_172 (dk_at dksX9_ahead_1 3 rfl rfl)
abbrev cX9_here : ByteArray := prog_28_method_8_code
def yX9_here : MethodName := ⟨RX9, "here", "()I"⟩
def dkwX9_here_1 : List UInt8 := [172]
abbrev dktX9_here_1 : List UInt8 := dkwX9_here_1 ++ []
def dkwX9_here_0 : List UInt8 := [42, 180, 0, 81, 42, 180, 0, 74, 162, 0, 15, 42, 180, 0, 9, 42, 180, 0, 81, 46, 167, 0, 4, 2]
abbrev dktX9_here_0 : List UInt8 := dkwX9_here_0 ++ dktX9_here_1
theorem dksX9_here_0 : cX9_here.data.toList.drop 0 = dktX9_here_0 := by decide +kernel
theorem dksX9_here_1 : cX9_here.data.toList.drop 24 = dktX9_here_1 := dk_seg dksX9_here_0 24 rfl rfl
theorem dX9_here_0 : decode cX9_here 0 = .ok (.aload_n 0, 1) := dk_42 (dk_at dksX9_here_0 0 rfl rfl)
theorem dX9_here_1 : decode cX9_here 1 = .ok (.getfield 81, 3) := dk_180 0 81 (dk_at dksX9_here_0 1 rfl rfl)
theorem dX9_here_4 : decode cX9_here 4 = .ok (.aload_n 0, 1) := dk_42 (dk_at dksX9_here_0 4 rfl rfl)
theorem dX9_here_5 : decode cX9_here 5 = .ok (.getfield 74, 3) := dk_180 0 74 (dk_at dksX9_here_0 5 rfl rfl)
theorem dX9_here_8 : decode cX9_here 8 = .ok (.if_icmp .ge 15, 3) := dk_162 0 15 (dk_at dksX9_here_0 8 rfl rfl)
theorem dX9_here_11 : decode cX9_here 11 = .ok (.aload_n 0, 1) := dk_42 (dk_at dksX9_here_0 11 rfl rfl)
theorem dX9_here_12 : decode cX9_here 12 = .ok (.getfield 9, 3) := dk_180 0 9 (dk_at dksX9_here_0 12 rfl rfl)
theorem dX9_here_15 : decode cX9_here 15 = .ok (.aload_n 0, 1) := dk_42 (dk_at dksX9_here_0 15 rfl rfl)
theorem dX9_here_16 : decode cX9_here 16 = .ok (.getfield 81, 3) := dk_180 0 81 (dk_at dksX9_here_0 16 rfl rfl)
theorem dX9_here_19 : decode cX9_here 19 = .ok (.iaload, 1) := dk_46 (dk_at dksX9_here_0 19 rfl rfl)
theorem dX9_here_20 : decode cX9_here 20 = .ok (.goto 4, 3) := dk_167 0 4 (dk_at dksX9_here_0 20 rfl rfl)
theorem dX9_here_23 : decode cX9_here 23 = .ok (.iconst (-1), 1) := dk_2 (dk_at dksX9_here_0 23 rfl rfl)
theorem dX9_here_24 : decode cX9_here 24 = .ok (.ireturn, 1) := dk_172 (dk_at dksX9_here_1 0 rfl rfl)
abbrev cX9_items : ByteArray := prog_28_method_17_code
def yX9_items : MethodName := ⟨RX9, "items", "(I[III)V"⟩
def dkwX9_items_5 : List UInt8 := [182, 0, 91, 184, 0, 105, 167, 0, 4, 2, 54, 6, 167, 255, 168, 177]
abbrev dktX9_items_5 : List UInt8 := dkwX9_items_5 ++ []
def dkwX9_items_4 : List UInt8 := [184, 0, 112, 27, 21, 6, 184, 0, 115, 182, 0, 118, 79, 42, 180, 0, 88, 2, 160, 0, 14, 27, 42]
abbrev dktX9_items_4 : List UInt8 := dkwX9_items_4 ++ dktX9_items_5
def dkwX9_items_3 : List UInt8 := [120, 128, 54, 5, 42, 89, 180, 0, 81, 4, 96, 181, 0, 81, 44, 29, 21, 6, 96, 42, 6, 27, 21, 6]
abbrev dktX9_items_3 : List UInt8 := dkwX9_items_3 ++ dktX9_items_4
def dkwX9_items_2 : List UInt8 := [160, 0, 86, 21, 6, 2, 159, 0, 80, 21, 5, 21, 6, 184, 0, 108, 154, 0, 70, 21, 5, 4, 21, 6]
abbrev dktX9_items_2 : List UInt8 := dkwX9_items_2 ++ dktX9_items_3
def dkwX9_items_1 : List UInt8 := [132, 5, 1, 167, 255, 234, 3, 54, 5, 27, 42, 182, 0, 91, 184, 0, 105, 54, 6, 42, 180, 0, 88, 2]
abbrev dktX9_items_1 : List UInt8 := dkwX9_items_1 ++ dktX9_items_2
def dkwX9_items_0 : List UInt8 := [3, 54, 5, 21, 5, 21, 4, 162, 0, 21, 44, 29, 21, 5, 96, 27, 21, 5, 184, 0, 101, 79]
abbrev dktX9_items_0 : List UInt8 := dkwX9_items_0 ++ dktX9_items_1
theorem dksX9_items_0 : cX9_items.data.toList.drop 0 = dktX9_items_0 := by decide +kernel
theorem dksX9_items_1 : cX9_items.data.toList.drop 22 = dktX9_items_1 := dk_seg dksX9_items_0 22 rfl rfl
theorem dksX9_items_2 : cX9_items.data.toList.drop 46 = dktX9_items_2 := dk_seg dksX9_items_1 24 rfl rfl
theorem dksX9_items_3 : cX9_items.data.toList.drop 70 = dktX9_items_3 := dk_seg dksX9_items_2 24 rfl rfl
theorem dksX9_items_4 : cX9_items.data.toList.drop 94 = dktX9_items_4 := dk_seg dksX9_items_3 24 rfl rfl
theorem dksX9_items_5 : cX9_items.data.toList.drop 117 = dktX9_items_5 := dk_seg dksX9_items_4 23 rfl rfl
theorem dX9_items_0 : decode cX9_items 0 = .ok (.iconst 0, 1) := dk_3 (dk_at dksX9_items_0 0 rfl rfl)
theorem dX9_items_1 : decode cX9_items 1 = .ok (.istore 5, 2) := dk_54 5 (dk_at dksX9_items_0 1 rfl rfl)
theorem dX9_items_3 : decode cX9_items 3 = .ok (.iload 5, 2) := dk_21 5 (dk_at dksX9_items_0 3 rfl rfl)
theorem dX9_items_5 : decode cX9_items 5 = .ok (.iload 4, 2) := dk_21 4 (dk_at dksX9_items_0 5 rfl rfl)
theorem dX9_items_7 : decode cX9_items 7 = .ok (.if_icmp .ge 21, 3) := dk_162 0 21 (dk_at dksX9_items_0 7 rfl rfl)
theorem dX9_items_10 : decode cX9_items 10 = .ok (.aload_n 2, 1) := dk_44 (dk_at dksX9_items_0 10 rfl rfl)
theorem dX9_items_11 : decode cX9_items 11 = .ok (.iload_n 3, 1) := dk_29 (dk_at dksX9_items_0 11 rfl rfl)
theorem dX9_items_12 : decode cX9_items 12 = .ok (.iload 5, 2) := dk_21 5 (dk_at dksX9_items_0 12 rfl rfl)
theorem dX9_items_14 : decode cX9_items 14 = .ok (.iadd, 1) := dk_96 (dk_at dksX9_items_0 14 rfl rfl)
theorem dX9_items_15 : decode cX9_items 15 = .ok (.iload_n 1, 1) := dk_27 (dk_at dksX9_items_0 15 rfl rfl)
theorem dX9_items_16 : decode cX9_items 16 = .ok (.iload 5, 2) := dk_21 5 (dk_at dksX9_items_0 16 rfl rfl)
theorem dX9_items_18 : decode cX9_items 18 = .ok (.invokestatic 101, 3) := dk_184 0 101 (dk_at dksX9_items_0 18 rfl rfl)
theorem dX9_items_21 : decode cX9_items 21 = .ok (.iastore, 1) := dk_79 (dk_at dksX9_items_0 21 rfl rfl)
theorem dX9_items_22 : decode cX9_items 22 = .ok (.iinc 5 1, 3) := dk_132 5 1 (dk_at dksX9_items_1 0 rfl rfl)
theorem dX9_items_25 : decode cX9_items 25 = .ok (.goto (-22), 3) := dk_167 255 234 (dk_at dksX9_items_1 3 rfl rfl)
theorem dX9_items_28 : decode cX9_items 28 = .ok (.iconst 0, 1) := dk_3 (dk_at dksX9_items_1 6 rfl rfl)
theorem dX9_items_29 : decode cX9_items 29 = .ok (.istore 5, 2) := dk_54 5 (dk_at dksX9_items_1 7 rfl rfl)
theorem dX9_items_31 : decode cX9_items 31 = .ok (.iload_n 1, 1) := dk_27 (dk_at dksX9_items_1 9 rfl rfl)
theorem dX9_items_32 : decode cX9_items 32 = .ok (.aload_n 0, 1) := dk_42 (dk_at dksX9_items_1 10 rfl rfl)
theorem dX9_items_33 : decode cX9_items 33 = .ok (.invokevirtual 91, 3) := dk_182 0 91 (dk_at dksX9_items_1 11 rfl rfl)
theorem dX9_items_36 : decode cX9_items 36 = .ok (.invokestatic 105, 3) := dk_184 0 105 (dk_at dksX9_items_1 14 rfl rfl)
theorem dX9_items_39 : decode cX9_items 39 = .ok (.istore 6, 2) := dk_54 6 (dk_at dksX9_items_1 17 rfl rfl)
theorem dX9_items_41 : decode cX9_items 41 = .ok (.aload_n 0, 1) := dk_42 (dk_at dksX9_items_1 19 rfl rfl)
theorem dX9_items_42 : decode cX9_items 42 = .ok (.getfield 88, 3) := dk_180 0 88 (dk_at dksX9_items_1 20 rfl rfl)
theorem dX9_items_45 : decode cX9_items 45 = .ok (.iconst (-1), 1) := dk_2 (dk_at dksX9_items_1 23 rfl rfl)
theorem dX9_items_46 : decode cX9_items 46 = .ok (.if_icmp .ne 86, 3) := dk_160 0 86 (dk_at dksX9_items_2 0 rfl rfl)
theorem dX9_items_49 : decode cX9_items 49 = .ok (.iload 6, 2) := dk_21 6 (dk_at dksX9_items_2 3 rfl rfl)
theorem dX9_items_51 : decode cX9_items 51 = .ok (.iconst (-1), 1) := dk_2 (dk_at dksX9_items_2 5 rfl rfl)
theorem dX9_items_52 : decode cX9_items 52 = .ok (.if_icmp .eq 80, 3) := dk_159 0 80 (dk_at dksX9_items_2 6 rfl rfl)
theorem dX9_items_55 : decode cX9_items 55 = .ok (.iload 5, 2) := dk_21 5 (dk_at dksX9_items_2 9 rfl rfl)
theorem dX9_items_57 : decode cX9_items 57 = .ok (.iload 6, 2) := dk_21 6 (dk_at dksX9_items_2 11 rfl rfl)
theorem dX9_items_59 : decode cX9_items 59 = .ok (.invokestatic 108, 3) := dk_184 0 108 (dk_at dksX9_items_2 13 rfl rfl)
theorem dX9_items_62 : decode cX9_items 62 = .ok (.ifCond .ne 70, 3) := dk_154 0 70 (dk_at dksX9_items_2 16 rfl rfl)
theorem dX9_items_65 : decode cX9_items 65 = .ok (.iload 5, 2) := dk_21 5 (dk_at dksX9_items_2 19 rfl rfl)
theorem dX9_items_67 : decode cX9_items 67 = .ok (.iconst 1, 1) := dk_4 (dk_at dksX9_items_2 21 rfl rfl)
theorem dX9_items_68 : decode cX9_items 68 = .ok (.iload 6, 2) := dk_21 6 (dk_at dksX9_items_2 22 rfl rfl)
theorem dX9_items_70 : decode cX9_items 70 = .ok (.ishl, 1) := dk_120 (dk_at dksX9_items_3 0 rfl rfl)
theorem dX9_items_71 : decode cX9_items 71 = .ok (.ior, 1) := dk_128 (dk_at dksX9_items_3 1 rfl rfl)
theorem dX9_items_72 : decode cX9_items 72 = .ok (.istore 5, 2) := dk_54 5 (dk_at dksX9_items_3 2 rfl rfl)
theorem dX9_items_74 : decode cX9_items 74 = .ok (.aload_n 0, 1) := dk_42 (dk_at dksX9_items_3 4 rfl rfl)
theorem dX9_items_75 : decode cX9_items 75 = .ok (.dup, 1) := dk_89 (dk_at dksX9_items_3 5 rfl rfl)
theorem dX9_items_76 : decode cX9_items 76 = .ok (.getfield 81, 3) := dk_180 0 81 (dk_at dksX9_items_3 6 rfl rfl)
theorem dX9_items_79 : decode cX9_items 79 = .ok (.iconst 1, 1) := dk_4 (dk_at dksX9_items_3 9 rfl rfl)
theorem dX9_items_80 : decode cX9_items 80 = .ok (.iadd, 1) := dk_96 (dk_at dksX9_items_3 10 rfl rfl)
theorem dX9_items_81 : decode cX9_items 81 = .ok (.putfield 81, 3) := dk_181 0 81 (dk_at dksX9_items_3 11 rfl rfl)
theorem dX9_items_84 : decode cX9_items 84 = .ok (.aload_n 2, 1) := dk_44 (dk_at dksX9_items_3 14 rfl rfl)
theorem dX9_items_85 : decode cX9_items 85 = .ok (.iload_n 3, 1) := dk_29 (dk_at dksX9_items_3 15 rfl rfl)
theorem dX9_items_86 : decode cX9_items 86 = .ok (.iload 6, 2) := dk_21 6 (dk_at dksX9_items_3 16 rfl rfl)
theorem dX9_items_88 : decode cX9_items 88 = .ok (.iadd, 1) := dk_96 (dk_at dksX9_items_3 18 rfl rfl)
theorem dX9_items_89 : decode cX9_items 89 = .ok (.aload_n 0, 1) := dk_42 (dk_at dksX9_items_3 19 rfl rfl)
theorem dX9_items_90 : decode cX9_items 90 = .ok (.iconst 3, 1) := dk_6 (dk_at dksX9_items_3 20 rfl rfl)
theorem dX9_items_91 : decode cX9_items 91 = .ok (.iload_n 1, 1) := dk_27 (dk_at dksX9_items_3 21 rfl rfl)
theorem dX9_items_92 : decode cX9_items 92 = .ok (.iload 6, 2) := dk_21 6 (dk_at dksX9_items_3 22 rfl rfl)
theorem dX9_items_94 : decode cX9_items 94 = .ok (.invokestatic 112, 3) := dk_184 0 112 (dk_at dksX9_items_4 0 rfl rfl)
theorem dX9_items_97 : decode cX9_items 97 = .ok (.iload_n 1, 1) := dk_27 (dk_at dksX9_items_4 3 rfl rfl)
theorem dX9_items_98 : decode cX9_items 98 = .ok (.iload 6, 2) := dk_21 6 (dk_at dksX9_items_4 4 rfl rfl)
theorem dX9_items_100 : decode cX9_items 100 = .ok (.invokestatic 115, 3) := dk_184 0 115 (dk_at dksX9_items_4 6 rfl rfl)
theorem dX9_items_103 : decode cX9_items 103 = .ok (.invokevirtual 118, 3) := dk_182 0 118 (dk_at dksX9_items_4 9 rfl rfl)
theorem dX9_items_106 : decode cX9_items 106 = .ok (.iastore, 1) := dk_79 (dk_at dksX9_items_4 12 rfl rfl)
theorem dX9_items_107 : decode cX9_items 107 = .ok (.aload_n 0, 1) := dk_42 (dk_at dksX9_items_4 13 rfl rfl)
theorem dX9_items_108 : decode cX9_items 108 = .ok (.getfield 88, 3) := dk_180 0 88 (dk_at dksX9_items_4 14 rfl rfl)
theorem dX9_items_111 : decode cX9_items 111 = .ok (.iconst (-1), 1) := dk_2 (dk_at dksX9_items_4 17 rfl rfl)
theorem dX9_items_112 : decode cX9_items 112 = .ok (.if_icmp .ne 14, 3) := dk_160 0 14 (dk_at dksX9_items_4 18 rfl rfl)
theorem dX9_items_115 : decode cX9_items 115 = .ok (.iload_n 1, 1) := dk_27 (dk_at dksX9_items_4 21 rfl rfl)
theorem dX9_items_116 : decode cX9_items 116 = .ok (.aload_n 0, 1) := dk_42 (dk_at dksX9_items_4 22 rfl rfl)
theorem dX9_items_117 : decode cX9_items 117 = .ok (.invokevirtual 91, 3) := dk_182 0 91 (dk_at dksX9_items_5 0 rfl rfl)
theorem dX9_items_120 : decode cX9_items 120 = .ok (.invokestatic 105, 3) := dk_184 0 105 (dk_at dksX9_items_5 3 rfl rfl)
theorem dX9_items_123 : decode cX9_items 123 = .ok (.goto 4, 3) := dk_167 0 4 (dk_at dksX9_items_5 6 rfl rfl)
theorem dX9_items_126 : decode cX9_items 126 = .ok (.iconst (-1), 1) := dk_2 (dk_at dksX9_items_5 9 rfl rfl)
theorem dX9_items_127 : decode cX9_items 127 = .ok (.istore 6, 2) := dk_54 6 (dk_at dksX9_items_5 10 rfl rfl)
theorem dX9_items_129 : decode cX9_items 129 = .ok (.goto (-88), 3) := dk_167 255 168 (dk_at dksX9_items_5 12 rfl rfl)
theorem dX9_items_132 : decode cX9_items 132 = .ok (.return_, 1) := dk_177 (dk_at dksX9_items_5 15 rfl rfl)
abbrev cX9_itemOf : ByteArray := prog_28_method_13_code
def yX9_itemOf : MethodName := ⟨RX9, "itemOf", "(II)I"⟩
def dkwX9_itemOf_4 : List UInt8 := [167, 0, 4, 2, 172]
abbrev dktX9_itemOf_4 : List UInt8 := dkwX9_itemOf_4 ++ []
def dkwX9_itemOf_3 : List UInt8 := [160, 0, 7, 4, 167, 0, 24, 27, 16, 98, 160, 0, 7, 5, 167, 0, 14, 27, 16, 110, 160, 0, 7, 6]
abbrev dktX9_itemOf_3 : List UInt8 := dkwX9_itemOf_3 ++ dktX9_itemOf_4
def dkwX9_itemOf_2 : List UInt8 := [160, 0, 7, 5, 167, 0, 4, 2, 172, 27, 16, 116, 160, 0, 7, 3, 167, 0, 34, 27, 16, 97]
abbrev dktX9_itemOf_2 : List UInt8 := dkwX9_itemOf_2 ++ dktX9_itemOf_3
def dkwX9_itemOf_1 : List UInt8 := [27, 16, 98, 160, 0, 7, 3, 167, 0, 24, 27, 16, 100, 160, 0, 7, 4, 167, 0, 14, 27, 16, 113]
abbrev dktX9_itemOf_1 : List UInt8 := dkwX9_itemOf_1 ++ dktX9_itemOf_2
def dkwX9_itemOf_0 : List UInt8 := [26, 16, 116, 160, 0, 15, 27, 16, 118, 160, 0, 7, 3, 167, 0, 4, 2, 172, 26, 16, 115, 160, 0, 35]
abbrev dktX9_itemOf_0 : List UInt8 := dkwX9_itemOf_0 ++ dktX9_itemOf_1
theorem dksX9_itemOf_0 : cX9_itemOf.data.toList.drop 0 = dktX9_itemOf_0 := by decide +kernel
theorem dksX9_itemOf_1 : cX9_itemOf.data.toList.drop 24 = dktX9_itemOf_1 := dk_seg dksX9_itemOf_0 24 rfl rfl
theorem dksX9_itemOf_2 : cX9_itemOf.data.toList.drop 47 = dktX9_itemOf_2 := dk_seg dksX9_itemOf_1 23 rfl rfl
theorem dksX9_itemOf_3 : cX9_itemOf.data.toList.drop 69 = dktX9_itemOf_3 := dk_seg dksX9_itemOf_2 22 rfl rfl
theorem dksX9_itemOf_4 : cX9_itemOf.data.toList.drop 93 = dktX9_itemOf_4 := dk_seg dksX9_itemOf_3 24 rfl rfl
theorem dX9_itemOf_0 : decode cX9_itemOf 0 = .ok (.iload_n 0, 1) := dk_26 (dk_at dksX9_itemOf_0 0 rfl rfl)
theorem dX9_itemOf_1 : decode cX9_itemOf 1 = .ok (.bipush 116, 2) := dk_16 116 (dk_at dksX9_itemOf_0 1 rfl rfl)
theorem dX9_itemOf_3 : decode cX9_itemOf 3 = .ok (.if_icmp .ne 15, 3) := dk_160 0 15 (dk_at dksX9_itemOf_0 3 rfl rfl)
theorem dX9_itemOf_6 : decode cX9_itemOf 6 = .ok (.iload_n 1, 1) := dk_27 (dk_at dksX9_itemOf_0 6 rfl rfl)
theorem dX9_itemOf_7 : decode cX9_itemOf 7 = .ok (.bipush 118, 2) := dk_16 118 (dk_at dksX9_itemOf_0 7 rfl rfl)
theorem dX9_itemOf_9 : decode cX9_itemOf 9 = .ok (.if_icmp .ne 7, 3) := dk_160 0 7 (dk_at dksX9_itemOf_0 9 rfl rfl)
theorem dX9_itemOf_12 : decode cX9_itemOf 12 = .ok (.iconst 0, 1) := dk_3 (dk_at dksX9_itemOf_0 12 rfl rfl)
theorem dX9_itemOf_13 : decode cX9_itemOf 13 = .ok (.goto 4, 3) := dk_167 0 4 (dk_at dksX9_itemOf_0 13 rfl rfl)
theorem dX9_itemOf_16 : decode cX9_itemOf 16 = .ok (.iconst (-1), 1) := dk_2 (dk_at dksX9_itemOf_0 16 rfl rfl)
theorem dX9_itemOf_17 : decode cX9_itemOf 17 = .ok (.ireturn, 1) := dk_172 (dk_at dksX9_itemOf_0 17 rfl rfl)
theorem dX9_itemOf_18 : decode cX9_itemOf 18 = .ok (.iload_n 0, 1) := dk_26 (dk_at dksX9_itemOf_0 18 rfl rfl)
theorem dX9_itemOf_19 : decode cX9_itemOf 19 = .ok (.bipush 115, 2) := dk_16 115 (dk_at dksX9_itemOf_0 19 rfl rfl)
theorem dX9_itemOf_21 : decode cX9_itemOf 21 = .ok (.if_icmp .ne 35, 3) := dk_160 0 35 (dk_at dksX9_itemOf_0 21 rfl rfl)
theorem dX9_itemOf_24 : decode cX9_itemOf 24 = .ok (.iload_n 1, 1) := dk_27 (dk_at dksX9_itemOf_1 0 rfl rfl)
theorem dX9_itemOf_25 : decode cX9_itemOf 25 = .ok (.bipush 98, 2) := dk_16 98 (dk_at dksX9_itemOf_1 1 rfl rfl)
theorem dX9_itemOf_27 : decode cX9_itemOf 27 = .ok (.if_icmp .ne 7, 3) := dk_160 0 7 (dk_at dksX9_itemOf_1 3 rfl rfl)
theorem dX9_itemOf_30 : decode cX9_itemOf 30 = .ok (.iconst 0, 1) := dk_3 (dk_at dksX9_itemOf_1 6 rfl rfl)
theorem dX9_itemOf_31 : decode cX9_itemOf 31 = .ok (.goto 24, 3) := dk_167 0 24 (dk_at dksX9_itemOf_1 7 rfl rfl)
theorem dX9_itemOf_34 : decode cX9_itemOf 34 = .ok (.iload_n 1, 1) := dk_27 (dk_at dksX9_itemOf_1 10 rfl rfl)
theorem dX9_itemOf_35 : decode cX9_itemOf 35 = .ok (.bipush 100, 2) := dk_16 100 (dk_at dksX9_itemOf_1 11 rfl rfl)
theorem dX9_itemOf_37 : decode cX9_itemOf 37 = .ok (.if_icmp .ne 7, 3) := dk_160 0 7 (dk_at dksX9_itemOf_1 13 rfl rfl)
theorem dX9_itemOf_40 : decode cX9_itemOf 40 = .ok (.iconst 1, 1) := dk_4 (dk_at dksX9_itemOf_1 16 rfl rfl)
theorem dX9_itemOf_41 : decode cX9_itemOf 41 = .ok (.goto 14, 3) := dk_167 0 14 (dk_at dksX9_itemOf_1 17 rfl rfl)
theorem dX9_itemOf_44 : decode cX9_itemOf 44 = .ok (.iload_n 1, 1) := dk_27 (dk_at dksX9_itemOf_1 20 rfl rfl)
theorem dX9_itemOf_45 : decode cX9_itemOf 45 = .ok (.bipush 113, 2) := dk_16 113 (dk_at dksX9_itemOf_1 21 rfl rfl)
theorem dX9_itemOf_47 : decode cX9_itemOf 47 = .ok (.if_icmp .ne 7, 3) := dk_160 0 7 (dk_at dksX9_itemOf_2 0 rfl rfl)
theorem dX9_itemOf_50 : decode cX9_itemOf 50 = .ok (.iconst 2, 1) := dk_5 (dk_at dksX9_itemOf_2 3 rfl rfl)
theorem dX9_itemOf_51 : decode cX9_itemOf 51 = .ok (.goto 4, 3) := dk_167 0 4 (dk_at dksX9_itemOf_2 4 rfl rfl)
theorem dX9_itemOf_54 : decode cX9_itemOf 54 = .ok (.iconst (-1), 1) := dk_2 (dk_at dksX9_itemOf_2 7 rfl rfl)
theorem dX9_itemOf_55 : decode cX9_itemOf 55 = .ok (.ireturn, 1) := dk_172 (dk_at dksX9_itemOf_2 8 rfl rfl)
theorem dX9_itemOf_56 : decode cX9_itemOf 56 = .ok (.iload_n 1, 1) := dk_27 (dk_at dksX9_itemOf_2 9 rfl rfl)
theorem dX9_itemOf_57 : decode cX9_itemOf 57 = .ok (.bipush 116, 2) := dk_16 116 (dk_at dksX9_itemOf_2 10 rfl rfl)
theorem dX9_itemOf_59 : decode cX9_itemOf 59 = .ok (.if_icmp .ne 7, 3) := dk_160 0 7 (dk_at dksX9_itemOf_2 12 rfl rfl)
theorem dX9_itemOf_62 : decode cX9_itemOf 62 = .ok (.iconst 0, 1) := dk_3 (dk_at dksX9_itemOf_2 15 rfl rfl)
theorem dX9_itemOf_63 : decode cX9_itemOf 63 = .ok (.goto 34, 3) := dk_167 0 34 (dk_at dksX9_itemOf_2 16 rfl rfl)
theorem dX9_itemOf_66 : decode cX9_itemOf 66 = .ok (.iload_n 1, 1) := dk_27 (dk_at dksX9_itemOf_2 19 rfl rfl)
theorem dX9_itemOf_67 : decode cX9_itemOf 67 = .ok (.bipush 97, 2) := dk_16 97 (dk_at dksX9_itemOf_2 20 rfl rfl)
theorem dX9_itemOf_69 : decode cX9_itemOf 69 = .ok (.if_icmp .ne 7, 3) := dk_160 0 7 (dk_at dksX9_itemOf_3 0 rfl rfl)
theorem dX9_itemOf_72 : decode cX9_itemOf 72 = .ok (.iconst 1, 1) := dk_4 (dk_at dksX9_itemOf_3 3 rfl rfl)
theorem dX9_itemOf_73 : decode cX9_itemOf 73 = .ok (.goto 24, 3) := dk_167 0 24 (dk_at dksX9_itemOf_3 4 rfl rfl)
theorem dX9_itemOf_76 : decode cX9_itemOf 76 = .ok (.iload_n 1, 1) := dk_27 (dk_at dksX9_itemOf_3 7 rfl rfl)
theorem dX9_itemOf_77 : decode cX9_itemOf 77 = .ok (.bipush 98, 2) := dk_16 98 (dk_at dksX9_itemOf_3 8 rfl rfl)
theorem dX9_itemOf_79 : decode cX9_itemOf 79 = .ok (.if_icmp .ne 7, 3) := dk_160 0 7 (dk_at dksX9_itemOf_3 10 rfl rfl)
theorem dX9_itemOf_82 : decode cX9_itemOf 82 = .ok (.iconst 2, 1) := dk_5 (dk_at dksX9_itemOf_3 13 rfl rfl)
theorem dX9_itemOf_83 : decode cX9_itemOf 83 = .ok (.goto 14, 3) := dk_167 0 14 (dk_at dksX9_itemOf_3 14 rfl rfl)
theorem dX9_itemOf_86 : decode cX9_itemOf 86 = .ok (.iload_n 1, 1) := dk_27 (dk_at dksX9_itemOf_3 17 rfl rfl)
theorem dX9_itemOf_87 : decode cX9_itemOf 87 = .ok (.bipush 110, 2) := dk_16 110 (dk_at dksX9_itemOf_3 18 rfl rfl)
theorem dX9_itemOf_89 : decode cX9_itemOf 89 = .ok (.if_icmp .ne 7, 3) := dk_160 0 7 (dk_at dksX9_itemOf_3 20 rfl rfl)
theorem dX9_itemOf_92 : decode cX9_itemOf 92 = .ok (.iconst 3, 1) := dk_6 (dk_at dksX9_itemOf_3 23 rfl rfl)
theorem dX9_itemOf_93 : decode cX9_itemOf 93 = .ok (.goto 4, 3) := dk_167 0 4 (dk_at dksX9_itemOf_4 0 rfl rfl)
theorem dX9_itemOf_96 : decode cX9_itemOf 96 = .ok (.iconst (-1), 1) := dk_2 (dk_at dksX9_itemOf_4 3 rfl rfl)
theorem dX9_itemOf_97 : decode cX9_itemOf 97 = .ok (.ireturn, 1) := dk_172 (dk_at dksX9_itemOf_4 4 rfl rfl)
abbrev cX9_has : ByteArray := prog_28_method_2_code
def yX9_has : MethodName := ⟨RX9, "has", "(II)Z"⟩
def dkwX9_has_0 : List UInt8 := [26, 27, 122, 4, 126, 4, 160, 0, 7, 4, 167, 0, 4, 3, 172]
abbrev dktX9_has_0 : List UInt8 := dkwX9_has_0 ++ []
theorem dksX9_has_0 : cX9_has.data.toList.drop 0 = dktX9_has_0 := by decide +kernel
theorem dX9_has_0 : decode cX9_has 0 = .ok (.iload_n 0, 1) := dk_26 (dk_at dksX9_has_0 0 rfl rfl)
theorem dX9_has_1 : decode cX9_has 1 = .ok (.iload_n 1, 1) := dk_27 (dk_at dksX9_has_0 1 rfl rfl)
theorem dX9_has_2 : decode cX9_has 2 = .ok (.ishr, 1) := dk_122 (dk_at dksX9_has_0 2 rfl rfl)
theorem dX9_has_3 : decode cX9_has 3 = .ok (.iconst 1, 1) := dk_4 (dk_at dksX9_has_0 3 rfl rfl)
theorem dX9_has_4 : decode cX9_has 4 = .ok (.iand, 1) := dk_126 (dk_at dksX9_has_0 4 rfl rfl)
theorem dX9_has_5 : decode cX9_has 5 = .ok (.iconst 1, 1) := dk_4 (dk_at dksX9_has_0 5 rfl rfl)
theorem dX9_has_6 : decode cX9_has 6 = .ok (.if_icmp .ne 7, 3) := dk_160 0 7 (dk_at dksX9_has_0 6 rfl rfl)
theorem dX9_has_9 : decode cX9_has 9 = .ok (.iconst 1, 1) := dk_4 (dk_at dksX9_has_0 9 rfl rfl)
theorem dX9_has_10 : decode cX9_has 10 = .ok (.goto 4, 3) := dk_167 0 4 (dk_at dksX9_has_0 10 rfl rfl)
theorem dX9_has_13 : decode cX9_has 13 = .ok (.iconst 0, 1) := dk_3 (dk_at dksX9_has_0 13 rfl rfl)
theorem dX9_has_14 : decode cX9_has 14 = .ok (.ireturn, 1) := dk_172 (dk_at dksX9_has_0 14 rfl rfl)
abbrev cX9_lowest : ByteArray := prog_28_method_14_code
def yX9_lowest : MethodName := ⟨RX9, "lowest", "(II)I"⟩
def dkwX9_lowest_1 : List UInt8 := [167, 0, 13, 27, 6, 160, 0, 7, 4, 167, 0, 4, 3, 172]
abbrev dktX9_lowest_1 : List UInt8 := dkwX9_lowest_1 ++ []
def dkwX9_lowest_0 : List UInt8 := [26, 16, 116, 160, 0, 5, 5, 172, 26, 16, 115, 160, 0, 16, 27, 4, 160, 0, 7, 3, 167, 0, 17, 4]
abbrev dktX9_lowest_0 : List UInt8 := dkwX9_lowest_0 ++ dktX9_lowest_1
theorem dksX9_lowest_0 : cX9_lowest.data.toList.drop 0 = dktX9_lowest_0 := by decide +kernel
theorem dksX9_lowest_1 : cX9_lowest.data.toList.drop 24 = dktX9_lowest_1 := dk_seg dksX9_lowest_0 24 rfl rfl
theorem dX9_lowest_0 : decode cX9_lowest 0 = .ok (.iload_n 0, 1) := dk_26 (dk_at dksX9_lowest_0 0 rfl rfl)
theorem dX9_lowest_1 : decode cX9_lowest 1 = .ok (.bipush 116, 2) := dk_16 116 (dk_at dksX9_lowest_0 1 rfl rfl)
theorem dX9_lowest_3 : decode cX9_lowest 3 = .ok (.if_icmp .ne 5, 3) := dk_160 0 5 (dk_at dksX9_lowest_0 3 rfl rfl)
theorem dX9_lowest_6 : decode cX9_lowest 6 = .ok (.iconst 2, 1) := dk_5 (dk_at dksX9_lowest_0 6 rfl rfl)
theorem dX9_lowest_7 : decode cX9_lowest 7 = .ok (.ireturn, 1) := dk_172 (dk_at dksX9_lowest_0 7 rfl rfl)
theorem dX9_lowest_8 : decode cX9_lowest 8 = .ok (.iload_n 0, 1) := dk_26 (dk_at dksX9_lowest_0 8 rfl rfl)
theorem dX9_lowest_9 : decode cX9_lowest 9 = .ok (.bipush 115, 2) := dk_16 115 (dk_at dksX9_lowest_0 9 rfl rfl)
theorem dX9_lowest_11 : decode cX9_lowest 11 = .ok (.if_icmp .ne 16, 3) := dk_160 0 16 (dk_at dksX9_lowest_0 11 rfl rfl)
theorem dX9_lowest_14 : decode cX9_lowest 14 = .ok (.iload_n 1, 1) := dk_27 (dk_at dksX9_lowest_0 14 rfl rfl)
theorem dX9_lowest_15 : decode cX9_lowest 15 = .ok (.iconst 1, 1) := dk_4 (dk_at dksX9_lowest_0 15 rfl rfl)
theorem dX9_lowest_16 : decode cX9_lowest 16 = .ok (.if_icmp .ne 7, 3) := dk_160 0 7 (dk_at dksX9_lowest_0 16 rfl rfl)
theorem dX9_lowest_19 : decode cX9_lowest 19 = .ok (.iconst 0, 1) := dk_3 (dk_at dksX9_lowest_0 19 rfl rfl)
theorem dX9_lowest_20 : decode cX9_lowest 20 = .ok (.goto 17, 3) := dk_167 0 17 (dk_at dksX9_lowest_0 20 rfl rfl)
theorem dX9_lowest_23 : decode cX9_lowest 23 = .ok (.iconst 1, 1) := dk_4 (dk_at dksX9_lowest_0 23 rfl rfl)
theorem dX9_lowest_24 : decode cX9_lowest 24 = .ok (.goto 13, 3) := dk_167 0 13 (dk_at dksX9_lowest_1 0 rfl rfl)
theorem dX9_lowest_27 : decode cX9_lowest 27 = .ok (.iload_n 1, 1) := dk_27 (dk_at dksX9_lowest_1 3 rfl rfl)
theorem dX9_lowest_28 : decode cX9_lowest 28 = .ok (.iconst 3, 1) := dk_6 (dk_at dksX9_lowest_1 4 rfl rfl)
theorem dX9_lowest_29 : decode cX9_lowest 29 = .ok (.if_icmp .ne 7, 3) := dk_160 0 7 (dk_at dksX9_lowest_1 5 rfl rfl)
theorem dX9_lowest_32 : decode cX9_lowest 32 = .ok (.iconst 1, 1) := dk_4 (dk_at dksX9_lowest_1 8 rfl rfl)
theorem dX9_lowest_33 : decode cX9_lowest 33 = .ok (.goto 4, 3) := dk_167 0 4 (dk_at dksX9_lowest_1 9 rfl rfl)
theorem dX9_lowest_36 : decode cX9_lowest 36 = .ok (.iconst 0, 1) := dk_3 (dk_at dksX9_lowest_1 12 rfl rfl)
theorem dX9_lowest_37 : decode cX9_lowest 37 = .ok (.ireturn, 1) := dk_172 (dk_at dksX9_lowest_1 13 rfl rfl)
abbrev cX9_highest : ByteArray := prog_28_method_15_code
def yX9_highest : MethodName := ⟨RX9, "highest", "(II)I"⟩
def dkwX9_highest_2 : List UInt8 := [160, 0, 8, 16, 40, 167, 0, 5, 16, 15, 172]
abbrev dktX9_highest_2 : List UInt8 := dkwX9_highest_2 ++ []
def dkwX9_highest_1 : List UInt8 := [27, 4, 160, 0, 8, 16, 99, 167, 0, 6, 17, 3, 231, 172, 27, 154, 0, 7, 5, 167, 0, 15, 27, 6]
abbrev dktX9_highest_1 : List UInt8 := dkwX9_highest_1 ++ dktX9_highest_2
def dkwX9_highest_0 : List UInt8 := [26, 16, 116, 160, 0, 6, 16, 16, 172, 26, 16, 115, 160, 0, 26, 27, 154, 0, 8, 16, 8, 167, 0, 16]
abbrev dktX9_highest_0 : List UInt8 := dkwX9_highest_0 ++ dktX9_highest_1
theorem dksX9_highest_0 : cX9_highest.data.toList.drop 0 = dktX9_highest_0 := by decide +kernel
theorem dksX9_highest_1 : cX9_highest.data.toList.drop 24 = dktX9_highest_1 := dk_seg dksX9_highest_0 24 rfl rfl
theorem dksX9_highest_2 : cX9_highest.data.toList.drop 48 = dktX9_highest_2 := dk_seg dksX9_highest_1 24 rfl rfl
theorem dX9_highest_0 : decode cX9_highest 0 = .ok (.iload_n 0, 1) := dk_26 (dk_at dksX9_highest_0 0 rfl rfl)
theorem dX9_highest_1 : decode cX9_highest 1 = .ok (.bipush 116, 2) := dk_16 116 (dk_at dksX9_highest_0 1 rfl rfl)
theorem dX9_highest_3 : decode cX9_highest 3 = .ok (.if_icmp .ne 6, 3) := dk_160 0 6 (dk_at dksX9_highest_0 3 rfl rfl)
theorem dX9_highest_6 : decode cX9_highest 6 = .ok (.bipush 16, 2) := dk_16 16 (dk_at dksX9_highest_0 6 rfl rfl)
theorem dX9_highest_8 : decode cX9_highest 8 = .ok (.ireturn, 1) := dk_172 (dk_at dksX9_highest_0 8 rfl rfl)
theorem dX9_highest_9 : decode cX9_highest 9 = .ok (.iload_n 0, 1) := dk_26 (dk_at dksX9_highest_0 9 rfl rfl)
theorem dX9_highest_10 : decode cX9_highest 10 = .ok (.bipush 115, 2) := dk_16 115 (dk_at dksX9_highest_0 10 rfl rfl)
theorem dX9_highest_12 : decode cX9_highest 12 = .ok (.if_icmp .ne 26, 3) := dk_160 0 26 (dk_at dksX9_highest_0 12 rfl rfl)
theorem dX9_highest_15 : decode cX9_highest 15 = .ok (.iload_n 1, 1) := dk_27 (dk_at dksX9_highest_0 15 rfl rfl)
theorem dX9_highest_16 : decode cX9_highest 16 = .ok (.ifCond .ne 8, 3) := dk_154 0 8 (dk_at dksX9_highest_0 16 rfl rfl)
theorem dX9_highest_19 : decode cX9_highest 19 = .ok (.bipush 8, 2) := dk_16 8 (dk_at dksX9_highest_0 19 rfl rfl)
theorem dX9_highest_21 : decode cX9_highest 21 = .ok (.goto 16, 3) := dk_167 0 16 (dk_at dksX9_highest_0 21 rfl rfl)
theorem dX9_highest_24 : decode cX9_highest 24 = .ok (.iload_n 1, 1) := dk_27 (dk_at dksX9_highest_1 0 rfl rfl)
theorem dX9_highest_25 : decode cX9_highest 25 = .ok (.iconst 1, 1) := dk_4 (dk_at dksX9_highest_1 1 rfl rfl)
theorem dX9_highest_26 : decode cX9_highest 26 = .ok (.if_icmp .ne 8, 3) := dk_160 0 8 (dk_at dksX9_highest_1 2 rfl rfl)
theorem dX9_highest_29 : decode cX9_highest 29 = .ok (.bipush 99, 2) := dk_16 99 (dk_at dksX9_highest_1 5 rfl rfl)
theorem dX9_highest_31 : decode cX9_highest 31 = .ok (.goto 6, 3) := dk_167 0 6 (dk_at dksX9_highest_1 7 rfl rfl)
theorem dX9_highest_34 : decode cX9_highest 34 = .ok (.sipush 999, 3) := dk_17 3 231 (dk_at dksX9_highest_1 10 rfl rfl)
theorem dX9_highest_37 : decode cX9_highest 37 = .ok (.ireturn, 1) := dk_172 (dk_at dksX9_highest_1 13 rfl rfl)
theorem dX9_highest_38 : decode cX9_highest 38 = .ok (.iload_n 1, 1) := dk_27 (dk_at dksX9_highest_1 14 rfl rfl)
theorem dX9_highest_39 : decode cX9_highest 39 = .ok (.ifCond .ne 7, 3) := dk_154 0 7 (dk_at dksX9_highest_1 15 rfl rfl)
theorem dX9_highest_42 : decode cX9_highest 42 = .ok (.iconst 2, 1) := dk_5 (dk_at dksX9_highest_1 18 rfl rfl)
theorem dX9_highest_43 : decode cX9_highest 43 = .ok (.goto 15, 3) := dk_167 0 15 (dk_at dksX9_highest_1 19 rfl rfl)
theorem dX9_highest_46 : decode cX9_highest 46 = .ok (.iload_n 1, 1) := dk_27 (dk_at dksX9_highest_1 22 rfl rfl)
theorem dX9_highest_47 : decode cX9_highest 47 = .ok (.iconst 3, 1) := dk_6 (dk_at dksX9_highest_1 23 rfl rfl)
theorem dX9_highest_48 : decode cX9_highest 48 = .ok (.if_icmp .ne 8, 3) := dk_160 0 8 (dk_at dksX9_highest_2 0 rfl rfl)
theorem dX9_highest_51 : decode cX9_highest 51 = .ok (.bipush 40, 2) := dk_16 40 (dk_at dksX9_highest_2 3 rfl rfl)
theorem dX9_highest_53 : decode cX9_highest 53 = .ok (.goto 5, 3) := dk_167 0 5 (dk_at dksX9_highest_2 5 rfl rfl)
theorem dX9_highest_56 : decode cX9_highest 56 = .ok (.bipush 15, 2) := dk_16 15 (dk_at dksX9_highest_2 8 rfl rfl)
theorem dX9_highest_58 : decode cX9_highest 58 = .ok (.ireturn, 1) := dk_172 (dk_at dksX9_highest_2 10 rfl rfl)
abbrev cX9_number : ByteArray := prog_28_method_12_code
def yX9_number : MethodName := ⟨RX9, "number", "(III)I"⟩
def dkwX9_number_4 : List UInt8 := [184, 0, 77, 154, 0, 17, 42, 89, 180, 0, 81, 4, 100, 181, 0, 81, 42, 182, 0, 98, 21, 4, 172]
abbrev dktX9_number_4 : List UInt8 := dkwX9_number_4 ++ []
def dkwX9_number_3 : List UInt8 := [182, 0, 84, 184, 0, 94, 153, 0, 10, 42, 182, 0, 98, 167, 0, 30, 21, 4, 133, 28, 133, 29, 133]
abbrev dktX9_number_3 : List UInt8 := dkwX9_number_3 ++ dktX9_number_4
def dkwX9_number_2 : List UInt8 := [16, 48, 100, 54, 4, 42, 89, 180, 0, 81, 4, 96, 181, 0, 81, 132, 5, 1, 167, 255, 212, 42]
abbrev dktX9_number_2 : List UInt8 := dkwX9_number_2 ++ dktX9_number_3
def dkwX9_number_1 : List UInt8 := [27, 162, 0, 44, 42, 182, 0, 84, 184, 0, 94, 153, 0, 34, 16, 10, 21, 4, 104, 42, 182, 0, 84, 96]
abbrev dktX9_number_1 : List UInt8 := dkwX9_number_1 ++ dktX9_number_2
def dkwX9_number_0 : List UInt8 := [42, 182, 0, 91, 184, 0, 94, 154, 0, 9, 42, 182, 0, 98, 28, 172, 3, 54, 4, 3, 54, 5, 21, 5]
abbrev dktX9_number_0 : List UInt8 := dkwX9_number_0 ++ dktX9_number_1
theorem dksX9_number_0 : cX9_number.data.toList.drop 0 = dktX9_number_0 := by decide +kernel
theorem dksX9_number_1 : cX9_number.data.toList.drop 24 = dktX9_number_1 := dk_seg dksX9_number_0 24 rfl rfl
theorem dksX9_number_2 : cX9_number.data.toList.drop 48 = dktX9_number_2 := dk_seg dksX9_number_1 24 rfl rfl
theorem dksX9_number_3 : cX9_number.data.toList.drop 70 = dktX9_number_3 := dk_seg dksX9_number_2 22 rfl rfl
theorem dksX9_number_4 : cX9_number.data.toList.drop 93 = dktX9_number_4 := dk_seg dksX9_number_3 23 rfl rfl
theorem dX9_number_0 : decode cX9_number 0 = .ok (.aload_n 0, 1) := dk_42 (dk_at dksX9_number_0 0 rfl rfl)
theorem dX9_number_1 : decode cX9_number 1 = .ok (.invokevirtual 91, 3) := dk_182 0 91 (dk_at dksX9_number_0 1 rfl rfl)
theorem dX9_number_4 : decode cX9_number 4 = .ok (.invokestatic 94, 3) := dk_184 0 94 (dk_at dksX9_number_0 4 rfl rfl)
theorem dX9_number_7 : decode cX9_number 7 = .ok (.ifCond .ne 9, 3) := dk_154 0 9 (dk_at dksX9_number_0 7 rfl rfl)
theorem dX9_number_10 : decode cX9_number 10 = .ok (.aload_n 0, 1) := dk_42 (dk_at dksX9_number_0 10 rfl rfl)
theorem dX9_number_11 : decode cX9_number 11 = .ok (.invokevirtual 98, 3) := dk_182 0 98 (dk_at dksX9_number_0 11 rfl rfl)
theorem dX9_number_14 : decode cX9_number 14 = .ok (.iload_n 2, 1) := dk_28 (dk_at dksX9_number_0 14 rfl rfl)
theorem dX9_number_15 : decode cX9_number 15 = .ok (.ireturn, 1) := dk_172 (dk_at dksX9_number_0 15 rfl rfl)
theorem dX9_number_16 : decode cX9_number 16 = .ok (.iconst 0, 1) := dk_3 (dk_at dksX9_number_0 16 rfl rfl)
theorem dX9_number_17 : decode cX9_number 17 = .ok (.istore 4, 2) := dk_54 4 (dk_at dksX9_number_0 17 rfl rfl)
theorem dX9_number_19 : decode cX9_number 19 = .ok (.iconst 0, 1) := dk_3 (dk_at dksX9_number_0 19 rfl rfl)
theorem dX9_number_20 : decode cX9_number 20 = .ok (.istore 5, 2) := dk_54 5 (dk_at dksX9_number_0 20 rfl rfl)
theorem dX9_number_22 : decode cX9_number 22 = .ok (.iload 5, 2) := dk_21 5 (dk_at dksX9_number_0 22 rfl rfl)
theorem dX9_number_24 : decode cX9_number 24 = .ok (.iload_n 1, 1) := dk_27 (dk_at dksX9_number_1 0 rfl rfl)
theorem dX9_number_25 : decode cX9_number 25 = .ok (.if_icmp .ge 44, 3) := dk_162 0 44 (dk_at dksX9_number_1 1 rfl rfl)
theorem dX9_number_28 : decode cX9_number 28 = .ok (.aload_n 0, 1) := dk_42 (dk_at dksX9_number_1 4 rfl rfl)
theorem dX9_number_29 : decode cX9_number 29 = .ok (.invokevirtual 84, 3) := dk_182 0 84 (dk_at dksX9_number_1 5 rfl rfl)
theorem dX9_number_32 : decode cX9_number 32 = .ok (.invokestatic 94, 3) := dk_184 0 94 (dk_at dksX9_number_1 8 rfl rfl)
theorem dX9_number_35 : decode cX9_number 35 = .ok (.ifCond .eq 34, 3) := dk_153 0 34 (dk_at dksX9_number_1 11 rfl rfl)
theorem dX9_number_38 : decode cX9_number 38 = .ok (.bipush 10, 2) := dk_16 10 (dk_at dksX9_number_1 14 rfl rfl)
theorem dX9_number_40 : decode cX9_number 40 = .ok (.iload 4, 2) := dk_21 4 (dk_at dksX9_number_1 16 rfl rfl)
theorem dX9_number_42 : decode cX9_number 42 = .ok (.imul, 1) := dk_104 (dk_at dksX9_number_1 18 rfl rfl)
theorem dX9_number_43 : decode cX9_number 43 = .ok (.aload_n 0, 1) := dk_42 (dk_at dksX9_number_1 19 rfl rfl)
theorem dX9_number_44 : decode cX9_number 44 = .ok (.invokevirtual 84, 3) := dk_182 0 84 (dk_at dksX9_number_1 20 rfl rfl)
theorem dX9_number_47 : decode cX9_number 47 = .ok (.iadd, 1) := dk_96 (dk_at dksX9_number_1 23 rfl rfl)
theorem dX9_number_48 : decode cX9_number 48 = .ok (.bipush 48, 2) := dk_16 48 (dk_at dksX9_number_2 0 rfl rfl)
theorem dX9_number_50 : decode cX9_number 50 = .ok (.isub, 1) := dk_100 (dk_at dksX9_number_2 2 rfl rfl)
theorem dX9_number_51 : decode cX9_number 51 = .ok (.istore 4, 2) := dk_54 4 (dk_at dksX9_number_2 3 rfl rfl)
theorem dX9_number_53 : decode cX9_number 53 = .ok (.aload_n 0, 1) := dk_42 (dk_at dksX9_number_2 5 rfl rfl)
theorem dX9_number_54 : decode cX9_number 54 = .ok (.dup, 1) := dk_89 (dk_at dksX9_number_2 6 rfl rfl)
theorem dX9_number_55 : decode cX9_number 55 = .ok (.getfield 81, 3) := dk_180 0 81 (dk_at dksX9_number_2 7 rfl rfl)
theorem dX9_number_58 : decode cX9_number 58 = .ok (.iconst 1, 1) := dk_4 (dk_at dksX9_number_2 10 rfl rfl)
theorem dX9_number_59 : decode cX9_number 59 = .ok (.iadd, 1) := dk_96 (dk_at dksX9_number_2 11 rfl rfl)
theorem dX9_number_60 : decode cX9_number 60 = .ok (.putfield 81, 3) := dk_181 0 81 (dk_at dksX9_number_2 12 rfl rfl)
theorem dX9_number_63 : decode cX9_number 63 = .ok (.iinc 5 1, 3) := dk_132 5 1 (dk_at dksX9_number_2 15 rfl rfl)
theorem dX9_number_66 : decode cX9_number 66 = .ok (.goto (-44), 3) := dk_167 255 212 (dk_at dksX9_number_2 18 rfl rfl)
theorem dX9_number_69 : decode cX9_number 69 = .ok (.aload_n 0, 1) := dk_42 (dk_at dksX9_number_2 21 rfl rfl)
theorem dX9_number_70 : decode cX9_number 70 = .ok (.invokevirtual 84, 3) := dk_182 0 84 (dk_at dksX9_number_3 0 rfl rfl)
theorem dX9_number_73 : decode cX9_number 73 = .ok (.invokestatic 94, 3) := dk_184 0 94 (dk_at dksX9_number_3 3 rfl rfl)
theorem dX9_number_76 : decode cX9_number 76 = .ok (.ifCond .eq 10, 3) := dk_153 0 10 (dk_at dksX9_number_3 6 rfl rfl)
theorem dX9_number_79 : decode cX9_number 79 = .ok (.aload_n 0, 1) := dk_42 (dk_at dksX9_number_3 9 rfl rfl)
theorem dX9_number_80 : decode cX9_number 80 = .ok (.invokevirtual 98, 3) := dk_182 0 98 (dk_at dksX9_number_3 10 rfl rfl)
theorem dX9_number_83 : decode cX9_number 83 = .ok (.goto 30, 3) := dk_167 0 30 (dk_at dksX9_number_3 13 rfl rfl)
theorem dX9_number_86 : decode cX9_number 86 = .ok (.iload 4, 2) := dk_21 4 (dk_at dksX9_number_3 16 rfl rfl)
theorem dX9_number_88 : decode cX9_number 88 = .ok (.i2l, 1) := dk_133 (dk_at dksX9_number_3 18 rfl rfl)
theorem dX9_number_89 : decode cX9_number 89 = .ok (.iload_n 2, 1) := dk_28 (dk_at dksX9_number_3 19 rfl rfl)
theorem dX9_number_90 : decode cX9_number 90 = .ok (.i2l, 1) := dk_133 (dk_at dksX9_number_3 20 rfl rfl)
theorem dX9_number_91 : decode cX9_number 91 = .ok (.iload_n 3, 1) := dk_29 (dk_at dksX9_number_3 21 rfl rfl)
theorem dX9_number_92 : decode cX9_number 92 = .ok (.i2l, 1) := dk_133 (dk_at dksX9_number_3 22 rfl rfl)
theorem dX9_number_93 : decode cX9_number 93 = .ok (.invokestatic 77, 3) := dk_184 0 77 (dk_at dksX9_number_4 0 rfl rfl)
theorem dX9_number_96 : decode cX9_number 96 = .ok (.ifCond .ne 17, 3) := dk_154 0 17 (dk_at dksX9_number_4 3 rfl rfl)
theorem dX9_number_99 : decode cX9_number 99 = .ok (.aload_n 0, 1) := dk_42 (dk_at dksX9_number_4 6 rfl rfl)
theorem dX9_number_100 : decode cX9_number 100 = .ok (.dup, 1) := dk_89 (dk_at dksX9_number_4 7 rfl rfl)
theorem dX9_number_101 : decode cX9_number 101 = .ok (.getfield 81, 3) := dk_180 0 81 (dk_at dksX9_number_4 8 rfl rfl)
theorem dX9_number_104 : decode cX9_number 104 = .ok (.iconst 1, 1) := dk_4 (dk_at dksX9_number_4 11 rfl rfl)
theorem dX9_number_105 : decode cX9_number 105 = .ok (.isub, 1) := dk_100 (dk_at dksX9_number_4 12 rfl rfl)
theorem dX9_number_106 : decode cX9_number 106 = .ok (.putfield 81, 3) := dk_181 0 81 (dk_at dksX9_number_4 13 rfl rfl)
theorem dX9_number_109 : decode cX9_number 109 = .ok (.aload_n 0, 1) := dk_42 (dk_at dksX9_number_4 16 rfl rfl)
theorem dX9_number_110 : decode cX9_number 110 = .ok (.invokevirtual 98, 3) := dk_182 0 98 (dk_at dksX9_number_4 17 rfl rfl)
theorem dX9_number_113 : decode cX9_number 113 = .ok (.iload 4, 2) := dk_21 4 (dk_at dksX9_number_4 20 rfl rfl)
theorem dX9_number_115 : decode cX9_number 115 = .ok (.ireturn, 1) := dk_172 (dk_at dksX9_number_4 22 rfl rfl)
abbrev cX9_isDigit : ByteArray := prog_28_method_11_code
def yX9_isDigit : MethodName := ⟨RX9, "isDigit", "(I)Z"⟩
def dkwX9_isDigit_0 : List UInt8 := [26, 16, 48, 161, 0, 13, 26, 16, 57, 163, 0, 7, 4, 167, 0, 4, 3, 172]
abbrev dktX9_isDigit_0 : List UInt8 := dkwX9_isDigit_0 ++ []
theorem dksX9_isDigit_0 : cX9_isDigit.data.toList.drop 0 = dktX9_isDigit_0 := by decide +kernel
theorem dX9_isDigit_0 : decode cX9_isDigit 0 = .ok (.iload_n 0, 1) := dk_26 (dk_at dksX9_isDigit_0 0 rfl rfl)
theorem dX9_isDigit_1 : decode cX9_isDigit 1 = .ok (.bipush 48, 2) := dk_16 48 (dk_at dksX9_isDigit_0 1 rfl rfl)
theorem dX9_isDigit_3 : decode cX9_isDigit 3 = .ok (.if_icmp .lt 13, 3) := dk_161 0 13 (dk_at dksX9_isDigit_0 3 rfl rfl)
theorem dX9_isDigit_6 : decode cX9_isDigit 6 = .ok (.iload_n 0, 1) := dk_26 (dk_at dksX9_isDigit_0 6 rfl rfl)
theorem dX9_isDigit_7 : decode cX9_isDigit 7 = .ok (.bipush 57, 2) := dk_16 57 (dk_at dksX9_isDigit_0 7 rfl rfl)
theorem dX9_isDigit_9 : decode cX9_isDigit 9 = .ok (.if_icmp .gt 7, 3) := dk_163 0 7 (dk_at dksX9_isDigit_0 9 rfl rfl)
theorem dX9_isDigit_12 : decode cX9_isDigit 12 = .ok (.iconst 1, 1) := dk_4 (dk_at dksX9_isDigit_0 12 rfl rfl)
theorem dX9_isDigit_13 : decode cX9_isDigit 13 = .ok (.goto 4, 3) := dk_167 0 4 (dk_at dksX9_isDigit_0 13 rfl rfl)
theorem dX9_isDigit_16 : decode cX9_isDigit 16 = .ok (.iconst 0, 1) := dk_3 (dk_at dksX9_isDigit_0 16 rfl rfl)
theorem dX9_isDigit_17 : decode cX9_isDigit 17 = .ok (.ireturn, 1) := dk_172 (dk_at dksX9_isDigit_0 17 rfl rfl)
abbrev cX9_bad : ByteArray := prog_28_method_10_code
def yX9_bad : MethodName := ⟨RX9, "bad", "()V"⟩
def dkwX9_bad_0 : List UInt8 := [42, 42, 180, 0, 88, 2, 160, 0, 10, 42, 180, 0, 81, 167, 0, 7, 42, 180, 0, 88, 181, 0, 88, 177]
abbrev dktX9_bad_0 : List UInt8 := dkwX9_bad_0 ++ []
theorem dksX9_bad_0 : cX9_bad.data.toList.drop 0 = dktX9_bad_0 := by decide +kernel
theorem dX9_bad_0 : decode cX9_bad 0 = .ok (.aload_n 0, 1) := dk_42 (dk_at dksX9_bad_0 0 rfl rfl)
theorem dX9_bad_1 : decode cX9_bad 1 = .ok (.aload_n 0, 1) := dk_42 (dk_at dksX9_bad_0 1 rfl rfl)
theorem dX9_bad_2 : decode cX9_bad 2 = .ok (.getfield 88, 3) := dk_180 0 88 (dk_at dksX9_bad_0 2 rfl rfl)
theorem dX9_bad_5 : decode cX9_bad 5 = .ok (.iconst (-1), 1) := dk_2 (dk_at dksX9_bad_0 5 rfl rfl)
theorem dX9_bad_6 : decode cX9_bad 6 = .ok (.if_icmp .ne 10, 3) := dk_160 0 10 (dk_at dksX9_bad_0 6 rfl rfl)
theorem dX9_bad_9 : decode cX9_bad 9 = .ok (.aload_n 0, 1) := dk_42 (dk_at dksX9_bad_0 9 rfl rfl)
theorem dX9_bad_10 : decode cX9_bad 10 = .ok (.getfield 81, 3) := dk_180 0 81 (dk_at dksX9_bad_0 10 rfl rfl)
theorem dX9_bad_13 : decode cX9_bad 13 = .ok (.goto 7, 3) := dk_167 0 7 (dk_at dksX9_bad_0 13 rfl rfl)
theorem dX9_bad_16 : decode cX9_bad 16 = .ok (.aload_n 0, 1) := dk_42 (dk_at dksX9_bad_0 16 rfl rfl)
theorem dX9_bad_17 : decode cX9_bad 17 = .ok (.getfield 88, 3) := dk_180 0 88 (dk_at dksX9_bad_0 17 rfl rfl)
theorem dX9_bad_20 : decode cX9_bad 20 = .ok (.putfield 88, 3) := dk_181 0 88 (dk_at dksX9_bad_0 20 rfl rfl)
theorem dX9_bad_23 : decode cX9_bad 23 = .ok (.return_, 1) := dk_177 (dk_at dksX9_bad_0 23 rfl rfl)
abbrev cX9_isWhole : ByteArray := prog_28_method_18_code
def yX9_isWhole : MethodName := ⟨RX9, "isWhole", "()Z"⟩
def dkwX9_isWhole_4 : List UInt8 := [167, 255, 178, 27, 172]
abbrev dktX9_isWhole_4 : List UInt8 := dkwX9_isWhole_4 ++ []
def dkwX9_isWhole_3 : List UInt8 := [104, 5, 96, 46, 42, 180, 0, 16, 29, 46, 162, 0, 7, 4, 167, 0, 4, 3, 60, 132, 2, 1]
abbrev dktX9_isWhole_3 : List UInt8 := dkwX9_isWhole_3 ++ dktX9_isWhole_4
def dkwX9_isWhole_2 : List UInt8 := [180, 0, 19, 7, 28, 104, 4, 96, 46, 42, 180, 0, 16, 29, 46, 162, 0, 26, 42, 180, 0, 19, 7, 28]
abbrev dktX9_isWhole_2 : List UInt8 := dkwX9_isWhole_2 ++ dktX9_isWhole_3
def dkwX9_isWhole_1 : List UInt8 := [153, 0, 72, 42, 180, 0, 19, 7, 28, 104, 3, 96, 46, 62, 29, 42, 180, 0, 122, 162, 0, 45, 42]
abbrev dktX9_isWhole_1 : List UInt8 := dkwX9_isWhole_1 ++ dktX9_isWhole_2
def dkwX9_isWhole_0 : List UInt8 := [42, 180, 0, 122, 158, 0, 7, 4, 167, 0, 4, 3, 60, 3, 61, 28, 42, 180, 0, 125, 162, 0, 76, 27]
abbrev dktX9_isWhole_0 : List UInt8 := dkwX9_isWhole_0 ++ dktX9_isWhole_1
theorem dksX9_isWhole_0 : cX9_isWhole.data.toList.drop 0 = dktX9_isWhole_0 := by decide +kernel
theorem dksX9_isWhole_1 : cX9_isWhole.data.toList.drop 24 = dktX9_isWhole_1 := dk_seg dksX9_isWhole_0 24 rfl rfl
theorem dksX9_isWhole_2 : cX9_isWhole.data.toList.drop 47 = dktX9_isWhole_2 := dk_seg dksX9_isWhole_1 23 rfl rfl
theorem dksX9_isWhole_3 : cX9_isWhole.data.toList.drop 71 = dktX9_isWhole_3 := dk_seg dksX9_isWhole_2 24 rfl rfl
theorem dksX9_isWhole_4 : cX9_isWhole.data.toList.drop 93 = dktX9_isWhole_4 := dk_seg dksX9_isWhole_3 22 rfl rfl
theorem dX9_isWhole_0 : decode cX9_isWhole 0 = .ok (.aload_n 0, 1) := dk_42 (dk_at dksX9_isWhole_0 0 rfl rfl)
theorem dX9_isWhole_1 : decode cX9_isWhole 1 = .ok (.getfield 122, 3) := dk_180 0 122 (dk_at dksX9_isWhole_0 1 rfl rfl)
theorem dX9_isWhole_4 : decode cX9_isWhole 4 = .ok (.ifCond .le 7, 3) := dk_158 0 7 (dk_at dksX9_isWhole_0 4 rfl rfl)
theorem dX9_isWhole_7 : decode cX9_isWhole 7 = .ok (.iconst 1, 1) := dk_4 (dk_at dksX9_isWhole_0 7 rfl rfl)
theorem dX9_isWhole_8 : decode cX9_isWhole 8 = .ok (.goto 4, 3) := dk_167 0 4 (dk_at dksX9_isWhole_0 8 rfl rfl)
theorem dX9_isWhole_11 : decode cX9_isWhole 11 = .ok (.iconst 0, 1) := dk_3 (dk_at dksX9_isWhole_0 11 rfl rfl)
theorem dX9_isWhole_12 : decode cX9_isWhole 12 = .ok (.istore_n 1, 1) := dk_60 (dk_at dksX9_isWhole_0 12 rfl rfl)
theorem dX9_isWhole_13 : decode cX9_isWhole 13 = .ok (.iconst 0, 1) := dk_3 (dk_at dksX9_isWhole_0 13 rfl rfl)
theorem dX9_isWhole_14 : decode cX9_isWhole 14 = .ok (.istore_n 2, 1) := dk_61 (dk_at dksX9_isWhole_0 14 rfl rfl)
theorem dX9_isWhole_15 : decode cX9_isWhole 15 = .ok (.iload_n 2, 1) := dk_28 (dk_at dksX9_isWhole_0 15 rfl rfl)
theorem dX9_isWhole_16 : decode cX9_isWhole 16 = .ok (.aload_n 0, 1) := dk_42 (dk_at dksX9_isWhole_0 16 rfl rfl)
theorem dX9_isWhole_17 : decode cX9_isWhole 17 = .ok (.getfield 125, 3) := dk_180 0 125 (dk_at dksX9_isWhole_0 17 rfl rfl)
theorem dX9_isWhole_20 : decode cX9_isWhole 20 = .ok (.if_icmp .ge 76, 3) := dk_162 0 76 (dk_at dksX9_isWhole_0 20 rfl rfl)
theorem dX9_isWhole_23 : decode cX9_isWhole 23 = .ok (.iload_n 1, 1) := dk_27 (dk_at dksX9_isWhole_0 23 rfl rfl)
theorem dX9_isWhole_24 : decode cX9_isWhole 24 = .ok (.ifCond .eq 72, 3) := dk_153 0 72 (dk_at dksX9_isWhole_1 0 rfl rfl)
theorem dX9_isWhole_27 : decode cX9_isWhole 27 = .ok (.aload_n 0, 1) := dk_42 (dk_at dksX9_isWhole_1 3 rfl rfl)
theorem dX9_isWhole_28 : decode cX9_isWhole 28 = .ok (.getfield 19, 3) := dk_180 0 19 (dk_at dksX9_isWhole_1 4 rfl rfl)
theorem dX9_isWhole_31 : decode cX9_isWhole 31 = .ok (.iconst 4, 1) := dk_7 (dk_at dksX9_isWhole_1 7 rfl rfl)
theorem dX9_isWhole_32 : decode cX9_isWhole 32 = .ok (.iload_n 2, 1) := dk_28 (dk_at dksX9_isWhole_1 8 rfl rfl)
theorem dX9_isWhole_33 : decode cX9_isWhole 33 = .ok (.imul, 1) := dk_104 (dk_at dksX9_isWhole_1 9 rfl rfl)
theorem dX9_isWhole_34 : decode cX9_isWhole 34 = .ok (.iconst 0, 1) := dk_3 (dk_at dksX9_isWhole_1 10 rfl rfl)
theorem dX9_isWhole_35 : decode cX9_isWhole 35 = .ok (.iadd, 1) := dk_96 (dk_at dksX9_isWhole_1 11 rfl rfl)
theorem dX9_isWhole_36 : decode cX9_isWhole 36 = .ok (.iaload, 1) := dk_46 (dk_at dksX9_isWhole_1 12 rfl rfl)
theorem dX9_isWhole_37 : decode cX9_isWhole 37 = .ok (.istore_n 3, 1) := dk_62 (dk_at dksX9_isWhole_1 13 rfl rfl)
theorem dX9_isWhole_38 : decode cX9_isWhole 38 = .ok (.iload_n 3, 1) := dk_29 (dk_at dksX9_isWhole_1 14 rfl rfl)
theorem dX9_isWhole_39 : decode cX9_isWhole 39 = .ok (.aload_n 0, 1) := dk_42 (dk_at dksX9_isWhole_1 15 rfl rfl)
theorem dX9_isWhole_40 : decode cX9_isWhole 40 = .ok (.getfield 122, 3) := dk_180 0 122 (dk_at dksX9_isWhole_1 16 rfl rfl)
theorem dX9_isWhole_43 : decode cX9_isWhole 43 = .ok (.if_icmp .ge 45, 3) := dk_162 0 45 (dk_at dksX9_isWhole_1 19 rfl rfl)
theorem dX9_isWhole_46 : decode cX9_isWhole 46 = .ok (.aload_n 0, 1) := dk_42 (dk_at dksX9_isWhole_1 22 rfl rfl)
theorem dX9_isWhole_47 : decode cX9_isWhole 47 = .ok (.getfield 19, 3) := dk_180 0 19 (dk_at dksX9_isWhole_2 0 rfl rfl)
theorem dX9_isWhole_50 : decode cX9_isWhole 50 = .ok (.iconst 4, 1) := dk_7 (dk_at dksX9_isWhole_2 3 rfl rfl)
theorem dX9_isWhole_51 : decode cX9_isWhole 51 = .ok (.iload_n 2, 1) := dk_28 (dk_at dksX9_isWhole_2 4 rfl rfl)
theorem dX9_isWhole_52 : decode cX9_isWhole 52 = .ok (.imul, 1) := dk_104 (dk_at dksX9_isWhole_2 5 rfl rfl)
theorem dX9_isWhole_53 : decode cX9_isWhole 53 = .ok (.iconst 1, 1) := dk_4 (dk_at dksX9_isWhole_2 6 rfl rfl)
theorem dX9_isWhole_54 : decode cX9_isWhole 54 = .ok (.iadd, 1) := dk_96 (dk_at dksX9_isWhole_2 7 rfl rfl)
theorem dX9_isWhole_55 : decode cX9_isWhole 55 = .ok (.iaload, 1) := dk_46 (dk_at dksX9_isWhole_2 8 rfl rfl)
theorem dX9_isWhole_56 : decode cX9_isWhole 56 = .ok (.aload_n 0, 1) := dk_42 (dk_at dksX9_isWhole_2 9 rfl rfl)
theorem dX9_isWhole_57 : decode cX9_isWhole 57 = .ok (.getfield 16, 3) := dk_180 0 16 (dk_at dksX9_isWhole_2 10 rfl rfl)
theorem dX9_isWhole_60 : decode cX9_isWhole 60 = .ok (.iload_n 3, 1) := dk_29 (dk_at dksX9_isWhole_2 13 rfl rfl)
theorem dX9_isWhole_61 : decode cX9_isWhole 61 = .ok (.iaload, 1) := dk_46 (dk_at dksX9_isWhole_2 14 rfl rfl)
theorem dX9_isWhole_62 : decode cX9_isWhole 62 = .ok (.if_icmp .ge 26, 3) := dk_162 0 26 (dk_at dksX9_isWhole_2 15 rfl rfl)
theorem dX9_isWhole_65 : decode cX9_isWhole 65 = .ok (.aload_n 0, 1) := dk_42 (dk_at dksX9_isWhole_2 18 rfl rfl)
theorem dX9_isWhole_66 : decode cX9_isWhole 66 = .ok (.getfield 19, 3) := dk_180 0 19 (dk_at dksX9_isWhole_2 19 rfl rfl)
theorem dX9_isWhole_69 : decode cX9_isWhole 69 = .ok (.iconst 4, 1) := dk_7 (dk_at dksX9_isWhole_2 22 rfl rfl)
theorem dX9_isWhole_70 : decode cX9_isWhole 70 = .ok (.iload_n 2, 1) := dk_28 (dk_at dksX9_isWhole_2 23 rfl rfl)
theorem dX9_isWhole_71 : decode cX9_isWhole 71 = .ok (.imul, 1) := dk_104 (dk_at dksX9_isWhole_3 0 rfl rfl)
theorem dX9_isWhole_72 : decode cX9_isWhole 72 = .ok (.iconst 2, 1) := dk_5 (dk_at dksX9_isWhole_3 1 rfl rfl)
theorem dX9_isWhole_73 : decode cX9_isWhole 73 = .ok (.iadd, 1) := dk_96 (dk_at dksX9_isWhole_3 2 rfl rfl)
theorem dX9_isWhole_74 : decode cX9_isWhole 74 = .ok (.iaload, 1) := dk_46 (dk_at dksX9_isWhole_3 3 rfl rfl)
theorem dX9_isWhole_75 : decode cX9_isWhole 75 = .ok (.aload_n 0, 1) := dk_42 (dk_at dksX9_isWhole_3 4 rfl rfl)
theorem dX9_isWhole_76 : decode cX9_isWhole 76 = .ok (.getfield 16, 3) := dk_180 0 16 (dk_at dksX9_isWhole_3 5 rfl rfl)
theorem dX9_isWhole_79 : decode cX9_isWhole 79 = .ok (.iload_n 3, 1) := dk_29 (dk_at dksX9_isWhole_3 8 rfl rfl)
theorem dX9_isWhole_80 : decode cX9_isWhole 80 = .ok (.iaload, 1) := dk_46 (dk_at dksX9_isWhole_3 9 rfl rfl)
theorem dX9_isWhole_81 : decode cX9_isWhole 81 = .ok (.if_icmp .ge 7, 3) := dk_162 0 7 (dk_at dksX9_isWhole_3 10 rfl rfl)
theorem dX9_isWhole_84 : decode cX9_isWhole 84 = .ok (.iconst 1, 1) := dk_4 (dk_at dksX9_isWhole_3 13 rfl rfl)
theorem dX9_isWhole_85 : decode cX9_isWhole 85 = .ok (.goto 4, 3) := dk_167 0 4 (dk_at dksX9_isWhole_3 14 rfl rfl)
theorem dX9_isWhole_88 : decode cX9_isWhole 88 = .ok (.iconst 0, 1) := dk_3 (dk_at dksX9_isWhole_3 17 rfl rfl)
theorem dX9_isWhole_89 : decode cX9_isWhole 89 = .ok (.istore_n 1, 1) := dk_60 (dk_at dksX9_isWhole_3 18 rfl rfl)
theorem dX9_isWhole_90 : decode cX9_isWhole 90 = .ok (.iinc 2 1, 3) := dk_132 2 1 (dk_at dksX9_isWhole_3 19 rfl rfl)
theorem dX9_isWhole_93 : decode cX9_isWhole 93 = .ok (.goto (-78), 3) := dk_167 255 178 (dk_at dksX9_isWhole_4 0 rfl rfl)
theorem dX9_isWhole_96 : decode cX9_isWhole 96 = .ok (.iload_n 1, 1) := dk_27 (dk_at dksX9_isWhole_4 3 rfl rfl)
theorem dX9_isWhole_97 : decode cX9_isWhole 97 = .ok (.ireturn, 1) := dk_172 (dk_at dksX9_isWhole_4 4 rfl rfl)
abbrev cX9_readWhere : ByteArray := prog_28_method_21_code
def yX9_readWhere : MethodName := ⟨RX9, "readWhere", "(I)I"⟩
def dkwX9_readWhere_5 : List UInt8 := [182, 0, 91, 2, 159, 0, 7, 42, 182, 0, 98, 42, 180, 0, 88, 172]
abbrev dktX9_readWhere_5 : List UInt8 := dkwX9_readWhere_5 ++ []
def dkwX9_readWhere_4 : List UInt8 := [160, 0, 7, 4, 167, 0, 4, 3, 96, 61, 167, 255, 175, 42, 180, 0, 88, 2, 160, 0, 15, 42]
abbrev dktX9_readWhere_4 : List UInt8 := dkwX9_readWhere_4 ++ dktX9_readWhere_5
def dkwX9_readWhere_3 : List UInt8 := [89, 180, 0, 81, 29, 153, 0, 7, 4, 167, 0, 4, 3, 96, 181, 0, 81, 28, 21, 4, 16, 124]
abbrev dktX9_readWhere_3 : List UInt8 := dkwX9_readWhere_3 ++ dktX9_readWhere_4
def dkwX9_readWhere_2 : List UInt8 := [2, 54, 4, 21, 4, 16, 38, 159, 0, 10, 21, 4, 16, 124, 160, 0, 7, 4, 167, 0, 4, 3, 62, 42]
abbrev dktX9_readWhere_2 : List UInt8 := dkwX9_readWhere_2 ++ dktX9_readWhere_3
def dkwX9_readWhere_1 : List UInt8 := [153, 0, 83, 42, 27, 28, 182, 0, 136, 42, 180, 0, 88, 2, 160, 0, 10, 42, 182, 0, 91, 167, 0, 4]
abbrev dktX9_readWhere_1 : List UInt8 := dkwX9_readWhere_1 ++ dktX9_readWhere_2
def dkwX9_readWhere_0 : List UInt8 := [42, 3, 181, 0, 81, 42, 2, 181, 0, 88, 42, 180, 0, 31, 27, 3, 79, 3, 61, 4, 62, 29]
abbrev dktX9_readWhere_0 : List UInt8 := dkwX9_readWhere_0 ++ dktX9_readWhere_1
theorem dksX9_readWhere_0 : cX9_readWhere.data.toList.drop 0 = dktX9_readWhere_0 := by decide +kernel
theorem dksX9_readWhere_1 : cX9_readWhere.data.toList.drop 22 = dktX9_readWhere_1 := dk_seg dksX9_readWhere_0 22 rfl rfl
theorem dksX9_readWhere_2 : cX9_readWhere.data.toList.drop 46 = dktX9_readWhere_2 := dk_seg dksX9_readWhere_1 24 rfl rfl
theorem dksX9_readWhere_3 : cX9_readWhere.data.toList.drop 70 = dktX9_readWhere_3 := dk_seg dksX9_readWhere_2 24 rfl rfl
theorem dksX9_readWhere_4 : cX9_readWhere.data.toList.drop 92 = dktX9_readWhere_4 := dk_seg dksX9_readWhere_3 22 rfl rfl
theorem dksX9_readWhere_5 : cX9_readWhere.data.toList.drop 114 = dktX9_readWhere_5 := dk_seg dksX9_readWhere_4 22 rfl rfl
theorem dX9_readWhere_0 : decode cX9_readWhere 0 = .ok (.aload_n 0, 1) := dk_42 (dk_at dksX9_readWhere_0 0 rfl rfl)
theorem dX9_readWhere_1 : decode cX9_readWhere 1 = .ok (.iconst 0, 1) := dk_3 (dk_at dksX9_readWhere_0 1 rfl rfl)
theorem dX9_readWhere_2 : decode cX9_readWhere 2 = .ok (.putfield 81, 3) := dk_181 0 81 (dk_at dksX9_readWhere_0 2 rfl rfl)
theorem dX9_readWhere_5 : decode cX9_readWhere 5 = .ok (.aload_n 0, 1) := dk_42 (dk_at dksX9_readWhere_0 5 rfl rfl)
theorem dX9_readWhere_6 : decode cX9_readWhere 6 = .ok (.iconst (-1), 1) := dk_2 (dk_at dksX9_readWhere_0 6 rfl rfl)
theorem dX9_readWhere_7 : decode cX9_readWhere 7 = .ok (.putfield 88, 3) := dk_181 0 88 (dk_at dksX9_readWhere_0 7 rfl rfl)
theorem dX9_readWhere_10 : decode cX9_readWhere 10 = .ok (.aload_n 0, 1) := dk_42 (dk_at dksX9_readWhere_0 10 rfl rfl)
theorem dX9_readWhere_11 : decode cX9_readWhere 11 = .ok (.getfield 31, 3) := dk_180 0 31 (dk_at dksX9_readWhere_0 11 rfl rfl)
theorem dX9_readWhere_14 : decode cX9_readWhere 14 = .ok (.iload_n 1, 1) := dk_27 (dk_at dksX9_readWhere_0 14 rfl rfl)
theorem dX9_readWhere_15 : decode cX9_readWhere 15 = .ok (.iconst 0, 1) := dk_3 (dk_at dksX9_readWhere_0 15 rfl rfl)
theorem dX9_readWhere_16 : decode cX9_readWhere 16 = .ok (.iastore, 1) := dk_79 (dk_at dksX9_readWhere_0 16 rfl rfl)
theorem dX9_readWhere_17 : decode cX9_readWhere 17 = .ok (.iconst 0, 1) := dk_3 (dk_at dksX9_readWhere_0 17 rfl rfl)
theorem dX9_readWhere_18 : decode cX9_readWhere 18 = .ok (.istore_n 2, 1) := dk_61 (dk_at dksX9_readWhere_0 18 rfl rfl)
theorem dX9_readWhere_19 : decode cX9_readWhere 19 = .ok (.iconst 1, 1) := dk_4 (dk_at dksX9_readWhere_0 19 rfl rfl)
theorem dX9_readWhere_20 : decode cX9_readWhere 20 = .ok (.istore_n 3, 1) := dk_62 (dk_at dksX9_readWhere_0 20 rfl rfl)
theorem dX9_readWhere_21 : decode cX9_readWhere 21 = .ok (.iload_n 3, 1) := dk_29 (dk_at dksX9_readWhere_0 21 rfl rfl)
theorem dX9_readWhere_22 : decode cX9_readWhere 22 = .ok (.ifCond .eq 83, 3) := dk_153 0 83 (dk_at dksX9_readWhere_1 0 rfl rfl)
theorem dX9_readWhere_25 : decode cX9_readWhere 25 = .ok (.aload_n 0, 1) := dk_42 (dk_at dksX9_readWhere_1 3 rfl rfl)
theorem dX9_readWhere_26 : decode cX9_readWhere 26 = .ok (.iload_n 1, 1) := dk_27 (dk_at dksX9_readWhere_1 4 rfl rfl)
theorem dX9_readWhere_27 : decode cX9_readWhere 27 = .ok (.iload_n 2, 1) := dk_28 (dk_at dksX9_readWhere_1 5 rfl rfl)
theorem dX9_readWhere_28 : decode cX9_readWhere 28 = .ok (.invokevirtual 136, 3) := dk_182 0 136 (dk_at dksX9_readWhere_1 6 rfl rfl)
theorem dX9_readWhere_31 : decode cX9_readWhere 31 = .ok (.aload_n 0, 1) := dk_42 (dk_at dksX9_readWhere_1 9 rfl rfl)
theorem dX9_readWhere_32 : decode cX9_readWhere 32 = .ok (.getfield 88, 3) := dk_180 0 88 (dk_at dksX9_readWhere_1 10 rfl rfl)
theorem dX9_readWhere_35 : decode cX9_readWhere 35 = .ok (.iconst (-1), 1) := dk_2 (dk_at dksX9_readWhere_1 13 rfl rfl)
theorem dX9_readWhere_36 : decode cX9_readWhere 36 = .ok (.if_icmp .ne 10, 3) := dk_160 0 10 (dk_at dksX9_readWhere_1 14 rfl rfl)
theorem dX9_readWhere_39 : decode cX9_readWhere 39 = .ok (.aload_n 0, 1) := dk_42 (dk_at dksX9_readWhere_1 17 rfl rfl)
theorem dX9_readWhere_40 : decode cX9_readWhere 40 = .ok (.invokevirtual 91, 3) := dk_182 0 91 (dk_at dksX9_readWhere_1 18 rfl rfl)
theorem dX9_readWhere_43 : decode cX9_readWhere 43 = .ok (.goto 4, 3) := dk_167 0 4 (dk_at dksX9_readWhere_1 21 rfl rfl)
theorem dX9_readWhere_46 : decode cX9_readWhere 46 = .ok (.iconst (-1), 1) := dk_2 (dk_at dksX9_readWhere_2 0 rfl rfl)
theorem dX9_readWhere_47 : decode cX9_readWhere 47 = .ok (.istore 4, 2) := dk_54 4 (dk_at dksX9_readWhere_2 1 rfl rfl)
theorem dX9_readWhere_49 : decode cX9_readWhere 49 = .ok (.iload 4, 2) := dk_21 4 (dk_at dksX9_readWhere_2 3 rfl rfl)
theorem dX9_readWhere_51 : decode cX9_readWhere 51 = .ok (.bipush 38, 2) := dk_16 38 (dk_at dksX9_readWhere_2 5 rfl rfl)
theorem dX9_readWhere_53 : decode cX9_readWhere 53 = .ok (.if_icmp .eq 10, 3) := dk_159 0 10 (dk_at dksX9_readWhere_2 7 rfl rfl)
theorem dX9_readWhere_56 : decode cX9_readWhere 56 = .ok (.iload 4, 2) := dk_21 4 (dk_at dksX9_readWhere_2 10 rfl rfl)
theorem dX9_readWhere_58 : decode cX9_readWhere 58 = .ok (.bipush 124, 2) := dk_16 124 (dk_at dksX9_readWhere_2 12 rfl rfl)
theorem dX9_readWhere_60 : decode cX9_readWhere 60 = .ok (.if_icmp .ne 7, 3) := dk_160 0 7 (dk_at dksX9_readWhere_2 14 rfl rfl)
theorem dX9_readWhere_63 : decode cX9_readWhere 63 = .ok (.iconst 1, 1) := dk_4 (dk_at dksX9_readWhere_2 17 rfl rfl)
theorem dX9_readWhere_64 : decode cX9_readWhere 64 = .ok (.goto 4, 3) := dk_167 0 4 (dk_at dksX9_readWhere_2 18 rfl rfl)
theorem dX9_readWhere_67 : decode cX9_readWhere 67 = .ok (.iconst 0, 1) := dk_3 (dk_at dksX9_readWhere_2 21 rfl rfl)
theorem dX9_readWhere_68 : decode cX9_readWhere 68 = .ok (.istore_n 3, 1) := dk_62 (dk_at dksX9_readWhere_2 22 rfl rfl)
theorem dX9_readWhere_69 : decode cX9_readWhere 69 = .ok (.aload_n 0, 1) := dk_42 (dk_at dksX9_readWhere_2 23 rfl rfl)
theorem dX9_readWhere_70 : decode cX9_readWhere 70 = .ok (.dup, 1) := dk_89 (dk_at dksX9_readWhere_3 0 rfl rfl)
theorem dX9_readWhere_71 : decode cX9_readWhere 71 = .ok (.getfield 81, 3) := dk_180 0 81 (dk_at dksX9_readWhere_3 1 rfl rfl)
theorem dX9_readWhere_74 : decode cX9_readWhere 74 = .ok (.iload_n 3, 1) := dk_29 (dk_at dksX9_readWhere_3 4 rfl rfl)
theorem dX9_readWhere_75 : decode cX9_readWhere 75 = .ok (.ifCond .eq 7, 3) := dk_153 0 7 (dk_at dksX9_readWhere_3 5 rfl rfl)
theorem dX9_readWhere_78 : decode cX9_readWhere 78 = .ok (.iconst 1, 1) := dk_4 (dk_at dksX9_readWhere_3 8 rfl rfl)
theorem dX9_readWhere_79 : decode cX9_readWhere 79 = .ok (.goto 4, 3) := dk_167 0 4 (dk_at dksX9_readWhere_3 9 rfl rfl)
theorem dX9_readWhere_82 : decode cX9_readWhere 82 = .ok (.iconst 0, 1) := dk_3 (dk_at dksX9_readWhere_3 12 rfl rfl)
theorem dX9_readWhere_83 : decode cX9_readWhere 83 = .ok (.iadd, 1) := dk_96 (dk_at dksX9_readWhere_3 13 rfl rfl)
theorem dX9_readWhere_84 : decode cX9_readWhere 84 = .ok (.putfield 81, 3) := dk_181 0 81 (dk_at dksX9_readWhere_3 14 rfl rfl)
theorem dX9_readWhere_87 : decode cX9_readWhere 87 = .ok (.iload_n 2, 1) := dk_28 (dk_at dksX9_readWhere_3 17 rfl rfl)
theorem dX9_readWhere_88 : decode cX9_readWhere 88 = .ok (.iload 4, 2) := dk_21 4 (dk_at dksX9_readWhere_3 18 rfl rfl)
theorem dX9_readWhere_90 : decode cX9_readWhere 90 = .ok (.bipush 124, 2) := dk_16 124 (dk_at dksX9_readWhere_3 20 rfl rfl)
theorem dX9_readWhere_92 : decode cX9_readWhere 92 = .ok (.if_icmp .ne 7, 3) := dk_160 0 7 (dk_at dksX9_readWhere_4 0 rfl rfl)
theorem dX9_readWhere_95 : decode cX9_readWhere 95 = .ok (.iconst 1, 1) := dk_4 (dk_at dksX9_readWhere_4 3 rfl rfl)
theorem dX9_readWhere_96 : decode cX9_readWhere 96 = .ok (.goto 4, 3) := dk_167 0 4 (dk_at dksX9_readWhere_4 4 rfl rfl)
theorem dX9_readWhere_99 : decode cX9_readWhere 99 = .ok (.iconst 0, 1) := dk_3 (dk_at dksX9_readWhere_4 7 rfl rfl)
theorem dX9_readWhere_100 : decode cX9_readWhere 100 = .ok (.iadd, 1) := dk_96 (dk_at dksX9_readWhere_4 8 rfl rfl)
theorem dX9_readWhere_101 : decode cX9_readWhere 101 = .ok (.istore_n 2, 1) := dk_61 (dk_at dksX9_readWhere_4 9 rfl rfl)
theorem dX9_readWhere_102 : decode cX9_readWhere 102 = .ok (.goto (-81), 3) := dk_167 255 175 (dk_at dksX9_readWhere_4 10 rfl rfl)
theorem dX9_readWhere_105 : decode cX9_readWhere 105 = .ok (.aload_n 0, 1) := dk_42 (dk_at dksX9_readWhere_4 13 rfl rfl)
theorem dX9_readWhere_106 : decode cX9_readWhere 106 = .ok (.getfield 88, 3) := dk_180 0 88 (dk_at dksX9_readWhere_4 14 rfl rfl)
theorem dX9_readWhere_109 : decode cX9_readWhere 109 = .ok (.iconst (-1), 1) := dk_2 (dk_at dksX9_readWhere_4 17 rfl rfl)
theorem dX9_readWhere_110 : decode cX9_readWhere 110 = .ok (.if_icmp .ne 15, 3) := dk_160 0 15 (dk_at dksX9_readWhere_4 18 rfl rfl)
theorem dX9_readWhere_113 : decode cX9_readWhere 113 = .ok (.aload_n 0, 1) := dk_42 (dk_at dksX9_readWhere_4 21 rfl rfl)
theorem dX9_readWhere_114 : decode cX9_readWhere 114 = .ok (.invokevirtual 91, 3) := dk_182 0 91 (dk_at dksX9_readWhere_5 0 rfl rfl)
theorem dX9_readWhere_117 : decode cX9_readWhere 117 = .ok (.iconst (-1), 1) := dk_2 (dk_at dksX9_readWhere_5 3 rfl rfl)
theorem dX9_readWhere_118 : decode cX9_readWhere 118 = .ok (.if_icmp .eq 7, 3) := dk_159 0 7 (dk_at dksX9_readWhere_5 4 rfl rfl)
theorem dX9_readWhere_121 : decode cX9_readWhere 121 = .ok (.aload_n 0, 1) := dk_42 (dk_at dksX9_readWhere_5 7 rfl rfl)
theorem dX9_readWhere_122 : decode cX9_readWhere 122 = .ok (.invokevirtual 98, 3) := dk_182 0 98 (dk_at dksX9_readWhere_5 8 rfl rfl)
theorem dX9_readWhere_125 : decode cX9_readWhere 125 = .ok (.aload_n 0, 1) := dk_42 (dk_at dksX9_readWhere_5 11 rfl rfl)
theorem dX9_readWhere_126 : decode cX9_readWhere 126 = .ok (.getfield 88, 3) := dk_180 0 88 (dk_at dksX9_readWhere_5 12 rfl rfl)
theorem dX9_readWhere_129 : decode cX9_readWhere 129 = .ok (.ireturn, 1) := dk_172 (dk_at dksX9_readWhere_5 15 rfl rfl)
abbrev cX9_readUnit : ByteArray := prog_28_method_20_code
def yX9_readUnit : MethodName := ⟨RX9, "readUnit", "(II)V"⟩
def dkwX9_readUnit_9 : List UInt8 := [96, 79, 177]
abbrev dktX9_readUnit_9 : List UInt8 := dkwX9_readUnit_9 ++ []
def dkwX9_readUnit_8 : List UInt8 := [180, 0, 28, 21, 4, 6, 96, 42, 5, 3, 16, 99, 182, 0, 118, 79, 42, 180, 0, 31, 27, 92, 46, 4]
abbrev dktX9_readUnit_8 : List UInt8 := dkwX9_readUnit_8 ++ dktX9_readUnit_9
def dkwX9_readUnit_7 : List UInt8 := [182, 0, 98, 177, 42, 89, 180, 0, 81, 4, 96, 181, 0, 81, 21, 5, 16, 63, 159, 0, 20, 42]
abbrev dktX9_readUnit_7 : List UInt8 := dkwX9_readUnit_7 ++ dktX9_readUnit_8
def dkwX9_readUnit_6 : List UInt8 := [160, 0, 7, 6, 167, 0, 4, 2, 79, 42, 180, 0, 28, 21, 4, 5, 96, 46, 2, 160, 0, 8, 42]
abbrev dktX9_readUnit_6 : List UInt8 := dkwX9_readUnit_6 ++ dktX9_readUnit_7
def dkwX9_readUnit_5 : List UInt8 := [16, 60, 160, 0, 7, 4, 167, 0, 26, 21, 5, 16, 62, 160, 0, 7, 5, 167, 0, 15, 21, 5, 16, 63]
abbrev dktX9_readUnit_5 : List UInt8 := dkwX9_readUnit_5 ++ dktX9_readUnit_6
def dkwX9_readUnit_4 : List UInt8 := [54, 5, 42, 180, 0, 28, 21, 4, 5, 96, 21, 5, 16, 61, 160, 0, 7, 3, 167, 0, 37, 21, 5]
abbrev dktX9_readUnit_4 : List UInt8 := dkwX9_readUnit_4 ++ dktX9_readUnit_5
def dkwX9_readUnit_3 : List UInt8 := [180, 0, 28, 21, 4, 6, 96, 2, 79, 42, 89, 180, 0, 81, 4, 96, 181, 0, 81, 42, 182, 0, 91]
abbrev dktX9_readUnit_3 : List UInt8 := dkwX9_readUnit_3 ++ dktX9_readUnit_4
def dkwX9_readUnit_2 : List UInt8 := [54, 4, 42, 180, 0, 28, 21, 4, 28, 79, 42, 180, 0, 28, 21, 4, 4, 96, 29, 16, 97, 100, 79, 42]
abbrev dktX9_readUnit_2 : List UInt8 := dkwX9_readUnit_2 ++ dktX9_readUnit_3
def dkwX9_readUnit_1 : List UInt8 := [16, 6, 160, 0, 8, 42, 182, 0, 98, 177, 7, 16, 6, 27, 104, 42, 180, 0, 31, 27, 46, 96, 104]
abbrev dktX9_readUnit_1 : List UInt8 := dkwX9_readUnit_1 ++ dktX9_readUnit_2
def dkwX9_readUnit_0 : List UInt8 := [42, 182, 0, 91, 62, 29, 16, 97, 159, 0, 9, 29, 16, 98, 160, 0, 14, 42, 180, 0, 31, 27, 46]
abbrev dktX9_readUnit_0 : List UInt8 := dkwX9_readUnit_0 ++ dktX9_readUnit_1
theorem dksX9_readUnit_0 : cX9_readUnit.data.toList.drop 0 = dktX9_readUnit_0 := by decide +kernel
theorem dksX9_readUnit_1 : cX9_readUnit.data.toList.drop 23 = dktX9_readUnit_1 := dk_seg dksX9_readUnit_0 23 rfl rfl
theorem dksX9_readUnit_2 : cX9_readUnit.data.toList.drop 46 = dktX9_readUnit_2 := dk_seg dksX9_readUnit_1 23 rfl rfl
theorem dksX9_readUnit_3 : cX9_readUnit.data.toList.drop 70 = dktX9_readUnit_3 := dk_seg dksX9_readUnit_2 24 rfl rfl
theorem dksX9_readUnit_4 : cX9_readUnit.data.toList.drop 93 = dktX9_readUnit_4 := dk_seg dksX9_readUnit_3 23 rfl rfl
theorem dksX9_readUnit_5 : cX9_readUnit.data.toList.drop 116 = dktX9_readUnit_5 := dk_seg dksX9_readUnit_4 23 rfl rfl
theorem dksX9_readUnit_6 : cX9_readUnit.data.toList.drop 140 = dktX9_readUnit_6 := dk_seg dksX9_readUnit_5 24 rfl rfl
theorem dksX9_readUnit_7 : cX9_readUnit.data.toList.drop 163 = dktX9_readUnit_7 := dk_seg dksX9_readUnit_6 23 rfl rfl
theorem dksX9_readUnit_8 : cX9_readUnit.data.toList.drop 185 = dktX9_readUnit_8 := dk_seg dksX9_readUnit_7 22 rfl rfl
theorem dksX9_readUnit_9 : cX9_readUnit.data.toList.drop 209 = dktX9_readUnit_9 := dk_seg dksX9_readUnit_8 24 rfl rfl
theorem dX9_readUnit_0 : decode cX9_readUnit 0 = .ok (.aload_n 0, 1) := dk_42 (dk_at dksX9_readUnit_0 0 rfl rfl)
theorem dX9_readUnit_1 : decode cX9_readUnit 1 = .ok (.invokevirtual 91, 3) := dk_182 0 91 (dk_at dksX9_readUnit_0 1 rfl rfl)
theorem dX9_readUnit_4 : decode cX9_readUnit 4 = .ok (.istore_n 3, 1) := dk_62 (dk_at dksX9_readUnit_0 4 rfl rfl)
theorem dX9_readUnit_5 : decode cX9_readUnit 5 = .ok (.iload_n 3, 1) := dk_29 (dk_at dksX9_readUnit_0 5 rfl rfl)
theorem dX9_readUnit_6 : decode cX9_readUnit 6 = .ok (.bipush 97, 2) := dk_16 97 (dk_at dksX9_readUnit_0 6 rfl rfl)
theorem dX9_readUnit_8 : decode cX9_readUnit 8 = .ok (.if_icmp .eq 9, 3) := dk_159 0 9 (dk_at dksX9_readUnit_0 8 rfl rfl)
theorem dX9_readUnit_11 : decode cX9_readUnit 11 = .ok (.iload_n 3, 1) := dk_29 (dk_at dksX9_readUnit_0 11 rfl rfl)
theorem dX9_readUnit_12 : decode cX9_readUnit 12 = .ok (.bipush 98, 2) := dk_16 98 (dk_at dksX9_readUnit_0 12 rfl rfl)
theorem dX9_readUnit_14 : decode cX9_readUnit 14 = .ok (.if_icmp .ne 14, 3) := dk_160 0 14 (dk_at dksX9_readUnit_0 14 rfl rfl)
theorem dX9_readUnit_17 : decode cX9_readUnit 17 = .ok (.aload_n 0, 1) := dk_42 (dk_at dksX9_readUnit_0 17 rfl rfl)
theorem dX9_readUnit_18 : decode cX9_readUnit 18 = .ok (.getfield 31, 3) := dk_180 0 31 (dk_at dksX9_readUnit_0 18 rfl rfl)
theorem dX9_readUnit_21 : decode cX9_readUnit 21 = .ok (.iload_n 1, 1) := dk_27 (dk_at dksX9_readUnit_0 21 rfl rfl)
theorem dX9_readUnit_22 : decode cX9_readUnit 22 = .ok (.iaload, 1) := dk_46 (dk_at dksX9_readUnit_0 22 rfl rfl)
theorem dX9_readUnit_23 : decode cX9_readUnit 23 = .ok (.bipush 6, 2) := dk_16 6 (dk_at dksX9_readUnit_1 0 rfl rfl)
theorem dX9_readUnit_25 : decode cX9_readUnit 25 = .ok (.if_icmp .ne 8, 3) := dk_160 0 8 (dk_at dksX9_readUnit_1 2 rfl rfl)
theorem dX9_readUnit_28 : decode cX9_readUnit 28 = .ok (.aload_n 0, 1) := dk_42 (dk_at dksX9_readUnit_1 5 rfl rfl)
theorem dX9_readUnit_29 : decode cX9_readUnit 29 = .ok (.invokevirtual 98, 3) := dk_182 0 98 (dk_at dksX9_readUnit_1 6 rfl rfl)
theorem dX9_readUnit_32 : decode cX9_readUnit 32 = .ok (.return_, 1) := dk_177 (dk_at dksX9_readUnit_1 9 rfl rfl)
theorem dX9_readUnit_33 : decode cX9_readUnit 33 = .ok (.iconst 4, 1) := dk_7 (dk_at dksX9_readUnit_1 10 rfl rfl)
theorem dX9_readUnit_34 : decode cX9_readUnit 34 = .ok (.bipush 6, 2) := dk_16 6 (dk_at dksX9_readUnit_1 11 rfl rfl)
theorem dX9_readUnit_36 : decode cX9_readUnit 36 = .ok (.iload_n 1, 1) := dk_27 (dk_at dksX9_readUnit_1 13 rfl rfl)
theorem dX9_readUnit_37 : decode cX9_readUnit 37 = .ok (.imul, 1) := dk_104 (dk_at dksX9_readUnit_1 14 rfl rfl)
theorem dX9_readUnit_38 : decode cX9_readUnit 38 = .ok (.aload_n 0, 1) := dk_42 (dk_at dksX9_readUnit_1 15 rfl rfl)
theorem dX9_readUnit_39 : decode cX9_readUnit 39 = .ok (.getfield 31, 3) := dk_180 0 31 (dk_at dksX9_readUnit_1 16 rfl rfl)
theorem dX9_readUnit_42 : decode cX9_readUnit 42 = .ok (.iload_n 1, 1) := dk_27 (dk_at dksX9_readUnit_1 19 rfl rfl)
theorem dX9_readUnit_43 : decode cX9_readUnit 43 = .ok (.iaload, 1) := dk_46 (dk_at dksX9_readUnit_1 20 rfl rfl)
theorem dX9_readUnit_44 : decode cX9_readUnit 44 = .ok (.iadd, 1) := dk_96 (dk_at dksX9_readUnit_1 21 rfl rfl)
theorem dX9_readUnit_45 : decode cX9_readUnit 45 = .ok (.imul, 1) := dk_104 (dk_at dksX9_readUnit_1 22 rfl rfl)
theorem dX9_readUnit_46 : decode cX9_readUnit 46 = .ok (.istore 4, 2) := dk_54 4 (dk_at dksX9_readUnit_2 0 rfl rfl)
theorem dX9_readUnit_48 : decode cX9_readUnit 48 = .ok (.aload_n 0, 1) := dk_42 (dk_at dksX9_readUnit_2 2 rfl rfl)
theorem dX9_readUnit_49 : decode cX9_readUnit 49 = .ok (.getfield 28, 3) := dk_180 0 28 (dk_at dksX9_readUnit_2 3 rfl rfl)
theorem dX9_readUnit_52 : decode cX9_readUnit 52 = .ok (.iload 4, 2) := dk_21 4 (dk_at dksX9_readUnit_2 6 rfl rfl)
theorem dX9_readUnit_54 : decode cX9_readUnit 54 = .ok (.iload_n 2, 1) := dk_28 (dk_at dksX9_readUnit_2 8 rfl rfl)
theorem dX9_readUnit_55 : decode cX9_readUnit 55 = .ok (.iastore, 1) := dk_79 (dk_at dksX9_readUnit_2 9 rfl rfl)
theorem dX9_readUnit_56 : decode cX9_readUnit 56 = .ok (.aload_n 0, 1) := dk_42 (dk_at dksX9_readUnit_2 10 rfl rfl)
theorem dX9_readUnit_57 : decode cX9_readUnit 57 = .ok (.getfield 28, 3) := dk_180 0 28 (dk_at dksX9_readUnit_2 11 rfl rfl)
theorem dX9_readUnit_60 : decode cX9_readUnit 60 = .ok (.iload 4, 2) := dk_21 4 (dk_at dksX9_readUnit_2 14 rfl rfl)
theorem dX9_readUnit_62 : decode cX9_readUnit 62 = .ok (.iconst 1, 1) := dk_4 (dk_at dksX9_readUnit_2 16 rfl rfl)
theorem dX9_readUnit_63 : decode cX9_readUnit 63 = .ok (.iadd, 1) := dk_96 (dk_at dksX9_readUnit_2 17 rfl rfl)
theorem dX9_readUnit_64 : decode cX9_readUnit 64 = .ok (.iload_n 3, 1) := dk_29 (dk_at dksX9_readUnit_2 18 rfl rfl)
theorem dX9_readUnit_65 : decode cX9_readUnit 65 = .ok (.bipush 97, 2) := dk_16 97 (dk_at dksX9_readUnit_2 19 rfl rfl)
theorem dX9_readUnit_67 : decode cX9_readUnit 67 = .ok (.isub, 1) := dk_100 (dk_at dksX9_readUnit_2 21 rfl rfl)
theorem dX9_readUnit_68 : decode cX9_readUnit 68 = .ok (.iastore, 1) := dk_79 (dk_at dksX9_readUnit_2 22 rfl rfl)
theorem dX9_readUnit_69 : decode cX9_readUnit 69 = .ok (.aload_n 0, 1) := dk_42 (dk_at dksX9_readUnit_2 23 rfl rfl)
theorem dX9_readUnit_70 : decode cX9_readUnit 70 = .ok (.getfield 28, 3) := dk_180 0 28 (dk_at dksX9_readUnit_3 0 rfl rfl)
theorem dX9_readUnit_73 : decode cX9_readUnit 73 = .ok (.iload 4, 2) := dk_21 4 (dk_at dksX9_readUnit_3 3 rfl rfl)
theorem dX9_readUnit_75 : decode cX9_readUnit 75 = .ok (.iconst 3, 1) := dk_6 (dk_at dksX9_readUnit_3 5 rfl rfl)
theorem dX9_readUnit_76 : decode cX9_readUnit 76 = .ok (.iadd, 1) := dk_96 (dk_at dksX9_readUnit_3 6 rfl rfl)
theorem dX9_readUnit_77 : decode cX9_readUnit 77 = .ok (.iconst (-1), 1) := dk_2 (dk_at dksX9_readUnit_3 7 rfl rfl)
theorem dX9_readUnit_78 : decode cX9_readUnit 78 = .ok (.iastore, 1) := dk_79 (dk_at dksX9_readUnit_3 8 rfl rfl)
theorem dX9_readUnit_79 : decode cX9_readUnit 79 = .ok (.aload_n 0, 1) := dk_42 (dk_at dksX9_readUnit_3 9 rfl rfl)
theorem dX9_readUnit_80 : decode cX9_readUnit 80 = .ok (.dup, 1) := dk_89 (dk_at dksX9_readUnit_3 10 rfl rfl)
theorem dX9_readUnit_81 : decode cX9_readUnit 81 = .ok (.getfield 81, 3) := dk_180 0 81 (dk_at dksX9_readUnit_3 11 rfl rfl)
theorem dX9_readUnit_84 : decode cX9_readUnit 84 = .ok (.iconst 1, 1) := dk_4 (dk_at dksX9_readUnit_3 14 rfl rfl)
theorem dX9_readUnit_85 : decode cX9_readUnit 85 = .ok (.iadd, 1) := dk_96 (dk_at dksX9_readUnit_3 15 rfl rfl)
theorem dX9_readUnit_86 : decode cX9_readUnit 86 = .ok (.putfield 81, 3) := dk_181 0 81 (dk_at dksX9_readUnit_3 16 rfl rfl)
theorem dX9_readUnit_89 : decode cX9_readUnit 89 = .ok (.aload_n 0, 1) := dk_42 (dk_at dksX9_readUnit_3 19 rfl rfl)
theorem dX9_readUnit_90 : decode cX9_readUnit 90 = .ok (.invokevirtual 91, 3) := dk_182 0 91 (dk_at dksX9_readUnit_3 20 rfl rfl)
theorem dX9_readUnit_93 : decode cX9_readUnit 93 = .ok (.istore 5, 2) := dk_54 5 (dk_at dksX9_readUnit_4 0 rfl rfl)
theorem dX9_readUnit_95 : decode cX9_readUnit 95 = .ok (.aload_n 0, 1) := dk_42 (dk_at dksX9_readUnit_4 2 rfl rfl)
theorem dX9_readUnit_96 : decode cX9_readUnit 96 = .ok (.getfield 28, 3) := dk_180 0 28 (dk_at dksX9_readUnit_4 3 rfl rfl)
theorem dX9_readUnit_99 : decode cX9_readUnit 99 = .ok (.iload 4, 2) := dk_21 4 (dk_at dksX9_readUnit_4 6 rfl rfl)
theorem dX9_readUnit_101 : decode cX9_readUnit 101 = .ok (.iconst 2, 1) := dk_5 (dk_at dksX9_readUnit_4 8 rfl rfl)
theorem dX9_readUnit_102 : decode cX9_readUnit 102 = .ok (.iadd, 1) := dk_96 (dk_at dksX9_readUnit_4 9 rfl rfl)
theorem dX9_readUnit_103 : decode cX9_readUnit 103 = .ok (.iload 5, 2) := dk_21 5 (dk_at dksX9_readUnit_4 10 rfl rfl)
theorem dX9_readUnit_105 : decode cX9_readUnit 105 = .ok (.bipush 61, 2) := dk_16 61 (dk_at dksX9_readUnit_4 12 rfl rfl)
theorem dX9_readUnit_107 : decode cX9_readUnit 107 = .ok (.if_icmp .ne 7, 3) := dk_160 0 7 (dk_at dksX9_readUnit_4 14 rfl rfl)
theorem dX9_readUnit_110 : decode cX9_readUnit 110 = .ok (.iconst 0, 1) := dk_3 (dk_at dksX9_readUnit_4 17 rfl rfl)
theorem dX9_readUnit_111 : decode cX9_readUnit 111 = .ok (.goto 37, 3) := dk_167 0 37 (dk_at dksX9_readUnit_4 18 rfl rfl)
theorem dX9_readUnit_114 : decode cX9_readUnit 114 = .ok (.iload 5, 2) := dk_21 5 (dk_at dksX9_readUnit_4 21 rfl rfl)
theorem dX9_readUnit_116 : decode cX9_readUnit 116 = .ok (.bipush 60, 2) := dk_16 60 (dk_at dksX9_readUnit_5 0 rfl rfl)
theorem dX9_readUnit_118 : decode cX9_readUnit 118 = .ok (.if_icmp .ne 7, 3) := dk_160 0 7 (dk_at dksX9_readUnit_5 2 rfl rfl)
theorem dX9_readUnit_121 : decode cX9_readUnit 121 = .ok (.iconst 1, 1) := dk_4 (dk_at dksX9_readUnit_5 5 rfl rfl)
theorem dX9_readUnit_122 : decode cX9_readUnit 122 = .ok (.goto 26, 3) := dk_167 0 26 (dk_at dksX9_readUnit_5 6 rfl rfl)
theorem dX9_readUnit_125 : decode cX9_readUnit 125 = .ok (.iload 5, 2) := dk_21 5 (dk_at dksX9_readUnit_5 9 rfl rfl)
theorem dX9_readUnit_127 : decode cX9_readUnit 127 = .ok (.bipush 62, 2) := dk_16 62 (dk_at dksX9_readUnit_5 11 rfl rfl)
theorem dX9_readUnit_129 : decode cX9_readUnit 129 = .ok (.if_icmp .ne 7, 3) := dk_160 0 7 (dk_at dksX9_readUnit_5 13 rfl rfl)
theorem dX9_readUnit_132 : decode cX9_readUnit 132 = .ok (.iconst 2, 1) := dk_5 (dk_at dksX9_readUnit_5 16 rfl rfl)
theorem dX9_readUnit_133 : decode cX9_readUnit 133 = .ok (.goto 15, 3) := dk_167 0 15 (dk_at dksX9_readUnit_5 17 rfl rfl)
theorem dX9_readUnit_136 : decode cX9_readUnit 136 = .ok (.iload 5, 2) := dk_21 5 (dk_at dksX9_readUnit_5 20 rfl rfl)
theorem dX9_readUnit_138 : decode cX9_readUnit 138 = .ok (.bipush 63, 2) := dk_16 63 (dk_at dksX9_readUnit_5 22 rfl rfl)
theorem dX9_readUnit_140 : decode cX9_readUnit 140 = .ok (.if_icmp .ne 7, 3) := dk_160 0 7 (dk_at dksX9_readUnit_6 0 rfl rfl)
theorem dX9_readUnit_143 : decode cX9_readUnit 143 = .ok (.iconst 3, 1) := dk_6 (dk_at dksX9_readUnit_6 3 rfl rfl)
theorem dX9_readUnit_144 : decode cX9_readUnit 144 = .ok (.goto 4, 3) := dk_167 0 4 (dk_at dksX9_readUnit_6 4 rfl rfl)
theorem dX9_readUnit_147 : decode cX9_readUnit 147 = .ok (.iconst (-1), 1) := dk_2 (dk_at dksX9_readUnit_6 7 rfl rfl)
theorem dX9_readUnit_148 : decode cX9_readUnit 148 = .ok (.iastore, 1) := dk_79 (dk_at dksX9_readUnit_6 8 rfl rfl)
theorem dX9_readUnit_149 : decode cX9_readUnit 149 = .ok (.aload_n 0, 1) := dk_42 (dk_at dksX9_readUnit_6 9 rfl rfl)
theorem dX9_readUnit_150 : decode cX9_readUnit 150 = .ok (.getfield 28, 3) := dk_180 0 28 (dk_at dksX9_readUnit_6 10 rfl rfl)
theorem dX9_readUnit_153 : decode cX9_readUnit 153 = .ok (.iload 4, 2) := dk_21 4 (dk_at dksX9_readUnit_6 13 rfl rfl)
theorem dX9_readUnit_155 : decode cX9_readUnit 155 = .ok (.iconst 2, 1) := dk_5 (dk_at dksX9_readUnit_6 15 rfl rfl)
theorem dX9_readUnit_156 : decode cX9_readUnit 156 = .ok (.iadd, 1) := dk_96 (dk_at dksX9_readUnit_6 16 rfl rfl)
theorem dX9_readUnit_157 : decode cX9_readUnit 157 = .ok (.iaload, 1) := dk_46 (dk_at dksX9_readUnit_6 17 rfl rfl)
theorem dX9_readUnit_158 : decode cX9_readUnit 158 = .ok (.iconst (-1), 1) := dk_2 (dk_at dksX9_readUnit_6 18 rfl rfl)
theorem dX9_readUnit_159 : decode cX9_readUnit 159 = .ok (.if_icmp .ne 8, 3) := dk_160 0 8 (dk_at dksX9_readUnit_6 19 rfl rfl)
theorem dX9_readUnit_162 : decode cX9_readUnit 162 = .ok (.aload_n 0, 1) := dk_42 (dk_at dksX9_readUnit_6 22 rfl rfl)
theorem dX9_readUnit_163 : decode cX9_readUnit 163 = .ok (.invokevirtual 98, 3) := dk_182 0 98 (dk_at dksX9_readUnit_7 0 rfl rfl)
theorem dX9_readUnit_166 : decode cX9_readUnit 166 = .ok (.return_, 1) := dk_177 (dk_at dksX9_readUnit_7 3 rfl rfl)
theorem dX9_readUnit_167 : decode cX9_readUnit 167 = .ok (.aload_n 0, 1) := dk_42 (dk_at dksX9_readUnit_7 4 rfl rfl)
theorem dX9_readUnit_168 : decode cX9_readUnit 168 = .ok (.dup, 1) := dk_89 (dk_at dksX9_readUnit_7 5 rfl rfl)
theorem dX9_readUnit_169 : decode cX9_readUnit 169 = .ok (.getfield 81, 3) := dk_180 0 81 (dk_at dksX9_readUnit_7 6 rfl rfl)
theorem dX9_readUnit_172 : decode cX9_readUnit 172 = .ok (.iconst 1, 1) := dk_4 (dk_at dksX9_readUnit_7 9 rfl rfl)
theorem dX9_readUnit_173 : decode cX9_readUnit 173 = .ok (.iadd, 1) := dk_96 (dk_at dksX9_readUnit_7 10 rfl rfl)
theorem dX9_readUnit_174 : decode cX9_readUnit 174 = .ok (.putfield 81, 3) := dk_181 0 81 (dk_at dksX9_readUnit_7 11 rfl rfl)
theorem dX9_readUnit_177 : decode cX9_readUnit 177 = .ok (.iload 5, 2) := dk_21 5 (dk_at dksX9_readUnit_7 14 rfl rfl)
theorem dX9_readUnit_179 : decode cX9_readUnit 179 = .ok (.bipush 63, 2) := dk_16 63 (dk_at dksX9_readUnit_7 16 rfl rfl)
theorem dX9_readUnit_181 : decode cX9_readUnit 181 = .ok (.if_icmp .eq 20, 3) := dk_159 0 20 (dk_at dksX9_readUnit_7 18 rfl rfl)
theorem dX9_readUnit_184 : decode cX9_readUnit 184 = .ok (.aload_n 0, 1) := dk_42 (dk_at dksX9_readUnit_7 21 rfl rfl)
theorem dX9_readUnit_185 : decode cX9_readUnit 185 = .ok (.getfield 28, 3) := dk_180 0 28 (dk_at dksX9_readUnit_8 0 rfl rfl)
theorem dX9_readUnit_188 : decode cX9_readUnit 188 = .ok (.iload 4, 2) := dk_21 4 (dk_at dksX9_readUnit_8 3 rfl rfl)
theorem dX9_readUnit_190 : decode cX9_readUnit 190 = .ok (.iconst 3, 1) := dk_6 (dk_at dksX9_readUnit_8 5 rfl rfl)
theorem dX9_readUnit_191 : decode cX9_readUnit 191 = .ok (.iadd, 1) := dk_96 (dk_at dksX9_readUnit_8 6 rfl rfl)
theorem dX9_readUnit_192 : decode cX9_readUnit 192 = .ok (.aload_n 0, 1) := dk_42 (dk_at dksX9_readUnit_8 7 rfl rfl)
theorem dX9_readUnit_193 : decode cX9_readUnit 193 = .ok (.iconst 2, 1) := dk_5 (dk_at dksX9_readUnit_8 8 rfl rfl)
theorem dX9_readUnit_194 : decode cX9_readUnit 194 = .ok (.iconst 0, 1) := dk_3 (dk_at dksX9_readUnit_8 9 rfl rfl)
theorem dX9_readUnit_195 : decode cX9_readUnit 195 = .ok (.bipush 99, 2) := dk_16 99 (dk_at dksX9_readUnit_8 10 rfl rfl)
theorem dX9_readUnit_197 : decode cX9_readUnit 197 = .ok (.invokevirtual 118, 3) := dk_182 0 118 (dk_at dksX9_readUnit_8 12 rfl rfl)
theorem dX9_readUnit_200 : decode cX9_readUnit 200 = .ok (.iastore, 1) := dk_79 (dk_at dksX9_readUnit_8 15 rfl rfl)
theorem dX9_readUnit_201 : decode cX9_readUnit 201 = .ok (.aload_n 0, 1) := dk_42 (dk_at dksX9_readUnit_8 16 rfl rfl)
theorem dX9_readUnit_202 : decode cX9_readUnit 202 = .ok (.getfield 31, 3) := dk_180 0 31 (dk_at dksX9_readUnit_8 17 rfl rfl)
theorem dX9_readUnit_205 : decode cX9_readUnit 205 = .ok (.iload_n 1, 1) := dk_27 (dk_at dksX9_readUnit_8 20 rfl rfl)
theorem dX9_readUnit_206 : decode cX9_readUnit 206 = .ok (.dup2, 1) := dk_92 (dk_at dksX9_readUnit_8 21 rfl rfl)
theorem dX9_readUnit_207 : decode cX9_readUnit 207 = .ok (.iaload, 1) := dk_46 (dk_at dksX9_readUnit_8 22 rfl rfl)
theorem dX9_readUnit_208 : decode cX9_readUnit 208 = .ok (.iconst 1, 1) := dk_4 (dk_at dksX9_readUnit_8 23 rfl rfl)
theorem dX9_readUnit_209 : decode cX9_readUnit 209 = .ok (.iadd, 1) := dk_96 (dk_at dksX9_readUnit_9 0 rfl rfl)
theorem dX9_readUnit_210 : decode cX9_readUnit 210 = .ok (.iastore, 1) := dk_79 (dk_at dksX9_readUnit_9 1 rfl rfl)
theorem dX9_readUnit_211 : decode cX9_readUnit 211 = .ok (.return_, 1) := dk_177 (dk_at dksX9_readUnit_9 2 rfl rfl)
abbrev cX9_text : ByteArray := prog_28_method_43_code
def yX9_text : MethodName := ⟨RX9, "text", "(I)I"⟩
def dkwX9_text_2 : List UInt8 := [3, 181, 0, 74, 42, 89, 180, 0, 222, 4, 96, 181, 0, 222, 42, 180, 0, 222, 4, 100, 172, 2, 172]
abbrev dktX9_text_2 : List UInt8 := dkwX9_text_2 ++ []
def dkwX9_text_1 : List UInt8 := [160, 0, 45, 42, 180, 0, 222, 7, 162, 0, 37, 42, 42, 180, 0, 222, 182, 0, 143, 2, 160, 0, 25, 42]
abbrev dktX9_text_1 : List UInt8 := dkwX9_text_1 ++ dktX9_text_2
def dkwX9_text_0 : List UInt8 := [27, 154, 0, 21, 42, 182, 0, 140, 2, 160, 0, 13, 42, 3, 181, 0, 74, 42, 182, 0, 219, 172, 27, 4]
abbrev dktX9_text_0 : List UInt8 := dkwX9_text_0 ++ dktX9_text_1
theorem dksX9_text_0 : cX9_text.data.toList.drop 0 = dktX9_text_0 := by decide +kernel
theorem dksX9_text_1 : cX9_text.data.toList.drop 24 = dktX9_text_1 := dk_seg dksX9_text_0 24 rfl rfl
theorem dksX9_text_2 : cX9_text.data.toList.drop 48 = dktX9_text_2 := dk_seg dksX9_text_1 24 rfl rfl
theorem dX9_text_0 : decode cX9_text 0 = .ok (.iload_n 1, 1) := dk_27 (dk_at dksX9_text_0 0 rfl rfl)
theorem dX9_text_1 : decode cX9_text 1 = .ok (.ifCond .ne 21, 3) := dk_154 0 21 (dk_at dksX9_text_0 1 rfl rfl)
theorem dX9_text_4 : decode cX9_text 4 = .ok (.aload_n 0, 1) := dk_42 (dk_at dksX9_text_0 4 rfl rfl)
theorem dX9_text_5 : decode cX9_text 5 = .ok (.invokevirtual 140, 3) := dk_182 0 140 (dk_at dksX9_text_0 5 rfl rfl)
theorem dX9_text_8 : decode cX9_text 8 = .ok (.iconst (-1), 1) := dk_2 (dk_at dksX9_text_0 8 rfl rfl)
theorem dX9_text_9 : decode cX9_text 9 = .ok (.if_icmp .ne 13, 3) := dk_160 0 13 (dk_at dksX9_text_0 9 rfl rfl)
theorem dX9_text_12 : decode cX9_text 12 = .ok (.aload_n 0, 1) := dk_42 (dk_at dksX9_text_0 12 rfl rfl)
theorem dX9_text_13 : decode cX9_text 13 = .ok (.iconst 0, 1) := dk_3 (dk_at dksX9_text_0 13 rfl rfl)
theorem dX9_text_14 : decode cX9_text 14 = .ok (.putfield 74, 3) := dk_181 0 74 (dk_at dksX9_text_0 14 rfl rfl)
theorem dX9_text_17 : decode cX9_text 17 = .ok (.aload_n 0, 1) := dk_42 (dk_at dksX9_text_0 17 rfl rfl)
theorem dX9_text_18 : decode cX9_text 18 = .ok (.invokevirtual 219, 3) := dk_182 0 219 (dk_at dksX9_text_0 18 rfl rfl)
theorem dX9_text_21 : decode cX9_text 21 = .ok (.ireturn, 1) := dk_172 (dk_at dksX9_text_0 21 rfl rfl)
theorem dX9_text_22 : decode cX9_text 22 = .ok (.iload_n 1, 1) := dk_27 (dk_at dksX9_text_0 22 rfl rfl)
theorem dX9_text_23 : decode cX9_text 23 = .ok (.iconst 1, 1) := dk_4 (dk_at dksX9_text_0 23 rfl rfl)
theorem dX9_text_24 : decode cX9_text 24 = .ok (.if_icmp .ne 45, 3) := dk_160 0 45 (dk_at dksX9_text_1 0 rfl rfl)
theorem dX9_text_27 : decode cX9_text 27 = .ok (.aload_n 0, 1) := dk_42 (dk_at dksX9_text_1 3 rfl rfl)
theorem dX9_text_28 : decode cX9_text 28 = .ok (.getfield 222, 3) := dk_180 0 222 (dk_at dksX9_text_1 4 rfl rfl)
theorem dX9_text_31 : decode cX9_text 31 = .ok (.iconst 4, 1) := dk_7 (dk_at dksX9_text_1 7 rfl rfl)
theorem dX9_text_32 : decode cX9_text 32 = .ok (.if_icmp .ge 37, 3) := dk_162 0 37 (dk_at dksX9_text_1 8 rfl rfl)
theorem dX9_text_35 : decode cX9_text 35 = .ok (.aload_n 0, 1) := dk_42 (dk_at dksX9_text_1 11 rfl rfl)
theorem dX9_text_36 : decode cX9_text 36 = .ok (.aload_n 0, 1) := dk_42 (dk_at dksX9_text_1 12 rfl rfl)
theorem dX9_text_37 : decode cX9_text 37 = .ok (.getfield 222, 3) := dk_180 0 222 (dk_at dksX9_text_1 13 rfl rfl)
theorem dX9_text_40 : decode cX9_text 40 = .ok (.invokevirtual 143, 3) := dk_182 0 143 (dk_at dksX9_text_1 16 rfl rfl)
theorem dX9_text_43 : decode cX9_text 43 = .ok (.iconst (-1), 1) := dk_2 (dk_at dksX9_text_1 19 rfl rfl)
theorem dX9_text_44 : decode cX9_text 44 = .ok (.if_icmp .ne 25, 3) := dk_160 0 25 (dk_at dksX9_text_1 20 rfl rfl)
theorem dX9_text_47 : decode cX9_text 47 = .ok (.aload_n 0, 1) := dk_42 (dk_at dksX9_text_1 23 rfl rfl)
theorem dX9_text_48 : decode cX9_text 48 = .ok (.iconst 0, 1) := dk_3 (dk_at dksX9_text_2 0 rfl rfl)
theorem dX9_text_49 : decode cX9_text 49 = .ok (.putfield 74, 3) := dk_181 0 74 (dk_at dksX9_text_2 1 rfl rfl)
theorem dX9_text_52 : decode cX9_text 52 = .ok (.aload_n 0, 1) := dk_42 (dk_at dksX9_text_2 4 rfl rfl)
theorem dX9_text_53 : decode cX9_text 53 = .ok (.dup, 1) := dk_89 (dk_at dksX9_text_2 5 rfl rfl)
theorem dX9_text_54 : decode cX9_text 54 = .ok (.getfield 222, 3) := dk_180 0 222 (dk_at dksX9_text_2 6 rfl rfl)
theorem dX9_text_57 : decode cX9_text 57 = .ok (.iconst 1, 1) := dk_4 (dk_at dksX9_text_2 9 rfl rfl)
theorem dX9_text_58 : decode cX9_text 58 = .ok (.iadd, 1) := dk_96 (dk_at dksX9_text_2 10 rfl rfl)
theorem dX9_text_59 : decode cX9_text 59 = .ok (.putfield 222, 3) := dk_181 0 222 (dk_at dksX9_text_2 11 rfl rfl)
theorem dX9_text_62 : decode cX9_text 62 = .ok (.aload_n 0, 1) := dk_42 (dk_at dksX9_text_2 14 rfl rfl)
theorem dX9_text_63 : decode cX9_text 63 = .ok (.getfield 222, 3) := dk_180 0 222 (dk_at dksX9_text_2 15 rfl rfl)
theorem dX9_text_66 : decode cX9_text 66 = .ok (.iconst 1, 1) := dk_4 (dk_at dksX9_text_2 18 rfl rfl)
theorem dX9_text_67 : decode cX9_text 67 = .ok (.isub, 1) := dk_100 (dk_at dksX9_text_2 19 rfl rfl)
theorem dX9_text_68 : decode cX9_text 68 = .ok (.ireturn, 1) := dk_172 (dk_at dksX9_text_2 20 rfl rfl)
theorem dX9_text_69 : decode cX9_text 69 = .ok (.iconst (-1), 1) := dk_2 (dk_at dksX9_text_2 21 rfl rfl)
theorem dX9_text_70 : decode cX9_text 70 = .ok (.ireturn, 1) := dk_172 (dk_at dksX9_text_2 22 rfl rfl)
abbrev cX9_takeBook : ByteArray := prog_28_method_42_code
def yX9_takeBook : MethodName := ⟨RX9, "takeBook", "()I"⟩
def dkwX9_takeBook_8 : List UInt8 := [167, 255, 233, 42, 3, 181, 0, 212, 42, 3, 181, 0, 215, 42, 180, 0, 150, 172]
abbrev dktX9_takeBook_8 : List UInt8 := dkwX9_takeBook_8 ++ []
def dkwX9_takeBook_7 : List UInt8 := [60, 27, 42, 180, 0, 150, 162, 0, 21, 42, 27, 3, 182, 0, 209, 42, 27, 4, 182, 0, 209, 132, 1, 1]
abbrev dktX9_takeBook_7 : List UInt8 := dkwX9_takeBook_7 ++ dktX9_takeBook_8
def dkwX9_takeBook_6 : List UInt8 := [184, 0, 158, 92, 46, 42, 180, 0, 19, 7, 27, 104, 6, 96, 46, 96, 79, 132, 1, 1, 167, 255, 194, 3]
abbrev dktX9_takeBook_6 : List UInt8 := dkwX9_takeBook_6 ++ dktX9_takeBook_7
def dkwX9_takeBook_5 : List UInt8 := [3, 96, 46, 42, 180, 0, 19, 7, 27, 104, 4, 96, 46, 42, 180, 0, 19, 7, 27, 104, 5, 96, 46]
abbrev dktX9_takeBook_5 : List UInt8 := dkwX9_takeBook_5 ++ dktX9_takeBook_6
def dkwX9_takeBook_4 : List UInt8 := [167, 255, 233, 3, 60, 27, 42, 180, 0, 125, 162, 0, 60, 42, 180, 0, 34, 42, 180, 0, 19, 7, 27, 104]
abbrev dktX9_takeBook_4 : List UInt8 := dkwX9_takeBook_4 ++ dktX9_takeBook_5
def dkwX9_takeBook_3 : List UInt8 := [42, 180, 0, 150, 162, 0, 21, 42, 180, 0, 25, 27, 42, 180, 0, 16, 27, 46, 79, 132, 1, 1]
abbrev dktX9_takeBook_3 : List UInt8 := dkwX9_takeBook_3 ++ dktX9_takeBook_4
def dkwX9_takeBook_2 : List UInt8 := [79, 132, 1, 1, 167, 255, 239, 42, 180, 0, 34, 17, 4, 47, 42, 180, 0, 22, 5, 46, 79, 3, 60, 27]
abbrev dktX9_takeBook_2 : List UInt8 := dkwX9_takeBook_2 ++ dktX9_takeBook_3
def dkwX9_takeBook_1 : List UInt8 := [27, 46, 79, 132, 1, 1, 167, 255, 236, 3, 60, 27, 17, 4, 229, 162, 0, 16, 42, 180, 0, 34, 27, 3]
abbrev dktX9_takeBook_1 : List UInt8 := dkwX9_takeBook_1 ++ dktX9_takeBook_2
def dkwX9_takeBook_0 : List UInt8 := [42, 42, 180, 0, 122, 181, 0, 150, 3, 60, 27, 6, 162, 0, 21, 42, 180, 0, 22, 27, 42, 180, 0, 13]
abbrev dktX9_takeBook_0 : List UInt8 := dkwX9_takeBook_0 ++ dktX9_takeBook_1
theorem dksX9_takeBook_0 : cX9_takeBook.data.toList.drop 0 = dktX9_takeBook_0 := by decide +kernel
theorem dksX9_takeBook_1 : cX9_takeBook.data.toList.drop 24 = dktX9_takeBook_1 := dk_seg dksX9_takeBook_0 24 rfl rfl
theorem dksX9_takeBook_2 : cX9_takeBook.data.toList.drop 48 = dktX9_takeBook_2 := dk_seg dksX9_takeBook_1 24 rfl rfl
theorem dksX9_takeBook_3 : cX9_takeBook.data.toList.drop 72 = dktX9_takeBook_3 := dk_seg dksX9_takeBook_2 24 rfl rfl
theorem dksX9_takeBook_4 : cX9_takeBook.data.toList.drop 94 = dktX9_takeBook_4 := dk_seg dksX9_takeBook_3 22 rfl rfl
theorem dksX9_takeBook_5 : cX9_takeBook.data.toList.drop 118 = dktX9_takeBook_5 := dk_seg dksX9_takeBook_4 24 rfl rfl
theorem dksX9_takeBook_6 : cX9_takeBook.data.toList.drop 141 = dktX9_takeBook_6 := dk_seg dksX9_takeBook_5 23 rfl rfl
theorem dksX9_takeBook_7 : cX9_takeBook.data.toList.drop 165 = dktX9_takeBook_7 := dk_seg dksX9_takeBook_6 24 rfl rfl
theorem dksX9_takeBook_8 : cX9_takeBook.data.toList.drop 189 = dktX9_takeBook_8 := dk_seg dksX9_takeBook_7 24 rfl rfl
theorem dX9_takeBook_0 : decode cX9_takeBook 0 = .ok (.aload_n 0, 1) := dk_42 (dk_at dksX9_takeBook_0 0 rfl rfl)
theorem dX9_takeBook_1 : decode cX9_takeBook 1 = .ok (.aload_n 0, 1) := dk_42 (dk_at dksX9_takeBook_0 1 rfl rfl)
theorem dX9_takeBook_2 : decode cX9_takeBook 2 = .ok (.getfield 122, 3) := dk_180 0 122 (dk_at dksX9_takeBook_0 2 rfl rfl)
theorem dX9_takeBook_5 : decode cX9_takeBook 5 = .ok (.putfield 150, 3) := dk_181 0 150 (dk_at dksX9_takeBook_0 5 rfl rfl)
theorem dX9_takeBook_8 : decode cX9_takeBook 8 = .ok (.iconst 0, 1) := dk_3 (dk_at dksX9_takeBook_0 8 rfl rfl)
theorem dX9_takeBook_9 : decode cX9_takeBook 9 = .ok (.istore_n 1, 1) := dk_60 (dk_at dksX9_takeBook_0 9 rfl rfl)
theorem dX9_takeBook_10 : decode cX9_takeBook 10 = .ok (.iload_n 1, 1) := dk_27 (dk_at dksX9_takeBook_0 10 rfl rfl)
theorem dX9_takeBook_11 : decode cX9_takeBook 11 = .ok (.iconst 3, 1) := dk_6 (dk_at dksX9_takeBook_0 11 rfl rfl)
theorem dX9_takeBook_12 : decode cX9_takeBook 12 = .ok (.if_icmp .ge 21, 3) := dk_162 0 21 (dk_at dksX9_takeBook_0 12 rfl rfl)
theorem dX9_takeBook_15 : decode cX9_takeBook 15 = .ok (.aload_n 0, 1) := dk_42 (dk_at dksX9_takeBook_0 15 rfl rfl)
theorem dX9_takeBook_16 : decode cX9_takeBook 16 = .ok (.getfield 22, 3) := dk_180 0 22 (dk_at dksX9_takeBook_0 16 rfl rfl)
theorem dX9_takeBook_19 : decode cX9_takeBook 19 = .ok (.iload_n 1, 1) := dk_27 (dk_at dksX9_takeBook_0 19 rfl rfl)
theorem dX9_takeBook_20 : decode cX9_takeBook 20 = .ok (.aload_n 0, 1) := dk_42 (dk_at dksX9_takeBook_0 20 rfl rfl)
theorem dX9_takeBook_21 : decode cX9_takeBook 21 = .ok (.getfield 13, 3) := dk_180 0 13 (dk_at dksX9_takeBook_0 21 rfl rfl)
theorem dX9_takeBook_24 : decode cX9_takeBook 24 = .ok (.iload_n 1, 1) := dk_27 (dk_at dksX9_takeBook_1 0 rfl rfl)
theorem dX9_takeBook_25 : decode cX9_takeBook 25 = .ok (.iaload, 1) := dk_46 (dk_at dksX9_takeBook_1 1 rfl rfl)
theorem dX9_takeBook_26 : decode cX9_takeBook 26 = .ok (.iastore, 1) := dk_79 (dk_at dksX9_takeBook_1 2 rfl rfl)
theorem dX9_takeBook_27 : decode cX9_takeBook 27 = .ok (.iinc 1 1, 3) := dk_132 1 1 (dk_at dksX9_takeBook_1 3 rfl rfl)
theorem dX9_takeBook_30 : decode cX9_takeBook 30 = .ok (.goto (-20), 3) := dk_167 255 236 (dk_at dksX9_takeBook_1 6 rfl rfl)
theorem dX9_takeBook_33 : decode cX9_takeBook 33 = .ok (.iconst 0, 1) := dk_3 (dk_at dksX9_takeBook_1 9 rfl rfl)
theorem dX9_takeBook_34 : decode cX9_takeBook 34 = .ok (.istore_n 1, 1) := dk_60 (dk_at dksX9_takeBook_1 10 rfl rfl)
theorem dX9_takeBook_35 : decode cX9_takeBook 35 = .ok (.iload_n 1, 1) := dk_27 (dk_at dksX9_takeBook_1 11 rfl rfl)
theorem dX9_takeBook_36 : decode cX9_takeBook 36 = .ok (.sipush 1253, 3) := dk_17 4 229 (dk_at dksX9_takeBook_1 12 rfl rfl)
theorem dX9_takeBook_39 : decode cX9_takeBook 39 = .ok (.if_icmp .ge 16, 3) := dk_162 0 16 (dk_at dksX9_takeBook_1 15 rfl rfl)
theorem dX9_takeBook_42 : decode cX9_takeBook 42 = .ok (.aload_n 0, 1) := dk_42 (dk_at dksX9_takeBook_1 18 rfl rfl)
theorem dX9_takeBook_43 : decode cX9_takeBook 43 = .ok (.getfield 34, 3) := dk_180 0 34 (dk_at dksX9_takeBook_1 19 rfl rfl)
theorem dX9_takeBook_46 : decode cX9_takeBook 46 = .ok (.iload_n 1, 1) := dk_27 (dk_at dksX9_takeBook_1 22 rfl rfl)
theorem dX9_takeBook_47 : decode cX9_takeBook 47 = .ok (.iconst 0, 1) := dk_3 (dk_at dksX9_takeBook_1 23 rfl rfl)
theorem dX9_takeBook_48 : decode cX9_takeBook 48 = .ok (.iastore, 1) := dk_79 (dk_at dksX9_takeBook_2 0 rfl rfl)
theorem dX9_takeBook_49 : decode cX9_takeBook 49 = .ok (.iinc 1 1, 3) := dk_132 1 1 (dk_at dksX9_takeBook_2 1 rfl rfl)
theorem dX9_takeBook_52 : decode cX9_takeBook 52 = .ok (.goto (-17), 3) := dk_167 255 239 (dk_at dksX9_takeBook_2 4 rfl rfl)
theorem dX9_takeBook_55 : decode cX9_takeBook 55 = .ok (.aload_n 0, 1) := dk_42 (dk_at dksX9_takeBook_2 7 rfl rfl)
theorem dX9_takeBook_56 : decode cX9_takeBook 56 = .ok (.getfield 34, 3) := dk_180 0 34 (dk_at dksX9_takeBook_2 8 rfl rfl)
theorem dX9_takeBook_59 : decode cX9_takeBook 59 = .ok (.sipush 1071, 3) := dk_17 4 47 (dk_at dksX9_takeBook_2 11 rfl rfl)
theorem dX9_takeBook_62 : decode cX9_takeBook 62 = .ok (.aload_n 0, 1) := dk_42 (dk_at dksX9_takeBook_2 14 rfl rfl)
theorem dX9_takeBook_63 : decode cX9_takeBook 63 = .ok (.getfield 22, 3) := dk_180 0 22 (dk_at dksX9_takeBook_2 15 rfl rfl)
theorem dX9_takeBook_66 : decode cX9_takeBook 66 = .ok (.iconst 2, 1) := dk_5 (dk_at dksX9_takeBook_2 18 rfl rfl)
theorem dX9_takeBook_67 : decode cX9_takeBook 67 = .ok (.iaload, 1) := dk_46 (dk_at dksX9_takeBook_2 19 rfl rfl)
theorem dX9_takeBook_68 : decode cX9_takeBook 68 = .ok (.iastore, 1) := dk_79 (dk_at dksX9_takeBook_2 20 rfl rfl)
theorem dX9_takeBook_69 : decode cX9_takeBook 69 = .ok (.iconst 0, 1) := dk_3 (dk_at dksX9_takeBook_2 21 rfl rfl)
theorem dX9_takeBook_70 : decode cX9_takeBook 70 = .ok (.istore_n 1, 1) := dk_60 (dk_at dksX9_takeBook_2 22 rfl rfl)
theorem dX9_takeBook_71 : decode cX9_takeBook 71 = .ok (.iload_n 1, 1) := dk_27 (dk_at dksX9_takeBook_2 23 rfl rfl)
theorem dX9_takeBook_72 : decode cX9_takeBook 72 = .ok (.aload_n 0, 1) := dk_42 (dk_at dksX9_takeBook_3 0 rfl rfl)
theorem dX9_takeBook_73 : decode cX9_takeBook 73 = .ok (.getfield 150, 3) := dk_180 0 150 (dk_at dksX9_takeBook_3 1 rfl rfl)
theorem dX9_takeBook_76 : decode cX9_takeBook 76 = .ok (.if_icmp .ge 21, 3) := dk_162 0 21 (dk_at dksX9_takeBook_3 4 rfl rfl)
theorem dX9_takeBook_79 : decode cX9_takeBook 79 = .ok (.aload_n 0, 1) := dk_42 (dk_at dksX9_takeBook_3 7 rfl rfl)
theorem dX9_takeBook_80 : decode cX9_takeBook 80 = .ok (.getfield 25, 3) := dk_180 0 25 (dk_at dksX9_takeBook_3 8 rfl rfl)
theorem dX9_takeBook_83 : decode cX9_takeBook 83 = .ok (.iload_n 1, 1) := dk_27 (dk_at dksX9_takeBook_3 11 rfl rfl)
theorem dX9_takeBook_84 : decode cX9_takeBook 84 = .ok (.aload_n 0, 1) := dk_42 (dk_at dksX9_takeBook_3 12 rfl rfl)
theorem dX9_takeBook_85 : decode cX9_takeBook 85 = .ok (.getfield 16, 3) := dk_180 0 16 (dk_at dksX9_takeBook_3 13 rfl rfl)
theorem dX9_takeBook_88 : decode cX9_takeBook 88 = .ok (.iload_n 1, 1) := dk_27 (dk_at dksX9_takeBook_3 16 rfl rfl)
theorem dX9_takeBook_89 : decode cX9_takeBook 89 = .ok (.iaload, 1) := dk_46 (dk_at dksX9_takeBook_3 17 rfl rfl)
theorem dX9_takeBook_90 : decode cX9_takeBook 90 = .ok (.iastore, 1) := dk_79 (dk_at dksX9_takeBook_3 18 rfl rfl)
theorem dX9_takeBook_91 : decode cX9_takeBook 91 = .ok (.iinc 1 1, 3) := dk_132 1 1 (dk_at dksX9_takeBook_3 19 rfl rfl)
theorem dX9_takeBook_94 : decode cX9_takeBook 94 = .ok (.goto (-23), 3) := dk_167 255 233 (dk_at dksX9_takeBook_4 0 rfl rfl)
theorem dX9_takeBook_97 : decode cX9_takeBook 97 = .ok (.iconst 0, 1) := dk_3 (dk_at dksX9_takeBook_4 3 rfl rfl)
theorem dX9_takeBook_98 : decode cX9_takeBook 98 = .ok (.istore_n 1, 1) := dk_60 (dk_at dksX9_takeBook_4 4 rfl rfl)
theorem dX9_takeBook_99 : decode cX9_takeBook 99 = .ok (.iload_n 1, 1) := dk_27 (dk_at dksX9_takeBook_4 5 rfl rfl)
theorem dX9_takeBook_100 : decode cX9_takeBook 100 = .ok (.aload_n 0, 1) := dk_42 (dk_at dksX9_takeBook_4 6 rfl rfl)
theorem dX9_takeBook_101 : decode cX9_takeBook 101 = .ok (.getfield 125, 3) := dk_180 0 125 (dk_at dksX9_takeBook_4 7 rfl rfl)
theorem dX9_takeBook_104 : decode cX9_takeBook 104 = .ok (.if_icmp .ge 60, 3) := dk_162 0 60 (dk_at dksX9_takeBook_4 10 rfl rfl)
theorem dX9_takeBook_107 : decode cX9_takeBook 107 = .ok (.aload_n 0, 1) := dk_42 (dk_at dksX9_takeBook_4 13 rfl rfl)
theorem dX9_takeBook_108 : decode cX9_takeBook 108 = .ok (.getfield 34, 3) := dk_180 0 34 (dk_at dksX9_takeBook_4 14 rfl rfl)
theorem dX9_takeBook_111 : decode cX9_takeBook 111 = .ok (.aload_n 0, 1) := dk_42 (dk_at dksX9_takeBook_4 17 rfl rfl)
theorem dX9_takeBook_112 : decode cX9_takeBook 112 = .ok (.getfield 19, 3) := dk_180 0 19 (dk_at dksX9_takeBook_4 18 rfl rfl)
theorem dX9_takeBook_115 : decode cX9_takeBook 115 = .ok (.iconst 4, 1) := dk_7 (dk_at dksX9_takeBook_4 21 rfl rfl)
theorem dX9_takeBook_116 : decode cX9_takeBook 116 = .ok (.iload_n 1, 1) := dk_27 (dk_at dksX9_takeBook_4 22 rfl rfl)
theorem dX9_takeBook_117 : decode cX9_takeBook 117 = .ok (.imul, 1) := dk_104 (dk_at dksX9_takeBook_4 23 rfl rfl)
theorem dX9_takeBook_118 : decode cX9_takeBook 118 = .ok (.iconst 0, 1) := dk_3 (dk_at dksX9_takeBook_5 0 rfl rfl)
theorem dX9_takeBook_119 : decode cX9_takeBook 119 = .ok (.iadd, 1) := dk_96 (dk_at dksX9_takeBook_5 1 rfl rfl)
theorem dX9_takeBook_120 : decode cX9_takeBook 120 = .ok (.iaload, 1) := dk_46 (dk_at dksX9_takeBook_5 2 rfl rfl)
theorem dX9_takeBook_121 : decode cX9_takeBook 121 = .ok (.aload_n 0, 1) := dk_42 (dk_at dksX9_takeBook_5 3 rfl rfl)
theorem dX9_takeBook_122 : decode cX9_takeBook 122 = .ok (.getfield 19, 3) := dk_180 0 19 (dk_at dksX9_takeBook_5 4 rfl rfl)
theorem dX9_takeBook_125 : decode cX9_takeBook 125 = .ok (.iconst 4, 1) := dk_7 (dk_at dksX9_takeBook_5 7 rfl rfl)
theorem dX9_takeBook_126 : decode cX9_takeBook 126 = .ok (.iload_n 1, 1) := dk_27 (dk_at dksX9_takeBook_5 8 rfl rfl)
theorem dX9_takeBook_127 : decode cX9_takeBook 127 = .ok (.imul, 1) := dk_104 (dk_at dksX9_takeBook_5 9 rfl rfl)
theorem dX9_takeBook_128 : decode cX9_takeBook 128 = .ok (.iconst 1, 1) := dk_4 (dk_at dksX9_takeBook_5 10 rfl rfl)
theorem dX9_takeBook_129 : decode cX9_takeBook 129 = .ok (.iadd, 1) := dk_96 (dk_at dksX9_takeBook_5 11 rfl rfl)
theorem dX9_takeBook_130 : decode cX9_takeBook 130 = .ok (.iaload, 1) := dk_46 (dk_at dksX9_takeBook_5 12 rfl rfl)
theorem dX9_takeBook_131 : decode cX9_takeBook 131 = .ok (.aload_n 0, 1) := dk_42 (dk_at dksX9_takeBook_5 13 rfl rfl)
theorem dX9_takeBook_132 : decode cX9_takeBook 132 = .ok (.getfield 19, 3) := dk_180 0 19 (dk_at dksX9_takeBook_5 14 rfl rfl)
theorem dX9_takeBook_135 : decode cX9_takeBook 135 = .ok (.iconst 4, 1) := dk_7 (dk_at dksX9_takeBook_5 17 rfl rfl)
theorem dX9_takeBook_136 : decode cX9_takeBook 136 = .ok (.iload_n 1, 1) := dk_27 (dk_at dksX9_takeBook_5 18 rfl rfl)
theorem dX9_takeBook_137 : decode cX9_takeBook 137 = .ok (.imul, 1) := dk_104 (dk_at dksX9_takeBook_5 19 rfl rfl)
theorem dX9_takeBook_138 : decode cX9_takeBook 138 = .ok (.iconst 2, 1) := dk_5 (dk_at dksX9_takeBook_5 20 rfl rfl)
theorem dX9_takeBook_139 : decode cX9_takeBook 139 = .ok (.iadd, 1) := dk_96 (dk_at dksX9_takeBook_5 21 rfl rfl)
theorem dX9_takeBook_140 : decode cX9_takeBook 140 = .ok (.iaload, 1) := dk_46 (dk_at dksX9_takeBook_5 22 rfl rfl)
theorem dX9_takeBook_141 : decode cX9_takeBook 141 = .ok (.invokestatic 158, 3) := dk_184 0 158 (dk_at dksX9_takeBook_6 0 rfl rfl)
theorem dX9_takeBook_144 : decode cX9_takeBook 144 = .ok (.dup2, 1) := dk_92 (dk_at dksX9_takeBook_6 3 rfl rfl)
theorem dX9_takeBook_145 : decode cX9_takeBook 145 = .ok (.iaload, 1) := dk_46 (dk_at dksX9_takeBook_6 4 rfl rfl)
theorem dX9_takeBook_146 : decode cX9_takeBook 146 = .ok (.aload_n 0, 1) := dk_42 (dk_at dksX9_takeBook_6 5 rfl rfl)
theorem dX9_takeBook_147 : decode cX9_takeBook 147 = .ok (.getfield 19, 3) := dk_180 0 19 (dk_at dksX9_takeBook_6 6 rfl rfl)
theorem dX9_takeBook_150 : decode cX9_takeBook 150 = .ok (.iconst 4, 1) := dk_7 (dk_at dksX9_takeBook_6 9 rfl rfl)
theorem dX9_takeBook_151 : decode cX9_takeBook 151 = .ok (.iload_n 1, 1) := dk_27 (dk_at dksX9_takeBook_6 10 rfl rfl)
theorem dX9_takeBook_152 : decode cX9_takeBook 152 = .ok (.imul, 1) := dk_104 (dk_at dksX9_takeBook_6 11 rfl rfl)
theorem dX9_takeBook_153 : decode cX9_takeBook 153 = .ok (.iconst 3, 1) := dk_6 (dk_at dksX9_takeBook_6 12 rfl rfl)
theorem dX9_takeBook_154 : decode cX9_takeBook 154 = .ok (.iadd, 1) := dk_96 (dk_at dksX9_takeBook_6 13 rfl rfl)
theorem dX9_takeBook_155 : decode cX9_takeBook 155 = .ok (.iaload, 1) := dk_46 (dk_at dksX9_takeBook_6 14 rfl rfl)
theorem dX9_takeBook_156 : decode cX9_takeBook 156 = .ok (.iadd, 1) := dk_96 (dk_at dksX9_takeBook_6 15 rfl rfl)
theorem dX9_takeBook_157 : decode cX9_takeBook 157 = .ok (.iastore, 1) := dk_79 (dk_at dksX9_takeBook_6 16 rfl rfl)
theorem dX9_takeBook_158 : decode cX9_takeBook 158 = .ok (.iinc 1 1, 3) := dk_132 1 1 (dk_at dksX9_takeBook_6 17 rfl rfl)
theorem dX9_takeBook_161 : decode cX9_takeBook 161 = .ok (.goto (-62), 3) := dk_167 255 194 (dk_at dksX9_takeBook_6 20 rfl rfl)
theorem dX9_takeBook_164 : decode cX9_takeBook 164 = .ok (.iconst 0, 1) := dk_3 (dk_at dksX9_takeBook_6 23 rfl rfl)
theorem dX9_takeBook_165 : decode cX9_takeBook 165 = .ok (.istore_n 1, 1) := dk_60 (dk_at dksX9_takeBook_7 0 rfl rfl)
theorem dX9_takeBook_166 : decode cX9_takeBook 166 = .ok (.iload_n 1, 1) := dk_27 (dk_at dksX9_takeBook_7 1 rfl rfl)
theorem dX9_takeBook_167 : decode cX9_takeBook 167 = .ok (.aload_n 0, 1) := dk_42 (dk_at dksX9_takeBook_7 2 rfl rfl)
theorem dX9_takeBook_168 : decode cX9_takeBook 168 = .ok (.getfield 150, 3) := dk_180 0 150 (dk_at dksX9_takeBook_7 3 rfl rfl)
theorem dX9_takeBook_171 : decode cX9_takeBook 171 = .ok (.if_icmp .ge 21, 3) := dk_162 0 21 (dk_at dksX9_takeBook_7 6 rfl rfl)
theorem dX9_takeBook_174 : decode cX9_takeBook 174 = .ok (.aload_n 0, 1) := dk_42 (dk_at dksX9_takeBook_7 9 rfl rfl)
theorem dX9_takeBook_175 : decode cX9_takeBook 175 = .ok (.iload_n 1, 1) := dk_27 (dk_at dksX9_takeBook_7 10 rfl rfl)
theorem dX9_takeBook_176 : decode cX9_takeBook 176 = .ok (.iconst 0, 1) := dk_3 (dk_at dksX9_takeBook_7 11 rfl rfl)
theorem dX9_takeBook_177 : decode cX9_takeBook 177 = .ok (.invokevirtual 209, 3) := dk_182 0 209 (dk_at dksX9_takeBook_7 12 rfl rfl)
theorem dX9_takeBook_180 : decode cX9_takeBook 180 = .ok (.aload_n 0, 1) := dk_42 (dk_at dksX9_takeBook_7 15 rfl rfl)
theorem dX9_takeBook_181 : decode cX9_takeBook 181 = .ok (.iload_n 1, 1) := dk_27 (dk_at dksX9_takeBook_7 16 rfl rfl)
theorem dX9_takeBook_182 : decode cX9_takeBook 182 = .ok (.iconst 1, 1) := dk_4 (dk_at dksX9_takeBook_7 17 rfl rfl)
theorem dX9_takeBook_183 : decode cX9_takeBook 183 = .ok (.invokevirtual 209, 3) := dk_182 0 209 (dk_at dksX9_takeBook_7 18 rfl rfl)
theorem dX9_takeBook_186 : decode cX9_takeBook 186 = .ok (.iinc 1 1, 3) := dk_132 1 1 (dk_at dksX9_takeBook_7 21 rfl rfl)
theorem dX9_takeBook_189 : decode cX9_takeBook 189 = .ok (.goto (-23), 3) := dk_167 255 233 (dk_at dksX9_takeBook_8 0 rfl rfl)
theorem dX9_takeBook_192 : decode cX9_takeBook 192 = .ok (.aload_n 0, 1) := dk_42 (dk_at dksX9_takeBook_8 3 rfl rfl)
theorem dX9_takeBook_193 : decode cX9_takeBook 193 = .ok (.iconst 0, 1) := dk_3 (dk_at dksX9_takeBook_8 4 rfl rfl)
theorem dX9_takeBook_194 : decode cX9_takeBook 194 = .ok (.putfield 212, 3) := dk_181 0 212 (dk_at dksX9_takeBook_8 5 rfl rfl)
theorem dX9_takeBook_197 : decode cX9_takeBook 197 = .ok (.aload_n 0, 1) := dk_42 (dk_at dksX9_takeBook_8 8 rfl rfl)
theorem dX9_takeBook_198 : decode cX9_takeBook 198 = .ok (.iconst 0, 1) := dk_3 (dk_at dksX9_takeBook_8 9 rfl rfl)
theorem dX9_takeBook_199 : decode cX9_takeBook 199 = .ok (.putfield 215, 3) := dk_181 0 215 (dk_at dksX9_takeBook_8 10 rfl rfl)
theorem dX9_takeBook_202 : decode cX9_takeBook 202 = .ok (.aload_n 0, 1) := dk_42 (dk_at dksX9_takeBook_8 13 rfl rfl)
theorem dX9_takeBook_203 : decode cX9_takeBook 203 = .ok (.getfield 150, 3) := dk_180 0 150 (dk_at dksX9_takeBook_8 14 rfl rfl)
theorem dX9_takeBook_206 : decode cX9_takeBook 206 = .ok (.ireturn, 1) := dk_172 (dk_at dksX9_takeBook_8 17 rfl rfl)
abbrev cX9_place : ByteArray := prog_28_method_23_code
def yX9_place : MethodName := ⟨RX9, "place", "(III)I"⟩
def dkwX9_place_1 : List UInt8 := [160, 0, 8, 16, 16, 167, 0, 4, 28, 96, 172]
abbrev dktX9_place_1 : List UInt8 := dkwX9_place_1 ++ []
def dkwX9_place_0 : List UInt8 := [17, 1, 101, 26, 104, 16, 17, 27, 2, 160, 0, 8, 16, 16, 167, 0, 4, 27, 104, 96, 28, 2]
abbrev dktX9_place_0 : List UInt8 := dkwX9_place_0 ++ dktX9_place_1
theorem dksX9_place_0 : cX9_place.data.toList.drop 0 = dktX9_place_0 := by decide +kernel
theorem dksX9_place_1 : cX9_place.data.toList.drop 22 = dktX9_place_1 := dk_seg dksX9_place_0 22 rfl rfl
theorem dX9_place_0 : decode cX9_place 0 = .ok (.sipush 357, 3) := dk_17 1 101 (dk_at dksX9_place_0 0 rfl rfl)
theorem dX9_place_3 : decode cX9_place 3 = .ok (.iload_n 0, 1) := dk_26 (dk_at dksX9_place_0 3 rfl rfl)
theorem dX9_place_4 : decode cX9_place 4 = .ok (.imul, 1) := dk_104 (dk_at dksX9_place_0 4 rfl rfl)
theorem dX9_place_5 : decode cX9_place 5 = .ok (.bipush 17, 2) := dk_16 17 (dk_at dksX9_place_0 5 rfl rfl)
theorem dX9_place_7 : decode cX9_place 7 = .ok (.iload_n 1, 1) := dk_27 (dk_at dksX9_place_0 7 rfl rfl)
theorem dX9_place_8 : decode cX9_place 8 = .ok (.iconst (-1), 1) := dk_2 (dk_at dksX9_place_0 8 rfl rfl)
theorem dX9_place_9 : decode cX9_place 9 = .ok (.if_icmp .ne 8, 3) := dk_160 0 8 (dk_at dksX9_place_0 9 rfl rfl)
theorem dX9_place_12 : decode cX9_place 12 = .ok (.bipush 16, 2) := dk_16 16 (dk_at dksX9_place_0 12 rfl rfl)
theorem dX9_place_14 : decode cX9_place 14 = .ok (.goto 4, 3) := dk_167 0 4 (dk_at dksX9_place_0 14 rfl rfl)
theorem dX9_place_17 : decode cX9_place 17 = .ok (.iload_n 1, 1) := dk_27 (dk_at dksX9_place_0 17 rfl rfl)
theorem dX9_place_18 : decode cX9_place 18 = .ok (.imul, 1) := dk_104 (dk_at dksX9_place_0 18 rfl rfl)
theorem dX9_place_19 : decode cX9_place 19 = .ok (.iadd, 1) := dk_96 (dk_at dksX9_place_0 19 rfl rfl)
theorem dX9_place_20 : decode cX9_place 20 = .ok (.iload_n 2, 1) := dk_28 (dk_at dksX9_place_0 20 rfl rfl)
theorem dX9_place_21 : decode cX9_place 21 = .ok (.iconst (-1), 1) := dk_2 (dk_at dksX9_place_0 21 rfl rfl)
theorem dX9_place_22 : decode cX9_place 22 = .ok (.if_icmp .ne 8, 3) := dk_160 0 8 (dk_at dksX9_place_1 0 rfl rfl)
theorem dX9_place_25 : decode cX9_place 25 = .ok (.bipush 16, 2) := dk_16 16 (dk_at dksX9_place_1 3 rfl rfl)
theorem dX9_place_27 : decode cX9_place 27 = .ok (.goto 4, 3) := dk_167 0 4 (dk_at dksX9_place_1 5 rfl rfl)
theorem dX9_place_30 : decode cX9_place 30 = .ok (.iload_n 2, 1) := dk_28 (dk_at dksX9_place_1 8 rfl rfl)
theorem dX9_place_31 : decode cX9_place 31 = .ok (.iadd, 1) := dk_96 (dk_at dksX9_place_1 9 rfl rfl)
theorem dX9_place_32 : decode cX9_place 32 = .ok (.ireturn, 1) := dk_172 (dk_at dksX9_place_1 10 rfl rfl)
abbrev cX9_buildNow : ByteArray := prog_28_method_41_code
def yX9_buildNow : MethodName := ⟨RX9, "buildNow", "(II)V"⟩
def dkwX9_buildNow_7 : List UInt8 := [42, 27, 28, 21, 4, 6, 21, 6, 182, 0, 205, 132, 4, 1, 167, 255, 128, 177]
abbrev dktX9_buildNow_7 : List UInt8 := dkwX9_buildNow_7 ++ []
def dkwX9_buildNow_6 : List UInt8 := [180, 0, 47, 21, 4, 4, 96, 46, 4, 100, 182, 0, 205, 42, 27, 28, 21, 4, 5, 21, 5, 182, 0, 205]
abbrev dktX9_buildNow_6 : List UInt8 := dkwX9_buildNow_6 ++ dktX9_buildNow_7
def dkwX9_buildNow_5 : List UInt8 := [42, 27, 28, 21, 4, 3, 42, 180, 0, 47, 21, 4, 46, 182, 0, 205, 42, 27, 28, 21, 4, 4, 42]
abbrev dktX9_buildNow_5 : List UInt8 := dkwX9_buildNow_5 ++ dktX9_buildNow_6
def dkwX9_buildNow_4 : List UInt8 := [46, 96, 54, 5, 21, 6, 42, 180, 0, 40, 21, 7, 46, 184, 0, 202, 54, 6, 132, 7, 1, 167, 255, 213]
abbrev dktX9_buildNow_4 : List UInt8 := dkwX9_buildNow_4 ++ dktX9_buildNow_5
def dkwX9_buildNow_3 : List UInt8 := [54, 7, 21, 7, 42, 180, 0, 47, 21, 4, 4, 96, 46, 162, 0, 35, 21, 5, 42, 180, 0, 40, 21, 7]
abbrev dktX9_buildNow_3 : List UInt8 := dkwX9_buildNow_3 ++ dktX9_buildNow_4
def dkwX9_buildNow_2 : List UInt8 := [79, 3, 54, 4, 21, 4, 29, 162, 0, 128, 3, 54, 5, 3, 54, 6, 42, 180, 0, 47, 21, 4, 46]
abbrev dktX9_buildNow_2 : List UInt8 := dkwX9_buildNow_2 ++ dktX9_buildNow_3
def dkwX9_buildNow_1 : List UInt8 := [182, 0, 196, 42, 180, 0, 34, 27, 28, 184, 0, 147, 29, 79, 42, 180, 0, 34, 27, 28, 184, 0, 199, 3]
abbrev dktX9_buildNow_1 : List UInt8 := dkwX9_buildNow_1 ++ dktX9_buildNow_2
def dkwX9_buildNow_0 : List UInt8 := [42, 27, 28, 182, 0, 191, 42, 180, 0, 22, 3, 46, 42, 180, 0, 25, 27, 46, 184, 0, 194, 62, 42, 29]
abbrev dktX9_buildNow_0 : List UInt8 := dkwX9_buildNow_0 ++ dktX9_buildNow_1
theorem dksX9_buildNow_0 : cX9_buildNow.data.toList.drop 0 = dktX9_buildNow_0 := by decide +kernel
theorem dksX9_buildNow_1 : cX9_buildNow.data.toList.drop 24 = dktX9_buildNow_1 := dk_seg dksX9_buildNow_0 24 rfl rfl
theorem dksX9_buildNow_2 : cX9_buildNow.data.toList.drop 48 = dktX9_buildNow_2 := dk_seg dksX9_buildNow_1 24 rfl rfl
theorem dksX9_buildNow_3 : cX9_buildNow.data.toList.drop 71 = dktX9_buildNow_3 := dk_seg dksX9_buildNow_2 23 rfl rfl
theorem dksX9_buildNow_4 : cX9_buildNow.data.toList.drop 95 = dktX9_buildNow_4 := dk_seg dksX9_buildNow_3 24 rfl rfl
theorem dksX9_buildNow_5 : cX9_buildNow.data.toList.drop 119 = dktX9_buildNow_5 := dk_seg dksX9_buildNow_4 24 rfl rfl
theorem dksX9_buildNow_6 : cX9_buildNow.data.toList.drop 142 = dktX9_buildNow_6 := dk_seg dksX9_buildNow_5 23 rfl rfl
theorem dksX9_buildNow_7 : cX9_buildNow.data.toList.drop 166 = dktX9_buildNow_7 := dk_seg dksX9_buildNow_6 24 rfl rfl
theorem dX9_buildNow_0 : decode cX9_buildNow 0 = .ok (.aload_n 0, 1) := dk_42 (dk_at dksX9_buildNow_0 0 rfl rfl)
theorem dX9_buildNow_1 : decode cX9_buildNow 1 = .ok (.iload_n 1, 1) := dk_27 (dk_at dksX9_buildNow_0 1 rfl rfl)
theorem dX9_buildNow_2 : decode cX9_buildNow 2 = .ok (.iload_n 2, 1) := dk_28 (dk_at dksX9_buildNow_0 2 rfl rfl)
theorem dX9_buildNow_3 : decode cX9_buildNow 3 = .ok (.invokevirtual 191, 3) := dk_182 0 191 (dk_at dksX9_buildNow_0 3 rfl rfl)
theorem dX9_buildNow_6 : decode cX9_buildNow 6 = .ok (.aload_n 0, 1) := dk_42 (dk_at dksX9_buildNow_0 6 rfl rfl)
theorem dX9_buildNow_7 : decode cX9_buildNow 7 = .ok (.getfield 22, 3) := dk_180 0 22 (dk_at dksX9_buildNow_0 7 rfl rfl)
theorem dX9_buildNow_10 : decode cX9_buildNow 10 = .ok (.iconst 0, 1) := dk_3 (dk_at dksX9_buildNow_0 10 rfl rfl)
theorem dX9_buildNow_11 : decode cX9_buildNow 11 = .ok (.iaload, 1) := dk_46 (dk_at dksX9_buildNow_0 11 rfl rfl)
theorem dX9_buildNow_12 : decode cX9_buildNow 12 = .ok (.aload_n 0, 1) := dk_42 (dk_at dksX9_buildNow_0 12 rfl rfl)
theorem dX9_buildNow_13 : decode cX9_buildNow 13 = .ok (.getfield 25, 3) := dk_180 0 25 (dk_at dksX9_buildNow_0 13 rfl rfl)
theorem dX9_buildNow_16 : decode cX9_buildNow 16 = .ok (.iload_n 1, 1) := dk_27 (dk_at dksX9_buildNow_0 16 rfl rfl)
theorem dX9_buildNow_17 : decode cX9_buildNow 17 = .ok (.iaload, 1) := dk_46 (dk_at dksX9_buildNow_0 17 rfl rfl)
theorem dX9_buildNow_18 : decode cX9_buildNow 18 = .ok (.invokestatic 194, 3) := dk_184 0 194 (dk_at dksX9_buildNow_0 18 rfl rfl)
theorem dX9_buildNow_21 : decode cX9_buildNow 21 = .ok (.istore_n 3, 1) := dk_62 (dk_at dksX9_buildNow_0 21 rfl rfl)
theorem dX9_buildNow_22 : decode cX9_buildNow 22 = .ok (.aload_n 0, 1) := dk_42 (dk_at dksX9_buildNow_0 22 rfl rfl)
theorem dX9_buildNow_23 : decode cX9_buildNow 23 = .ok (.iload_n 3, 1) := dk_29 (dk_at dksX9_buildNow_0 23 rfl rfl)
theorem dX9_buildNow_24 : decode cX9_buildNow 24 = .ok (.invokevirtual 196, 3) := dk_182 0 196 (dk_at dksX9_buildNow_1 0 rfl rfl)
theorem dX9_buildNow_27 : decode cX9_buildNow 27 = .ok (.aload_n 0, 1) := dk_42 (dk_at dksX9_buildNow_1 3 rfl rfl)
theorem dX9_buildNow_28 : decode cX9_buildNow 28 = .ok (.getfield 34, 3) := dk_180 0 34 (dk_at dksX9_buildNow_1 4 rfl rfl)
theorem dX9_buildNow_31 : decode cX9_buildNow 31 = .ok (.iload_n 1, 1) := dk_27 (dk_at dksX9_buildNow_1 7 rfl rfl)
theorem dX9_buildNow_32 : decode cX9_buildNow 32 = .ok (.iload_n 2, 1) := dk_28 (dk_at dksX9_buildNow_1 8 rfl rfl)
theorem dX9_buildNow_33 : decode cX9_buildNow 33 = .ok (.invokestatic 147, 3) := dk_184 0 147 (dk_at dksX9_buildNow_1 9 rfl rfl)
theorem dX9_buildNow_36 : decode cX9_buildNow 36 = .ok (.iload_n 3, 1) := dk_29 (dk_at dksX9_buildNow_1 12 rfl rfl)
theorem dX9_buildNow_37 : decode cX9_buildNow 37 = .ok (.iastore, 1) := dk_79 (dk_at dksX9_buildNow_1 13 rfl rfl)
theorem dX9_buildNow_38 : decode cX9_buildNow 38 = .ok (.aload_n 0, 1) := dk_42 (dk_at dksX9_buildNow_1 14 rfl rfl)
theorem dX9_buildNow_39 : decode cX9_buildNow 39 = .ok (.getfield 34, 3) := dk_180 0 34 (dk_at dksX9_buildNow_1 15 rfl rfl)
theorem dX9_buildNow_42 : decode cX9_buildNow 42 = .ok (.iload_n 1, 1) := dk_27 (dk_at dksX9_buildNow_1 18 rfl rfl)
theorem dX9_buildNow_43 : decode cX9_buildNow 43 = .ok (.iload_n 2, 1) := dk_28 (dk_at dksX9_buildNow_1 19 rfl rfl)
theorem dX9_buildNow_44 : decode cX9_buildNow 44 = .ok (.invokestatic 199, 3) := dk_184 0 199 (dk_at dksX9_buildNow_1 20 rfl rfl)
theorem dX9_buildNow_47 : decode cX9_buildNow 47 = .ok (.iconst 0, 1) := dk_3 (dk_at dksX9_buildNow_1 23 rfl rfl)
theorem dX9_buildNow_48 : decode cX9_buildNow 48 = .ok (.iastore, 1) := dk_79 (dk_at dksX9_buildNow_2 0 rfl rfl)
theorem dX9_buildNow_49 : decode cX9_buildNow 49 = .ok (.iconst 0, 1) := dk_3 (dk_at dksX9_buildNow_2 1 rfl rfl)
theorem dX9_buildNow_50 : decode cX9_buildNow 50 = .ok (.istore 4, 2) := dk_54 4 (dk_at dksX9_buildNow_2 2 rfl rfl)
theorem dX9_buildNow_52 : decode cX9_buildNow 52 = .ok (.iload 4, 2) := dk_21 4 (dk_at dksX9_buildNow_2 4 rfl rfl)
theorem dX9_buildNow_54 : decode cX9_buildNow 54 = .ok (.iload_n 3, 1) := dk_29 (dk_at dksX9_buildNow_2 6 rfl rfl)
theorem dX9_buildNow_55 : decode cX9_buildNow 55 = .ok (.if_icmp .ge 128, 3) := dk_162 0 128 (dk_at dksX9_buildNow_2 7 rfl rfl)
theorem dX9_buildNow_58 : decode cX9_buildNow 58 = .ok (.iconst 0, 1) := dk_3 (dk_at dksX9_buildNow_2 10 rfl rfl)
theorem dX9_buildNow_59 : decode cX9_buildNow 59 = .ok (.istore 5, 2) := dk_54 5 (dk_at dksX9_buildNow_2 11 rfl rfl)
theorem dX9_buildNow_61 : decode cX9_buildNow 61 = .ok (.iconst 0, 1) := dk_3 (dk_at dksX9_buildNow_2 13 rfl rfl)
theorem dX9_buildNow_62 : decode cX9_buildNow 62 = .ok (.istore 6, 2) := dk_54 6 (dk_at dksX9_buildNow_2 14 rfl rfl)
theorem dX9_buildNow_64 : decode cX9_buildNow 64 = .ok (.aload_n 0, 1) := dk_42 (dk_at dksX9_buildNow_2 16 rfl rfl)
theorem dX9_buildNow_65 : decode cX9_buildNow 65 = .ok (.getfield 47, 3) := dk_180 0 47 (dk_at dksX9_buildNow_2 17 rfl rfl)
theorem dX9_buildNow_68 : decode cX9_buildNow 68 = .ok (.iload 4, 2) := dk_21 4 (dk_at dksX9_buildNow_2 20 rfl rfl)
theorem dX9_buildNow_70 : decode cX9_buildNow 70 = .ok (.iaload, 1) := dk_46 (dk_at dksX9_buildNow_2 22 rfl rfl)
theorem dX9_buildNow_71 : decode cX9_buildNow 71 = .ok (.istore 7, 2) := dk_54 7 (dk_at dksX9_buildNow_3 0 rfl rfl)
theorem dX9_buildNow_73 : decode cX9_buildNow 73 = .ok (.iload 7, 2) := dk_21 7 (dk_at dksX9_buildNow_3 2 rfl rfl)
theorem dX9_buildNow_75 : decode cX9_buildNow 75 = .ok (.aload_n 0, 1) := dk_42 (dk_at dksX9_buildNow_3 4 rfl rfl)
theorem dX9_buildNow_76 : decode cX9_buildNow 76 = .ok (.getfield 47, 3) := dk_180 0 47 (dk_at dksX9_buildNow_3 5 rfl rfl)
theorem dX9_buildNow_79 : decode cX9_buildNow 79 = .ok (.iload 4, 2) := dk_21 4 (dk_at dksX9_buildNow_3 8 rfl rfl)
theorem dX9_buildNow_81 : decode cX9_buildNow 81 = .ok (.iconst 1, 1) := dk_4 (dk_at dksX9_buildNow_3 10 rfl rfl)
theorem dX9_buildNow_82 : decode cX9_buildNow 82 = .ok (.iadd, 1) := dk_96 (dk_at dksX9_buildNow_3 11 rfl rfl)
theorem dX9_buildNow_83 : decode cX9_buildNow 83 = .ok (.iaload, 1) := dk_46 (dk_at dksX9_buildNow_3 12 rfl rfl)
theorem dX9_buildNow_84 : decode cX9_buildNow 84 = .ok (.if_icmp .ge 35, 3) := dk_162 0 35 (dk_at dksX9_buildNow_3 13 rfl rfl)
theorem dX9_buildNow_87 : decode cX9_buildNow 87 = .ok (.iload 5, 2) := dk_21 5 (dk_at dksX9_buildNow_3 16 rfl rfl)
theorem dX9_buildNow_89 : decode cX9_buildNow 89 = .ok (.aload_n 0, 1) := dk_42 (dk_at dksX9_buildNow_3 18 rfl rfl)
theorem dX9_buildNow_90 : decode cX9_buildNow 90 = .ok (.getfield 40, 3) := dk_180 0 40 (dk_at dksX9_buildNow_3 19 rfl rfl)
theorem dX9_buildNow_93 : decode cX9_buildNow 93 = .ok (.iload 7, 2) := dk_21 7 (dk_at dksX9_buildNow_3 22 rfl rfl)
theorem dX9_buildNow_95 : decode cX9_buildNow 95 = .ok (.iaload, 1) := dk_46 (dk_at dksX9_buildNow_4 0 rfl rfl)
theorem dX9_buildNow_96 : decode cX9_buildNow 96 = .ok (.iadd, 1) := dk_96 (dk_at dksX9_buildNow_4 1 rfl rfl)
theorem dX9_buildNow_97 : decode cX9_buildNow 97 = .ok (.istore 5, 2) := dk_54 5 (dk_at dksX9_buildNow_4 2 rfl rfl)
theorem dX9_buildNow_99 : decode cX9_buildNow 99 = .ok (.iload 6, 2) := dk_21 6 (dk_at dksX9_buildNow_4 4 rfl rfl)
theorem dX9_buildNow_101 : decode cX9_buildNow 101 = .ok (.aload_n 0, 1) := dk_42 (dk_at dksX9_buildNow_4 6 rfl rfl)
theorem dX9_buildNow_102 : decode cX9_buildNow 102 = .ok (.getfield 40, 3) := dk_180 0 40 (dk_at dksX9_buildNow_4 7 rfl rfl)
theorem dX9_buildNow_105 : decode cX9_buildNow 105 = .ok (.iload 7, 2) := dk_21 7 (dk_at dksX9_buildNow_4 10 rfl rfl)
theorem dX9_buildNow_107 : decode cX9_buildNow 107 = .ok (.iaload, 1) := dk_46 (dk_at dksX9_buildNow_4 12 rfl rfl)
theorem dX9_buildNow_108 : decode cX9_buildNow 108 = .ok (.invokestatic 202, 3) := dk_184 0 202 (dk_at dksX9_buildNow_4 13 rfl rfl)
theorem dX9_buildNow_111 : decode cX9_buildNow 111 = .ok (.istore 6, 2) := dk_54 6 (dk_at dksX9_buildNow_4 16 rfl rfl)
theorem dX9_buildNow_113 : decode cX9_buildNow 113 = .ok (.iinc 7 1, 3) := dk_132 7 1 (dk_at dksX9_buildNow_4 18 rfl rfl)
theorem dX9_buildNow_116 : decode cX9_buildNow 116 = .ok (.goto (-43), 3) := dk_167 255 213 (dk_at dksX9_buildNow_4 21 rfl rfl)
theorem dX9_buildNow_119 : decode cX9_buildNow 119 = .ok (.aload_n 0, 1) := dk_42 (dk_at dksX9_buildNow_5 0 rfl rfl)
theorem dX9_buildNow_120 : decode cX9_buildNow 120 = .ok (.iload_n 1, 1) := dk_27 (dk_at dksX9_buildNow_5 1 rfl rfl)
theorem dX9_buildNow_121 : decode cX9_buildNow 121 = .ok (.iload_n 2, 1) := dk_28 (dk_at dksX9_buildNow_5 2 rfl rfl)
theorem dX9_buildNow_122 : decode cX9_buildNow 122 = .ok (.iload 4, 2) := dk_21 4 (dk_at dksX9_buildNow_5 3 rfl rfl)
theorem dX9_buildNow_124 : decode cX9_buildNow 124 = .ok (.iconst 0, 1) := dk_3 (dk_at dksX9_buildNow_5 5 rfl rfl)
theorem dX9_buildNow_125 : decode cX9_buildNow 125 = .ok (.aload_n 0, 1) := dk_42 (dk_at dksX9_buildNow_5 6 rfl rfl)
theorem dX9_buildNow_126 : decode cX9_buildNow 126 = .ok (.getfield 47, 3) := dk_180 0 47 (dk_at dksX9_buildNow_5 7 rfl rfl)
theorem dX9_buildNow_129 : decode cX9_buildNow 129 = .ok (.iload 4, 2) := dk_21 4 (dk_at dksX9_buildNow_5 10 rfl rfl)
theorem dX9_buildNow_131 : decode cX9_buildNow 131 = .ok (.iaload, 1) := dk_46 (dk_at dksX9_buildNow_5 12 rfl rfl)
theorem dX9_buildNow_132 : decode cX9_buildNow 132 = .ok (.invokevirtual 205, 3) := dk_182 0 205 (dk_at dksX9_buildNow_5 13 rfl rfl)
theorem dX9_buildNow_135 : decode cX9_buildNow 135 = .ok (.aload_n 0, 1) := dk_42 (dk_at dksX9_buildNow_5 16 rfl rfl)
theorem dX9_buildNow_136 : decode cX9_buildNow 136 = .ok (.iload_n 1, 1) := dk_27 (dk_at dksX9_buildNow_5 17 rfl rfl)
theorem dX9_buildNow_137 : decode cX9_buildNow 137 = .ok (.iload_n 2, 1) := dk_28 (dk_at dksX9_buildNow_5 18 rfl rfl)
theorem dX9_buildNow_138 : decode cX9_buildNow 138 = .ok (.iload 4, 2) := dk_21 4 (dk_at dksX9_buildNow_5 19 rfl rfl)
theorem dX9_buildNow_140 : decode cX9_buildNow 140 = .ok (.iconst 1, 1) := dk_4 (dk_at dksX9_buildNow_5 21 rfl rfl)
theorem dX9_buildNow_141 : decode cX9_buildNow 141 = .ok (.aload_n 0, 1) := dk_42 (dk_at dksX9_buildNow_5 22 rfl rfl)
theorem dX9_buildNow_142 : decode cX9_buildNow 142 = .ok (.getfield 47, 3) := dk_180 0 47 (dk_at dksX9_buildNow_6 0 rfl rfl)
theorem dX9_buildNow_145 : decode cX9_buildNow 145 = .ok (.iload 4, 2) := dk_21 4 (dk_at dksX9_buildNow_6 3 rfl rfl)
theorem dX9_buildNow_147 : decode cX9_buildNow 147 = .ok (.iconst 1, 1) := dk_4 (dk_at dksX9_buildNow_6 5 rfl rfl)
theorem dX9_buildNow_148 : decode cX9_buildNow 148 = .ok (.iadd, 1) := dk_96 (dk_at dksX9_buildNow_6 6 rfl rfl)
theorem dX9_buildNow_149 : decode cX9_buildNow 149 = .ok (.iaload, 1) := dk_46 (dk_at dksX9_buildNow_6 7 rfl rfl)
theorem dX9_buildNow_150 : decode cX9_buildNow 150 = .ok (.iconst 1, 1) := dk_4 (dk_at dksX9_buildNow_6 8 rfl rfl)
theorem dX9_buildNow_151 : decode cX9_buildNow 151 = .ok (.isub, 1) := dk_100 (dk_at dksX9_buildNow_6 9 rfl rfl)
theorem dX9_buildNow_152 : decode cX9_buildNow 152 = .ok (.invokevirtual 205, 3) := dk_182 0 205 (dk_at dksX9_buildNow_6 10 rfl rfl)
theorem dX9_buildNow_155 : decode cX9_buildNow 155 = .ok (.aload_n 0, 1) := dk_42 (dk_at dksX9_buildNow_6 13 rfl rfl)
theorem dX9_buildNow_156 : decode cX9_buildNow 156 = .ok (.iload_n 1, 1) := dk_27 (dk_at dksX9_buildNow_6 14 rfl rfl)
theorem dX9_buildNow_157 : decode cX9_buildNow 157 = .ok (.iload_n 2, 1) := dk_28 (dk_at dksX9_buildNow_6 15 rfl rfl)
theorem dX9_buildNow_158 : decode cX9_buildNow 158 = .ok (.iload 4, 2) := dk_21 4 (dk_at dksX9_buildNow_6 16 rfl rfl)
theorem dX9_buildNow_160 : decode cX9_buildNow 160 = .ok (.iconst 2, 1) := dk_5 (dk_at dksX9_buildNow_6 18 rfl rfl)
theorem dX9_buildNow_161 : decode cX9_buildNow 161 = .ok (.iload 5, 2) := dk_21 5 (dk_at dksX9_buildNow_6 19 rfl rfl)
theorem dX9_buildNow_163 : decode cX9_buildNow 163 = .ok (.invokevirtual 205, 3) := dk_182 0 205 (dk_at dksX9_buildNow_6 21 rfl rfl)
theorem dX9_buildNow_166 : decode cX9_buildNow 166 = .ok (.aload_n 0, 1) := dk_42 (dk_at dksX9_buildNow_7 0 rfl rfl)
theorem dX9_buildNow_167 : decode cX9_buildNow 167 = .ok (.iload_n 1, 1) := dk_27 (dk_at dksX9_buildNow_7 1 rfl rfl)
theorem dX9_buildNow_168 : decode cX9_buildNow 168 = .ok (.iload_n 2, 1) := dk_28 (dk_at dksX9_buildNow_7 2 rfl rfl)
theorem dX9_buildNow_169 : decode cX9_buildNow 169 = .ok (.iload 4, 2) := dk_21 4 (dk_at dksX9_buildNow_7 3 rfl rfl)
theorem dX9_buildNow_171 : decode cX9_buildNow 171 = .ok (.iconst 3, 1) := dk_6 (dk_at dksX9_buildNow_7 5 rfl rfl)
theorem dX9_buildNow_172 : decode cX9_buildNow 172 = .ok (.iload 6, 2) := dk_21 6 (dk_at dksX9_buildNow_7 6 rfl rfl)
theorem dX9_buildNow_174 : decode cX9_buildNow 174 = .ok (.invokevirtual 205, 3) := dk_182 0 205 (dk_at dksX9_buildNow_7 8 rfl rfl)
theorem dX9_buildNow_177 : decode cX9_buildNow 177 = .ok (.iinc 4 1, 3) := dk_132 4 1 (dk_at dksX9_buildNow_7 11 rfl rfl)
theorem dX9_buildNow_180 : decode cX9_buildNow 180 = .ok (.goto (-128), 3) := dk_167 255 128 (dk_at dksX9_buildNow_7 14 rfl rfl)
theorem dX9_buildNow_183 : decode cX9_buildNow 183 = .ok (.return_, 1) := dk_177 (dk_at dksX9_buildNow_7 17 rfl rfl)
abbrev cX9_layCounts : ByteArray := prog_28_method_36_code
def yX9_layCounts : MethodName := ⟨RX9, "layCounts", "(II)V"⟩
def dkwX9_layCounts_1 : List UInt8 := [29, 42, 27, 28, 29, 182, 0, 167, 79, 132, 3, 1, 167, 255, 232, 177]
abbrev dktX9_layCounts_1 : List UInt8 := dkwX9_layCounts_1 ++ []
def dkwX9_layCounts_0 : List UInt8 := [42, 42, 180, 0, 25, 27, 46, 181, 0, 164, 3, 62, 29, 42, 180, 0, 164, 162, 0, 22, 42, 180, 0, 40]
abbrev dktX9_layCounts_0 : List UInt8 := dkwX9_layCounts_0 ++ dktX9_layCounts_1
theorem dksX9_layCounts_0 : cX9_layCounts.data.toList.drop 0 = dktX9_layCounts_0 := by decide +kernel
theorem dksX9_layCounts_1 : cX9_layCounts.data.toList.drop 24 = dktX9_layCounts_1 := dk_seg dksX9_layCounts_0 24 rfl rfl
theorem dX9_layCounts_0 : decode cX9_layCounts 0 = .ok (.aload_n 0, 1) := dk_42 (dk_at dksX9_layCounts_0 0 rfl rfl)
theorem dX9_layCounts_1 : decode cX9_layCounts 1 = .ok (.aload_n 0, 1) := dk_42 (dk_at dksX9_layCounts_0 1 rfl rfl)
theorem dX9_layCounts_2 : decode cX9_layCounts 2 = .ok (.getfield 25, 3) := dk_180 0 25 (dk_at dksX9_layCounts_0 2 rfl rfl)
theorem dX9_layCounts_5 : decode cX9_layCounts 5 = .ok (.iload_n 1, 1) := dk_27 (dk_at dksX9_layCounts_0 5 rfl rfl)
theorem dX9_layCounts_6 : decode cX9_layCounts 6 = .ok (.iaload, 1) := dk_46 (dk_at dksX9_layCounts_0 6 rfl rfl)
theorem dX9_layCounts_7 : decode cX9_layCounts 7 = .ok (.putfield 164, 3) := dk_181 0 164 (dk_at dksX9_layCounts_0 7 rfl rfl)
theorem dX9_layCounts_10 : decode cX9_layCounts 10 = .ok (.iconst 0, 1) := dk_3 (dk_at dksX9_layCounts_0 10 rfl rfl)
theorem dX9_layCounts_11 : decode cX9_layCounts 11 = .ok (.istore_n 3, 1) := dk_62 (dk_at dksX9_layCounts_0 11 rfl rfl)
theorem dX9_layCounts_12 : decode cX9_layCounts 12 = .ok (.iload_n 3, 1) := dk_29 (dk_at dksX9_layCounts_0 12 rfl rfl)
theorem dX9_layCounts_13 : decode cX9_layCounts 13 = .ok (.aload_n 0, 1) := dk_42 (dk_at dksX9_layCounts_0 13 rfl rfl)
theorem dX9_layCounts_14 : decode cX9_layCounts 14 = .ok (.getfield 164, 3) := dk_180 0 164 (dk_at dksX9_layCounts_0 14 rfl rfl)
theorem dX9_layCounts_17 : decode cX9_layCounts 17 = .ok (.if_icmp .ge 22, 3) := dk_162 0 22 (dk_at dksX9_layCounts_0 17 rfl rfl)
theorem dX9_layCounts_20 : decode cX9_layCounts 20 = .ok (.aload_n 0, 1) := dk_42 (dk_at dksX9_layCounts_0 20 rfl rfl)
theorem dX9_layCounts_21 : decode cX9_layCounts 21 = .ok (.getfield 40, 3) := dk_180 0 40 (dk_at dksX9_layCounts_0 21 rfl rfl)
theorem dX9_layCounts_24 : decode cX9_layCounts 24 = .ok (.iload_n 3, 1) := dk_29 (dk_at dksX9_layCounts_1 0 rfl rfl)
theorem dX9_layCounts_25 : decode cX9_layCounts 25 = .ok (.aload_n 0, 1) := dk_42 (dk_at dksX9_layCounts_1 1 rfl rfl)
theorem dX9_layCounts_26 : decode cX9_layCounts 26 = .ok (.iload_n 1, 1) := dk_27 (dk_at dksX9_layCounts_1 2 rfl rfl)
theorem dX9_layCounts_27 : decode cX9_layCounts 27 = .ok (.iload_n 2, 1) := dk_28 (dk_at dksX9_layCounts_1 3 rfl rfl)
theorem dX9_layCounts_28 : decode cX9_layCounts 28 = .ok (.iload_n 3, 1) := dk_29 (dk_at dksX9_layCounts_1 4 rfl rfl)
theorem dX9_layCounts_29 : decode cX9_layCounts 29 = .ok (.invokevirtual 167, 3) := dk_182 0 167 (dk_at dksX9_layCounts_1 5 rfl rfl)
theorem dX9_layCounts_32 : decode cX9_layCounts 32 = .ok (.iastore, 1) := dk_79 (dk_at dksX9_layCounts_1 8 rfl rfl)
theorem dX9_layCounts_33 : decode cX9_layCounts 33 = .ok (.iinc 3 1, 3) := dk_132 3 1 (dk_at dksX9_layCounts_1 9 rfl rfl)
theorem dX9_layCounts_36 : decode cX9_layCounts 36 = .ok (.goto (-24), 3) := dk_167 255 232 (dk_at dksX9_layCounts_1 12 rfl rfl)
theorem dX9_layCounts_39 : decode cX9_layCounts 39 = .ok (.return_, 1) := dk_177 (dk_at dksX9_layCounts_1 15 rfl rfl)
abbrev cX9_countAt : ByteArray := prog_28_method_33_code
def yX9_countAt : MethodName := ⟨RX9, "countAt", "(III)I"⟩
def dkwX9_countAt_2 : List UInt8 := [27, 21, 6, 29, 184, 0, 158, 46, 96, 54, 4, 132, 5, 1, 167, 255, 200, 21, 4, 172]
abbrev dktX9_countAt_2 : List UInt8 := dkwX9_countAt_2 ++ []
def dkwX9_countAt_1 : List UInt8 := [21, 5, 54, 6, 21, 4, 42, 180, 0, 34, 28, 154, 0, 13, 27, 29, 21, 6, 184, 0, 158, 167, 0, 10]
abbrev dktX9_countAt_1 : List UInt8 := dkwX9_countAt_1 ++ dktX9_countAt_2
def dkwX9_countAt_0 : List UInt8 := [3, 54, 4, 3, 54, 5, 21, 5, 16, 17, 162, 0, 55, 21, 5, 16, 16, 160, 0, 7, 2, 167, 0, 5]
abbrev dktX9_countAt_0 : List UInt8 := dkwX9_countAt_0 ++ dktX9_countAt_1
theorem dksX9_countAt_0 : cX9_countAt.data.toList.drop 0 = dktX9_countAt_0 := by decide +kernel
theorem dksX9_countAt_1 : cX9_countAt.data.toList.drop 24 = dktX9_countAt_1 := dk_seg dksX9_countAt_0 24 rfl rfl
theorem dksX9_countAt_2 : cX9_countAt.data.toList.drop 48 = dktX9_countAt_2 := dk_seg dksX9_countAt_1 24 rfl rfl
theorem dX9_countAt_0 : decode cX9_countAt 0 = .ok (.iconst 0, 1) := dk_3 (dk_at dksX9_countAt_0 0 rfl rfl)
theorem dX9_countAt_1 : decode cX9_countAt 1 = .ok (.istore 4, 2) := dk_54 4 (dk_at dksX9_countAt_0 1 rfl rfl)
theorem dX9_countAt_3 : decode cX9_countAt 3 = .ok (.iconst 0, 1) := dk_3 (dk_at dksX9_countAt_0 3 rfl rfl)
theorem dX9_countAt_4 : decode cX9_countAt 4 = .ok (.istore 5, 2) := dk_54 5 (dk_at dksX9_countAt_0 4 rfl rfl)
theorem dX9_countAt_6 : decode cX9_countAt 6 = .ok (.iload 5, 2) := dk_21 5 (dk_at dksX9_countAt_0 6 rfl rfl)
theorem dX9_countAt_8 : decode cX9_countAt 8 = .ok (.bipush 17, 2) := dk_16 17 (dk_at dksX9_countAt_0 8 rfl rfl)
theorem dX9_countAt_10 : decode cX9_countAt 10 = .ok (.if_icmp .ge 55, 3) := dk_162 0 55 (dk_at dksX9_countAt_0 10 rfl rfl)
theorem dX9_countAt_13 : decode cX9_countAt 13 = .ok (.iload 5, 2) := dk_21 5 (dk_at dksX9_countAt_0 13 rfl rfl)
theorem dX9_countAt_15 : decode cX9_countAt 15 = .ok (.bipush 16, 2) := dk_16 16 (dk_at dksX9_countAt_0 15 rfl rfl)
theorem dX9_countAt_17 : decode cX9_countAt 17 = .ok (.if_icmp .ne 7, 3) := dk_160 0 7 (dk_at dksX9_countAt_0 17 rfl rfl)
theorem dX9_countAt_20 : decode cX9_countAt 20 = .ok (.iconst (-1), 1) := dk_2 (dk_at dksX9_countAt_0 20 rfl rfl)
theorem dX9_countAt_21 : decode cX9_countAt 21 = .ok (.goto 5, 3) := dk_167 0 5 (dk_at dksX9_countAt_0 21 rfl rfl)
theorem dX9_countAt_24 : decode cX9_countAt 24 = .ok (.iload 5, 2) := dk_21 5 (dk_at dksX9_countAt_1 0 rfl rfl)
theorem dX9_countAt_26 : decode cX9_countAt 26 = .ok (.istore 6, 2) := dk_54 6 (dk_at dksX9_countAt_1 2 rfl rfl)
theorem dX9_countAt_28 : decode cX9_countAt 28 = .ok (.iload 4, 2) := dk_21 4 (dk_at dksX9_countAt_1 4 rfl rfl)
theorem dX9_countAt_30 : decode cX9_countAt 30 = .ok (.aload_n 0, 1) := dk_42 (dk_at dksX9_countAt_1 6 rfl rfl)
theorem dX9_countAt_31 : decode cX9_countAt 31 = .ok (.getfield 34, 3) := dk_180 0 34 (dk_at dksX9_countAt_1 7 rfl rfl)
theorem dX9_countAt_34 : decode cX9_countAt 34 = .ok (.iload_n 2, 1) := dk_28 (dk_at dksX9_countAt_1 10 rfl rfl)
theorem dX9_countAt_35 : decode cX9_countAt 35 = .ok (.ifCond .ne 13, 3) := dk_154 0 13 (dk_at dksX9_countAt_1 11 rfl rfl)
theorem dX9_countAt_38 : decode cX9_countAt 38 = .ok (.iload_n 1, 1) := dk_27 (dk_at dksX9_countAt_1 14 rfl rfl)
theorem dX9_countAt_39 : decode cX9_countAt 39 = .ok (.iload_n 3, 1) := dk_29 (dk_at dksX9_countAt_1 15 rfl rfl)
theorem dX9_countAt_40 : decode cX9_countAt 40 = .ok (.iload 6, 2) := dk_21 6 (dk_at dksX9_countAt_1 16 rfl rfl)
theorem dX9_countAt_42 : decode cX9_countAt 42 = .ok (.invokestatic 158, 3) := dk_184 0 158 (dk_at dksX9_countAt_1 18 rfl rfl)
theorem dX9_countAt_45 : decode cX9_countAt 45 = .ok (.goto 10, 3) := dk_167 0 10 (dk_at dksX9_countAt_1 21 rfl rfl)
theorem dX9_countAt_48 : decode cX9_countAt 48 = .ok (.iload_n 1, 1) := dk_27 (dk_at dksX9_countAt_2 0 rfl rfl)
theorem dX9_countAt_49 : decode cX9_countAt 49 = .ok (.iload 6, 2) := dk_21 6 (dk_at dksX9_countAt_2 1 rfl rfl)
theorem dX9_countAt_51 : decode cX9_countAt 51 = .ok (.iload_n 3, 1) := dk_29 (dk_at dksX9_countAt_2 3 rfl rfl)
theorem dX9_countAt_52 : decode cX9_countAt 52 = .ok (.invokestatic 158, 3) := dk_184 0 158 (dk_at dksX9_countAt_2 4 rfl rfl)
theorem dX9_countAt_55 : decode cX9_countAt 55 = .ok (.iaload, 1) := dk_46 (dk_at dksX9_countAt_2 7 rfl rfl)
theorem dX9_countAt_56 : decode cX9_countAt 56 = .ok (.iadd, 1) := dk_96 (dk_at dksX9_countAt_2 8 rfl rfl)
theorem dX9_countAt_57 : decode cX9_countAt 57 = .ok (.istore 4, 2) := dk_54 4 (dk_at dksX9_countAt_2 9 rfl rfl)
theorem dX9_countAt_59 : decode cX9_countAt 59 = .ok (.iinc 5 1, 3) := dk_132 5 1 (dk_at dksX9_countAt_2 11 rfl rfl)
theorem dX9_countAt_62 : decode cX9_countAt 62 = .ok (.goto (-56), 3) := dk_167 255 200 (dk_at dksX9_countAt_2 14 rfl rfl)
theorem dX9_countAt_65 : decode cX9_countAt 65 = .ok (.iload 4, 2) := dk_21 4 (dk_at dksX9_countAt_2 17 rfl rfl)
theorem dX9_countAt_67 : decode cX9_countAt 67 = .ok (.ireturn, 1) := dk_172 (dk_at dksX9_countAt_2 19 rfl rfl)
abbrev cX9_layBorders : ByteArray := prog_28_method_40_code
def yX9_layBorders : MethodName := ⟨RX9, "layBorders", "(I)V"⟩
def dkwX9_layBorders_5 : List UInt8 := [27, 42, 180, 0, 164, 79, 177]
abbrev dktX9_layBorders_5 : List UInt8 := dkwX9_layBorders_5 ++ []
def dkwX9_layBorders_4 : List UInt8 := [132, 4, 1, 167, 255, 194, 42, 180, 0, 47, 28, 21, 4, 79, 132, 2, 1, 167, 255, 161, 42, 180, 0, 47]
abbrev dktX9_layBorders_4 : List UInt8 := dkwX9_layBorders_4 ++ dktX9_layBorders_5
def dkwX9_layBorders_3 : List UInt8 := [184, 0, 174, 47, 97, 42, 180, 0, 43, 27, 28, 100, 4, 96, 29, 184, 0, 174, 47, 148, 153, 0, 9]
abbrev dktX9_layBorders_3 : List UInt8 := dkwX9_layBorders_3 ++ dktX9_layBorders_4
def dkwX9_layBorders_2 : List UInt8 := [20, 0, 172, 148, 153, 0, 42, 42, 29, 21, 4, 182, 0, 177, 42, 180, 0, 43, 27, 28, 100, 21, 4]
abbrev dktX9_layBorders_2 : List UInt8 := dkwX9_layBorders_2 ++ dktX9_layBorders_3
def dkwX9_layBorders_1 : List UInt8 := [4, 100, 46, 62, 29, 4, 96, 54, 4, 42, 180, 0, 43, 27, 28, 100, 21, 4, 184, 0, 174, 47]
abbrev dktX9_layBorders_1 : List UInt8 := dkwX9_layBorders_1 ++ dktX9_layBorders_2
def dkwX9_layBorders_0 : List UInt8 := [42, 27, 182, 0, 187, 42, 180, 0, 47, 3, 3, 79, 4, 61, 28, 27, 162, 0, 96, 42, 180, 0, 47, 28]
abbrev dktX9_layBorders_0 : List UInt8 := dkwX9_layBorders_0 ++ dktX9_layBorders_1
theorem dksX9_layBorders_0 : cX9_layBorders.data.toList.drop 0 = dktX9_layBorders_0 := by decide +kernel
theorem dksX9_layBorders_1 : cX9_layBorders.data.toList.drop 24 = dktX9_layBorders_1 := dk_seg dksX9_layBorders_0 24 rfl rfl
theorem dksX9_layBorders_2 : cX9_layBorders.data.toList.drop 46 = dktX9_layBorders_2 := dk_seg dksX9_layBorders_1 22 rfl rfl
theorem dksX9_layBorders_3 : cX9_layBorders.data.toList.drop 69 = dktX9_layBorders_3 := dk_seg dksX9_layBorders_2 23 rfl rfl
theorem dksX9_layBorders_4 : cX9_layBorders.data.toList.drop 92 = dktX9_layBorders_4 := dk_seg dksX9_layBorders_3 23 rfl rfl
theorem dksX9_layBorders_5 : cX9_layBorders.data.toList.drop 116 = dktX9_layBorders_5 := dk_seg dksX9_layBorders_4 24 rfl rfl
theorem dX9_layBorders_0 : decode cX9_layBorders 0 = .ok (.aload_n 0, 1) := dk_42 (dk_at dksX9_layBorders_0 0 rfl rfl)
theorem dX9_layBorders_1 : decode cX9_layBorders 1 = .ok (.iload_n 1, 1) := dk_27 (dk_at dksX9_layBorders_0 1 rfl rfl)
theorem dX9_layBorders_2 : decode cX9_layBorders 2 = .ok (.invokevirtual 187, 3) := dk_182 0 187 (dk_at dksX9_layBorders_0 2 rfl rfl)
theorem dX9_layBorders_5 : decode cX9_layBorders 5 = .ok (.aload_n 0, 1) := dk_42 (dk_at dksX9_layBorders_0 5 rfl rfl)
theorem dX9_layBorders_6 : decode cX9_layBorders 6 = .ok (.getfield 47, 3) := dk_180 0 47 (dk_at dksX9_layBorders_0 6 rfl rfl)
theorem dX9_layBorders_9 : decode cX9_layBorders 9 = .ok (.iconst 0, 1) := dk_3 (dk_at dksX9_layBorders_0 9 rfl rfl)
theorem dX9_layBorders_10 : decode cX9_layBorders 10 = .ok (.iconst 0, 1) := dk_3 (dk_at dksX9_layBorders_0 10 rfl rfl)
theorem dX9_layBorders_11 : decode cX9_layBorders 11 = .ok (.iastore, 1) := dk_79 (dk_at dksX9_layBorders_0 11 rfl rfl)
theorem dX9_layBorders_12 : decode cX9_layBorders 12 = .ok (.iconst 1, 1) := dk_4 (dk_at dksX9_layBorders_0 12 rfl rfl)
theorem dX9_layBorders_13 : decode cX9_layBorders 13 = .ok (.istore_n 2, 1) := dk_61 (dk_at dksX9_layBorders_0 13 rfl rfl)
theorem dX9_layBorders_14 : decode cX9_layBorders 14 = .ok (.iload_n 2, 1) := dk_28 (dk_at dksX9_layBorders_0 14 rfl rfl)
theorem dX9_layBorders_15 : decode cX9_layBorders 15 = .ok (.iload_n 1, 1) := dk_27 (dk_at dksX9_layBorders_0 15 rfl rfl)
theorem dX9_layBorders_16 : decode cX9_layBorders 16 = .ok (.if_icmp .ge 96, 3) := dk_162 0 96 (dk_at dksX9_layBorders_0 16 rfl rfl)
theorem dX9_layBorders_19 : decode cX9_layBorders 19 = .ok (.aload_n 0, 1) := dk_42 (dk_at dksX9_layBorders_0 19 rfl rfl)
theorem dX9_layBorders_20 : decode cX9_layBorders 20 = .ok (.getfield 47, 3) := dk_180 0 47 (dk_at dksX9_layBorders_0 20 rfl rfl)
theorem dX9_layBorders_23 : decode cX9_layBorders 23 = .ok (.iload_n 2, 1) := dk_28 (dk_at dksX9_layBorders_0 23 rfl rfl)
theorem dX9_layBorders_24 : decode cX9_layBorders 24 = .ok (.iconst 1, 1) := dk_4 (dk_at dksX9_layBorders_1 0 rfl rfl)
theorem dX9_layBorders_25 : decode cX9_layBorders 25 = .ok (.isub, 1) := dk_100 (dk_at dksX9_layBorders_1 1 rfl rfl)
theorem dX9_layBorders_26 : decode cX9_layBorders 26 = .ok (.iaload, 1) := dk_46 (dk_at dksX9_layBorders_1 2 rfl rfl)
theorem dX9_layBorders_27 : decode cX9_layBorders 27 = .ok (.istore_n 3, 1) := dk_62 (dk_at dksX9_layBorders_1 3 rfl rfl)
theorem dX9_layBorders_28 : decode cX9_layBorders 28 = .ok (.iload_n 3, 1) := dk_29 (dk_at dksX9_layBorders_1 4 rfl rfl)
theorem dX9_layBorders_29 : decode cX9_layBorders 29 = .ok (.iconst 1, 1) := dk_4 (dk_at dksX9_layBorders_1 5 rfl rfl)
theorem dX9_layBorders_30 : decode cX9_layBorders 30 = .ok (.iadd, 1) := dk_96 (dk_at dksX9_layBorders_1 6 rfl rfl)
theorem dX9_layBorders_31 : decode cX9_layBorders 31 = .ok (.istore 4, 2) := dk_54 4 (dk_at dksX9_layBorders_1 7 rfl rfl)
theorem dX9_layBorders_33 : decode cX9_layBorders 33 = .ok (.aload_n 0, 1) := dk_42 (dk_at dksX9_layBorders_1 9 rfl rfl)
theorem dX9_layBorders_34 : decode cX9_layBorders 34 = .ok (.getfield 43, 3) := dk_180 0 43 (dk_at dksX9_layBorders_1 10 rfl rfl)
theorem dX9_layBorders_37 : decode cX9_layBorders 37 = .ok (.iload_n 1, 1) := dk_27 (dk_at dksX9_layBorders_1 13 rfl rfl)
theorem dX9_layBorders_38 : decode cX9_layBorders 38 = .ok (.iload_n 2, 1) := dk_28 (dk_at dksX9_layBorders_1 14 rfl rfl)
theorem dX9_layBorders_39 : decode cX9_layBorders 39 = .ok (.isub, 1) := dk_100 (dk_at dksX9_layBorders_1 15 rfl rfl)
theorem dX9_layBorders_40 : decode cX9_layBorders 40 = .ok (.iload 4, 2) := dk_21 4 (dk_at dksX9_layBorders_1 16 rfl rfl)
theorem dX9_layBorders_42 : decode cX9_layBorders 42 = .ok (.invokestatic 174, 3) := dk_184 0 174 (dk_at dksX9_layBorders_1 18 rfl rfl)
theorem dX9_layBorders_45 : decode cX9_layBorders 45 = .ok (.laload, 1) := dk_47 (dk_at dksX9_layBorders_1 21 rfl rfl)
theorem dX9_layBorders_46 : decode cX9_layBorders 46 = .ok (.ldc2_w 172, 3) := dk_20 0 172 (dk_at dksX9_layBorders_2 0 rfl rfl)
theorem dX9_layBorders_49 : decode cX9_layBorders 49 = .ok (.lcmp, 1) := dk_148 (dk_at dksX9_layBorders_2 3 rfl rfl)
theorem dX9_layBorders_50 : decode cX9_layBorders 50 = .ok (.ifCond .eq 42, 3) := dk_153 0 42 (dk_at dksX9_layBorders_2 4 rfl rfl)
theorem dX9_layBorders_53 : decode cX9_layBorders 53 = .ok (.aload_n 0, 1) := dk_42 (dk_at dksX9_layBorders_2 7 rfl rfl)
theorem dX9_layBorders_54 : decode cX9_layBorders 54 = .ok (.iload_n 3, 1) := dk_29 (dk_at dksX9_layBorders_2 8 rfl rfl)
theorem dX9_layBorders_55 : decode cX9_layBorders 55 = .ok (.iload 4, 2) := dk_21 4 (dk_at dksX9_layBorders_2 9 rfl rfl)
theorem dX9_layBorders_57 : decode cX9_layBorders 57 = .ok (.invokevirtual 177, 3) := dk_182 0 177 (dk_at dksX9_layBorders_2 11 rfl rfl)
theorem dX9_layBorders_60 : decode cX9_layBorders 60 = .ok (.aload_n 0, 1) := dk_42 (dk_at dksX9_layBorders_2 14 rfl rfl)
theorem dX9_layBorders_61 : decode cX9_layBorders 61 = .ok (.getfield 43, 3) := dk_180 0 43 (dk_at dksX9_layBorders_2 15 rfl rfl)
theorem dX9_layBorders_64 : decode cX9_layBorders 64 = .ok (.iload_n 1, 1) := dk_27 (dk_at dksX9_layBorders_2 18 rfl rfl)
theorem dX9_layBorders_65 : decode cX9_layBorders 65 = .ok (.iload_n 2, 1) := dk_28 (dk_at dksX9_layBorders_2 19 rfl rfl)
theorem dX9_layBorders_66 : decode cX9_layBorders 66 = .ok (.isub, 1) := dk_100 (dk_at dksX9_layBorders_2 20 rfl rfl)
theorem dX9_layBorders_67 : decode cX9_layBorders 67 = .ok (.iload 4, 2) := dk_21 4 (dk_at dksX9_layBorders_2 21 rfl rfl)
theorem dX9_layBorders_69 : decode cX9_layBorders 69 = .ok (.invokestatic 174, 3) := dk_184 0 174 (dk_at dksX9_layBorders_3 0 rfl rfl)
theorem dX9_layBorders_72 : decode cX9_layBorders 72 = .ok (.laload, 1) := dk_47 (dk_at dksX9_layBorders_3 3 rfl rfl)
theorem dX9_layBorders_73 : decode cX9_layBorders 73 = .ok (.ladd, 1) := dk_97 (dk_at dksX9_layBorders_3 4 rfl rfl)
theorem dX9_layBorders_74 : decode cX9_layBorders 74 = .ok (.aload_n 0, 1) := dk_42 (dk_at dksX9_layBorders_3 5 rfl rfl)
theorem dX9_layBorders_75 : decode cX9_layBorders 75 = .ok (.getfield 43, 3) := dk_180 0 43 (dk_at dksX9_layBorders_3 6 rfl rfl)
theorem dX9_layBorders_78 : decode cX9_layBorders 78 = .ok (.iload_n 1, 1) := dk_27 (dk_at dksX9_layBorders_3 9 rfl rfl)
theorem dX9_layBorders_79 : decode cX9_layBorders 79 = .ok (.iload_n 2, 1) := dk_28 (dk_at dksX9_layBorders_3 10 rfl rfl)
theorem dX9_layBorders_80 : decode cX9_layBorders 80 = .ok (.isub, 1) := dk_100 (dk_at dksX9_layBorders_3 11 rfl rfl)
theorem dX9_layBorders_81 : decode cX9_layBorders 81 = .ok (.iconst 1, 1) := dk_4 (dk_at dksX9_layBorders_3 12 rfl rfl)
theorem dX9_layBorders_82 : decode cX9_layBorders 82 = .ok (.iadd, 1) := dk_96 (dk_at dksX9_layBorders_3 13 rfl rfl)
theorem dX9_layBorders_83 : decode cX9_layBorders 83 = .ok (.iload_n 3, 1) := dk_29 (dk_at dksX9_layBorders_3 14 rfl rfl)
theorem dX9_layBorders_84 : decode cX9_layBorders 84 = .ok (.invokestatic 174, 3) := dk_184 0 174 (dk_at dksX9_layBorders_3 15 rfl rfl)
theorem dX9_layBorders_87 : decode cX9_layBorders 87 = .ok (.laload, 1) := dk_47 (dk_at dksX9_layBorders_3 18 rfl rfl)
theorem dX9_layBorders_88 : decode cX9_layBorders 88 = .ok (.lcmp, 1) := dk_148 (dk_at dksX9_layBorders_3 19 rfl rfl)
theorem dX9_layBorders_89 : decode cX9_layBorders 89 = .ok (.ifCond .eq 9, 3) := dk_153 0 9 (dk_at dksX9_layBorders_3 20 rfl rfl)
theorem dX9_layBorders_92 : decode cX9_layBorders 92 = .ok (.iinc 4 1, 3) := dk_132 4 1 (dk_at dksX9_layBorders_4 0 rfl rfl)
theorem dX9_layBorders_95 : decode cX9_layBorders 95 = .ok (.goto (-62), 3) := dk_167 255 194 (dk_at dksX9_layBorders_4 3 rfl rfl)
theorem dX9_layBorders_98 : decode cX9_layBorders 98 = .ok (.aload_n 0, 1) := dk_42 (dk_at dksX9_layBorders_4 6 rfl rfl)
theorem dX9_layBorders_99 : decode cX9_layBorders 99 = .ok (.getfield 47, 3) := dk_180 0 47 (dk_at dksX9_layBorders_4 7 rfl rfl)
theorem dX9_layBorders_102 : decode cX9_layBorders 102 = .ok (.iload_n 2, 1) := dk_28 (dk_at dksX9_layBorders_4 10 rfl rfl)
theorem dX9_layBorders_103 : decode cX9_layBorders 103 = .ok (.iload 4, 2) := dk_21 4 (dk_at dksX9_layBorders_4 11 rfl rfl)
theorem dX9_layBorders_105 : decode cX9_layBorders 105 = .ok (.iastore, 1) := dk_79 (dk_at dksX9_layBorders_4 13 rfl rfl)
theorem dX9_layBorders_106 : decode cX9_layBorders 106 = .ok (.iinc 2 1, 3) := dk_132 2 1 (dk_at dksX9_layBorders_4 14 rfl rfl)
theorem dX9_layBorders_109 : decode cX9_layBorders 109 = .ok (.goto (-95), 3) := dk_167 255 161 (dk_at dksX9_layBorders_4 17 rfl rfl)
theorem dX9_layBorders_112 : decode cX9_layBorders 112 = .ok (.aload_n 0, 1) := dk_42 (dk_at dksX9_layBorders_4 20 rfl rfl)
theorem dX9_layBorders_113 : decode cX9_layBorders 113 = .ok (.getfield 47, 3) := dk_180 0 47 (dk_at dksX9_layBorders_4 21 rfl rfl)
theorem dX9_layBorders_116 : decode cX9_layBorders 116 = .ok (.iload_n 1, 1) := dk_27 (dk_at dksX9_layBorders_5 0 rfl rfl)
theorem dX9_layBorders_117 : decode cX9_layBorders 117 = .ok (.aload_n 0, 1) := dk_42 (dk_at dksX9_layBorders_5 1 rfl rfl)
theorem dX9_layBorders_118 : decode cX9_layBorders 118 = .ok (.getfield 164, 3) := dk_180 0 164 (dk_at dksX9_layBorders_5 2 rfl rfl)
theorem dX9_layBorders_121 : decode cX9_layBorders 121 = .ok (.iastore, 1) := dk_79 (dk_at dksX9_layBorders_5 5 rfl rfl)
theorem dX9_layBorders_122 : decode cX9_layBorders 122 = .ok (.return_, 1) := dk_177 (dk_at dksX9_layBorders_5 6 rfl rfl)
abbrev cX9_layLeast : ByteArray := prog_28_method_39_code
def yX9_layLeast : MethodName := ⟨RX9, "layLeast", "(I)V"⟩
def dkwX9_layLeast_5 : List UInt8 := [184, 0, 174, 22, 4, 80, 132, 3, 255, 167, 255, 146, 132, 2, 1, 167, 255, 130, 177]
abbrev dktX9_layLeast_5 : List UInt8 := dkwX9_layLeast_5 ++ []
def dkwX9_layLeast_4 : List UInt8 := [182, 0, 177, 22, 7, 97, 184, 0, 181, 55, 4, 132, 6, 1, 167, 255, 194, 42, 180, 0, 43, 28, 29]
abbrev dktX9_layLeast_4 : List UInt8 := dkwX9_layLeast_4 ++ dktX9_layLeast_5
def dkwX9_layLeast_3 : List UInt8 := [55, 7, 22, 7, 20, 0, 172, 148, 154, 0, 8, 22, 4, 167, 0, 18, 22, 4, 42, 29, 21, 6]
abbrev dktX9_layLeast_3 : List UInt8 := dkwX9_layLeast_3 ++ dktX9_layLeast_4
def dkwX9_layLeast_2 : List UInt8 := [180, 0, 164, 163, 0, 59, 28, 158, 0, 55, 42, 180, 0, 43, 28, 4, 100, 21, 6, 184, 0, 174, 47]
abbrev dktX9_layLeast_2 : List UInt8 := dkwX9_layLeast_2 ++ dktX9_layLeast_3
def dkwX9_layLeast_1 : List UInt8 := [180, 0, 164, 160, 0, 7, 9, 167, 0, 6, 20, 0, 172, 55, 4, 29, 4, 96, 54, 6, 21, 6, 42]
abbrev dktX9_layLeast_1 : List UInt8 := dkwX9_layLeast_1 ++ dktX9_layLeast_2
def dkwX9_layLeast_0 : List UInt8 := [3, 61, 28, 27, 163, 0, 127, 42, 180, 0, 164, 62, 29, 155, 0, 112, 28, 154, 0, 15, 29, 42]
abbrev dktX9_layLeast_0 : List UInt8 := dkwX9_layLeast_0 ++ dktX9_layLeast_1
theorem dksX9_layLeast_0 : cX9_layLeast.data.toList.drop 0 = dktX9_layLeast_0 := by decide +kernel
theorem dksX9_layLeast_1 : cX9_layLeast.data.toList.drop 22 = dktX9_layLeast_1 := dk_seg dksX9_layLeast_0 22 rfl rfl
theorem dksX9_layLeast_2 : cX9_layLeast.data.toList.drop 45 = dktX9_layLeast_2 := dk_seg dksX9_layLeast_1 23 rfl rfl
theorem dksX9_layLeast_3 : cX9_layLeast.data.toList.drop 68 = dktX9_layLeast_3 := dk_seg dksX9_layLeast_2 23 rfl rfl
theorem dksX9_layLeast_4 : cX9_layLeast.data.toList.drop 90 = dktX9_layLeast_4 := dk_seg dksX9_layLeast_3 22 rfl rfl
theorem dksX9_layLeast_5 : cX9_layLeast.data.toList.drop 113 = dktX9_layLeast_5 := dk_seg dksX9_layLeast_4 23 rfl rfl
theorem dX9_layLeast_0 : decode cX9_layLeast 0 = .ok (.iconst 0, 1) := dk_3 (dk_at dksX9_layLeast_0 0 rfl rfl)
theorem dX9_layLeast_1 : decode cX9_layLeast 1 = .ok (.istore_n 2, 1) := dk_61 (dk_at dksX9_layLeast_0 1 rfl rfl)
theorem dX9_layLeast_2 : decode cX9_layLeast 2 = .ok (.iload_n 2, 1) := dk_28 (dk_at dksX9_layLeast_0 2 rfl rfl)
theorem dX9_layLeast_3 : decode cX9_layLeast 3 = .ok (.iload_n 1, 1) := dk_27 (dk_at dksX9_layLeast_0 3 rfl rfl)
theorem dX9_layLeast_4 : decode cX9_layLeast 4 = .ok (.if_icmp .gt 127, 3) := dk_163 0 127 (dk_at dksX9_layLeast_0 4 rfl rfl)
theorem dX9_layLeast_7 : decode cX9_layLeast 7 = .ok (.aload_n 0, 1) := dk_42 (dk_at dksX9_layLeast_0 7 rfl rfl)
theorem dX9_layLeast_8 : decode cX9_layLeast 8 = .ok (.getfield 164, 3) := dk_180 0 164 (dk_at dksX9_layLeast_0 8 rfl rfl)
theorem dX9_layLeast_11 : decode cX9_layLeast 11 = .ok (.istore_n 3, 1) := dk_62 (dk_at dksX9_layLeast_0 11 rfl rfl)
theorem dX9_layLeast_12 : decode cX9_layLeast 12 = .ok (.iload_n 3, 1) := dk_29 (dk_at dksX9_layLeast_0 12 rfl rfl)
theorem dX9_layLeast_13 : decode cX9_layLeast 13 = .ok (.ifCond .lt 112, 3) := dk_155 0 112 (dk_at dksX9_layLeast_0 13 rfl rfl)
theorem dX9_layLeast_16 : decode cX9_layLeast 16 = .ok (.iload_n 2, 1) := dk_28 (dk_at dksX9_layLeast_0 16 rfl rfl)
theorem dX9_layLeast_17 : decode cX9_layLeast 17 = .ok (.ifCond .ne 15, 3) := dk_154 0 15 (dk_at dksX9_layLeast_0 17 rfl rfl)
theorem dX9_layLeast_20 : decode cX9_layLeast 20 = .ok (.iload_n 3, 1) := dk_29 (dk_at dksX9_layLeast_0 20 rfl rfl)
theorem dX9_layLeast_21 : decode cX9_layLeast 21 = .ok (.aload_n 0, 1) := dk_42 (dk_at dksX9_layLeast_0 21 rfl rfl)
theorem dX9_layLeast_22 : decode cX9_layLeast 22 = .ok (.getfield 164, 3) := dk_180 0 164 (dk_at dksX9_layLeast_1 0 rfl rfl)
theorem dX9_layLeast_25 : decode cX9_layLeast 25 = .ok (.if_icmp .ne 7, 3) := dk_160 0 7 (dk_at dksX9_layLeast_1 3 rfl rfl)
theorem dX9_layLeast_28 : decode cX9_layLeast 28 = .ok (.lconst 0, 1) := dk_9 (dk_at dksX9_layLeast_1 6 rfl rfl)
theorem dX9_layLeast_29 : decode cX9_layLeast 29 = .ok (.goto 6, 3) := dk_167 0 6 (dk_at dksX9_layLeast_1 7 rfl rfl)
theorem dX9_layLeast_32 : decode cX9_layLeast 32 = .ok (.ldc2_w 172, 3) := dk_20 0 172 (dk_at dksX9_layLeast_1 10 rfl rfl)
theorem dX9_layLeast_35 : decode cX9_layLeast 35 = .ok (.lstore 4, 2) := dk_55 4 (dk_at dksX9_layLeast_1 13 rfl rfl)
theorem dX9_layLeast_37 : decode cX9_layLeast 37 = .ok (.iload_n 3, 1) := dk_29 (dk_at dksX9_layLeast_1 15 rfl rfl)
theorem dX9_layLeast_38 : decode cX9_layLeast 38 = .ok (.iconst 1, 1) := dk_4 (dk_at dksX9_layLeast_1 16 rfl rfl)
theorem dX9_layLeast_39 : decode cX9_layLeast 39 = .ok (.iadd, 1) := dk_96 (dk_at dksX9_layLeast_1 17 rfl rfl)
theorem dX9_layLeast_40 : decode cX9_layLeast 40 = .ok (.istore 6, 2) := dk_54 6 (dk_at dksX9_layLeast_1 18 rfl rfl)
theorem dX9_layLeast_42 : decode cX9_layLeast 42 = .ok (.iload 6, 2) := dk_21 6 (dk_at dksX9_layLeast_1 20 rfl rfl)
theorem dX9_layLeast_44 : decode cX9_layLeast 44 = .ok (.aload_n 0, 1) := dk_42 (dk_at dksX9_layLeast_1 22 rfl rfl)
theorem dX9_layLeast_45 : decode cX9_layLeast 45 = .ok (.getfield 164, 3) := dk_180 0 164 (dk_at dksX9_layLeast_2 0 rfl rfl)
theorem dX9_layLeast_48 : decode cX9_layLeast 48 = .ok (.if_icmp .gt 59, 3) := dk_163 0 59 (dk_at dksX9_layLeast_2 3 rfl rfl)
theorem dX9_layLeast_51 : decode cX9_layLeast 51 = .ok (.iload_n 2, 1) := dk_28 (dk_at dksX9_layLeast_2 6 rfl rfl)
theorem dX9_layLeast_52 : decode cX9_layLeast 52 = .ok (.ifCond .le 55, 3) := dk_158 0 55 (dk_at dksX9_layLeast_2 7 rfl rfl)
theorem dX9_layLeast_55 : decode cX9_layLeast 55 = .ok (.aload_n 0, 1) := dk_42 (dk_at dksX9_layLeast_2 10 rfl rfl)
theorem dX9_layLeast_56 : decode cX9_layLeast 56 = .ok (.getfield 43, 3) := dk_180 0 43 (dk_at dksX9_layLeast_2 11 rfl rfl)
theorem dX9_layLeast_59 : decode cX9_layLeast 59 = .ok (.iload_n 2, 1) := dk_28 (dk_at dksX9_layLeast_2 14 rfl rfl)
theorem dX9_layLeast_60 : decode cX9_layLeast 60 = .ok (.iconst 1, 1) := dk_4 (dk_at dksX9_layLeast_2 15 rfl rfl)
theorem dX9_layLeast_61 : decode cX9_layLeast 61 = .ok (.isub, 1) := dk_100 (dk_at dksX9_layLeast_2 16 rfl rfl)
theorem dX9_layLeast_62 : decode cX9_layLeast 62 = .ok (.iload 6, 2) := dk_21 6 (dk_at dksX9_layLeast_2 17 rfl rfl)
theorem dX9_layLeast_64 : decode cX9_layLeast 64 = .ok (.invokestatic 174, 3) := dk_184 0 174 (dk_at dksX9_layLeast_2 19 rfl rfl)
theorem dX9_layLeast_67 : decode cX9_layLeast 67 = .ok (.laload, 1) := dk_47 (dk_at dksX9_layLeast_2 22 rfl rfl)
theorem dX9_layLeast_68 : decode cX9_layLeast 68 = .ok (.lstore 7, 2) := dk_55 7 (dk_at dksX9_layLeast_3 0 rfl rfl)
theorem dX9_layLeast_70 : decode cX9_layLeast 70 = .ok (.lload 7, 2) := dk_22 7 (dk_at dksX9_layLeast_3 2 rfl rfl)
theorem dX9_layLeast_72 : decode cX9_layLeast 72 = .ok (.ldc2_w 172, 3) := dk_20 0 172 (dk_at dksX9_layLeast_3 4 rfl rfl)
theorem dX9_layLeast_75 : decode cX9_layLeast 75 = .ok (.lcmp, 1) := dk_148 (dk_at dksX9_layLeast_3 7 rfl rfl)
theorem dX9_layLeast_76 : decode cX9_layLeast 76 = .ok (.ifCond .ne 8, 3) := dk_154 0 8 (dk_at dksX9_layLeast_3 8 rfl rfl)
theorem dX9_layLeast_79 : decode cX9_layLeast 79 = .ok (.lload 4, 2) := dk_22 4 (dk_at dksX9_layLeast_3 11 rfl rfl)
theorem dX9_layLeast_81 : decode cX9_layLeast 81 = .ok (.goto 18, 3) := dk_167 0 18 (dk_at dksX9_layLeast_3 13 rfl rfl)
theorem dX9_layLeast_84 : decode cX9_layLeast 84 = .ok (.lload 4, 2) := dk_22 4 (dk_at dksX9_layLeast_3 16 rfl rfl)
theorem dX9_layLeast_86 : decode cX9_layLeast 86 = .ok (.aload_n 0, 1) := dk_42 (dk_at dksX9_layLeast_3 18 rfl rfl)
theorem dX9_layLeast_87 : decode cX9_layLeast 87 = .ok (.iload_n 3, 1) := dk_29 (dk_at dksX9_layLeast_3 19 rfl rfl)
theorem dX9_layLeast_88 : decode cX9_layLeast 88 = .ok (.iload 6, 2) := dk_21 6 (dk_at dksX9_layLeast_3 20 rfl rfl)
theorem dX9_layLeast_90 : decode cX9_layLeast 90 = .ok (.invokevirtual 177, 3) := dk_182 0 177 (dk_at dksX9_layLeast_4 0 rfl rfl)
theorem dX9_layLeast_93 : decode cX9_layLeast 93 = .ok (.lload 7, 2) := dk_22 7 (dk_at dksX9_layLeast_4 3 rfl rfl)
theorem dX9_layLeast_95 : decode cX9_layLeast 95 = .ok (.ladd, 1) := dk_97 (dk_at dksX9_layLeast_4 5 rfl rfl)
theorem dX9_layLeast_96 : decode cX9_layLeast 96 = .ok (.invokestatic 181, 3) := dk_184 0 181 (dk_at dksX9_layLeast_4 6 rfl rfl)
theorem dX9_layLeast_99 : decode cX9_layLeast 99 = .ok (.lstore 4, 2) := dk_55 4 (dk_at dksX9_layLeast_4 9 rfl rfl)
theorem dX9_layLeast_101 : decode cX9_layLeast 101 = .ok (.iinc 6 1, 3) := dk_132 6 1 (dk_at dksX9_layLeast_4 11 rfl rfl)
theorem dX9_layLeast_104 : decode cX9_layLeast 104 = .ok (.goto (-62), 3) := dk_167 255 194 (dk_at dksX9_layLeast_4 14 rfl rfl)
theorem dX9_layLeast_107 : decode cX9_layLeast 107 = .ok (.aload_n 0, 1) := dk_42 (dk_at dksX9_layLeast_4 17 rfl rfl)
theorem dX9_layLeast_108 : decode cX9_layLeast 108 = .ok (.getfield 43, 3) := dk_180 0 43 (dk_at dksX9_layLeast_4 18 rfl rfl)
theorem dX9_layLeast_111 : decode cX9_layLeast 111 = .ok (.iload_n 2, 1) := dk_28 (dk_at dksX9_layLeast_4 21 rfl rfl)
theorem dX9_layLeast_112 : decode cX9_layLeast 112 = .ok (.iload_n 3, 1) := dk_29 (dk_at dksX9_layLeast_4 22 rfl rfl)
theorem dX9_layLeast_113 : decode cX9_layLeast 113 = .ok (.invokestatic 174, 3) := dk_184 0 174 (dk_at dksX9_layLeast_5 0 rfl rfl)
theorem dX9_layLeast_116 : decode cX9_layLeast 116 = .ok (.lload 4, 2) := dk_22 4 (dk_at dksX9_layLeast_5 3 rfl rfl)
theorem dX9_layLeast_118 : decode cX9_layLeast 118 = .ok (.lastore, 1) := dk_80 (dk_at dksX9_layLeast_5 5 rfl rfl)
theorem dX9_layLeast_119 : decode cX9_layLeast 119 = .ok (.iinc 3 (-1), 3) := dk_132 3 255 (dk_at dksX9_layLeast_5 6 rfl rfl)
theorem dX9_layLeast_122 : decode cX9_layLeast 122 = .ok (.goto (-110), 3) := dk_167 255 146 (dk_at dksX9_layLeast_5 9 rfl rfl)
theorem dX9_layLeast_125 : decode cX9_layLeast 125 = .ok (.iinc 2 1, 3) := dk_132 2 1 (dk_at dksX9_layLeast_5 12 rfl rfl)
theorem dX9_layLeast_128 : decode cX9_layLeast 128 = .ok (.goto (-126), 3) := dk_167 255 130 (dk_at dksX9_layLeast_5 15 rfl rfl)
theorem dX9_layLeast_131 : decode cX9_layLeast 131 = .ok (.return_, 1) := dk_177 (dk_at dksX9_layLeast_5 18 rfl rfl)
abbrev cX9_leastAt : ByteArray := prog_28_method_38_code
def yX9_leastAt : MethodName := ⟨RX9, "leastAt", "(II)I"⟩
def dkwX9_leastAt_0 : List UInt8 := [16, 18, 26, 104, 27, 96, 172]
abbrev dktX9_leastAt_0 : List UInt8 := dkwX9_leastAt_0 ++ []
theorem dksX9_leastAt_0 : cX9_leastAt.data.toList.drop 0 = dktX9_leastAt_0 := by decide +kernel
theorem dX9_leastAt_0 : decode cX9_leastAt 0 = .ok (.bipush 18, 2) := dk_16 18 (dk_at dksX9_leastAt_0 0 rfl rfl)
theorem dX9_leastAt_2 : decode cX9_leastAt 2 = .ok (.iload_n 0, 1) := dk_26 (dk_at dksX9_leastAt_0 2 rfl rfl)
theorem dX9_leastAt_3 : decode cX9_leastAt 3 = .ok (.imul, 1) := dk_104 (dk_at dksX9_leastAt_0 3 rfl rfl)
theorem dX9_leastAt_4 : decode cX9_leastAt 4 = .ok (.iload_n 1, 1) := dk_27 (dk_at dksX9_leastAt_0 4 rfl rfl)
theorem dX9_leastAt_5 : decode cX9_leastAt 5 = .ok (.iadd, 1) := dk_96 (dk_at dksX9_leastAt_0 5 rfl rfl)
theorem dX9_leastAt_6 : decode cX9_leastAt 6 = .ok (.ireturn, 1) := dk_172 (dk_at dksX9_leastAt_0 6 rfl rfl)
abbrev cX9_errorOf : ByteArray := prog_28_method_37_code
def yX9_errorOf : MethodName := ⟨RX9, "errorOf", "(II)J"⟩
def dkwX9_errorOf_3 : List UInt8 := [105, 101, 173]
abbrev dktX9_errorOf_3 : List UInt8 := dkwX9_errorOf_3 ++ []
def dkwX9_errorOf_2 : List UInt8 := [132, 7, 1, 167, 255, 214, 20, 0, 170, 33, 105, 20, 0, 170, 28, 27, 100, 133, 109, 22, 5, 105, 22, 5]
abbrev dktX9_errorOf_2 : List UInt8 := dkwX9_errorOf_2 ++ dktX9_errorOf_3
def dkwX9_errorOf_1 : List UInt8 := [180, 0, 40, 21, 7, 46, 133, 105, 97, 66, 22, 5, 42, 180, 0, 40, 21, 7, 46, 133, 97, 55, 5]
abbrev dktX9_errorOf_1 : List UInt8 := dkwX9_errorOf_1 ++ dktX9_errorOf_2
def dkwX9_errorOf_0 : List UInt8 := [9, 66, 9, 55, 5, 27, 54, 7, 21, 7, 28, 162, 0, 42, 33, 42, 180, 0, 40, 21, 7, 46, 133, 42]
abbrev dktX9_errorOf_0 : List UInt8 := dkwX9_errorOf_0 ++ dktX9_errorOf_1
theorem dksX9_errorOf_0 : cX9_errorOf.data.toList.drop 0 = dktX9_errorOf_0 := by decide +kernel
theorem dksX9_errorOf_1 : cX9_errorOf.data.toList.drop 24 = dktX9_errorOf_1 := dk_seg dksX9_errorOf_0 24 rfl rfl
theorem dksX9_errorOf_2 : cX9_errorOf.data.toList.drop 47 = dktX9_errorOf_2 := dk_seg dksX9_errorOf_1 23 rfl rfl
theorem dksX9_errorOf_3 : cX9_errorOf.data.toList.drop 71 = dktX9_errorOf_3 := dk_seg dksX9_errorOf_2 24 rfl rfl
theorem dX9_errorOf_0 : decode cX9_errorOf 0 = .ok (.lconst 0, 1) := dk_9 (dk_at dksX9_errorOf_0 0 rfl rfl)
theorem dX9_errorOf_1 : decode cX9_errorOf 1 = .ok (.lstore_n 3, 1) := dk_66 (dk_at dksX9_errorOf_0 1 rfl rfl)
theorem dX9_errorOf_2 : decode cX9_errorOf 2 = .ok (.lconst 0, 1) := dk_9 (dk_at dksX9_errorOf_0 2 rfl rfl)
theorem dX9_errorOf_3 : decode cX9_errorOf 3 = .ok (.lstore 5, 2) := dk_55 5 (dk_at dksX9_errorOf_0 3 rfl rfl)
theorem dX9_errorOf_5 : decode cX9_errorOf 5 = .ok (.iload_n 1, 1) := dk_27 (dk_at dksX9_errorOf_0 5 rfl rfl)
theorem dX9_errorOf_6 : decode cX9_errorOf 6 = .ok (.istore 7, 2) := dk_54 7 (dk_at dksX9_errorOf_0 6 rfl rfl)
theorem dX9_errorOf_8 : decode cX9_errorOf 8 = .ok (.iload 7, 2) := dk_21 7 (dk_at dksX9_errorOf_0 8 rfl rfl)
theorem dX9_errorOf_10 : decode cX9_errorOf 10 = .ok (.iload_n 2, 1) := dk_28 (dk_at dksX9_errorOf_0 10 rfl rfl)
theorem dX9_errorOf_11 : decode cX9_errorOf 11 = .ok (.if_icmp .ge 42, 3) := dk_162 0 42 (dk_at dksX9_errorOf_0 11 rfl rfl)
theorem dX9_errorOf_14 : decode cX9_errorOf 14 = .ok (.lload_n 3, 1) := dk_33 (dk_at dksX9_errorOf_0 14 rfl rfl)
theorem dX9_errorOf_15 : decode cX9_errorOf 15 = .ok (.aload_n 0, 1) := dk_42 (dk_at dksX9_errorOf_0 15 rfl rfl)
theorem dX9_errorOf_16 : decode cX9_errorOf 16 = .ok (.getfield 40, 3) := dk_180 0 40 (dk_at dksX9_errorOf_0 16 rfl rfl)
theorem dX9_errorOf_19 : decode cX9_errorOf 19 = .ok (.iload 7, 2) := dk_21 7 (dk_at dksX9_errorOf_0 19 rfl rfl)
theorem dX9_errorOf_21 : decode cX9_errorOf 21 = .ok (.iaload, 1) := dk_46 (dk_at dksX9_errorOf_0 21 rfl rfl)
theorem dX9_errorOf_22 : decode cX9_errorOf 22 = .ok (.i2l, 1) := dk_133 (dk_at dksX9_errorOf_0 22 rfl rfl)
theorem dX9_errorOf_23 : decode cX9_errorOf 23 = .ok (.aload_n 0, 1) := dk_42 (dk_at dksX9_errorOf_0 23 rfl rfl)
theorem dX9_errorOf_24 : decode cX9_errorOf 24 = .ok (.getfield 40, 3) := dk_180 0 40 (dk_at dksX9_errorOf_1 0 rfl rfl)
theorem dX9_errorOf_27 : decode cX9_errorOf 27 = .ok (.iload 7, 2) := dk_21 7 (dk_at dksX9_errorOf_1 3 rfl rfl)
theorem dX9_errorOf_29 : decode cX9_errorOf 29 = .ok (.iaload, 1) := dk_46 (dk_at dksX9_errorOf_1 5 rfl rfl)
theorem dX9_errorOf_30 : decode cX9_errorOf 30 = .ok (.i2l, 1) := dk_133 (dk_at dksX9_errorOf_1 6 rfl rfl)
theorem dX9_errorOf_31 : decode cX9_errorOf 31 = .ok (.lmul, 1) := dk_105 (dk_at dksX9_errorOf_1 7 rfl rfl)
theorem dX9_errorOf_32 : decode cX9_errorOf 32 = .ok (.ladd, 1) := dk_97 (dk_at dksX9_errorOf_1 8 rfl rfl)
theorem dX9_errorOf_33 : decode cX9_errorOf 33 = .ok (.lstore_n 3, 1) := dk_66 (dk_at dksX9_errorOf_1 9 rfl rfl)
theorem dX9_errorOf_34 : decode cX9_errorOf 34 = .ok (.lload 5, 2) := dk_22 5 (dk_at dksX9_errorOf_1 10 rfl rfl)
theorem dX9_errorOf_36 : decode cX9_errorOf 36 = .ok (.aload_n 0, 1) := dk_42 (dk_at dksX9_errorOf_1 12 rfl rfl)
theorem dX9_errorOf_37 : decode cX9_errorOf 37 = .ok (.getfield 40, 3) := dk_180 0 40 (dk_at dksX9_errorOf_1 13 rfl rfl)
theorem dX9_errorOf_40 : decode cX9_errorOf 40 = .ok (.iload 7, 2) := dk_21 7 (dk_at dksX9_errorOf_1 16 rfl rfl)
theorem dX9_errorOf_42 : decode cX9_errorOf 42 = .ok (.iaload, 1) := dk_46 (dk_at dksX9_errorOf_1 18 rfl rfl)
theorem dX9_errorOf_43 : decode cX9_errorOf 43 = .ok (.i2l, 1) := dk_133 (dk_at dksX9_errorOf_1 19 rfl rfl)
theorem dX9_errorOf_44 : decode cX9_errorOf 44 = .ok (.ladd, 1) := dk_97 (dk_at dksX9_errorOf_1 20 rfl rfl)
theorem dX9_errorOf_45 : decode cX9_errorOf 45 = .ok (.lstore 5, 2) := dk_55 5 (dk_at dksX9_errorOf_1 21 rfl rfl)
theorem dX9_errorOf_47 : decode cX9_errorOf 47 = .ok (.iinc 7 1, 3) := dk_132 7 1 (dk_at dksX9_errorOf_2 0 rfl rfl)
theorem dX9_errorOf_50 : decode cX9_errorOf 50 = .ok (.goto (-42), 3) := dk_167 255 214 (dk_at dksX9_errorOf_2 3 rfl rfl)
theorem dX9_errorOf_53 : decode cX9_errorOf 53 = .ok (.ldc2_w 170, 3) := dk_20 0 170 (dk_at dksX9_errorOf_2 6 rfl rfl)
theorem dX9_errorOf_56 : decode cX9_errorOf 56 = .ok (.lload_n 3, 1) := dk_33 (dk_at dksX9_errorOf_2 9 rfl rfl)
theorem dX9_errorOf_57 : decode cX9_errorOf 57 = .ok (.lmul, 1) := dk_105 (dk_at dksX9_errorOf_2 10 rfl rfl)
theorem dX9_errorOf_58 : decode cX9_errorOf 58 = .ok (.ldc2_w 170, 3) := dk_20 0 170 (dk_at dksX9_errorOf_2 11 rfl rfl)
theorem dX9_errorOf_61 : decode cX9_errorOf 61 = .ok (.iload_n 2, 1) := dk_28 (dk_at dksX9_errorOf_2 14 rfl rfl)
theorem dX9_errorOf_62 : decode cX9_errorOf 62 = .ok (.iload_n 1, 1) := dk_27 (dk_at dksX9_errorOf_2 15 rfl rfl)
theorem dX9_errorOf_63 : decode cX9_errorOf 63 = .ok (.isub, 1) := dk_100 (dk_at dksX9_errorOf_2 16 rfl rfl)
theorem dX9_errorOf_64 : decode cX9_errorOf 64 = .ok (.i2l, 1) := dk_133 (dk_at dksX9_errorOf_2 17 rfl rfl)
theorem dX9_errorOf_65 : decode cX9_errorOf 65 = .ok (.ldiv, 1) := dk_109 (dk_at dksX9_errorOf_2 18 rfl rfl)
theorem dX9_errorOf_66 : decode cX9_errorOf 66 = .ok (.lload 5, 2) := dk_22 5 (dk_at dksX9_errorOf_2 19 rfl rfl)
theorem dX9_errorOf_68 : decode cX9_errorOf 68 = .ok (.lmul, 1) := dk_105 (dk_at dksX9_errorOf_2 21 rfl rfl)
theorem dX9_errorOf_69 : decode cX9_errorOf 69 = .ok (.lload 5, 2) := dk_22 5 (dk_at dksX9_errorOf_2 22 rfl rfl)
theorem dX9_errorOf_71 : decode cX9_errorOf 71 = .ok (.lmul, 1) := dk_105 (dk_at dksX9_errorOf_3 0 rfl rfl)
theorem dX9_errorOf_72 : decode cX9_errorOf 72 = .ok (.lsub, 1) := dk_101 (dk_at dksX9_errorOf_3 1 rfl rfl)
theorem dX9_errorOf_73 : decode cX9_errorOf 73 = .ok (.lreturn, 1) := dk_173 (dk_at dksX9_errorOf_3 2 rfl rfl)
abbrev cX9_column : ByteArray := prog_28_method_24_code
def yX9_column : MethodName := ⟨RX9, "column", "(II)I"⟩
def dkwX9_column_0 : List UInt8 := [17, 1, 101, 26, 104, 17, 1, 33, 96, 16, 34, 27, 104, 96, 172]
abbrev dktX9_column_0 : List UInt8 := dkwX9_column_0 ++ []
theorem dksX9_column_0 : cX9_column.data.toList.drop 0 = dktX9_column_0 := by decide +kernel
theorem dX9_column_0 : decode cX9_column 0 = .ok (.sipush 357, 3) := dk_17 1 101 (dk_at dksX9_column_0 0 rfl rfl)
theorem dX9_column_3 : decode cX9_column 3 = .ok (.iload_n 0, 1) := dk_26 (dk_at dksX9_column_0 3 rfl rfl)
theorem dX9_column_4 : decode cX9_column 4 = .ok (.imul, 1) := dk_104 (dk_at dksX9_column_0 4 rfl rfl)
theorem dX9_column_5 : decode cX9_column 5 = .ok (.sipush 289, 3) := dk_17 1 33 (dk_at dksX9_column_0 5 rfl rfl)
theorem dX9_column_8 : decode cX9_column 8 = .ok (.iadd, 1) := dk_96 (dk_at dksX9_column_0 8 rfl rfl)
theorem dX9_column_9 : decode cX9_column 9 = .ok (.bipush 34, 2) := dk_16 34 (dk_at dksX9_column_0 9 rfl rfl)
theorem dX9_column_11 : decode cX9_column 11 = .ok (.iload_n 1, 1) := dk_27 (dk_at dksX9_column_0 11 rfl rfl)
theorem dX9_column_12 : decode cX9_column 12 = .ok (.imul, 1) := dk_104 (dk_at dksX9_column_0 12 rfl rfl)
theorem dX9_column_13 : decode cX9_column 13 = .ok (.iadd, 1) := dk_96 (dk_at dksX9_column_0 13 rfl rfl)
theorem dX9_column_14 : decode cX9_column 14 = .ok (.ireturn, 1) := dk_172 (dk_at dksX9_column_0 14 rfl rfl)
abbrev cX9_drift : ByteArray := prog_28_method_25_code
def yX9_drift : MethodName := ⟨RX9, "drift", "(II)I"⟩
def dkwX9_drift_0 : List UInt8 := [26, 27, 184, 0, 147, 16, 34, 96, 4, 100, 172]
abbrev dktX9_drift_0 : List UInt8 := dkwX9_drift_0 ++ []
theorem dksX9_drift_0 : cX9_drift.data.toList.drop 0 = dktX9_drift_0 := by decide +kernel
theorem dX9_drift_0 : decode cX9_drift 0 = .ok (.iload_n 0, 1) := dk_26 (dk_at dksX9_drift_0 0 rfl rfl)
theorem dX9_drift_1 : decode cX9_drift 1 = .ok (.iload_n 1, 1) := dk_27 (dk_at dksX9_drift_0 1 rfl rfl)
theorem dX9_drift_2 : decode cX9_drift 2 = .ok (.invokestatic 147, 3) := dk_184 0 147 (dk_at dksX9_drift_0 2 rfl rfl)
theorem dX9_drift_5 : decode cX9_drift 5 = .ok (.bipush 34, 2) := dk_16 34 (dk_at dksX9_drift_0 5 rfl rfl)
theorem dX9_drift_7 : decode cX9_drift 7 = .ok (.iadd, 1) := dk_96 (dk_at dksX9_drift_0 7 rfl rfl)
theorem dX9_drift_8 : decode cX9_drift 8 = .ok (.iconst 1, 1) := dk_4 (dk_at dksX9_drift_0 8 rfl rfl)
theorem dX9_drift_9 : decode cX9_drift 9 = .ok (.isub, 1) := dk_100 (dk_at dksX9_drift_0 9 rfl rfl)
theorem dX9_drift_10 : decode cX9_drift 10 = .ok (.ireturn, 1) := dk_172 (dk_at dksX9_drift_0 10 rfl rfl)
abbrev cX9_put : ByteArray := prog_28_method_28_code
def yX9_put : MethodName := ⟨RX9, "put", "(IIIII)V"⟩
def dkwX9_put_0 : List UInt8 := [42, 180, 0, 34, 27, 28, 184, 0, 147, 4, 96, 7, 29, 104, 96, 21, 4, 96, 21, 5, 79, 177]
abbrev dktX9_put_0 : List UInt8 := dkwX9_put_0 ++ []
theorem dksX9_put_0 : cX9_put.data.toList.drop 0 = dktX9_put_0 := by decide +kernel
theorem dX9_put_0 : decode cX9_put 0 = .ok (.aload_n 0, 1) := dk_42 (dk_at dksX9_put_0 0 rfl rfl)
theorem dX9_put_1 : decode cX9_put 1 = .ok (.getfield 34, 3) := dk_180 0 34 (dk_at dksX9_put_0 1 rfl rfl)
theorem dX9_put_4 : decode cX9_put 4 = .ok (.iload_n 1, 1) := dk_27 (dk_at dksX9_put_0 4 rfl rfl)
theorem dX9_put_5 : decode cX9_put 5 = .ok (.iload_n 2, 1) := dk_28 (dk_at dksX9_put_0 5 rfl rfl)
theorem dX9_put_6 : decode cX9_put 6 = .ok (.invokestatic 147, 3) := dk_184 0 147 (dk_at dksX9_put_0 6 rfl rfl)
theorem dX9_put_9 : decode cX9_put 9 = .ok (.iconst 1, 1) := dk_4 (dk_at dksX9_put_0 9 rfl rfl)
theorem dX9_put_10 : decode cX9_put 10 = .ok (.iadd, 1) := dk_96 (dk_at dksX9_put_0 10 rfl rfl)
theorem dX9_put_11 : decode cX9_put 11 = .ok (.iconst 4, 1) := dk_7 (dk_at dksX9_put_0 11 rfl rfl)
theorem dX9_put_12 : decode cX9_put 12 = .ok (.iload_n 3, 1) := dk_29 (dk_at dksX9_put_0 12 rfl rfl)
theorem dX9_put_13 : decode cX9_put 13 = .ok (.imul, 1) := dk_104 (dk_at dksX9_put_0 13 rfl rfl)
theorem dX9_put_14 : decode cX9_put 14 = .ok (.iadd, 1) := dk_96 (dk_at dksX9_put_0 14 rfl rfl)
theorem dX9_put_15 : decode cX9_put 15 = .ok (.iload 4, 2) := dk_21 4 (dk_at dksX9_put_0 15 rfl rfl)
theorem dX9_put_17 : decode cX9_put 17 = .ok (.iadd, 1) := dk_96 (dk_at dksX9_put_0 17 rfl rfl)
theorem dX9_put_18 : decode cX9_put 18 = .ok (.iload 5, 2) := dk_21 5 (dk_at dksX9_put_0 18 rfl rfl)
theorem dX9_put_20 : decode cX9_put 20 = .ok (.iastore, 1) := dk_79 (dk_at dksX9_put_0 20 rfl rfl)
theorem dX9_put_21 : decode cX9_put 21 = .ok (.return_, 1) := dk_177 (dk_at dksX9_put_0 21 rfl rfl)
abbrev cX9_rule : ByteArray := prog_28_method_44_code
def yX9_rule : MethodName := ⟨RX9, "rule", "(I)I"⟩
def dkwX9_rule_1 : List UInt8 := [5, 160, 0, 14, 42, 180, 0, 34, 17, 4, 47, 46, 167, 0, 9, 42, 180, 0, 22, 27, 46, 172]
abbrev dktX9_rule_1 : List UInt8 := dkwX9_rule_1 ++ []
def dkwX9_rule_0 : List UInt8 := [42, 182, 0, 225, 153, 0, 15, 27, 133, 9, 20, 0, 228, 184, 0, 77, 154, 0, 7, 2, 167, 0, 25, 27]
abbrev dktX9_rule_0 : List UInt8 := dkwX9_rule_0 ++ dktX9_rule_1
theorem dksX9_rule_0 : cX9_rule.data.toList.drop 0 = dktX9_rule_0 := by decide +kernel
theorem dksX9_rule_1 : cX9_rule.data.toList.drop 24 = dktX9_rule_1 := dk_seg dksX9_rule_0 24 rfl rfl
theorem dX9_rule_0 : decode cX9_rule 0 = .ok (.aload_n 0, 1) := dk_42 (dk_at dksX9_rule_0 0 rfl rfl)
theorem dX9_rule_1 : decode cX9_rule 1 = .ok (.invokevirtual 225, 3) := dk_182 0 225 (dk_at dksX9_rule_0 1 rfl rfl)
theorem dX9_rule_4 : decode cX9_rule 4 = .ok (.ifCond .eq 15, 3) := dk_153 0 15 (dk_at dksX9_rule_0 4 rfl rfl)
theorem dX9_rule_7 : decode cX9_rule 7 = .ok (.iload_n 1, 1) := dk_27 (dk_at dksX9_rule_0 7 rfl rfl)
theorem dX9_rule_8 : decode cX9_rule 8 = .ok (.i2l, 1) := dk_133 (dk_at dksX9_rule_0 8 rfl rfl)
theorem dX9_rule_9 : decode cX9_rule 9 = .ok (.lconst 0, 1) := dk_9 (dk_at dksX9_rule_0 9 rfl rfl)
theorem dX9_rule_10 : decode cX9_rule 10 = .ok (.ldc2_w 228, 3) := dk_20 0 228 (dk_at dksX9_rule_0 10 rfl rfl)
theorem dX9_rule_13 : decode cX9_rule 13 = .ok (.invokestatic 77, 3) := dk_184 0 77 (dk_at dksX9_rule_0 13 rfl rfl)
theorem dX9_rule_16 : decode cX9_rule 16 = .ok (.ifCond .ne 7, 3) := dk_154 0 7 (dk_at dksX9_rule_0 16 rfl rfl)
theorem dX9_rule_19 : decode cX9_rule 19 = .ok (.iconst (-1), 1) := dk_2 (dk_at dksX9_rule_0 19 rfl rfl)
theorem dX9_rule_20 : decode cX9_rule 20 = .ok (.goto 25, 3) := dk_167 0 25 (dk_at dksX9_rule_0 20 rfl rfl)
theorem dX9_rule_23 : decode cX9_rule 23 = .ok (.iload_n 1, 1) := dk_27 (dk_at dksX9_rule_0 23 rfl rfl)
theorem dX9_rule_24 : decode cX9_rule 24 = .ok (.iconst 2, 1) := dk_5 (dk_at dksX9_rule_1 0 rfl rfl)
theorem dX9_rule_25 : decode cX9_rule 25 = .ok (.if_icmp .ne 14, 3) := dk_160 0 14 (dk_at dksX9_rule_1 1 rfl rfl)
theorem dX9_rule_28 : decode cX9_rule 28 = .ok (.aload_n 0, 1) := dk_42 (dk_at dksX9_rule_1 4 rfl rfl)
theorem dX9_rule_29 : decode cX9_rule 29 = .ok (.getfield 34, 3) := dk_180 0 34 (dk_at dksX9_rule_1 5 rfl rfl)
theorem dX9_rule_32 : decode cX9_rule 32 = .ok (.sipush 1071, 3) := dk_17 4 47 (dk_at dksX9_rule_1 8 rfl rfl)
theorem dX9_rule_35 : decode cX9_rule 35 = .ok (.iaload, 1) := dk_46 (dk_at dksX9_rule_1 11 rfl rfl)
theorem dX9_rule_36 : decode cX9_rule 36 = .ok (.goto 9, 3) := dk_167 0 9 (dk_at dksX9_rule_1 12 rfl rfl)
theorem dX9_rule_39 : decode cX9_rule 39 = .ok (.aload_n 0, 1) := dk_42 (dk_at dksX9_rule_1 15 rfl rfl)
theorem dX9_rule_40 : decode cX9_rule 40 = .ok (.getfield 22, 3) := dk_180 0 22 (dk_at dksX9_rule_1 16 rfl rfl)
theorem dX9_rule_43 : decode cX9_rule 43 = .ok (.iload_n 1, 1) := dk_27 (dk_at dksX9_rule_1 19 rfl rfl)
theorem dX9_rule_44 : decode cX9_rule 44 = .ok (.iaload, 1) := dk_46 (dk_at dksX9_rule_1 20 rfl rfl)
theorem dX9_rule_45 : decode cX9_rule 45 = .ok (.ireturn, 1) := dk_172 (dk_at dksX9_rule_1 21 rfl rfl)
abbrev cX9_isBook : ByteArray := prog_28_method_29_code
def yX9_isBook : MethodName := ⟨RX9, "isBook", "()Z"⟩
def dkwX9_isBook_0 : List UInt8 := [42, 180, 0, 150, 158, 0, 7, 4, 167, 0, 4, 3, 172]
abbrev dktX9_isBook_0 : List UInt8 := dkwX9_isBook_0 ++ []
theorem dksX9_isBook_0 : cX9_isBook.data.toList.drop 0 = dktX9_isBook_0 := by decide +kernel
theorem dX9_isBook_0 : decode cX9_isBook 0 = .ok (.aload_n 0, 1) := dk_42 (dk_at dksX9_isBook_0 0 rfl rfl)
theorem dX9_isBook_1 : decode cX9_isBook 1 = .ok (.getfield 150, 3) := dk_180 0 150 (dk_at dksX9_isBook_0 1 rfl rfl)
theorem dX9_isBook_4 : decode cX9_isBook 4 = .ok (.ifCond .le 7, 3) := dk_158 0 7 (dk_at dksX9_isBook_0 4 rfl rfl)
theorem dX9_isBook_7 : decode cX9_isBook 7 = .ok (.iconst 1, 1) := dk_4 (dk_at dksX9_isBook_0 7 rfl rfl)
theorem dX9_isBook_8 : decode cX9_isBook 8 = .ok (.goto 4, 3) := dk_167 0 4 (dk_at dksX9_isBook_0 8 rfl rfl)
theorem dX9_isBook_11 : decode cX9_isBook 11 = .ok (.iconst 0, 1) := dk_3 (dk_at dksX9_isBook_0 11 rfl rfl)
theorem dX9_isBook_12 : decode cX9_isBook 12 = .ok (.ireturn, 1) := dk_172 (dk_at dksX9_isBook_0 12 rfl rfl)
abbrev cX9_table : ByteArray := prog_28_method_45_code
def yX9_table : MethodName := ⟨RX9, "table", "(II)I"⟩
def dkwX9_table_3 : List UInt8 := [5, 100, 2, 182, 0, 167, 172]
abbrev dktX9_table_3 : List UInt8 := dkwX9_table_3 ++ []
def dkwX9_table_2 : List UInt8 := [180, 0, 25, 27, 46, 167, 0, 25, 28, 4, 160, 0, 11, 42, 27, 182, 0, 161, 167, 0, 12, 42, 27, 28]
abbrev dktX9_table_2 : List UInt8 := dkwX9_table_2 ++ dktX9_table_3
def dkwX9_table_1 : List UInt8 := [167, 0, 4, 4, 181, 0, 66, 42, 180, 0, 66, 4, 160, 0, 5, 3, 172, 28, 154, 0, 12, 42]
abbrev dktX9_table_1 : List UInt8 := dkwX9_table_1 ++ dktX9_table_2
def dkwX9_table_0 : List UInt8 := [42, 42, 27, 182, 0, 153, 153, 0, 19, 28, 133, 9, 20, 0, 230, 184, 0, 77, 153, 0, 7, 3]
abbrev dktX9_table_0 : List UInt8 := dkwX9_table_0 ++ dktX9_table_1
theorem dksX9_table_0 : cX9_table.data.toList.drop 0 = dktX9_table_0 := by decide +kernel
theorem dksX9_table_1 : cX9_table.data.toList.drop 22 = dktX9_table_1 := dk_seg dksX9_table_0 22 rfl rfl
theorem dksX9_table_2 : cX9_table.data.toList.drop 44 = dktX9_table_2 := dk_seg dksX9_table_1 22 rfl rfl
theorem dksX9_table_3 : cX9_table.data.toList.drop 68 = dktX9_table_3 := dk_seg dksX9_table_2 24 rfl rfl
theorem dX9_table_0 : decode cX9_table 0 = .ok (.aload_n 0, 1) := dk_42 (dk_at dksX9_table_0 0 rfl rfl)
theorem dX9_table_1 : decode cX9_table 1 = .ok (.aload_n 0, 1) := dk_42 (dk_at dksX9_table_0 1 rfl rfl)
theorem dX9_table_2 : decode cX9_table 2 = .ok (.iload_n 1, 1) := dk_27 (dk_at dksX9_table_0 2 rfl rfl)
theorem dX9_table_3 : decode cX9_table 3 = .ok (.invokevirtual 153, 3) := dk_182 0 153 (dk_at dksX9_table_0 3 rfl rfl)
theorem dX9_table_6 : decode cX9_table 6 = .ok (.ifCond .eq 19, 3) := dk_153 0 19 (dk_at dksX9_table_0 6 rfl rfl)
theorem dX9_table_9 : decode cX9_table 9 = .ok (.iload_n 2, 1) := dk_28 (dk_at dksX9_table_0 9 rfl rfl)
theorem dX9_table_10 : decode cX9_table 10 = .ok (.i2l, 1) := dk_133 (dk_at dksX9_table_0 10 rfl rfl)
theorem dX9_table_11 : decode cX9_table 11 = .ok (.lconst 0, 1) := dk_9 (dk_at dksX9_table_0 11 rfl rfl)
theorem dX9_table_12 : decode cX9_table 12 = .ok (.ldc2_w 230, 3) := dk_20 0 230 (dk_at dksX9_table_0 12 rfl rfl)
theorem dX9_table_15 : decode cX9_table 15 = .ok (.invokestatic 77, 3) := dk_184 0 77 (dk_at dksX9_table_0 15 rfl rfl)
theorem dX9_table_18 : decode cX9_table 18 = .ok (.ifCond .eq 7, 3) := dk_153 0 7 (dk_at dksX9_table_0 18 rfl rfl)
theorem dX9_table_21 : decode cX9_table 21 = .ok (.iconst 0, 1) := dk_3 (dk_at dksX9_table_0 21 rfl rfl)
theorem dX9_table_22 : decode cX9_table 22 = .ok (.goto 4, 3) := dk_167 0 4 (dk_at dksX9_table_1 0 rfl rfl)
theorem dX9_table_25 : decode cX9_table 25 = .ok (.iconst 1, 1) := dk_4 (dk_at dksX9_table_1 3 rfl rfl)
theorem dX9_table_26 : decode cX9_table 26 = .ok (.putfield 66, 3) := dk_181 0 66 (dk_at dksX9_table_1 4 rfl rfl)
theorem dX9_table_29 : decode cX9_table 29 = .ok (.aload_n 0, 1) := dk_42 (dk_at dksX9_table_1 7 rfl rfl)
theorem dX9_table_30 : decode cX9_table 30 = .ok (.getfield 66, 3) := dk_180 0 66 (dk_at dksX9_table_1 8 rfl rfl)
theorem dX9_table_33 : decode cX9_table 33 = .ok (.iconst 1, 1) := dk_4 (dk_at dksX9_table_1 11 rfl rfl)
theorem dX9_table_34 : decode cX9_table 34 = .ok (.if_icmp .ne 5, 3) := dk_160 0 5 (dk_at dksX9_table_1 12 rfl rfl)
theorem dX9_table_37 : decode cX9_table 37 = .ok (.iconst 0, 1) := dk_3 (dk_at dksX9_table_1 15 rfl rfl)
theorem dX9_table_38 : decode cX9_table 38 = .ok (.ireturn, 1) := dk_172 (dk_at dksX9_table_1 16 rfl rfl)
theorem dX9_table_39 : decode cX9_table 39 = .ok (.iload_n 2, 1) := dk_28 (dk_at dksX9_table_1 17 rfl rfl)
theorem dX9_table_40 : decode cX9_table 40 = .ok (.ifCond .ne 12, 3) := dk_154 0 12 (dk_at dksX9_table_1 18 rfl rfl)
theorem dX9_table_43 : decode cX9_table 43 = .ok (.aload_n 0, 1) := dk_42 (dk_at dksX9_table_1 21 rfl rfl)
theorem dX9_table_44 : decode cX9_table 44 = .ok (.getfield 25, 3) := dk_180 0 25 (dk_at dksX9_table_2 0 rfl rfl)
theorem dX9_table_47 : decode cX9_table 47 = .ok (.iload_n 1, 1) := dk_27 (dk_at dksX9_table_2 3 rfl rfl)
theorem dX9_table_48 : decode cX9_table 48 = .ok (.iaload, 1) := dk_46 (dk_at dksX9_table_2 4 rfl rfl)
theorem dX9_table_49 : decode cX9_table 49 = .ok (.goto 25, 3) := dk_167 0 25 (dk_at dksX9_table_2 5 rfl rfl)
theorem dX9_table_52 : decode cX9_table 52 = .ok (.iload_n 2, 1) := dk_28 (dk_at dksX9_table_2 8 rfl rfl)
theorem dX9_table_53 : decode cX9_table 53 = .ok (.iconst 1, 1) := dk_4 (dk_at dksX9_table_2 9 rfl rfl)
theorem dX9_table_54 : decode cX9_table 54 = .ok (.if_icmp .ne 11, 3) := dk_160 0 11 (dk_at dksX9_table_2 10 rfl rfl)
theorem dX9_table_57 : decode cX9_table 57 = .ok (.aload_n 0, 1) := dk_42 (dk_at dksX9_table_2 13 rfl rfl)
theorem dX9_table_58 : decode cX9_table 58 = .ok (.iload_n 1, 1) := dk_27 (dk_at dksX9_table_2 14 rfl rfl)
theorem dX9_table_59 : decode cX9_table 59 = .ok (.invokevirtual 161, 3) := dk_182 0 161 (dk_at dksX9_table_2 15 rfl rfl)
theorem dX9_table_62 : decode cX9_table 62 = .ok (.goto 12, 3) := dk_167 0 12 (dk_at dksX9_table_2 18 rfl rfl)
theorem dX9_table_65 : decode cX9_table 65 = .ok (.aload_n 0, 1) := dk_42 (dk_at dksX9_table_2 21 rfl rfl)
theorem dX9_table_66 : decode cX9_table 66 = .ok (.iload_n 1, 1) := dk_27 (dk_at dksX9_table_2 22 rfl rfl)
theorem dX9_table_67 : decode cX9_table 67 = .ok (.iload_n 2, 1) := dk_28 (dk_at dksX9_table_2 23 rfl rfl)
theorem dX9_table_68 : decode cX9_table 68 = .ok (.iconst 2, 1) := dk_5 (dk_at dksX9_table_3 0 rfl rfl)
theorem dX9_table_69 : decode cX9_table 69 = .ok (.isub, 1) := dk_100 (dk_at dksX9_table_3 1 rfl rfl)
theorem dX9_table_70 : decode cX9_table 70 = .ok (.iconst (-1), 1) := dk_2 (dk_at dksX9_table_3 2 rfl rfl)
theorem dX9_table_71 : decode cX9_table 71 = .ok (.invokevirtual 167, 3) := dk_182 0 167 (dk_at dksX9_table_3 3 rfl rfl)
theorem dX9_table_74 : decode cX9_table 74 = .ok (.ireturn, 1) := dk_172 (dk_at dksX9_table_3 6 rfl rfl)
abbrev cX9_isTable : ByteArray := prog_28_method_30_code
def yX9_isTable : MethodName := ⟨RX9, "isTable", "(I)Z"⟩
def dkwX9_isTable_0 : List UInt8 := [27, 133, 9, 42, 180, 0, 150, 4, 100, 133, 184, 0, 77, 172]
abbrev dktX9_isTable_0 : List UInt8 := dkwX9_isTable_0 ++ []
theorem dksX9_isTable_0 : cX9_isTable.data.toList.drop 0 = dktX9_isTable_0 := by decide +kernel
theorem dX9_isTable_0 : decode cX9_isTable 0 = .ok (.iload_n 1, 1) := dk_27 (dk_at dksX9_isTable_0 0 rfl rfl)
theorem dX9_isTable_1 : decode cX9_isTable 1 = .ok (.i2l, 1) := dk_133 (dk_at dksX9_isTable_0 1 rfl rfl)
theorem dX9_isTable_2 : decode cX9_isTable 2 = .ok (.lconst 0, 1) := dk_9 (dk_at dksX9_isTable_0 2 rfl rfl)
theorem dX9_isTable_3 : decode cX9_isTable 3 = .ok (.aload_n 0, 1) := dk_42 (dk_at dksX9_isTable_0 3 rfl rfl)
theorem dX9_isTable_4 : decode cX9_isTable 4 = .ok (.getfield 150, 3) := dk_180 0 150 (dk_at dksX9_isTable_0 4 rfl rfl)
theorem dX9_isTable_7 : decode cX9_isTable 7 = .ok (.iconst 1, 1) := dk_4 (dk_at dksX9_isTable_0 7 rfl rfl)
theorem dX9_isTable_8 : decode cX9_isTable 8 = .ok (.isub, 1) := dk_100 (dk_at dksX9_isTable_0 8 rfl rfl)
theorem dX9_isTable_9 : decode cX9_isTable 9 = .ok (.i2l, 1) := dk_133 (dk_at dksX9_isTable_0 9 rfl rfl)
theorem dX9_isTable_10 : decode cX9_isTable 10 = .ok (.invokestatic 77, 3) := dk_184 0 77 (dk_at dksX9_isTable_0 10 rfl rfl)
theorem dX9_isTable_13 : decode cX9_isTable 13 = .ok (.ireturn, 1) := dk_172 (dk_at dksX9_isTable_0 13 rfl rfl)
abbrev cX9_rowsOf : ByteArray := prog_28_method_34_code
def yX9_rowsOf : MethodName := ⟨RX9, "rowsOf", "(I)I"⟩
def dkwX9_rowsOf_1 : List UInt8 := [96, 61, 132, 3, 1, 167, 255, 231, 28, 172]
abbrev dktX9_rowsOf_1 : List UInt8 := dkwX9_rowsOf_1 ++ []
def dkwX9_rowsOf_0 : List UInt8 := [3, 61, 3, 62, 29, 17, 1, 33, 162, 0, 24, 28, 42, 180, 0, 34, 17, 1, 101, 27, 104, 29, 96, 46]
abbrev dktX9_rowsOf_0 : List UInt8 := dkwX9_rowsOf_0 ++ dktX9_rowsOf_1
theorem dksX9_rowsOf_0 : cX9_rowsOf.data.toList.drop 0 = dktX9_rowsOf_0 := by decide +kernel
theorem dksX9_rowsOf_1 : cX9_rowsOf.data.toList.drop 24 = dktX9_rowsOf_1 := dk_seg dksX9_rowsOf_0 24 rfl rfl
theorem dX9_rowsOf_0 : decode cX9_rowsOf 0 = .ok (.iconst 0, 1) := dk_3 (dk_at dksX9_rowsOf_0 0 rfl rfl)
theorem dX9_rowsOf_1 : decode cX9_rowsOf 1 = .ok (.istore_n 2, 1) := dk_61 (dk_at dksX9_rowsOf_0 1 rfl rfl)
theorem dX9_rowsOf_2 : decode cX9_rowsOf 2 = .ok (.iconst 0, 1) := dk_3 (dk_at dksX9_rowsOf_0 2 rfl rfl)
theorem dX9_rowsOf_3 : decode cX9_rowsOf 3 = .ok (.istore_n 3, 1) := dk_62 (dk_at dksX9_rowsOf_0 3 rfl rfl)
theorem dX9_rowsOf_4 : decode cX9_rowsOf 4 = .ok (.iload_n 3, 1) := dk_29 (dk_at dksX9_rowsOf_0 4 rfl rfl)
theorem dX9_rowsOf_5 : decode cX9_rowsOf 5 = .ok (.sipush 289, 3) := dk_17 1 33 (dk_at dksX9_rowsOf_0 5 rfl rfl)
theorem dX9_rowsOf_8 : decode cX9_rowsOf 8 = .ok (.if_icmp .ge 24, 3) := dk_162 0 24 (dk_at dksX9_rowsOf_0 8 rfl rfl)
theorem dX9_rowsOf_11 : decode cX9_rowsOf 11 = .ok (.iload_n 2, 1) := dk_28 (dk_at dksX9_rowsOf_0 11 rfl rfl)
theorem dX9_rowsOf_12 : decode cX9_rowsOf 12 = .ok (.aload_n 0, 1) := dk_42 (dk_at dksX9_rowsOf_0 12 rfl rfl)
theorem dX9_rowsOf_13 : decode cX9_rowsOf 13 = .ok (.getfield 34, 3) := dk_180 0 34 (dk_at dksX9_rowsOf_0 13 rfl rfl)
theorem dX9_rowsOf_16 : decode cX9_rowsOf 16 = .ok (.sipush 357, 3) := dk_17 1 101 (dk_at dksX9_rowsOf_0 16 rfl rfl)
theorem dX9_rowsOf_19 : decode cX9_rowsOf 19 = .ok (.iload_n 1, 1) := dk_27 (dk_at dksX9_rowsOf_0 19 rfl rfl)
theorem dX9_rowsOf_20 : decode cX9_rowsOf 20 = .ok (.imul, 1) := dk_104 (dk_at dksX9_rowsOf_0 20 rfl rfl)
theorem dX9_rowsOf_21 : decode cX9_rowsOf 21 = .ok (.iload_n 3, 1) := dk_29 (dk_at dksX9_rowsOf_0 21 rfl rfl)
theorem dX9_rowsOf_22 : decode cX9_rowsOf 22 = .ok (.iadd, 1) := dk_96 (dk_at dksX9_rowsOf_0 22 rfl rfl)
theorem dX9_rowsOf_23 : decode cX9_rowsOf 23 = .ok (.iaload, 1) := dk_46 (dk_at dksX9_rowsOf_0 23 rfl rfl)
theorem dX9_rowsOf_24 : decode cX9_rowsOf 24 = .ok (.iadd, 1) := dk_96 (dk_at dksX9_rowsOf_1 0 rfl rfl)
theorem dX9_rowsOf_25 : decode cX9_rowsOf 25 = .ok (.istore_n 2, 1) := dk_61 (dk_at dksX9_rowsOf_1 1 rfl rfl)
theorem dX9_rowsOf_26 : decode cX9_rowsOf 26 = .ok (.iinc 3 1, 3) := dk_132 3 1 (dk_at dksX9_rowsOf_1 2 rfl rfl)
theorem dX9_rowsOf_29 : decode cX9_rowsOf 29 = .ok (.goto (-25), 3) := dk_167 255 231 (dk_at dksX9_rowsOf_1 5 rfl rfl)
theorem dX9_rowsOf_32 : decode cX9_rowsOf 32 = .ok (.iload_n 2, 1) := dk_28 (dk_at dksX9_rowsOf_1 8 rfl rfl)
theorem dX9_rowsOf_33 : decode cX9_rowsOf 33 = .ok (.ireturn, 1) := dk_172 (dk_at dksX9_rowsOf_1 9 rfl rfl)
abbrev cX9_rows : ByteArray := prog_28_method_46_code
def yX9_rows : MethodName := ⟨RX9, "rows", "(III)I"⟩
def dkwX9_rows_1 : List UInt8 := [153, 0, 17, 42, 180, 0, 34, 27, 28, 29, 184, 0, 158, 46, 167, 0, 4, 2, 172]
abbrev dktX9_rows_1 : List UInt8 := dkwX9_rows_1 ++ []
def dkwX9_rows_0 : List UInt8 := [42, 27, 182, 0, 153, 153, 0, 35, 42, 27, 28, 182, 0, 232, 153, 0, 26, 42, 27, 29, 182, 0, 232]
abbrev dktX9_rows_0 : List UInt8 := dkwX9_rows_0 ++ dktX9_rows_1
theorem dksX9_rows_0 : cX9_rows.data.toList.drop 0 = dktX9_rows_0 := by decide +kernel
theorem dksX9_rows_1 : cX9_rows.data.toList.drop 23 = dktX9_rows_1 := dk_seg dksX9_rows_0 23 rfl rfl
theorem dX9_rows_0 : decode cX9_rows 0 = .ok (.aload_n 0, 1) := dk_42 (dk_at dksX9_rows_0 0 rfl rfl)
theorem dX9_rows_1 : decode cX9_rows 1 = .ok (.iload_n 1, 1) := dk_27 (dk_at dksX9_rows_0 1 rfl rfl)
theorem dX9_rows_2 : decode cX9_rows 2 = .ok (.invokevirtual 153, 3) := dk_182 0 153 (dk_at dksX9_rows_0 2 rfl rfl)
theorem dX9_rows_5 : decode cX9_rows 5 = .ok (.ifCond .eq 35, 3) := dk_153 0 35 (dk_at dksX9_rows_0 5 rfl rfl)
theorem dX9_rows_8 : decode cX9_rows 8 = .ok (.aload_n 0, 1) := dk_42 (dk_at dksX9_rows_0 8 rfl rfl)
theorem dX9_rows_9 : decode cX9_rows 9 = .ok (.iload_n 1, 1) := dk_27 (dk_at dksX9_rows_0 9 rfl rfl)
theorem dX9_rows_10 : decode cX9_rows 10 = .ok (.iload_n 2, 1) := dk_28 (dk_at dksX9_rows_0 10 rfl rfl)
theorem dX9_rows_11 : decode cX9_rows 11 = .ok (.invokevirtual 232, 3) := dk_182 0 232 (dk_at dksX9_rows_0 11 rfl rfl)
theorem dX9_rows_14 : decode cX9_rows 14 = .ok (.ifCond .eq 26, 3) := dk_153 0 26 (dk_at dksX9_rows_0 14 rfl rfl)
theorem dX9_rows_17 : decode cX9_rows 17 = .ok (.aload_n 0, 1) := dk_42 (dk_at dksX9_rows_0 17 rfl rfl)
theorem dX9_rows_18 : decode cX9_rows 18 = .ok (.iload_n 1, 1) := dk_27 (dk_at dksX9_rows_0 18 rfl rfl)
theorem dX9_rows_19 : decode cX9_rows 19 = .ok (.iload_n 3, 1) := dk_29 (dk_at dksX9_rows_0 19 rfl rfl)
theorem dX9_rows_20 : decode cX9_rows 20 = .ok (.invokevirtual 232, 3) := dk_182 0 232 (dk_at dksX9_rows_0 20 rfl rfl)
theorem dX9_rows_23 : decode cX9_rows 23 = .ok (.ifCond .eq 17, 3) := dk_153 0 17 (dk_at dksX9_rows_1 0 rfl rfl)
theorem dX9_rows_26 : decode cX9_rows 26 = .ok (.aload_n 0, 1) := dk_42 (dk_at dksX9_rows_1 3 rfl rfl)
theorem dX9_rows_27 : decode cX9_rows 27 = .ok (.getfield 34, 3) := dk_180 0 34 (dk_at dksX9_rows_1 4 rfl rfl)
theorem dX9_rows_30 : decode cX9_rows 30 = .ok (.iload_n 1, 1) := dk_27 (dk_at dksX9_rows_1 7 rfl rfl)
theorem dX9_rows_31 : decode cX9_rows 31 = .ok (.iload_n 2, 1) := dk_28 (dk_at dksX9_rows_1 8 rfl rfl)
theorem dX9_rows_32 : decode cX9_rows 32 = .ok (.iload_n 3, 1) := dk_29 (dk_at dksX9_rows_1 9 rfl rfl)
theorem dX9_rows_33 : decode cX9_rows 33 = .ok (.invokestatic 158, 3) := dk_184 0 158 (dk_at dksX9_rows_1 10 rfl rfl)
theorem dX9_rows_36 : decode cX9_rows 36 = .ok (.iaload, 1) := dk_46 (dk_at dksX9_rows_1 13 rfl rfl)
theorem dX9_rows_37 : decode cX9_rows 37 = .ok (.goto 4, 3) := dk_167 0 4 (dk_at dksX9_rows_1 14 rfl rfl)
theorem dX9_rows_40 : decode cX9_rows 40 = .ok (.iconst (-1), 1) := dk_2 (dk_at dksX9_rows_1 17 rfl rfl)
theorem dX9_rows_41 : decode cX9_rows 41 = .ok (.ireturn, 1) := dk_172 (dk_at dksX9_rows_1 18 rfl rfl)
abbrev cX9_isValue : ByteArray := prog_28_method_32_code
def yX9_isValue : MethodName := ⟨RX9, "isValue", "(II)Z"⟩
def dkwX9_isValue_0 : List UInt8 := [28, 133, 20, 0, 156, 42, 180, 0, 25, 27, 46, 4, 100, 133, 184, 0, 77, 172]
abbrev dktX9_isValue_0 : List UInt8 := dkwX9_isValue_0 ++ []
theorem dksX9_isValue_0 : cX9_isValue.data.toList.drop 0 = dktX9_isValue_0 := by decide +kernel
theorem dX9_isValue_0 : decode cX9_isValue 0 = .ok (.iload_n 2, 1) := dk_28 (dk_at dksX9_isValue_0 0 rfl rfl)
theorem dX9_isValue_1 : decode cX9_isValue 1 = .ok (.i2l, 1) := dk_133 (dk_at dksX9_isValue_0 1 rfl rfl)
theorem dX9_isValue_2 : decode cX9_isValue 2 = .ok (.ldc2_w 156, 3) := dk_20 0 156 (dk_at dksX9_isValue_0 2 rfl rfl)
theorem dX9_isValue_5 : decode cX9_isValue 5 = .ok (.aload_n 0, 1) := dk_42 (dk_at dksX9_isValue_0 5 rfl rfl)
theorem dX9_isValue_6 : decode cX9_isValue 6 = .ok (.getfield 25, 3) := dk_180 0 25 (dk_at dksX9_isValue_0 6 rfl rfl)
theorem dX9_isValue_9 : decode cX9_isValue 9 = .ok (.iload_n 1, 1) := dk_27 (dk_at dksX9_isValue_0 9 rfl rfl)
theorem dX9_isValue_10 : decode cX9_isValue 10 = .ok (.iaload, 1) := dk_46 (dk_at dksX9_isValue_0 10 rfl rfl)
theorem dX9_isValue_11 : decode cX9_isValue 11 = .ok (.iconst 1, 1) := dk_4 (dk_at dksX9_isValue_0 11 rfl rfl)
theorem dX9_isValue_12 : decode cX9_isValue 12 = .ok (.isub, 1) := dk_100 (dk_at dksX9_isValue_0 12 rfl rfl)
theorem dX9_isValue_13 : decode cX9_isValue 13 = .ok (.i2l, 1) := dk_133 (dk_at dksX9_isValue_0 13 rfl rfl)
theorem dX9_isValue_14 : decode cX9_isValue 14 = .ok (.invokestatic 77, 3) := dk_184 0 77 (dk_at dksX9_isValue_0 14 rfl rfl)
theorem dX9_isValue_17 : decode cX9_isValue 17 = .ok (.ireturn, 1) := dk_172 (dk_at dksX9_isValue_0 17 rfl rfl)
abbrev cX9_countOf : ByteArray := prog_28_method_47_code
def yX9_countOf : MethodName := ⟨RX9, "countOf", "(III)I"⟩
def dkwX9_countOf_1 : List UInt8 := [153, 0, 13, 42, 27, 28, 29, 182, 0, 167, 167, 0, 4, 2, 172]
abbrev dktX9_countOf_1 : List UInt8 := dkwX9_countOf_1 ++ []
def dkwX9_countOf_0 : List UInt8 := [42, 27, 28, 182, 0, 235, 153, 0, 31, 29, 133, 9, 42, 180, 0, 25, 27, 46, 4, 100, 133, 184, 0, 77]
abbrev dktX9_countOf_0 : List UInt8 := dkwX9_countOf_0 ++ dktX9_countOf_1
theorem dksX9_countOf_0 : cX9_countOf.data.toList.drop 0 = dktX9_countOf_0 := by decide +kernel
theorem dksX9_countOf_1 : cX9_countOf.data.toList.drop 24 = dktX9_countOf_1 := dk_seg dksX9_countOf_0 24 rfl rfl
theorem dX9_countOf_0 : decode cX9_countOf 0 = .ok (.aload_n 0, 1) := dk_42 (dk_at dksX9_countOf_0 0 rfl rfl)
theorem dX9_countOf_1 : decode cX9_countOf 1 = .ok (.iload_n 1, 1) := dk_27 (dk_at dksX9_countOf_0 1 rfl rfl)
theorem dX9_countOf_2 : decode cX9_countOf 2 = .ok (.iload_n 2, 1) := dk_28 (dk_at dksX9_countOf_0 2 rfl rfl)
theorem dX9_countOf_3 : decode cX9_countOf 3 = .ok (.invokevirtual 235, 3) := dk_182 0 235 (dk_at dksX9_countOf_0 3 rfl rfl)
theorem dX9_countOf_6 : decode cX9_countOf 6 = .ok (.ifCond .eq 31, 3) := dk_153 0 31 (dk_at dksX9_countOf_0 6 rfl rfl)
theorem dX9_countOf_9 : decode cX9_countOf 9 = .ok (.iload_n 3, 1) := dk_29 (dk_at dksX9_countOf_0 9 rfl rfl)
theorem dX9_countOf_10 : decode cX9_countOf 10 = .ok (.i2l, 1) := dk_133 (dk_at dksX9_countOf_0 10 rfl rfl)
theorem dX9_countOf_11 : decode cX9_countOf 11 = .ok (.lconst 0, 1) := dk_9 (dk_at dksX9_countOf_0 11 rfl rfl)
theorem dX9_countOf_12 : decode cX9_countOf 12 = .ok (.aload_n 0, 1) := dk_42 (dk_at dksX9_countOf_0 12 rfl rfl)
theorem dX9_countOf_13 : decode cX9_countOf 13 = .ok (.getfield 25, 3) := dk_180 0 25 (dk_at dksX9_countOf_0 13 rfl rfl)
theorem dX9_countOf_16 : decode cX9_countOf 16 = .ok (.iload_n 1, 1) := dk_27 (dk_at dksX9_countOf_0 16 rfl rfl)
theorem dX9_countOf_17 : decode cX9_countOf 17 = .ok (.iaload, 1) := dk_46 (dk_at dksX9_countOf_0 17 rfl rfl)
theorem dX9_countOf_18 : decode cX9_countOf 18 = .ok (.iconst 1, 1) := dk_4 (dk_at dksX9_countOf_0 18 rfl rfl)
theorem dX9_countOf_19 : decode cX9_countOf 19 = .ok (.isub, 1) := dk_100 (dk_at dksX9_countOf_0 19 rfl rfl)
theorem dX9_countOf_20 : decode cX9_countOf 20 = .ok (.i2l, 1) := dk_133 (dk_at dksX9_countOf_0 20 rfl rfl)
theorem dX9_countOf_21 : decode cX9_countOf 21 = .ok (.invokestatic 77, 3) := dk_184 0 77 (dk_at dksX9_countOf_0 21 rfl rfl)
theorem dX9_countOf_24 : decode cX9_countOf 24 = .ok (.ifCond .eq 13, 3) := dk_153 0 13 (dk_at dksX9_countOf_1 0 rfl rfl)
theorem dX9_countOf_27 : decode cX9_countOf 27 = .ok (.aload_n 0, 1) := dk_42 (dk_at dksX9_countOf_1 3 rfl rfl)
theorem dX9_countOf_28 : decode cX9_countOf 28 = .ok (.iload_n 1, 1) := dk_27 (dk_at dksX9_countOf_1 4 rfl rfl)
theorem dX9_countOf_29 : decode cX9_countOf 29 = .ok (.iload_n 2, 1) := dk_28 (dk_at dksX9_countOf_1 5 rfl rfl)
theorem dX9_countOf_30 : decode cX9_countOf 30 = .ok (.iload_n 3, 1) := dk_29 (dk_at dksX9_countOf_1 6 rfl rfl)
theorem dX9_countOf_31 : decode cX9_countOf 31 = .ok (.invokevirtual 167, 3) := dk_182 0 167 (dk_at dksX9_countOf_1 7 rfl rfl)
theorem dX9_countOf_34 : decode cX9_countOf 34 = .ok (.goto 4, 3) := dk_167 0 4 (dk_at dksX9_countOf_1 10 rfl rfl)
theorem dX9_countOf_37 : decode cX9_countOf 37 = .ok (.iconst (-1), 1) := dk_2 (dk_at dksX9_countOf_1 13 rfl rfl)
theorem dX9_countOf_38 : decode cX9_countOf 38 = .ok (.ireturn, 1) := dk_172 (dk_at dksX9_countOf_1 14 rfl rfl)
abbrev cX9_isColumn : ByteArray := prog_28_method_31_code
def yX9_isColumn : MethodName := ⟨RX9, "isColumn", "(II)Z"⟩
def dkwX9_isColumn_0 : List UInt8 := [42, 27, 182, 0, 153, 153, 0, 17, 28, 133, 9, 10, 184, 0, 77, 153, 0, 7, 4, 167, 0, 4, 3, 172]
abbrev dktX9_isColumn_0 : List UInt8 := dkwX9_isColumn_0 ++ []
theorem dksX9_isColumn_0 : cX9_isColumn.data.toList.drop 0 = dktX9_isColumn_0 := by decide +kernel
theorem dX9_isColumn_0 : decode cX9_isColumn 0 = .ok (.aload_n 0, 1) := dk_42 (dk_at dksX9_isColumn_0 0 rfl rfl)
theorem dX9_isColumn_1 : decode cX9_isColumn 1 = .ok (.iload_n 1, 1) := dk_27 (dk_at dksX9_isColumn_0 1 rfl rfl)
theorem dX9_isColumn_2 : decode cX9_isColumn 2 = .ok (.invokevirtual 153, 3) := dk_182 0 153 (dk_at dksX9_isColumn_0 2 rfl rfl)
theorem dX9_isColumn_5 : decode cX9_isColumn 5 = .ok (.ifCond .eq 17, 3) := dk_153 0 17 (dk_at dksX9_isColumn_0 5 rfl rfl)
theorem dX9_isColumn_8 : decode cX9_isColumn 8 = .ok (.iload_n 2, 1) := dk_28 (dk_at dksX9_isColumn_0 8 rfl rfl)
theorem dX9_isColumn_9 : decode cX9_isColumn 9 = .ok (.i2l, 1) := dk_133 (dk_at dksX9_isColumn_0 9 rfl rfl)
theorem dX9_isColumn_10 : decode cX9_isColumn 10 = .ok (.lconst 0, 1) := dk_9 (dk_at dksX9_isColumn_0 10 rfl rfl)
theorem dX9_isColumn_11 : decode cX9_isColumn 11 = .ok (.lconst 1, 1) := dk_10 (dk_at dksX9_isColumn_0 11 rfl rfl)
theorem dX9_isColumn_12 : decode cX9_isColumn 12 = .ok (.invokestatic 77, 3) := dk_184 0 77 (dk_at dksX9_isColumn_0 12 rfl rfl)
theorem dX9_isColumn_15 : decode cX9_isColumn 15 = .ok (.ifCond .eq 7, 3) := dk_153 0 7 (dk_at dksX9_isColumn_0 15 rfl rfl)
theorem dX9_isColumn_18 : decode cX9_isColumn 18 = .ok (.iconst 1, 1) := dk_4 (dk_at dksX9_isColumn_0 18 rfl rfl)
theorem dX9_isColumn_19 : decode cX9_isColumn 19 = .ok (.goto 4, 3) := dk_167 0 4 (dk_at dksX9_isColumn_0 19 rfl rfl)
theorem dX9_isColumn_22 : decode cX9_isColumn 22 = .ok (.iconst 0, 1) := dk_3 (dk_at dksX9_isColumn_0 22 rfl rfl)
theorem dX9_isColumn_23 : decode cX9_isColumn 23 = .ok (.ireturn, 1) := dk_172 (dk_at dksX9_isColumn_0 23 rfl rfl)
abbrev cX9_bucket : ByteArray := prog_28_method_48_code
def yX9_bucket : MethodName := ⟨RX9, "bucket", "(IIII)I"⟩
def dkwX9_bucket_2 : List UInt8 := [182, 0, 241, 167, 0, 5, 18, 245, 172]
abbrev dktX9_bucket_2 : List UInt8 := dkwX9_bucket_2 ++ []
def dkwX9_bucket_1 : List UInt8 := [153, 0, 28, 21, 4, 133, 9, 20, 0, 230, 184, 0, 77, 153, 0, 15, 42, 27, 28, 29, 21, 4]
abbrev dktX9_bucket_1 : List UInt8 := dkwX9_bucket_1 ++ dktX9_bucket_2
def dkwX9_bucket_0 : List UInt8 := [42, 27, 28, 182, 0, 235, 153, 0, 46, 29, 133, 9, 42, 27, 28, 182, 0, 238, 4, 100, 133, 184, 0, 77]
abbrev dktX9_bucket_0 : List UInt8 := dkwX9_bucket_0 ++ dktX9_bucket_1
theorem dksX9_bucket_0 : cX9_bucket.data.toList.drop 0 = dktX9_bucket_0 := by decide +kernel
theorem dksX9_bucket_1 : cX9_bucket.data.toList.drop 24 = dktX9_bucket_1 := dk_seg dksX9_bucket_0 24 rfl rfl
theorem dksX9_bucket_2 : cX9_bucket.data.toList.drop 46 = dktX9_bucket_2 := dk_seg dksX9_bucket_1 22 rfl rfl
theorem dX9_bucket_0 : decode cX9_bucket 0 = .ok (.aload_n 0, 1) := dk_42 (dk_at dksX9_bucket_0 0 rfl rfl)
theorem dX9_bucket_1 : decode cX9_bucket 1 = .ok (.iload_n 1, 1) := dk_27 (dk_at dksX9_bucket_0 1 rfl rfl)
theorem dX9_bucket_2 : decode cX9_bucket 2 = .ok (.iload_n 2, 1) := dk_28 (dk_at dksX9_bucket_0 2 rfl rfl)
theorem dX9_bucket_3 : decode cX9_bucket 3 = .ok (.invokevirtual 235, 3) := dk_182 0 235 (dk_at dksX9_bucket_0 3 rfl rfl)
theorem dX9_bucket_6 : decode cX9_bucket 6 = .ok (.ifCond .eq 46, 3) := dk_153 0 46 (dk_at dksX9_bucket_0 6 rfl rfl)
theorem dX9_bucket_9 : decode cX9_bucket 9 = .ok (.iload_n 3, 1) := dk_29 (dk_at dksX9_bucket_0 9 rfl rfl)
theorem dX9_bucket_10 : decode cX9_bucket 10 = .ok (.i2l, 1) := dk_133 (dk_at dksX9_bucket_0 10 rfl rfl)
theorem dX9_bucket_11 : decode cX9_bucket 11 = .ok (.lconst 0, 1) := dk_9 (dk_at dksX9_bucket_0 11 rfl rfl)
theorem dX9_bucket_12 : decode cX9_bucket 12 = .ok (.aload_n 0, 1) := dk_42 (dk_at dksX9_bucket_0 12 rfl rfl)
theorem dX9_bucket_13 : decode cX9_bucket 13 = .ok (.iload_n 1, 1) := dk_27 (dk_at dksX9_bucket_0 13 rfl rfl)
theorem dX9_bucket_14 : decode cX9_bucket 14 = .ok (.iload_n 2, 1) := dk_28 (dk_at dksX9_bucket_0 14 rfl rfl)
theorem dX9_bucket_15 : decode cX9_bucket 15 = .ok (.invokevirtual 238, 3) := dk_182 0 238 (dk_at dksX9_bucket_0 15 rfl rfl)
theorem dX9_bucket_18 : decode cX9_bucket 18 = .ok (.iconst 1, 1) := dk_4 (dk_at dksX9_bucket_0 18 rfl rfl)
theorem dX9_bucket_19 : decode cX9_bucket 19 = .ok (.isub, 1) := dk_100 (dk_at dksX9_bucket_0 19 rfl rfl)
theorem dX9_bucket_20 : decode cX9_bucket 20 = .ok (.i2l, 1) := dk_133 (dk_at dksX9_bucket_0 20 rfl rfl)
theorem dX9_bucket_21 : decode cX9_bucket 21 = .ok (.invokestatic 77, 3) := dk_184 0 77 (dk_at dksX9_bucket_0 21 rfl rfl)
theorem dX9_bucket_24 : decode cX9_bucket 24 = .ok (.ifCond .eq 28, 3) := dk_153 0 28 (dk_at dksX9_bucket_1 0 rfl rfl)
theorem dX9_bucket_27 : decode cX9_bucket 27 = .ok (.iload 4, 2) := dk_21 4 (dk_at dksX9_bucket_1 3 rfl rfl)
theorem dX9_bucket_29 : decode cX9_bucket 29 = .ok (.i2l, 1) := dk_133 (dk_at dksX9_bucket_1 5 rfl rfl)
theorem dX9_bucket_30 : decode cX9_bucket 30 = .ok (.lconst 0, 1) := dk_9 (dk_at dksX9_bucket_1 6 rfl rfl)
theorem dX9_bucket_31 : decode cX9_bucket 31 = .ok (.ldc2_w 230, 3) := dk_20 0 230 (dk_at dksX9_bucket_1 7 rfl rfl)
theorem dX9_bucket_34 : decode cX9_bucket 34 = .ok (.invokestatic 77, 3) := dk_184 0 77 (dk_at dksX9_bucket_1 10 rfl rfl)
theorem dX9_bucket_37 : decode cX9_bucket 37 = .ok (.ifCond .eq 15, 3) := dk_153 0 15 (dk_at dksX9_bucket_1 13 rfl rfl)
theorem dX9_bucket_40 : decode cX9_bucket 40 = .ok (.aload_n 0, 1) := dk_42 (dk_at dksX9_bucket_1 16 rfl rfl)
theorem dX9_bucket_41 : decode cX9_bucket 41 = .ok (.iload_n 1, 1) := dk_27 (dk_at dksX9_bucket_1 17 rfl rfl)
theorem dX9_bucket_42 : decode cX9_bucket 42 = .ok (.iload_n 2, 1) := dk_28 (dk_at dksX9_bucket_1 18 rfl rfl)
theorem dX9_bucket_43 : decode cX9_bucket 43 = .ok (.iload_n 3, 1) := dk_29 (dk_at dksX9_bucket_1 19 rfl rfl)
theorem dX9_bucket_44 : decode cX9_bucket 44 = .ok (.iload 4, 2) := dk_21 4 (dk_at dksX9_bucket_1 20 rfl rfl)
theorem dX9_bucket_46 : decode cX9_bucket 46 = .ok (.invokevirtual 241, 3) := dk_182 0 241 (dk_at dksX9_bucket_2 0 rfl rfl)
theorem dX9_bucket_49 : decode cX9_bucket 49 = .ok (.goto 5, 3) := dk_167 0 5 (dk_at dksX9_bucket_2 3 rfl rfl)
theorem dX9_bucket_52 : decode cX9_bucket 52 = .ok (.ldc 245, 2) := dk_18 245 (dk_at dksX9_bucket_2 6 rfl rfl)
theorem dX9_bucket_54 : decode cX9_bucket 54 = .ok (.ireturn, 1) := dk_172 (dk_at dksX9_bucket_2 8 rfl rfl)
abbrev cX9_bucketMany : ByteArray := prog_28_method_26_code
def yX9_bucketMany : MethodName := ⟨RX9, "bucketMany", "(II)I"⟩
def dkwX9_bucketMany_0 : List UInt8 := [42, 180, 0, 34, 27, 28, 184, 0, 147, 46, 172]
abbrev dktX9_bucketMany_0 : List UInt8 := dkwX9_bucketMany_0 ++ []
theorem dksX9_bucketMany_0 : cX9_bucketMany.data.toList.drop 0 = dktX9_bucketMany_0 := by decide +kernel
theorem dX9_bucketMany_0 : decode cX9_bucketMany 0 = .ok (.aload_n 0, 1) := dk_42 (dk_at dksX9_bucketMany_0 0 rfl rfl)
theorem dX9_bucketMany_1 : decode cX9_bucketMany 1 = .ok (.getfield 34, 3) := dk_180 0 34 (dk_at dksX9_bucketMany_0 1 rfl rfl)
theorem dX9_bucketMany_4 : decode cX9_bucketMany 4 = .ok (.iload_n 1, 1) := dk_27 (dk_at dksX9_bucketMany_0 4 rfl rfl)
theorem dX9_bucketMany_5 : decode cX9_bucketMany 5 = .ok (.iload_n 2, 1) := dk_28 (dk_at dksX9_bucketMany_0 5 rfl rfl)
theorem dX9_bucketMany_6 : decode cX9_bucketMany 6 = .ok (.invokestatic 147, 3) := dk_184 0 147 (dk_at dksX9_bucketMany_0 6 rfl rfl)
theorem dX9_bucketMany_9 : decode cX9_bucketMany 9 = .ok (.iaload, 1) := dk_46 (dk_at dksX9_bucketMany_0 9 rfl rfl)
theorem dX9_bucketMany_10 : decode cX9_bucketMany 10 = .ok (.ireturn, 1) := dk_172 (dk_at dksX9_bucketMany_0 10 rfl rfl)
abbrev cX9_of : ByteArray := prog_28_method_27_code
def yX9_of : MethodName := ⟨RX9, "of", "(IIII)I"⟩
def dkwX9_of_0 : List UInt8 := [42, 180, 0, 34, 27, 28, 184, 0, 147, 4, 96, 7, 29, 104, 96, 21, 4, 96, 46, 172]
abbrev dktX9_of_0 : List UInt8 := dkwX9_of_0 ++ []
theorem dksX9_of_0 : cX9_of.data.toList.drop 0 = dktX9_of_0 := by decide +kernel
theorem dX9_of_0 : decode cX9_of 0 = .ok (.aload_n 0, 1) := dk_42 (dk_at dksX9_of_0 0 rfl rfl)
theorem dX9_of_1 : decode cX9_of 1 = .ok (.getfield 34, 3) := dk_180 0 34 (dk_at dksX9_of_0 1 rfl rfl)
theorem dX9_of_4 : decode cX9_of 4 = .ok (.iload_n 1, 1) := dk_27 (dk_at dksX9_of_0 4 rfl rfl)
theorem dX9_of_5 : decode cX9_of 5 = .ok (.iload_n 2, 1) := dk_28 (dk_at dksX9_of_0 5 rfl rfl)
theorem dX9_of_6 : decode cX9_of 6 = .ok (.invokestatic 147, 3) := dk_184 0 147 (dk_at dksX9_of_0 6 rfl rfl)
theorem dX9_of_9 : decode cX9_of 9 = .ok (.iconst 1, 1) := dk_4 (dk_at dksX9_of_0 9 rfl rfl)
theorem dX9_of_10 : decode cX9_of 10 = .ok (.iadd, 1) := dk_96 (dk_at dksX9_of_0 10 rfl rfl)
theorem dX9_of_11 : decode cX9_of 11 = .ok (.iconst 4, 1) := dk_7 (dk_at dksX9_of_0 11 rfl rfl)
theorem dX9_of_12 : decode cX9_of 12 = .ok (.iload_n 3, 1) := dk_29 (dk_at dksX9_of_0 12 rfl rfl)
theorem dX9_of_13 : decode cX9_of 13 = .ok (.imul, 1) := dk_104 (dk_at dksX9_of_0 13 rfl rfl)
theorem dX9_of_14 : decode cX9_of 14 = .ok (.iadd, 1) := dk_96 (dk_at dksX9_of_0 14 rfl rfl)
theorem dX9_of_15 : decode cX9_of 15 = .ok (.iload 4, 2) := dk_21 4 (dk_at dksX9_of_0 15 rfl rfl)
theorem dX9_of_17 : decode cX9_of 17 = .ok (.iadd, 1) := dk_96 (dk_at dksX9_of_0 17 rfl rfl)
theorem dX9_of_18 : decode cX9_of 18 = .ok (.iaload, 1) := dk_46 (dk_at dksX9_of_0 18 rfl rfl)
theorem dX9_of_19 : decode cX9_of 19 = .ok (.ireturn, 1) := dk_172 (dk_at dksX9_of_0 19 rfl rfl)
abbrev cX9_column_2 : ByteArray := prog_28_method_50_code
def yX9_column_2 : MethodName := ⟨RX9, "column", "(III)I"⟩
def dkwX9_column_2_3 : List UInt8 := [172, 42, 180, 0, 22, 4, 46, 42, 180, 0, 34, 27, 28, 184, 0, 199, 46, 100, 172]
abbrev dktX9_column_2_3 : List UInt8 := dkwX9_column_2_3 ++ []
def dkwX9_column_2_2 : List UInt8 := [42, 27, 28, 182, 0, 238, 172, 42, 180, 0, 34, 27, 28, 184, 0, 199, 46, 172, 42, 27, 28, 182, 0, 246]
abbrev dktX9_column_2_2 : List UInt8 := dkwX9_column_2_2 ++ dktX9_column_2_3
def dkwX9_column_2_1 : List UInt8 := [170, 0, 0, 0, 0, 0, 0, 53, 0, 0, 0, 0, 0, 0, 0, 2, 0, 0, 0, 28, 0, 0, 0, 35, 0, 0, 0, 46]
abbrev dktX9_column_2_1 : List UInt8 := dkwX9_column_2_1 ++ dktX9_column_2_2
def dkwX9_column_2_0 : List UInt8 := [42, 27, 28, 182, 0, 235, 153, 0, 15, 29, 133, 9, 20, 0, 230, 184, 0, 77, 154, 0, 5, 2, 172, 29]
abbrev dktX9_column_2_0 : List UInt8 := dkwX9_column_2_0 ++ dktX9_column_2_1
theorem dksX9_column_2_0 : cX9_column_2.data.toList.drop 0 = dktX9_column_2_0 := by decide +kernel
theorem dksX9_column_2_1 : cX9_column_2.data.toList.drop 24 = dktX9_column_2_1 := dk_seg dksX9_column_2_0 24 rfl rfl
theorem dksX9_column_2_2 : cX9_column_2.data.toList.drop 52 = dktX9_column_2_2 := dk_seg dksX9_column_2_1 28 rfl rfl
theorem dksX9_column_2_3 : cX9_column_2.data.toList.drop 76 = dktX9_column_2_3 := dk_seg dksX9_column_2_2 24 rfl rfl
theorem dX9_column_2_0 : decode cX9_column_2 0 = .ok (.aload_n 0, 1) := dk_42 (dk_at dksX9_column_2_0 0 rfl rfl)
theorem dX9_column_2_1 : decode cX9_column_2 1 = .ok (.iload_n 1, 1) := dk_27 (dk_at dksX9_column_2_0 1 rfl rfl)
theorem dX9_column_2_2 : decode cX9_column_2 2 = .ok (.iload_n 2, 1) := dk_28 (dk_at dksX9_column_2_0 2 rfl rfl)
theorem dX9_column_2_3 : decode cX9_column_2 3 = .ok (.invokevirtual 235, 3) := dk_182 0 235 (dk_at dksX9_column_2_0 3 rfl rfl)
theorem dX9_column_2_6 : decode cX9_column_2 6 = .ok (.ifCond .eq 15, 3) := dk_153 0 15 (dk_at dksX9_column_2_0 6 rfl rfl)
theorem dX9_column_2_9 : decode cX9_column_2 9 = .ok (.iload_n 3, 1) := dk_29 (dk_at dksX9_column_2_0 9 rfl rfl)
theorem dX9_column_2_10 : decode cX9_column_2 10 = .ok (.i2l, 1) := dk_133 (dk_at dksX9_column_2_0 10 rfl rfl)
theorem dX9_column_2_11 : decode cX9_column_2 11 = .ok (.lconst 0, 1) := dk_9 (dk_at dksX9_column_2_0 11 rfl rfl)
theorem dX9_column_2_12 : decode cX9_column_2 12 = .ok (.ldc2_w 230, 3) := dk_20 0 230 (dk_at dksX9_column_2_0 12 rfl rfl)
theorem dX9_column_2_15 : decode cX9_column_2 15 = .ok (.invokestatic 77, 3) := dk_184 0 77 (dk_at dksX9_column_2_0 15 rfl rfl)
theorem dX9_column_2_18 : decode cX9_column_2 18 = .ok (.ifCond .ne 5, 3) := dk_154 0 5 (dk_at dksX9_column_2_0 18 rfl rfl)
theorem dX9_column_2_21 : decode cX9_column_2 21 = .ok (.iconst (-1), 1) := dk_2 (dk_at dksX9_column_2_0 21 rfl rfl)
theorem dX9_column_2_22 : decode cX9_column_2 22 = .ok (.ireturn, 1) := dk_172 (dk_at dksX9_column_2_0 22 rfl rfl)
theorem dX9_column_2_23 : decode cX9_column_2 23 = .ok (.iload_n 3, 1) := dk_29 (dk_at dksX9_column_2_0 23 rfl rfl)
theorem dX9_column_2_24 : decode cX9_column_2 24 = .ok (.tableswitch 53 0 2 #[28, 35, 46], 28) := by decide +kernel
theorem dX9_column_2_52 : decode cX9_column_2 52 = .ok (.aload_n 0, 1) := dk_42 (dk_at dksX9_column_2_2 0 rfl rfl)
theorem dX9_column_2_53 : decode cX9_column_2 53 = .ok (.iload_n 1, 1) := dk_27 (dk_at dksX9_column_2_2 1 rfl rfl)
theorem dX9_column_2_54 : decode cX9_column_2 54 = .ok (.iload_n 2, 1) := dk_28 (dk_at dksX9_column_2_2 2 rfl rfl)
theorem dX9_column_2_55 : decode cX9_column_2 55 = .ok (.invokevirtual 238, 3) := dk_182 0 238 (dk_at dksX9_column_2_2 3 rfl rfl)
theorem dX9_column_2_58 : decode cX9_column_2 58 = .ok (.ireturn, 1) := dk_172 (dk_at dksX9_column_2_2 6 rfl rfl)
theorem dX9_column_2_59 : decode cX9_column_2 59 = .ok (.aload_n 0, 1) := dk_42 (dk_at dksX9_column_2_2 7 rfl rfl)
theorem dX9_column_2_60 : decode cX9_column_2 60 = .ok (.getfield 34, 3) := dk_180 0 34 (dk_at dksX9_column_2_2 8 rfl rfl)
theorem dX9_column_2_63 : decode cX9_column_2 63 = .ok (.iload_n 1, 1) := dk_27 (dk_at dksX9_column_2_2 11 rfl rfl)
theorem dX9_column_2_64 : decode cX9_column_2 64 = .ok (.iload_n 2, 1) := dk_28 (dk_at dksX9_column_2_2 12 rfl rfl)
theorem dX9_column_2_65 : decode cX9_column_2 65 = .ok (.invokestatic 199, 3) := dk_184 0 199 (dk_at dksX9_column_2_2 13 rfl rfl)
theorem dX9_column_2_68 : decode cX9_column_2 68 = .ok (.iaload, 1) := dk_46 (dk_at dksX9_column_2_2 16 rfl rfl)
theorem dX9_column_2_69 : decode cX9_column_2 69 = .ok (.ireturn, 1) := dk_172 (dk_at dksX9_column_2_2 17 rfl rfl)
theorem dX9_column_2_70 : decode cX9_column_2 70 = .ok (.aload_n 0, 1) := dk_42 (dk_at dksX9_column_2_2 18 rfl rfl)
theorem dX9_column_2_71 : decode cX9_column_2 71 = .ok (.iload_n 1, 1) := dk_27 (dk_at dksX9_column_2_2 19 rfl rfl)
theorem dX9_column_2_72 : decode cX9_column_2 72 = .ok (.iload_n 2, 1) := dk_28 (dk_at dksX9_column_2_2 20 rfl rfl)
theorem dX9_column_2_73 : decode cX9_column_2 73 = .ok (.invokevirtual 246, 3) := dk_182 0 246 (dk_at dksX9_column_2_2 21 rfl rfl)
theorem dX9_column_2_76 : decode cX9_column_2 76 = .ok (.ireturn, 1) := dk_172 (dk_at dksX9_column_2_3 0 rfl rfl)
theorem dX9_column_2_77 : decode cX9_column_2 77 = .ok (.aload_n 0, 1) := dk_42 (dk_at dksX9_column_2_3 1 rfl rfl)
theorem dX9_column_2_78 : decode cX9_column_2 78 = .ok (.getfield 22, 3) := dk_180 0 22 (dk_at dksX9_column_2_3 2 rfl rfl)
theorem dX9_column_2_81 : decode cX9_column_2 81 = .ok (.iconst 1, 1) := dk_4 (dk_at dksX9_column_2_3 5 rfl rfl)
theorem dX9_column_2_82 : decode cX9_column_2 82 = .ok (.iaload, 1) := dk_46 (dk_at dksX9_column_2_3 6 rfl rfl)
theorem dX9_column_2_83 : decode cX9_column_2 83 = .ok (.aload_n 0, 1) := dk_42 (dk_at dksX9_column_2_3 7 rfl rfl)
theorem dX9_column_2_84 : decode cX9_column_2 84 = .ok (.getfield 34, 3) := dk_180 0 34 (dk_at dksX9_column_2_3 8 rfl rfl)
theorem dX9_column_2_87 : decode cX9_column_2 87 = .ok (.iload_n 1, 1) := dk_27 (dk_at dksX9_column_2_3 11 rfl rfl)
theorem dX9_column_2_88 : decode cX9_column_2 88 = .ok (.iload_n 2, 1) := dk_28 (dk_at dksX9_column_2_3 12 rfl rfl)
theorem dX9_column_2_89 : decode cX9_column_2 89 = .ok (.invokestatic 199, 3) := dk_184 0 199 (dk_at dksX9_column_2_3 13 rfl rfl)
theorem dX9_column_2_92 : decode cX9_column_2 92 = .ok (.iaload, 1) := dk_46 (dk_at dksX9_column_2_3 16 rfl rfl)
theorem dX9_column_2_93 : decode cX9_column_2 93 = .ok (.isub, 1) := dk_100 (dk_at dksX9_column_2_3 17 rfl rfl)
theorem dX9_column_2_94 : decode cX9_column_2 94 = .ok (.ireturn, 1) := dk_172 (dk_at dksX9_column_2_3 18 rfl rfl)
abbrev cX9_worst : ByteArray := prog_28_method_49_code
def yX9_worst : MethodName := ⟨RX9, "worst", "(II)I"⟩
def dkwX9_worst_3 : List UInt8 := [21, 4, 167, 0, 4, 29, 62, 132, 4, 1, 167, 255, 185, 29, 172]
abbrev dktX9_worst_3 : List UInt8 := dkwX9_worst_3 ++ []
def dkwX9_worst_2 : List UInt8 := [27, 28, 29, 3, 182, 0, 241, 42, 27, 28, 29, 4, 182, 0, 241, 4, 96, 182, 0, 177, 148, 158, 0, 8]
abbrev dktX9_worst_2 : List UInt8 := dkwX9_worst_2 ++ dktX9_worst_3
def dkwX9_worst_1 : List UInt8 := [27, 28, 21, 4, 3, 182, 0, 241, 42, 27, 28, 21, 4, 4, 182, 0, 241, 4, 96, 182, 0, 177, 42, 42]
abbrev dktX9_worst_1 : List UInt8 := dkwX9_worst_1 ++ dktX9_worst_2
def dkwX9_worst_0 : List UInt8 := [42, 27, 28, 182, 0, 191, 3, 62, 4, 54, 4, 21, 4, 42, 27, 28, 182, 0, 238, 162, 0, 66, 42, 42]
abbrev dktX9_worst_0 : List UInt8 := dkwX9_worst_0 ++ dktX9_worst_1
theorem dksX9_worst_0 : cX9_worst.data.toList.drop 0 = dktX9_worst_0 := by decide +kernel
theorem dksX9_worst_1 : cX9_worst.data.toList.drop 24 = dktX9_worst_1 := dk_seg dksX9_worst_0 24 rfl rfl
theorem dksX9_worst_2 : cX9_worst.data.toList.drop 48 = dktX9_worst_2 := dk_seg dksX9_worst_1 24 rfl rfl
theorem dksX9_worst_3 : cX9_worst.data.toList.drop 72 = dktX9_worst_3 := dk_seg dksX9_worst_2 24 rfl rfl
theorem dX9_worst_0 : decode cX9_worst 0 = .ok (.aload_n 0, 1) := dk_42 (dk_at dksX9_worst_0 0 rfl rfl)
theorem dX9_worst_1 : decode cX9_worst 1 = .ok (.iload_n 1, 1) := dk_27 (dk_at dksX9_worst_0 1 rfl rfl)
theorem dX9_worst_2 : decode cX9_worst 2 = .ok (.iload_n 2, 1) := dk_28 (dk_at dksX9_worst_0 2 rfl rfl)
theorem dX9_worst_3 : decode cX9_worst 3 = .ok (.invokevirtual 191, 3) := dk_182 0 191 (dk_at dksX9_worst_0 3 rfl rfl)
theorem dX9_worst_6 : decode cX9_worst 6 = .ok (.iconst 0, 1) := dk_3 (dk_at dksX9_worst_0 6 rfl rfl)
theorem dX9_worst_7 : decode cX9_worst 7 = .ok (.istore_n 3, 1) := dk_62 (dk_at dksX9_worst_0 7 rfl rfl)
theorem dX9_worst_8 : decode cX9_worst 8 = .ok (.iconst 1, 1) := dk_4 (dk_at dksX9_worst_0 8 rfl rfl)
theorem dX9_worst_9 : decode cX9_worst 9 = .ok (.istore 4, 2) := dk_54 4 (dk_at dksX9_worst_0 9 rfl rfl)
theorem dX9_worst_11 : decode cX9_worst 11 = .ok (.iload 4, 2) := dk_21 4 (dk_at dksX9_worst_0 11 rfl rfl)
theorem dX9_worst_13 : decode cX9_worst 13 = .ok (.aload_n 0, 1) := dk_42 (dk_at dksX9_worst_0 13 rfl rfl)
theorem dX9_worst_14 : decode cX9_worst 14 = .ok (.iload_n 1, 1) := dk_27 (dk_at dksX9_worst_0 14 rfl rfl)
theorem dX9_worst_15 : decode cX9_worst 15 = .ok (.iload_n 2, 1) := dk_28 (dk_at dksX9_worst_0 15 rfl rfl)
theorem dX9_worst_16 : decode cX9_worst 16 = .ok (.invokevirtual 238, 3) := dk_182 0 238 (dk_at dksX9_worst_0 16 rfl rfl)
theorem dX9_worst_19 : decode cX9_worst 19 = .ok (.if_icmp .ge 66, 3) := dk_162 0 66 (dk_at dksX9_worst_0 19 rfl rfl)
theorem dX9_worst_22 : decode cX9_worst 22 = .ok (.aload_n 0, 1) := dk_42 (dk_at dksX9_worst_0 22 rfl rfl)
theorem dX9_worst_23 : decode cX9_worst 23 = .ok (.aload_n 0, 1) := dk_42 (dk_at dksX9_worst_0 23 rfl rfl)
theorem dX9_worst_24 : decode cX9_worst 24 = .ok (.iload_n 1, 1) := dk_27 (dk_at dksX9_worst_1 0 rfl rfl)
theorem dX9_worst_25 : decode cX9_worst 25 = .ok (.iload_n 2, 1) := dk_28 (dk_at dksX9_worst_1 1 rfl rfl)
theorem dX9_worst_26 : decode cX9_worst 26 = .ok (.iload 4, 2) := dk_21 4 (dk_at dksX9_worst_1 2 rfl rfl)
theorem dX9_worst_28 : decode cX9_worst 28 = .ok (.iconst 0, 1) := dk_3 (dk_at dksX9_worst_1 4 rfl rfl)
theorem dX9_worst_29 : decode cX9_worst 29 = .ok (.invokevirtual 241, 3) := dk_182 0 241 (dk_at dksX9_worst_1 5 rfl rfl)
theorem dX9_worst_32 : decode cX9_worst 32 = .ok (.aload_n 0, 1) := dk_42 (dk_at dksX9_worst_1 8 rfl rfl)
theorem dX9_worst_33 : decode cX9_worst 33 = .ok (.iload_n 1, 1) := dk_27 (dk_at dksX9_worst_1 9 rfl rfl)
theorem dX9_worst_34 : decode cX9_worst 34 = .ok (.iload_n 2, 1) := dk_28 (dk_at dksX9_worst_1 10 rfl rfl)
theorem dX9_worst_35 : decode cX9_worst 35 = .ok (.iload 4, 2) := dk_21 4 (dk_at dksX9_worst_1 11 rfl rfl)
theorem dX9_worst_37 : decode cX9_worst 37 = .ok (.iconst 1, 1) := dk_4 (dk_at dksX9_worst_1 13 rfl rfl)
theorem dX9_worst_38 : decode cX9_worst 38 = .ok (.invokevirtual 241, 3) := dk_182 0 241 (dk_at dksX9_worst_1 14 rfl rfl)
theorem dX9_worst_41 : decode cX9_worst 41 = .ok (.iconst 1, 1) := dk_4 (dk_at dksX9_worst_1 17 rfl rfl)
theorem dX9_worst_42 : decode cX9_worst 42 = .ok (.iadd, 1) := dk_96 (dk_at dksX9_worst_1 18 rfl rfl)
theorem dX9_worst_43 : decode cX9_worst 43 = .ok (.invokevirtual 177, 3) := dk_182 0 177 (dk_at dksX9_worst_1 19 rfl rfl)
theorem dX9_worst_46 : decode cX9_worst 46 = .ok (.aload_n 0, 1) := dk_42 (dk_at dksX9_worst_1 22 rfl rfl)
theorem dX9_worst_47 : decode cX9_worst 47 = .ok (.aload_n 0, 1) := dk_42 (dk_at dksX9_worst_1 23 rfl rfl)
theorem dX9_worst_48 : decode cX9_worst 48 = .ok (.iload_n 1, 1) := dk_27 (dk_at dksX9_worst_2 0 rfl rfl)
theorem dX9_worst_49 : decode cX9_worst 49 = .ok (.iload_n 2, 1) := dk_28 (dk_at dksX9_worst_2 1 rfl rfl)
theorem dX9_worst_50 : decode cX9_worst 50 = .ok (.iload_n 3, 1) := dk_29 (dk_at dksX9_worst_2 2 rfl rfl)
theorem dX9_worst_51 : decode cX9_worst 51 = .ok (.iconst 0, 1) := dk_3 (dk_at dksX9_worst_2 3 rfl rfl)
theorem dX9_worst_52 : decode cX9_worst 52 = .ok (.invokevirtual 241, 3) := dk_182 0 241 (dk_at dksX9_worst_2 4 rfl rfl)
theorem dX9_worst_55 : decode cX9_worst 55 = .ok (.aload_n 0, 1) := dk_42 (dk_at dksX9_worst_2 7 rfl rfl)
theorem dX9_worst_56 : decode cX9_worst 56 = .ok (.iload_n 1, 1) := dk_27 (dk_at dksX9_worst_2 8 rfl rfl)
theorem dX9_worst_57 : decode cX9_worst 57 = .ok (.iload_n 2, 1) := dk_28 (dk_at dksX9_worst_2 9 rfl rfl)
theorem dX9_worst_58 : decode cX9_worst 58 = .ok (.iload_n 3, 1) := dk_29 (dk_at dksX9_worst_2 10 rfl rfl)
theorem dX9_worst_59 : decode cX9_worst 59 = .ok (.iconst 1, 1) := dk_4 (dk_at dksX9_worst_2 11 rfl rfl)
theorem dX9_worst_60 : decode cX9_worst 60 = .ok (.invokevirtual 241, 3) := dk_182 0 241 (dk_at dksX9_worst_2 12 rfl rfl)
theorem dX9_worst_63 : decode cX9_worst 63 = .ok (.iconst 1, 1) := dk_4 (dk_at dksX9_worst_2 15 rfl rfl)
theorem dX9_worst_64 : decode cX9_worst 64 = .ok (.iadd, 1) := dk_96 (dk_at dksX9_worst_2 16 rfl rfl)
theorem dX9_worst_65 : decode cX9_worst 65 = .ok (.invokevirtual 177, 3) := dk_182 0 177 (dk_at dksX9_worst_2 17 rfl rfl)
theorem dX9_worst_68 : decode cX9_worst 68 = .ok (.lcmp, 1) := dk_148 (dk_at dksX9_worst_2 20 rfl rfl)
theorem dX9_worst_69 : decode cX9_worst 69 = .ok (.ifCond .le 8, 3) := dk_158 0 8 (dk_at dksX9_worst_2 21 rfl rfl)
theorem dX9_worst_72 : decode cX9_worst 72 = .ok (.iload 4, 2) := dk_21 4 (dk_at dksX9_worst_3 0 rfl rfl)
theorem dX9_worst_74 : decode cX9_worst 74 = .ok (.goto 4, 3) := dk_167 0 4 (dk_at dksX9_worst_3 2 rfl rfl)
theorem dX9_worst_77 : decode cX9_worst 77 = .ok (.iload_n 3, 1) := dk_29 (dk_at dksX9_worst_3 5 rfl rfl)
theorem dX9_worst_78 : decode cX9_worst 78 = .ok (.istore_n 3, 1) := dk_62 (dk_at dksX9_worst_3 6 rfl rfl)
theorem dX9_worst_79 : decode cX9_worst 79 = .ok (.iinc 4 1, 3) := dk_132 4 1 (dk_at dksX9_worst_3 7 rfl rfl)
theorem dX9_worst_82 : decode cX9_worst 82 = .ok (.goto (-71), 3) := dk_167 255 185 (dk_at dksX9_worst_3 10 rfl rfl)
theorem dX9_worst_85 : decode cX9_worst 85 = .ok (.iload_n 3, 1) := dk_29 (dk_at dksX9_worst_3 13 rfl rfl)
theorem dX9_worst_86 : decode cX9_worst 86 = .ok (.ireturn, 1) := dk_172 (dk_at dksX9_worst_3 14 rfl rfl)
abbrev cX9_error : ByteArray := prog_28_method_52_code
def yX9_error : MethodName := ⟨RX9, "error", "(III)J"⟩
def dkwX9_error_1 : List UInt8 := [182, 0, 187, 42, 180, 0, 43, 29, 3, 184, 0, 174, 47, 173]
abbrev dktX9_error_1 : List UInt8 := dkwX9_error_1 ++ []
def dkwX9_error_0 : List UInt8 := [42, 27, 28, 29, 182, 0, 249, 154, 0, 7, 20, 0, 156, 173, 42, 27, 28, 182, 0, 191, 42, 29]
abbrev dktX9_error_0 : List UInt8 := dkwX9_error_0 ++ dktX9_error_1
theorem dksX9_error_0 : cX9_error.data.toList.drop 0 = dktX9_error_0 := by decide +kernel
theorem dksX9_error_1 : cX9_error.data.toList.drop 22 = dktX9_error_1 := dk_seg dksX9_error_0 22 rfl rfl
theorem dX9_error_0 : decode cX9_error 0 = .ok (.aload_n 0, 1) := dk_42 (dk_at dksX9_error_0 0 rfl rfl)
theorem dX9_error_1 : decode cX9_error 1 = .ok (.iload_n 1, 1) := dk_27 (dk_at dksX9_error_0 1 rfl rfl)
theorem dX9_error_2 : decode cX9_error 2 = .ok (.iload_n 2, 1) := dk_28 (dk_at dksX9_error_0 2 rfl rfl)
theorem dX9_error_3 : decode cX9_error 3 = .ok (.iload_n 3, 1) := dk_29 (dk_at dksX9_error_0 3 rfl rfl)
theorem dX9_error_4 : decode cX9_error 4 = .ok (.invokevirtual 249, 3) := dk_182 0 249 (dk_at dksX9_error_0 4 rfl rfl)
theorem dX9_error_7 : decode cX9_error 7 = .ok (.ifCond .ne 7, 3) := dk_154 0 7 (dk_at dksX9_error_0 7 rfl rfl)
theorem dX9_error_10 : decode cX9_error 10 = .ok (.ldc2_w 156, 3) := dk_20 0 156 (dk_at dksX9_error_0 10 rfl rfl)
theorem dX9_error_13 : decode cX9_error 13 = .ok (.lreturn, 1) := dk_173 (dk_at dksX9_error_0 13 rfl rfl)
theorem dX9_error_14 : decode cX9_error 14 = .ok (.aload_n 0, 1) := dk_42 (dk_at dksX9_error_0 14 rfl rfl)
theorem dX9_error_15 : decode cX9_error 15 = .ok (.iload_n 1, 1) := dk_27 (dk_at dksX9_error_0 15 rfl rfl)
theorem dX9_error_16 : decode cX9_error 16 = .ok (.iload_n 2, 1) := dk_28 (dk_at dksX9_error_0 16 rfl rfl)
theorem dX9_error_17 : decode cX9_error 17 = .ok (.invokevirtual 191, 3) := dk_182 0 191 (dk_at dksX9_error_0 17 rfl rfl)
theorem dX9_error_20 : decode cX9_error 20 = .ok (.aload_n 0, 1) := dk_42 (dk_at dksX9_error_0 20 rfl rfl)
theorem dX9_error_21 : decode cX9_error 21 = .ok (.iload_n 3, 1) := dk_29 (dk_at dksX9_error_0 21 rfl rfl)
theorem dX9_error_22 : decode cX9_error 22 = .ok (.invokevirtual 187, 3) := dk_182 0 187 (dk_at dksX9_error_1 0 rfl rfl)
theorem dX9_error_25 : decode cX9_error 25 = .ok (.aload_n 0, 1) := dk_42 (dk_at dksX9_error_1 3 rfl rfl)
theorem dX9_error_26 : decode cX9_error 26 = .ok (.getfield 43, 3) := dk_180 0 43 (dk_at dksX9_error_1 4 rfl rfl)
theorem dX9_error_29 : decode cX9_error 29 = .ok (.iload_n 3, 1) := dk_29 (dk_at dksX9_error_1 7 rfl rfl)
theorem dX9_error_30 : decode cX9_error 30 = .ok (.iconst 0, 1) := dk_3 (dk_at dksX9_error_1 8 rfl rfl)
theorem dX9_error_31 : decode cX9_error 31 = .ok (.invokestatic 174, 3) := dk_184 0 174 (dk_at dksX9_error_1 9 rfl rfl)
theorem dX9_error_34 : decode cX9_error 34 = .ok (.laload, 1) := dk_47 (dk_at dksX9_error_1 12 rfl rfl)
theorem dX9_error_35 : decode cX9_error 35 = .ok (.lreturn, 1) := dk_173 (dk_at dksX9_error_1 13 rfl rfl)
abbrev cX9_isBuilding : ByteArray := prog_28_method_51_code
def yX9_isBuilding : MethodName := ⟨RX9, "isBuilding", "(III)Z"⟩
def dkwX9_isBuilding_1 : List UInt8 := [153, 0, 7, 4, 167, 0, 4, 3, 172]
abbrev dktX9_isBuilding_1 : List UInt8 := dkwX9_isBuilding_1 ++ []
def dkwX9_isBuilding_0 : List UInt8 := [42, 27, 28, 182, 0, 235, 153, 0, 23, 29, 133, 10, 42, 180, 0, 25, 27, 46, 133, 184, 0, 77]
abbrev dktX9_isBuilding_0 : List UInt8 := dkwX9_isBuilding_0 ++ dktX9_isBuilding_1
theorem dksX9_isBuilding_0 : cX9_isBuilding.data.toList.drop 0 = dktX9_isBuilding_0 := by decide +kernel
theorem dksX9_isBuilding_1 : cX9_isBuilding.data.toList.drop 22 = dktX9_isBuilding_1 := dk_seg dksX9_isBuilding_0 22 rfl rfl
theorem dX9_isBuilding_0 : decode cX9_isBuilding 0 = .ok (.aload_n 0, 1) := dk_42 (dk_at dksX9_isBuilding_0 0 rfl rfl)
theorem dX9_isBuilding_1 : decode cX9_isBuilding 1 = .ok (.iload_n 1, 1) := dk_27 (dk_at dksX9_isBuilding_0 1 rfl rfl)
theorem dX9_isBuilding_2 : decode cX9_isBuilding 2 = .ok (.iload_n 2, 1) := dk_28 (dk_at dksX9_isBuilding_0 2 rfl rfl)
theorem dX9_isBuilding_3 : decode cX9_isBuilding 3 = .ok (.invokevirtual 235, 3) := dk_182 0 235 (dk_at dksX9_isBuilding_0 3 rfl rfl)
theorem dX9_isBuilding_6 : decode cX9_isBuilding 6 = .ok (.ifCond .eq 23, 3) := dk_153 0 23 (dk_at dksX9_isBuilding_0 6 rfl rfl)
theorem dX9_isBuilding_9 : decode cX9_isBuilding 9 = .ok (.iload_n 3, 1) := dk_29 (dk_at dksX9_isBuilding_0 9 rfl rfl)
theorem dX9_isBuilding_10 : decode cX9_isBuilding 10 = .ok (.i2l, 1) := dk_133 (dk_at dksX9_isBuilding_0 10 rfl rfl)
theorem dX9_isBuilding_11 : decode cX9_isBuilding 11 = .ok (.lconst 1, 1) := dk_10 (dk_at dksX9_isBuilding_0 11 rfl rfl)
theorem dX9_isBuilding_12 : decode cX9_isBuilding 12 = .ok (.aload_n 0, 1) := dk_42 (dk_at dksX9_isBuilding_0 12 rfl rfl)
theorem dX9_isBuilding_13 : decode cX9_isBuilding 13 = .ok (.getfield 25, 3) := dk_180 0 25 (dk_at dksX9_isBuilding_0 13 rfl rfl)
theorem dX9_isBuilding_16 : decode cX9_isBuilding 16 = .ok (.iload_n 1, 1) := dk_27 (dk_at dksX9_isBuilding_0 16 rfl rfl)
theorem dX9_isBuilding_17 : decode cX9_isBuilding 17 = .ok (.iaload, 1) := dk_46 (dk_at dksX9_isBuilding_0 17 rfl rfl)
theorem dX9_isBuilding_18 : decode cX9_isBuilding 18 = .ok (.i2l, 1) := dk_133 (dk_at dksX9_isBuilding_0 18 rfl rfl)
theorem dX9_isBuilding_19 : decode cX9_isBuilding 19 = .ok (.invokestatic 77, 3) := dk_184 0 77 (dk_at dksX9_isBuilding_0 19 rfl rfl)
theorem dX9_isBuilding_22 : decode cX9_isBuilding 22 = .ok (.ifCond .eq 7, 3) := dk_153 0 7 (dk_at dksX9_isBuilding_1 0 rfl rfl)
theorem dX9_isBuilding_25 : decode cX9_isBuilding 25 = .ok (.iconst 1, 1) := dk_4 (dk_at dksX9_isBuilding_1 3 rfl rfl)
theorem dX9_isBuilding_26 : decode cX9_isBuilding 26 = .ok (.goto 4, 3) := dk_167 0 4 (dk_at dksX9_isBuilding_1 4 rfl rfl)
theorem dX9_isBuilding_29 : decode cX9_isBuilding 29 = .ok (.iconst 0, 1) := dk_3 (dk_at dksX9_isBuilding_1 7 rfl rfl)
theorem dX9_isBuilding_30 : decode cX9_isBuilding 30 = .ok (.ireturn, 1) := dk_172 (dk_at dksX9_isBuilding_1 8 rfl rfl)
abbrev cX9_border : ByteArray := prog_28_method_53_code
def yX9_border : MethodName := ⟨RX9, "border", "(IIII)I"⟩
def dkwX9_border_1 : List UInt8 := [2, 172, 42, 27, 28, 182, 0, 191, 42, 29, 182, 0, 196, 42, 180, 0, 47, 21, 4, 46, 172]
abbrev dktX9_border_1 : List UInt8 := dkwX9_border_1 ++ []
def dkwX9_border_0 : List UInt8 := [42, 27, 28, 29, 182, 0, 249, 153, 0, 17, 21, 4, 133, 9, 29, 4, 100, 133, 184, 0, 77, 154, 0, 5]
abbrev dktX9_border_0 : List UInt8 := dkwX9_border_0 ++ dktX9_border_1
theorem dksX9_border_0 : cX9_border.data.toList.drop 0 = dktX9_border_0 := by decide +kernel
theorem dksX9_border_1 : cX9_border.data.toList.drop 24 = dktX9_border_1 := dk_seg dksX9_border_0 24 rfl rfl
theorem dX9_border_0 : decode cX9_border 0 = .ok (.aload_n 0, 1) := dk_42 (dk_at dksX9_border_0 0 rfl rfl)
theorem dX9_border_1 : decode cX9_border 1 = .ok (.iload_n 1, 1) := dk_27 (dk_at dksX9_border_0 1 rfl rfl)
theorem dX9_border_2 : decode cX9_border 2 = .ok (.iload_n 2, 1) := dk_28 (dk_at dksX9_border_0 2 rfl rfl)
theorem dX9_border_3 : decode cX9_border 3 = .ok (.iload_n 3, 1) := dk_29 (dk_at dksX9_border_0 3 rfl rfl)
theorem dX9_border_4 : decode cX9_border 4 = .ok (.invokevirtual 249, 3) := dk_182 0 249 (dk_at dksX9_border_0 4 rfl rfl)
theorem dX9_border_7 : decode cX9_border 7 = .ok (.ifCond .eq 17, 3) := dk_153 0 17 (dk_at dksX9_border_0 7 rfl rfl)
theorem dX9_border_10 : decode cX9_border 10 = .ok (.iload 4, 2) := dk_21 4 (dk_at dksX9_border_0 10 rfl rfl)
theorem dX9_border_12 : decode cX9_border 12 = .ok (.i2l, 1) := dk_133 (dk_at dksX9_border_0 12 rfl rfl)
theorem dX9_border_13 : decode cX9_border 13 = .ok (.lconst 0, 1) := dk_9 (dk_at dksX9_border_0 13 rfl rfl)
theorem dX9_border_14 : decode cX9_border 14 = .ok (.iload_n 3, 1) := dk_29 (dk_at dksX9_border_0 14 rfl rfl)
theorem dX9_border_15 : decode cX9_border 15 = .ok (.iconst 1, 1) := dk_4 (dk_at dksX9_border_0 15 rfl rfl)
theorem dX9_border_16 : decode cX9_border 16 = .ok (.isub, 1) := dk_100 (dk_at dksX9_border_0 16 rfl rfl)
theorem dX9_border_17 : decode cX9_border 17 = .ok (.i2l, 1) := dk_133 (dk_at dksX9_border_0 17 rfl rfl)
theorem dX9_border_18 : decode cX9_border 18 = .ok (.invokestatic 77, 3) := dk_184 0 77 (dk_at dksX9_border_0 18 rfl rfl)
theorem dX9_border_21 : decode cX9_border 21 = .ok (.ifCond .ne 5, 3) := dk_154 0 5 (dk_at dksX9_border_0 21 rfl rfl)
theorem dX9_border_24 : decode cX9_border 24 = .ok (.iconst (-1), 1) := dk_2 (dk_at dksX9_border_1 0 rfl rfl)
theorem dX9_border_25 : decode cX9_border 25 = .ok (.ireturn, 1) := dk_172 (dk_at dksX9_border_1 1 rfl rfl)
theorem dX9_border_26 : decode cX9_border 26 = .ok (.aload_n 0, 1) := dk_42 (dk_at dksX9_border_1 2 rfl rfl)
theorem dX9_border_27 : decode cX9_border 27 = .ok (.iload_n 1, 1) := dk_27 (dk_at dksX9_border_1 3 rfl rfl)
theorem dX9_border_28 : decode cX9_border 28 = .ok (.iload_n 2, 1) := dk_28 (dk_at dksX9_border_1 4 rfl rfl)
theorem dX9_border_29 : decode cX9_border 29 = .ok (.invokevirtual 191, 3) := dk_182 0 191 (dk_at dksX9_border_1 5 rfl rfl)
theorem dX9_border_32 : decode cX9_border 32 = .ok (.aload_n 0, 1) := dk_42 (dk_at dksX9_border_1 8 rfl rfl)
theorem dX9_border_33 : decode cX9_border 33 = .ok (.iload_n 3, 1) := dk_29 (dk_at dksX9_border_1 9 rfl rfl)
theorem dX9_border_34 : decode cX9_border 34 = .ok (.invokevirtual 196, 3) := dk_182 0 196 (dk_at dksX9_border_1 10 rfl rfl)
theorem dX9_border_37 : decode cX9_border 37 = .ok (.aload_n 0, 1) := dk_42 (dk_at dksX9_border_1 13 rfl rfl)
theorem dX9_border_38 : decode cX9_border 38 = .ok (.getfield 47, 3) := dk_180 0 47 (dk_at dksX9_border_1 14 rfl rfl)
theorem dX9_border_41 : decode cX9_border 41 = .ok (.iload 4, 2) := dk_21 4 (dk_at dksX9_border_1 17 rfl rfl)
theorem dX9_border_43 : decode cX9_border 43 = .ok (.iaload, 1) := dk_46 (dk_at dksX9_border_1 19 rfl rfl)
theorem dX9_border_44 : decode cX9_border 44 = .ok (.ireturn, 1) := dk_172 (dk_at dksX9_border_1 20 rfl rfl)
abbrev cX9_tried : ByteArray := prog_28_method_55_code
def yX9_tried : MethodName := ⟨RX9, "tried", "(IIII)I"⟩
def dkwX9_tried_4 : List UInt8 := [167, 255, 203, 21, 5, 172]
abbrev dktX9_tried_4 : List UInt8 := dkwX9_tried_4 ++ []
def dkwX9_tried_3 : List UInt8 := [154, 0, 7, 4, 167, 0, 4, 3, 182, 0, 253, 96, 54, 5, 132, 7, 1, 167, 255, 218, 132, 6, 1]
abbrev dktX9_tried_3 : List UInt8 := dkwX9_tried_3 ++ dktX9_tried_4
def dkwX9_tried_2 : List UInt8 := [54, 7, 21, 7, 42, 180, 0, 164, 21, 6, 100, 163, 0, 32, 21, 5, 42, 21, 7, 21, 6, 21, 4]
abbrev dktX9_tried_2 : List UInt8 := dkwX9_tried_2 ++ dktX9_tried_3
def dkwX9_tried_1 : List UInt8 := [27, 28, 182, 0, 191, 42, 29, 182, 0, 187, 3, 54, 5, 4, 54, 6, 21, 6, 29, 163, 0, 53, 3]
abbrev dktX9_tried_1 : List UInt8 := dkwX9_tried_1 ++ dktX9_tried_2
def dkwX9_tried_0 : List UInt8 := [42, 27, 28, 29, 182, 0, 249, 153, 0, 14, 21, 4, 133, 9, 10, 184, 0, 77, 154, 0, 5, 2, 172, 42]
abbrev dktX9_tried_0 : List UInt8 := dkwX9_tried_0 ++ dktX9_tried_1
theorem dksX9_tried_0 : cX9_tried.data.toList.drop 0 = dktX9_tried_0 := by decide +kernel
theorem dksX9_tried_1 : cX9_tried.data.toList.drop 24 = dktX9_tried_1 := dk_seg dksX9_tried_0 24 rfl rfl
theorem dksX9_tried_2 : cX9_tried.data.toList.drop 47 = dktX9_tried_2 := dk_seg dksX9_tried_1 23 rfl rfl
theorem dksX9_tried_3 : cX9_tried.data.toList.drop 70 = dktX9_tried_3 := dk_seg dksX9_tried_2 23 rfl rfl
theorem dksX9_tried_4 : cX9_tried.data.toList.drop 93 = dktX9_tried_4 := dk_seg dksX9_tried_3 23 rfl rfl
theorem dX9_tried_0 : decode cX9_tried 0 = .ok (.aload_n 0, 1) := dk_42 (dk_at dksX9_tried_0 0 rfl rfl)
theorem dX9_tried_1 : decode cX9_tried 1 = .ok (.iload_n 1, 1) := dk_27 (dk_at dksX9_tried_0 1 rfl rfl)
theorem dX9_tried_2 : decode cX9_tried 2 = .ok (.iload_n 2, 1) := dk_28 (dk_at dksX9_tried_0 2 rfl rfl)
theorem dX9_tried_3 : decode cX9_tried 3 = .ok (.iload_n 3, 1) := dk_29 (dk_at dksX9_tried_0 3 rfl rfl)
theorem dX9_tried_4 : decode cX9_tried 4 = .ok (.invokevirtual 249, 3) := dk_182 0 249 (dk_at dksX9_tried_0 4 rfl rfl)
theorem dX9_tried_7 : decode cX9_tried 7 = .ok (.ifCond .eq 14, 3) := dk_153 0 14 (dk_at dksX9_tried_0 7 rfl rfl)
theorem dX9_tried_10 : decode cX9_tried 10 = .ok (.iload 4, 2) := dk_21 4 (dk_at dksX9_tried_0 10 rfl rfl)
theorem dX9_tried_12 : decode cX9_tried 12 = .ok (.i2l, 1) := dk_133 (dk_at dksX9_tried_0 12 rfl rfl)
theorem dX9_tried_13 : decode cX9_tried 13 = .ok (.lconst 0, 1) := dk_9 (dk_at dksX9_tried_0 13 rfl rfl)
theorem dX9_tried_14 : decode cX9_tried 14 = .ok (.lconst 1, 1) := dk_10 (dk_at dksX9_tried_0 14 rfl rfl)
theorem dX9_tried_15 : decode cX9_tried 15 = .ok (.invokestatic 77, 3) := dk_184 0 77 (dk_at dksX9_tried_0 15 rfl rfl)
theorem dX9_tried_18 : decode cX9_tried 18 = .ok (.ifCond .ne 5, 3) := dk_154 0 5 (dk_at dksX9_tried_0 18 rfl rfl)
theorem dX9_tried_21 : decode cX9_tried 21 = .ok (.iconst (-1), 1) := dk_2 (dk_at dksX9_tried_0 21 rfl rfl)
theorem dX9_tried_22 : decode cX9_tried 22 = .ok (.ireturn, 1) := dk_172 (dk_at dksX9_tried_0 22 rfl rfl)
theorem dX9_tried_23 : decode cX9_tried 23 = .ok (.aload_n 0, 1) := dk_42 (dk_at dksX9_tried_0 23 rfl rfl)
theorem dX9_tried_24 : decode cX9_tried 24 = .ok (.iload_n 1, 1) := dk_27 (dk_at dksX9_tried_1 0 rfl rfl)
theorem dX9_tried_25 : decode cX9_tried 25 = .ok (.iload_n 2, 1) := dk_28 (dk_at dksX9_tried_1 1 rfl rfl)
theorem dX9_tried_26 : decode cX9_tried 26 = .ok (.invokevirtual 191, 3) := dk_182 0 191 (dk_at dksX9_tried_1 2 rfl rfl)
theorem dX9_tried_29 : decode cX9_tried 29 = .ok (.aload_n 0, 1) := dk_42 (dk_at dksX9_tried_1 5 rfl rfl)
theorem dX9_tried_30 : decode cX9_tried 30 = .ok (.iload_n 3, 1) := dk_29 (dk_at dksX9_tried_1 6 rfl rfl)
theorem dX9_tried_31 : decode cX9_tried 31 = .ok (.invokevirtual 187, 3) := dk_182 0 187 (dk_at dksX9_tried_1 7 rfl rfl)
theorem dX9_tried_34 : decode cX9_tried 34 = .ok (.iconst 0, 1) := dk_3 (dk_at dksX9_tried_1 10 rfl rfl)
theorem dX9_tried_35 : decode cX9_tried 35 = .ok (.istore 5, 2) := dk_54 5 (dk_at dksX9_tried_1 11 rfl rfl)
theorem dX9_tried_37 : decode cX9_tried 37 = .ok (.iconst 1, 1) := dk_4 (dk_at dksX9_tried_1 13 rfl rfl)
theorem dX9_tried_38 : decode cX9_tried 38 = .ok (.istore 6, 2) := dk_54 6 (dk_at dksX9_tried_1 14 rfl rfl)
theorem dX9_tried_40 : decode cX9_tried 40 = .ok (.iload 6, 2) := dk_21 6 (dk_at dksX9_tried_1 16 rfl rfl)
theorem dX9_tried_42 : decode cX9_tried 42 = .ok (.iload_n 3, 1) := dk_29 (dk_at dksX9_tried_1 18 rfl rfl)
theorem dX9_tried_43 : decode cX9_tried 43 = .ok (.if_icmp .gt 53, 3) := dk_163 0 53 (dk_at dksX9_tried_1 19 rfl rfl)
theorem dX9_tried_46 : decode cX9_tried 46 = .ok (.iconst 0, 1) := dk_3 (dk_at dksX9_tried_1 22 rfl rfl)
theorem dX9_tried_47 : decode cX9_tried 47 = .ok (.istore 7, 2) := dk_54 7 (dk_at dksX9_tried_2 0 rfl rfl)
theorem dX9_tried_49 : decode cX9_tried 49 = .ok (.iload 7, 2) := dk_21 7 (dk_at dksX9_tried_2 2 rfl rfl)
theorem dX9_tried_51 : decode cX9_tried 51 = .ok (.aload_n 0, 1) := dk_42 (dk_at dksX9_tried_2 4 rfl rfl)
theorem dX9_tried_52 : decode cX9_tried 52 = .ok (.getfield 164, 3) := dk_180 0 164 (dk_at dksX9_tried_2 5 rfl rfl)
theorem dX9_tried_55 : decode cX9_tried 55 = .ok (.iload 6, 2) := dk_21 6 (dk_at dksX9_tried_2 8 rfl rfl)
theorem dX9_tried_57 : decode cX9_tried 57 = .ok (.isub, 1) := dk_100 (dk_at dksX9_tried_2 10 rfl rfl)
theorem dX9_tried_58 : decode cX9_tried 58 = .ok (.if_icmp .gt 32, 3) := dk_163 0 32 (dk_at dksX9_tried_2 11 rfl rfl)
theorem dX9_tried_61 : decode cX9_tried 61 = .ok (.iload 5, 2) := dk_21 5 (dk_at dksX9_tried_2 14 rfl rfl)
theorem dX9_tried_63 : decode cX9_tried 63 = .ok (.aload_n 0, 1) := dk_42 (dk_at dksX9_tried_2 16 rfl rfl)
theorem dX9_tried_64 : decode cX9_tried 64 = .ok (.iload 7, 2) := dk_21 7 (dk_at dksX9_tried_2 17 rfl rfl)
theorem dX9_tried_66 : decode cX9_tried 66 = .ok (.iload 6, 2) := dk_21 6 (dk_at dksX9_tried_2 19 rfl rfl)
theorem dX9_tried_68 : decode cX9_tried 68 = .ok (.iload 4, 2) := dk_21 4 (dk_at dksX9_tried_2 21 rfl rfl)
theorem dX9_tried_70 : decode cX9_tried 70 = .ok (.ifCond .ne 7, 3) := dk_154 0 7 (dk_at dksX9_tried_3 0 rfl rfl)
theorem dX9_tried_73 : decode cX9_tried 73 = .ok (.iconst 1, 1) := dk_4 (dk_at dksX9_tried_3 3 rfl rfl)
theorem dX9_tried_74 : decode cX9_tried 74 = .ok (.goto 4, 3) := dk_167 0 4 (dk_at dksX9_tried_3 4 rfl rfl)
theorem dX9_tried_77 : decode cX9_tried 77 = .ok (.iconst 0, 1) := dk_3 (dk_at dksX9_tried_3 7 rfl rfl)
theorem dX9_tried_78 : decode cX9_tried 78 = .ok (.invokevirtual 253, 3) := dk_182 0 253 (dk_at dksX9_tried_3 8 rfl rfl)
theorem dX9_tried_81 : decode cX9_tried 81 = .ok (.iadd, 1) := dk_96 (dk_at dksX9_tried_3 11 rfl rfl)
theorem dX9_tried_82 : decode cX9_tried 82 = .ok (.istore 5, 2) := dk_54 5 (dk_at dksX9_tried_3 12 rfl rfl)
theorem dX9_tried_84 : decode cX9_tried 84 = .ok (.iinc 7 1, 3) := dk_132 7 1 (dk_at dksX9_tried_3 14 rfl rfl)
theorem dX9_tried_87 : decode cX9_tried 87 = .ok (.goto (-38), 3) := dk_167 255 218 (dk_at dksX9_tried_3 17 rfl rfl)
theorem dX9_tried_90 : decode cX9_tried 90 = .ok (.iinc 6 1, 3) := dk_132 6 1 (dk_at dksX9_tried_3 20 rfl rfl)
theorem dX9_tried_93 : decode cX9_tried 93 = .ok (.goto (-53), 3) := dk_167 255 203 (dk_at dksX9_tried_4 0 rfl rfl)
theorem dX9_tried_96 : decode cX9_tried 96 = .ok (.iload 5, 2) := dk_21 5 (dk_at dksX9_tried_4 3 rfl rfl)
theorem dX9_tried_98 : decode cX9_tried 98 = .ok (.ireturn, 1) := dk_172 (dk_at dksX9_tried_4 5 rfl rfl)
abbrev cX9_triedFrom : ByteArray := prog_28_method_54_code
def yX9_triedFrom : MethodName := ⟨RX9, "triedFrom", "(IIZ)I"⟩
def dkwX9_triedFrom_4 : List UInt8 := [54, 7, 132, 8, 1, 167, 255, 180, 21, 4, 172]
abbrev dktX9_triedFrom_4 : List UInt8 := dkwX9_triedFrom_4 ++ []
def dkwX9_triedFrom_3 : List UInt8 := [55, 5, 29, 153, 0, 16, 42, 27, 21, 8, 182, 0, 177, 22, 5, 148, 156, 0, 7, 4, 167, 0, 4, 3]
abbrev dktX9_triedFrom_3 : List UInt8 := dkwX9_triedFrom_3 ++ dktX9_triedFrom_4
def dkwX9_triedFrom_2 : List UInt8 := [27, 21, 8, 182, 0, 177, 42, 180, 0, 43, 28, 4, 100, 21, 8, 184, 0, 174, 47, 97, 184, 0, 181]
abbrev dktX9_triedFrom_2 : List UInt8 := dkwX9_triedFrom_2 ++ dktX9_triedFrom_3
def dkwX9_triedFrom_1 : List UInt8 := [21, 8, 42, 180, 0, 164, 28, 100, 4, 96, 163, 0, 69, 21, 7, 153, 0, 64, 132, 4, 1, 22, 5, 42]
abbrev dktX9_triedFrom_1 : List UInt8 := dkwX9_triedFrom_1 ++ dktX9_triedFrom_2
def dkwX9_triedFrom_0 : List UInt8 := [28, 4, 160, 0, 5, 4, 172, 3, 54, 4, 20, 0, 172, 55, 5, 4, 54, 7, 27, 4, 96, 54, 8]
abbrev dktX9_triedFrom_0 : List UInt8 := dkwX9_triedFrom_0 ++ dktX9_triedFrom_1
theorem dksX9_triedFrom_0 : cX9_triedFrom.data.toList.drop 0 = dktX9_triedFrom_0 := by decide +kernel
theorem dksX9_triedFrom_1 : cX9_triedFrom.data.toList.drop 23 = dktX9_triedFrom_1 := dk_seg dksX9_triedFrom_0 23 rfl rfl
theorem dksX9_triedFrom_2 : cX9_triedFrom.data.toList.drop 47 = dktX9_triedFrom_2 := dk_seg dksX9_triedFrom_1 24 rfl rfl
theorem dksX9_triedFrom_3 : cX9_triedFrom.data.toList.drop 70 = dktX9_triedFrom_3 := dk_seg dksX9_triedFrom_2 23 rfl rfl
theorem dksX9_triedFrom_4 : cX9_triedFrom.data.toList.drop 94 = dktX9_triedFrom_4 := dk_seg dksX9_triedFrom_3 24 rfl rfl
theorem dX9_triedFrom_0 : decode cX9_triedFrom 0 = .ok (.iload_n 2, 1) := dk_28 (dk_at dksX9_triedFrom_0 0 rfl rfl)
theorem dX9_triedFrom_1 : decode cX9_triedFrom 1 = .ok (.iconst 1, 1) := dk_4 (dk_at dksX9_triedFrom_0 1 rfl rfl)
theorem dX9_triedFrom_2 : decode cX9_triedFrom 2 = .ok (.if_icmp .ne 5, 3) := dk_160 0 5 (dk_at dksX9_triedFrom_0 2 rfl rfl)
theorem dX9_triedFrom_5 : decode cX9_triedFrom 5 = .ok (.iconst 1, 1) := dk_4 (dk_at dksX9_triedFrom_0 5 rfl rfl)
theorem dX9_triedFrom_6 : decode cX9_triedFrom 6 = .ok (.ireturn, 1) := dk_172 (dk_at dksX9_triedFrom_0 6 rfl rfl)
theorem dX9_triedFrom_7 : decode cX9_triedFrom 7 = .ok (.iconst 0, 1) := dk_3 (dk_at dksX9_triedFrom_0 7 rfl rfl)
theorem dX9_triedFrom_8 : decode cX9_triedFrom 8 = .ok (.istore 4, 2) := dk_54 4 (dk_at dksX9_triedFrom_0 8 rfl rfl)
theorem dX9_triedFrom_10 : decode cX9_triedFrom 10 = .ok (.ldc2_w 172, 3) := dk_20 0 172 (dk_at dksX9_triedFrom_0 10 rfl rfl)
theorem dX9_triedFrom_13 : decode cX9_triedFrom 13 = .ok (.lstore 5, 2) := dk_55 5 (dk_at dksX9_triedFrom_0 13 rfl rfl)
theorem dX9_triedFrom_15 : decode cX9_triedFrom 15 = .ok (.iconst 1, 1) := dk_4 (dk_at dksX9_triedFrom_0 15 rfl rfl)
theorem dX9_triedFrom_16 : decode cX9_triedFrom 16 = .ok (.istore 7, 2) := dk_54 7 (dk_at dksX9_triedFrom_0 16 rfl rfl)
theorem dX9_triedFrom_18 : decode cX9_triedFrom 18 = .ok (.iload_n 1, 1) := dk_27 (dk_at dksX9_triedFrom_0 18 rfl rfl)
theorem dX9_triedFrom_19 : decode cX9_triedFrom 19 = .ok (.iconst 1, 1) := dk_4 (dk_at dksX9_triedFrom_0 19 rfl rfl)
theorem dX9_triedFrom_20 : decode cX9_triedFrom 20 = .ok (.iadd, 1) := dk_96 (dk_at dksX9_triedFrom_0 20 rfl rfl)
theorem dX9_triedFrom_21 : decode cX9_triedFrom 21 = .ok (.istore 8, 2) := dk_54 8 (dk_at dksX9_triedFrom_0 21 rfl rfl)
theorem dX9_triedFrom_23 : decode cX9_triedFrom 23 = .ok (.iload 8, 2) := dk_21 8 (dk_at dksX9_triedFrom_1 0 rfl rfl)
theorem dX9_triedFrom_25 : decode cX9_triedFrom 25 = .ok (.aload_n 0, 1) := dk_42 (dk_at dksX9_triedFrom_1 2 rfl rfl)
theorem dX9_triedFrom_26 : decode cX9_triedFrom 26 = .ok (.getfield 164, 3) := dk_180 0 164 (dk_at dksX9_triedFrom_1 3 rfl rfl)
theorem dX9_triedFrom_29 : decode cX9_triedFrom 29 = .ok (.iload_n 2, 1) := dk_28 (dk_at dksX9_triedFrom_1 6 rfl rfl)
theorem dX9_triedFrom_30 : decode cX9_triedFrom 30 = .ok (.isub, 1) := dk_100 (dk_at dksX9_triedFrom_1 7 rfl rfl)
theorem dX9_triedFrom_31 : decode cX9_triedFrom 31 = .ok (.iconst 1, 1) := dk_4 (dk_at dksX9_triedFrom_1 8 rfl rfl)
theorem dX9_triedFrom_32 : decode cX9_triedFrom 32 = .ok (.iadd, 1) := dk_96 (dk_at dksX9_triedFrom_1 9 rfl rfl)
theorem dX9_triedFrom_33 : decode cX9_triedFrom 33 = .ok (.if_icmp .gt 69, 3) := dk_163 0 69 (dk_at dksX9_triedFrom_1 10 rfl rfl)
theorem dX9_triedFrom_36 : decode cX9_triedFrom 36 = .ok (.iload 7, 2) := dk_21 7 (dk_at dksX9_triedFrom_1 13 rfl rfl)
theorem dX9_triedFrom_38 : decode cX9_triedFrom 38 = .ok (.ifCond .eq 64, 3) := dk_153 0 64 (dk_at dksX9_triedFrom_1 15 rfl rfl)
theorem dX9_triedFrom_41 : decode cX9_triedFrom 41 = .ok (.iinc 4 1, 3) := dk_132 4 1 (dk_at dksX9_triedFrom_1 18 rfl rfl)
theorem dX9_triedFrom_44 : decode cX9_triedFrom 44 = .ok (.lload 5, 2) := dk_22 5 (dk_at dksX9_triedFrom_1 21 rfl rfl)
theorem dX9_triedFrom_46 : decode cX9_triedFrom 46 = .ok (.aload_n 0, 1) := dk_42 (dk_at dksX9_triedFrom_1 23 rfl rfl)
theorem dX9_triedFrom_47 : decode cX9_triedFrom 47 = .ok (.iload_n 1, 1) := dk_27 (dk_at dksX9_triedFrom_2 0 rfl rfl)
theorem dX9_triedFrom_48 : decode cX9_triedFrom 48 = .ok (.iload 8, 2) := dk_21 8 (dk_at dksX9_triedFrom_2 1 rfl rfl)
theorem dX9_triedFrom_50 : decode cX9_triedFrom 50 = .ok (.invokevirtual 177, 3) := dk_182 0 177 (dk_at dksX9_triedFrom_2 3 rfl rfl)
theorem dX9_triedFrom_53 : decode cX9_triedFrom 53 = .ok (.aload_n 0, 1) := dk_42 (dk_at dksX9_triedFrom_2 6 rfl rfl)
theorem dX9_triedFrom_54 : decode cX9_triedFrom 54 = .ok (.getfield 43, 3) := dk_180 0 43 (dk_at dksX9_triedFrom_2 7 rfl rfl)
theorem dX9_triedFrom_57 : decode cX9_triedFrom 57 = .ok (.iload_n 2, 1) := dk_28 (dk_at dksX9_triedFrom_2 10 rfl rfl)
theorem dX9_triedFrom_58 : decode cX9_triedFrom 58 = .ok (.iconst 1, 1) := dk_4 (dk_at dksX9_triedFrom_2 11 rfl rfl)
theorem dX9_triedFrom_59 : decode cX9_triedFrom 59 = .ok (.isub, 1) := dk_100 (dk_at dksX9_triedFrom_2 12 rfl rfl)
theorem dX9_triedFrom_60 : decode cX9_triedFrom 60 = .ok (.iload 8, 2) := dk_21 8 (dk_at dksX9_triedFrom_2 13 rfl rfl)
theorem dX9_triedFrom_62 : decode cX9_triedFrom 62 = .ok (.invokestatic 174, 3) := dk_184 0 174 (dk_at dksX9_triedFrom_2 15 rfl rfl)
theorem dX9_triedFrom_65 : decode cX9_triedFrom 65 = .ok (.laload, 1) := dk_47 (dk_at dksX9_triedFrom_2 18 rfl rfl)
theorem dX9_triedFrom_66 : decode cX9_triedFrom 66 = .ok (.ladd, 1) := dk_97 (dk_at dksX9_triedFrom_2 19 rfl rfl)
theorem dX9_triedFrom_67 : decode cX9_triedFrom 67 = .ok (.invokestatic 181, 3) := dk_184 0 181 (dk_at dksX9_triedFrom_2 20 rfl rfl)
theorem dX9_triedFrom_70 : decode cX9_triedFrom 70 = .ok (.lstore 5, 2) := dk_55 5 (dk_at dksX9_triedFrom_3 0 rfl rfl)
theorem dX9_triedFrom_72 : decode cX9_triedFrom 72 = .ok (.iload_n 3, 1) := dk_29 (dk_at dksX9_triedFrom_3 2 rfl rfl)
theorem dX9_triedFrom_73 : decode cX9_triedFrom 73 = .ok (.ifCond .eq 16, 3) := dk_153 0 16 (dk_at dksX9_triedFrom_3 3 rfl rfl)
theorem dX9_triedFrom_76 : decode cX9_triedFrom 76 = .ok (.aload_n 0, 1) := dk_42 (dk_at dksX9_triedFrom_3 6 rfl rfl)
theorem dX9_triedFrom_77 : decode cX9_triedFrom 77 = .ok (.iload_n 1, 1) := dk_27 (dk_at dksX9_triedFrom_3 7 rfl rfl)
theorem dX9_triedFrom_78 : decode cX9_triedFrom 78 = .ok (.iload 8, 2) := dk_21 8 (dk_at dksX9_triedFrom_3 8 rfl rfl)
theorem dX9_triedFrom_80 : decode cX9_triedFrom 80 = .ok (.invokevirtual 177, 3) := dk_182 0 177 (dk_at dksX9_triedFrom_3 10 rfl rfl)
theorem dX9_triedFrom_83 : decode cX9_triedFrom 83 = .ok (.lload 5, 2) := dk_22 5 (dk_at dksX9_triedFrom_3 13 rfl rfl)
theorem dX9_triedFrom_85 : decode cX9_triedFrom 85 = .ok (.lcmp, 1) := dk_148 (dk_at dksX9_triedFrom_3 15 rfl rfl)
theorem dX9_triedFrom_86 : decode cX9_triedFrom 86 = .ok (.ifCond .ge 7, 3) := dk_156 0 7 (dk_at dksX9_triedFrom_3 16 rfl rfl)
theorem dX9_triedFrom_89 : decode cX9_triedFrom 89 = .ok (.iconst 1, 1) := dk_4 (dk_at dksX9_triedFrom_3 19 rfl rfl)
theorem dX9_triedFrom_90 : decode cX9_triedFrom 90 = .ok (.goto 4, 3) := dk_167 0 4 (dk_at dksX9_triedFrom_3 20 rfl rfl)
theorem dX9_triedFrom_93 : decode cX9_triedFrom 93 = .ok (.iconst 0, 1) := dk_3 (dk_at dksX9_triedFrom_3 23 rfl rfl)
theorem dX9_triedFrom_94 : decode cX9_triedFrom 94 = .ok (.istore 7, 2) := dk_54 7 (dk_at dksX9_triedFrom_4 0 rfl rfl)
theorem dX9_triedFrom_96 : decode cX9_triedFrom 96 = .ok (.iinc 8 1, 3) := dk_132 8 1 (dk_at dksX9_triedFrom_4 2 rfl rfl)
theorem dX9_triedFrom_99 : decode cX9_triedFrom 99 = .ok (.goto (-76), 3) := dk_167 255 180 (dk_at dksX9_triedFrom_4 5 rfl rfl)
theorem dX9_triedFrom_102 : decode cX9_triedFrom 102 = .ok (.iload 4, 2) := dk_21 4 (dk_at dksX9_triedFrom_4 8 rfl rfl)
theorem dX9_triedFrom_104 : decode cX9_triedFrom 104 = .ok (.ireturn, 1) := dk_172 (dk_at dksX9_triedFrom_4 10 rfl rfl)
abbrev cX9_fewest : ByteArray := prog_28_method_56_code
def yX9_fewest : MethodName := ⟨RX9, "fewest", "(IIJ)I"⟩
def dkwX9_fewest_2 : List UInt8 := [158, 0, 9, 132, 5, 1, 167, 255, 237, 21, 5, 172]
abbrev dktX9_fewest_2 : List UInt8 := dkwX9_fewest_2 ++ []
def dkwX9_fewest_1 : List UInt8 := [42, 180, 0, 164, 182, 0, 187, 4, 54, 5, 42, 180, 0, 43, 21, 5, 3, 184, 0, 174, 47, 33, 148]
abbrev dktX9_fewest_1 : List UInt8 := dkwX9_fewest_1 ++ dktX9_fewest_2
def dkwX9_fewest_0 : List UInt8 := [42, 27, 28, 182, 0, 235, 153, 0, 9, 33, 9, 148, 156, 0, 5, 2, 172, 42, 27, 28, 182, 0, 191, 42]
abbrev dktX9_fewest_0 : List UInt8 := dkwX9_fewest_0 ++ dktX9_fewest_1
theorem dksX9_fewest_0 : cX9_fewest.data.toList.drop 0 = dktX9_fewest_0 := by decide +kernel
theorem dksX9_fewest_1 : cX9_fewest.data.toList.drop 24 = dktX9_fewest_1 := dk_seg dksX9_fewest_0 24 rfl rfl
theorem dksX9_fewest_2 : cX9_fewest.data.toList.drop 47 = dktX9_fewest_2 := dk_seg dksX9_fewest_1 23 rfl rfl
theorem dX9_fewest_0 : decode cX9_fewest 0 = .ok (.aload_n 0, 1) := dk_42 (dk_at dksX9_fewest_0 0 rfl rfl)
theorem dX9_fewest_1 : decode cX9_fewest 1 = .ok (.iload_n 1, 1) := dk_27 (dk_at dksX9_fewest_0 1 rfl rfl)
theorem dX9_fewest_2 : decode cX9_fewest 2 = .ok (.iload_n 2, 1) := dk_28 (dk_at dksX9_fewest_0 2 rfl rfl)
theorem dX9_fewest_3 : decode cX9_fewest 3 = .ok (.invokevirtual 235, 3) := dk_182 0 235 (dk_at dksX9_fewest_0 3 rfl rfl)
theorem dX9_fewest_6 : decode cX9_fewest 6 = .ok (.ifCond .eq 9, 3) := dk_153 0 9 (dk_at dksX9_fewest_0 6 rfl rfl)
theorem dX9_fewest_9 : decode cX9_fewest 9 = .ok (.lload_n 3, 1) := dk_33 (dk_at dksX9_fewest_0 9 rfl rfl)
theorem dX9_fewest_10 : decode cX9_fewest 10 = .ok (.lconst 0, 1) := dk_9 (dk_at dksX9_fewest_0 10 rfl rfl)
theorem dX9_fewest_11 : decode cX9_fewest 11 = .ok (.lcmp, 1) := dk_148 (dk_at dksX9_fewest_0 11 rfl rfl)
theorem dX9_fewest_12 : decode cX9_fewest 12 = .ok (.ifCond .ge 5, 3) := dk_156 0 5 (dk_at dksX9_fewest_0 12 rfl rfl)
theorem dX9_fewest_15 : decode cX9_fewest 15 = .ok (.iconst (-1), 1) := dk_2 (dk_at dksX9_fewest_0 15 rfl rfl)
theorem dX9_fewest_16 : decode cX9_fewest 16 = .ok (.ireturn, 1) := dk_172 (dk_at dksX9_fewest_0 16 rfl rfl)
theorem dX9_fewest_17 : decode cX9_fewest 17 = .ok (.aload_n 0, 1) := dk_42 (dk_at dksX9_fewest_0 17 rfl rfl)
theorem dX9_fewest_18 : decode cX9_fewest 18 = .ok (.iload_n 1, 1) := dk_27 (dk_at dksX9_fewest_0 18 rfl rfl)
theorem dX9_fewest_19 : decode cX9_fewest 19 = .ok (.iload_n 2, 1) := dk_28 (dk_at dksX9_fewest_0 19 rfl rfl)
theorem dX9_fewest_20 : decode cX9_fewest 20 = .ok (.invokevirtual 191, 3) := dk_182 0 191 (dk_at dksX9_fewest_0 20 rfl rfl)
theorem dX9_fewest_23 : decode cX9_fewest 23 = .ok (.aload_n 0, 1) := dk_42 (dk_at dksX9_fewest_0 23 rfl rfl)
theorem dX9_fewest_24 : decode cX9_fewest 24 = .ok (.aload_n 0, 1) := dk_42 (dk_at dksX9_fewest_1 0 rfl rfl)
theorem dX9_fewest_25 : decode cX9_fewest 25 = .ok (.getfield 164, 3) := dk_180 0 164 (dk_at dksX9_fewest_1 1 rfl rfl)
theorem dX9_fewest_28 : decode cX9_fewest 28 = .ok (.invokevirtual 187, 3) := dk_182 0 187 (dk_at dksX9_fewest_1 4 rfl rfl)
theorem dX9_fewest_31 : decode cX9_fewest 31 = .ok (.iconst 1, 1) := dk_4 (dk_at dksX9_fewest_1 7 rfl rfl)
theorem dX9_fewest_32 : decode cX9_fewest 32 = .ok (.istore 5, 2) := dk_54 5 (dk_at dksX9_fewest_1 8 rfl rfl)
theorem dX9_fewest_34 : decode cX9_fewest 34 = .ok (.aload_n 0, 1) := dk_42 (dk_at dksX9_fewest_1 10 rfl rfl)
theorem dX9_fewest_35 : decode cX9_fewest 35 = .ok (.getfield 43, 3) := dk_180 0 43 (dk_at dksX9_fewest_1 11 rfl rfl)
theorem dX9_fewest_38 : decode cX9_fewest 38 = .ok (.iload 5, 2) := dk_21 5 (dk_at dksX9_fewest_1 14 rfl rfl)
theorem dX9_fewest_40 : decode cX9_fewest 40 = .ok (.iconst 0, 1) := dk_3 (dk_at dksX9_fewest_1 16 rfl rfl)
theorem dX9_fewest_41 : decode cX9_fewest 41 = .ok (.invokestatic 174, 3) := dk_184 0 174 (dk_at dksX9_fewest_1 17 rfl rfl)
theorem dX9_fewest_44 : decode cX9_fewest 44 = .ok (.laload, 1) := dk_47 (dk_at dksX9_fewest_1 20 rfl rfl)
theorem dX9_fewest_45 : decode cX9_fewest 45 = .ok (.lload_n 3, 1) := dk_33 (dk_at dksX9_fewest_1 21 rfl rfl)
theorem dX9_fewest_46 : decode cX9_fewest 46 = .ok (.lcmp, 1) := dk_148 (dk_at dksX9_fewest_1 22 rfl rfl)
theorem dX9_fewest_47 : decode cX9_fewest 47 = .ok (.ifCond .le 9, 3) := dk_158 0 9 (dk_at dksX9_fewest_2 0 rfl rfl)
theorem dX9_fewest_50 : decode cX9_fewest 50 = .ok (.iinc 5 1, 3) := dk_132 5 1 (dk_at dksX9_fewest_2 3 rfl rfl)
theorem dX9_fewest_53 : decode cX9_fewest 53 = .ok (.goto (-19), 3) := dk_167 255 237 (dk_at dksX9_fewest_2 6 rfl rfl)
theorem dX9_fewest_56 : decode cX9_fewest 56 = .ok (.iload 5, 2) := dk_21 5 (dk_at dksX9_fewest_2 9 rfl rfl)
theorem dX9_fewest_58 : decode cX9_fewest 58 = .ok (.ireturn, 1) := dk_172 (dk_at dksX9_fewest_2 11 rfl rfl)
abbrev cX9_add : ByteArray := prog_28_method_66_code
def yX9_add : MethodName := ⟨RX9, "add", "(IIII)I"⟩
def dkwX9_add_1 : List UInt8 := [28, 29, 21, 4, 182, 1, 23, 42, 27, 182, 0, 161, 172]
abbrev dktX9_add_1 : List UInt8 := dkwX9_add_1 ++ []
def dkwX9_add_0 : List UInt8 := [42, 42, 27, 28, 29, 21, 4, 182, 1, 16, 3, 27, 21, 4, 182, 1, 19, 153, 0, 5, 2, 172, 42, 27]
abbrev dktX9_add_0 : List UInt8 := dkwX9_add_0 ++ dktX9_add_1
theorem dksX9_add_0 : cX9_add.data.toList.drop 0 = dktX9_add_0 := by decide +kernel
theorem dksX9_add_1 : cX9_add.data.toList.drop 24 = dktX9_add_1 := dk_seg dksX9_add_0 24 rfl rfl
theorem dX9_add_0 : decode cX9_add 0 = .ok (.aload_n 0, 1) := dk_42 (dk_at dksX9_add_0 0 rfl rfl)
theorem dX9_add_1 : decode cX9_add 1 = .ok (.aload_n 0, 1) := dk_42 (dk_at dksX9_add_0 1 rfl rfl)
theorem dX9_add_2 : decode cX9_add 2 = .ok (.iload_n 1, 1) := dk_27 (dk_at dksX9_add_0 2 rfl rfl)
theorem dX9_add_3 : decode cX9_add 3 = .ok (.iload_n 2, 1) := dk_28 (dk_at dksX9_add_0 3 rfl rfl)
theorem dX9_add_4 : decode cX9_add 4 = .ok (.iload_n 3, 1) := dk_29 (dk_at dksX9_add_0 4 rfl rfl)
theorem dX9_add_5 : decode cX9_add 5 = .ok (.iload 4, 2) := dk_21 4 (dk_at dksX9_add_0 5 rfl rfl)
theorem dX9_add_7 : decode cX9_add 7 = .ok (.invokevirtual 272, 3) := dk_182 1 16 (dk_at dksX9_add_0 7 rfl rfl)
theorem dX9_add_10 : decode cX9_add 10 = .ok (.iconst 0, 1) := dk_3 (dk_at dksX9_add_0 10 rfl rfl)
theorem dX9_add_11 : decode cX9_add 11 = .ok (.iload_n 1, 1) := dk_27 (dk_at dksX9_add_0 11 rfl rfl)
theorem dX9_add_12 : decode cX9_add 12 = .ok (.iload 4, 2) := dk_21 4 (dk_at dksX9_add_0 12 rfl rfl)
theorem dX9_add_14 : decode cX9_add 14 = .ok (.invokevirtual 275, 3) := dk_182 1 19 (dk_at dksX9_add_0 14 rfl rfl)
theorem dX9_add_17 : decode cX9_add 17 = .ok (.ifCond .eq 5, 3) := dk_153 0 5 (dk_at dksX9_add_0 17 rfl rfl)
theorem dX9_add_20 : decode cX9_add 20 = .ok (.iconst (-1), 1) := dk_2 (dk_at dksX9_add_0 20 rfl rfl)
theorem dX9_add_21 : decode cX9_add 21 = .ok (.ireturn, 1) := dk_172 (dk_at dksX9_add_0 21 rfl rfl)
theorem dX9_add_22 : decode cX9_add 22 = .ok (.aload_n 0, 1) := dk_42 (dk_at dksX9_add_0 22 rfl rfl)
theorem dX9_add_23 : decode cX9_add 23 = .ok (.iload_n 1, 1) := dk_27 (dk_at dksX9_add_0 23 rfl rfl)
theorem dX9_add_24 : decode cX9_add 24 = .ok (.iload_n 2, 1) := dk_28 (dk_at dksX9_add_1 0 rfl rfl)
theorem dX9_add_25 : decode cX9_add 25 = .ok (.iload_n 3, 1) := dk_29 (dk_at dksX9_add_1 1 rfl rfl)
theorem dX9_add_26 : decode cX9_add 26 = .ok (.iload 4, 2) := dk_21 4 (dk_at dksX9_add_1 2 rfl rfl)
theorem dX9_add_28 : decode cX9_add 28 = .ok (.invokevirtual 279, 3) := dk_182 1 23 (dk_at dksX9_add_1 4 rfl rfl)
theorem dX9_add_31 : decode cX9_add 31 = .ok (.aload_n 0, 1) := dk_42 (dk_at dksX9_add_1 7 rfl rfl)
theorem dX9_add_32 : decode cX9_add 32 = .ok (.iload_n 1, 1) := dk_27 (dk_at dksX9_add_1 8 rfl rfl)
theorem dX9_add_33 : decode cX9_add 33 = .ok (.invokevirtual 161, 3) := dk_182 0 161 (dk_at dksX9_add_1 9 rfl rfl)
theorem dX9_add_36 : decode cX9_add 36 = .ok (.ireturn, 1) := dk_172 (dk_at dksX9_add_1 12 rfl rfl)
abbrev cX9_whyAdd : ByteArray := prog_28_method_63_code
def yX9_whyAdd : MethodName := ⟨RX9, "whyAdd", "(IIII)I"⟩
def dkwX9_whyAdd_2 : List UInt8 := [167, 0, 4, 2, 172]
abbrev dktX9_whyAdd_2 : List UInt8 := dkwX9_whyAdd_2 ++ []
def dkwX9_whyAdd_1 : List UInt8 := [154, 0, 7, 4, 167, 0, 22, 42, 27, 182, 0, 161, 21, 4, 96, 17, 3, 231, 164, 0, 7, 6]
abbrev dktX9_whyAdd_1 : List UInt8 := dkwX9_whyAdd_1 ++ dktX9_whyAdd_2
def dkwX9_whyAdd_0 : List UInt8 := [42, 27, 28, 29, 182, 1, 11, 154, 0, 7, 3, 167, 0, 39, 21, 4, 133, 10, 20, 1, 14, 184, 0, 77]
abbrev dktX9_whyAdd_0 : List UInt8 := dkwX9_whyAdd_0 ++ dktX9_whyAdd_1
theorem dksX9_whyAdd_0 : cX9_whyAdd.data.toList.drop 0 = dktX9_whyAdd_0 := by decide +kernel
theorem dksX9_whyAdd_1 : cX9_whyAdd.data.toList.drop 24 = dktX9_whyAdd_1 := dk_seg dksX9_whyAdd_0 24 rfl rfl
theorem dksX9_whyAdd_2 : cX9_whyAdd.data.toList.drop 46 = dktX9_whyAdd_2 := dk_seg dksX9_whyAdd_1 22 rfl rfl
theorem dX9_whyAdd_0 : decode cX9_whyAdd 0 = .ok (.aload_n 0, 1) := dk_42 (dk_at dksX9_whyAdd_0 0 rfl rfl)
theorem dX9_whyAdd_1 : decode cX9_whyAdd 1 = .ok (.iload_n 1, 1) := dk_27 (dk_at dksX9_whyAdd_0 1 rfl rfl)
theorem dX9_whyAdd_2 : decode cX9_whyAdd 2 = .ok (.iload_n 2, 1) := dk_28 (dk_at dksX9_whyAdd_0 2 rfl rfl)
theorem dX9_whyAdd_3 : decode cX9_whyAdd 3 = .ok (.iload_n 3, 1) := dk_29 (dk_at dksX9_whyAdd_0 3 rfl rfl)
theorem dX9_whyAdd_4 : decode cX9_whyAdd 4 = .ok (.invokevirtual 267, 3) := dk_182 1 11 (dk_at dksX9_whyAdd_0 4 rfl rfl)
theorem dX9_whyAdd_7 : decode cX9_whyAdd 7 = .ok (.ifCond .ne 7, 3) := dk_154 0 7 (dk_at dksX9_whyAdd_0 7 rfl rfl)
theorem dX9_whyAdd_10 : decode cX9_whyAdd 10 = .ok (.iconst 0, 1) := dk_3 (dk_at dksX9_whyAdd_0 10 rfl rfl)
theorem dX9_whyAdd_11 : decode cX9_whyAdd 11 = .ok (.goto 39, 3) := dk_167 0 39 (dk_at dksX9_whyAdd_0 11 rfl rfl)
theorem dX9_whyAdd_14 : decode cX9_whyAdd 14 = .ok (.iload 4, 2) := dk_21 4 (dk_at dksX9_whyAdd_0 14 rfl rfl)
theorem dX9_whyAdd_16 : decode cX9_whyAdd 16 = .ok (.i2l, 1) := dk_133 (dk_at dksX9_whyAdd_0 16 rfl rfl)
theorem dX9_whyAdd_17 : decode cX9_whyAdd 17 = .ok (.lconst 1, 1) := dk_10 (dk_at dksX9_whyAdd_0 17 rfl rfl)
theorem dX9_whyAdd_18 : decode cX9_whyAdd 18 = .ok (.ldc2_w 270, 3) := dk_20 1 14 (dk_at dksX9_whyAdd_0 18 rfl rfl)
theorem dX9_whyAdd_21 : decode cX9_whyAdd 21 = .ok (.invokestatic 77, 3) := dk_184 0 77 (dk_at dksX9_whyAdd_0 21 rfl rfl)
theorem dX9_whyAdd_24 : decode cX9_whyAdd 24 = .ok (.ifCond .ne 7, 3) := dk_154 0 7 (dk_at dksX9_whyAdd_1 0 rfl rfl)
theorem dX9_whyAdd_27 : decode cX9_whyAdd 27 = .ok (.iconst 1, 1) := dk_4 (dk_at dksX9_whyAdd_1 3 rfl rfl)
theorem dX9_whyAdd_28 : decode cX9_whyAdd 28 = .ok (.goto 22, 3) := dk_167 0 22 (dk_at dksX9_whyAdd_1 4 rfl rfl)
theorem dX9_whyAdd_31 : decode cX9_whyAdd 31 = .ok (.aload_n 0, 1) := dk_42 (dk_at dksX9_whyAdd_1 7 rfl rfl)
theorem dX9_whyAdd_32 : decode cX9_whyAdd 32 = .ok (.iload_n 1, 1) := dk_27 (dk_at dksX9_whyAdd_1 8 rfl rfl)
theorem dX9_whyAdd_33 : decode cX9_whyAdd 33 = .ok (.invokevirtual 161, 3) := dk_182 0 161 (dk_at dksX9_whyAdd_1 9 rfl rfl)
theorem dX9_whyAdd_36 : decode cX9_whyAdd 36 = .ok (.iload 4, 2) := dk_21 4 (dk_at dksX9_whyAdd_1 12 rfl rfl)
theorem dX9_whyAdd_38 : decode cX9_whyAdd 38 = .ok (.iadd, 1) := dk_96 (dk_at dksX9_whyAdd_1 14 rfl rfl)
theorem dX9_whyAdd_39 : decode cX9_whyAdd 39 = .ok (.sipush 999, 3) := dk_17 3 231 (dk_at dksX9_whyAdd_1 15 rfl rfl)
theorem dX9_whyAdd_42 : decode cX9_whyAdd 42 = .ok (.if_icmp .le 7, 3) := dk_164 0 7 (dk_at dksX9_whyAdd_1 18 rfl rfl)
theorem dX9_whyAdd_45 : decode cX9_whyAdd 45 = .ok (.iconst 3, 1) := dk_6 (dk_at dksX9_whyAdd_1 21 rfl rfl)
theorem dX9_whyAdd_46 : decode cX9_whyAdd 46 = .ok (.goto 4, 3) := dk_167 0 4 (dk_at dksX9_whyAdd_2 0 rfl rfl)
theorem dX9_whyAdd_49 : decode cX9_whyAdd 49 = .ok (.iconst (-1), 1) := dk_2 (dk_at dksX9_whyAdd_2 3 rfl rfl)
theorem dX9_whyAdd_50 : decode cX9_whyAdd 50 = .ok (.ireturn, 1) := dk_172 (dk_at dksX9_whyAdd_2 4 rfl rfl)
abbrev cX9_areThere : ByteArray := prog_28_method_62_code
def yX9_areThere : MethodName := ⟨RX9, "areThere", "(III)Z"⟩
def dkwX9_areThere_1 : List UInt8 := [153, 0, 7, 4, 167, 0, 4, 3, 172]
abbrev dktX9_areThere_1 : List UInt8 := dkwX9_areThere_1 ++ []
def dkwX9_areThere_0 : List UInt8 := [42, 27, 182, 0, 153, 153, 0, 25, 42, 27, 28, 182, 0, 232, 153, 0, 16, 42, 27, 29, 182, 0, 232]
abbrev dktX9_areThere_0 : List UInt8 := dkwX9_areThere_0 ++ dktX9_areThere_1
theorem dksX9_areThere_0 : cX9_areThere.data.toList.drop 0 = dktX9_areThere_0 := by decide +kernel
theorem dksX9_areThere_1 : cX9_areThere.data.toList.drop 23 = dktX9_areThere_1 := dk_seg dksX9_areThere_0 23 rfl rfl
theorem dX9_areThere_0 : decode cX9_areThere 0 = .ok (.aload_n 0, 1) := dk_42 (dk_at dksX9_areThere_0 0 rfl rfl)
theorem dX9_areThere_1 : decode cX9_areThere 1 = .ok (.iload_n 1, 1) := dk_27 (dk_at dksX9_areThere_0 1 rfl rfl)
theorem dX9_areThere_2 : decode cX9_areThere 2 = .ok (.invokevirtual 153, 3) := dk_182 0 153 (dk_at dksX9_areThere_0 2 rfl rfl)
theorem dX9_areThere_5 : decode cX9_areThere 5 = .ok (.ifCond .eq 25, 3) := dk_153 0 25 (dk_at dksX9_areThere_0 5 rfl rfl)
theorem dX9_areThere_8 : decode cX9_areThere 8 = .ok (.aload_n 0, 1) := dk_42 (dk_at dksX9_areThere_0 8 rfl rfl)
theorem dX9_areThere_9 : decode cX9_areThere 9 = .ok (.iload_n 1, 1) := dk_27 (dk_at dksX9_areThere_0 9 rfl rfl)
theorem dX9_areThere_10 : decode cX9_areThere 10 = .ok (.iload_n 2, 1) := dk_28 (dk_at dksX9_areThere_0 10 rfl rfl)
theorem dX9_areThere_11 : decode cX9_areThere 11 = .ok (.invokevirtual 232, 3) := dk_182 0 232 (dk_at dksX9_areThere_0 11 rfl rfl)
theorem dX9_areThere_14 : decode cX9_areThere 14 = .ok (.ifCond .eq 16, 3) := dk_153 0 16 (dk_at dksX9_areThere_0 14 rfl rfl)
theorem dX9_areThere_17 : decode cX9_areThere 17 = .ok (.aload_n 0, 1) := dk_42 (dk_at dksX9_areThere_0 17 rfl rfl)
theorem dX9_areThere_18 : decode cX9_areThere 18 = .ok (.iload_n 1, 1) := dk_27 (dk_at dksX9_areThere_0 18 rfl rfl)
theorem dX9_areThere_19 : decode cX9_areThere 19 = .ok (.iload_n 3, 1) := dk_29 (dk_at dksX9_areThere_0 19 rfl rfl)
theorem dX9_areThere_20 : decode cX9_areThere 20 = .ok (.invokevirtual 232, 3) := dk_182 0 232 (dk_at dksX9_areThere_0 20 rfl rfl)
theorem dX9_areThere_23 : decode cX9_areThere 23 = .ok (.ifCond .eq 7, 3) := dk_153 0 7 (dk_at dksX9_areThere_1 0 rfl rfl)
theorem dX9_areThere_26 : decode cX9_areThere 26 = .ok (.iconst 1, 1) := dk_4 (dk_at dksX9_areThere_1 3 rfl rfl)
theorem dX9_areThere_27 : decode cX9_areThere 27 = .ok (.goto 4, 3) := dk_167 0 4 (dk_at dksX9_areThere_1 4 rfl rfl)
theorem dX9_areThere_30 : decode cX9_areThere 30 = .ok (.iconst 0, 1) := dk_3 (dk_at dksX9_areThere_1 7 rfl rfl)
theorem dX9_areThere_31 : decode cX9_areThere 31 = .ok (.ireturn, 1) := dk_172 (dk_at dksX9_areThere_1 8 rfl rfl)
abbrev cX9_isRefused : ByteArray := prog_28_method_58_code
def yX9_isRefused : MethodName := ⟨RX9, "isRefused", "(IIII)Z"⟩
def dkwX9_isRefused_6 : List UInt8 := [92, 46, 4, 96, 79, 3, 172]
abbrev dktX9_isRefused_6 : List UInt8 := dkwX9_isRefused_6 ++ []
def dkwX9_isRefused_5 : List UInt8 := [21, 5, 4, 96, 29, 79, 42, 180, 0, 34, 21, 5, 5, 96, 21, 4, 79, 42, 180, 0, 34, 17, 4, 48]
abbrev dktX9_isRefused_5 : List UInt8 := dkwX9_isRefused_5 ++ dktX9_isRefused_6
def dkwX9_isRefused_4 : List UInt8 := [180, 0, 34, 17, 4, 48, 46, 104, 96, 54, 5, 42, 180, 0, 34, 21, 5, 28, 79, 42, 180, 0, 34]
abbrev dktX9_isRefused_4 : List UInt8 := dkwX9_isRefused_4 ++ dktX9_isRefused_5
def dkwX9_isRefused_3 : List UInt8 := [132, 5, 1, 167, 255, 221, 42, 180, 0, 34, 17, 4, 48, 92, 46, 4, 100, 79, 17, 4, 49, 6, 42]
abbrev dktX9_isRefused_3 : List UInt8 := dkwX9_isRefused_3 ++ dktX9_isRefused_4
def dkwX9_isRefused_2 : List UInt8 := [180, 0, 34, 17, 4, 49, 21, 5, 96, 6, 100, 42, 180, 0, 34, 17, 4, 49, 21, 5, 96, 46, 79]
abbrev dktX9_isRefused_2 : List UInt8 := dkwX9_isRefused_2 ++ dktX9_isRefused_3
def dkwX9_isRefused_1 : List UInt8 := [180, 0, 34, 17, 4, 48, 46, 16, 60, 160, 0, 56, 6, 54, 5, 21, 5, 17, 0, 180, 162, 0, 33, 42]
abbrev dktX9_isRefused_1 : List UInt8 := dkwX9_isRefused_1 ++ dktX9_isRefused_2
def dkwX9_isRefused_0 : List UInt8 := [27, 2, 159, 0, 15, 42, 180, 0, 37, 27, 92, 46, 4, 96, 79, 4, 172, 42, 182, 1, 1, 42]
abbrev dktX9_isRefused_0 : List UInt8 := dkwX9_isRefused_0 ++ dktX9_isRefused_1
theorem dksX9_isRefused_0 : cX9_isRefused.data.toList.drop 0 = dktX9_isRefused_0 := by decide +kernel
theorem dksX9_isRefused_1 : cX9_isRefused.data.toList.drop 22 = dktX9_isRefused_1 := dk_seg dksX9_isRefused_0 22 rfl rfl
theorem dksX9_isRefused_2 : cX9_isRefused.data.toList.drop 46 = dktX9_isRefused_2 := dk_seg dksX9_isRefused_1 24 rfl rfl
theorem dksX9_isRefused_3 : cX9_isRefused.data.toList.drop 69 = dktX9_isRefused_3 := dk_seg dksX9_isRefused_2 23 rfl rfl
theorem dksX9_isRefused_4 : cX9_isRefused.data.toList.drop 92 = dktX9_isRefused_4 := dk_seg dksX9_isRefused_3 23 rfl rfl
theorem dksX9_isRefused_5 : cX9_isRefused.data.toList.drop 115 = dktX9_isRefused_5 := dk_seg dksX9_isRefused_4 23 rfl rfl
theorem dksX9_isRefused_6 : cX9_isRefused.data.toList.drop 139 = dktX9_isRefused_6 := dk_seg dksX9_isRefused_5 24 rfl rfl
theorem dX9_isRefused_0 : decode cX9_isRefused 0 = .ok (.iload_n 1, 1) := dk_27 (dk_at dksX9_isRefused_0 0 rfl rfl)
theorem dX9_isRefused_1 : decode cX9_isRefused 1 = .ok (.iconst (-1), 1) := dk_2 (dk_at dksX9_isRefused_0 1 rfl rfl)
theorem dX9_isRefused_2 : decode cX9_isRefused 2 = .ok (.if_icmp .eq 15, 3) := dk_159 0 15 (dk_at dksX9_isRefused_0 2 rfl rfl)
theorem dX9_isRefused_5 : decode cX9_isRefused 5 = .ok (.aload_n 0, 1) := dk_42 (dk_at dksX9_isRefused_0 5 rfl rfl)
theorem dX9_isRefused_6 : decode cX9_isRefused 6 = .ok (.getfield 37, 3) := dk_180 0 37 (dk_at dksX9_isRefused_0 6 rfl rfl)
theorem dX9_isRefused_9 : decode cX9_isRefused 9 = .ok (.iload_n 1, 1) := dk_27 (dk_at dksX9_isRefused_0 9 rfl rfl)
theorem dX9_isRefused_10 : decode cX9_isRefused 10 = .ok (.dup2, 1) := dk_92 (dk_at dksX9_isRefused_0 10 rfl rfl)
theorem dX9_isRefused_11 : decode cX9_isRefused 11 = .ok (.iaload, 1) := dk_46 (dk_at dksX9_isRefused_0 11 rfl rfl)
theorem dX9_isRefused_12 : decode cX9_isRefused 12 = .ok (.iconst 1, 1) := dk_4 (dk_at dksX9_isRefused_0 12 rfl rfl)
theorem dX9_isRefused_13 : decode cX9_isRefused 13 = .ok (.iadd, 1) := dk_96 (dk_at dksX9_isRefused_0 13 rfl rfl)
theorem dX9_isRefused_14 : decode cX9_isRefused 14 = .ok (.iastore, 1) := dk_79 (dk_at dksX9_isRefused_0 14 rfl rfl)
theorem dX9_isRefused_15 : decode cX9_isRefused 15 = .ok (.iconst 1, 1) := dk_4 (dk_at dksX9_isRefused_0 15 rfl rfl)
theorem dX9_isRefused_16 : decode cX9_isRefused 16 = .ok (.ireturn, 1) := dk_172 (dk_at dksX9_isRefused_0 16 rfl rfl)
theorem dX9_isRefused_17 : decode cX9_isRefused 17 = .ok (.aload_n 0, 1) := dk_42 (dk_at dksX9_isRefused_0 17 rfl rfl)
theorem dX9_isRefused_18 : decode cX9_isRefused 18 = .ok (.invokevirtual 257, 3) := dk_182 1 1 (dk_at dksX9_isRefused_0 18 rfl rfl)
theorem dX9_isRefused_21 : decode cX9_isRefused 21 = .ok (.aload_n 0, 1) := dk_42 (dk_at dksX9_isRefused_0 21 rfl rfl)
theorem dX9_isRefused_22 : decode cX9_isRefused 22 = .ok (.getfield 34, 3) := dk_180 0 34 (dk_at dksX9_isRefused_1 0 rfl rfl)
theorem dX9_isRefused_25 : decode cX9_isRefused 25 = .ok (.sipush 1072, 3) := dk_17 4 48 (dk_at dksX9_isRefused_1 3 rfl rfl)
theorem dX9_isRefused_28 : decode cX9_isRefused 28 = .ok (.iaload, 1) := dk_46 (dk_at dksX9_isRefused_1 6 rfl rfl)
theorem dX9_isRefused_29 : decode cX9_isRefused 29 = .ok (.bipush 60, 2) := dk_16 60 (dk_at dksX9_isRefused_1 7 rfl rfl)
theorem dX9_isRefused_31 : decode cX9_isRefused 31 = .ok (.if_icmp .ne 56, 3) := dk_160 0 56 (dk_at dksX9_isRefused_1 9 rfl rfl)
theorem dX9_isRefused_34 : decode cX9_isRefused 34 = .ok (.iconst 3, 1) := dk_6 (dk_at dksX9_isRefused_1 12 rfl rfl)
theorem dX9_isRefused_35 : decode cX9_isRefused 35 = .ok (.istore 5, 2) := dk_54 5 (dk_at dksX9_isRefused_1 13 rfl rfl)
theorem dX9_isRefused_37 : decode cX9_isRefused 37 = .ok (.iload 5, 2) := dk_21 5 (dk_at dksX9_isRefused_1 15 rfl rfl)
theorem dX9_isRefused_39 : decode cX9_isRefused 39 = .ok (.sipush 180, 3) := dk_17 0 180 (dk_at dksX9_isRefused_1 17 rfl rfl)
theorem dX9_isRefused_42 : decode cX9_isRefused 42 = .ok (.if_icmp .ge 33, 3) := dk_162 0 33 (dk_at dksX9_isRefused_1 20 rfl rfl)
theorem dX9_isRefused_45 : decode cX9_isRefused 45 = .ok (.aload_n 0, 1) := dk_42 (dk_at dksX9_isRefused_1 23 rfl rfl)
theorem dX9_isRefused_46 : decode cX9_isRefused 46 = .ok (.getfield 34, 3) := dk_180 0 34 (dk_at dksX9_isRefused_2 0 rfl rfl)
theorem dX9_isRefused_49 : decode cX9_isRefused 49 = .ok (.sipush 1073, 3) := dk_17 4 49 (dk_at dksX9_isRefused_2 3 rfl rfl)
theorem dX9_isRefused_52 : decode cX9_isRefused 52 = .ok (.iload 5, 2) := dk_21 5 (dk_at dksX9_isRefused_2 6 rfl rfl)
theorem dX9_isRefused_54 : decode cX9_isRefused 54 = .ok (.iadd, 1) := dk_96 (dk_at dksX9_isRefused_2 8 rfl rfl)
theorem dX9_isRefused_55 : decode cX9_isRefused 55 = .ok (.iconst 3, 1) := dk_6 (dk_at dksX9_isRefused_2 9 rfl rfl)
theorem dX9_isRefused_56 : decode cX9_isRefused 56 = .ok (.isub, 1) := dk_100 (dk_at dksX9_isRefused_2 10 rfl rfl)
theorem dX9_isRefused_57 : decode cX9_isRefused 57 = .ok (.aload_n 0, 1) := dk_42 (dk_at dksX9_isRefused_2 11 rfl rfl)
theorem dX9_isRefused_58 : decode cX9_isRefused 58 = .ok (.getfield 34, 3) := dk_180 0 34 (dk_at dksX9_isRefused_2 12 rfl rfl)
theorem dX9_isRefused_61 : decode cX9_isRefused 61 = .ok (.sipush 1073, 3) := dk_17 4 49 (dk_at dksX9_isRefused_2 15 rfl rfl)
theorem dX9_isRefused_64 : decode cX9_isRefused 64 = .ok (.iload 5, 2) := dk_21 5 (dk_at dksX9_isRefused_2 18 rfl rfl)
theorem dX9_isRefused_66 : decode cX9_isRefused 66 = .ok (.iadd, 1) := dk_96 (dk_at dksX9_isRefused_2 20 rfl rfl)
theorem dX9_isRefused_67 : decode cX9_isRefused 67 = .ok (.iaload, 1) := dk_46 (dk_at dksX9_isRefused_2 21 rfl rfl)
theorem dX9_isRefused_68 : decode cX9_isRefused 68 = .ok (.iastore, 1) := dk_79 (dk_at dksX9_isRefused_2 22 rfl rfl)
theorem dX9_isRefused_69 : decode cX9_isRefused 69 = .ok (.iinc 5 1, 3) := dk_132 5 1 (dk_at dksX9_isRefused_3 0 rfl rfl)
theorem dX9_isRefused_72 : decode cX9_isRefused 72 = .ok (.goto (-35), 3) := dk_167 255 221 (dk_at dksX9_isRefused_3 3 rfl rfl)
theorem dX9_isRefused_75 : decode cX9_isRefused 75 = .ok (.aload_n 0, 1) := dk_42 (dk_at dksX9_isRefused_3 6 rfl rfl)
theorem dX9_isRefused_76 : decode cX9_isRefused 76 = .ok (.getfield 34, 3) := dk_180 0 34 (dk_at dksX9_isRefused_3 7 rfl rfl)
theorem dX9_isRefused_79 : decode cX9_isRefused 79 = .ok (.sipush 1072, 3) := dk_17 4 48 (dk_at dksX9_isRefused_3 10 rfl rfl)
theorem dX9_isRefused_82 : decode cX9_isRefused 82 = .ok (.dup2, 1) := dk_92 (dk_at dksX9_isRefused_3 13 rfl rfl)
theorem dX9_isRefused_83 : decode cX9_isRefused 83 = .ok (.iaload, 1) := dk_46 (dk_at dksX9_isRefused_3 14 rfl rfl)
theorem dX9_isRefused_84 : decode cX9_isRefused 84 = .ok (.iconst 1, 1) := dk_4 (dk_at dksX9_isRefused_3 15 rfl rfl)
theorem dX9_isRefused_85 : decode cX9_isRefused 85 = .ok (.isub, 1) := dk_100 (dk_at dksX9_isRefused_3 16 rfl rfl)
theorem dX9_isRefused_86 : decode cX9_isRefused 86 = .ok (.iastore, 1) := dk_79 (dk_at dksX9_isRefused_3 17 rfl rfl)
theorem dX9_isRefused_87 : decode cX9_isRefused 87 = .ok (.sipush 1073, 3) := dk_17 4 49 (dk_at dksX9_isRefused_3 18 rfl rfl)
theorem dX9_isRefused_90 : decode cX9_isRefused 90 = .ok (.iconst 3, 1) := dk_6 (dk_at dksX9_isRefused_3 21 rfl rfl)
theorem dX9_isRefused_91 : decode cX9_isRefused 91 = .ok (.aload_n 0, 1) := dk_42 (dk_at dksX9_isRefused_3 22 rfl rfl)
theorem dX9_isRefused_92 : decode cX9_isRefused 92 = .ok (.getfield 34, 3) := dk_180 0 34 (dk_at dksX9_isRefused_4 0 rfl rfl)
theorem dX9_isRefused_95 : decode cX9_isRefused 95 = .ok (.sipush 1072, 3) := dk_17 4 48 (dk_at dksX9_isRefused_4 3 rfl rfl)
theorem dX9_isRefused_98 : decode cX9_isRefused 98 = .ok (.iaload, 1) := dk_46 (dk_at dksX9_isRefused_4 6 rfl rfl)
theorem dX9_isRefused_99 : decode cX9_isRefused 99 = .ok (.imul, 1) := dk_104 (dk_at dksX9_isRefused_4 7 rfl rfl)
theorem dX9_isRefused_100 : decode cX9_isRefused 100 = .ok (.iadd, 1) := dk_96 (dk_at dksX9_isRefused_4 8 rfl rfl)
theorem dX9_isRefused_101 : decode cX9_isRefused 101 = .ok (.istore 5, 2) := dk_54 5 (dk_at dksX9_isRefused_4 9 rfl rfl)
theorem dX9_isRefused_103 : decode cX9_isRefused 103 = .ok (.aload_n 0, 1) := dk_42 (dk_at dksX9_isRefused_4 11 rfl rfl)
theorem dX9_isRefused_104 : decode cX9_isRefused 104 = .ok (.getfield 34, 3) := dk_180 0 34 (dk_at dksX9_isRefused_4 12 rfl rfl)
theorem dX9_isRefused_107 : decode cX9_isRefused 107 = .ok (.iload 5, 2) := dk_21 5 (dk_at dksX9_isRefused_4 15 rfl rfl)
theorem dX9_isRefused_109 : decode cX9_isRefused 109 = .ok (.iload_n 2, 1) := dk_28 (dk_at dksX9_isRefused_4 17 rfl rfl)
theorem dX9_isRefused_110 : decode cX9_isRefused 110 = .ok (.iastore, 1) := dk_79 (dk_at dksX9_isRefused_4 18 rfl rfl)
theorem dX9_isRefused_111 : decode cX9_isRefused 111 = .ok (.aload_n 0, 1) := dk_42 (dk_at dksX9_isRefused_4 19 rfl rfl)
theorem dX9_isRefused_112 : decode cX9_isRefused 112 = .ok (.getfield 34, 3) := dk_180 0 34 (dk_at dksX9_isRefused_4 20 rfl rfl)
theorem dX9_isRefused_115 : decode cX9_isRefused 115 = .ok (.iload 5, 2) := dk_21 5 (dk_at dksX9_isRefused_5 0 rfl rfl)
theorem dX9_isRefused_117 : decode cX9_isRefused 117 = .ok (.iconst 1, 1) := dk_4 (dk_at dksX9_isRefused_5 2 rfl rfl)
theorem dX9_isRefused_118 : decode cX9_isRefused 118 = .ok (.iadd, 1) := dk_96 (dk_at dksX9_isRefused_5 3 rfl rfl)
theorem dX9_isRefused_119 : decode cX9_isRefused 119 = .ok (.iload_n 3, 1) := dk_29 (dk_at dksX9_isRefused_5 4 rfl rfl)
theorem dX9_isRefused_120 : decode cX9_isRefused 120 = .ok (.iastore, 1) := dk_79 (dk_at dksX9_isRefused_5 5 rfl rfl)
theorem dX9_isRefused_121 : decode cX9_isRefused 121 = .ok (.aload_n 0, 1) := dk_42 (dk_at dksX9_isRefused_5 6 rfl rfl)
theorem dX9_isRefused_122 : decode cX9_isRefused 122 = .ok (.getfield 34, 3) := dk_180 0 34 (dk_at dksX9_isRefused_5 7 rfl rfl)
theorem dX9_isRefused_125 : decode cX9_isRefused 125 = .ok (.iload 5, 2) := dk_21 5 (dk_at dksX9_isRefused_5 10 rfl rfl)
theorem dX9_isRefused_127 : decode cX9_isRefused 127 = .ok (.iconst 2, 1) := dk_5 (dk_at dksX9_isRefused_5 12 rfl rfl)
theorem dX9_isRefused_128 : decode cX9_isRefused 128 = .ok (.iadd, 1) := dk_96 (dk_at dksX9_isRefused_5 13 rfl rfl)
theorem dX9_isRefused_129 : decode cX9_isRefused 129 = .ok (.iload 4, 2) := dk_21 4 (dk_at dksX9_isRefused_5 14 rfl rfl)
theorem dX9_isRefused_131 : decode cX9_isRefused 131 = .ok (.iastore, 1) := dk_79 (dk_at dksX9_isRefused_5 16 rfl rfl)
theorem dX9_isRefused_132 : decode cX9_isRefused 132 = .ok (.aload_n 0, 1) := dk_42 (dk_at dksX9_isRefused_5 17 rfl rfl)
theorem dX9_isRefused_133 : decode cX9_isRefused 133 = .ok (.getfield 34, 3) := dk_180 0 34 (dk_at dksX9_isRefused_5 18 rfl rfl)
theorem dX9_isRefused_136 : decode cX9_isRefused 136 = .ok (.sipush 1072, 3) := dk_17 4 48 (dk_at dksX9_isRefused_5 21 rfl rfl)
theorem dX9_isRefused_139 : decode cX9_isRefused 139 = .ok (.dup2, 1) := dk_92 (dk_at dksX9_isRefused_6 0 rfl rfl)
theorem dX9_isRefused_140 : decode cX9_isRefused 140 = .ok (.iaload, 1) := dk_46 (dk_at dksX9_isRefused_6 1 rfl rfl)
theorem dX9_isRefused_141 : decode cX9_isRefused 141 = .ok (.iconst 1, 1) := dk_4 (dk_at dksX9_isRefused_6 2 rfl rfl)
theorem dX9_isRefused_142 : decode cX9_isRefused 142 = .ok (.iadd, 1) := dk_96 (dk_at dksX9_isRefused_6 3 rfl rfl)
theorem dX9_isRefused_143 : decode cX9_isRefused 143 = .ok (.iastore, 1) := dk_79 (dk_at dksX9_isRefused_6 4 rfl rfl)
theorem dX9_isRefused_144 : decode cX9_isRefused 144 = .ok (.iconst 0, 1) := dk_3 (dk_at dksX9_isRefused_6 5 rfl rfl)
theorem dX9_isRefused_145 : decode cX9_isRefused 145 = .ok (.ireturn, 1) := dk_172 (dk_at dksX9_isRefused_6 6 rfl rfl)
abbrev cX9_keep : ByteArray := prog_28_method_57_code
def yX9_keep : MethodName := ⟨RX9, "keep", "()V"⟩
def dkwX9_keep_4 : List UInt8 := [181, 0, 212, 177]
abbrev dktX9_keep_4 : List UInt8 := dkwX9_keep_4 ++ []
def dkwX9_keep_3 : List UInt8 := [27, 96, 42, 180, 0, 34, 27, 46, 79, 132, 1, 1, 167, 255, 225, 42, 89, 180, 0, 212, 4, 96]
abbrev dktX9_keep_3 : List UInt8 := dkwX9_keep_3 ++ dktX9_keep_4
def dkwX9_keep_2 : List UInt8 := [181, 0, 212, 3, 60, 27, 17, 4, 229, 162, 0, 30, 42, 180, 0, 51, 17, 4, 229, 42, 180, 0, 212, 104]
abbrev dktX9_keep_2 : List UInt8 := dkwX9_keep_2 ++ dktX9_keep_3
def dkwX9_keep_1 : List UInt8 := [17, 4, 229, 100, 42, 180, 0, 51, 27, 46, 79, 132, 1, 1, 167, 255, 231, 42, 89, 180, 0, 212, 4, 100]
abbrev dktX9_keep_1 : List UInt8 := dkwX9_keep_1 ++ dktX9_keep_2
def dkwX9_keep_0 : List UInt8 := [42, 180, 0, 212, 16, 40, 160, 0, 45, 17, 4, 229, 60, 27, 18, 50, 162, 0, 25, 42, 180, 0, 51, 27]
abbrev dktX9_keep_0 : List UInt8 := dkwX9_keep_0 ++ dktX9_keep_1
theorem dksX9_keep_0 : cX9_keep.data.toList.drop 0 = dktX9_keep_0 := by decide +kernel
theorem dksX9_keep_1 : cX9_keep.data.toList.drop 24 = dktX9_keep_1 := dk_seg dksX9_keep_0 24 rfl rfl
theorem dksX9_keep_2 : cX9_keep.data.toList.drop 48 = dktX9_keep_2 := dk_seg dksX9_keep_1 24 rfl rfl
theorem dksX9_keep_3 : cX9_keep.data.toList.drop 72 = dktX9_keep_3 := dk_seg dksX9_keep_2 24 rfl rfl
theorem dksX9_keep_4 : cX9_keep.data.toList.drop 94 = dktX9_keep_4 := dk_seg dksX9_keep_3 22 rfl rfl
theorem dX9_keep_0 : decode cX9_keep 0 = .ok (.aload_n 0, 1) := dk_42 (dk_at dksX9_keep_0 0 rfl rfl)
theorem dX9_keep_1 : decode cX9_keep 1 = .ok (.getfield 212, 3) := dk_180 0 212 (dk_at dksX9_keep_0 1 rfl rfl)
theorem dX9_keep_4 : decode cX9_keep 4 = .ok (.bipush 40, 2) := dk_16 40 (dk_at dksX9_keep_0 4 rfl rfl)
theorem dX9_keep_6 : decode cX9_keep 6 = .ok (.if_icmp .ne 45, 3) := dk_160 0 45 (dk_at dksX9_keep_0 6 rfl rfl)
theorem dX9_keep_9 : decode cX9_keep 9 = .ok (.sipush 1253, 3) := dk_17 4 229 (dk_at dksX9_keep_0 9 rfl rfl)
theorem dX9_keep_12 : decode cX9_keep 12 = .ok (.istore_n 1, 1) := dk_60 (dk_at dksX9_keep_0 12 rfl rfl)
theorem dX9_keep_13 : decode cX9_keep 13 = .ok (.iload_n 1, 1) := dk_27 (dk_at dksX9_keep_0 13 rfl rfl)
theorem dX9_keep_14 : decode cX9_keep 14 = .ok (.ldc 50, 2) := dk_18 50 (dk_at dksX9_keep_0 14 rfl rfl)
theorem dX9_keep_16 : decode cX9_keep 16 = .ok (.if_icmp .ge 25, 3) := dk_162 0 25 (dk_at dksX9_keep_0 16 rfl rfl)
theorem dX9_keep_19 : decode cX9_keep 19 = .ok (.aload_n 0, 1) := dk_42 (dk_at dksX9_keep_0 19 rfl rfl)
theorem dX9_keep_20 : decode cX9_keep 20 = .ok (.getfield 51, 3) := dk_180 0 51 (dk_at dksX9_keep_0 20 rfl rfl)
theorem dX9_keep_23 : decode cX9_keep 23 = .ok (.iload_n 1, 1) := dk_27 (dk_at dksX9_keep_0 23 rfl rfl)
theorem dX9_keep_24 : decode cX9_keep 24 = .ok (.sipush 1253, 3) := dk_17 4 229 (dk_at dksX9_keep_1 0 rfl rfl)
theorem dX9_keep_27 : decode cX9_keep 27 = .ok (.isub, 1) := dk_100 (dk_at dksX9_keep_1 3 rfl rfl)
theorem dX9_keep_28 : decode cX9_keep 28 = .ok (.aload_n 0, 1) := dk_42 (dk_at dksX9_keep_1 4 rfl rfl)
theorem dX9_keep_29 : decode cX9_keep 29 = .ok (.getfield 51, 3) := dk_180 0 51 (dk_at dksX9_keep_1 5 rfl rfl)
theorem dX9_keep_32 : decode cX9_keep 32 = .ok (.iload_n 1, 1) := dk_27 (dk_at dksX9_keep_1 8 rfl rfl)
theorem dX9_keep_33 : decode cX9_keep 33 = .ok (.iaload, 1) := dk_46 (dk_at dksX9_keep_1 9 rfl rfl)
theorem dX9_keep_34 : decode cX9_keep 34 = .ok (.iastore, 1) := dk_79 (dk_at dksX9_keep_1 10 rfl rfl)
theorem dX9_keep_35 : decode cX9_keep 35 = .ok (.iinc 1 1, 3) := dk_132 1 1 (dk_at dksX9_keep_1 11 rfl rfl)
theorem dX9_keep_38 : decode cX9_keep 38 = .ok (.goto (-25), 3) := dk_167 255 231 (dk_at dksX9_keep_1 14 rfl rfl)
theorem dX9_keep_41 : decode cX9_keep 41 = .ok (.aload_n 0, 1) := dk_42 (dk_at dksX9_keep_1 17 rfl rfl)
theorem dX9_keep_42 : decode cX9_keep 42 = .ok (.dup, 1) := dk_89 (dk_at dksX9_keep_1 18 rfl rfl)
theorem dX9_keep_43 : decode cX9_keep 43 = .ok (.getfield 212, 3) := dk_180 0 212 (dk_at dksX9_keep_1 19 rfl rfl)
theorem dX9_keep_46 : decode cX9_keep 46 = .ok (.iconst 1, 1) := dk_4 (dk_at dksX9_keep_1 22 rfl rfl)
theorem dX9_keep_47 : decode cX9_keep 47 = .ok (.isub, 1) := dk_100 (dk_at dksX9_keep_1 23 rfl rfl)
theorem dX9_keep_48 : decode cX9_keep 48 = .ok (.putfield 212, 3) := dk_181 0 212 (dk_at dksX9_keep_2 0 rfl rfl)
theorem dX9_keep_51 : decode cX9_keep 51 = .ok (.iconst 0, 1) := dk_3 (dk_at dksX9_keep_2 3 rfl rfl)
theorem dX9_keep_52 : decode cX9_keep 52 = .ok (.istore_n 1, 1) := dk_60 (dk_at dksX9_keep_2 4 rfl rfl)
theorem dX9_keep_53 : decode cX9_keep 53 = .ok (.iload_n 1, 1) := dk_27 (dk_at dksX9_keep_2 5 rfl rfl)
theorem dX9_keep_54 : decode cX9_keep 54 = .ok (.sipush 1253, 3) := dk_17 4 229 (dk_at dksX9_keep_2 6 rfl rfl)
theorem dX9_keep_57 : decode cX9_keep 57 = .ok (.if_icmp .ge 30, 3) := dk_162 0 30 (dk_at dksX9_keep_2 9 rfl rfl)
theorem dX9_keep_60 : decode cX9_keep 60 = .ok (.aload_n 0, 1) := dk_42 (dk_at dksX9_keep_2 12 rfl rfl)
theorem dX9_keep_61 : decode cX9_keep 61 = .ok (.getfield 51, 3) := dk_180 0 51 (dk_at dksX9_keep_2 13 rfl rfl)
theorem dX9_keep_64 : decode cX9_keep 64 = .ok (.sipush 1253, 3) := dk_17 4 229 (dk_at dksX9_keep_2 16 rfl rfl)
theorem dX9_keep_67 : decode cX9_keep 67 = .ok (.aload_n 0, 1) := dk_42 (dk_at dksX9_keep_2 19 rfl rfl)
theorem dX9_keep_68 : decode cX9_keep 68 = .ok (.getfield 212, 3) := dk_180 0 212 (dk_at dksX9_keep_2 20 rfl rfl)
theorem dX9_keep_71 : decode cX9_keep 71 = .ok (.imul, 1) := dk_104 (dk_at dksX9_keep_2 23 rfl rfl)
theorem dX9_keep_72 : decode cX9_keep 72 = .ok (.iload_n 1, 1) := dk_27 (dk_at dksX9_keep_3 0 rfl rfl)
theorem dX9_keep_73 : decode cX9_keep 73 = .ok (.iadd, 1) := dk_96 (dk_at dksX9_keep_3 1 rfl rfl)
theorem dX9_keep_74 : decode cX9_keep 74 = .ok (.aload_n 0, 1) := dk_42 (dk_at dksX9_keep_3 2 rfl rfl)
theorem dX9_keep_75 : decode cX9_keep 75 = .ok (.getfield 34, 3) := dk_180 0 34 (dk_at dksX9_keep_3 3 rfl rfl)
theorem dX9_keep_78 : decode cX9_keep 78 = .ok (.iload_n 1, 1) := dk_27 (dk_at dksX9_keep_3 6 rfl rfl)
theorem dX9_keep_79 : decode cX9_keep 79 = .ok (.iaload, 1) := dk_46 (dk_at dksX9_keep_3 7 rfl rfl)
theorem dX9_keep_80 : decode cX9_keep 80 = .ok (.iastore, 1) := dk_79 (dk_at dksX9_keep_3 8 rfl rfl)
theorem dX9_keep_81 : decode cX9_keep 81 = .ok (.iinc 1 1, 3) := dk_132 1 1 (dk_at dksX9_keep_3 9 rfl rfl)
theorem dX9_keep_84 : decode cX9_keep 84 = .ok (.goto (-31), 3) := dk_167 255 225 (dk_at dksX9_keep_3 12 rfl rfl)
theorem dX9_keep_87 : decode cX9_keep 87 = .ok (.aload_n 0, 1) := dk_42 (dk_at dksX9_keep_3 15 rfl rfl)
theorem dX9_keep_88 : decode cX9_keep 88 = .ok (.dup, 1) := dk_89 (dk_at dksX9_keep_3 16 rfl rfl)
theorem dX9_keep_89 : decode cX9_keep 89 = .ok (.getfield 212, 3) := dk_180 0 212 (dk_at dksX9_keep_3 17 rfl rfl)
theorem dX9_keep_92 : decode cX9_keep 92 = .ok (.iconst 1, 1) := dk_4 (dk_at dksX9_keep_3 20 rfl rfl)
theorem dX9_keep_93 : decode cX9_keep 93 = .ok (.iadd, 1) := dk_96 (dk_at dksX9_keep_3 21 rfl rfl)
theorem dX9_keep_94 : decode cX9_keep 94 = .ok (.putfield 212, 3) := dk_181 0 212 (dk_at dksX9_keep_4 0 rfl rfl)
theorem dX9_keep_97 : decode cX9_keep 97 = .ok (.return_, 1) := dk_177 (dk_at dksX9_keep_4 3 rfl rfl)
abbrev cX9_change : ByteArray := prog_28_method_61_code
def yX9_change : MethodName := ⟨RX9, "change", "(IIII)V"⟩
def dkwX9_change_3 : List UInt8 := [182, 0, 209, 132, 5, 1, 167, 255, 220, 177]
abbrev dktX9_change_3 : List UInt8 := dkwX9_change_3 ++ []
def dkwX9_change_2 : List UInt8 := [180, 0, 34, 27, 21, 5, 184, 0, 199, 46, 42, 180, 0, 22, 4, 46, 164, 0, 10, 42, 27, 21, 5]
abbrev dktX9_change_2 : List UInt8 := dkwX9_change_2 ++ dktX9_change_3
def dkwX9_change_1 : List UInt8 := [182, 1, 7, 42, 27, 4, 29, 21, 4, 182, 1, 7, 3, 54, 5, 21, 5, 5, 162, 0, 36, 42]
abbrev dktX9_change_1 : List UInt8 := dkwX9_change_1 ++ dktX9_change_2
def dkwX9_change_0 : List UInt8 := [42, 180, 0, 34, 27, 28, 29, 184, 0, 158, 92, 46, 21, 4, 96, 79, 42, 27, 3, 28, 21, 4]
abbrev dktX9_change_0 : List UInt8 := dkwX9_change_0 ++ dktX9_change_1
theorem dksX9_change_0 : cX9_change.data.toList.drop 0 = dktX9_change_0 := by decide +kernel
theorem dksX9_change_1 : cX9_change.data.toList.drop 22 = dktX9_change_1 := dk_seg dksX9_change_0 22 rfl rfl
theorem dksX9_change_2 : cX9_change.data.toList.drop 44 = dktX9_change_2 := dk_seg dksX9_change_1 22 rfl rfl
theorem dksX9_change_3 : cX9_change.data.toList.drop 67 = dktX9_change_3 := dk_seg dksX9_change_2 23 rfl rfl
theorem dX9_change_0 : decode cX9_change 0 = .ok (.aload_n 0, 1) := dk_42 (dk_at dksX9_change_0 0 rfl rfl)
theorem dX9_change_1 : decode cX9_change 1 = .ok (.getfield 34, 3) := dk_180 0 34 (dk_at dksX9_change_0 1 rfl rfl)
theorem dX9_change_4 : decode cX9_change 4 = .ok (.iload_n 1, 1) := dk_27 (dk_at dksX9_change_0 4 rfl rfl)
theorem dX9_change_5 : decode cX9_change 5 = .ok (.iload_n 2, 1) := dk_28 (dk_at dksX9_change_0 5 rfl rfl)
theorem dX9_change_6 : decode cX9_change 6 = .ok (.iload_n 3, 1) := dk_29 (dk_at dksX9_change_0 6 rfl rfl)
theorem dX9_change_7 : decode cX9_change 7 = .ok (.invokestatic 158, 3) := dk_184 0 158 (dk_at dksX9_change_0 7 rfl rfl)
theorem dX9_change_10 : decode cX9_change 10 = .ok (.dup2, 1) := dk_92 (dk_at dksX9_change_0 10 rfl rfl)
theorem dX9_change_11 : decode cX9_change 11 = .ok (.iaload, 1) := dk_46 (dk_at dksX9_change_0 11 rfl rfl)
theorem dX9_change_12 : decode cX9_change 12 = .ok (.iload 4, 2) := dk_21 4 (dk_at dksX9_change_0 12 rfl rfl)
theorem dX9_change_14 : decode cX9_change 14 = .ok (.iadd, 1) := dk_96 (dk_at dksX9_change_0 14 rfl rfl)
theorem dX9_change_15 : decode cX9_change 15 = .ok (.iastore, 1) := dk_79 (dk_at dksX9_change_0 15 rfl rfl)
theorem dX9_change_16 : decode cX9_change 16 = .ok (.aload_n 0, 1) := dk_42 (dk_at dksX9_change_0 16 rfl rfl)
theorem dX9_change_17 : decode cX9_change 17 = .ok (.iload_n 1, 1) := dk_27 (dk_at dksX9_change_0 17 rfl rfl)
theorem dX9_change_18 : decode cX9_change 18 = .ok (.iconst 0, 1) := dk_3 (dk_at dksX9_change_0 18 rfl rfl)
theorem dX9_change_19 : decode cX9_change 19 = .ok (.iload_n 2, 1) := dk_28 (dk_at dksX9_change_0 19 rfl rfl)
theorem dX9_change_20 : decode cX9_change 20 = .ok (.iload 4, 2) := dk_21 4 (dk_at dksX9_change_0 20 rfl rfl)
theorem dX9_change_22 : decode cX9_change 22 = .ok (.invokevirtual 263, 3) := dk_182 1 7 (dk_at dksX9_change_1 0 rfl rfl)
theorem dX9_change_25 : decode cX9_change 25 = .ok (.aload_n 0, 1) := dk_42 (dk_at dksX9_change_1 3 rfl rfl)
theorem dX9_change_26 : decode cX9_change 26 = .ok (.iload_n 1, 1) := dk_27 (dk_at dksX9_change_1 4 rfl rfl)
theorem dX9_change_27 : decode cX9_change 27 = .ok (.iconst 1, 1) := dk_4 (dk_at dksX9_change_1 5 rfl rfl)
theorem dX9_change_28 : decode cX9_change 28 = .ok (.iload_n 3, 1) := dk_29 (dk_at dksX9_change_1 6 rfl rfl)
theorem dX9_change_29 : decode cX9_change 29 = .ok (.iload 4, 2) := dk_21 4 (dk_at dksX9_change_1 7 rfl rfl)
theorem dX9_change_31 : decode cX9_change 31 = .ok (.invokevirtual 263, 3) := dk_182 1 7 (dk_at dksX9_change_1 9 rfl rfl)
theorem dX9_change_34 : decode cX9_change 34 = .ok (.iconst 0, 1) := dk_3 (dk_at dksX9_change_1 12 rfl rfl)
theorem dX9_change_35 : decode cX9_change 35 = .ok (.istore 5, 2) := dk_54 5 (dk_at dksX9_change_1 13 rfl rfl)
theorem dX9_change_37 : decode cX9_change 37 = .ok (.iload 5, 2) := dk_21 5 (dk_at dksX9_change_1 15 rfl rfl)
theorem dX9_change_39 : decode cX9_change 39 = .ok (.iconst 2, 1) := dk_5 (dk_at dksX9_change_1 17 rfl rfl)
theorem dX9_change_40 : decode cX9_change 40 = .ok (.if_icmp .ge 36, 3) := dk_162 0 36 (dk_at dksX9_change_1 18 rfl rfl)
theorem dX9_change_43 : decode cX9_change 43 = .ok (.aload_n 0, 1) := dk_42 (dk_at dksX9_change_1 21 rfl rfl)
theorem dX9_change_44 : decode cX9_change 44 = .ok (.getfield 34, 3) := dk_180 0 34 (dk_at dksX9_change_2 0 rfl rfl)
theorem dX9_change_47 : decode cX9_change 47 = .ok (.iload_n 1, 1) := dk_27 (dk_at dksX9_change_2 3 rfl rfl)
theorem dX9_change_48 : decode cX9_change 48 = .ok (.iload 5, 2) := dk_21 5 (dk_at dksX9_change_2 4 rfl rfl)
theorem dX9_change_50 : decode cX9_change 50 = .ok (.invokestatic 199, 3) := dk_184 0 199 (dk_at dksX9_change_2 6 rfl rfl)
theorem dX9_change_53 : decode cX9_change 53 = .ok (.iaload, 1) := dk_46 (dk_at dksX9_change_2 9 rfl rfl)
theorem dX9_change_54 : decode cX9_change 54 = .ok (.aload_n 0, 1) := dk_42 (dk_at dksX9_change_2 10 rfl rfl)
theorem dX9_change_55 : decode cX9_change 55 = .ok (.getfield 22, 3) := dk_180 0 22 (dk_at dksX9_change_2 11 rfl rfl)
theorem dX9_change_58 : decode cX9_change 58 = .ok (.iconst 1, 1) := dk_4 (dk_at dksX9_change_2 14 rfl rfl)
theorem dX9_change_59 : decode cX9_change 59 = .ok (.iaload, 1) := dk_46 (dk_at dksX9_change_2 15 rfl rfl)
theorem dX9_change_60 : decode cX9_change 60 = .ok (.if_icmp .le 10, 3) := dk_164 0 10 (dk_at dksX9_change_2 16 rfl rfl)
theorem dX9_change_63 : decode cX9_change 63 = .ok (.aload_n 0, 1) := dk_42 (dk_at dksX9_change_2 19 rfl rfl)
theorem dX9_change_64 : decode cX9_change 64 = .ok (.iload_n 1, 1) := dk_27 (dk_at dksX9_change_2 20 rfl rfl)
theorem dX9_change_65 : decode cX9_change 65 = .ok (.iload 5, 2) := dk_21 5 (dk_at dksX9_change_2 21 rfl rfl)
theorem dX9_change_67 : decode cX9_change 67 = .ok (.invokevirtual 209, 3) := dk_182 0 209 (dk_at dksX9_change_3 0 rfl rfl)
theorem dX9_change_70 : decode cX9_change 70 = .ok (.iinc 5 1, 3) := dk_132 5 1 (dk_at dksX9_change_3 3 rfl rfl)
theorem dX9_change_73 : decode cX9_change 73 = .ok (.goto (-36), 3) := dk_167 255 220 (dk_at dksX9_change_3 6 rfl rfl)
theorem dX9_change_76 : decode cX9_change 76 = .ok (.return_, 1) := dk_177 (dk_at dksX9_change_3 9 rfl rfl)
abbrev cX9_drifts : ByteArray := prog_28_method_60_code
def yX9_drifts : MethodName := ⟨RX9, "drifts", "(IIII)V"⟩
def dkwX9_drifts_4 : List UInt8 := [79, 177]
abbrev dktX9_drifts_4 : List UInt8 := dkwX9_drifts_4 ++ []
def dkwX9_drifts_3 : List UInt8 := [180, 0, 34, 27, 28, 184, 0, 199, 92, 46, 21, 4, 156, 0, 9, 21, 4, 116, 167, 0, 5, 21, 4, 96]
abbrev dktX9_drifts_3 : List UInt8 := dkwX9_drifts_3 ++ dktX9_drifts_4
def dkwX9_drifts_2 : List UInt8 := [42, 27, 28, 21, 5, 6, 182, 0, 241, 3, 21, 4, 184, 0, 202, 96, 184, 0, 194, 182, 0, 205, 42]
abbrev dktX9_drifts_2 : List UInt8 := dkwX9_drifts_2 ++ dktX9_drifts_3
def dkwX9_drifts_1 : List UInt8 := [21, 4, 96, 54, 6, 42, 27, 28, 21, 5, 5, 21, 6, 182, 0, 205, 42, 27, 28, 21, 5, 6, 21, 6]
abbrev dktX9_drifts_1 : List UInt8 := dkwX9_drifts_1 ++ dktX9_drifts_2
def dkwX9_drifts_0 : List UInt8 := [29, 2, 160, 0, 4, 177, 42, 27, 28, 29, 182, 1, 4, 54, 5, 42, 27, 28, 21, 5, 5, 182, 0, 241]
abbrev dktX9_drifts_0 : List UInt8 := dkwX9_drifts_0 ++ dktX9_drifts_1
theorem dksX9_drifts_0 : cX9_drifts.data.toList.drop 0 = dktX9_drifts_0 := by decide +kernel
theorem dksX9_drifts_1 : cX9_drifts.data.toList.drop 24 = dktX9_drifts_1 := dk_seg dksX9_drifts_0 24 rfl rfl
theorem dksX9_drifts_2 : cX9_drifts.data.toList.drop 48 = dktX9_drifts_2 := dk_seg dksX9_drifts_1 24 rfl rfl
theorem dksX9_drifts_3 : cX9_drifts.data.toList.drop 71 = dktX9_drifts_3 := dk_seg dksX9_drifts_2 23 rfl rfl
theorem dksX9_drifts_4 : cX9_drifts.data.toList.drop 95 = dktX9_drifts_4 := dk_seg dksX9_drifts_3 24 rfl rfl
theorem dX9_drifts_0 : decode cX9_drifts 0 = .ok (.iload_n 3, 1) := dk_29 (dk_at dksX9_drifts_0 0 rfl rfl)
theorem dX9_drifts_1 : decode cX9_drifts 1 = .ok (.iconst (-1), 1) := dk_2 (dk_at dksX9_drifts_0 1 rfl rfl)
theorem dX9_drifts_2 : decode cX9_drifts 2 = .ok (.if_icmp .ne 4, 3) := dk_160 0 4 (dk_at dksX9_drifts_0 2 rfl rfl)
theorem dX9_drifts_5 : decode cX9_drifts 5 = .ok (.return_, 1) := dk_177 (dk_at dksX9_drifts_0 5 rfl rfl)
theorem dX9_drifts_6 : decode cX9_drifts 6 = .ok (.aload_n 0, 1) := dk_42 (dk_at dksX9_drifts_0 6 rfl rfl)
theorem dX9_drifts_7 : decode cX9_drifts 7 = .ok (.iload_n 1, 1) := dk_27 (dk_at dksX9_drifts_0 7 rfl rfl)
theorem dX9_drifts_8 : decode cX9_drifts 8 = .ok (.iload_n 2, 1) := dk_28 (dk_at dksX9_drifts_0 8 rfl rfl)
theorem dX9_drifts_9 : decode cX9_drifts 9 = .ok (.iload_n 3, 1) := dk_29 (dk_at dksX9_drifts_0 9 rfl rfl)
theorem dX9_drifts_10 : decode cX9_drifts 10 = .ok (.invokevirtual 260, 3) := dk_182 1 4 (dk_at dksX9_drifts_0 10 rfl rfl)
theorem dX9_drifts_13 : decode cX9_drifts 13 = .ok (.istore 5, 2) := dk_54 5 (dk_at dksX9_drifts_0 13 rfl rfl)
theorem dX9_drifts_15 : decode cX9_drifts 15 = .ok (.aload_n 0, 1) := dk_42 (dk_at dksX9_drifts_0 15 rfl rfl)
theorem dX9_drifts_16 : decode cX9_drifts 16 = .ok (.iload_n 1, 1) := dk_27 (dk_at dksX9_drifts_0 16 rfl rfl)
theorem dX9_drifts_17 : decode cX9_drifts 17 = .ok (.iload_n 2, 1) := dk_28 (dk_at dksX9_drifts_0 17 rfl rfl)
theorem dX9_drifts_18 : decode cX9_drifts 18 = .ok (.iload 5, 2) := dk_21 5 (dk_at dksX9_drifts_0 18 rfl rfl)
theorem dX9_drifts_20 : decode cX9_drifts 20 = .ok (.iconst 2, 1) := dk_5 (dk_at dksX9_drifts_0 20 rfl rfl)
theorem dX9_drifts_21 : decode cX9_drifts 21 = .ok (.invokevirtual 241, 3) := dk_182 0 241 (dk_at dksX9_drifts_0 21 rfl rfl)
theorem dX9_drifts_24 : decode cX9_drifts 24 = .ok (.iload 4, 2) := dk_21 4 (dk_at dksX9_drifts_1 0 rfl rfl)
theorem dX9_drifts_26 : decode cX9_drifts 26 = .ok (.iadd, 1) := dk_96 (dk_at dksX9_drifts_1 2 rfl rfl)
theorem dX9_drifts_27 : decode cX9_drifts 27 = .ok (.istore 6, 2) := dk_54 6 (dk_at dksX9_drifts_1 3 rfl rfl)
theorem dX9_drifts_29 : decode cX9_drifts 29 = .ok (.aload_n 0, 1) := dk_42 (dk_at dksX9_drifts_1 5 rfl rfl)
theorem dX9_drifts_30 : decode cX9_drifts 30 = .ok (.iload_n 1, 1) := dk_27 (dk_at dksX9_drifts_1 6 rfl rfl)
theorem dX9_drifts_31 : decode cX9_drifts 31 = .ok (.iload_n 2, 1) := dk_28 (dk_at dksX9_drifts_1 7 rfl rfl)
theorem dX9_drifts_32 : decode cX9_drifts 32 = .ok (.iload 5, 2) := dk_21 5 (dk_at dksX9_drifts_1 8 rfl rfl)
theorem dX9_drifts_34 : decode cX9_drifts 34 = .ok (.iconst 2, 1) := dk_5 (dk_at dksX9_drifts_1 10 rfl rfl)
theorem dX9_drifts_35 : decode cX9_drifts 35 = .ok (.iload 6, 2) := dk_21 6 (dk_at dksX9_drifts_1 11 rfl rfl)
theorem dX9_drifts_37 : decode cX9_drifts 37 = .ok (.invokevirtual 205, 3) := dk_182 0 205 (dk_at dksX9_drifts_1 13 rfl rfl)
theorem dX9_drifts_40 : decode cX9_drifts 40 = .ok (.aload_n 0, 1) := dk_42 (dk_at dksX9_drifts_1 16 rfl rfl)
theorem dX9_drifts_41 : decode cX9_drifts 41 = .ok (.iload_n 1, 1) := dk_27 (dk_at dksX9_drifts_1 17 rfl rfl)
theorem dX9_drifts_42 : decode cX9_drifts 42 = .ok (.iload_n 2, 1) := dk_28 (dk_at dksX9_drifts_1 18 rfl rfl)
theorem dX9_drifts_43 : decode cX9_drifts 43 = .ok (.iload 5, 2) := dk_21 5 (dk_at dksX9_drifts_1 19 rfl rfl)
theorem dX9_drifts_45 : decode cX9_drifts 45 = .ok (.iconst 3, 1) := dk_6 (dk_at dksX9_drifts_1 21 rfl rfl)
theorem dX9_drifts_46 : decode cX9_drifts 46 = .ok (.iload 6, 2) := dk_21 6 (dk_at dksX9_drifts_1 22 rfl rfl)
theorem dX9_drifts_48 : decode cX9_drifts 48 = .ok (.aload_n 0, 1) := dk_42 (dk_at dksX9_drifts_2 0 rfl rfl)
theorem dX9_drifts_49 : decode cX9_drifts 49 = .ok (.iload_n 1, 1) := dk_27 (dk_at dksX9_drifts_2 1 rfl rfl)
theorem dX9_drifts_50 : decode cX9_drifts 50 = .ok (.iload_n 2, 1) := dk_28 (dk_at dksX9_drifts_2 2 rfl rfl)
theorem dX9_drifts_51 : decode cX9_drifts 51 = .ok (.iload 5, 2) := dk_21 5 (dk_at dksX9_drifts_2 3 rfl rfl)
theorem dX9_drifts_53 : decode cX9_drifts 53 = .ok (.iconst 3, 1) := dk_6 (dk_at dksX9_drifts_2 5 rfl rfl)
theorem dX9_drifts_54 : decode cX9_drifts 54 = .ok (.invokevirtual 241, 3) := dk_182 0 241 (dk_at dksX9_drifts_2 6 rfl rfl)
theorem dX9_drifts_57 : decode cX9_drifts 57 = .ok (.iconst 0, 1) := dk_3 (dk_at dksX9_drifts_2 9 rfl rfl)
theorem dX9_drifts_58 : decode cX9_drifts 58 = .ok (.iload 4, 2) := dk_21 4 (dk_at dksX9_drifts_2 10 rfl rfl)
theorem dX9_drifts_60 : decode cX9_drifts 60 = .ok (.invokestatic 202, 3) := dk_184 0 202 (dk_at dksX9_drifts_2 12 rfl rfl)
theorem dX9_drifts_63 : decode cX9_drifts 63 = .ok (.iadd, 1) := dk_96 (dk_at dksX9_drifts_2 15 rfl rfl)
theorem dX9_drifts_64 : decode cX9_drifts 64 = .ok (.invokestatic 194, 3) := dk_184 0 194 (dk_at dksX9_drifts_2 16 rfl rfl)
theorem dX9_drifts_67 : decode cX9_drifts 67 = .ok (.invokevirtual 205, 3) := dk_182 0 205 (dk_at dksX9_drifts_2 19 rfl rfl)
theorem dX9_drifts_70 : decode cX9_drifts 70 = .ok (.aload_n 0, 1) := dk_42 (dk_at dksX9_drifts_2 22 rfl rfl)
theorem dX9_drifts_71 : decode cX9_drifts 71 = .ok (.getfield 34, 3) := dk_180 0 34 (dk_at dksX9_drifts_3 0 rfl rfl)
theorem dX9_drifts_74 : decode cX9_drifts 74 = .ok (.iload_n 1, 1) := dk_27 (dk_at dksX9_drifts_3 3 rfl rfl)
theorem dX9_drifts_75 : decode cX9_drifts 75 = .ok (.iload_n 2, 1) := dk_28 (dk_at dksX9_drifts_3 4 rfl rfl)
theorem dX9_drifts_76 : decode cX9_drifts 76 = .ok (.invokestatic 199, 3) := dk_184 0 199 (dk_at dksX9_drifts_3 5 rfl rfl)
theorem dX9_drifts_79 : decode cX9_drifts 79 = .ok (.dup2, 1) := dk_92 (dk_at dksX9_drifts_3 8 rfl rfl)
theorem dX9_drifts_80 : decode cX9_drifts 80 = .ok (.iaload, 1) := dk_46 (dk_at dksX9_drifts_3 9 rfl rfl)
theorem dX9_drifts_81 : decode cX9_drifts 81 = .ok (.iload 4, 2) := dk_21 4 (dk_at dksX9_drifts_3 10 rfl rfl)
theorem dX9_drifts_83 : decode cX9_drifts 83 = .ok (.ifCond .ge 9, 3) := dk_156 0 9 (dk_at dksX9_drifts_3 12 rfl rfl)
theorem dX9_drifts_86 : decode cX9_drifts 86 = .ok (.iload 4, 2) := dk_21 4 (dk_at dksX9_drifts_3 15 rfl rfl)
theorem dX9_drifts_88 : decode cX9_drifts 88 = .ok (.ineg, 1) := dk_116 (dk_at dksX9_drifts_3 17 rfl rfl)
theorem dX9_drifts_89 : decode cX9_drifts 89 = .ok (.goto 5, 3) := dk_167 0 5 (dk_at dksX9_drifts_3 18 rfl rfl)
theorem dX9_drifts_92 : decode cX9_drifts 92 = .ok (.iload 4, 2) := dk_21 4 (dk_at dksX9_drifts_3 21 rfl rfl)
theorem dX9_drifts_94 : decode cX9_drifts 94 = .ok (.iadd, 1) := dk_96 (dk_at dksX9_drifts_3 23 rfl rfl)
theorem dX9_drifts_95 : decode cX9_drifts 95 = .ok (.iastore, 1) := dk_79 (dk_at dksX9_drifts_4 0 rfl rfl)
theorem dX9_drifts_96 : decode cX9_drifts 96 = .ok (.return_, 1) := dk_177 (dk_at dksX9_drifts_4 1 rfl rfl)
abbrev cX9_bucketOf : ByteArray := prog_28_method_59_code
def yX9_bucketOf : MethodName := ⟨RX9, "bucketOf", "(III)I"⟩
def dkwX9_bucketOf_1 : List UInt8 := [172]
abbrev dktX9_bucketOf_1 : List UInt8 := dkwX9_bucketOf_1 ++ []
def dkwX9_bucketOf_0 : List UInt8 := [3, 54, 4, 42, 27, 28, 21, 4, 4, 182, 0, 241, 29, 162, 0, 9, 132, 4, 1, 167, 255, 240, 21, 4]
abbrev dktX9_bucketOf_0 : List UInt8 := dkwX9_bucketOf_0 ++ dktX9_bucketOf_1
theorem dksX9_bucketOf_0 : cX9_bucketOf.data.toList.drop 0 = dktX9_bucketOf_0 := by decide +kernel
theorem dksX9_bucketOf_1 : cX9_bucketOf.data.toList.drop 24 = dktX9_bucketOf_1 := dk_seg dksX9_bucketOf_0 24 rfl rfl
theorem dX9_bucketOf_0 : decode cX9_bucketOf 0 = .ok (.iconst 0, 1) := dk_3 (dk_at dksX9_bucketOf_0 0 rfl rfl)
theorem dX9_bucketOf_1 : decode cX9_bucketOf 1 = .ok (.istore 4, 2) := dk_54 4 (dk_at dksX9_bucketOf_0 1 rfl rfl)
theorem dX9_bucketOf_3 : decode cX9_bucketOf 3 = .ok (.aload_n 0, 1) := dk_42 (dk_at dksX9_bucketOf_0 3 rfl rfl)
theorem dX9_bucketOf_4 : decode cX9_bucketOf 4 = .ok (.iload_n 1, 1) := dk_27 (dk_at dksX9_bucketOf_0 4 rfl rfl)
theorem dX9_bucketOf_5 : decode cX9_bucketOf 5 = .ok (.iload_n 2, 1) := dk_28 (dk_at dksX9_bucketOf_0 5 rfl rfl)
theorem dX9_bucketOf_6 : decode cX9_bucketOf 6 = .ok (.iload 4, 2) := dk_21 4 (dk_at dksX9_bucketOf_0 6 rfl rfl)
theorem dX9_bucketOf_8 : decode cX9_bucketOf 8 = .ok (.iconst 1, 1) := dk_4 (dk_at dksX9_bucketOf_0 8 rfl rfl)
theorem dX9_bucketOf_9 : decode cX9_bucketOf 9 = .ok (.invokevirtual 241, 3) := dk_182 0 241 (dk_at dksX9_bucketOf_0 9 rfl rfl)
theorem dX9_bucketOf_12 : decode cX9_bucketOf 12 = .ok (.iload_n 3, 1) := dk_29 (dk_at dksX9_bucketOf_0 12 rfl rfl)
theorem dX9_bucketOf_13 : decode cX9_bucketOf 13 = .ok (.if_icmp .ge 9, 3) := dk_162 0 9 (dk_at dksX9_bucketOf_0 13 rfl rfl)
theorem dX9_bucketOf_16 : decode cX9_bucketOf 16 = .ok (.iinc 4 1, 3) := dk_132 4 1 (dk_at dksX9_bucketOf_0 16 rfl rfl)
theorem dX9_bucketOf_19 : decode cX9_bucketOf 19 = .ok (.goto (-16), 3) := dk_167 255 240 (dk_at dksX9_bucketOf_0 19 rfl rfl)
theorem dX9_bucketOf_22 : decode cX9_bucketOf 22 = .ok (.iload 4, 2) := dk_21 4 (dk_at dksX9_bucketOf_0 22 rfl rfl)
theorem dX9_bucketOf_24 : decode cX9_bucketOf 24 = .ok (.ireturn, 1) := dk_172 (dk_at dksX9_bucketOf_1 0 rfl rfl)
abbrev cX9_drop : ByteArray := prog_28_method_67_code
def yX9_drop : MethodName := ⟨RX9, "drop", "(IIII)I"⟩
def dkwX9_drop_1 : List UInt8 := [28, 29, 21, 4, 116, 182, 1, 23, 42, 27, 182, 0, 161, 172]
abbrev dktX9_drop_1 : List UInt8 := dkwX9_drop_1 ++ []
def dkwX9_drop_0 : List UInt8 := [42, 42, 27, 28, 29, 21, 4, 182, 1, 26, 4, 27, 21, 4, 182, 1, 19, 153, 0, 5, 2, 172, 42, 27]
abbrev dktX9_drop_0 : List UInt8 := dkwX9_drop_0 ++ dktX9_drop_1
theorem dksX9_drop_0 : cX9_drop.data.toList.drop 0 = dktX9_drop_0 := by decide +kernel
theorem dksX9_drop_1 : cX9_drop.data.toList.drop 24 = dktX9_drop_1 := dk_seg dksX9_drop_0 24 rfl rfl
theorem dX9_drop_0 : decode cX9_drop 0 = .ok (.aload_n 0, 1) := dk_42 (dk_at dksX9_drop_0 0 rfl rfl)
theorem dX9_drop_1 : decode cX9_drop 1 = .ok (.aload_n 0, 1) := dk_42 (dk_at dksX9_drop_0 1 rfl rfl)
theorem dX9_drop_2 : decode cX9_drop 2 = .ok (.iload_n 1, 1) := dk_27 (dk_at dksX9_drop_0 2 rfl rfl)
theorem dX9_drop_3 : decode cX9_drop 3 = .ok (.iload_n 2, 1) := dk_28 (dk_at dksX9_drop_0 3 rfl rfl)
theorem dX9_drop_4 : decode cX9_drop 4 = .ok (.iload_n 3, 1) := dk_29 (dk_at dksX9_drop_0 4 rfl rfl)
theorem dX9_drop_5 : decode cX9_drop 5 = .ok (.iload 4, 2) := dk_21 4 (dk_at dksX9_drop_0 5 rfl rfl)
theorem dX9_drop_7 : decode cX9_drop 7 = .ok (.invokevirtual 282, 3) := dk_182 1 26 (dk_at dksX9_drop_0 7 rfl rfl)
theorem dX9_drop_10 : decode cX9_drop 10 = .ok (.iconst 1, 1) := dk_4 (dk_at dksX9_drop_0 10 rfl rfl)
theorem dX9_drop_11 : decode cX9_drop 11 = .ok (.iload_n 1, 1) := dk_27 (dk_at dksX9_drop_0 11 rfl rfl)
theorem dX9_drop_12 : decode cX9_drop 12 = .ok (.iload 4, 2) := dk_21 4 (dk_at dksX9_drop_0 12 rfl rfl)
theorem dX9_drop_14 : decode cX9_drop 14 = .ok (.invokevirtual 275, 3) := dk_182 1 19 (dk_at dksX9_drop_0 14 rfl rfl)
theorem dX9_drop_17 : decode cX9_drop 17 = .ok (.ifCond .eq 5, 3) := dk_153 0 5 (dk_at dksX9_drop_0 17 rfl rfl)
theorem dX9_drop_20 : decode cX9_drop 20 = .ok (.iconst (-1), 1) := dk_2 (dk_at dksX9_drop_0 20 rfl rfl)
theorem dX9_drop_21 : decode cX9_drop 21 = .ok (.ireturn, 1) := dk_172 (dk_at dksX9_drop_0 21 rfl rfl)
theorem dX9_drop_22 : decode cX9_drop 22 = .ok (.aload_n 0, 1) := dk_42 (dk_at dksX9_drop_0 22 rfl rfl)
theorem dX9_drop_23 : decode cX9_drop 23 = .ok (.iload_n 1, 1) := dk_27 (dk_at dksX9_drop_0 23 rfl rfl)
theorem dX9_drop_24 : decode cX9_drop 24 = .ok (.iload_n 2, 1) := dk_28 (dk_at dksX9_drop_1 0 rfl rfl)
theorem dX9_drop_25 : decode cX9_drop 25 = .ok (.iload_n 3, 1) := dk_29 (dk_at dksX9_drop_1 1 rfl rfl)
theorem dX9_drop_26 : decode cX9_drop 26 = .ok (.iload 4, 2) := dk_21 4 (dk_at dksX9_drop_1 2 rfl rfl)
theorem dX9_drop_28 : decode cX9_drop 28 = .ok (.ineg, 1) := dk_116 (dk_at dksX9_drop_1 4 rfl rfl)
theorem dX9_drop_29 : decode cX9_drop 29 = .ok (.invokevirtual 279, 3) := dk_182 1 23 (dk_at dksX9_drop_1 5 rfl rfl)
theorem dX9_drop_32 : decode cX9_drop 32 = .ok (.aload_n 0, 1) := dk_42 (dk_at dksX9_drop_1 8 rfl rfl)
theorem dX9_drop_33 : decode cX9_drop 33 = .ok (.iload_n 1, 1) := dk_27 (dk_at dksX9_drop_1 9 rfl rfl)
theorem dX9_drop_34 : decode cX9_drop 34 = .ok (.invokevirtual 161, 3) := dk_182 0 161 (dk_at dksX9_drop_1 10 rfl rfl)
theorem dX9_drop_37 : decode cX9_drop 37 = .ok (.ireturn, 1) := dk_172 (dk_at dksX9_drop_1 13 rfl rfl)
abbrev cX9_whyDrop : ByteArray := prog_28_method_64_code
def yX9_whyDrop : MethodName := ⟨RX9, "whyDrop", "(IIII)I"⟩
def dkwX9_whyDrop_2 : List UInt8 := [167, 0, 4, 2, 172]
abbrev dktX9_whyDrop_2 : List UInt8 := dkwX9_whyDrop_2 ++ []
def dkwX9_whyDrop_1 : List UInt8 := [154, 0, 7, 4, 167, 0, 24, 42, 180, 0, 34, 27, 28, 29, 184, 0, 158, 46, 21, 4, 162, 0, 7, 6]
abbrev dktX9_whyDrop_1 : List UInt8 := dkwX9_whyDrop_1 ++ dktX9_whyDrop_2
def dkwX9_whyDrop_0 : List UInt8 := [42, 27, 28, 29, 182, 1, 11, 154, 0, 7, 3, 167, 0, 41, 21, 4, 133, 10, 20, 1, 14, 184, 0, 77]
abbrev dktX9_whyDrop_0 : List UInt8 := dkwX9_whyDrop_0 ++ dktX9_whyDrop_1
theorem dksX9_whyDrop_0 : cX9_whyDrop.data.toList.drop 0 = dktX9_whyDrop_0 := by decide +kernel
theorem dksX9_whyDrop_1 : cX9_whyDrop.data.toList.drop 24 = dktX9_whyDrop_1 := dk_seg dksX9_whyDrop_0 24 rfl rfl
theorem dksX9_whyDrop_2 : cX9_whyDrop.data.toList.drop 48 = dktX9_whyDrop_2 := dk_seg dksX9_whyDrop_1 24 rfl rfl
theorem dX9_whyDrop_0 : decode cX9_whyDrop 0 = .ok (.aload_n 0, 1) := dk_42 (dk_at dksX9_whyDrop_0 0 rfl rfl)
theorem dX9_whyDrop_1 : decode cX9_whyDrop 1 = .ok (.iload_n 1, 1) := dk_27 (dk_at dksX9_whyDrop_0 1 rfl rfl)
theorem dX9_whyDrop_2 : decode cX9_whyDrop 2 = .ok (.iload_n 2, 1) := dk_28 (dk_at dksX9_whyDrop_0 2 rfl rfl)
theorem dX9_whyDrop_3 : decode cX9_whyDrop 3 = .ok (.iload_n 3, 1) := dk_29 (dk_at dksX9_whyDrop_0 3 rfl rfl)
theorem dX9_whyDrop_4 : decode cX9_whyDrop 4 = .ok (.invokevirtual 267, 3) := dk_182 1 11 (dk_at dksX9_whyDrop_0 4 rfl rfl)
theorem dX9_whyDrop_7 : decode cX9_whyDrop 7 = .ok (.ifCond .ne 7, 3) := dk_154 0 7 (dk_at dksX9_whyDrop_0 7 rfl rfl)
theorem dX9_whyDrop_10 : decode cX9_whyDrop 10 = .ok (.iconst 0, 1) := dk_3 (dk_at dksX9_whyDrop_0 10 rfl rfl)
theorem dX9_whyDrop_11 : decode cX9_whyDrop 11 = .ok (.goto 41, 3) := dk_167 0 41 (dk_at dksX9_whyDrop_0 11 rfl rfl)
theorem dX9_whyDrop_14 : decode cX9_whyDrop 14 = .ok (.iload 4, 2) := dk_21 4 (dk_at dksX9_whyDrop_0 14 rfl rfl)
theorem dX9_whyDrop_16 : decode cX9_whyDrop 16 = .ok (.i2l, 1) := dk_133 (dk_at dksX9_whyDrop_0 16 rfl rfl)
theorem dX9_whyDrop_17 : decode cX9_whyDrop 17 = .ok (.lconst 1, 1) := dk_10 (dk_at dksX9_whyDrop_0 17 rfl rfl)
theorem dX9_whyDrop_18 : decode cX9_whyDrop 18 = .ok (.ldc2_w 270, 3) := dk_20 1 14 (dk_at dksX9_whyDrop_0 18 rfl rfl)
theorem dX9_whyDrop_21 : decode cX9_whyDrop 21 = .ok (.invokestatic 77, 3) := dk_184 0 77 (dk_at dksX9_whyDrop_0 21 rfl rfl)
theorem dX9_whyDrop_24 : decode cX9_whyDrop 24 = .ok (.ifCond .ne 7, 3) := dk_154 0 7 (dk_at dksX9_whyDrop_1 0 rfl rfl)
theorem dX9_whyDrop_27 : decode cX9_whyDrop 27 = .ok (.iconst 1, 1) := dk_4 (dk_at dksX9_whyDrop_1 3 rfl rfl)
theorem dX9_whyDrop_28 : decode cX9_whyDrop 28 = .ok (.goto 24, 3) := dk_167 0 24 (dk_at dksX9_whyDrop_1 4 rfl rfl)
theorem dX9_whyDrop_31 : decode cX9_whyDrop 31 = .ok (.aload_n 0, 1) := dk_42 (dk_at dksX9_whyDrop_1 7 rfl rfl)
theorem dX9_whyDrop_32 : decode cX9_whyDrop 32 = .ok (.getfield 34, 3) := dk_180 0 34 (dk_at dksX9_whyDrop_1 8 rfl rfl)
theorem dX9_whyDrop_35 : decode cX9_whyDrop 35 = .ok (.iload_n 1, 1) := dk_27 (dk_at dksX9_whyDrop_1 11 rfl rfl)
theorem dX9_whyDrop_36 : decode cX9_whyDrop 36 = .ok (.iload_n 2, 1) := dk_28 (dk_at dksX9_whyDrop_1 12 rfl rfl)
theorem dX9_whyDrop_37 : decode cX9_whyDrop 37 = .ok (.iload_n 3, 1) := dk_29 (dk_at dksX9_whyDrop_1 13 rfl rfl)
theorem dX9_whyDrop_38 : decode cX9_whyDrop 38 = .ok (.invokestatic 158, 3) := dk_184 0 158 (dk_at dksX9_whyDrop_1 14 rfl rfl)
theorem dX9_whyDrop_41 : decode cX9_whyDrop 41 = .ok (.iaload, 1) := dk_46 (dk_at dksX9_whyDrop_1 17 rfl rfl)
theorem dX9_whyDrop_42 : decode cX9_whyDrop 42 = .ok (.iload 4, 2) := dk_21 4 (dk_at dksX9_whyDrop_1 18 rfl rfl)
theorem dX9_whyDrop_44 : decode cX9_whyDrop 44 = .ok (.if_icmp .ge 7, 3) := dk_162 0 7 (dk_at dksX9_whyDrop_1 20 rfl rfl)
theorem dX9_whyDrop_47 : decode cX9_whyDrop 47 = .ok (.iconst 3, 1) := dk_6 (dk_at dksX9_whyDrop_1 23 rfl rfl)
theorem dX9_whyDrop_48 : decode cX9_whyDrop 48 = .ok (.goto 4, 3) := dk_167 0 4 (dk_at dksX9_whyDrop_2 0 rfl rfl)
theorem dX9_whyDrop_51 : decode cX9_whyDrop 51 = .ok (.iconst (-1), 1) := dk_2 (dk_at dksX9_whyDrop_2 3 rfl rfl)
theorem dX9_whyDrop_52 : decode cX9_whyDrop 52 = .ok (.ireturn, 1) := dk_172 (dk_at dksX9_whyDrop_2 4 rfl rfl)
abbrev cX9_move : ByteArray := prog_28_method_68_code
def yX9_move : MethodName := ⟨RX9, "move", "(IIIII)I"⟩
def dkwX9_move_4 : List UInt8 := [27, 21, 4, 21, 5, 4, 182, 1, 23, 42, 180, 0, 34, 27, 21, 4, 21, 5, 184, 0, 158, 46, 172]
abbrev dktX9_move_4 : List UInt8 := dkwX9_move_4 ++ []
def dkwX9_move_3 : List UInt8 := [167, 0, 4, 2, 5, 27, 4, 182, 1, 19, 153, 0, 5, 2, 172, 42, 27, 28, 29, 2, 182, 1, 23, 42]
abbrev dktX9_move_3 : List UInt8 := dkwX9_move_3 ++ dktX9_move_4
def dkwX9_move_2 : List UInt8 := [21, 5, 160, 0, 7, 5, 167, 0, 22, 42, 180, 0, 34, 27, 28, 29, 184, 0, 158, 46, 154, 0, 7, 6]
abbrev dktX9_move_2 : List UInt8 := dkwX9_move_2 ++ dktX9_move_3
def dkwX9_move_1 : List UInt8 := [167, 0, 4, 3, 54, 6, 42, 21, 6, 154, 0, 7, 3, 167, 0, 38, 28, 21, 4, 160, 0, 13, 29]
abbrev dktX9_move_1 : List UInt8 := dkwX9_move_1 ++ dktX9_move_2
def dkwX9_move_0 : List UInt8 := [42, 27, 28, 29, 182, 1, 11, 153, 0, 19, 42, 27, 21, 4, 21, 5, 182, 1, 11, 153, 0, 7, 4]
abbrev dktX9_move_0 : List UInt8 := dkwX9_move_0 ++ dktX9_move_1
theorem dksX9_move_0 : cX9_move.data.toList.drop 0 = dktX9_move_0 := by decide +kernel
theorem dksX9_move_1 : cX9_move.data.toList.drop 23 = dktX9_move_1 := dk_seg dksX9_move_0 23 rfl rfl
theorem dksX9_move_2 : cX9_move.data.toList.drop 46 = dktX9_move_2 := dk_seg dksX9_move_1 23 rfl rfl
theorem dksX9_move_3 : cX9_move.data.toList.drop 70 = dktX9_move_3 := dk_seg dksX9_move_2 24 rfl rfl
theorem dksX9_move_4 : cX9_move.data.toList.drop 94 = dktX9_move_4 := dk_seg dksX9_move_3 24 rfl rfl
theorem dX9_move_0 : decode cX9_move 0 = .ok (.aload_n 0, 1) := dk_42 (dk_at dksX9_move_0 0 rfl rfl)
theorem dX9_move_1 : decode cX9_move 1 = .ok (.iload_n 1, 1) := dk_27 (dk_at dksX9_move_0 1 rfl rfl)
theorem dX9_move_2 : decode cX9_move 2 = .ok (.iload_n 2, 1) := dk_28 (dk_at dksX9_move_0 2 rfl rfl)
theorem dX9_move_3 : decode cX9_move 3 = .ok (.iload_n 3, 1) := dk_29 (dk_at dksX9_move_0 3 rfl rfl)
theorem dX9_move_4 : decode cX9_move 4 = .ok (.invokevirtual 267, 3) := dk_182 1 11 (dk_at dksX9_move_0 4 rfl rfl)
theorem dX9_move_7 : decode cX9_move 7 = .ok (.ifCond .eq 19, 3) := dk_153 0 19 (dk_at dksX9_move_0 7 rfl rfl)
theorem dX9_move_10 : decode cX9_move 10 = .ok (.aload_n 0, 1) := dk_42 (dk_at dksX9_move_0 10 rfl rfl)
theorem dX9_move_11 : decode cX9_move 11 = .ok (.iload_n 1, 1) := dk_27 (dk_at dksX9_move_0 11 rfl rfl)
theorem dX9_move_12 : decode cX9_move 12 = .ok (.iload 4, 2) := dk_21 4 (dk_at dksX9_move_0 12 rfl rfl)
theorem dX9_move_14 : decode cX9_move 14 = .ok (.iload 5, 2) := dk_21 5 (dk_at dksX9_move_0 14 rfl rfl)
theorem dX9_move_16 : decode cX9_move 16 = .ok (.invokevirtual 267, 3) := dk_182 1 11 (dk_at dksX9_move_0 16 rfl rfl)
theorem dX9_move_19 : decode cX9_move 19 = .ok (.ifCond .eq 7, 3) := dk_153 0 7 (dk_at dksX9_move_0 19 rfl rfl)
theorem dX9_move_22 : decode cX9_move 22 = .ok (.iconst 1, 1) := dk_4 (dk_at dksX9_move_0 22 rfl rfl)
theorem dX9_move_23 : decode cX9_move 23 = .ok (.goto 4, 3) := dk_167 0 4 (dk_at dksX9_move_1 0 rfl rfl)
theorem dX9_move_26 : decode cX9_move 26 = .ok (.iconst 0, 1) := dk_3 (dk_at dksX9_move_1 3 rfl rfl)
theorem dX9_move_27 : decode cX9_move 27 = .ok (.istore 6, 2) := dk_54 6 (dk_at dksX9_move_1 4 rfl rfl)
theorem dX9_move_29 : decode cX9_move 29 = .ok (.aload_n 0, 1) := dk_42 (dk_at dksX9_move_1 6 rfl rfl)
theorem dX9_move_30 : decode cX9_move 30 = .ok (.iload 6, 2) := dk_21 6 (dk_at dksX9_move_1 7 rfl rfl)
theorem dX9_move_32 : decode cX9_move 32 = .ok (.ifCond .ne 7, 3) := dk_154 0 7 (dk_at dksX9_move_1 9 rfl rfl)
theorem dX9_move_35 : decode cX9_move 35 = .ok (.iconst 0, 1) := dk_3 (dk_at dksX9_move_1 12 rfl rfl)
theorem dX9_move_36 : decode cX9_move 36 = .ok (.goto 38, 3) := dk_167 0 38 (dk_at dksX9_move_1 13 rfl rfl)
theorem dX9_move_39 : decode cX9_move 39 = .ok (.iload_n 2, 1) := dk_28 (dk_at dksX9_move_1 16 rfl rfl)
theorem dX9_move_40 : decode cX9_move 40 = .ok (.iload 4, 2) := dk_21 4 (dk_at dksX9_move_1 17 rfl rfl)
theorem dX9_move_42 : decode cX9_move 42 = .ok (.if_icmp .ne 13, 3) := dk_160 0 13 (dk_at dksX9_move_1 19 rfl rfl)
theorem dX9_move_45 : decode cX9_move 45 = .ok (.iload_n 3, 1) := dk_29 (dk_at dksX9_move_1 22 rfl rfl)
theorem dX9_move_46 : decode cX9_move 46 = .ok (.iload 5, 2) := dk_21 5 (dk_at dksX9_move_2 0 rfl rfl)
theorem dX9_move_48 : decode cX9_move 48 = .ok (.if_icmp .ne 7, 3) := dk_160 0 7 (dk_at dksX9_move_2 2 rfl rfl)
theorem dX9_move_51 : decode cX9_move 51 = .ok (.iconst 2, 1) := dk_5 (dk_at dksX9_move_2 5 rfl rfl)
theorem dX9_move_52 : decode cX9_move 52 = .ok (.goto 22, 3) := dk_167 0 22 (dk_at dksX9_move_2 6 rfl rfl)
theorem dX9_move_55 : decode cX9_move 55 = .ok (.aload_n 0, 1) := dk_42 (dk_at dksX9_move_2 9 rfl rfl)
theorem dX9_move_56 : decode cX9_move 56 = .ok (.getfield 34, 3) := dk_180 0 34 (dk_at dksX9_move_2 10 rfl rfl)
theorem dX9_move_59 : decode cX9_move 59 = .ok (.iload_n 1, 1) := dk_27 (dk_at dksX9_move_2 13 rfl rfl)
theorem dX9_move_60 : decode cX9_move 60 = .ok (.iload_n 2, 1) := dk_28 (dk_at dksX9_move_2 14 rfl rfl)
theorem dX9_move_61 : decode cX9_move 61 = .ok (.iload_n 3, 1) := dk_29 (dk_at dksX9_move_2 15 rfl rfl)
theorem dX9_move_62 : decode cX9_move 62 = .ok (.invokestatic 158, 3) := dk_184 0 158 (dk_at dksX9_move_2 16 rfl rfl)
theorem dX9_move_65 : decode cX9_move 65 = .ok (.iaload, 1) := dk_46 (dk_at dksX9_move_2 19 rfl rfl)
theorem dX9_move_66 : decode cX9_move 66 = .ok (.ifCond .ne 7, 3) := dk_154 0 7 (dk_at dksX9_move_2 20 rfl rfl)
theorem dX9_move_69 : decode cX9_move 69 = .ok (.iconst 3, 1) := dk_6 (dk_at dksX9_move_2 23 rfl rfl)
theorem dX9_move_70 : decode cX9_move 70 = .ok (.goto 4, 3) := dk_167 0 4 (dk_at dksX9_move_3 0 rfl rfl)
theorem dX9_move_73 : decode cX9_move 73 = .ok (.iconst (-1), 1) := dk_2 (dk_at dksX9_move_3 3 rfl rfl)
theorem dX9_move_74 : decode cX9_move 74 = .ok (.iconst 2, 1) := dk_5 (dk_at dksX9_move_3 4 rfl rfl)
theorem dX9_move_75 : decode cX9_move 75 = .ok (.iload_n 1, 1) := dk_27 (dk_at dksX9_move_3 5 rfl rfl)
theorem dX9_move_76 : decode cX9_move 76 = .ok (.iconst 1, 1) := dk_4 (dk_at dksX9_move_3 6 rfl rfl)
theorem dX9_move_77 : decode cX9_move 77 = .ok (.invokevirtual 275, 3) := dk_182 1 19 (dk_at dksX9_move_3 7 rfl rfl)
theorem dX9_move_80 : decode cX9_move 80 = .ok (.ifCond .eq 5, 3) := dk_153 0 5 (dk_at dksX9_move_3 10 rfl rfl)
theorem dX9_move_83 : decode cX9_move 83 = .ok (.iconst (-1), 1) := dk_2 (dk_at dksX9_move_3 13 rfl rfl)
theorem dX9_move_84 : decode cX9_move 84 = .ok (.ireturn, 1) := dk_172 (dk_at dksX9_move_3 14 rfl rfl)
theorem dX9_move_85 : decode cX9_move 85 = .ok (.aload_n 0, 1) := dk_42 (dk_at dksX9_move_3 15 rfl rfl)
theorem dX9_move_86 : decode cX9_move 86 = .ok (.iload_n 1, 1) := dk_27 (dk_at dksX9_move_3 16 rfl rfl)
theorem dX9_move_87 : decode cX9_move 87 = .ok (.iload_n 2, 1) := dk_28 (dk_at dksX9_move_3 17 rfl rfl)
theorem dX9_move_88 : decode cX9_move 88 = .ok (.iload_n 3, 1) := dk_29 (dk_at dksX9_move_3 18 rfl rfl)
theorem dX9_move_89 : decode cX9_move 89 = .ok (.iconst (-1), 1) := dk_2 (dk_at dksX9_move_3 19 rfl rfl)
theorem dX9_move_90 : decode cX9_move 90 = .ok (.invokevirtual 279, 3) := dk_182 1 23 (dk_at dksX9_move_3 20 rfl rfl)
theorem dX9_move_93 : decode cX9_move 93 = .ok (.aload_n 0, 1) := dk_42 (dk_at dksX9_move_3 23 rfl rfl)
theorem dX9_move_94 : decode cX9_move 94 = .ok (.iload_n 1, 1) := dk_27 (dk_at dksX9_move_4 0 rfl rfl)
theorem dX9_move_95 : decode cX9_move 95 = .ok (.iload 4, 2) := dk_21 4 (dk_at dksX9_move_4 1 rfl rfl)
theorem dX9_move_97 : decode cX9_move 97 = .ok (.iload 5, 2) := dk_21 5 (dk_at dksX9_move_4 3 rfl rfl)
theorem dX9_move_99 : decode cX9_move 99 = .ok (.iconst 1, 1) := dk_4 (dk_at dksX9_move_4 5 rfl rfl)
theorem dX9_move_100 : decode cX9_move 100 = .ok (.invokevirtual 279, 3) := dk_182 1 23 (dk_at dksX9_move_4 6 rfl rfl)
theorem dX9_move_103 : decode cX9_move 103 = .ok (.aload_n 0, 1) := dk_42 (dk_at dksX9_move_4 9 rfl rfl)
theorem dX9_move_104 : decode cX9_move 104 = .ok (.getfield 34, 3) := dk_180 0 34 (dk_at dksX9_move_4 10 rfl rfl)
theorem dX9_move_107 : decode cX9_move 107 = .ok (.iload_n 1, 1) := dk_27 (dk_at dksX9_move_4 13 rfl rfl)
theorem dX9_move_108 : decode cX9_move 108 = .ok (.iload 4, 2) := dk_21 4 (dk_at dksX9_move_4 14 rfl rfl)
theorem dX9_move_110 : decode cX9_move 110 = .ok (.iload 5, 2) := dk_21 5 (dk_at dksX9_move_4 16 rfl rfl)
theorem dX9_move_112 : decode cX9_move 112 = .ok (.invokestatic 158, 3) := dk_184 0 158 (dk_at dksX9_move_4 18 rfl rfl)
theorem dX9_move_115 : decode cX9_move 115 = .ok (.iaload, 1) := dk_46 (dk_at dksX9_move_4 21 rfl rfl)
theorem dX9_move_116 : decode cX9_move 116 = .ok (.ireturn, 1) := dk_172 (dk_at dksX9_move_4 22 rfl rfl)
abbrev cX9_build : ByteArray := prog_28_method_69_code
def yX9_build : MethodName := ⟨RX9, "build", "(II)I"⟩
def dkwX9_build_1 : List UInt8 := [42, 27, 28, 182, 0, 238, 172]
abbrev dktX9_build_1 : List UInt8 := dkwX9_build_1 ++ []
def dkwX9_build_0 : List UInt8 := [42, 42, 27, 28, 182, 1, 29, 6, 27, 28, 182, 1, 19, 153, 0, 5, 2, 172, 42, 27, 28, 182, 0, 209]
abbrev dktX9_build_0 : List UInt8 := dkwX9_build_0 ++ dktX9_build_1
theorem dksX9_build_0 : cX9_build.data.toList.drop 0 = dktX9_build_0 := by decide +kernel
theorem dksX9_build_1 : cX9_build.data.toList.drop 24 = dktX9_build_1 := dk_seg dksX9_build_0 24 rfl rfl
theorem dX9_build_0 : decode cX9_build 0 = .ok (.aload_n 0, 1) := dk_42 (dk_at dksX9_build_0 0 rfl rfl)
theorem dX9_build_1 : decode cX9_build 1 = .ok (.aload_n 0, 1) := dk_42 (dk_at dksX9_build_0 1 rfl rfl)
theorem dX9_build_2 : decode cX9_build 2 = .ok (.iload_n 1, 1) := dk_27 (dk_at dksX9_build_0 2 rfl rfl)
theorem dX9_build_3 : decode cX9_build 3 = .ok (.iload_n 2, 1) := dk_28 (dk_at dksX9_build_0 3 rfl rfl)
theorem dX9_build_4 : decode cX9_build 4 = .ok (.invokevirtual 285, 3) := dk_182 1 29 (dk_at dksX9_build_0 4 rfl rfl)
theorem dX9_build_7 : decode cX9_build 7 = .ok (.iconst 3, 1) := dk_6 (dk_at dksX9_build_0 7 rfl rfl)
theorem dX9_build_8 : decode cX9_build 8 = .ok (.iload_n 1, 1) := dk_27 (dk_at dksX9_build_0 8 rfl rfl)
theorem dX9_build_9 : decode cX9_build 9 = .ok (.iload_n 2, 1) := dk_28 (dk_at dksX9_build_0 9 rfl rfl)
theorem dX9_build_10 : decode cX9_build 10 = .ok (.invokevirtual 275, 3) := dk_182 1 19 (dk_at dksX9_build_0 10 rfl rfl)
theorem dX9_build_13 : decode cX9_build 13 = .ok (.ifCond .eq 5, 3) := dk_153 0 5 (dk_at dksX9_build_0 13 rfl rfl)
theorem dX9_build_16 : decode cX9_build 16 = .ok (.iconst (-1), 1) := dk_2 (dk_at dksX9_build_0 16 rfl rfl)
theorem dX9_build_17 : decode cX9_build 17 = .ok (.ireturn, 1) := dk_172 (dk_at dksX9_build_0 17 rfl rfl)
theorem dX9_build_18 : decode cX9_build 18 = .ok (.aload_n 0, 1) := dk_42 (dk_at dksX9_build_0 18 rfl rfl)
theorem dX9_build_19 : decode cX9_build 19 = .ok (.iload_n 1, 1) := dk_27 (dk_at dksX9_build_0 19 rfl rfl)
theorem dX9_build_20 : decode cX9_build 20 = .ok (.iload_n 2, 1) := dk_28 (dk_at dksX9_build_0 20 rfl rfl)
theorem dX9_build_21 : decode cX9_build 21 = .ok (.invokevirtual 209, 3) := dk_182 0 209 (dk_at dksX9_build_0 21 rfl rfl)
theorem dX9_build_24 : decode cX9_build 24 = .ok (.aload_n 0, 1) := dk_42 (dk_at dksX9_build_1 0 rfl rfl)
theorem dX9_build_25 : decode cX9_build 25 = .ok (.iload_n 1, 1) := dk_27 (dk_at dksX9_build_1 1 rfl rfl)
theorem dX9_build_26 : decode cX9_build 26 = .ok (.iload_n 2, 1) := dk_28 (dk_at dksX9_build_1 2 rfl rfl)
theorem dX9_build_27 : decode cX9_build 27 = .ok (.invokevirtual 238, 3) := dk_182 0 238 (dk_at dksX9_build_1 3 rfl rfl)
theorem dX9_build_30 : decode cX9_build 30 = .ok (.ireturn, 1) := dk_172 (dk_at dksX9_build_1 6 rfl rfl)
abbrev cX9_whyBuild : ByteArray := prog_28_method_65_code
def yX9_whyBuild : MethodName := ⟨RX9, "whyBuild", "(II)I"⟩
def dkwX9_whyBuild_1 : List UInt8 := [154, 0, 7, 5, 167, 0, 4, 2, 172]
abbrev dktX9_whyBuild_1 : List UInt8 := dkwX9_whyBuild_1 ++ []
def dkwX9_whyBuild_0 : List UInt8 := [42, 27, 28, 182, 0, 235, 154, 0, 7, 3, 167, 0, 21, 42, 180, 0, 34, 27, 28, 184, 0, 199, 46]
abbrev dktX9_whyBuild_0 : List UInt8 := dkwX9_whyBuild_0 ++ dktX9_whyBuild_1
theorem dksX9_whyBuild_0 : cX9_whyBuild.data.toList.drop 0 = dktX9_whyBuild_0 := by decide +kernel
theorem dksX9_whyBuild_1 : cX9_whyBuild.data.toList.drop 23 = dktX9_whyBuild_1 := dk_seg dksX9_whyBuild_0 23 rfl rfl
theorem dX9_whyBuild_0 : decode cX9_whyBuild 0 = .ok (.aload_n 0, 1) := dk_42 (dk_at dksX9_whyBuild_0 0 rfl rfl)
theorem dX9_whyBuild_1 : decode cX9_whyBuild 1 = .ok (.iload_n 1, 1) := dk_27 (dk_at dksX9_whyBuild_0 1 rfl rfl)
theorem dX9_whyBuild_2 : decode cX9_whyBuild 2 = .ok (.iload_n 2, 1) := dk_28 (dk_at dksX9_whyBuild_0 2 rfl rfl)
theorem dX9_whyBuild_3 : decode cX9_whyBuild 3 = .ok (.invokevirtual 235, 3) := dk_182 0 235 (dk_at dksX9_whyBuild_0 3 rfl rfl)
theorem dX9_whyBuild_6 : decode cX9_whyBuild 6 = .ok (.ifCond .ne 7, 3) := dk_154 0 7 (dk_at dksX9_whyBuild_0 6 rfl rfl)
theorem dX9_whyBuild_9 : decode cX9_whyBuild 9 = .ok (.iconst 0, 1) := dk_3 (dk_at dksX9_whyBuild_0 9 rfl rfl)
theorem dX9_whyBuild_10 : decode cX9_whyBuild 10 = .ok (.goto 21, 3) := dk_167 0 21 (dk_at dksX9_whyBuild_0 10 rfl rfl)
theorem dX9_whyBuild_13 : decode cX9_whyBuild 13 = .ok (.aload_n 0, 1) := dk_42 (dk_at dksX9_whyBuild_0 13 rfl rfl)
theorem dX9_whyBuild_14 : decode cX9_whyBuild 14 = .ok (.getfield 34, 3) := dk_180 0 34 (dk_at dksX9_whyBuild_0 14 rfl rfl)
theorem dX9_whyBuild_17 : decode cX9_whyBuild 17 = .ok (.iload_n 1, 1) := dk_27 (dk_at dksX9_whyBuild_0 17 rfl rfl)
theorem dX9_whyBuild_18 : decode cX9_whyBuild 18 = .ok (.iload_n 2, 1) := dk_28 (dk_at dksX9_whyBuild_0 18 rfl rfl)
theorem dX9_whyBuild_19 : decode cX9_whyBuild 19 = .ok (.invokestatic 199, 3) := dk_184 0 199 (dk_at dksX9_whyBuild_0 19 rfl rfl)
theorem dX9_whyBuild_22 : decode cX9_whyBuild 22 = .ok (.iaload, 1) := dk_46 (dk_at dksX9_whyBuild_0 22 rfl rfl)
theorem dX9_whyBuild_23 : decode cX9_whyBuild 23 = .ok (.ifCond .ne 7, 3) := dk_154 0 7 (dk_at dksX9_whyBuild_1 0 rfl rfl)
theorem dX9_whyBuild_26 : decode cX9_whyBuild 26 = .ok (.iconst 2, 1) := dk_5 (dk_at dksX9_whyBuild_1 3 rfl rfl)
theorem dX9_whyBuild_27 : decode cX9_whyBuild 27 = .ok (.goto 4, 3) := dk_167 0 4 (dk_at dksX9_whyBuild_1 4 rfl rfl)
theorem dX9_whyBuild_30 : decode cX9_whyBuild 30 = .ok (.iconst (-1), 1) := dk_2 (dk_at dksX9_whyBuild_1 7 rfl rfl)
theorem dX9_whyBuild_31 : decode cX9_whyBuild 31 = .ok (.ireturn, 1) := dk_172 (dk_at dksX9_whyBuild_1 8 rfl rfl)
abbrev cX9_budget : ByteArray := prog_28_method_70_code
def yX9_budget : MethodName := ⟨RX9, "budget", "(I)I"⟩
def dkwX9_budget_3 : List UInt8 := [27, 79, 28, 172]
abbrev dktX9_budget_3 : List UInt8 := dkwX9_budget_3 ++ []
def dkwX9_budget_2 : List UInt8 := [182, 1, 19, 153, 0, 5, 2, 172, 42, 180, 0, 34, 17, 4, 47, 46, 61, 42, 180, 0, 34, 17, 4, 47]
abbrev dktX9_budget_2 : List UInt8 := dkwX9_budget_2 ++ dktX9_budget_3
def dkwX9_budget_1 : List UInt8 := [4, 167, 0, 20, 42, 180, 0, 34, 17, 4, 47, 46, 27, 160, 0, 7, 5, 167, 0, 4, 2, 7, 2, 27]
abbrev dktX9_budget_1 : List UInt8 := dkwX9_budget_1 ++ dktX9_budget_2
def dkwX9_budget_0 : List UInt8 := [42, 42, 182, 0, 225, 154, 0, 7, 3, 167, 0, 36, 27, 133, 10, 20, 1, 32, 184, 0, 77, 154, 0, 7]
abbrev dktX9_budget_0 : List UInt8 := dkwX9_budget_0 ++ dktX9_budget_1
theorem dksX9_budget_0 : cX9_budget.data.toList.drop 0 = dktX9_budget_0 := by decide +kernel
theorem dksX9_budget_1 : cX9_budget.data.toList.drop 24 = dktX9_budget_1 := dk_seg dksX9_budget_0 24 rfl rfl
theorem dksX9_budget_2 : cX9_budget.data.toList.drop 48 = dktX9_budget_2 := dk_seg dksX9_budget_1 24 rfl rfl
theorem dksX9_budget_3 : cX9_budget.data.toList.drop 72 = dktX9_budget_3 := dk_seg dksX9_budget_2 24 rfl rfl
theorem dX9_budget_0 : decode cX9_budget 0 = .ok (.aload_n 0, 1) := dk_42 (dk_at dksX9_budget_0 0 rfl rfl)
theorem dX9_budget_1 : decode cX9_budget 1 = .ok (.aload_n 0, 1) := dk_42 (dk_at dksX9_budget_0 1 rfl rfl)
theorem dX9_budget_2 : decode cX9_budget 2 = .ok (.invokevirtual 225, 3) := dk_182 0 225 (dk_at dksX9_budget_0 2 rfl rfl)
theorem dX9_budget_5 : decode cX9_budget 5 = .ok (.ifCond .ne 7, 3) := dk_154 0 7 (dk_at dksX9_budget_0 5 rfl rfl)
theorem dX9_budget_8 : decode cX9_budget 8 = .ok (.iconst 0, 1) := dk_3 (dk_at dksX9_budget_0 8 rfl rfl)
theorem dX9_budget_9 : decode cX9_budget 9 = .ok (.goto 36, 3) := dk_167 0 36 (dk_at dksX9_budget_0 9 rfl rfl)
theorem dX9_budget_12 : decode cX9_budget 12 = .ok (.iload_n 1, 1) := dk_27 (dk_at dksX9_budget_0 12 rfl rfl)
theorem dX9_budget_13 : decode cX9_budget 13 = .ok (.i2l, 1) := dk_133 (dk_at dksX9_budget_0 13 rfl rfl)
theorem dX9_budget_14 : decode cX9_budget 14 = .ok (.lconst 1, 1) := dk_10 (dk_at dksX9_budget_0 14 rfl rfl)
theorem dX9_budget_15 : decode cX9_budget 15 = .ok (.ldc2_w 288, 3) := dk_20 1 32 (dk_at dksX9_budget_0 15 rfl rfl)
theorem dX9_budget_18 : decode cX9_budget 18 = .ok (.invokestatic 77, 3) := dk_184 0 77 (dk_at dksX9_budget_0 18 rfl rfl)
theorem dX9_budget_21 : decode cX9_budget 21 = .ok (.ifCond .ne 7, 3) := dk_154 0 7 (dk_at dksX9_budget_0 21 rfl rfl)
theorem dX9_budget_24 : decode cX9_budget 24 = .ok (.iconst 1, 1) := dk_4 (dk_at dksX9_budget_1 0 rfl rfl)
theorem dX9_budget_25 : decode cX9_budget 25 = .ok (.goto 20, 3) := dk_167 0 20 (dk_at dksX9_budget_1 1 rfl rfl)
theorem dX9_budget_28 : decode cX9_budget 28 = .ok (.aload_n 0, 1) := dk_42 (dk_at dksX9_budget_1 4 rfl rfl)
theorem dX9_budget_29 : decode cX9_budget 29 = .ok (.getfield 34, 3) := dk_180 0 34 (dk_at dksX9_budget_1 5 rfl rfl)
theorem dX9_budget_32 : decode cX9_budget 32 = .ok (.sipush 1071, 3) := dk_17 4 47 (dk_at dksX9_budget_1 8 rfl rfl)
theorem dX9_budget_35 : decode cX9_budget 35 = .ok (.iaload, 1) := dk_46 (dk_at dksX9_budget_1 11 rfl rfl)
theorem dX9_budget_36 : decode cX9_budget 36 = .ok (.iload_n 1, 1) := dk_27 (dk_at dksX9_budget_1 12 rfl rfl)
theorem dX9_budget_37 : decode cX9_budget 37 = .ok (.if_icmp .ne 7, 3) := dk_160 0 7 (dk_at dksX9_budget_1 13 rfl rfl)
theorem dX9_budget_40 : decode cX9_budget 40 = .ok (.iconst 2, 1) := dk_5 (dk_at dksX9_budget_1 16 rfl rfl)
theorem dX9_budget_41 : decode cX9_budget 41 = .ok (.goto 4, 3) := dk_167 0 4 (dk_at dksX9_budget_1 17 rfl rfl)
theorem dX9_budget_44 : decode cX9_budget 44 = .ok (.iconst (-1), 1) := dk_2 (dk_at dksX9_budget_1 20 rfl rfl)
theorem dX9_budget_45 : decode cX9_budget 45 = .ok (.iconst 4, 1) := dk_7 (dk_at dksX9_budget_1 21 rfl rfl)
theorem dX9_budget_46 : decode cX9_budget 46 = .ok (.iconst (-1), 1) := dk_2 (dk_at dksX9_budget_1 22 rfl rfl)
theorem dX9_budget_47 : decode cX9_budget 47 = .ok (.iload_n 1, 1) := dk_27 (dk_at dksX9_budget_1 23 rfl rfl)
theorem dX9_budget_48 : decode cX9_budget 48 = .ok (.invokevirtual 275, 3) := dk_182 1 19 (dk_at dksX9_budget_2 0 rfl rfl)
theorem dX9_budget_51 : decode cX9_budget 51 = .ok (.ifCond .eq 5, 3) := dk_153 0 5 (dk_at dksX9_budget_2 3 rfl rfl)
theorem dX9_budget_54 : decode cX9_budget 54 = .ok (.iconst (-1), 1) := dk_2 (dk_at dksX9_budget_2 6 rfl rfl)
theorem dX9_budget_55 : decode cX9_budget 55 = .ok (.ireturn, 1) := dk_172 (dk_at dksX9_budget_2 7 rfl rfl)
theorem dX9_budget_56 : decode cX9_budget 56 = .ok (.aload_n 0, 1) := dk_42 (dk_at dksX9_budget_2 8 rfl rfl)
theorem dX9_budget_57 : decode cX9_budget 57 = .ok (.getfield 34, 3) := dk_180 0 34 (dk_at dksX9_budget_2 9 rfl rfl)
theorem dX9_budget_60 : decode cX9_budget 60 = .ok (.sipush 1071, 3) := dk_17 4 47 (dk_at dksX9_budget_2 12 rfl rfl)
theorem dX9_budget_63 : decode cX9_budget 63 = .ok (.iaload, 1) := dk_46 (dk_at dksX9_budget_2 15 rfl rfl)
theorem dX9_budget_64 : decode cX9_budget 64 = .ok (.istore_n 2, 1) := dk_61 (dk_at dksX9_budget_2 16 rfl rfl)
theorem dX9_budget_65 : decode cX9_budget 65 = .ok (.aload_n 0, 1) := dk_42 (dk_at dksX9_budget_2 17 rfl rfl)
theorem dX9_budget_66 : decode cX9_budget 66 = .ok (.getfield 34, 3) := dk_180 0 34 (dk_at dksX9_budget_2 18 rfl rfl)
theorem dX9_budget_69 : decode cX9_budget 69 = .ok (.sipush 1071, 3) := dk_17 4 47 (dk_at dksX9_budget_2 21 rfl rfl)
theorem dX9_budget_72 : decode cX9_budget 72 = .ok (.iload_n 1, 1) := dk_27 (dk_at dksX9_budget_3 0 rfl rfl)
theorem dX9_budget_73 : decode cX9_budget 73 = .ok (.iastore, 1) := dk_79 (dk_at dksX9_budget_3 1 rfl rfl)
theorem dX9_budget_74 : decode cX9_budget 74 = .ok (.iload_n 2, 1) := dk_28 (dk_at dksX9_budget_3 2 rfl rfl)
theorem dX9_budget_75 : decode cX9_budget 75 = .ok (.ireturn, 1) := dk_172 (dk_at dksX9_budget_3 3 rfl rfl)
abbrev cX9_years : ByteArray := prog_28_method_74_code
def yX9_years : MethodName := ⟨RX9, "years", "(IJ)I"⟩
def dkwX9_years_2 : List UInt8 := [182, 1, 62, 172]
abbrev dktX9_years_2 : List UInt8 := dkwX9_years_2 ++ []
def dkwX9_years_1 : List UInt8 := [181, 1, 34, 3, 54, 4, 21, 4, 27, 162, 0, 13, 42, 182, 1, 59, 132, 4, 1, 167, 255, 243, 42]
abbrev dktX9_years_1 : List UInt8 := dkwX9_years_1 ++ dktX9_years_2
def dkwX9_years_0 : List UInt8 := [42, 182, 0, 225, 153, 0, 15, 27, 133, 10, 20, 1, 57, 184, 0, 77, 154, 0, 5, 2, 172, 42, 32]
abbrev dktX9_years_0 : List UInt8 := dkwX9_years_0 ++ dktX9_years_1
theorem dksX9_years_0 : cX9_years.data.toList.drop 0 = dktX9_years_0 := by decide +kernel
theorem dksX9_years_1 : cX9_years.data.toList.drop 23 = dktX9_years_1 := dk_seg dksX9_years_0 23 rfl rfl
theorem dksX9_years_2 : cX9_years.data.toList.drop 46 = dktX9_years_2 := dk_seg dksX9_years_1 23 rfl rfl
theorem dX9_years_0 : decode cX9_years 0 = .ok (.aload_n 0, 1) := dk_42 (dk_at dksX9_years_0 0 rfl rfl)
theorem dX9_years_1 : decode cX9_years 1 = .ok (.invokevirtual 225, 3) := dk_182 0 225 (dk_at dksX9_years_0 1 rfl rfl)
theorem dX9_years_4 : decode cX9_years 4 = .ok (.ifCond .eq 15, 3) := dk_153 0 15 (dk_at dksX9_years_0 4 rfl rfl)
theorem dX9_years_7 : decode cX9_years 7 = .ok (.iload_n 1, 1) := dk_27 (dk_at dksX9_years_0 7 rfl rfl)
theorem dX9_years_8 : decode cX9_years 8 = .ok (.i2l, 1) := dk_133 (dk_at dksX9_years_0 8 rfl rfl)
theorem dX9_years_9 : decode cX9_years 9 = .ok (.lconst 1, 1) := dk_10 (dk_at dksX9_years_0 9 rfl rfl)
theorem dX9_years_10 : decode cX9_years 10 = .ok (.ldc2_w 313, 3) := dk_20 1 57 (dk_at dksX9_years_0 10 rfl rfl)
theorem dX9_years_13 : decode cX9_years 13 = .ok (.invokestatic 77, 3) := dk_184 0 77 (dk_at dksX9_years_0 13 rfl rfl)
theorem dX9_years_16 : decode cX9_years 16 = .ok (.ifCond .ne 5, 3) := dk_154 0 5 (dk_at dksX9_years_0 16 rfl rfl)
theorem dX9_years_19 : decode cX9_years 19 = .ok (.iconst (-1), 1) := dk_2 (dk_at dksX9_years_0 19 rfl rfl)
theorem dX9_years_20 : decode cX9_years 20 = .ok (.ireturn, 1) := dk_172 (dk_at dksX9_years_0 20 rfl rfl)
theorem dX9_years_21 : decode cX9_years 21 = .ok (.aload_n 0, 1) := dk_42 (dk_at dksX9_years_0 21 rfl rfl)
theorem dX9_years_22 : decode cX9_years 22 = .ok (.lload_n 2, 1) := dk_32 (dk_at dksX9_years_0 22 rfl rfl)
theorem dX9_years_23 : decode cX9_years 23 = .ok (.putfield 290, 3) := dk_181 1 34 (dk_at dksX9_years_1 0 rfl rfl)
theorem dX9_years_26 : decode cX9_years 26 = .ok (.iconst 0, 1) := dk_3 (dk_at dksX9_years_1 3 rfl rfl)
theorem dX9_years_27 : decode cX9_years 27 = .ok (.istore 4, 2) := dk_54 4 (dk_at dksX9_years_1 4 rfl rfl)
theorem dX9_years_29 : decode cX9_years 29 = .ok (.iload 4, 2) := dk_21 4 (dk_at dksX9_years_1 6 rfl rfl)
theorem dX9_years_31 : decode cX9_years 31 = .ok (.iload_n 1, 1) := dk_27 (dk_at dksX9_years_1 8 rfl rfl)
theorem dX9_years_32 : decode cX9_years 32 = .ok (.if_icmp .ge 13, 3) := dk_162 0 13 (dk_at dksX9_years_1 9 rfl rfl)
theorem dX9_years_35 : decode cX9_years 35 = .ok (.aload_n 0, 1) := dk_42 (dk_at dksX9_years_1 12 rfl rfl)
theorem dX9_years_36 : decode cX9_years 36 = .ok (.invokevirtual 315, 3) := dk_182 1 59 (dk_at dksX9_years_1 13 rfl rfl)
theorem dX9_years_39 : decode cX9_years 39 = .ok (.iinc 4 1, 3) := dk_132 4 1 (dk_at dksX9_years_1 16 rfl rfl)
theorem dX9_years_42 : decode cX9_years 42 = .ok (.goto (-13), 3) := dk_167 255 243 (dk_at dksX9_years_1 19 rfl rfl)
theorem dX9_years_45 : decode cX9_years 45 = .ok (.aload_n 0, 1) := dk_42 (dk_at dksX9_years_1 22 rfl rfl)
theorem dX9_years_46 : decode cX9_years 46 = .ok (.invokevirtual 318, 3) := dk_182 1 62 (dk_at dksX9_years_2 0 rfl rfl)
theorem dX9_years_49 : decode cX9_years 49 = .ok (.ireturn, 1) := dk_172 (dk_at dksX9_years_2 3 rfl rfl)
abbrev cX9_drawYear : ByteArray := prog_28_method_73_code
def yX9_drawYear : MethodName := ⟨RX9, "drawYear", "()V"⟩
def dkwX9_drawYear_5 : List UInt8 := [28, 29, 21, 4, 21, 5, 182, 1, 54, 87, 177]
abbrev dktX9_drawYear_5 : List UInt8 := dkwX9_drawYear_5 ++ []
def dkwX9_drawYear_4 : List UInt8 := [182, 1, 51, 87, 27, 5, 160, 0, 28, 42, 28, 29, 21, 4, 21, 5, 182, 1, 26, 2, 160, 0, 14, 42]
abbrev dktX9_drawYear_4 : List UInt8 := dkwX9_drawYear_4 ++ dktX9_drawYear_5
def dkwX9_drawYear_3 : List UInt8 := [162, 0, 28, 42, 28, 29, 21, 4, 21, 5, 182, 1, 16, 2, 160, 0, 14, 42, 28, 29, 21, 4, 21, 5]
abbrev dktX9_drawYear_3 : List UInt8 := dkwX9_drawYear_3 ++ dktX9_drawYear_4
def dkwX9_drawYear_2 : List UInt8 := [182, 1, 48, 62, 42, 28, 182, 1, 48, 54, 4, 42, 8, 182, 1, 42, 4, 96, 54, 5, 27, 5]
abbrev dktX9_drawYear_2 : List UInt8 := dkwX9_drawYear_2 ++ dktX9_drawYear_3
def dkwX9_drawYear_1 : List UInt8 := [182, 1, 42, 62, 42, 28, 29, 182, 1, 29, 2, 160, 0, 10, 42, 28, 29, 182, 1, 45, 87, 177, 42, 28]
abbrev dktX9_drawYear_1 : List UInt8 := dkwX9_drawYear_1 ++ dktX9_drawYear_2
def dkwX9_drawYear_0 : List UInt8 := [42, 7, 182, 1, 42, 60, 42, 42, 180, 0, 150, 182, 1, 42, 61, 27, 6, 160, 0, 27, 42, 5]
abbrev dktX9_drawYear_0 : List UInt8 := dkwX9_drawYear_0 ++ dktX9_drawYear_1
theorem dksX9_drawYear_0 : cX9_drawYear.data.toList.drop 0 = dktX9_drawYear_0 := by decide +kernel
theorem dksX9_drawYear_1 : cX9_drawYear.data.toList.drop 22 = dktX9_drawYear_1 := dk_seg dksX9_drawYear_0 22 rfl rfl
theorem dksX9_drawYear_2 : cX9_drawYear.data.toList.drop 46 = dktX9_drawYear_2 := dk_seg dksX9_drawYear_1 24 rfl rfl
theorem dksX9_drawYear_3 : cX9_drawYear.data.toList.drop 68 = dktX9_drawYear_3 := dk_seg dksX9_drawYear_2 22 rfl rfl
theorem dksX9_drawYear_4 : cX9_drawYear.data.toList.drop 92 = dktX9_drawYear_4 := dk_seg dksX9_drawYear_3 24 rfl rfl
theorem dksX9_drawYear_5 : cX9_drawYear.data.toList.drop 116 = dktX9_drawYear_5 := dk_seg dksX9_drawYear_4 24 rfl rfl
theorem dX9_drawYear_0 : decode cX9_drawYear 0 = .ok (.aload_n 0, 1) := dk_42 (dk_at dksX9_drawYear_0 0 rfl rfl)
theorem dX9_drawYear_1 : decode cX9_drawYear 1 = .ok (.iconst 4, 1) := dk_7 (dk_at dksX9_drawYear_0 1 rfl rfl)
theorem dX9_drawYear_2 : decode cX9_drawYear 2 = .ok (.invokevirtual 298, 3) := dk_182 1 42 (dk_at dksX9_drawYear_0 2 rfl rfl)
theorem dX9_drawYear_5 : decode cX9_drawYear 5 = .ok (.istore_n 1, 1) := dk_60 (dk_at dksX9_drawYear_0 5 rfl rfl)
theorem dX9_drawYear_6 : decode cX9_drawYear 6 = .ok (.aload_n 0, 1) := dk_42 (dk_at dksX9_drawYear_0 6 rfl rfl)
theorem dX9_drawYear_7 : decode cX9_drawYear 7 = .ok (.aload_n 0, 1) := dk_42 (dk_at dksX9_drawYear_0 7 rfl rfl)
theorem dX9_drawYear_8 : decode cX9_drawYear 8 = .ok (.getfield 150, 3) := dk_180 0 150 (dk_at dksX9_drawYear_0 8 rfl rfl)
theorem dX9_drawYear_11 : decode cX9_drawYear 11 = .ok (.invokevirtual 298, 3) := dk_182 1 42 (dk_at dksX9_drawYear_0 11 rfl rfl)
theorem dX9_drawYear_14 : decode cX9_drawYear 14 = .ok (.istore_n 2, 1) := dk_61 (dk_at dksX9_drawYear_0 14 rfl rfl)
theorem dX9_drawYear_15 : decode cX9_drawYear 15 = .ok (.iload_n 1, 1) := dk_27 (dk_at dksX9_drawYear_0 15 rfl rfl)
theorem dX9_drawYear_16 : decode cX9_drawYear 16 = .ok (.iconst 3, 1) := dk_6 (dk_at dksX9_drawYear_0 16 rfl rfl)
theorem dX9_drawYear_17 : decode cX9_drawYear 17 = .ok (.if_icmp .ne 27, 3) := dk_160 0 27 (dk_at dksX9_drawYear_0 17 rfl rfl)
theorem dX9_drawYear_20 : decode cX9_drawYear 20 = .ok (.aload_n 0, 1) := dk_42 (dk_at dksX9_drawYear_0 20 rfl rfl)
theorem dX9_drawYear_21 : decode cX9_drawYear 21 = .ok (.iconst 2, 1) := dk_5 (dk_at dksX9_drawYear_0 21 rfl rfl)
theorem dX9_drawYear_22 : decode cX9_drawYear 22 = .ok (.invokevirtual 298, 3) := dk_182 1 42 (dk_at dksX9_drawYear_1 0 rfl rfl)
theorem dX9_drawYear_25 : decode cX9_drawYear 25 = .ok (.istore_n 3, 1) := dk_62 (dk_at dksX9_drawYear_1 3 rfl rfl)
theorem dX9_drawYear_26 : decode cX9_drawYear 26 = .ok (.aload_n 0, 1) := dk_42 (dk_at dksX9_drawYear_1 4 rfl rfl)
theorem dX9_drawYear_27 : decode cX9_drawYear 27 = .ok (.iload_n 2, 1) := dk_28 (dk_at dksX9_drawYear_1 5 rfl rfl)
theorem dX9_drawYear_28 : decode cX9_drawYear 28 = .ok (.iload_n 3, 1) := dk_29 (dk_at dksX9_drawYear_1 6 rfl rfl)
theorem dX9_drawYear_29 : decode cX9_drawYear 29 = .ok (.invokevirtual 285, 3) := dk_182 1 29 (dk_at dksX9_drawYear_1 7 rfl rfl)
theorem dX9_drawYear_32 : decode cX9_drawYear 32 = .ok (.iconst (-1), 1) := dk_2 (dk_at dksX9_drawYear_1 10 rfl rfl)
theorem dX9_drawYear_33 : decode cX9_drawYear 33 = .ok (.if_icmp .ne 10, 3) := dk_160 0 10 (dk_at dksX9_drawYear_1 11 rfl rfl)
theorem dX9_drawYear_36 : decode cX9_drawYear 36 = .ok (.aload_n 0, 1) := dk_42 (dk_at dksX9_drawYear_1 14 rfl rfl)
theorem dX9_drawYear_37 : decode cX9_drawYear 37 = .ok (.iload_n 2, 1) := dk_28 (dk_at dksX9_drawYear_1 15 rfl rfl)
theorem dX9_drawYear_38 : decode cX9_drawYear 38 = .ok (.iload_n 3, 1) := dk_29 (dk_at dksX9_drawYear_1 16 rfl rfl)
theorem dX9_drawYear_39 : decode cX9_drawYear 39 = .ok (.invokevirtual 301, 3) := dk_182 1 45 (dk_at dksX9_drawYear_1 17 rfl rfl)
theorem dX9_drawYear_42 : decode cX9_drawYear 42 = .ok (.pop, 1) := dk_87 (dk_at dksX9_drawYear_1 20 rfl rfl)
theorem dX9_drawYear_43 : decode cX9_drawYear 43 = .ok (.return_, 1) := dk_177 (dk_at dksX9_drawYear_1 21 rfl rfl)
theorem dX9_drawYear_44 : decode cX9_drawYear 44 = .ok (.aload_n 0, 1) := dk_42 (dk_at dksX9_drawYear_1 22 rfl rfl)
theorem dX9_drawYear_45 : decode cX9_drawYear 45 = .ok (.iload_n 2, 1) := dk_28 (dk_at dksX9_drawYear_1 23 rfl rfl)
theorem dX9_drawYear_46 : decode cX9_drawYear 46 = .ok (.invokevirtual 304, 3) := dk_182 1 48 (dk_at dksX9_drawYear_2 0 rfl rfl)
theorem dX9_drawYear_49 : decode cX9_drawYear 49 = .ok (.istore_n 3, 1) := dk_62 (dk_at dksX9_drawYear_2 3 rfl rfl)
theorem dX9_drawYear_50 : decode cX9_drawYear 50 = .ok (.aload_n 0, 1) := dk_42 (dk_at dksX9_drawYear_2 4 rfl rfl)
theorem dX9_drawYear_51 : decode cX9_drawYear 51 = .ok (.iload_n 2, 1) := dk_28 (dk_at dksX9_drawYear_2 5 rfl rfl)
theorem dX9_drawYear_52 : decode cX9_drawYear 52 = .ok (.invokevirtual 304, 3) := dk_182 1 48 (dk_at dksX9_drawYear_2 6 rfl rfl)
theorem dX9_drawYear_55 : decode cX9_drawYear 55 = .ok (.istore 4, 2) := dk_54 4 (dk_at dksX9_drawYear_2 9 rfl rfl)
theorem dX9_drawYear_57 : decode cX9_drawYear 57 = .ok (.aload_n 0, 1) := dk_42 (dk_at dksX9_drawYear_2 11 rfl rfl)
theorem dX9_drawYear_58 : decode cX9_drawYear 58 = .ok (.iconst 5, 1) := dk_8 (dk_at dksX9_drawYear_2 12 rfl rfl)
theorem dX9_drawYear_59 : decode cX9_drawYear 59 = .ok (.invokevirtual 298, 3) := dk_182 1 42 (dk_at dksX9_drawYear_2 13 rfl rfl)
theorem dX9_drawYear_62 : decode cX9_drawYear 62 = .ok (.iconst 1, 1) := dk_4 (dk_at dksX9_drawYear_2 16 rfl rfl)
theorem dX9_drawYear_63 : decode cX9_drawYear 63 = .ok (.iadd, 1) := dk_96 (dk_at dksX9_drawYear_2 17 rfl rfl)
theorem dX9_drawYear_64 : decode cX9_drawYear 64 = .ok (.istore 5, 2) := dk_54 5 (dk_at dksX9_drawYear_2 18 rfl rfl)
theorem dX9_drawYear_66 : decode cX9_drawYear 66 = .ok (.iload_n 1, 1) := dk_27 (dk_at dksX9_drawYear_2 20 rfl rfl)
theorem dX9_drawYear_67 : decode cX9_drawYear 67 = .ok (.iconst 2, 1) := dk_5 (dk_at dksX9_drawYear_2 21 rfl rfl)
theorem dX9_drawYear_68 : decode cX9_drawYear 68 = .ok (.if_icmp .ge 28, 3) := dk_162 0 28 (dk_at dksX9_drawYear_3 0 rfl rfl)
theorem dX9_drawYear_71 : decode cX9_drawYear 71 = .ok (.aload_n 0, 1) := dk_42 (dk_at dksX9_drawYear_3 3 rfl rfl)
theorem dX9_drawYear_72 : decode cX9_drawYear 72 = .ok (.iload_n 2, 1) := dk_28 (dk_at dksX9_drawYear_3 4 rfl rfl)
theorem dX9_drawYear_73 : decode cX9_drawYear 73 = .ok (.iload_n 3, 1) := dk_29 (dk_at dksX9_drawYear_3 5 rfl rfl)
theorem dX9_drawYear_74 : decode cX9_drawYear 74 = .ok (.iload 4, 2) := dk_21 4 (dk_at dksX9_drawYear_3 6 rfl rfl)
theorem dX9_drawYear_76 : decode cX9_drawYear 76 = .ok (.iload 5, 2) := dk_21 5 (dk_at dksX9_drawYear_3 8 rfl rfl)
theorem dX9_drawYear_78 : decode cX9_drawYear 78 = .ok (.invokevirtual 272, 3) := dk_182 1 16 (dk_at dksX9_drawYear_3 10 rfl rfl)
theorem dX9_drawYear_81 : decode cX9_drawYear 81 = .ok (.iconst (-1), 1) := dk_2 (dk_at dksX9_drawYear_3 13 rfl rfl)
theorem dX9_drawYear_82 : decode cX9_drawYear 82 = .ok (.if_icmp .ne 14, 3) := dk_160 0 14 (dk_at dksX9_drawYear_3 14 rfl rfl)
theorem dX9_drawYear_85 : decode cX9_drawYear 85 = .ok (.aload_n 0, 1) := dk_42 (dk_at dksX9_drawYear_3 17 rfl rfl)
theorem dX9_drawYear_86 : decode cX9_drawYear 86 = .ok (.iload_n 2, 1) := dk_28 (dk_at dksX9_drawYear_3 18 rfl rfl)
theorem dX9_drawYear_87 : decode cX9_drawYear 87 = .ok (.iload_n 3, 1) := dk_29 (dk_at dksX9_drawYear_3 19 rfl rfl)
theorem dX9_drawYear_88 : decode cX9_drawYear 88 = .ok (.iload 4, 2) := dk_21 4 (dk_at dksX9_drawYear_3 20 rfl rfl)
theorem dX9_drawYear_90 : decode cX9_drawYear 90 = .ok (.iload 5, 2) := dk_21 5 (dk_at dksX9_drawYear_3 22 rfl rfl)
theorem dX9_drawYear_92 : decode cX9_drawYear 92 = .ok (.invokevirtual 307, 3) := dk_182 1 51 (dk_at dksX9_drawYear_4 0 rfl rfl)
theorem dX9_drawYear_95 : decode cX9_drawYear 95 = .ok (.pop, 1) := dk_87 (dk_at dksX9_drawYear_4 3 rfl rfl)
theorem dX9_drawYear_96 : decode cX9_drawYear 96 = .ok (.iload_n 1, 1) := dk_27 (dk_at dksX9_drawYear_4 4 rfl rfl)
theorem dX9_drawYear_97 : decode cX9_drawYear 97 = .ok (.iconst 2, 1) := dk_5 (dk_at dksX9_drawYear_4 5 rfl rfl)
theorem dX9_drawYear_98 : decode cX9_drawYear 98 = .ok (.if_icmp .ne 28, 3) := dk_160 0 28 (dk_at dksX9_drawYear_4 6 rfl rfl)
theorem dX9_drawYear_101 : decode cX9_drawYear 101 = .ok (.aload_n 0, 1) := dk_42 (dk_at dksX9_drawYear_4 9 rfl rfl)
theorem dX9_drawYear_102 : decode cX9_drawYear 102 = .ok (.iload_n 2, 1) := dk_28 (dk_at dksX9_drawYear_4 10 rfl rfl)
theorem dX9_drawYear_103 : decode cX9_drawYear 103 = .ok (.iload_n 3, 1) := dk_29 (dk_at dksX9_drawYear_4 11 rfl rfl)
theorem dX9_drawYear_104 : decode cX9_drawYear 104 = .ok (.iload 4, 2) := dk_21 4 (dk_at dksX9_drawYear_4 12 rfl rfl)
theorem dX9_drawYear_106 : decode cX9_drawYear 106 = .ok (.iload 5, 2) := dk_21 5 (dk_at dksX9_drawYear_4 14 rfl rfl)
theorem dX9_drawYear_108 : decode cX9_drawYear 108 = .ok (.invokevirtual 282, 3) := dk_182 1 26 (dk_at dksX9_drawYear_4 16 rfl rfl)
theorem dX9_drawYear_111 : decode cX9_drawYear 111 = .ok (.iconst (-1), 1) := dk_2 (dk_at dksX9_drawYear_4 19 rfl rfl)
theorem dX9_drawYear_112 : decode cX9_drawYear 112 = .ok (.if_icmp .ne 14, 3) := dk_160 0 14 (dk_at dksX9_drawYear_4 20 rfl rfl)
theorem dX9_drawYear_115 : decode cX9_drawYear 115 = .ok (.aload_n 0, 1) := dk_42 (dk_at dksX9_drawYear_4 23 rfl rfl)
theorem dX9_drawYear_116 : decode cX9_drawYear 116 = .ok (.iload_n 2, 1) := dk_28 (dk_at dksX9_drawYear_5 0 rfl rfl)
theorem dX9_drawYear_117 : decode cX9_drawYear 117 = .ok (.iload_n 3, 1) := dk_29 (dk_at dksX9_drawYear_5 1 rfl rfl)
theorem dX9_drawYear_118 : decode cX9_drawYear 118 = .ok (.iload 4, 2) := dk_21 4 (dk_at dksX9_drawYear_5 2 rfl rfl)
theorem dX9_drawYear_120 : decode cX9_drawYear 120 = .ok (.iload 5, 2) := dk_21 5 (dk_at dksX9_drawYear_5 4 rfl rfl)
theorem dX9_drawYear_122 : decode cX9_drawYear 122 = .ok (.invokevirtual 310, 3) := dk_182 1 54 (dk_at dksX9_drawYear_5 6 rfl rfl)
theorem dX9_drawYear_125 : decode cX9_drawYear 125 = .ok (.pop, 1) := dk_87 (dk_at dksX9_drawYear_5 9 rfl rfl)
theorem dX9_drawYear_126 : decode cX9_drawYear 126 = .ok (.return_, 1) := dk_177 (dk_at dksX9_drawYear_5 10 rfl rfl)
abbrev cX9_draw : ByteArray := prog_28_method_71_code
def yX9_draw : MethodName := ⟨RX9, "draw", "(I)I"⟩
def dkwX9_draw_1 : List UInt8 := [133, 113, 136, 172]
abbrev dktX9_draw_1 : List UInt8 := dkwX9_draw_1 ++ []
def dkwX9_draw_0 : List UInt8 := [42, 42, 180, 1, 34, 20, 1, 38, 105, 20, 1, 40, 97, 181, 1, 34, 42, 180, 1, 34, 16, 33, 125, 27]
abbrev dktX9_draw_0 : List UInt8 := dkwX9_draw_0 ++ dktX9_draw_1
theorem dksX9_draw_0 : cX9_draw.data.toList.drop 0 = dktX9_draw_0 := by decide +kernel
theorem dksX9_draw_1 : cX9_draw.data.toList.drop 24 = dktX9_draw_1 := dk_seg dksX9_draw_0 24 rfl rfl
theorem dX9_draw_0 : decode cX9_draw 0 = .ok (.aload_n 0, 1) := dk_42 (dk_at dksX9_draw_0 0 rfl rfl)
theorem dX9_draw_1 : decode cX9_draw 1 = .ok (.aload_n 0, 1) := dk_42 (dk_at dksX9_draw_0 1 rfl rfl)
theorem dX9_draw_2 : decode cX9_draw 2 = .ok (.getfield 290, 3) := dk_180 1 34 (dk_at dksX9_draw_0 2 rfl rfl)
theorem dX9_draw_5 : decode cX9_draw 5 = .ok (.ldc2_w 294, 3) := dk_20 1 38 (dk_at dksX9_draw_0 5 rfl rfl)
theorem dX9_draw_8 : decode cX9_draw 8 = .ok (.lmul, 1) := dk_105 (dk_at dksX9_draw_0 8 rfl rfl)
theorem dX9_draw_9 : decode cX9_draw 9 = .ok (.ldc2_w 296, 3) := dk_20 1 40 (dk_at dksX9_draw_0 9 rfl rfl)
theorem dX9_draw_12 : decode cX9_draw 12 = .ok (.ladd, 1) := dk_97 (dk_at dksX9_draw_0 12 rfl rfl)
theorem dX9_draw_13 : decode cX9_draw 13 = .ok (.putfield 290, 3) := dk_181 1 34 (dk_at dksX9_draw_0 13 rfl rfl)
theorem dX9_draw_16 : decode cX9_draw 16 = .ok (.aload_n 0, 1) := dk_42 (dk_at dksX9_draw_0 16 rfl rfl)
theorem dX9_draw_17 : decode cX9_draw 17 = .ok (.getfield 290, 3) := dk_180 1 34 (dk_at dksX9_draw_0 17 rfl rfl)
theorem dX9_draw_20 : decode cX9_draw 20 = .ok (.bipush 33, 2) := dk_16 33 (dk_at dksX9_draw_0 20 rfl rfl)
theorem dX9_draw_22 : decode cX9_draw 22 = .ok (.lushr, 1) := dk_125 (dk_at dksX9_draw_0 22 rfl rfl)
theorem dX9_draw_23 : decode cX9_draw 23 = .ok (.iload_n 1, 1) := dk_27 (dk_at dksX9_draw_0 23 rfl rfl)
theorem dX9_draw_24 : decode cX9_draw 24 = .ok (.i2l, 1) := dk_133 (dk_at dksX9_draw_1 0 rfl rfl)
theorem dX9_draw_25 : decode cX9_draw 25 = .ok (.lrem, 1) := dk_113 (dk_at dksX9_draw_1 1 rfl rfl)
theorem dX9_draw_26 : decode cX9_draw 26 = .ok (.l2i, 1) := dk_136 (dk_at dksX9_draw_1 2 rfl rfl)
theorem dX9_draw_27 : decode cX9_draw 27 = .ok (.ireturn, 1) := dk_172 (dk_at dksX9_draw_1 3 rfl rfl)
abbrev cX9_drawValue : ByteArray := prog_28_method_72_code
def yX9_drawValue : MethodName := ⟨RX9, "drawValue", "(I)I"⟩
def dkwX9_drawValue_1 : List UInt8 := [167, 0, 4, 28, 172]
abbrev dktX9_drawValue_1 : List UInt8 := dkwX9_drawValue_1 ++ []
def dkwX9_drawValue_0 : List UInt8 := [42, 42, 180, 0, 25, 27, 46, 4, 96, 182, 1, 42, 61, 28, 42, 180, 0, 25, 27, 46, 160, 0, 7, 2]
abbrev dktX9_drawValue_0 : List UInt8 := dkwX9_drawValue_0 ++ dktX9_drawValue_1
theorem dksX9_drawValue_0 : cX9_drawValue.data.toList.drop 0 = dktX9_drawValue_0 := by decide +kernel
theorem dksX9_drawValue_1 : cX9_drawValue.data.toList.drop 24 = dktX9_drawValue_1 := dk_seg dksX9_drawValue_0 24 rfl rfl
theorem dX9_drawValue_0 : decode cX9_drawValue 0 = .ok (.aload_n 0, 1) := dk_42 (dk_at dksX9_drawValue_0 0 rfl rfl)
theorem dX9_drawValue_1 : decode cX9_drawValue 1 = .ok (.aload_n 0, 1) := dk_42 (dk_at dksX9_drawValue_0 1 rfl rfl)
theorem dX9_drawValue_2 : decode cX9_drawValue 2 = .ok (.getfield 25, 3) := dk_180 0 25 (dk_at dksX9_drawValue_0 2 rfl rfl)
theorem dX9_drawValue_5 : decode cX9_drawValue 5 = .ok (.iload_n 1, 1) := dk_27 (dk_at dksX9_drawValue_0 5 rfl rfl)
theorem dX9_drawValue_6 : decode cX9_drawValue 6 = .ok (.iaload, 1) := dk_46 (dk_at dksX9_drawValue_0 6 rfl rfl)
theorem dX9_drawValue_7 : decode cX9_drawValue 7 = .ok (.iconst 1, 1) := dk_4 (dk_at dksX9_drawValue_0 7 rfl rfl)
theorem dX9_drawValue_8 : decode cX9_drawValue 8 = .ok (.iadd, 1) := dk_96 (dk_at dksX9_drawValue_0 8 rfl rfl)
theorem dX9_drawValue_9 : decode cX9_drawValue 9 = .ok (.invokevirtual 298, 3) := dk_182 1 42 (dk_at dksX9_drawValue_0 9 rfl rfl)
theorem dX9_drawValue_12 : decode cX9_drawValue 12 = .ok (.istore_n 2, 1) := dk_61 (dk_at dksX9_drawValue_0 12 rfl rfl)
theorem dX9_drawValue_13 : decode cX9_drawValue 13 = .ok (.iload_n 2, 1) := dk_28 (dk_at dksX9_drawValue_0 13 rfl rfl)
theorem dX9_drawValue_14 : decode cX9_drawValue 14 = .ok (.aload_n 0, 1) := dk_42 (dk_at dksX9_drawValue_0 14 rfl rfl)
theorem dX9_drawValue_15 : decode cX9_drawValue 15 = .ok (.getfield 25, 3) := dk_180 0 25 (dk_at dksX9_drawValue_0 15 rfl rfl)
theorem dX9_drawValue_18 : decode cX9_drawValue 18 = .ok (.iload_n 1, 1) := dk_27 (dk_at dksX9_drawValue_0 18 rfl rfl)
theorem dX9_drawValue_19 : decode cX9_drawValue 19 = .ok (.iaload, 1) := dk_46 (dk_at dksX9_drawValue_0 19 rfl rfl)
theorem dX9_drawValue_20 : decode cX9_drawValue 20 = .ok (.if_icmp .ne 7, 3) := dk_160 0 7 (dk_at dksX9_drawValue_0 20 rfl rfl)
theorem dX9_drawValue_23 : decode cX9_drawValue 23 = .ok (.iconst (-1), 1) := dk_2 (dk_at dksX9_drawValue_0 23 rfl rfl)
theorem dX9_drawValue_24 : decode cX9_drawValue 24 = .ok (.goto 4, 3) := dk_167 0 4 (dk_at dksX9_drawValue_1 0 rfl rfl)
theorem dX9_drawValue_27 : decode cX9_drawValue 27 = .ok (.iload_n 2, 1) := dk_28 (dk_at dksX9_drawValue_1 3 rfl rfl)
theorem dX9_drawValue_28 : decode cX9_drawValue 28 = .ok (.ireturn, 1) := dk_172 (dk_at dksX9_drawValue_1 4 rfl rfl)
abbrev cX9_rowsOfAll : ByteArray := prog_28_method_35_code
def yX9_rowsOfAll : MethodName := ⟨RX9, "rowsOfAll", "()I"⟩
def dkwX9_rowsOfAll_1 : List UInt8 := [167, 255, 237, 27, 172]
abbrev dktX9_rowsOfAll_1 : List UInt8 := dkwX9_rowsOfAll_1 ++ []
def dkwX9_rowsOfAll_0 : List UInt8 := [3, 60, 3, 61, 28, 42, 180, 0, 150, 162, 0, 17, 27, 42, 28, 182, 0, 161, 96, 60, 132, 2, 1]
abbrev dktX9_rowsOfAll_0 : List UInt8 := dkwX9_rowsOfAll_0 ++ dktX9_rowsOfAll_1
theorem dksX9_rowsOfAll_0 : cX9_rowsOfAll.data.toList.drop 0 = dktX9_rowsOfAll_0 := by decide +kernel
theorem dksX9_rowsOfAll_1 : cX9_rowsOfAll.data.toList.drop 23 = dktX9_rowsOfAll_1 := dk_seg dksX9_rowsOfAll_0 23 rfl rfl
theorem dX9_rowsOfAll_0 : decode cX9_rowsOfAll 0 = .ok (.iconst 0, 1) := dk_3 (dk_at dksX9_rowsOfAll_0 0 rfl rfl)
theorem dX9_rowsOfAll_1 : decode cX9_rowsOfAll 1 = .ok (.istore_n 1, 1) := dk_60 (dk_at dksX9_rowsOfAll_0 1 rfl rfl)
theorem dX9_rowsOfAll_2 : decode cX9_rowsOfAll 2 = .ok (.iconst 0, 1) := dk_3 (dk_at dksX9_rowsOfAll_0 2 rfl rfl)
theorem dX9_rowsOfAll_3 : decode cX9_rowsOfAll 3 = .ok (.istore_n 2, 1) := dk_61 (dk_at dksX9_rowsOfAll_0 3 rfl rfl)
theorem dX9_rowsOfAll_4 : decode cX9_rowsOfAll 4 = .ok (.iload_n 2, 1) := dk_28 (dk_at dksX9_rowsOfAll_0 4 rfl rfl)
theorem dX9_rowsOfAll_5 : decode cX9_rowsOfAll 5 = .ok (.aload_n 0, 1) := dk_42 (dk_at dksX9_rowsOfAll_0 5 rfl rfl)
theorem dX9_rowsOfAll_6 : decode cX9_rowsOfAll 6 = .ok (.getfield 150, 3) := dk_180 0 150 (dk_at dksX9_rowsOfAll_0 6 rfl rfl)
theorem dX9_rowsOfAll_9 : decode cX9_rowsOfAll 9 = .ok (.if_icmp .ge 17, 3) := dk_162 0 17 (dk_at dksX9_rowsOfAll_0 9 rfl rfl)
theorem dX9_rowsOfAll_12 : decode cX9_rowsOfAll 12 = .ok (.iload_n 1, 1) := dk_27 (dk_at dksX9_rowsOfAll_0 12 rfl rfl)
theorem dX9_rowsOfAll_13 : decode cX9_rowsOfAll 13 = .ok (.aload_n 0, 1) := dk_42 (dk_at dksX9_rowsOfAll_0 13 rfl rfl)
theorem dX9_rowsOfAll_14 : decode cX9_rowsOfAll 14 = .ok (.iload_n 2, 1) := dk_28 (dk_at dksX9_rowsOfAll_0 14 rfl rfl)
theorem dX9_rowsOfAll_15 : decode cX9_rowsOfAll 15 = .ok (.invokevirtual 161, 3) := dk_182 0 161 (dk_at dksX9_rowsOfAll_0 15 rfl rfl)
theorem dX9_rowsOfAll_18 : decode cX9_rowsOfAll 18 = .ok (.iadd, 1) := dk_96 (dk_at dksX9_rowsOfAll_0 18 rfl rfl)
theorem dX9_rowsOfAll_19 : decode cX9_rowsOfAll 19 = .ok (.istore_n 1, 1) := dk_60 (dk_at dksX9_rowsOfAll_0 19 rfl rfl)
theorem dX9_rowsOfAll_20 : decode cX9_rowsOfAll 20 = .ok (.iinc 2 1, 3) := dk_132 2 1 (dk_at dksX9_rowsOfAll_0 20 rfl rfl)
theorem dX9_rowsOfAll_23 : decode cX9_rowsOfAll 23 = .ok (.goto (-19), 3) := dk_167 255 237 (dk_at dksX9_rowsOfAll_1 0 rfl rfl)
theorem dX9_rowsOfAll_26 : decode cX9_rowsOfAll 26 = .ok (.iload_n 1, 1) := dk_27 (dk_at dksX9_rowsOfAll_1 3 rfl rfl)
theorem dX9_rowsOfAll_27 : decode cX9_rowsOfAll 27 = .ok (.ireturn, 1) := dk_172 (dk_at dksX9_rowsOfAll_1 4 rfl rfl)
abbrev cX9_status : ByteArray := prog_28_method_75_code
def yX9_status : MethodName := ⟨RX9, "status", "(I)I"⟩
def dkwX9_status_0 : List UInt8 := [27, 133, 9, 20, 1, 65, 184, 0, 77, 153, 0, 12, 42, 180, 0, 37, 27, 46, 167, 0, 4, 2, 172]
abbrev dktX9_status_0 : List UInt8 := dkwX9_status_0 ++ []
theorem dksX9_status_0 : cX9_status.data.toList.drop 0 = dktX9_status_0 := by decide +kernel
theorem dX9_status_0 : decode cX9_status 0 = .ok (.iload_n 1, 1) := dk_27 (dk_at dksX9_status_0 0 rfl rfl)
theorem dX9_status_1 : decode cX9_status 1 = .ok (.i2l, 1) := dk_133 (dk_at dksX9_status_0 1 rfl rfl)
theorem dX9_status_2 : decode cX9_status 2 = .ok (.lconst 0, 1) := dk_9 (dk_at dksX9_status_0 2 rfl rfl)
theorem dX9_status_3 : decode cX9_status 3 = .ok (.ldc2_w 321, 3) := dk_20 1 65 (dk_at dksX9_status_0 3 rfl rfl)
theorem dX9_status_6 : decode cX9_status 6 = .ok (.invokestatic 77, 3) := dk_184 0 77 (dk_at dksX9_status_0 6 rfl rfl)
theorem dX9_status_9 : decode cX9_status 9 = .ok (.ifCond .eq 12, 3) := dk_153 0 12 (dk_at dksX9_status_0 9 rfl rfl)
theorem dX9_status_12 : decode cX9_status 12 = .ok (.aload_n 0, 1) := dk_42 (dk_at dksX9_status_0 12 rfl rfl)
theorem dX9_status_13 : decode cX9_status 13 = .ok (.getfield 37, 3) := dk_180 0 37 (dk_at dksX9_status_0 13 rfl rfl)
theorem dX9_status_16 : decode cX9_status 16 = .ok (.iload_n 1, 1) := dk_27 (dk_at dksX9_status_0 16 rfl rfl)
theorem dX9_status_17 : decode cX9_status 17 = .ok (.iaload, 1) := dk_46 (dk_at dksX9_status_0 17 rfl rfl)
theorem dX9_status_18 : decode cX9_status 18 = .ok (.goto 4, 3) := dk_167 0 4 (dk_at dksX9_status_0 18 rfl rfl)
theorem dX9_status_21 : decode cX9_status 21 = .ok (.iconst (-1), 1) := dk_2 (dk_at dksX9_status_0 21 rfl rfl)
theorem dX9_status_22 : decode cX9_status 22 = .ok (.ireturn, 1) := dk_172 (dk_at dksX9_status_0 22 rfl rfl)
abbrev cX9_undo : ByteArray := prog_28_method_76_code
def yX9_undo : MethodName := ⟨RX9, "undo", "()I"⟩
def dkwX9_undo_2 : List UInt8 := [96, 46, 79, 132, 1, 1, 167, 255, 225, 42, 180, 0, 212, 172]
abbrev dktX9_undo_2 : List UInt8 := dkwX9_undo_2 ++ []
def dkwX9_undo_1 : List UInt8 := [17, 4, 229, 162, 0, 30, 42, 180, 0, 34, 27, 42, 180, 0, 51, 17, 4, 229, 42, 180, 0, 212, 104, 27]
abbrev dktX9_undo_1 : List UInt8 := dkwX9_undo_1 ++ dktX9_undo_2
def dkwX9_undo_0 : List UInt8 := [42, 180, 0, 212, 154, 0, 5, 2, 172, 42, 89, 180, 0, 212, 4, 100, 181, 0, 212, 3, 60, 27]
abbrev dktX9_undo_0 : List UInt8 := dkwX9_undo_0 ++ dktX9_undo_1
theorem dksX9_undo_0 : cX9_undo.data.toList.drop 0 = dktX9_undo_0 := by decide +kernel
theorem dksX9_undo_1 : cX9_undo.data.toList.drop 22 = dktX9_undo_1 := dk_seg dksX9_undo_0 22 rfl rfl
theorem dksX9_undo_2 : cX9_undo.data.toList.drop 46 = dktX9_undo_2 := dk_seg dksX9_undo_1 24 rfl rfl
theorem dX9_undo_0 : decode cX9_undo 0 = .ok (.aload_n 0, 1) := dk_42 (dk_at dksX9_undo_0 0 rfl rfl)
theorem dX9_undo_1 : decode cX9_undo 1 = .ok (.getfield 212, 3) := dk_180 0 212 (dk_at dksX9_undo_0 1 rfl rfl)
theorem dX9_undo_4 : decode cX9_undo 4 = .ok (.ifCond .ne 5, 3) := dk_154 0 5 (dk_at dksX9_undo_0 4 rfl rfl)
theorem dX9_undo_7 : decode cX9_undo 7 = .ok (.iconst (-1), 1) := dk_2 (dk_at dksX9_undo_0 7 rfl rfl)
theorem dX9_undo_8 : decode cX9_undo 8 = .ok (.ireturn, 1) := dk_172 (dk_at dksX9_undo_0 8 rfl rfl)
theorem dX9_undo_9 : decode cX9_undo 9 = .ok (.aload_n 0, 1) := dk_42 (dk_at dksX9_undo_0 9 rfl rfl)
theorem dX9_undo_10 : decode cX9_undo 10 = .ok (.dup, 1) := dk_89 (dk_at dksX9_undo_0 10 rfl rfl)
theorem dX9_undo_11 : decode cX9_undo 11 = .ok (.getfield 212, 3) := dk_180 0 212 (dk_at dksX9_undo_0 11 rfl rfl)
theorem dX9_undo_14 : decode cX9_undo 14 = .ok (.iconst 1, 1) := dk_4 (dk_at dksX9_undo_0 14 rfl rfl)
theorem dX9_undo_15 : decode cX9_undo 15 = .ok (.isub, 1) := dk_100 (dk_at dksX9_undo_0 15 rfl rfl)
theorem dX9_undo_16 : decode cX9_undo 16 = .ok (.putfield 212, 3) := dk_181 0 212 (dk_at dksX9_undo_0 16 rfl rfl)
theorem dX9_undo_19 : decode cX9_undo 19 = .ok (.iconst 0, 1) := dk_3 (dk_at dksX9_undo_0 19 rfl rfl)
theorem dX9_undo_20 : decode cX9_undo 20 = .ok (.istore_n 1, 1) := dk_60 (dk_at dksX9_undo_0 20 rfl rfl)
theorem dX9_undo_21 : decode cX9_undo 21 = .ok (.iload_n 1, 1) := dk_27 (dk_at dksX9_undo_0 21 rfl rfl)
theorem dX9_undo_22 : decode cX9_undo 22 = .ok (.sipush 1253, 3) := dk_17 4 229 (dk_at dksX9_undo_1 0 rfl rfl)
theorem dX9_undo_25 : decode cX9_undo 25 = .ok (.if_icmp .ge 30, 3) := dk_162 0 30 (dk_at dksX9_undo_1 3 rfl rfl)
theorem dX9_undo_28 : decode cX9_undo 28 = .ok (.aload_n 0, 1) := dk_42 (dk_at dksX9_undo_1 6 rfl rfl)
theorem dX9_undo_29 : decode cX9_undo 29 = .ok (.getfield 34, 3) := dk_180 0 34 (dk_at dksX9_undo_1 7 rfl rfl)
theorem dX9_undo_32 : decode cX9_undo 32 = .ok (.iload_n 1, 1) := dk_27 (dk_at dksX9_undo_1 10 rfl rfl)
theorem dX9_undo_33 : decode cX9_undo 33 = .ok (.aload_n 0, 1) := dk_42 (dk_at dksX9_undo_1 11 rfl rfl)
theorem dX9_undo_34 : decode cX9_undo 34 = .ok (.getfield 51, 3) := dk_180 0 51 (dk_at dksX9_undo_1 12 rfl rfl)
theorem dX9_undo_37 : decode cX9_undo 37 = .ok (.sipush 1253, 3) := dk_17 4 229 (dk_at dksX9_undo_1 15 rfl rfl)
theorem dX9_undo_40 : decode cX9_undo 40 = .ok (.aload_n 0, 1) := dk_42 (dk_at dksX9_undo_1 18 rfl rfl)
theorem dX9_undo_41 : decode cX9_undo 41 = .ok (.getfield 212, 3) := dk_180 0 212 (dk_at dksX9_undo_1 19 rfl rfl)
theorem dX9_undo_44 : decode cX9_undo 44 = .ok (.imul, 1) := dk_104 (dk_at dksX9_undo_1 22 rfl rfl)
theorem dX9_undo_45 : decode cX9_undo 45 = .ok (.iload_n 1, 1) := dk_27 (dk_at dksX9_undo_1 23 rfl rfl)
theorem dX9_undo_46 : decode cX9_undo 46 = .ok (.iadd, 1) := dk_96 (dk_at dksX9_undo_2 0 rfl rfl)
theorem dX9_undo_47 : decode cX9_undo 47 = .ok (.iaload, 1) := dk_46 (dk_at dksX9_undo_2 1 rfl rfl)
theorem dX9_undo_48 : decode cX9_undo 48 = .ok (.iastore, 1) := dk_79 (dk_at dksX9_undo_2 2 rfl rfl)
theorem dX9_undo_49 : decode cX9_undo 49 = .ok (.iinc 1 1, 3) := dk_132 1 1 (dk_at dksX9_undo_2 3 rfl rfl)
theorem dX9_undo_52 : decode cX9_undo 52 = .ok (.goto (-31), 3) := dk_167 255 225 (dk_at dksX9_undo_2 6 rfl rfl)
theorem dX9_undo_55 : decode cX9_undo 55 = .ok (.aload_n 0, 1) := dk_42 (dk_at dksX9_undo_2 9 rfl rfl)
theorem dX9_undo_56 : decode cX9_undo 56 = .ok (.getfield 212, 3) := dk_180 0 212 (dk_at dksX9_undo_2 10 rfl rfl)
theorem dX9_undo_59 : decode cX9_undo 59 = .ok (.ireturn, 1) := dk_172 (dk_at dksX9_undo_2 13 rfl rfl)
abbrev cX9_log : ByteArray := prog_28_method_77_code
def yX9_log : MethodName := ⟨RX9, "log", "(II)I"⟩
def dkwX9_log_2 : List UInt8 := [46, 4, 100, 27, 100, 104, 96, 28, 96, 46, 167, 0, 5, 18, 245, 172]
abbrev dktX9_log_2 : List UInt8 := dkwX9_log_2 ++ []
def dkwX9_log_1 : List UInt8 := [20, 0, 228, 184, 0, 77, 153, 0, 31, 42, 180, 0, 34, 17, 4, 49, 6, 42, 180, 0, 34, 17, 4, 48]
abbrev dktX9_log_1 : List UInt8 := dkwX9_log_1 ++ dktX9_log_2
def dkwX9_log_0 : List UInt8 := [27, 133, 9, 42, 180, 0, 34, 17, 4, 48, 46, 4, 100, 133, 184, 0, 77, 153, 0, 43, 28, 133, 9]
abbrev dktX9_log_0 : List UInt8 := dkwX9_log_0 ++ dktX9_log_1
theorem dksX9_log_0 : cX9_log.data.toList.drop 0 = dktX9_log_0 := by decide +kernel
theorem dksX9_log_1 : cX9_log.data.toList.drop 23 = dktX9_log_1 := dk_seg dksX9_log_0 23 rfl rfl
theorem dksX9_log_2 : cX9_log.data.toList.drop 47 = dktX9_log_2 := dk_seg dksX9_log_1 24 rfl rfl
theorem dX9_log_0 : decode cX9_log 0 = .ok (.iload_n 1, 1) := dk_27 (dk_at dksX9_log_0 0 rfl rfl)
theorem dX9_log_1 : decode cX9_log 1 = .ok (.i2l, 1) := dk_133 (dk_at dksX9_log_0 1 rfl rfl)
theorem dX9_log_2 : decode cX9_log 2 = .ok (.lconst 0, 1) := dk_9 (dk_at dksX9_log_0 2 rfl rfl)
theorem dX9_log_3 : decode cX9_log 3 = .ok (.aload_n 0, 1) := dk_42 (dk_at dksX9_log_0 3 rfl rfl)
theorem dX9_log_4 : decode cX9_log 4 = .ok (.getfield 34, 3) := dk_180 0 34 (dk_at dksX9_log_0 4 rfl rfl)
theorem dX9_log_7 : decode cX9_log 7 = .ok (.sipush 1072, 3) := dk_17 4 48 (dk_at dksX9_log_0 7 rfl rfl)
theorem dX9_log_10 : decode cX9_log 10 = .ok (.iaload, 1) := dk_46 (dk_at dksX9_log_0 10 rfl rfl)
theorem dX9_log_11 : decode cX9_log 11 = .ok (.iconst 1, 1) := dk_4 (dk_at dksX9_log_0 11 rfl rfl)
theorem dX9_log_12 : decode cX9_log 12 = .ok (.isub, 1) := dk_100 (dk_at dksX9_log_0 12 rfl rfl)
theorem dX9_log_13 : decode cX9_log 13 = .ok (.i2l, 1) := dk_133 (dk_at dksX9_log_0 13 rfl rfl)
theorem dX9_log_14 : decode cX9_log 14 = .ok (.invokestatic 77, 3) := dk_184 0 77 (dk_at dksX9_log_0 14 rfl rfl)
theorem dX9_log_17 : decode cX9_log 17 = .ok (.ifCond .eq 43, 3) := dk_153 0 43 (dk_at dksX9_log_0 17 rfl rfl)
theorem dX9_log_20 : decode cX9_log 20 = .ok (.iload_n 2, 1) := dk_28 (dk_at dksX9_log_0 20 rfl rfl)
theorem dX9_log_21 : decode cX9_log 21 = .ok (.i2l, 1) := dk_133 (dk_at dksX9_log_0 21 rfl rfl)
theorem dX9_log_22 : decode cX9_log 22 = .ok (.lconst 0, 1) := dk_9 (dk_at dksX9_log_0 22 rfl rfl)
theorem dX9_log_23 : decode cX9_log 23 = .ok (.ldc2_w 228, 3) := dk_20 0 228 (dk_at dksX9_log_1 0 rfl rfl)
theorem dX9_log_26 : decode cX9_log 26 = .ok (.invokestatic 77, 3) := dk_184 0 77 (dk_at dksX9_log_1 3 rfl rfl)
theorem dX9_log_29 : decode cX9_log 29 = .ok (.ifCond .eq 31, 3) := dk_153 0 31 (dk_at dksX9_log_1 6 rfl rfl)
theorem dX9_log_32 : decode cX9_log 32 = .ok (.aload_n 0, 1) := dk_42 (dk_at dksX9_log_1 9 rfl rfl)
theorem dX9_log_33 : decode cX9_log 33 = .ok (.getfield 34, 3) := dk_180 0 34 (dk_at dksX9_log_1 10 rfl rfl)
theorem dX9_log_36 : decode cX9_log 36 = .ok (.sipush 1073, 3) := dk_17 4 49 (dk_at dksX9_log_1 13 rfl rfl)
theorem dX9_log_39 : decode cX9_log 39 = .ok (.iconst 3, 1) := dk_6 (dk_at dksX9_log_1 16 rfl rfl)
theorem dX9_log_40 : decode cX9_log 40 = .ok (.aload_n 0, 1) := dk_42 (dk_at dksX9_log_1 17 rfl rfl)
theorem dX9_log_41 : decode cX9_log 41 = .ok (.getfield 34, 3) := dk_180 0 34 (dk_at dksX9_log_1 18 rfl rfl)
theorem dX9_log_44 : decode cX9_log 44 = .ok (.sipush 1072, 3) := dk_17 4 48 (dk_at dksX9_log_1 21 rfl rfl)
theorem dX9_log_47 : decode cX9_log 47 = .ok (.iaload, 1) := dk_46 (dk_at dksX9_log_2 0 rfl rfl)
theorem dX9_log_48 : decode cX9_log 48 = .ok (.iconst 1, 1) := dk_4 (dk_at dksX9_log_2 1 rfl rfl)
theorem dX9_log_49 : decode cX9_log 49 = .ok (.isub, 1) := dk_100 (dk_at dksX9_log_2 2 rfl rfl)
theorem dX9_log_50 : decode cX9_log 50 = .ok (.iload_n 1, 1) := dk_27 (dk_at dksX9_log_2 3 rfl rfl)
theorem dX9_log_51 : decode cX9_log 51 = .ok (.isub, 1) := dk_100 (dk_at dksX9_log_2 4 rfl rfl)
theorem dX9_log_52 : decode cX9_log 52 = .ok (.imul, 1) := dk_104 (dk_at dksX9_log_2 5 rfl rfl)
theorem dX9_log_53 : decode cX9_log 53 = .ok (.iadd, 1) := dk_96 (dk_at dksX9_log_2 6 rfl rfl)
theorem dX9_log_54 : decode cX9_log 54 = .ok (.iload_n 2, 1) := dk_28 (dk_at dksX9_log_2 7 rfl rfl)
theorem dX9_log_55 : decode cX9_log 55 = .ok (.iadd, 1) := dk_96 (dk_at dksX9_log_2 8 rfl rfl)
theorem dX9_log_56 : decode cX9_log 56 = .ok (.iaload, 1) := dk_46 (dk_at dksX9_log_2 9 rfl rfl)
theorem dX9_log_57 : decode cX9_log 57 = .ok (.goto 5, 3) := dk_167 0 5 (dk_at dksX9_log_2 10 rfl rfl)
theorem dX9_log_60 : decode cX9_log 60 = .ok (.ldc 245, 2) := dk_18 245 (dk_at dksX9_log_2 13 rfl rfl)
theorem dX9_log_62 : decode cX9_log 62 = .ok (.ireturn, 1) := dk_172 (dk_at dksX9_log_2 15 rfl rfl)
abbrev cX9_trace : ByteArray := prog_28_method_82_code
def yX9_trace : MethodName := ⟨RX9, "trace", "(I)I"⟩
def dkwX9_trace_1 : List UInt8 := [167, 0, 4, 2, 172]
abbrev dktX9_trace_1 : List UInt8 := dkwX9_trace_1 ++ []
def dkwX9_trace_0 : List UInt8 := [27, 133, 9, 42, 180, 1, 67, 4, 100, 133, 184, 0, 77, 153, 0, 12, 42, 180, 0, 54, 27, 46]
abbrev dktX9_trace_0 : List UInt8 := dkwX9_trace_0 ++ dktX9_trace_1
theorem dksX9_trace_0 : cX9_trace.data.toList.drop 0 = dktX9_trace_0 := by decide +kernel
theorem dksX9_trace_1 : cX9_trace.data.toList.drop 22 = dktX9_trace_1 := dk_seg dksX9_trace_0 22 rfl rfl
theorem dX9_trace_0 : decode cX9_trace 0 = .ok (.iload_n 1, 1) := dk_27 (dk_at dksX9_trace_0 0 rfl rfl)
theorem dX9_trace_1 : decode cX9_trace 1 = .ok (.i2l, 1) := dk_133 (dk_at dksX9_trace_0 1 rfl rfl)
theorem dX9_trace_2 : decode cX9_trace 2 = .ok (.lconst 0, 1) := dk_9 (dk_at dksX9_trace_0 2 rfl rfl)
theorem dX9_trace_3 : decode cX9_trace 3 = .ok (.aload_n 0, 1) := dk_42 (dk_at dksX9_trace_0 3 rfl rfl)
theorem dX9_trace_4 : decode cX9_trace 4 = .ok (.getfield 323, 3) := dk_180 1 67 (dk_at dksX9_trace_0 4 rfl rfl)
theorem dX9_trace_7 : decode cX9_trace 7 = .ok (.iconst 1, 1) := dk_4 (dk_at dksX9_trace_0 7 rfl rfl)
theorem dX9_trace_8 : decode cX9_trace 8 = .ok (.isub, 1) := dk_100 (dk_at dksX9_trace_0 8 rfl rfl)
theorem dX9_trace_9 : decode cX9_trace 9 = .ok (.i2l, 1) := dk_133 (dk_at dksX9_trace_0 9 rfl rfl)
theorem dX9_trace_10 : decode cX9_trace 10 = .ok (.invokestatic 77, 3) := dk_184 0 77 (dk_at dksX9_trace_0 10 rfl rfl)
theorem dX9_trace_13 : decode cX9_trace 13 = .ok (.ifCond .eq 12, 3) := dk_153 0 12 (dk_at dksX9_trace_0 13 rfl rfl)
theorem dX9_trace_16 : decode cX9_trace 16 = .ok (.aload_n 0, 1) := dk_42 (dk_at dksX9_trace_0 16 rfl rfl)
theorem dX9_trace_17 : decode cX9_trace 17 = .ok (.getfield 54, 3) := dk_180 0 54 (dk_at dksX9_trace_0 17 rfl rfl)
theorem dX9_trace_20 : decode cX9_trace 20 = .ok (.iload_n 1, 1) := dk_27 (dk_at dksX9_trace_0 20 rfl rfl)
theorem dX9_trace_21 : decode cX9_trace 21 = .ok (.iaload, 1) := dk_46 (dk_at dksX9_trace_0 21 rfl rfl)
theorem dX9_trace_22 : decode cX9_trace 22 = .ok (.goto 4, 3) := dk_167 0 4 (dk_at dksX9_trace_1 0 rfl rfl)
theorem dX9_trace_25 : decode cX9_trace 25 = .ok (.iconst (-1), 1) := dk_2 (dk_at dksX9_trace_1 3 rfl rfl)
theorem dX9_trace_26 : decode cX9_trace 26 = .ok (.ireturn, 1) := dk_172 (dk_at dksX9_trace_1 4 rfl rfl)
abbrev cX9_where : ByteArray := prog_28_method_93_code
def yX9_where : MethodName := ⟨RX9, "where", "(III)I"⟩
def dkwX9_where_2 : List UInt8 := [42, 27, 182, 1, 76, 42, 42, 27, 28, 4, 182, 1, 112, 133, 182, 1, 115, 136, 172]
abbrev dktX9_where_2 : List UInt8 := dkwX9_where_2 ++ []
def dkwX9_where_1 : List UInt8 := [184, 0, 77, 154, 0, 5, 2, 172, 29, 158, 0, 11, 42, 27, 28, 29, 182, 1, 106, 172, 42, 182, 1, 109]
abbrev dktX9_where_1 : List UInt8 := dkwX9_where_1 ++ dktX9_where_2
def dkwX9_where_0 : List UInt8 := [42, 27, 182, 0, 153, 153, 0, 23, 42, 28, 182, 1, 103, 153, 0, 15, 29, 133, 9, 20, 0, 230]
abbrev dktX9_where_0 : List UInt8 := dkwX9_where_0 ++ dktX9_where_1
theorem dksX9_where_0 : cX9_where.data.toList.drop 0 = dktX9_where_0 := by decide +kernel
theorem dksX9_where_1 : cX9_where.data.toList.drop 22 = dktX9_where_1 := dk_seg dksX9_where_0 22 rfl rfl
theorem dksX9_where_2 : cX9_where.data.toList.drop 46 = dktX9_where_2 := dk_seg dksX9_where_1 24 rfl rfl
theorem dX9_where_0 : decode cX9_where 0 = .ok (.aload_n 0, 1) := dk_42 (dk_at dksX9_where_0 0 rfl rfl)
theorem dX9_where_1 : decode cX9_where 1 = .ok (.iload_n 1, 1) := dk_27 (dk_at dksX9_where_0 1 rfl rfl)
theorem dX9_where_2 : decode cX9_where 2 = .ok (.invokevirtual 153, 3) := dk_182 0 153 (dk_at dksX9_where_0 2 rfl rfl)
theorem dX9_where_5 : decode cX9_where 5 = .ok (.ifCond .eq 23, 3) := dk_153 0 23 (dk_at dksX9_where_0 5 rfl rfl)
theorem dX9_where_8 : decode cX9_where 8 = .ok (.aload_n 0, 1) := dk_42 (dk_at dksX9_where_0 8 rfl rfl)
theorem dX9_where_9 : decode cX9_where 9 = .ok (.iload_n 2, 1) := dk_28 (dk_at dksX9_where_0 9 rfl rfl)
theorem dX9_where_10 : decode cX9_where 10 = .ok (.invokevirtual 359, 3) := dk_182 1 103 (dk_at dksX9_where_0 10 rfl rfl)
theorem dX9_where_13 : decode cX9_where 13 = .ok (.ifCond .eq 15, 3) := dk_153 0 15 (dk_at dksX9_where_0 13 rfl rfl)
theorem dX9_where_16 : decode cX9_where 16 = .ok (.iload_n 3, 1) := dk_29 (dk_at dksX9_where_0 16 rfl rfl)
theorem dX9_where_17 : decode cX9_where 17 = .ok (.i2l, 1) := dk_133 (dk_at dksX9_where_0 17 rfl rfl)
theorem dX9_where_18 : decode cX9_where 18 = .ok (.lconst 0, 1) := dk_9 (dk_at dksX9_where_0 18 rfl rfl)
theorem dX9_where_19 : decode cX9_where 19 = .ok (.ldc2_w 230, 3) := dk_20 0 230 (dk_at dksX9_where_0 19 rfl rfl)
theorem dX9_where_22 : decode cX9_where 22 = .ok (.invokestatic 77, 3) := dk_184 0 77 (dk_at dksX9_where_1 0 rfl rfl)
theorem dX9_where_25 : decode cX9_where 25 = .ok (.ifCond .ne 5, 3) := dk_154 0 5 (dk_at dksX9_where_1 3 rfl rfl)
theorem dX9_where_28 : decode cX9_where 28 = .ok (.iconst (-1), 1) := dk_2 (dk_at dksX9_where_1 6 rfl rfl)
theorem dX9_where_29 : decode cX9_where 29 = .ok (.ireturn, 1) := dk_172 (dk_at dksX9_where_1 7 rfl rfl)
theorem dX9_where_30 : decode cX9_where 30 = .ok (.iload_n 3, 1) := dk_29 (dk_at dksX9_where_1 8 rfl rfl)
theorem dX9_where_31 : decode cX9_where 31 = .ok (.ifCond .le 11, 3) := dk_158 0 11 (dk_at dksX9_where_1 9 rfl rfl)
theorem dX9_where_34 : decode cX9_where 34 = .ok (.aload_n 0, 1) := dk_42 (dk_at dksX9_where_1 12 rfl rfl)
theorem dX9_where_35 : decode cX9_where 35 = .ok (.iload_n 1, 1) := dk_27 (dk_at dksX9_where_1 13 rfl rfl)
theorem dX9_where_36 : decode cX9_where 36 = .ok (.iload_n 2, 1) := dk_28 (dk_at dksX9_where_1 14 rfl rfl)
theorem dX9_where_37 : decode cX9_where 37 = .ok (.iload_n 3, 1) := dk_29 (dk_at dksX9_where_1 15 rfl rfl)
theorem dX9_where_38 : decode cX9_where 38 = .ok (.invokevirtual 362, 3) := dk_182 1 106 (dk_at dksX9_where_1 16 rfl rfl)
theorem dX9_where_41 : decode cX9_where 41 = .ok (.ireturn, 1) := dk_172 (dk_at dksX9_where_1 19 rfl rfl)
theorem dX9_where_42 : decode cX9_where 42 = .ok (.aload_n 0, 1) := dk_42 (dk_at dksX9_where_1 20 rfl rfl)
theorem dX9_where_43 : decode cX9_where 43 = .ok (.invokevirtual 365, 3) := dk_182 1 109 (dk_at dksX9_where_1 21 rfl rfl)
theorem dX9_where_46 : decode cX9_where 46 = .ok (.aload_n 0, 1) := dk_42 (dk_at dksX9_where_2 0 rfl rfl)
theorem dX9_where_47 : decode cX9_where 47 = .ok (.iload_n 1, 1) := dk_27 (dk_at dksX9_where_2 1 rfl rfl)
theorem dX9_where_48 : decode cX9_where 48 = .ok (.invokevirtual 332, 3) := dk_182 1 76 (dk_at dksX9_where_2 2 rfl rfl)
theorem dX9_where_51 : decode cX9_where 51 = .ok (.aload_n 0, 1) := dk_42 (dk_at dksX9_where_2 5 rfl rfl)
theorem dX9_where_52 : decode cX9_where 52 = .ok (.aload_n 0, 1) := dk_42 (dk_at dksX9_where_2 6 rfl rfl)
theorem dX9_where_53 : decode cX9_where 53 = .ok (.iload_n 1, 1) := dk_27 (dk_at dksX9_where_2 7 rfl rfl)
theorem dX9_where_54 : decode cX9_where 54 = .ok (.iload_n 2, 1) := dk_28 (dk_at dksX9_where_2 8 rfl rfl)
theorem dX9_where_55 : decode cX9_where 55 = .ok (.iconst 1, 1) := dk_4 (dk_at dksX9_where_2 9 rfl rfl)
theorem dX9_where_56 : decode cX9_where 56 = .ok (.invokevirtual 368, 3) := dk_182 1 112 (dk_at dksX9_where_2 10 rfl rfl)
theorem dX9_where_59 : decode cX9_where 59 = .ok (.i2l, 1) := dk_133 (dk_at dksX9_where_2 13 rfl rfl)
theorem dX9_where_60 : decode cX9_where 60 = .ok (.invokevirtual 371, 3) := dk_182 1 115 (dk_at dksX9_where_2 14 rfl rfl)
theorem dX9_where_63 : decode cX9_where 63 = .ok (.l2i, 1) := dk_136 (dk_at dksX9_where_2 17 rfl rfl)
theorem dX9_where_64 : decode cX9_where 64 = .ok (.ireturn, 1) := dk_172 (dk_at dksX9_where_2 18 rfl rfl)
abbrev cX9_isWhere : ByteArray := prog_28_method_92_code
def yX9_isWhere : MethodName := ⟨RX9, "isWhere", "(I)Z"⟩
def dkwX9_isWhere_0 : List UInt8 := [27, 133, 9, 42, 180, 0, 222, 4, 100, 133, 184, 0, 77, 172]
abbrev dktX9_isWhere_0 : List UInt8 := dkwX9_isWhere_0 ++ []
theorem dksX9_isWhere_0 : cX9_isWhere.data.toList.drop 0 = dktX9_isWhere_0 := by decide +kernel
theorem dX9_isWhere_0 : decode cX9_isWhere 0 = .ok (.iload_n 1, 1) := dk_27 (dk_at dksX9_isWhere_0 0 rfl rfl)
theorem dX9_isWhere_1 : decode cX9_isWhere 1 = .ok (.i2l, 1) := dk_133 (dk_at dksX9_isWhere_0 1 rfl rfl)
theorem dX9_isWhere_2 : decode cX9_isWhere 2 = .ok (.lconst 0, 1) := dk_9 (dk_at dksX9_isWhere_0 2 rfl rfl)
theorem dX9_isWhere_3 : decode cX9_isWhere 3 = .ok (.aload_n 0, 1) := dk_42 (dk_at dksX9_isWhere_0 3 rfl rfl)
theorem dX9_isWhere_4 : decode cX9_isWhere 4 = .ok (.getfield 222, 3) := dk_180 0 222 (dk_at dksX9_isWhere_0 4 rfl rfl)
theorem dX9_isWhere_7 : decode cX9_isWhere 7 = .ok (.iconst 1, 1) := dk_4 (dk_at dksX9_isWhere_0 7 rfl rfl)
theorem dX9_isWhere_8 : decode cX9_isWhere 8 = .ok (.isub, 1) := dk_100 (dk_at dksX9_isWhere_0 8 rfl rfl)
theorem dX9_isWhere_9 : decode cX9_isWhere 9 = .ok (.i2l, 1) := dk_133 (dk_at dksX9_isWhere_0 9 rfl rfl)
theorem dX9_isWhere_10 : decode cX9_isWhere 10 = .ok (.invokestatic 77, 3) := dk_184 0 77 (dk_at dksX9_isWhere_0 10 rfl rfl)
theorem dX9_isWhere_13 : decode cX9_isWhere 13 = .ok (.ireturn, 1) := dk_172 (dk_at dksX9_isWhere_0 13 rfl rfl)
abbrev cX9_whereBy : ByteArray := prog_28_method_91_code
def yX9_whereBy : MethodName := ⟨RX9, "whereBy", "(III)I"⟩
def dkwX9_whereBy_3 : List UInt8 := [184, 0, 194, 172]
abbrev dktX9_whereBy_3 : List UInt8 := dkwX9_whereBy_3 ++ []
def dkwX9_whereBy_2 : List UInt8 := [132, 6, 1, 167, 255, 216, 29, 4, 160, 0, 8, 21, 5, 167, 0, 13, 21, 4, 42, 27, 182, 0, 161]
abbrev dktX9_whereBy_2 : List UInt8 := dkwX9_whereBy_2 ++ dktX9_whereBy_3
def dkwX9_whereBy_1 : List UInt8 := [29, 182, 1, 100, 54, 7, 21, 4, 21, 7, 96, 54, 4, 21, 5, 21, 7, 184, 0, 202, 54, 5]
abbrev dktX9_whereBy_1 : List UInt8 := dkwX9_whereBy_1 ++ dktX9_whereBy_2
def dkwX9_whereBy_0 : List UInt8 := [3, 54, 4, 3, 54, 5, 3, 54, 6, 21, 6, 42, 28, 182, 1, 85, 162, 0, 36, 42, 27, 28, 21, 6]
abbrev dktX9_whereBy_0 : List UInt8 := dkwX9_whereBy_0 ++ dktX9_whereBy_1
theorem dksX9_whereBy_0 : cX9_whereBy.data.toList.drop 0 = dktX9_whereBy_0 := by decide +kernel
theorem dksX9_whereBy_1 : cX9_whereBy.data.toList.drop 24 = dktX9_whereBy_1 := dk_seg dksX9_whereBy_0 24 rfl rfl
theorem dksX9_whereBy_2 : cX9_whereBy.data.toList.drop 46 = dktX9_whereBy_2 := dk_seg dksX9_whereBy_1 22 rfl rfl
theorem dksX9_whereBy_3 : cX9_whereBy.data.toList.drop 69 = dktX9_whereBy_3 := dk_seg dksX9_whereBy_2 23 rfl rfl
theorem dX9_whereBy_0 : decode cX9_whereBy 0 = .ok (.iconst 0, 1) := dk_3 (dk_at dksX9_whereBy_0 0 rfl rfl)
theorem dX9_whereBy_1 : decode cX9_whereBy 1 = .ok (.istore 4, 2) := dk_54 4 (dk_at dksX9_whereBy_0 1 rfl rfl)
theorem dX9_whereBy_3 : decode cX9_whereBy 3 = .ok (.iconst 0, 1) := dk_3 (dk_at dksX9_whereBy_0 3 rfl rfl)
theorem dX9_whereBy_4 : decode cX9_whereBy 4 = .ok (.istore 5, 2) := dk_54 5 (dk_at dksX9_whereBy_0 4 rfl rfl)
theorem dX9_whereBy_6 : decode cX9_whereBy 6 = .ok (.iconst 0, 1) := dk_3 (dk_at dksX9_whereBy_0 6 rfl rfl)
theorem dX9_whereBy_7 : decode cX9_whereBy 7 = .ok (.istore 6, 2) := dk_54 6 (dk_at dksX9_whereBy_0 7 rfl rfl)
theorem dX9_whereBy_9 : decode cX9_whereBy 9 = .ok (.iload 6, 2) := dk_21 6 (dk_at dksX9_whereBy_0 9 rfl rfl)
theorem dX9_whereBy_11 : decode cX9_whereBy 11 = .ok (.aload_n 0, 1) := dk_42 (dk_at dksX9_whereBy_0 11 rfl rfl)
theorem dX9_whereBy_12 : decode cX9_whereBy 12 = .ok (.iload_n 2, 1) := dk_28 (dk_at dksX9_whereBy_0 12 rfl rfl)
theorem dX9_whereBy_13 : decode cX9_whereBy 13 = .ok (.invokevirtual 341, 3) := dk_182 1 85 (dk_at dksX9_whereBy_0 13 rfl rfl)
theorem dX9_whereBy_16 : decode cX9_whereBy 16 = .ok (.if_icmp .ge 36, 3) := dk_162 0 36 (dk_at dksX9_whereBy_0 16 rfl rfl)
theorem dX9_whereBy_19 : decode cX9_whereBy 19 = .ok (.aload_n 0, 1) := dk_42 (dk_at dksX9_whereBy_0 19 rfl rfl)
theorem dX9_whereBy_20 : decode cX9_whereBy 20 = .ok (.iload_n 1, 1) := dk_27 (dk_at dksX9_whereBy_0 20 rfl rfl)
theorem dX9_whereBy_21 : decode cX9_whereBy 21 = .ok (.iload_n 2, 1) := dk_28 (dk_at dksX9_whereBy_0 21 rfl rfl)
theorem dX9_whereBy_22 : decode cX9_whereBy 22 = .ok (.iload 6, 2) := dk_21 6 (dk_at dksX9_whereBy_0 22 rfl rfl)
theorem dX9_whereBy_24 : decode cX9_whereBy 24 = .ok (.iload_n 3, 1) := dk_29 (dk_at dksX9_whereBy_1 0 rfl rfl)
theorem dX9_whereBy_25 : decode cX9_whereBy 25 = .ok (.invokevirtual 356, 3) := dk_182 1 100 (dk_at dksX9_whereBy_1 1 rfl rfl)
theorem dX9_whereBy_28 : decode cX9_whereBy 28 = .ok (.istore 7, 2) := dk_54 7 (dk_at dksX9_whereBy_1 4 rfl rfl)
theorem dX9_whereBy_30 : decode cX9_whereBy 30 = .ok (.iload 4, 2) := dk_21 4 (dk_at dksX9_whereBy_1 6 rfl rfl)
theorem dX9_whereBy_32 : decode cX9_whereBy 32 = .ok (.iload 7, 2) := dk_21 7 (dk_at dksX9_whereBy_1 8 rfl rfl)
theorem dX9_whereBy_34 : decode cX9_whereBy 34 = .ok (.iadd, 1) := dk_96 (dk_at dksX9_whereBy_1 10 rfl rfl)
theorem dX9_whereBy_35 : decode cX9_whereBy 35 = .ok (.istore 4, 2) := dk_54 4 (dk_at dksX9_whereBy_1 11 rfl rfl)
theorem dX9_whereBy_37 : decode cX9_whereBy 37 = .ok (.iload 5, 2) := dk_21 5 (dk_at dksX9_whereBy_1 13 rfl rfl)
theorem dX9_whereBy_39 : decode cX9_whereBy 39 = .ok (.iload 7, 2) := dk_21 7 (dk_at dksX9_whereBy_1 15 rfl rfl)
theorem dX9_whereBy_41 : decode cX9_whereBy 41 = .ok (.invokestatic 202, 3) := dk_184 0 202 (dk_at dksX9_whereBy_1 17 rfl rfl)
theorem dX9_whereBy_44 : decode cX9_whereBy 44 = .ok (.istore 5, 2) := dk_54 5 (dk_at dksX9_whereBy_1 20 rfl rfl)
theorem dX9_whereBy_46 : decode cX9_whereBy 46 = .ok (.iinc 6 1, 3) := dk_132 6 1 (dk_at dksX9_whereBy_2 0 rfl rfl)
theorem dX9_whereBy_49 : decode cX9_whereBy 49 = .ok (.goto (-40), 3) := dk_167 255 216 (dk_at dksX9_whereBy_2 3 rfl rfl)
theorem dX9_whereBy_52 : decode cX9_whereBy 52 = .ok (.iload_n 3, 1) := dk_29 (dk_at dksX9_whereBy_2 6 rfl rfl)
theorem dX9_whereBy_53 : decode cX9_whereBy 53 = .ok (.iconst 1, 1) := dk_4 (dk_at dksX9_whereBy_2 7 rfl rfl)
theorem dX9_whereBy_54 : decode cX9_whereBy 54 = .ok (.if_icmp .ne 8, 3) := dk_160 0 8 (dk_at dksX9_whereBy_2 8 rfl rfl)
theorem dX9_whereBy_57 : decode cX9_whereBy 57 = .ok (.iload 5, 2) := dk_21 5 (dk_at dksX9_whereBy_2 11 rfl rfl)
theorem dX9_whereBy_59 : decode cX9_whereBy 59 = .ok (.goto 13, 3) := dk_167 0 13 (dk_at dksX9_whereBy_2 13 rfl rfl)
theorem dX9_whereBy_62 : decode cX9_whereBy 62 = .ok (.iload 4, 2) := dk_21 4 (dk_at dksX9_whereBy_2 16 rfl rfl)
theorem dX9_whereBy_64 : decode cX9_whereBy 64 = .ok (.aload_n 0, 1) := dk_42 (dk_at dksX9_whereBy_2 18 rfl rfl)
theorem dX9_whereBy_65 : decode cX9_whereBy 65 = .ok (.iload_n 1, 1) := dk_27 (dk_at dksX9_whereBy_2 19 rfl rfl)
theorem dX9_whereBy_66 : decode cX9_whereBy 66 = .ok (.invokevirtual 161, 3) := dk_182 0 161 (dk_at dksX9_whereBy_2 20 rfl rfl)
theorem dX9_whereBy_69 : decode cX9_whereBy 69 = .ok (.invokestatic 194, 3) := dk_184 0 194 (dk_at dksX9_whereBy_3 0 rfl rfl)
theorem dX9_whereBy_72 : decode cX9_whereBy 72 = .ok (.ireturn, 1) := dk_172 (dk_at dksX9_whereBy_3 3 rfl rfl)
abbrev cX9_terms : ByteArray := prog_28_method_85_code
def yX9_terms : MethodName := ⟨RX9, "terms", "(I)I"⟩
def dkwX9_terms_0 : List UInt8 := [42, 27, 42, 180, 0, 31, 27, 46, 4, 100, 3, 182, 1, 79, 4, 96, 172]
abbrev dktX9_terms_0 : List UInt8 := dkwX9_terms_0 ++ []
theorem dksX9_terms_0 : cX9_terms.data.toList.drop 0 = dktX9_terms_0 := by decide +kernel
theorem dX9_terms_0 : decode cX9_terms 0 = .ok (.aload_n 0, 1) := dk_42 (dk_at dksX9_terms_0 0 rfl rfl)
theorem dX9_terms_1 : decode cX9_terms 1 = .ok (.iload_n 1, 1) := dk_27 (dk_at dksX9_terms_0 1 rfl rfl)
theorem dX9_terms_2 : decode cX9_terms 2 = .ok (.aload_n 0, 1) := dk_42 (dk_at dksX9_terms_0 2 rfl rfl)
theorem dX9_terms_3 : decode cX9_terms 3 = .ok (.getfield 31, 3) := dk_180 0 31 (dk_at dksX9_terms_0 3 rfl rfl)
theorem dX9_terms_6 : decode cX9_terms 6 = .ok (.iload_n 1, 1) := dk_27 (dk_at dksX9_terms_0 6 rfl rfl)
theorem dX9_terms_7 : decode cX9_terms 7 = .ok (.iaload, 1) := dk_46 (dk_at dksX9_terms_0 7 rfl rfl)
theorem dX9_terms_8 : decode cX9_terms 8 = .ok (.iconst 1, 1) := dk_4 (dk_at dksX9_terms_0 8 rfl rfl)
theorem dX9_terms_9 : decode cX9_terms 9 = .ok (.isub, 1) := dk_100 (dk_at dksX9_terms_0 9 rfl rfl)
theorem dX9_terms_10 : decode cX9_terms 10 = .ok (.iconst 0, 1) := dk_3 (dk_at dksX9_terms_0 10 rfl rfl)
theorem dX9_terms_11 : decode cX9_terms 11 = .ok (.invokevirtual 335, 3) := dk_182 1 79 (dk_at dksX9_terms_0 11 rfl rfl)
theorem dX9_terms_14 : decode cX9_terms 14 = .ok (.iconst 1, 1) := dk_4 (dk_at dksX9_terms_0 14 rfl rfl)
theorem dX9_terms_15 : decode cX9_terms 15 = .ok (.iadd, 1) := dk_96 (dk_at dksX9_terms_0 15 rfl rfl)
theorem dX9_terms_16 : decode cX9_terms 16 = .ok (.ireturn, 1) := dk_172 (dk_at dksX9_terms_0 16 rfl rfl)
abbrev cX9_unitAt : ByteArray := prog_28_method_83_code
def yX9_unitAt : MethodName := ⟨RX9, "unitAt", "(III)I"⟩
def dkwX9_unitAt_0 : List UInt8 := [42, 180, 0, 28, 7, 16, 6, 27, 104, 28, 96, 104, 29, 96, 46, 172]
abbrev dktX9_unitAt_0 : List UInt8 := dkwX9_unitAt_0 ++ []
theorem dksX9_unitAt_0 : cX9_unitAt.data.toList.drop 0 = dktX9_unitAt_0 := by decide +kernel
theorem dX9_unitAt_0 : decode cX9_unitAt 0 = .ok (.aload_n 0, 1) := dk_42 (dk_at dksX9_unitAt_0 0 rfl rfl)
theorem dX9_unitAt_1 : decode cX9_unitAt 1 = .ok (.getfield 28, 3) := dk_180 0 28 (dk_at dksX9_unitAt_0 1 rfl rfl)
theorem dX9_unitAt_4 : decode cX9_unitAt 4 = .ok (.iconst 4, 1) := dk_7 (dk_at dksX9_unitAt_0 4 rfl rfl)
theorem dX9_unitAt_5 : decode cX9_unitAt 5 = .ok (.bipush 6, 2) := dk_16 6 (dk_at dksX9_unitAt_0 5 rfl rfl)
theorem dX9_unitAt_7 : decode cX9_unitAt 7 = .ok (.iload_n 1, 1) := dk_27 (dk_at dksX9_unitAt_0 7 rfl rfl)
theorem dX9_unitAt_8 : decode cX9_unitAt 8 = .ok (.imul, 1) := dk_104 (dk_at dksX9_unitAt_0 8 rfl rfl)
theorem dX9_unitAt_9 : decode cX9_unitAt 9 = .ok (.iload_n 2, 1) := dk_28 (dk_at dksX9_unitAt_0 9 rfl rfl)
theorem dX9_unitAt_10 : decode cX9_unitAt 10 = .ok (.iadd, 1) := dk_96 (dk_at dksX9_unitAt_0 10 rfl rfl)
theorem dX9_unitAt_11 : decode cX9_unitAt 11 = .ok (.imul, 1) := dk_104 (dk_at dksX9_unitAt_0 11 rfl rfl)
theorem dX9_unitAt_12 : decode cX9_unitAt 12 = .ok (.iload_n 3, 1) := dk_29 (dk_at dksX9_unitAt_0 12 rfl rfl)
theorem dX9_unitAt_13 : decode cX9_unitAt 13 = .ok (.iadd, 1) := dk_96 (dk_at dksX9_unitAt_0 13 rfl rfl)
theorem dX9_unitAt_14 : decode cX9_unitAt 14 = .ok (.iaload, 1) := dk_46 (dk_at dksX9_unitAt_0 14 rfl rfl)
theorem dX9_unitAt_15 : decode cX9_unitAt 15 = .ok (.ireturn, 1) := dk_172 (dk_at dksX9_unitAt_0 15 rfl rfl)
abbrev cX9_termBy : ByteArray := prog_28_method_90_code
def yX9_termBy : MethodName := ⟨RX9, "termBy", "(IIII)I"⟩
def dkwX9_termBy_4 : List UInt8 := [4, 100, 42, 27, 182, 0, 161, 104, 100, 184, 0, 202, 167, 0, 5, 21, 7, 172]
abbrev dktX9_termBy_4 : List UInt8 := dkwX9_termBy_4 ++ []
def dkwX9_termBy_3 : List UInt8 := [21, 9, 184, 0, 194, 54, 7, 132, 8, 1, 167, 255, 188, 21, 4, 4, 160, 0, 23, 3, 21, 6, 21, 5]
abbrev dktX9_termBy_3 : List UInt8 := dkwX9_termBy_3 ++ dktX9_termBy_4
def dkwX9_termBy_2 : List UInt8 := [132, 5, 1, 21, 6, 21, 9, 96, 54, 6, 21, 7, 2, 160, 0, 8, 21, 9, 167, 0, 10, 21, 7]
abbrev dktX9_termBy_2 : List UInt8 := dkwX9_termBy_2 ++ dktX9_termBy_3
def dkwX9_termBy_1 : List UInt8 := [28, 21, 8, 3, 182, 1, 79, 29, 160, 0, 45, 42, 27, 28, 21, 8, 21, 4, 182, 1, 97, 54, 9]
abbrev dktX9_termBy_1 : List UInt8 := dkwX9_termBy_1 ++ dktX9_termBy_2
def dkwX9_termBy_0 : List UInt8 := [3, 54, 5, 3, 54, 6, 2, 54, 7, 3, 54, 8, 21, 8, 42, 180, 0, 31, 28, 46, 162, 0, 63, 42]
abbrev dktX9_termBy_0 : List UInt8 := dkwX9_termBy_0 ++ dktX9_termBy_1
theorem dksX9_termBy_0 : cX9_termBy.data.toList.drop 0 = dktX9_termBy_0 := by decide +kernel
theorem dksX9_termBy_1 : cX9_termBy.data.toList.drop 24 = dktX9_termBy_1 := dk_seg dksX9_termBy_0 24 rfl rfl
theorem dksX9_termBy_2 : cX9_termBy.data.toList.drop 47 = dktX9_termBy_2 := dk_seg dksX9_termBy_1 23 rfl rfl
theorem dksX9_termBy_3 : cX9_termBy.data.toList.drop 70 = dktX9_termBy_3 := dk_seg dksX9_termBy_2 23 rfl rfl
theorem dksX9_termBy_4 : cX9_termBy.data.toList.drop 94 = dktX9_termBy_4 := dk_seg dksX9_termBy_3 24 rfl rfl
theorem dX9_termBy_0 : decode cX9_termBy 0 = .ok (.iconst 0, 1) := dk_3 (dk_at dksX9_termBy_0 0 rfl rfl)
theorem dX9_termBy_1 : decode cX9_termBy 1 = .ok (.istore 5, 2) := dk_54 5 (dk_at dksX9_termBy_0 1 rfl rfl)
theorem dX9_termBy_3 : decode cX9_termBy 3 = .ok (.iconst 0, 1) := dk_3 (dk_at dksX9_termBy_0 3 rfl rfl)
theorem dX9_termBy_4 : decode cX9_termBy 4 = .ok (.istore 6, 2) := dk_54 6 (dk_at dksX9_termBy_0 4 rfl rfl)
theorem dX9_termBy_6 : decode cX9_termBy 6 = .ok (.iconst (-1), 1) := dk_2 (dk_at dksX9_termBy_0 6 rfl rfl)
theorem dX9_termBy_7 : decode cX9_termBy 7 = .ok (.istore 7, 2) := dk_54 7 (dk_at dksX9_termBy_0 7 rfl rfl)
theorem dX9_termBy_9 : decode cX9_termBy 9 = .ok (.iconst 0, 1) := dk_3 (dk_at dksX9_termBy_0 9 rfl rfl)
theorem dX9_termBy_10 : decode cX9_termBy 10 = .ok (.istore 8, 2) := dk_54 8 (dk_at dksX9_termBy_0 10 rfl rfl)
theorem dX9_termBy_12 : decode cX9_termBy 12 = .ok (.iload 8, 2) := dk_21 8 (dk_at dksX9_termBy_0 12 rfl rfl)
theorem dX9_termBy_14 : decode cX9_termBy 14 = .ok (.aload_n 0, 1) := dk_42 (dk_at dksX9_termBy_0 14 rfl rfl)
theorem dX9_termBy_15 : decode cX9_termBy 15 = .ok (.getfield 31, 3) := dk_180 0 31 (dk_at dksX9_termBy_0 15 rfl rfl)
theorem dX9_termBy_18 : decode cX9_termBy 18 = .ok (.iload_n 2, 1) := dk_28 (dk_at dksX9_termBy_0 18 rfl rfl)
theorem dX9_termBy_19 : decode cX9_termBy 19 = .ok (.iaload, 1) := dk_46 (dk_at dksX9_termBy_0 19 rfl rfl)
theorem dX9_termBy_20 : decode cX9_termBy 20 = .ok (.if_icmp .ge 63, 3) := dk_162 0 63 (dk_at dksX9_termBy_0 20 rfl rfl)
theorem dX9_termBy_23 : decode cX9_termBy 23 = .ok (.aload_n 0, 1) := dk_42 (dk_at dksX9_termBy_0 23 rfl rfl)
theorem dX9_termBy_24 : decode cX9_termBy 24 = .ok (.iload_n 2, 1) := dk_28 (dk_at dksX9_termBy_1 0 rfl rfl)
theorem dX9_termBy_25 : decode cX9_termBy 25 = .ok (.iload 8, 2) := dk_21 8 (dk_at dksX9_termBy_1 1 rfl rfl)
theorem dX9_termBy_27 : decode cX9_termBy 27 = .ok (.iconst 0, 1) := dk_3 (dk_at dksX9_termBy_1 3 rfl rfl)
theorem dX9_termBy_28 : decode cX9_termBy 28 = .ok (.invokevirtual 335, 3) := dk_182 1 79 (dk_at dksX9_termBy_1 4 rfl rfl)
theorem dX9_termBy_31 : decode cX9_termBy 31 = .ok (.iload_n 3, 1) := dk_29 (dk_at dksX9_termBy_1 7 rfl rfl)
theorem dX9_termBy_32 : decode cX9_termBy 32 = .ok (.if_icmp .ne 45, 3) := dk_160 0 45 (dk_at dksX9_termBy_1 8 rfl rfl)
theorem dX9_termBy_35 : decode cX9_termBy 35 = .ok (.aload_n 0, 1) := dk_42 (dk_at dksX9_termBy_1 11 rfl rfl)
theorem dX9_termBy_36 : decode cX9_termBy 36 = .ok (.iload_n 1, 1) := dk_27 (dk_at dksX9_termBy_1 12 rfl rfl)
theorem dX9_termBy_37 : decode cX9_termBy 37 = .ok (.iload_n 2, 1) := dk_28 (dk_at dksX9_termBy_1 13 rfl rfl)
theorem dX9_termBy_38 : decode cX9_termBy 38 = .ok (.iload 8, 2) := dk_21 8 (dk_at dksX9_termBy_1 14 rfl rfl)
theorem dX9_termBy_40 : decode cX9_termBy 40 = .ok (.iload 4, 2) := dk_21 4 (dk_at dksX9_termBy_1 16 rfl rfl)
theorem dX9_termBy_42 : decode cX9_termBy 42 = .ok (.invokevirtual 353, 3) := dk_182 1 97 (dk_at dksX9_termBy_1 18 rfl rfl)
theorem dX9_termBy_45 : decode cX9_termBy 45 = .ok (.istore 9, 2) := dk_54 9 (dk_at dksX9_termBy_1 21 rfl rfl)
theorem dX9_termBy_47 : decode cX9_termBy 47 = .ok (.iinc 5 1, 3) := dk_132 5 1 (dk_at dksX9_termBy_2 0 rfl rfl)
theorem dX9_termBy_50 : decode cX9_termBy 50 = .ok (.iload 6, 2) := dk_21 6 (dk_at dksX9_termBy_2 3 rfl rfl)
theorem dX9_termBy_52 : decode cX9_termBy 52 = .ok (.iload 9, 2) := dk_21 9 (dk_at dksX9_termBy_2 5 rfl rfl)
theorem dX9_termBy_54 : decode cX9_termBy 54 = .ok (.iadd, 1) := dk_96 (dk_at dksX9_termBy_2 7 rfl rfl)
theorem dX9_termBy_55 : decode cX9_termBy 55 = .ok (.istore 6, 2) := dk_54 6 (dk_at dksX9_termBy_2 8 rfl rfl)
theorem dX9_termBy_57 : decode cX9_termBy 57 = .ok (.iload 7, 2) := dk_21 7 (dk_at dksX9_termBy_2 10 rfl rfl)
theorem dX9_termBy_59 : decode cX9_termBy 59 = .ok (.iconst (-1), 1) := dk_2 (dk_at dksX9_termBy_2 12 rfl rfl)
theorem dX9_termBy_60 : decode cX9_termBy 60 = .ok (.if_icmp .ne 8, 3) := dk_160 0 8 (dk_at dksX9_termBy_2 13 rfl rfl)
theorem dX9_termBy_63 : decode cX9_termBy 63 = .ok (.iload 9, 2) := dk_21 9 (dk_at dksX9_termBy_2 16 rfl rfl)
theorem dX9_termBy_65 : decode cX9_termBy 65 = .ok (.goto 10, 3) := dk_167 0 10 (dk_at dksX9_termBy_2 18 rfl rfl)
theorem dX9_termBy_68 : decode cX9_termBy 68 = .ok (.iload 7, 2) := dk_21 7 (dk_at dksX9_termBy_2 21 rfl rfl)
theorem dX9_termBy_70 : decode cX9_termBy 70 = .ok (.iload 9, 2) := dk_21 9 (dk_at dksX9_termBy_3 0 rfl rfl)
theorem dX9_termBy_72 : decode cX9_termBy 72 = .ok (.invokestatic 194, 3) := dk_184 0 194 (dk_at dksX9_termBy_3 2 rfl rfl)
theorem dX9_termBy_75 : decode cX9_termBy 75 = .ok (.istore 7, 2) := dk_54 7 (dk_at dksX9_termBy_3 5 rfl rfl)
theorem dX9_termBy_77 : decode cX9_termBy 77 = .ok (.iinc 8 1, 3) := dk_132 8 1 (dk_at dksX9_termBy_3 7 rfl rfl)
theorem dX9_termBy_80 : decode cX9_termBy 80 = .ok (.goto (-68), 3) := dk_167 255 188 (dk_at dksX9_termBy_3 10 rfl rfl)
theorem dX9_termBy_83 : decode cX9_termBy 83 = .ok (.iload 4, 2) := dk_21 4 (dk_at dksX9_termBy_3 13 rfl rfl)
theorem dX9_termBy_85 : decode cX9_termBy 85 = .ok (.iconst 1, 1) := dk_4 (dk_at dksX9_termBy_3 15 rfl rfl)
theorem dX9_termBy_86 : decode cX9_termBy 86 = .ok (.if_icmp .ne 23, 3) := dk_160 0 23 (dk_at dksX9_termBy_3 16 rfl rfl)
theorem dX9_termBy_89 : decode cX9_termBy 89 = .ok (.iconst 0, 1) := dk_3 (dk_at dksX9_termBy_3 19 rfl rfl)
theorem dX9_termBy_90 : decode cX9_termBy 90 = .ok (.iload 6, 2) := dk_21 6 (dk_at dksX9_termBy_3 20 rfl rfl)
theorem dX9_termBy_92 : decode cX9_termBy 92 = .ok (.iload 5, 2) := dk_21 5 (dk_at dksX9_termBy_3 22 rfl rfl)
theorem dX9_termBy_94 : decode cX9_termBy 94 = .ok (.iconst 1, 1) := dk_4 (dk_at dksX9_termBy_4 0 rfl rfl)
theorem dX9_termBy_95 : decode cX9_termBy 95 = .ok (.isub, 1) := dk_100 (dk_at dksX9_termBy_4 1 rfl rfl)
theorem dX9_termBy_96 : decode cX9_termBy 96 = .ok (.aload_n 0, 1) := dk_42 (dk_at dksX9_termBy_4 2 rfl rfl)
theorem dX9_termBy_97 : decode cX9_termBy 97 = .ok (.iload_n 1, 1) := dk_27 (dk_at dksX9_termBy_4 3 rfl rfl)
theorem dX9_termBy_98 : decode cX9_termBy 98 = .ok (.invokevirtual 161, 3) := dk_182 0 161 (dk_at dksX9_termBy_4 4 rfl rfl)
theorem dX9_termBy_101 : decode cX9_termBy 101 = .ok (.imul, 1) := dk_104 (dk_at dksX9_termBy_4 7 rfl rfl)
theorem dX9_termBy_102 : decode cX9_termBy 102 = .ok (.isub, 1) := dk_100 (dk_at dksX9_termBy_4 8 rfl rfl)
theorem dX9_termBy_103 : decode cX9_termBy 103 = .ok (.invokestatic 202, 3) := dk_184 0 202 (dk_at dksX9_termBy_4 9 rfl rfl)
theorem dX9_termBy_106 : decode cX9_termBy 106 = .ok (.goto 5, 3) := dk_167 0 5 (dk_at dksX9_termBy_4 12 rfl rfl)
theorem dX9_termBy_109 : decode cX9_termBy 109 = .ok (.iload 7, 2) := dk_21 7 (dk_at dksX9_termBy_4 15 rfl rfl)
theorem dX9_termBy_111 : decode cX9_termBy 111 = .ok (.ireturn, 1) := dk_172 (dk_at dksX9_termBy_4 17 rfl rfl)
abbrev cX9_unitBy : ByteArray := prog_28_method_89_code
def yX9_unitBy : MethodName := ⟨RX9, "unitBy", "(IIII)I"⟩
def dkwX9_unitBy_10 : List UInt8 := [21, 6, 172]
abbrev dktX9_unitBy_10 : List UInt8 := dkwX9_unitBy_10 ++ []
def dkwX9_unitBy_9 : List UInt8 := [184, 0, 194, 167, 0, 11, 21, 10, 21, 9, 104, 21, 8, 108, 96, 54, 6, 132, 7, 1, 167, 255, 58]
abbrev dktX9_unitBy_9 : List UInt8 := dkwX9_unitBy_9 ++ dktX9_unitBy_10
def dkwX9_unitBy_8 : List UInt8 := [4, 160, 0, 8, 21, 12, 167, 0, 30, 21, 4, 5, 160, 0, 16, 21, 10, 21, 11, 21, 9, 104]
abbrev dktX9_unitBy_8 : List UInt8 := dkwX9_unitBy_8 ++ dktX9_unitBy_9
def dkwX9_unitBy_7 : List UInt8 := [167, 0, 18, 3, 21, 10, 21, 11, 21, 8, 21, 9, 100, 104, 100, 184, 0, 202, 54, 12, 21, 6, 21, 4]
abbrev dktX9_unitBy_7 : List UInt8 := dkwX9_unitBy_7 ++ dktX9_unitBy_8
def dkwX9_unitBy_6 : List UInt8 := [21, 5, 21, 7, 6, 182, 0, 241, 54, 11, 21, 9, 158, 0, 75, 21, 9, 21, 8, 160, 0, 8, 21, 10]
abbrev dktX9_unitBy_6 : List UInt8 := dkwX9_unitBy_6 ++ dktX9_unitBy_7
def dkwX9_unitBy_5 : List UInt8 := [96, 54, 9, 132, 10, 1, 167, 255, 217, 42, 27, 21, 5, 21, 7, 5, 182, 0, 241, 54, 10, 42, 27]
abbrev dktX9_unitBy_5 : List UInt8 := dkwX9_unitBy_5 ++ dktX9_unitBy_6
def dkwX9_unitBy_4 : List UInt8 := [182, 0, 241, 163, 0, 30, 21, 9, 42, 28, 29, 21, 10, 182, 1, 82, 153, 0, 7, 4, 167, 0, 4, 3]
abbrev dktX9_unitBy_4 : List UInt8 := dkwX9_unitBy_4 ++ dktX9_unitBy_5
def dkwX9_unitBy_3 : List UInt8 := [3, 54, 9, 42, 27, 21, 5, 21, 7, 3, 182, 0, 241, 54, 10, 21, 10, 42, 27, 21, 5, 21, 7, 4]
abbrev dktX9_unitBy_3 : List UInt8 := dkwX9_unitBy_3 ++ dktX9_unitBy_4
def dkwX9_unitBy_2 : List UInt8 := [27, 21, 5, 21, 7, 4, 182, 0, 241, 42, 27, 21, 5, 21, 7, 3, 182, 0, 241, 100, 4, 96, 54, 8]
abbrev dktX9_unitBy_2 : List UInt8 := dkwX9_unitBy_2 ++ dktX9_unitBy_3
def dkwX9_unitBy_1 : List UInt8 := [2, 182, 0, 167, 172, 3, 54, 6, 3, 54, 7, 21, 7, 42, 27, 21, 5, 182, 0, 238, 162, 0, 192, 42]
abbrev dktX9_unitBy_1 : List UInt8 := dkwX9_unitBy_1 ++ dktX9_unitBy_2
def dkwX9_unitBy_0 : List UInt8 := [42, 28, 29, 4, 182, 1, 79, 54, 5, 42, 28, 29, 5, 182, 1, 79, 6, 160, 0, 12, 42, 27, 21, 5]
abbrev dktX9_unitBy_0 : List UInt8 := dkwX9_unitBy_0 ++ dktX9_unitBy_1
theorem dksX9_unitBy_0 : cX9_unitBy.data.toList.drop 0 = dktX9_unitBy_0 := by decide +kernel
theorem dksX9_unitBy_1 : cX9_unitBy.data.toList.drop 24 = dktX9_unitBy_1 := dk_seg dksX9_unitBy_0 24 rfl rfl
theorem dksX9_unitBy_2 : cX9_unitBy.data.toList.drop 48 = dktX9_unitBy_2 := dk_seg dksX9_unitBy_1 24 rfl rfl
theorem dksX9_unitBy_3 : cX9_unitBy.data.toList.drop 72 = dktX9_unitBy_3 := dk_seg dksX9_unitBy_2 24 rfl rfl
theorem dksX9_unitBy_4 : cX9_unitBy.data.toList.drop 96 = dktX9_unitBy_4 := dk_seg dksX9_unitBy_3 24 rfl rfl
theorem dksX9_unitBy_5 : cX9_unitBy.data.toList.drop 120 = dktX9_unitBy_5 := dk_seg dksX9_unitBy_4 24 rfl rfl
theorem dksX9_unitBy_6 : cX9_unitBy.data.toList.drop 143 = dktX9_unitBy_6 := dk_seg dksX9_unitBy_5 23 rfl rfl
theorem dksX9_unitBy_7 : cX9_unitBy.data.toList.drop 167 = dktX9_unitBy_7 := dk_seg dksX9_unitBy_6 24 rfl rfl
theorem dksX9_unitBy_8 : cX9_unitBy.data.toList.drop 191 = dktX9_unitBy_8 := dk_seg dksX9_unitBy_7 24 rfl rfl
theorem dksX9_unitBy_9 : cX9_unitBy.data.toList.drop 213 = dktX9_unitBy_9 := dk_seg dksX9_unitBy_8 22 rfl rfl
theorem dksX9_unitBy_10 : cX9_unitBy.data.toList.drop 236 = dktX9_unitBy_10 := dk_seg dksX9_unitBy_9 23 rfl rfl
theorem dX9_unitBy_0 : decode cX9_unitBy 0 = .ok (.aload_n 0, 1) := dk_42 (dk_at dksX9_unitBy_0 0 rfl rfl)
theorem dX9_unitBy_1 : decode cX9_unitBy 1 = .ok (.iload_n 2, 1) := dk_28 (dk_at dksX9_unitBy_0 1 rfl rfl)
theorem dX9_unitBy_2 : decode cX9_unitBy 2 = .ok (.iload_n 3, 1) := dk_29 (dk_at dksX9_unitBy_0 2 rfl rfl)
theorem dX9_unitBy_3 : decode cX9_unitBy 3 = .ok (.iconst 1, 1) := dk_4 (dk_at dksX9_unitBy_0 3 rfl rfl)
theorem dX9_unitBy_4 : decode cX9_unitBy 4 = .ok (.invokevirtual 335, 3) := dk_182 1 79 (dk_at dksX9_unitBy_0 4 rfl rfl)
theorem dX9_unitBy_7 : decode cX9_unitBy 7 = .ok (.istore 5, 2) := dk_54 5 (dk_at dksX9_unitBy_0 7 rfl rfl)
theorem dX9_unitBy_9 : decode cX9_unitBy 9 = .ok (.aload_n 0, 1) := dk_42 (dk_at dksX9_unitBy_0 9 rfl rfl)
theorem dX9_unitBy_10 : decode cX9_unitBy 10 = .ok (.iload_n 2, 1) := dk_28 (dk_at dksX9_unitBy_0 10 rfl rfl)
theorem dX9_unitBy_11 : decode cX9_unitBy 11 = .ok (.iload_n 3, 1) := dk_29 (dk_at dksX9_unitBy_0 11 rfl rfl)
theorem dX9_unitBy_12 : decode cX9_unitBy 12 = .ok (.iconst 2, 1) := dk_5 (dk_at dksX9_unitBy_0 12 rfl rfl)
theorem dX9_unitBy_13 : decode cX9_unitBy 13 = .ok (.invokevirtual 335, 3) := dk_182 1 79 (dk_at dksX9_unitBy_0 13 rfl rfl)
theorem dX9_unitBy_16 : decode cX9_unitBy 16 = .ok (.iconst 3, 1) := dk_6 (dk_at dksX9_unitBy_0 16 rfl rfl)
theorem dX9_unitBy_17 : decode cX9_unitBy 17 = .ok (.if_icmp .ne 12, 3) := dk_160 0 12 (dk_at dksX9_unitBy_0 17 rfl rfl)
theorem dX9_unitBy_20 : decode cX9_unitBy 20 = .ok (.aload_n 0, 1) := dk_42 (dk_at dksX9_unitBy_0 20 rfl rfl)
theorem dX9_unitBy_21 : decode cX9_unitBy 21 = .ok (.iload_n 1, 1) := dk_27 (dk_at dksX9_unitBy_0 21 rfl rfl)
theorem dX9_unitBy_22 : decode cX9_unitBy 22 = .ok (.iload 5, 2) := dk_21 5 (dk_at dksX9_unitBy_0 22 rfl rfl)
theorem dX9_unitBy_24 : decode cX9_unitBy 24 = .ok (.iconst (-1), 1) := dk_2 (dk_at dksX9_unitBy_1 0 rfl rfl)
theorem dX9_unitBy_25 : decode cX9_unitBy 25 = .ok (.invokevirtual 167, 3) := dk_182 0 167 (dk_at dksX9_unitBy_1 1 rfl rfl)
theorem dX9_unitBy_28 : decode cX9_unitBy 28 = .ok (.ireturn, 1) := dk_172 (dk_at dksX9_unitBy_1 4 rfl rfl)
theorem dX9_unitBy_29 : decode cX9_unitBy 29 = .ok (.iconst 0, 1) := dk_3 (dk_at dksX9_unitBy_1 5 rfl rfl)
theorem dX9_unitBy_30 : decode cX9_unitBy 30 = .ok (.istore 6, 2) := dk_54 6 (dk_at dksX9_unitBy_1 6 rfl rfl)
theorem dX9_unitBy_32 : decode cX9_unitBy 32 = .ok (.iconst 0, 1) := dk_3 (dk_at dksX9_unitBy_1 8 rfl rfl)
theorem dX9_unitBy_33 : decode cX9_unitBy 33 = .ok (.istore 7, 2) := dk_54 7 (dk_at dksX9_unitBy_1 9 rfl rfl)
theorem dX9_unitBy_35 : decode cX9_unitBy 35 = .ok (.iload 7, 2) := dk_21 7 (dk_at dksX9_unitBy_1 11 rfl rfl)
theorem dX9_unitBy_37 : decode cX9_unitBy 37 = .ok (.aload_n 0, 1) := dk_42 (dk_at dksX9_unitBy_1 13 rfl rfl)
theorem dX9_unitBy_38 : decode cX9_unitBy 38 = .ok (.iload_n 1, 1) := dk_27 (dk_at dksX9_unitBy_1 14 rfl rfl)
theorem dX9_unitBy_39 : decode cX9_unitBy 39 = .ok (.iload 5, 2) := dk_21 5 (dk_at dksX9_unitBy_1 15 rfl rfl)
theorem dX9_unitBy_41 : decode cX9_unitBy 41 = .ok (.invokevirtual 238, 3) := dk_182 0 238 (dk_at dksX9_unitBy_1 17 rfl rfl)
theorem dX9_unitBy_44 : decode cX9_unitBy 44 = .ok (.if_icmp .ge 192, 3) := dk_162 0 192 (dk_at dksX9_unitBy_1 20 rfl rfl)
theorem dX9_unitBy_47 : decode cX9_unitBy 47 = .ok (.aload_n 0, 1) := dk_42 (dk_at dksX9_unitBy_1 23 rfl rfl)
theorem dX9_unitBy_48 : decode cX9_unitBy 48 = .ok (.iload_n 1, 1) := dk_27 (dk_at dksX9_unitBy_2 0 rfl rfl)
theorem dX9_unitBy_49 : decode cX9_unitBy 49 = .ok (.iload 5, 2) := dk_21 5 (dk_at dksX9_unitBy_2 1 rfl rfl)
theorem dX9_unitBy_51 : decode cX9_unitBy 51 = .ok (.iload 7, 2) := dk_21 7 (dk_at dksX9_unitBy_2 3 rfl rfl)
theorem dX9_unitBy_53 : decode cX9_unitBy 53 = .ok (.iconst 1, 1) := dk_4 (dk_at dksX9_unitBy_2 5 rfl rfl)
theorem dX9_unitBy_54 : decode cX9_unitBy 54 = .ok (.invokevirtual 241, 3) := dk_182 0 241 (dk_at dksX9_unitBy_2 6 rfl rfl)
theorem dX9_unitBy_57 : decode cX9_unitBy 57 = .ok (.aload_n 0, 1) := dk_42 (dk_at dksX9_unitBy_2 9 rfl rfl)
theorem dX9_unitBy_58 : decode cX9_unitBy 58 = .ok (.iload_n 1, 1) := dk_27 (dk_at dksX9_unitBy_2 10 rfl rfl)
theorem dX9_unitBy_59 : decode cX9_unitBy 59 = .ok (.iload 5, 2) := dk_21 5 (dk_at dksX9_unitBy_2 11 rfl rfl)
theorem dX9_unitBy_61 : decode cX9_unitBy 61 = .ok (.iload 7, 2) := dk_21 7 (dk_at dksX9_unitBy_2 13 rfl rfl)
theorem dX9_unitBy_63 : decode cX9_unitBy 63 = .ok (.iconst 0, 1) := dk_3 (dk_at dksX9_unitBy_2 15 rfl rfl)
theorem dX9_unitBy_64 : decode cX9_unitBy 64 = .ok (.invokevirtual 241, 3) := dk_182 0 241 (dk_at dksX9_unitBy_2 16 rfl rfl)
theorem dX9_unitBy_67 : decode cX9_unitBy 67 = .ok (.isub, 1) := dk_100 (dk_at dksX9_unitBy_2 19 rfl rfl)
theorem dX9_unitBy_68 : decode cX9_unitBy 68 = .ok (.iconst 1, 1) := dk_4 (dk_at dksX9_unitBy_2 20 rfl rfl)
theorem dX9_unitBy_69 : decode cX9_unitBy 69 = .ok (.iadd, 1) := dk_96 (dk_at dksX9_unitBy_2 21 rfl rfl)
theorem dX9_unitBy_70 : decode cX9_unitBy 70 = .ok (.istore 8, 2) := dk_54 8 (dk_at dksX9_unitBy_2 22 rfl rfl)
theorem dX9_unitBy_72 : decode cX9_unitBy 72 = .ok (.iconst 0, 1) := dk_3 (dk_at dksX9_unitBy_3 0 rfl rfl)
theorem dX9_unitBy_73 : decode cX9_unitBy 73 = .ok (.istore 9, 2) := dk_54 9 (dk_at dksX9_unitBy_3 1 rfl rfl)
theorem dX9_unitBy_75 : decode cX9_unitBy 75 = .ok (.aload_n 0, 1) := dk_42 (dk_at dksX9_unitBy_3 3 rfl rfl)
theorem dX9_unitBy_76 : decode cX9_unitBy 76 = .ok (.iload_n 1, 1) := dk_27 (dk_at dksX9_unitBy_3 4 rfl rfl)
theorem dX9_unitBy_77 : decode cX9_unitBy 77 = .ok (.iload 5, 2) := dk_21 5 (dk_at dksX9_unitBy_3 5 rfl rfl)
theorem dX9_unitBy_79 : decode cX9_unitBy 79 = .ok (.iload 7, 2) := dk_21 7 (dk_at dksX9_unitBy_3 7 rfl rfl)
theorem dX9_unitBy_81 : decode cX9_unitBy 81 = .ok (.iconst 0, 1) := dk_3 (dk_at dksX9_unitBy_3 9 rfl rfl)
theorem dX9_unitBy_82 : decode cX9_unitBy 82 = .ok (.invokevirtual 241, 3) := dk_182 0 241 (dk_at dksX9_unitBy_3 10 rfl rfl)
theorem dX9_unitBy_85 : decode cX9_unitBy 85 = .ok (.istore 10, 2) := dk_54 10 (dk_at dksX9_unitBy_3 13 rfl rfl)
theorem dX9_unitBy_87 : decode cX9_unitBy 87 = .ok (.iload 10, 2) := dk_21 10 (dk_at dksX9_unitBy_3 15 rfl rfl)
theorem dX9_unitBy_89 : decode cX9_unitBy 89 = .ok (.aload_n 0, 1) := dk_42 (dk_at dksX9_unitBy_3 17 rfl rfl)
theorem dX9_unitBy_90 : decode cX9_unitBy 90 = .ok (.iload_n 1, 1) := dk_27 (dk_at dksX9_unitBy_3 18 rfl rfl)
theorem dX9_unitBy_91 : decode cX9_unitBy 91 = .ok (.iload 5, 2) := dk_21 5 (dk_at dksX9_unitBy_3 19 rfl rfl)
theorem dX9_unitBy_93 : decode cX9_unitBy 93 = .ok (.iload 7, 2) := dk_21 7 (dk_at dksX9_unitBy_3 21 rfl rfl)
theorem dX9_unitBy_95 : decode cX9_unitBy 95 = .ok (.iconst 1, 1) := dk_4 (dk_at dksX9_unitBy_3 23 rfl rfl)
theorem dX9_unitBy_96 : decode cX9_unitBy 96 = .ok (.invokevirtual 241, 3) := dk_182 0 241 (dk_at dksX9_unitBy_4 0 rfl rfl)
theorem dX9_unitBy_99 : decode cX9_unitBy 99 = .ok (.if_icmp .gt 30, 3) := dk_163 0 30 (dk_at dksX9_unitBy_4 3 rfl rfl)
theorem dX9_unitBy_102 : decode cX9_unitBy 102 = .ok (.iload 9, 2) := dk_21 9 (dk_at dksX9_unitBy_4 6 rfl rfl)
theorem dX9_unitBy_104 : decode cX9_unitBy 104 = .ok (.aload_n 0, 1) := dk_42 (dk_at dksX9_unitBy_4 8 rfl rfl)
theorem dX9_unitBy_105 : decode cX9_unitBy 105 = .ok (.iload_n 2, 1) := dk_28 (dk_at dksX9_unitBy_4 9 rfl rfl)
theorem dX9_unitBy_106 : decode cX9_unitBy 106 = .ok (.iload_n 3, 1) := dk_29 (dk_at dksX9_unitBy_4 10 rfl rfl)
theorem dX9_unitBy_107 : decode cX9_unitBy 107 = .ok (.iload 10, 2) := dk_21 10 (dk_at dksX9_unitBy_4 11 rfl rfl)
theorem dX9_unitBy_109 : decode cX9_unitBy 109 = .ok (.invokevirtual 338, 3) := dk_182 1 82 (dk_at dksX9_unitBy_4 13 rfl rfl)
theorem dX9_unitBy_112 : decode cX9_unitBy 112 = .ok (.ifCond .eq 7, 3) := dk_153 0 7 (dk_at dksX9_unitBy_4 16 rfl rfl)
theorem dX9_unitBy_115 : decode cX9_unitBy 115 = .ok (.iconst 1, 1) := dk_4 (dk_at dksX9_unitBy_4 19 rfl rfl)
theorem dX9_unitBy_116 : decode cX9_unitBy 116 = .ok (.goto 4, 3) := dk_167 0 4 (dk_at dksX9_unitBy_4 20 rfl rfl)
theorem dX9_unitBy_119 : decode cX9_unitBy 119 = .ok (.iconst 0, 1) := dk_3 (dk_at dksX9_unitBy_4 23 rfl rfl)
theorem dX9_unitBy_120 : decode cX9_unitBy 120 = .ok (.iadd, 1) := dk_96 (dk_at dksX9_unitBy_5 0 rfl rfl)
theorem dX9_unitBy_121 : decode cX9_unitBy 121 = .ok (.istore 9, 2) := dk_54 9 (dk_at dksX9_unitBy_5 1 rfl rfl)
theorem dX9_unitBy_123 : decode cX9_unitBy 123 = .ok (.iinc 10 1, 3) := dk_132 10 1 (dk_at dksX9_unitBy_5 3 rfl rfl)
theorem dX9_unitBy_126 : decode cX9_unitBy 126 = .ok (.goto (-39), 3) := dk_167 255 217 (dk_at dksX9_unitBy_5 6 rfl rfl)
theorem dX9_unitBy_129 : decode cX9_unitBy 129 = .ok (.aload_n 0, 1) := dk_42 (dk_at dksX9_unitBy_5 9 rfl rfl)
theorem dX9_unitBy_130 : decode cX9_unitBy 130 = .ok (.iload_n 1, 1) := dk_27 (dk_at dksX9_unitBy_5 10 rfl rfl)
theorem dX9_unitBy_131 : decode cX9_unitBy 131 = .ok (.iload 5, 2) := dk_21 5 (dk_at dksX9_unitBy_5 11 rfl rfl)
theorem dX9_unitBy_133 : decode cX9_unitBy 133 = .ok (.iload 7, 2) := dk_21 7 (dk_at dksX9_unitBy_5 13 rfl rfl)
theorem dX9_unitBy_135 : decode cX9_unitBy 135 = .ok (.iconst 2, 1) := dk_5 (dk_at dksX9_unitBy_5 15 rfl rfl)
theorem dX9_unitBy_136 : decode cX9_unitBy 136 = .ok (.invokevirtual 241, 3) := dk_182 0 241 (dk_at dksX9_unitBy_5 16 rfl rfl)
theorem dX9_unitBy_139 : decode cX9_unitBy 139 = .ok (.istore 10, 2) := dk_54 10 (dk_at dksX9_unitBy_5 19 rfl rfl)
theorem dX9_unitBy_141 : decode cX9_unitBy 141 = .ok (.aload_n 0, 1) := dk_42 (dk_at dksX9_unitBy_5 21 rfl rfl)
theorem dX9_unitBy_142 : decode cX9_unitBy 142 = .ok (.iload_n 1, 1) := dk_27 (dk_at dksX9_unitBy_5 22 rfl rfl)
theorem dX9_unitBy_143 : decode cX9_unitBy 143 = .ok (.iload 5, 2) := dk_21 5 (dk_at dksX9_unitBy_6 0 rfl rfl)
theorem dX9_unitBy_145 : decode cX9_unitBy 145 = .ok (.iload 7, 2) := dk_21 7 (dk_at dksX9_unitBy_6 2 rfl rfl)
theorem dX9_unitBy_147 : decode cX9_unitBy 147 = .ok (.iconst 3, 1) := dk_6 (dk_at dksX9_unitBy_6 4 rfl rfl)
theorem dX9_unitBy_148 : decode cX9_unitBy 148 = .ok (.invokevirtual 241, 3) := dk_182 0 241 (dk_at dksX9_unitBy_6 5 rfl rfl)
theorem dX9_unitBy_151 : decode cX9_unitBy 151 = .ok (.istore 11, 2) := dk_54 11 (dk_at dksX9_unitBy_6 8 rfl rfl)
theorem dX9_unitBy_153 : decode cX9_unitBy 153 = .ok (.iload 9, 2) := dk_21 9 (dk_at dksX9_unitBy_6 10 rfl rfl)
theorem dX9_unitBy_155 : decode cX9_unitBy 155 = .ok (.ifCond .le 75, 3) := dk_158 0 75 (dk_at dksX9_unitBy_6 12 rfl rfl)
theorem dX9_unitBy_158 : decode cX9_unitBy 158 = .ok (.iload 9, 2) := dk_21 9 (dk_at dksX9_unitBy_6 15 rfl rfl)
theorem dX9_unitBy_160 : decode cX9_unitBy 160 = .ok (.iload 8, 2) := dk_21 8 (dk_at dksX9_unitBy_6 17 rfl rfl)
theorem dX9_unitBy_162 : decode cX9_unitBy 162 = .ok (.if_icmp .ne 8, 3) := dk_160 0 8 (dk_at dksX9_unitBy_6 19 rfl rfl)
theorem dX9_unitBy_165 : decode cX9_unitBy 165 = .ok (.iload 10, 2) := dk_21 10 (dk_at dksX9_unitBy_6 22 rfl rfl)
theorem dX9_unitBy_167 : decode cX9_unitBy 167 = .ok (.goto 18, 3) := dk_167 0 18 (dk_at dksX9_unitBy_7 0 rfl rfl)
theorem dX9_unitBy_170 : decode cX9_unitBy 170 = .ok (.iconst 0, 1) := dk_3 (dk_at dksX9_unitBy_7 3 rfl rfl)
theorem dX9_unitBy_171 : decode cX9_unitBy 171 = .ok (.iload 10, 2) := dk_21 10 (dk_at dksX9_unitBy_7 4 rfl rfl)
theorem dX9_unitBy_173 : decode cX9_unitBy 173 = .ok (.iload 11, 2) := dk_21 11 (dk_at dksX9_unitBy_7 6 rfl rfl)
theorem dX9_unitBy_175 : decode cX9_unitBy 175 = .ok (.iload 8, 2) := dk_21 8 (dk_at dksX9_unitBy_7 8 rfl rfl)
theorem dX9_unitBy_177 : decode cX9_unitBy 177 = .ok (.iload 9, 2) := dk_21 9 (dk_at dksX9_unitBy_7 10 rfl rfl)
theorem dX9_unitBy_179 : decode cX9_unitBy 179 = .ok (.isub, 1) := dk_100 (dk_at dksX9_unitBy_7 12 rfl rfl)
theorem dX9_unitBy_180 : decode cX9_unitBy 180 = .ok (.imul, 1) := dk_104 (dk_at dksX9_unitBy_7 13 rfl rfl)
theorem dX9_unitBy_181 : decode cX9_unitBy 181 = .ok (.isub, 1) := dk_100 (dk_at dksX9_unitBy_7 14 rfl rfl)
theorem dX9_unitBy_182 : decode cX9_unitBy 182 = .ok (.invokestatic 202, 3) := dk_184 0 202 (dk_at dksX9_unitBy_7 15 rfl rfl)
theorem dX9_unitBy_185 : decode cX9_unitBy 185 = .ok (.istore 12, 2) := dk_54 12 (dk_at dksX9_unitBy_7 18 rfl rfl)
theorem dX9_unitBy_187 : decode cX9_unitBy 187 = .ok (.iload 6, 2) := dk_21 6 (dk_at dksX9_unitBy_7 20 rfl rfl)
theorem dX9_unitBy_189 : decode cX9_unitBy 189 = .ok (.iload 4, 2) := dk_21 4 (dk_at dksX9_unitBy_7 22 rfl rfl)
theorem dX9_unitBy_191 : decode cX9_unitBy 191 = .ok (.iconst 1, 1) := dk_4 (dk_at dksX9_unitBy_8 0 rfl rfl)
theorem dX9_unitBy_192 : decode cX9_unitBy 192 = .ok (.if_icmp .ne 8, 3) := dk_160 0 8 (dk_at dksX9_unitBy_8 1 rfl rfl)
theorem dX9_unitBy_195 : decode cX9_unitBy 195 = .ok (.iload 12, 2) := dk_21 12 (dk_at dksX9_unitBy_8 4 rfl rfl)
theorem dX9_unitBy_197 : decode cX9_unitBy 197 = .ok (.goto 30, 3) := dk_167 0 30 (dk_at dksX9_unitBy_8 6 rfl rfl)
theorem dX9_unitBy_200 : decode cX9_unitBy 200 = .ok (.iload 4, 2) := dk_21 4 (dk_at dksX9_unitBy_8 9 rfl rfl)
theorem dX9_unitBy_202 : decode cX9_unitBy 202 = .ok (.iconst 2, 1) := dk_5 (dk_at dksX9_unitBy_8 11 rfl rfl)
theorem dX9_unitBy_203 : decode cX9_unitBy 203 = .ok (.if_icmp .ne 16, 3) := dk_160 0 16 (dk_at dksX9_unitBy_8 12 rfl rfl)
theorem dX9_unitBy_206 : decode cX9_unitBy 206 = .ok (.iload 10, 2) := dk_21 10 (dk_at dksX9_unitBy_8 15 rfl rfl)
theorem dX9_unitBy_208 : decode cX9_unitBy 208 = .ok (.iload 11, 2) := dk_21 11 (dk_at dksX9_unitBy_8 17 rfl rfl)
theorem dX9_unitBy_210 : decode cX9_unitBy 210 = .ok (.iload 9, 2) := dk_21 9 (dk_at dksX9_unitBy_8 19 rfl rfl)
theorem dX9_unitBy_212 : decode cX9_unitBy 212 = .ok (.imul, 1) := dk_104 (dk_at dksX9_unitBy_8 21 rfl rfl)
theorem dX9_unitBy_213 : decode cX9_unitBy 213 = .ok (.invokestatic 194, 3) := dk_184 0 194 (dk_at dksX9_unitBy_9 0 rfl rfl)
theorem dX9_unitBy_216 : decode cX9_unitBy 216 = .ok (.goto 11, 3) := dk_167 0 11 (dk_at dksX9_unitBy_9 3 rfl rfl)
theorem dX9_unitBy_219 : decode cX9_unitBy 219 = .ok (.iload 10, 2) := dk_21 10 (dk_at dksX9_unitBy_9 6 rfl rfl)
theorem dX9_unitBy_221 : decode cX9_unitBy 221 = .ok (.iload 9, 2) := dk_21 9 (dk_at dksX9_unitBy_9 8 rfl rfl)
theorem dX9_unitBy_223 : decode cX9_unitBy 223 = .ok (.imul, 1) := dk_104 (dk_at dksX9_unitBy_9 10 rfl rfl)
theorem dX9_unitBy_224 : decode cX9_unitBy 224 = .ok (.iload 8, 2) := dk_21 8 (dk_at dksX9_unitBy_9 11 rfl rfl)
theorem dX9_unitBy_226 : decode cX9_unitBy 226 = .ok (.idiv, 1) := dk_108 (dk_at dksX9_unitBy_9 13 rfl rfl)
theorem dX9_unitBy_227 : decode cX9_unitBy 227 = .ok (.iadd, 1) := dk_96 (dk_at dksX9_unitBy_9 14 rfl rfl)
theorem dX9_unitBy_228 : decode cX9_unitBy 228 = .ok (.istore 6, 2) := dk_54 6 (dk_at dksX9_unitBy_9 15 rfl rfl)
theorem dX9_unitBy_230 : decode cX9_unitBy 230 = .ok (.iinc 7 1, 3) := dk_132 7 1 (dk_at dksX9_unitBy_9 17 rfl rfl)
theorem dX9_unitBy_233 : decode cX9_unitBy 233 = .ok (.goto (-198), 3) := dk_167 255 58 (dk_at dksX9_unitBy_9 20 rfl rfl)
theorem dX9_unitBy_236 : decode cX9_unitBy 236 = .ok (.iload 6, 2) := dk_21 6 (dk_at dksX9_unitBy_10 0 rfl rfl)
theorem dX9_unitBy_238 : decode cX9_unitBy 238 = .ok (.ireturn, 1) := dk_172 (dk_at dksX9_unitBy_10 2 rfl rfl)
abbrev cX9_isUnitOf : ByteArray := prog_28_method_84_code
def yX9_isUnitOf : MethodName := ⟨RX9, "isUnitOf", "(III)Z"⟩
def dkwX9_isUnitOf_4 : List UInt8 := [167, 0, 4, 3, 172, 29, 2, 160, 0, 7, 4, 167, 0, 4, 3, 172]
abbrev dktX9_isUnitOf_4 : List UInt8 := dkwX9_isUnitOf_4 ++ []
def dkwX9_isUnitOf_3 : List UInt8 := [21, 4, 162, 0, 7, 4, 167, 0, 4, 3, 172, 29, 2, 159, 0, 13, 29, 21, 4, 164, 0, 7, 4]
abbrev dktX9_isUnitOf_3 : List UInt8 := dkwX9_isUnitOf_3 ++ dktX9_isUnitOf_4
def dkwX9_isUnitOf_2 : List UInt8 := [29, 2, 159, 0, 13, 29, 21, 4, 160, 0, 7, 4, 167, 0, 4, 3, 172, 29, 2, 159, 0, 13, 29]
abbrev dktX9_isUnitOf_2 : List UInt8 := dkwX9_isUnitOf_2 ++ dktX9_isUnitOf_3
def dkwX9_isUnitOf_1 : List UInt8 := [170, 0, 0, 0, 0, 0, 0, 79, 0, 0, 0, 0, 0, 0, 0, 2, 0, 0, 0, 28, 0, 0, 0, 45, 0, 0, 0, 62]
abbrev dktX9_isUnitOf_1 : List UInt8 := dkwX9_isUnitOf_1 ++ dktX9_isUnitOf_2
def dkwX9_isUnitOf_0 : List UInt8 := [42, 27, 28, 6, 182, 1, 79, 54, 4, 42, 27, 28, 5, 182, 1, 79]
abbrev dktX9_isUnitOf_0 : List UInt8 := dkwX9_isUnitOf_0 ++ dktX9_isUnitOf_1
theorem dksX9_isUnitOf_0 : cX9_isUnitOf.data.toList.drop 0 = dktX9_isUnitOf_0 := by decide +kernel
theorem dksX9_isUnitOf_1 : cX9_isUnitOf.data.toList.drop 16 = dktX9_isUnitOf_1 := dk_seg dksX9_isUnitOf_0 16 rfl rfl
theorem dksX9_isUnitOf_2 : cX9_isUnitOf.data.toList.drop 44 = dktX9_isUnitOf_2 := dk_seg dksX9_isUnitOf_1 28 rfl rfl
theorem dksX9_isUnitOf_3 : cX9_isUnitOf.data.toList.drop 67 = dktX9_isUnitOf_3 := dk_seg dksX9_isUnitOf_2 23 rfl rfl
theorem dksX9_isUnitOf_4 : cX9_isUnitOf.data.toList.drop 90 = dktX9_isUnitOf_4 := dk_seg dksX9_isUnitOf_3 23 rfl rfl
theorem dX9_isUnitOf_0 : decode cX9_isUnitOf 0 = .ok (.aload_n 0, 1) := dk_42 (dk_at dksX9_isUnitOf_0 0 rfl rfl)
theorem dX9_isUnitOf_1 : decode cX9_isUnitOf 1 = .ok (.iload_n 1, 1) := dk_27 (dk_at dksX9_isUnitOf_0 1 rfl rfl)
theorem dX9_isUnitOf_2 : decode cX9_isUnitOf 2 = .ok (.iload_n 2, 1) := dk_28 (dk_at dksX9_isUnitOf_0 2 rfl rfl)
theorem dX9_isUnitOf_3 : decode cX9_isUnitOf 3 = .ok (.iconst 3, 1) := dk_6 (dk_at dksX9_isUnitOf_0 3 rfl rfl)
theorem dX9_isUnitOf_4 : decode cX9_isUnitOf 4 = .ok (.invokevirtual 335, 3) := dk_182 1 79 (dk_at dksX9_isUnitOf_0 4 rfl rfl)
theorem dX9_isUnitOf_7 : decode cX9_isUnitOf 7 = .ok (.istore 4, 2) := dk_54 4 (dk_at dksX9_isUnitOf_0 7 rfl rfl)
theorem dX9_isUnitOf_9 : decode cX9_isUnitOf 9 = .ok (.aload_n 0, 1) := dk_42 (dk_at dksX9_isUnitOf_0 9 rfl rfl)
theorem dX9_isUnitOf_10 : decode cX9_isUnitOf 10 = .ok (.iload_n 1, 1) := dk_27 (dk_at dksX9_isUnitOf_0 10 rfl rfl)
theorem dX9_isUnitOf_11 : decode cX9_isUnitOf 11 = .ok (.iload_n 2, 1) := dk_28 (dk_at dksX9_isUnitOf_0 11 rfl rfl)
theorem dX9_isUnitOf_12 : decode cX9_isUnitOf 12 = .ok (.iconst 2, 1) := dk_5 (dk_at dksX9_isUnitOf_0 12 rfl rfl)
theorem dX9_isUnitOf_13 : decode cX9_isUnitOf 13 = .ok (.invokevirtual 335, 3) := dk_182 1 79 (dk_at dksX9_isUnitOf_0 13 rfl rfl)
theorem dX9_isUnitOf_16 : decode cX9_isUnitOf 16 = .ok (.tableswitch 79 0 2 #[28, 45, 62], 28) := by decide +kernel
theorem dX9_isUnitOf_44 : decode cX9_isUnitOf 44 = .ok (.iload_n 3, 1) := dk_29 (dk_at dksX9_isUnitOf_2 0 rfl rfl)
theorem dX9_isUnitOf_45 : decode cX9_isUnitOf 45 = .ok (.iconst (-1), 1) := dk_2 (dk_at dksX9_isUnitOf_2 1 rfl rfl)
theorem dX9_isUnitOf_46 : decode cX9_isUnitOf 46 = .ok (.if_icmp .eq 13, 3) := dk_159 0 13 (dk_at dksX9_isUnitOf_2 2 rfl rfl)
theorem dX9_isUnitOf_49 : decode cX9_isUnitOf 49 = .ok (.iload_n 3, 1) := dk_29 (dk_at dksX9_isUnitOf_2 5 rfl rfl)
theorem dX9_isUnitOf_50 : decode cX9_isUnitOf 50 = .ok (.iload 4, 2) := dk_21 4 (dk_at dksX9_isUnitOf_2 6 rfl rfl)
theorem dX9_isUnitOf_52 : decode cX9_isUnitOf 52 = .ok (.if_icmp .ne 7, 3) := dk_160 0 7 (dk_at dksX9_isUnitOf_2 8 rfl rfl)
theorem dX9_isUnitOf_55 : decode cX9_isUnitOf 55 = .ok (.iconst 1, 1) := dk_4 (dk_at dksX9_isUnitOf_2 11 rfl rfl)
theorem dX9_isUnitOf_56 : decode cX9_isUnitOf 56 = .ok (.goto 4, 3) := dk_167 0 4 (dk_at dksX9_isUnitOf_2 12 rfl rfl)
theorem dX9_isUnitOf_59 : decode cX9_isUnitOf 59 = .ok (.iconst 0, 1) := dk_3 (dk_at dksX9_isUnitOf_2 15 rfl rfl)
theorem dX9_isUnitOf_60 : decode cX9_isUnitOf 60 = .ok (.ireturn, 1) := dk_172 (dk_at dksX9_isUnitOf_2 16 rfl rfl)
theorem dX9_isUnitOf_61 : decode cX9_isUnitOf 61 = .ok (.iload_n 3, 1) := dk_29 (dk_at dksX9_isUnitOf_2 17 rfl rfl)
theorem dX9_isUnitOf_62 : decode cX9_isUnitOf 62 = .ok (.iconst (-1), 1) := dk_2 (dk_at dksX9_isUnitOf_2 18 rfl rfl)
theorem dX9_isUnitOf_63 : decode cX9_isUnitOf 63 = .ok (.if_icmp .eq 13, 3) := dk_159 0 13 (dk_at dksX9_isUnitOf_2 19 rfl rfl)
theorem dX9_isUnitOf_66 : decode cX9_isUnitOf 66 = .ok (.iload_n 3, 1) := dk_29 (dk_at dksX9_isUnitOf_2 22 rfl rfl)
theorem dX9_isUnitOf_67 : decode cX9_isUnitOf 67 = .ok (.iload 4, 2) := dk_21 4 (dk_at dksX9_isUnitOf_3 0 rfl rfl)
theorem dX9_isUnitOf_69 : decode cX9_isUnitOf 69 = .ok (.if_icmp .ge 7, 3) := dk_162 0 7 (dk_at dksX9_isUnitOf_3 2 rfl rfl)
theorem dX9_isUnitOf_72 : decode cX9_isUnitOf 72 = .ok (.iconst 1, 1) := dk_4 (dk_at dksX9_isUnitOf_3 5 rfl rfl)
theorem dX9_isUnitOf_73 : decode cX9_isUnitOf 73 = .ok (.goto 4, 3) := dk_167 0 4 (dk_at dksX9_isUnitOf_3 6 rfl rfl)
theorem dX9_isUnitOf_76 : decode cX9_isUnitOf 76 = .ok (.iconst 0, 1) := dk_3 (dk_at dksX9_isUnitOf_3 9 rfl rfl)
theorem dX9_isUnitOf_77 : decode cX9_isUnitOf 77 = .ok (.ireturn, 1) := dk_172 (dk_at dksX9_isUnitOf_3 10 rfl rfl)
theorem dX9_isUnitOf_78 : decode cX9_isUnitOf 78 = .ok (.iload_n 3, 1) := dk_29 (dk_at dksX9_isUnitOf_3 11 rfl rfl)
theorem dX9_isUnitOf_79 : decode cX9_isUnitOf 79 = .ok (.iconst (-1), 1) := dk_2 (dk_at dksX9_isUnitOf_3 12 rfl rfl)
theorem dX9_isUnitOf_80 : decode cX9_isUnitOf 80 = .ok (.if_icmp .eq 13, 3) := dk_159 0 13 (dk_at dksX9_isUnitOf_3 13 rfl rfl)
theorem dX9_isUnitOf_83 : decode cX9_isUnitOf 83 = .ok (.iload_n 3, 1) := dk_29 (dk_at dksX9_isUnitOf_3 16 rfl rfl)
theorem dX9_isUnitOf_84 : decode cX9_isUnitOf 84 = .ok (.iload 4, 2) := dk_21 4 (dk_at dksX9_isUnitOf_3 17 rfl rfl)
theorem dX9_isUnitOf_86 : decode cX9_isUnitOf 86 = .ok (.if_icmp .le 7, 3) := dk_164 0 7 (dk_at dksX9_isUnitOf_3 19 rfl rfl)
theorem dX9_isUnitOf_89 : decode cX9_isUnitOf 89 = .ok (.iconst 1, 1) := dk_4 (dk_at dksX9_isUnitOf_3 22 rfl rfl)
theorem dX9_isUnitOf_90 : decode cX9_isUnitOf 90 = .ok (.goto 4, 3) := dk_167 0 4 (dk_at dksX9_isUnitOf_4 0 rfl rfl)
theorem dX9_isUnitOf_93 : decode cX9_isUnitOf 93 = .ok (.iconst 0, 1) := dk_3 (dk_at dksX9_isUnitOf_4 3 rfl rfl)
theorem dX9_isUnitOf_94 : decode cX9_isUnitOf 94 = .ok (.ireturn, 1) := dk_172 (dk_at dksX9_isUnitOf_4 4 rfl rfl)
theorem dX9_isUnitOf_95 : decode cX9_isUnitOf 95 = .ok (.iload_n 3, 1) := dk_29 (dk_at dksX9_isUnitOf_4 5 rfl rfl)
theorem dX9_isUnitOf_96 : decode cX9_isUnitOf 96 = .ok (.iconst (-1), 1) := dk_2 (dk_at dksX9_isUnitOf_4 6 rfl rfl)
theorem dX9_isUnitOf_97 : decode cX9_isUnitOf 97 = .ok (.if_icmp .ne 7, 3) := dk_160 0 7 (dk_at dksX9_isUnitOf_4 7 rfl rfl)
theorem dX9_isUnitOf_100 : decode cX9_isUnitOf 100 = .ok (.iconst 1, 1) := dk_4 (dk_at dksX9_isUnitOf_4 10 rfl rfl)
theorem dX9_isUnitOf_101 : decode cX9_isUnitOf 101 = .ok (.goto 4, 3) := dk_167 0 4 (dk_at dksX9_isUnitOf_4 11 rfl rfl)
theorem dX9_isUnitOf_104 : decode cX9_isUnitOf 104 = .ok (.iconst 0, 1) := dk_3 (dk_at dksX9_isUnitOf_4 14 rfl rfl)
theorem dX9_isUnitOf_105 : decode cX9_isUnitOf 105 = .ok (.ireturn, 1) := dk_172 (dk_at dksX9_isUnitOf_4 15 rfl rfl)
abbrev cX9_begin : ByteArray := prog_28_method_78_code
def yX9_begin : MethodName := ⟨RX9, "begin", "()V"⟩
def dkwX9_begin_0 : List UInt8 := [42, 3, 181, 1, 67, 42, 42, 180, 0, 34, 17, 4, 47, 46, 181, 1, 70, 42, 3, 181, 1, 73, 177]
abbrev dktX9_begin_0 : List UInt8 := dkwX9_begin_0 ++ []
theorem dksX9_begin_0 : cX9_begin.data.toList.drop 0 = dktX9_begin_0 := by decide +kernel
theorem dX9_begin_0 : decode cX9_begin 0 = .ok (.aload_n 0, 1) := dk_42 (dk_at dksX9_begin_0 0 rfl rfl)
theorem dX9_begin_1 : decode cX9_begin 1 = .ok (.iconst 0, 1) := dk_3 (dk_at dksX9_begin_0 1 rfl rfl)
theorem dX9_begin_2 : decode cX9_begin 2 = .ok (.putfield 323, 3) := dk_181 1 67 (dk_at dksX9_begin_0 2 rfl rfl)
theorem dX9_begin_5 : decode cX9_begin 5 = .ok (.aload_n 0, 1) := dk_42 (dk_at dksX9_begin_0 5 rfl rfl)
theorem dX9_begin_6 : decode cX9_begin 6 = .ok (.aload_n 0, 1) := dk_42 (dk_at dksX9_begin_0 6 rfl rfl)
theorem dX9_begin_7 : decode cX9_begin 7 = .ok (.getfield 34, 3) := dk_180 0 34 (dk_at dksX9_begin_0 7 rfl rfl)
theorem dX9_begin_10 : decode cX9_begin 10 = .ok (.sipush 1071, 3) := dk_17 4 47 (dk_at dksX9_begin_0 10 rfl rfl)
theorem dX9_begin_13 : decode cX9_begin 13 = .ok (.iaload, 1) := dk_46 (dk_at dksX9_begin_0 13 rfl rfl)
theorem dX9_begin_14 : decode cX9_begin 14 = .ok (.putfield 326, 3) := dk_181 1 70 (dk_at dksX9_begin_0 14 rfl rfl)
theorem dX9_begin_17 : decode cX9_begin 17 = .ok (.aload_n 0, 1) := dk_42 (dk_at dksX9_begin_0 17 rfl rfl)
theorem dX9_begin_18 : decode cX9_begin 18 = .ok (.iconst 0, 1) := dk_3 (dk_at dksX9_begin_0 18 rfl rfl)
theorem dX9_begin_19 : decode cX9_begin 19 = .ok (.putfield 329, 3) := dk_181 1 73 (dk_at dksX9_begin_0 19 rfl rfl)
theorem dX9_begin_22 : decode cX9_begin 22 = .ok (.return_, 1) := dk_177 (dk_at dksX9_begin_0 22 rfl rfl)
abbrev cX9_take : ByteArray := prog_28_method_79_code
def yX9_take : MethodName := ⟨RX9, "take", "(I)V"⟩
def dkwX9_take_0 : List UInt8 := [42, 180, 0, 54, 42, 180, 1, 67, 27, 79, 42, 89, 180, 1, 67, 4, 96, 181, 1, 67, 177]
abbrev dktX9_take_0 : List UInt8 := dkwX9_take_0 ++ []
theorem dksX9_take_0 : cX9_take.data.toList.drop 0 = dktX9_take_0 := by decide +kernel
theorem dX9_take_0 : decode cX9_take 0 = .ok (.aload_n 0, 1) := dk_42 (dk_at dksX9_take_0 0 rfl rfl)
theorem dX9_take_1 : decode cX9_take 1 = .ok (.getfield 54, 3) := dk_180 0 54 (dk_at dksX9_take_0 1 rfl rfl)
theorem dX9_take_4 : decode cX9_take 4 = .ok (.aload_n 0, 1) := dk_42 (dk_at dksX9_take_0 4 rfl rfl)
theorem dX9_take_5 : decode cX9_take 5 = .ok (.getfield 323, 3) := dk_180 1 67 (dk_at dksX9_take_0 5 rfl rfl)
theorem dX9_take_8 : decode cX9_take 8 = .ok (.iload_n 1, 1) := dk_27 (dk_at dksX9_take_0 8 rfl rfl)
theorem dX9_take_9 : decode cX9_take 9 = .ok (.iastore, 1) := dk_79 (dk_at dksX9_take_0 9 rfl rfl)
theorem dX9_take_10 : decode cX9_take 10 = .ok (.aload_n 0, 1) := dk_42 (dk_at dksX9_take_0 10 rfl rfl)
theorem dX9_take_11 : decode cX9_take 11 = .ok (.dup, 1) := dk_89 (dk_at dksX9_take_0 11 rfl rfl)
theorem dX9_take_12 : decode cX9_take 12 = .ok (.getfield 323, 3) := dk_180 1 67 (dk_at dksX9_take_0 12 rfl rfl)
theorem dX9_take_15 : decode cX9_take 15 = .ok (.iconst 1, 1) := dk_4 (dk_at dksX9_take_0 15 rfl rfl)
theorem dX9_take_16 : decode cX9_take 16 = .ok (.iadd, 1) := dk_96 (dk_at dksX9_take_0 16 rfl rfl)
theorem dX9_take_17 : decode cX9_take 17 = .ok (.putfield 323, 3) := dk_181 1 67 (dk_at dksX9_take_0 17 rfl rfl)
theorem dX9_take_20 : decode cX9_take 20 = .ok (.return_, 1) := dk_177 (dk_at dksX9_take_0 20 rfl rfl)
abbrev cX9_truth : ByteArray := prog_28_method_88_code
def yX9_truth : MethodName := ⟨RX9, "truth", "(IIZ)I"⟩
def dkwX9_truth_5 : List UInt8 := [54, 4, 132, 5, 1, 167, 255, 140, 21, 4, 172]
abbrev dktX9_truth_5 : List UInt8 := dkwX9_truth_5 ++ []
def dkwX9_truth_4 : List UInt8 := [182, 1, 94, 153, 0, 19, 42, 180, 0, 34, 17, 1, 101, 27, 104, 21, 5, 96, 46, 167, 0, 4, 3, 96]
abbrev dktX9_truth_4 : List UInt8 := dkwX9_truth_4 ++ dktX9_truth_5
def dkwX9_truth_3 : List UInt8 := [158, 0, 50, 29, 153, 0, 12, 42, 182, 1, 91, 153, 0, 5, 2, 172, 21, 4, 42, 28, 21, 6, 21, 7]
abbrev dktX9_truth_3 : List UInt8 := dkwX9_truth_3 ++ dktX9_truth_4
def dkwX9_truth_2 : List UInt8 := [167, 0, 8, 21, 5, 16, 17, 112, 54, 7, 42, 180, 0, 34, 17, 1, 101, 27, 104, 21, 5, 96, 46]
abbrev dktX9_truth_2 : List UInt8 := dkwX9_truth_2 ++ dktX9_truth_3
def dkwX9_truth_1 : List UInt8 := [2, 167, 0, 8, 21, 5, 16, 17, 108, 54, 6, 21, 5, 16, 17, 112, 16, 16, 160, 0, 7, 2]
abbrev dktX9_truth_1 : List UInt8 := dkwX9_truth_1 ++ dktX9_truth_2
def dkwX9_truth_0 : List UInt8 := [3, 54, 4, 3, 54, 5, 21, 5, 17, 1, 33, 162, 0, 114, 21, 5, 16, 17, 108, 16, 16, 160, 0, 7]
abbrev dktX9_truth_0 : List UInt8 := dkwX9_truth_0 ++ dktX9_truth_1
theorem dksX9_truth_0 : cX9_truth.data.toList.drop 0 = dktX9_truth_0 := by decide +kernel
theorem dksX9_truth_1 : cX9_truth.data.toList.drop 24 = dktX9_truth_1 := dk_seg dksX9_truth_0 24 rfl rfl
theorem dksX9_truth_2 : cX9_truth.data.toList.drop 46 = dktX9_truth_2 := dk_seg dksX9_truth_1 22 rfl rfl
theorem dksX9_truth_3 : cX9_truth.data.toList.drop 69 = dktX9_truth_3 := dk_seg dksX9_truth_2 23 rfl rfl
theorem dksX9_truth_4 : cX9_truth.data.toList.drop 93 = dktX9_truth_4 := dk_seg dksX9_truth_3 24 rfl rfl
theorem dksX9_truth_5 : cX9_truth.data.toList.drop 117 = dktX9_truth_5 := dk_seg dksX9_truth_4 24 rfl rfl
theorem dX9_truth_0 : decode cX9_truth 0 = .ok (.iconst 0, 1) := dk_3 (dk_at dksX9_truth_0 0 rfl rfl)
theorem dX9_truth_1 : decode cX9_truth 1 = .ok (.istore 4, 2) := dk_54 4 (dk_at dksX9_truth_0 1 rfl rfl)
theorem dX9_truth_3 : decode cX9_truth 3 = .ok (.iconst 0, 1) := dk_3 (dk_at dksX9_truth_0 3 rfl rfl)
theorem dX9_truth_4 : decode cX9_truth 4 = .ok (.istore 5, 2) := dk_54 5 (dk_at dksX9_truth_0 4 rfl rfl)
theorem dX9_truth_6 : decode cX9_truth 6 = .ok (.iload 5, 2) := dk_21 5 (dk_at dksX9_truth_0 6 rfl rfl)
theorem dX9_truth_8 : decode cX9_truth 8 = .ok (.sipush 289, 3) := dk_17 1 33 (dk_at dksX9_truth_0 8 rfl rfl)
theorem dX9_truth_11 : decode cX9_truth 11 = .ok (.if_icmp .ge 114, 3) := dk_162 0 114 (dk_at dksX9_truth_0 11 rfl rfl)
theorem dX9_truth_14 : decode cX9_truth 14 = .ok (.iload 5, 2) := dk_21 5 (dk_at dksX9_truth_0 14 rfl rfl)
theorem dX9_truth_16 : decode cX9_truth 16 = .ok (.bipush 17, 2) := dk_16 17 (dk_at dksX9_truth_0 16 rfl rfl)
theorem dX9_truth_18 : decode cX9_truth 18 = .ok (.idiv, 1) := dk_108 (dk_at dksX9_truth_0 18 rfl rfl)
theorem dX9_truth_19 : decode cX9_truth 19 = .ok (.bipush 16, 2) := dk_16 16 (dk_at dksX9_truth_0 19 rfl rfl)
theorem dX9_truth_21 : decode cX9_truth 21 = .ok (.if_icmp .ne 7, 3) := dk_160 0 7 (dk_at dksX9_truth_0 21 rfl rfl)
theorem dX9_truth_24 : decode cX9_truth 24 = .ok (.iconst (-1), 1) := dk_2 (dk_at dksX9_truth_1 0 rfl rfl)
theorem dX9_truth_25 : decode cX9_truth 25 = .ok (.goto 8, 3) := dk_167 0 8 (dk_at dksX9_truth_1 1 rfl rfl)
theorem dX9_truth_28 : decode cX9_truth 28 = .ok (.iload 5, 2) := dk_21 5 (dk_at dksX9_truth_1 4 rfl rfl)
theorem dX9_truth_30 : decode cX9_truth 30 = .ok (.bipush 17, 2) := dk_16 17 (dk_at dksX9_truth_1 6 rfl rfl)
theorem dX9_truth_32 : decode cX9_truth 32 = .ok (.idiv, 1) := dk_108 (dk_at dksX9_truth_1 8 rfl rfl)
theorem dX9_truth_33 : decode cX9_truth 33 = .ok (.istore 6, 2) := dk_54 6 (dk_at dksX9_truth_1 9 rfl rfl)
theorem dX9_truth_35 : decode cX9_truth 35 = .ok (.iload 5, 2) := dk_21 5 (dk_at dksX9_truth_1 11 rfl rfl)
theorem dX9_truth_37 : decode cX9_truth 37 = .ok (.bipush 17, 2) := dk_16 17 (dk_at dksX9_truth_1 13 rfl rfl)
theorem dX9_truth_39 : decode cX9_truth 39 = .ok (.irem, 1) := dk_112 (dk_at dksX9_truth_1 15 rfl rfl)
theorem dX9_truth_40 : decode cX9_truth 40 = .ok (.bipush 16, 2) := dk_16 16 (dk_at dksX9_truth_1 16 rfl rfl)
theorem dX9_truth_42 : decode cX9_truth 42 = .ok (.if_icmp .ne 7, 3) := dk_160 0 7 (dk_at dksX9_truth_1 18 rfl rfl)
theorem dX9_truth_45 : decode cX9_truth 45 = .ok (.iconst (-1), 1) := dk_2 (dk_at dksX9_truth_1 21 rfl rfl)
theorem dX9_truth_46 : decode cX9_truth 46 = .ok (.goto 8, 3) := dk_167 0 8 (dk_at dksX9_truth_2 0 rfl rfl)
theorem dX9_truth_49 : decode cX9_truth 49 = .ok (.iload 5, 2) := dk_21 5 (dk_at dksX9_truth_2 3 rfl rfl)
theorem dX9_truth_51 : decode cX9_truth 51 = .ok (.bipush 17, 2) := dk_16 17 (dk_at dksX9_truth_2 5 rfl rfl)
theorem dX9_truth_53 : decode cX9_truth 53 = .ok (.irem, 1) := dk_112 (dk_at dksX9_truth_2 7 rfl rfl)
theorem dX9_truth_54 : decode cX9_truth 54 = .ok (.istore 7, 2) := dk_54 7 (dk_at dksX9_truth_2 8 rfl rfl)
theorem dX9_truth_56 : decode cX9_truth 56 = .ok (.aload_n 0, 1) := dk_42 (dk_at dksX9_truth_2 10 rfl rfl)
theorem dX9_truth_57 : decode cX9_truth 57 = .ok (.getfield 34, 3) := dk_180 0 34 (dk_at dksX9_truth_2 11 rfl rfl)
theorem dX9_truth_60 : decode cX9_truth 60 = .ok (.sipush 357, 3) := dk_17 1 101 (dk_at dksX9_truth_2 14 rfl rfl)
theorem dX9_truth_63 : decode cX9_truth 63 = .ok (.iload_n 1, 1) := dk_27 (dk_at dksX9_truth_2 17 rfl rfl)
theorem dX9_truth_64 : decode cX9_truth 64 = .ok (.imul, 1) := dk_104 (dk_at dksX9_truth_2 18 rfl rfl)
theorem dX9_truth_65 : decode cX9_truth 65 = .ok (.iload 5, 2) := dk_21 5 (dk_at dksX9_truth_2 19 rfl rfl)
theorem dX9_truth_67 : decode cX9_truth 67 = .ok (.iadd, 1) := dk_96 (dk_at dksX9_truth_2 21 rfl rfl)
theorem dX9_truth_68 : decode cX9_truth 68 = .ok (.iaload, 1) := dk_46 (dk_at dksX9_truth_2 22 rfl rfl)
theorem dX9_truth_69 : decode cX9_truth 69 = .ok (.ifCond .le 50, 3) := dk_158 0 50 (dk_at dksX9_truth_3 0 rfl rfl)
theorem dX9_truth_72 : decode cX9_truth 72 = .ok (.iload_n 3, 1) := dk_29 (dk_at dksX9_truth_3 3 rfl rfl)
theorem dX9_truth_73 : decode cX9_truth 73 = .ok (.ifCond .eq 12, 3) := dk_153 0 12 (dk_at dksX9_truth_3 4 rfl rfl)
theorem dX9_truth_76 : decode cX9_truth 76 = .ok (.aload_n 0, 1) := dk_42 (dk_at dksX9_truth_3 7 rfl rfl)
theorem dX9_truth_77 : decode cX9_truth 77 = .ok (.invokevirtual 347, 3) := dk_182 1 91 (dk_at dksX9_truth_3 8 rfl rfl)
theorem dX9_truth_80 : decode cX9_truth 80 = .ok (.ifCond .eq 5, 3) := dk_153 0 5 (dk_at dksX9_truth_3 11 rfl rfl)
theorem dX9_truth_83 : decode cX9_truth 83 = .ok (.iconst (-1), 1) := dk_2 (dk_at dksX9_truth_3 14 rfl rfl)
theorem dX9_truth_84 : decode cX9_truth 84 = .ok (.ireturn, 1) := dk_172 (dk_at dksX9_truth_3 15 rfl rfl)
theorem dX9_truth_85 : decode cX9_truth 85 = .ok (.iload 4, 2) := dk_21 4 (dk_at dksX9_truth_3 16 rfl rfl)
theorem dX9_truth_87 : decode cX9_truth 87 = .ok (.aload_n 0, 1) := dk_42 (dk_at dksX9_truth_3 18 rfl rfl)
theorem dX9_truth_88 : decode cX9_truth 88 = .ok (.iload_n 2, 1) := dk_28 (dk_at dksX9_truth_3 19 rfl rfl)
theorem dX9_truth_89 : decode cX9_truth 89 = .ok (.iload 6, 2) := dk_21 6 (dk_at dksX9_truth_3 20 rfl rfl)
theorem dX9_truth_91 : decode cX9_truth 91 = .ok (.iload 7, 2) := dk_21 7 (dk_at dksX9_truth_3 22 rfl rfl)
theorem dX9_truth_93 : decode cX9_truth 93 = .ok (.invokevirtual 350, 3) := dk_182 1 94 (dk_at dksX9_truth_4 0 rfl rfl)
theorem dX9_truth_96 : decode cX9_truth 96 = .ok (.ifCond .eq 19, 3) := dk_153 0 19 (dk_at dksX9_truth_4 3 rfl rfl)
theorem dX9_truth_99 : decode cX9_truth 99 = .ok (.aload_n 0, 1) := dk_42 (dk_at dksX9_truth_4 6 rfl rfl)
theorem dX9_truth_100 : decode cX9_truth 100 = .ok (.getfield 34, 3) := dk_180 0 34 (dk_at dksX9_truth_4 7 rfl rfl)
theorem dX9_truth_103 : decode cX9_truth 103 = .ok (.sipush 357, 3) := dk_17 1 101 (dk_at dksX9_truth_4 10 rfl rfl)
theorem dX9_truth_106 : decode cX9_truth 106 = .ok (.iload_n 1, 1) := dk_27 (dk_at dksX9_truth_4 13 rfl rfl)
theorem dX9_truth_107 : decode cX9_truth 107 = .ok (.imul, 1) := dk_104 (dk_at dksX9_truth_4 14 rfl rfl)
theorem dX9_truth_108 : decode cX9_truth 108 = .ok (.iload 5, 2) := dk_21 5 (dk_at dksX9_truth_4 15 rfl rfl)
theorem dX9_truth_110 : decode cX9_truth 110 = .ok (.iadd, 1) := dk_96 (dk_at dksX9_truth_4 17 rfl rfl)
theorem dX9_truth_111 : decode cX9_truth 111 = .ok (.iaload, 1) := dk_46 (dk_at dksX9_truth_4 18 rfl rfl)
theorem dX9_truth_112 : decode cX9_truth 112 = .ok (.goto 4, 3) := dk_167 0 4 (dk_at dksX9_truth_4 19 rfl rfl)
theorem dX9_truth_115 : decode cX9_truth 115 = .ok (.iconst 0, 1) := dk_3 (dk_at dksX9_truth_4 22 rfl rfl)
theorem dX9_truth_116 : decode cX9_truth 116 = .ok (.iadd, 1) := dk_96 (dk_at dksX9_truth_4 23 rfl rfl)
theorem dX9_truth_117 : decode cX9_truth 117 = .ok (.istore 4, 2) := dk_54 4 (dk_at dksX9_truth_5 0 rfl rfl)
theorem dX9_truth_119 : decode cX9_truth 119 = .ok (.iinc 5 1, 3) := dk_132 5 1 (dk_at dksX9_truth_5 2 rfl rfl)
theorem dX9_truth_122 : decode cX9_truth 122 = .ok (.goto (-116), 3) := dk_167 255 140 (dk_at dksX9_truth_5 5 rfl rfl)
theorem dX9_truth_125 : decode cX9_truth 125 = .ok (.iload 4, 2) := dk_21 4 (dk_at dksX9_truth_5 8 rfl rfl)
theorem dX9_truth_127 : decode cX9_truth 127 = .ok (.ireturn, 1) := dk_172 (dk_at dksX9_truth_5 10 rfl rfl)
abbrev cX9_isOver : ByteArray := prog_28_method_80_code
def yX9_isOver : MethodName := ⟨RX9, "isOver", "()Z"⟩
def dkwX9_isOver_1 : List UInt8 := [181, 1, 70, 42, 180, 1, 73, 172]
abbrev dktX9_isOver_1 : List UInt8 := dkwX9_isOver_1 ++ []
def dkwX9_isOver_0 : List UInt8 := [42, 42, 180, 1, 70, 154, 0, 7, 4, 167, 0, 4, 3, 181, 1, 73, 42, 89, 180, 1, 70, 4, 100]
abbrev dktX9_isOver_0 : List UInt8 := dkwX9_isOver_0 ++ dktX9_isOver_1
theorem dksX9_isOver_0 : cX9_isOver.data.toList.drop 0 = dktX9_isOver_0 := by decide +kernel
theorem dksX9_isOver_1 : cX9_isOver.data.toList.drop 23 = dktX9_isOver_1 := dk_seg dksX9_isOver_0 23 rfl rfl
theorem dX9_isOver_0 : decode cX9_isOver 0 = .ok (.aload_n 0, 1) := dk_42 (dk_at dksX9_isOver_0 0 rfl rfl)
theorem dX9_isOver_1 : decode cX9_isOver 1 = .ok (.aload_n 0, 1) := dk_42 (dk_at dksX9_isOver_0 1 rfl rfl)
theorem dX9_isOver_2 : decode cX9_isOver 2 = .ok (.getfield 326, 3) := dk_180 1 70 (dk_at dksX9_isOver_0 2 rfl rfl)
theorem dX9_isOver_5 : decode cX9_isOver 5 = .ok (.ifCond .ne 7, 3) := dk_154 0 7 (dk_at dksX9_isOver_0 5 rfl rfl)
theorem dX9_isOver_8 : decode cX9_isOver 8 = .ok (.iconst 1, 1) := dk_4 (dk_at dksX9_isOver_0 8 rfl rfl)
theorem dX9_isOver_9 : decode cX9_isOver 9 = .ok (.goto 4, 3) := dk_167 0 4 (dk_at dksX9_isOver_0 9 rfl rfl)
theorem dX9_isOver_12 : decode cX9_isOver 12 = .ok (.iconst 0, 1) := dk_3 (dk_at dksX9_isOver_0 12 rfl rfl)
theorem dX9_isOver_13 : decode cX9_isOver 13 = .ok (.putfield 329, 3) := dk_181 1 73 (dk_at dksX9_isOver_0 13 rfl rfl)
theorem dX9_isOver_16 : decode cX9_isOver 16 = .ok (.aload_n 0, 1) := dk_42 (dk_at dksX9_isOver_0 16 rfl rfl)
theorem dX9_isOver_17 : decode cX9_isOver 17 = .ok (.dup, 1) := dk_89 (dk_at dksX9_isOver_0 17 rfl rfl)
theorem dX9_isOver_18 : decode cX9_isOver 18 = .ok (.getfield 326, 3) := dk_180 1 70 (dk_at dksX9_isOver_0 18 rfl rfl)
theorem dX9_isOver_21 : decode cX9_isOver 21 = .ok (.iconst 1, 1) := dk_4 (dk_at dksX9_isOver_0 21 rfl rfl)
theorem dX9_isOver_22 : decode cX9_isOver 22 = .ok (.isub, 1) := dk_100 (dk_at dksX9_isOver_0 22 rfl rfl)
theorem dX9_isOver_23 : decode cX9_isOver 23 = .ok (.putfield 326, 3) := dk_181 1 70 (dk_at dksX9_isOver_1 0 rfl rfl)
theorem dX9_isOver_26 : decode cX9_isOver 26 = .ok (.aload_n 0, 1) := dk_42 (dk_at dksX9_isOver_1 3 rfl rfl)
theorem dX9_isOver_27 : decode cX9_isOver 27 = .ok (.getfield 329, 3) := dk_180 1 73 (dk_at dksX9_isOver_1 4 rfl rfl)
theorem dX9_isOver_30 : decode cX9_isOver 30 = .ok (.ireturn, 1) := dk_172 (dk_at dksX9_isOver_1 7 rfl rfl)
abbrev cX9_holds : ByteArray := prog_28_method_87_code
def yX9_holds : MethodName := ⟨RX9, "holds", "(III)Z"⟩
def dkwX9_holds_2 : List UInt8 := [21, 4, 172]
abbrev dktX9_holds_2 : List UInt8 := dkwX9_holds_2 ++ []
def dkwX9_holds_1 : List UInt8 := [21, 5, 28, 29, 182, 1, 88, 153, 0, 7, 4, 167, 0, 4, 3, 54, 4, 132, 5, 1, 167, 255, 219]
abbrev dktX9_holds_1 : List UInt8 := dkwX9_holds_1 ++ dktX9_holds_2
def dkwX9_holds_0 : List UInt8 := [3, 54, 4, 3, 54, 5, 21, 5, 42, 27, 182, 1, 85, 162, 0, 33, 21, 4, 154, 0, 15, 42, 27]
abbrev dktX9_holds_0 : List UInt8 := dkwX9_holds_0 ++ dktX9_holds_1
theorem dksX9_holds_0 : cX9_holds.data.toList.drop 0 = dktX9_holds_0 := by decide +kernel
theorem dksX9_holds_1 : cX9_holds.data.toList.drop 23 = dktX9_holds_1 := dk_seg dksX9_holds_0 23 rfl rfl
theorem dksX9_holds_2 : cX9_holds.data.toList.drop 46 = dktX9_holds_2 := dk_seg dksX9_holds_1 23 rfl rfl
theorem dX9_holds_0 : decode cX9_holds 0 = .ok (.iconst 0, 1) := dk_3 (dk_at dksX9_holds_0 0 rfl rfl)
theorem dX9_holds_1 : decode cX9_holds 1 = .ok (.istore 4, 2) := dk_54 4 (dk_at dksX9_holds_0 1 rfl rfl)
theorem dX9_holds_3 : decode cX9_holds 3 = .ok (.iconst 0, 1) := dk_3 (dk_at dksX9_holds_0 3 rfl rfl)
theorem dX9_holds_4 : decode cX9_holds 4 = .ok (.istore 5, 2) := dk_54 5 (dk_at dksX9_holds_0 4 rfl rfl)
theorem dX9_holds_6 : decode cX9_holds 6 = .ok (.iload 5, 2) := dk_21 5 (dk_at dksX9_holds_0 6 rfl rfl)
theorem dX9_holds_8 : decode cX9_holds 8 = .ok (.aload_n 0, 1) := dk_42 (dk_at dksX9_holds_0 8 rfl rfl)
theorem dX9_holds_9 : decode cX9_holds 9 = .ok (.iload_n 1, 1) := dk_27 (dk_at dksX9_holds_0 9 rfl rfl)
theorem dX9_holds_10 : decode cX9_holds 10 = .ok (.invokevirtual 341, 3) := dk_182 1 85 (dk_at dksX9_holds_0 10 rfl rfl)
theorem dX9_holds_13 : decode cX9_holds 13 = .ok (.if_icmp .ge 33, 3) := dk_162 0 33 (dk_at dksX9_holds_0 13 rfl rfl)
theorem dX9_holds_16 : decode cX9_holds 16 = .ok (.iload 4, 2) := dk_21 4 (dk_at dksX9_holds_0 16 rfl rfl)
theorem dX9_holds_18 : decode cX9_holds 18 = .ok (.ifCond .ne 15, 3) := dk_154 0 15 (dk_at dksX9_holds_0 18 rfl rfl)
theorem dX9_holds_21 : decode cX9_holds 21 = .ok (.aload_n 0, 1) := dk_42 (dk_at dksX9_holds_0 21 rfl rfl)
theorem dX9_holds_22 : decode cX9_holds 22 = .ok (.iload_n 1, 1) := dk_27 (dk_at dksX9_holds_0 22 rfl rfl)
theorem dX9_holds_23 : decode cX9_holds 23 = .ok (.iload 5, 2) := dk_21 5 (dk_at dksX9_holds_1 0 rfl rfl)
theorem dX9_holds_25 : decode cX9_holds 25 = .ok (.iload_n 2, 1) := dk_28 (dk_at dksX9_holds_1 2 rfl rfl)
theorem dX9_holds_26 : decode cX9_holds 26 = .ok (.iload_n 3, 1) := dk_29 (dk_at dksX9_holds_1 3 rfl rfl)
theorem dX9_holds_27 : decode cX9_holds 27 = .ok (.invokevirtual 344, 3) := dk_182 1 88 (dk_at dksX9_holds_1 4 rfl rfl)
theorem dX9_holds_30 : decode cX9_holds 30 = .ok (.ifCond .eq 7, 3) := dk_153 0 7 (dk_at dksX9_holds_1 7 rfl rfl)
theorem dX9_holds_33 : decode cX9_holds 33 = .ok (.iconst 1, 1) := dk_4 (dk_at dksX9_holds_1 10 rfl rfl)
theorem dX9_holds_34 : decode cX9_holds 34 = .ok (.goto 4, 3) := dk_167 0 4 (dk_at dksX9_holds_1 11 rfl rfl)
theorem dX9_holds_37 : decode cX9_holds 37 = .ok (.iconst 0, 1) := dk_3 (dk_at dksX9_holds_1 14 rfl rfl)
theorem dX9_holds_38 : decode cX9_holds 38 = .ok (.istore 4, 2) := dk_54 4 (dk_at dksX9_holds_1 15 rfl rfl)
theorem dX9_holds_40 : decode cX9_holds 40 = .ok (.iinc 5 1, 3) := dk_132 5 1 (dk_at dksX9_holds_1 17 rfl rfl)
theorem dX9_holds_43 : decode cX9_holds 43 = .ok (.goto (-37), 3) := dk_167 255 219 (dk_at dksX9_holds_1 20 rfl rfl)
theorem dX9_holds_46 : decode cX9_holds 46 = .ok (.iload 4, 2) := dk_21 4 (dk_at dksX9_holds_2 0 rfl rfl)
theorem dX9_holds_48 : decode cX9_holds 48 = .ok (.ireturn, 1) := dk_172 (dk_at dksX9_holds_2 2 rfl rfl)
abbrev cX9_isTermOf : ByteArray := prog_28_method_86_code
def yX9_isTermOf : MethodName := ⟨RX9, "isTermOf", "(IIII)Z"⟩
def dkwX9_isTermOf_3 : List UInt8 := [132, 6, 1, 167, 255, 191, 21, 5, 172]
abbrev dktX9_isTermOf_3 : List UInt8 := dkwX9_isTermOf_3 ++ []
def dkwX9_isTermOf_2 : List UInt8 := [154, 0, 7, 29, 167, 0, 5, 21, 4, 182, 1, 82, 153, 0, 7, 4, 167, 0, 4, 3, 54, 5]
abbrev dktX9_isTermOf_2 : List UInt8 := dkwX9_isTermOf_2 ++ dktX9_isTermOf_3
def dkwX9_isTermOf_1 : List UInt8 := [21, 6, 3, 182, 1, 79, 28, 160, 0, 30, 42, 27, 21, 6, 42, 27, 21, 6, 4, 182, 1, 79]
abbrev dktX9_isTermOf_1 : List UInt8 := dkwX9_isTermOf_1 ++ dktX9_isTermOf_2
def dkwX9_isTermOf_0 : List UInt8 := [4, 54, 5, 3, 54, 6, 21, 6, 42, 180, 0, 31, 27, 46, 162, 0, 60, 21, 5, 153, 0, 46, 42, 27]
abbrev dktX9_isTermOf_0 : List UInt8 := dkwX9_isTermOf_0 ++ dktX9_isTermOf_1
theorem dksX9_isTermOf_0 : cX9_isTermOf.data.toList.drop 0 = dktX9_isTermOf_0 := by decide +kernel
theorem dksX9_isTermOf_1 : cX9_isTermOf.data.toList.drop 24 = dktX9_isTermOf_1 := dk_seg dksX9_isTermOf_0 24 rfl rfl
theorem dksX9_isTermOf_2 : cX9_isTermOf.data.toList.drop 46 = dktX9_isTermOf_2 := dk_seg dksX9_isTermOf_1 22 rfl rfl
theorem dksX9_isTermOf_3 : cX9_isTermOf.data.toList.drop 68 = dktX9_isTermOf_3 := dk_seg dksX9_isTermOf_2 22 rfl rfl
theorem dX9_isTermOf_0 : decode cX9_isTermOf 0 = .ok (.iconst 1, 1) := dk_4 (dk_at dksX9_isTermOf_0 0 rfl rfl)
theorem dX9_isTermOf_1 : decode cX9_isTermOf 1 = .ok (.istore 5, 2) := dk_54 5 (dk_at dksX9_isTermOf_0 1 rfl rfl)
theorem dX9_isTermOf_3 : decode cX9_isTermOf 3 = .ok (.iconst 0, 1) := dk_3 (dk_at dksX9_isTermOf_0 3 rfl rfl)
theorem dX9_isTermOf_4 : decode cX9_isTermOf 4 = .ok (.istore 6, 2) := dk_54 6 (dk_at dksX9_isTermOf_0 4 rfl rfl)
theorem dX9_isTermOf_6 : decode cX9_isTermOf 6 = .ok (.iload 6, 2) := dk_21 6 (dk_at dksX9_isTermOf_0 6 rfl rfl)
theorem dX9_isTermOf_8 : decode cX9_isTermOf 8 = .ok (.aload_n 0, 1) := dk_42 (dk_at dksX9_isTermOf_0 8 rfl rfl)
theorem dX9_isTermOf_9 : decode cX9_isTermOf 9 = .ok (.getfield 31, 3) := dk_180 0 31 (dk_at dksX9_isTermOf_0 9 rfl rfl)
theorem dX9_isTermOf_12 : decode cX9_isTermOf 12 = .ok (.iload_n 1, 1) := dk_27 (dk_at dksX9_isTermOf_0 12 rfl rfl)
theorem dX9_isTermOf_13 : decode cX9_isTermOf 13 = .ok (.iaload, 1) := dk_46 (dk_at dksX9_isTermOf_0 13 rfl rfl)
theorem dX9_isTermOf_14 : decode cX9_isTermOf 14 = .ok (.if_icmp .ge 60, 3) := dk_162 0 60 (dk_at dksX9_isTermOf_0 14 rfl rfl)
theorem dX9_isTermOf_17 : decode cX9_isTermOf 17 = .ok (.iload 5, 2) := dk_21 5 (dk_at dksX9_isTermOf_0 17 rfl rfl)
theorem dX9_isTermOf_19 : decode cX9_isTermOf 19 = .ok (.ifCond .eq 46, 3) := dk_153 0 46 (dk_at dksX9_isTermOf_0 19 rfl rfl)
theorem dX9_isTermOf_22 : decode cX9_isTermOf 22 = .ok (.aload_n 0, 1) := dk_42 (dk_at dksX9_isTermOf_0 22 rfl rfl)
theorem dX9_isTermOf_23 : decode cX9_isTermOf 23 = .ok (.iload_n 1, 1) := dk_27 (dk_at dksX9_isTermOf_0 23 rfl rfl)
theorem dX9_isTermOf_24 : decode cX9_isTermOf 24 = .ok (.iload 6, 2) := dk_21 6 (dk_at dksX9_isTermOf_1 0 rfl rfl)
theorem dX9_isTermOf_26 : decode cX9_isTermOf 26 = .ok (.iconst 0, 1) := dk_3 (dk_at dksX9_isTermOf_1 2 rfl rfl)
theorem dX9_isTermOf_27 : decode cX9_isTermOf 27 = .ok (.invokevirtual 335, 3) := dk_182 1 79 (dk_at dksX9_isTermOf_1 3 rfl rfl)
theorem dX9_isTermOf_30 : decode cX9_isTermOf 30 = .ok (.iload_n 2, 1) := dk_28 (dk_at dksX9_isTermOf_1 6 rfl rfl)
theorem dX9_isTermOf_31 : decode cX9_isTermOf 31 = .ok (.if_icmp .ne 30, 3) := dk_160 0 30 (dk_at dksX9_isTermOf_1 7 rfl rfl)
theorem dX9_isTermOf_34 : decode cX9_isTermOf 34 = .ok (.aload_n 0, 1) := dk_42 (dk_at dksX9_isTermOf_1 10 rfl rfl)
theorem dX9_isTermOf_35 : decode cX9_isTermOf 35 = .ok (.iload_n 1, 1) := dk_27 (dk_at dksX9_isTermOf_1 11 rfl rfl)
theorem dX9_isTermOf_36 : decode cX9_isTermOf 36 = .ok (.iload 6, 2) := dk_21 6 (dk_at dksX9_isTermOf_1 12 rfl rfl)
theorem dX9_isTermOf_38 : decode cX9_isTermOf 38 = .ok (.aload_n 0, 1) := dk_42 (dk_at dksX9_isTermOf_1 14 rfl rfl)
theorem dX9_isTermOf_39 : decode cX9_isTermOf 39 = .ok (.iload_n 1, 1) := dk_27 (dk_at dksX9_isTermOf_1 15 rfl rfl)
theorem dX9_isTermOf_40 : decode cX9_isTermOf 40 = .ok (.iload 6, 2) := dk_21 6 (dk_at dksX9_isTermOf_1 16 rfl rfl)
theorem dX9_isTermOf_42 : decode cX9_isTermOf 42 = .ok (.iconst 1, 1) := dk_4 (dk_at dksX9_isTermOf_1 18 rfl rfl)
theorem dX9_isTermOf_43 : decode cX9_isTermOf 43 = .ok (.invokevirtual 335, 3) := dk_182 1 79 (dk_at dksX9_isTermOf_1 19 rfl rfl)
theorem dX9_isTermOf_46 : decode cX9_isTermOf 46 = .ok (.ifCond .ne 7, 3) := dk_154 0 7 (dk_at dksX9_isTermOf_2 0 rfl rfl)
theorem dX9_isTermOf_49 : decode cX9_isTermOf 49 = .ok (.iload_n 3, 1) := dk_29 (dk_at dksX9_isTermOf_2 3 rfl rfl)
theorem dX9_isTermOf_50 : decode cX9_isTermOf 50 = .ok (.goto 5, 3) := dk_167 0 5 (dk_at dksX9_isTermOf_2 4 rfl rfl)
theorem dX9_isTermOf_53 : decode cX9_isTermOf 53 = .ok (.iload 4, 2) := dk_21 4 (dk_at dksX9_isTermOf_2 7 rfl rfl)
theorem dX9_isTermOf_55 : decode cX9_isTermOf 55 = .ok (.invokevirtual 338, 3) := dk_182 1 82 (dk_at dksX9_isTermOf_2 9 rfl rfl)
theorem dX9_isTermOf_58 : decode cX9_isTermOf 58 = .ok (.ifCond .eq 7, 3) := dk_153 0 7 (dk_at dksX9_isTermOf_2 12 rfl rfl)
theorem dX9_isTermOf_61 : decode cX9_isTermOf 61 = .ok (.iconst 1, 1) := dk_4 (dk_at dksX9_isTermOf_2 15 rfl rfl)
theorem dX9_isTermOf_62 : decode cX9_isTermOf 62 = .ok (.goto 4, 3) := dk_167 0 4 (dk_at dksX9_isTermOf_2 16 rfl rfl)
theorem dX9_isTermOf_65 : decode cX9_isTermOf 65 = .ok (.iconst 0, 1) := dk_3 (dk_at dksX9_isTermOf_2 19 rfl rfl)
theorem dX9_isTermOf_66 : decode cX9_isTermOf 66 = .ok (.istore 5, 2) := dk_54 5 (dk_at dksX9_isTermOf_2 20 rfl rfl)
theorem dX9_isTermOf_68 : decode cX9_isTermOf 68 = .ok (.iinc 6 1, 3) := dk_132 6 1 (dk_at dksX9_isTermOf_3 0 rfl rfl)
theorem dX9_isTermOf_71 : decode cX9_isTermOf 71 = .ok (.goto (-65), 3) := dk_167 255 191 (dk_at dksX9_isTermOf_3 3 rfl rfl)
theorem dX9_isTermOf_74 : decode cX9_isTermOf 74 = .ok (.iload 5, 2) := dk_21 5 (dk_at dksX9_isTermOf_3 6 rfl rfl)
theorem dX9_isTermOf_76 : decode cX9_isTermOf 76 = .ok (.ireturn, 1) := dk_172 (dk_at dksX9_isTermOf_3 8 rfl rfl)
abbrev cX9_finish : ByteArray := prog_28_method_81_code
def yX9_finish : MethodName := ⟨RX9, "finish", "(J)J"⟩
def dkwX9_finish_2 : List UInt8 := [46, 4, 96, 79, 42, 180, 1, 73, 153, 0, 9, 20, 0, 156, 167, 0, 4, 31, 173]
abbrev dktX9_finish_2 : List UInt8 := dkwX9_finish_2 ++ []
def dkwX9_finish_1 : List UInt8 := [46, 96, 182, 1, 76, 132, 4, 255, 167, 255, 234, 42, 180, 1, 73, 153, 0, 13, 42, 180, 0, 37, 7, 92]
abbrev dktX9_finish_1 : List UInt8 := dkwX9_finish_1 ++ dktX9_finish_2
def dkwX9_finish_0 : List UInt8 := [42, 180, 1, 67, 62, 29, 4, 100, 54, 4, 21, 4, 155, 0, 23, 42, 16, 10, 42, 180, 0, 54, 21, 4]
abbrev dktX9_finish_0 : List UInt8 := dkwX9_finish_0 ++ dktX9_finish_1
theorem dksX9_finish_0 : cX9_finish.data.toList.drop 0 = dktX9_finish_0 := by decide +kernel
theorem dksX9_finish_1 : cX9_finish.data.toList.drop 24 = dktX9_finish_1 := dk_seg dksX9_finish_0 24 rfl rfl
theorem dksX9_finish_2 : cX9_finish.data.toList.drop 48 = dktX9_finish_2 := dk_seg dksX9_finish_1 24 rfl rfl
theorem dX9_finish_0 : decode cX9_finish 0 = .ok (.aload_n 0, 1) := dk_42 (dk_at dksX9_finish_0 0 rfl rfl)
theorem dX9_finish_1 : decode cX9_finish 1 = .ok (.getfield 323, 3) := dk_180 1 67 (dk_at dksX9_finish_0 1 rfl rfl)
theorem dX9_finish_4 : decode cX9_finish 4 = .ok (.istore_n 3, 1) := dk_62 (dk_at dksX9_finish_0 4 rfl rfl)
theorem dX9_finish_5 : decode cX9_finish 5 = .ok (.iload_n 3, 1) := dk_29 (dk_at dksX9_finish_0 5 rfl rfl)
theorem dX9_finish_6 : decode cX9_finish 6 = .ok (.iconst 1, 1) := dk_4 (dk_at dksX9_finish_0 6 rfl rfl)
theorem dX9_finish_7 : decode cX9_finish 7 = .ok (.isub, 1) := dk_100 (dk_at dksX9_finish_0 7 rfl rfl)
theorem dX9_finish_8 : decode cX9_finish 8 = .ok (.istore 4, 2) := dk_54 4 (dk_at dksX9_finish_0 8 rfl rfl)
theorem dX9_finish_10 : decode cX9_finish 10 = .ok (.iload 4, 2) := dk_21 4 (dk_at dksX9_finish_0 10 rfl rfl)
theorem dX9_finish_12 : decode cX9_finish 12 = .ok (.ifCond .lt 23, 3) := dk_155 0 23 (dk_at dksX9_finish_0 12 rfl rfl)
theorem dX9_finish_15 : decode cX9_finish 15 = .ok (.aload_n 0, 1) := dk_42 (dk_at dksX9_finish_0 15 rfl rfl)
theorem dX9_finish_16 : decode cX9_finish 16 = .ok (.bipush 10, 2) := dk_16 10 (dk_at dksX9_finish_0 16 rfl rfl)
theorem dX9_finish_18 : decode cX9_finish 18 = .ok (.aload_n 0, 1) := dk_42 (dk_at dksX9_finish_0 18 rfl rfl)
theorem dX9_finish_19 : decode cX9_finish 19 = .ok (.getfield 54, 3) := dk_180 0 54 (dk_at dksX9_finish_0 19 rfl rfl)
theorem dX9_finish_22 : decode cX9_finish 22 = .ok (.iload 4, 2) := dk_21 4 (dk_at dksX9_finish_0 22 rfl rfl)
theorem dX9_finish_24 : decode cX9_finish 24 = .ok (.iaload, 1) := dk_46 (dk_at dksX9_finish_1 0 rfl rfl)
theorem dX9_finish_25 : decode cX9_finish 25 = .ok (.iadd, 1) := dk_96 (dk_at dksX9_finish_1 1 rfl rfl)
theorem dX9_finish_26 : decode cX9_finish 26 = .ok (.invokevirtual 332, 3) := dk_182 1 76 (dk_at dksX9_finish_1 2 rfl rfl)
theorem dX9_finish_29 : decode cX9_finish 29 = .ok (.iinc 4 (-1), 3) := dk_132 4 255 (dk_at dksX9_finish_1 5 rfl rfl)
theorem dX9_finish_32 : decode cX9_finish 32 = .ok (.goto (-22), 3) := dk_167 255 234 (dk_at dksX9_finish_1 8 rfl rfl)
theorem dX9_finish_35 : decode cX9_finish 35 = .ok (.aload_n 0, 1) := dk_42 (dk_at dksX9_finish_1 11 rfl rfl)
theorem dX9_finish_36 : decode cX9_finish 36 = .ok (.getfield 329, 3) := dk_180 1 73 (dk_at dksX9_finish_1 12 rfl rfl)
theorem dX9_finish_39 : decode cX9_finish 39 = .ok (.ifCond .eq 13, 3) := dk_153 0 13 (dk_at dksX9_finish_1 15 rfl rfl)
theorem dX9_finish_42 : decode cX9_finish 42 = .ok (.aload_n 0, 1) := dk_42 (dk_at dksX9_finish_1 18 rfl rfl)
theorem dX9_finish_43 : decode cX9_finish 43 = .ok (.getfield 37, 3) := dk_180 0 37 (dk_at dksX9_finish_1 19 rfl rfl)
theorem dX9_finish_46 : decode cX9_finish 46 = .ok (.iconst 4, 1) := dk_7 (dk_at dksX9_finish_1 22 rfl rfl)
theorem dX9_finish_47 : decode cX9_finish 47 = .ok (.dup2, 1) := dk_92 (dk_at dksX9_finish_1 23 rfl rfl)
theorem dX9_finish_48 : decode cX9_finish 48 = .ok (.iaload, 1) := dk_46 (dk_at dksX9_finish_2 0 rfl rfl)
theorem dX9_finish_49 : decode cX9_finish 49 = .ok (.iconst 1, 1) := dk_4 (dk_at dksX9_finish_2 1 rfl rfl)
theorem dX9_finish_50 : decode cX9_finish 50 = .ok (.iadd, 1) := dk_96 (dk_at dksX9_finish_2 2 rfl rfl)
theorem dX9_finish_51 : decode cX9_finish 51 = .ok (.iastore, 1) := dk_79 (dk_at dksX9_finish_2 3 rfl rfl)
theorem dX9_finish_52 : decode cX9_finish 52 = .ok (.aload_n 0, 1) := dk_42 (dk_at dksX9_finish_2 4 rfl rfl)
theorem dX9_finish_53 : decode cX9_finish 53 = .ok (.getfield 329, 3) := dk_180 1 73 (dk_at dksX9_finish_2 5 rfl rfl)
theorem dX9_finish_56 : decode cX9_finish 56 = .ok (.ifCond .eq 9, 3) := dk_153 0 9 (dk_at dksX9_finish_2 8 rfl rfl)
theorem dX9_finish_59 : decode cX9_finish 59 = .ok (.ldc2_w 156, 3) := dk_20 0 156 (dk_at dksX9_finish_2 11 rfl rfl)
theorem dX9_finish_62 : decode cX9_finish 62 = .ok (.goto 4, 3) := dk_167 0 4 (dk_at dksX9_finish_2 14 rfl rfl)
theorem dX9_finish_65 : decode cX9_finish 65 = .ok (.lload_n 1, 1) := dk_31 (dk_at dksX9_finish_2 17 rfl rfl)
theorem dX9_finish_66 : decode cX9_finish 66 = .ok (.lreturn, 1) := dk_173 (dk_at dksX9_finish_2 18 rfl rfl)
abbrev cX9_join : ByteArray := prog_28_method_99_code
def yX9_join : MethodName := ⟨RX9, "join", "(IIIII)J"⟩
def dkwX9_join_4 : List UInt8 := [42, 27, 28, 29, 21, 4, 182, 1, 134, 182, 1, 115, 173]
abbrev dktX9_join_4 : List UInt8 := dkwX9_join_4 ++ []
def dkwX9_join_3 : List UInt8 := [4, 167, 0, 4, 3, 182, 1, 130, 173, 42, 182, 1, 109, 42, 27, 182, 1, 76, 42, 29, 182, 1, 76, 42]
abbrev dktX9_join_3 : List UInt8 := dkwX9_join_3 ++ dktX9_join_4
def dkwX9_join_2 : List UInt8 := [42, 27, 28, 29, 21, 4, 182, 1, 126, 167, 0, 23, 42, 27, 28, 29, 21, 4, 21, 5, 4, 160, 0, 7]
abbrev dktX9_join_2 : List UInt8 := dkwX9_join_2 ++ dktX9_join_3
def dkwX9_join_1 : List UInt8 := [20, 0, 230, 184, 0, 77, 154, 0, 7, 20, 0, 156, 173, 21, 5, 158, 0, 42, 21, 5, 5, 160, 0, 15]
abbrev dktX9_join_1 : List UInt8 := dkwX9_join_1 ++ dktX9_join_2
def dkwX9_join_0 : List UInt8 := [42, 27, 28, 182, 0, 235, 153, 0, 26, 42, 29, 21, 4, 182, 0, 235, 153, 0, 16, 21, 5, 133, 9]
abbrev dktX9_join_0 : List UInt8 := dkwX9_join_0 ++ dktX9_join_1
theorem dksX9_join_0 : cX9_join.data.toList.drop 0 = dktX9_join_0 := by decide +kernel
theorem dksX9_join_1 : cX9_join.data.toList.drop 23 = dktX9_join_1 := dk_seg dksX9_join_0 23 rfl rfl
theorem dksX9_join_2 : cX9_join.data.toList.drop 47 = dktX9_join_2 := dk_seg dksX9_join_1 24 rfl rfl
theorem dksX9_join_3 : cX9_join.data.toList.drop 71 = dktX9_join_3 := dk_seg dksX9_join_2 24 rfl rfl
theorem dksX9_join_4 : cX9_join.data.toList.drop 95 = dktX9_join_4 := dk_seg dksX9_join_3 24 rfl rfl
theorem dX9_join_0 : decode cX9_join 0 = .ok (.aload_n 0, 1) := dk_42 (dk_at dksX9_join_0 0 rfl rfl)
theorem dX9_join_1 : decode cX9_join 1 = .ok (.iload_n 1, 1) := dk_27 (dk_at dksX9_join_0 1 rfl rfl)
theorem dX9_join_2 : decode cX9_join 2 = .ok (.iload_n 2, 1) := dk_28 (dk_at dksX9_join_0 2 rfl rfl)
theorem dX9_join_3 : decode cX9_join 3 = .ok (.invokevirtual 235, 3) := dk_182 0 235 (dk_at dksX9_join_0 3 rfl rfl)
theorem dX9_join_6 : decode cX9_join 6 = .ok (.ifCond .eq 26, 3) := dk_153 0 26 (dk_at dksX9_join_0 6 rfl rfl)
theorem dX9_join_9 : decode cX9_join 9 = .ok (.aload_n 0, 1) := dk_42 (dk_at dksX9_join_0 9 rfl rfl)
theorem dX9_join_10 : decode cX9_join 10 = .ok (.iload_n 3, 1) := dk_29 (dk_at dksX9_join_0 10 rfl rfl)
theorem dX9_join_11 : decode cX9_join 11 = .ok (.iload 4, 2) := dk_21 4 (dk_at dksX9_join_0 11 rfl rfl)
theorem dX9_join_13 : decode cX9_join 13 = .ok (.invokevirtual 235, 3) := dk_182 0 235 (dk_at dksX9_join_0 13 rfl rfl)
theorem dX9_join_16 : decode cX9_join 16 = .ok (.ifCond .eq 16, 3) := dk_153 0 16 (dk_at dksX9_join_0 16 rfl rfl)
theorem dX9_join_19 : decode cX9_join 19 = .ok (.iload 5, 2) := dk_21 5 (dk_at dksX9_join_0 19 rfl rfl)
theorem dX9_join_21 : decode cX9_join 21 = .ok (.i2l, 1) := dk_133 (dk_at dksX9_join_0 21 rfl rfl)
theorem dX9_join_22 : decode cX9_join 22 = .ok (.lconst 0, 1) := dk_9 (dk_at dksX9_join_0 22 rfl rfl)
theorem dX9_join_23 : decode cX9_join 23 = .ok (.ldc2_w 230, 3) := dk_20 0 230 (dk_at dksX9_join_1 0 rfl rfl)
theorem dX9_join_26 : decode cX9_join 26 = .ok (.invokestatic 77, 3) := dk_184 0 77 (dk_at dksX9_join_1 3 rfl rfl)
theorem dX9_join_29 : decode cX9_join 29 = .ok (.ifCond .ne 7, 3) := dk_154 0 7 (dk_at dksX9_join_1 6 rfl rfl)
theorem dX9_join_32 : decode cX9_join 32 = .ok (.ldc2_w 156, 3) := dk_20 0 156 (dk_at dksX9_join_1 9 rfl rfl)
theorem dX9_join_35 : decode cX9_join 35 = .ok (.lreturn, 1) := dk_173 (dk_at dksX9_join_1 12 rfl rfl)
theorem dX9_join_36 : decode cX9_join 36 = .ok (.iload 5, 2) := dk_21 5 (dk_at dksX9_join_1 13 rfl rfl)
theorem dX9_join_38 : decode cX9_join 38 = .ok (.ifCond .le 42, 3) := dk_158 0 42 (dk_at dksX9_join_1 15 rfl rfl)
theorem dX9_join_41 : decode cX9_join 41 = .ok (.iload 5, 2) := dk_21 5 (dk_at dksX9_join_1 18 rfl rfl)
theorem dX9_join_43 : decode cX9_join 43 = .ok (.iconst 2, 1) := dk_5 (dk_at dksX9_join_1 20 rfl rfl)
theorem dX9_join_44 : decode cX9_join 44 = .ok (.if_icmp .ne 15, 3) := dk_160 0 15 (dk_at dksX9_join_1 21 rfl rfl)
theorem dX9_join_47 : decode cX9_join 47 = .ok (.aload_n 0, 1) := dk_42 (dk_at dksX9_join_2 0 rfl rfl)
theorem dX9_join_48 : decode cX9_join 48 = .ok (.iload_n 1, 1) := dk_27 (dk_at dksX9_join_2 1 rfl rfl)
theorem dX9_join_49 : decode cX9_join 49 = .ok (.iload_n 2, 1) := dk_28 (dk_at dksX9_join_2 2 rfl rfl)
theorem dX9_join_50 : decode cX9_join 50 = .ok (.iload_n 3, 1) := dk_29 (dk_at dksX9_join_2 3 rfl rfl)
theorem dX9_join_51 : decode cX9_join 51 = .ok (.iload 4, 2) := dk_21 4 (dk_at dksX9_join_2 4 rfl rfl)
theorem dX9_join_53 : decode cX9_join 53 = .ok (.invokevirtual 382, 3) := dk_182 1 126 (dk_at dksX9_join_2 6 rfl rfl)
theorem dX9_join_56 : decode cX9_join 56 = .ok (.goto 23, 3) := dk_167 0 23 (dk_at dksX9_join_2 9 rfl rfl)
theorem dX9_join_59 : decode cX9_join 59 = .ok (.aload_n 0, 1) := dk_42 (dk_at dksX9_join_2 12 rfl rfl)
theorem dX9_join_60 : decode cX9_join 60 = .ok (.iload_n 1, 1) := dk_27 (dk_at dksX9_join_2 13 rfl rfl)
theorem dX9_join_61 : decode cX9_join 61 = .ok (.iload_n 2, 1) := dk_28 (dk_at dksX9_join_2 14 rfl rfl)
theorem dX9_join_62 : decode cX9_join 62 = .ok (.iload_n 3, 1) := dk_29 (dk_at dksX9_join_2 15 rfl rfl)
theorem dX9_join_63 : decode cX9_join 63 = .ok (.iload 4, 2) := dk_21 4 (dk_at dksX9_join_2 16 rfl rfl)
theorem dX9_join_65 : decode cX9_join 65 = .ok (.iload 5, 2) := dk_21 5 (dk_at dksX9_join_2 18 rfl rfl)
theorem dX9_join_67 : decode cX9_join 67 = .ok (.iconst 1, 1) := dk_4 (dk_at dksX9_join_2 20 rfl rfl)
theorem dX9_join_68 : decode cX9_join 68 = .ok (.if_icmp .ne 7, 3) := dk_160 0 7 (dk_at dksX9_join_2 21 rfl rfl)
theorem dX9_join_71 : decode cX9_join 71 = .ok (.iconst 1, 1) := dk_4 (dk_at dksX9_join_3 0 rfl rfl)
theorem dX9_join_72 : decode cX9_join 72 = .ok (.goto 4, 3) := dk_167 0 4 (dk_at dksX9_join_3 1 rfl rfl)
theorem dX9_join_75 : decode cX9_join 75 = .ok (.iconst 0, 1) := dk_3 (dk_at dksX9_join_3 4 rfl rfl)
theorem dX9_join_76 : decode cX9_join 76 = .ok (.invokevirtual 386, 3) := dk_182 1 130 (dk_at dksX9_join_3 5 rfl rfl)
theorem dX9_join_79 : decode cX9_join 79 = .ok (.lreturn, 1) := dk_173 (dk_at dksX9_join_3 8 rfl rfl)
theorem dX9_join_80 : decode cX9_join 80 = .ok (.aload_n 0, 1) := dk_42 (dk_at dksX9_join_3 9 rfl rfl)
theorem dX9_join_81 : decode cX9_join 81 = .ok (.invokevirtual 365, 3) := dk_182 1 109 (dk_at dksX9_join_3 10 rfl rfl)
theorem dX9_join_84 : decode cX9_join 84 = .ok (.aload_n 0, 1) := dk_42 (dk_at dksX9_join_3 13 rfl rfl)
theorem dX9_join_85 : decode cX9_join 85 = .ok (.iload_n 1, 1) := dk_27 (dk_at dksX9_join_3 14 rfl rfl)
theorem dX9_join_86 : decode cX9_join 86 = .ok (.invokevirtual 332, 3) := dk_182 1 76 (dk_at dksX9_join_3 15 rfl rfl)
theorem dX9_join_89 : decode cX9_join 89 = .ok (.aload_n 0, 1) := dk_42 (dk_at dksX9_join_3 18 rfl rfl)
theorem dX9_join_90 : decode cX9_join 90 = .ok (.iload_n 3, 1) := dk_29 (dk_at dksX9_join_3 19 rfl rfl)
theorem dX9_join_91 : decode cX9_join 91 = .ok (.invokevirtual 332, 3) := dk_182 1 76 (dk_at dksX9_join_3 20 rfl rfl)
theorem dX9_join_94 : decode cX9_join 94 = .ok (.aload_n 0, 1) := dk_42 (dk_at dksX9_join_3 23 rfl rfl)
theorem dX9_join_95 : decode cX9_join 95 = .ok (.aload_n 0, 1) := dk_42 (dk_at dksX9_join_4 0 rfl rfl)
theorem dX9_join_96 : decode cX9_join 96 = .ok (.iload_n 1, 1) := dk_27 (dk_at dksX9_join_4 1 rfl rfl)
theorem dX9_join_97 : decode cX9_join 97 = .ok (.iload_n 2, 1) := dk_28 (dk_at dksX9_join_4 2 rfl rfl)
theorem dX9_join_98 : decode cX9_join 98 = .ok (.iload_n 3, 1) := dk_29 (dk_at dksX9_join_4 3 rfl rfl)
theorem dX9_join_99 : decode cX9_join 99 = .ok (.iload 4, 2) := dk_21 4 (dk_at dksX9_join_4 4 rfl rfl)
theorem dX9_join_101 : decode cX9_join 101 = .ok (.invokevirtual 390, 3) := dk_182 1 134 (dk_at dksX9_join_4 6 rfl rfl)
theorem dX9_join_104 : decode cX9_join 104 = .ok (.invokevirtual 371, 3) := dk_182 1 115 (dk_at dksX9_join_4 9 rfl rfl)
theorem dX9_join_107 : decode cX9_join 107 = .ok (.lreturn, 1) := dk_173 (dk_at dksX9_join_4 12 rfl rfl)
abbrev cX9_degrees : ByteArray := prog_28_method_98_code
def yX9_degrees : MethodName := ⟨RX9, "degrees", "(IIII)J"⟩
def dkwX9_degrees_2 : List UInt8 := [46, 133, 105, 97, 55, 5, 132, 7, 1, 167, 255, 221, 22, 5, 173]
abbrev dktX9_degrees_2 : List UInt8 := dkwX9_degrees_2 ++ []
def dkwX9_degrees_1 : List UInt8 := [16, 16, 162, 0, 34, 22, 5, 42, 180, 0, 57, 21, 7, 46, 133, 42, 180, 0, 57, 16, 16, 21, 7, 96]
abbrev dktX9_degrees_1 : List UInt8 := dkwX9_degrees_1 ++ dktX9_degrees_2
def dkwX9_degrees_0 : List UInt8 := [42, 27, 28, 3, 182, 1, 122, 42, 29, 21, 4, 16, 16, 182, 1, 122, 9, 55, 5, 3, 54, 7, 21, 7]
abbrev dktX9_degrees_0 : List UInt8 := dkwX9_degrees_0 ++ dktX9_degrees_1
theorem dksX9_degrees_0 : cX9_degrees.data.toList.drop 0 = dktX9_degrees_0 := by decide +kernel
theorem dksX9_degrees_1 : cX9_degrees.data.toList.drop 24 = dktX9_degrees_1 := dk_seg dksX9_degrees_0 24 rfl rfl
theorem dksX9_degrees_2 : cX9_degrees.data.toList.drop 48 = dktX9_degrees_2 := dk_seg dksX9_degrees_1 24 rfl rfl
theorem dX9_degrees_0 : decode cX9_degrees 0 = .ok (.aload_n 0, 1) := dk_42 (dk_at dksX9_degrees_0 0 rfl rfl)
theorem dX9_degrees_1 : decode cX9_degrees 1 = .ok (.iload_n 1, 1) := dk_27 (dk_at dksX9_degrees_0 1 rfl rfl)
theorem dX9_degrees_2 : decode cX9_degrees 2 = .ok (.iload_n 2, 1) := dk_28 (dk_at dksX9_degrees_0 2 rfl rfl)
theorem dX9_degrees_3 : decode cX9_degrees 3 = .ok (.iconst 0, 1) := dk_3 (dk_at dksX9_degrees_0 3 rfl rfl)
theorem dX9_degrees_4 : decode cX9_degrees 4 = .ok (.invokevirtual 378, 3) := dk_182 1 122 (dk_at dksX9_degrees_0 4 rfl rfl)
theorem dX9_degrees_7 : decode cX9_degrees 7 = .ok (.aload_n 0, 1) := dk_42 (dk_at dksX9_degrees_0 7 rfl rfl)
theorem dX9_degrees_8 : decode cX9_degrees 8 = .ok (.iload_n 3, 1) := dk_29 (dk_at dksX9_degrees_0 8 rfl rfl)
theorem dX9_degrees_9 : decode cX9_degrees 9 = .ok (.iload 4, 2) := dk_21 4 (dk_at dksX9_degrees_0 9 rfl rfl)
theorem dX9_degrees_11 : decode cX9_degrees 11 = .ok (.bipush 16, 2) := dk_16 16 (dk_at dksX9_degrees_0 11 rfl rfl)
theorem dX9_degrees_13 : decode cX9_degrees 13 = .ok (.invokevirtual 378, 3) := dk_182 1 122 (dk_at dksX9_degrees_0 13 rfl rfl)
theorem dX9_degrees_16 : decode cX9_degrees 16 = .ok (.lconst 0, 1) := dk_9 (dk_at dksX9_degrees_0 16 rfl rfl)
theorem dX9_degrees_17 : decode cX9_degrees 17 = .ok (.lstore 5, 2) := dk_55 5 (dk_at dksX9_degrees_0 17 rfl rfl)
theorem dX9_degrees_19 : decode cX9_degrees 19 = .ok (.iconst 0, 1) := dk_3 (dk_at dksX9_degrees_0 19 rfl rfl)
theorem dX9_degrees_20 : decode cX9_degrees 20 = .ok (.istore 7, 2) := dk_54 7 (dk_at dksX9_degrees_0 20 rfl rfl)
theorem dX9_degrees_22 : decode cX9_degrees 22 = .ok (.iload 7, 2) := dk_21 7 (dk_at dksX9_degrees_0 22 rfl rfl)
theorem dX9_degrees_24 : decode cX9_degrees 24 = .ok (.bipush 16, 2) := dk_16 16 (dk_at dksX9_degrees_1 0 rfl rfl)
theorem dX9_degrees_26 : decode cX9_degrees 26 = .ok (.if_icmp .ge 34, 3) := dk_162 0 34 (dk_at dksX9_degrees_1 2 rfl rfl)
theorem dX9_degrees_29 : decode cX9_degrees 29 = .ok (.lload 5, 2) := dk_22 5 (dk_at dksX9_degrees_1 5 rfl rfl)
theorem dX9_degrees_31 : decode cX9_degrees 31 = .ok (.aload_n 0, 1) := dk_42 (dk_at dksX9_degrees_1 7 rfl rfl)
theorem dX9_degrees_32 : decode cX9_degrees 32 = .ok (.getfield 57, 3) := dk_180 0 57 (dk_at dksX9_degrees_1 8 rfl rfl)
theorem dX9_degrees_35 : decode cX9_degrees 35 = .ok (.iload 7, 2) := dk_21 7 (dk_at dksX9_degrees_1 11 rfl rfl)
theorem dX9_degrees_37 : decode cX9_degrees 37 = .ok (.iaload, 1) := dk_46 (dk_at dksX9_degrees_1 13 rfl rfl)
theorem dX9_degrees_38 : decode cX9_degrees 38 = .ok (.i2l, 1) := dk_133 (dk_at dksX9_degrees_1 14 rfl rfl)
theorem dX9_degrees_39 : decode cX9_degrees 39 = .ok (.aload_n 0, 1) := dk_42 (dk_at dksX9_degrees_1 15 rfl rfl)
theorem dX9_degrees_40 : decode cX9_degrees 40 = .ok (.getfield 57, 3) := dk_180 0 57 (dk_at dksX9_degrees_1 16 rfl rfl)
theorem dX9_degrees_43 : decode cX9_degrees 43 = .ok (.bipush 16, 2) := dk_16 16 (dk_at dksX9_degrees_1 19 rfl rfl)
theorem dX9_degrees_45 : decode cX9_degrees 45 = .ok (.iload 7, 2) := dk_21 7 (dk_at dksX9_degrees_1 21 rfl rfl)
theorem dX9_degrees_47 : decode cX9_degrees 47 = .ok (.iadd, 1) := dk_96 (dk_at dksX9_degrees_1 23 rfl rfl)
theorem dX9_degrees_48 : decode cX9_degrees 48 = .ok (.iaload, 1) := dk_46 (dk_at dksX9_degrees_2 0 rfl rfl)
theorem dX9_degrees_49 : decode cX9_degrees 49 = .ok (.i2l, 1) := dk_133 (dk_at dksX9_degrees_2 1 rfl rfl)
theorem dX9_degrees_50 : decode cX9_degrees 50 = .ok (.lmul, 1) := dk_105 (dk_at dksX9_degrees_2 2 rfl rfl)
theorem dX9_degrees_51 : decode cX9_degrees 51 = .ok (.ladd, 1) := dk_97 (dk_at dksX9_degrees_2 3 rfl rfl)
theorem dX9_degrees_52 : decode cX9_degrees 52 = .ok (.lstore 5, 2) := dk_55 5 (dk_at dksX9_degrees_2 4 rfl rfl)
theorem dX9_degrees_54 : decode cX9_degrees 54 = .ok (.iinc 7 1, 3) := dk_132 7 1 (dk_at dksX9_degrees_2 6 rfl rfl)
theorem dX9_degrees_57 : decode cX9_degrees 57 = .ok (.goto (-35), 3) := dk_167 255 221 (dk_at dksX9_degrees_2 9 rfl rfl)
theorem dX9_degrees_60 : decode cX9_degrees 60 = .ok (.lload 5, 2) := dk_22 5 (dk_at dksX9_degrees_2 12 rfl rfl)
theorem dX9_degrees_62 : decode cX9_degrees 62 = .ok (.lreturn, 1) := dk_173 (dk_at dksX9_degrees_2 14 rfl rfl)
abbrev cX9_sortCounts : ByteArray := prog_28_method_97_code
def yX9_sortCounts : MethodName := ⟨RX9, "sortCounts", "(III)V"⟩
def dkwX9_sortCounts_3 : List UInt8 := [167, 255, 212, 42, 180, 0, 57, 29, 21, 6, 96, 21, 5, 79, 132, 4, 1, 167, 255, 174, 177]
abbrev dktX9_sortCounts_3 : List UInt8 := dkwX9_sortCounts_3 ++ []
def dkwX9_sortCounts_2 : List UInt8 := [180, 0, 57, 29, 21, 6, 96, 42, 180, 0, 57, 29, 21, 6, 96, 4, 100, 46, 79, 132, 6, 255]
abbrev dktX9_sortCounts_2 : List UInt8 := dkwX9_sortCounts_2 ++ dktX9_sortCounts_3
def dkwX9_sortCounts_1 : List UInt8 := [21, 6, 158, 0, 45, 42, 180, 0, 57, 29, 21, 6, 96, 4, 100, 46, 21, 5, 162, 0, 29, 42]
abbrev dktX9_sortCounts_1 : List UInt8 := dkwX9_sortCounts_1 ++ dktX9_sortCounts_2
def dkwX9_sortCounts_0 : List UInt8 := [3, 54, 4, 21, 4, 16, 16, 162, 0, 81, 42, 27, 28, 21, 4, 182, 1, 119, 54, 5, 21, 4, 54, 6]
abbrev dktX9_sortCounts_0 : List UInt8 := dkwX9_sortCounts_0 ++ dktX9_sortCounts_1
theorem dksX9_sortCounts_0 : cX9_sortCounts.data.toList.drop 0 = dktX9_sortCounts_0 := by decide +kernel
theorem dksX9_sortCounts_1 : cX9_sortCounts.data.toList.drop 24 = dktX9_sortCounts_1 := dk_seg dksX9_sortCounts_0 24 rfl rfl
theorem dksX9_sortCounts_2 : cX9_sortCounts.data.toList.drop 46 = dktX9_sortCounts_2 := dk_seg dksX9_sortCounts_1 22 rfl rfl
theorem dksX9_sortCounts_3 : cX9_sortCounts.data.toList.drop 68 = dktX9_sortCounts_3 := dk_seg dksX9_sortCounts_2 22 rfl rfl
theorem dX9_sortCounts_0 : decode cX9_sortCounts 0 = .ok (.iconst 0, 1) := dk_3 (dk_at dksX9_sortCounts_0 0 rfl rfl)
theorem dX9_sortCounts_1 : decode cX9_sortCounts 1 = .ok (.istore 4, 2) := dk_54 4 (dk_at dksX9_sortCounts_0 1 rfl rfl)
theorem dX9_sortCounts_3 : decode cX9_sortCounts 3 = .ok (.iload 4, 2) := dk_21 4 (dk_at dksX9_sortCounts_0 3 rfl rfl)
theorem dX9_sortCounts_5 : decode cX9_sortCounts 5 = .ok (.bipush 16, 2) := dk_16 16 (dk_at dksX9_sortCounts_0 5 rfl rfl)
theorem dX9_sortCounts_7 : decode cX9_sortCounts 7 = .ok (.if_icmp .ge 81, 3) := dk_162 0 81 (dk_at dksX9_sortCounts_0 7 rfl rfl)
theorem dX9_sortCounts_10 : decode cX9_sortCounts 10 = .ok (.aload_n 0, 1) := dk_42 (dk_at dksX9_sortCounts_0 10 rfl rfl)
theorem dX9_sortCounts_11 : decode cX9_sortCounts 11 = .ok (.iload_n 1, 1) := dk_27 (dk_at dksX9_sortCounts_0 11 rfl rfl)
theorem dX9_sortCounts_12 : decode cX9_sortCounts 12 = .ok (.iload_n 2, 1) := dk_28 (dk_at dksX9_sortCounts_0 12 rfl rfl)
theorem dX9_sortCounts_13 : decode cX9_sortCounts 13 = .ok (.iload 4, 2) := dk_21 4 (dk_at dksX9_sortCounts_0 13 rfl rfl)
theorem dX9_sortCounts_15 : decode cX9_sortCounts 15 = .ok (.invokevirtual 375, 3) := dk_182 1 119 (dk_at dksX9_sortCounts_0 15 rfl rfl)
theorem dX9_sortCounts_18 : decode cX9_sortCounts 18 = .ok (.istore 5, 2) := dk_54 5 (dk_at dksX9_sortCounts_0 18 rfl rfl)
theorem dX9_sortCounts_20 : decode cX9_sortCounts 20 = .ok (.iload 4, 2) := dk_21 4 (dk_at dksX9_sortCounts_0 20 rfl rfl)
theorem dX9_sortCounts_22 : decode cX9_sortCounts 22 = .ok (.istore 6, 2) := dk_54 6 (dk_at dksX9_sortCounts_0 22 rfl rfl)
theorem dX9_sortCounts_24 : decode cX9_sortCounts 24 = .ok (.iload 6, 2) := dk_21 6 (dk_at dksX9_sortCounts_1 0 rfl rfl)
theorem dX9_sortCounts_26 : decode cX9_sortCounts 26 = .ok (.ifCond .le 45, 3) := dk_158 0 45 (dk_at dksX9_sortCounts_1 2 rfl rfl)
theorem dX9_sortCounts_29 : decode cX9_sortCounts 29 = .ok (.aload_n 0, 1) := dk_42 (dk_at dksX9_sortCounts_1 5 rfl rfl)
theorem dX9_sortCounts_30 : decode cX9_sortCounts 30 = .ok (.getfield 57, 3) := dk_180 0 57 (dk_at dksX9_sortCounts_1 6 rfl rfl)
theorem dX9_sortCounts_33 : decode cX9_sortCounts 33 = .ok (.iload_n 3, 1) := dk_29 (dk_at dksX9_sortCounts_1 9 rfl rfl)
theorem dX9_sortCounts_34 : decode cX9_sortCounts 34 = .ok (.iload 6, 2) := dk_21 6 (dk_at dksX9_sortCounts_1 10 rfl rfl)
theorem dX9_sortCounts_36 : decode cX9_sortCounts 36 = .ok (.iadd, 1) := dk_96 (dk_at dksX9_sortCounts_1 12 rfl rfl)
theorem dX9_sortCounts_37 : decode cX9_sortCounts 37 = .ok (.iconst 1, 1) := dk_4 (dk_at dksX9_sortCounts_1 13 rfl rfl)
theorem dX9_sortCounts_38 : decode cX9_sortCounts 38 = .ok (.isub, 1) := dk_100 (dk_at dksX9_sortCounts_1 14 rfl rfl)
theorem dX9_sortCounts_39 : decode cX9_sortCounts 39 = .ok (.iaload, 1) := dk_46 (dk_at dksX9_sortCounts_1 15 rfl rfl)
theorem dX9_sortCounts_40 : decode cX9_sortCounts 40 = .ok (.iload 5, 2) := dk_21 5 (dk_at dksX9_sortCounts_1 16 rfl rfl)
theorem dX9_sortCounts_42 : decode cX9_sortCounts 42 = .ok (.if_icmp .ge 29, 3) := dk_162 0 29 (dk_at dksX9_sortCounts_1 18 rfl rfl)
theorem dX9_sortCounts_45 : decode cX9_sortCounts 45 = .ok (.aload_n 0, 1) := dk_42 (dk_at dksX9_sortCounts_1 21 rfl rfl)
theorem dX9_sortCounts_46 : decode cX9_sortCounts 46 = .ok (.getfield 57, 3) := dk_180 0 57 (dk_at dksX9_sortCounts_2 0 rfl rfl)
theorem dX9_sortCounts_49 : decode cX9_sortCounts 49 = .ok (.iload_n 3, 1) := dk_29 (dk_at dksX9_sortCounts_2 3 rfl rfl)
theorem dX9_sortCounts_50 : decode cX9_sortCounts 50 = .ok (.iload 6, 2) := dk_21 6 (dk_at dksX9_sortCounts_2 4 rfl rfl)
theorem dX9_sortCounts_52 : decode cX9_sortCounts 52 = .ok (.iadd, 1) := dk_96 (dk_at dksX9_sortCounts_2 6 rfl rfl)
theorem dX9_sortCounts_53 : decode cX9_sortCounts 53 = .ok (.aload_n 0, 1) := dk_42 (dk_at dksX9_sortCounts_2 7 rfl rfl)
theorem dX9_sortCounts_54 : decode cX9_sortCounts 54 = .ok (.getfield 57, 3) := dk_180 0 57 (dk_at dksX9_sortCounts_2 8 rfl rfl)
theorem dX9_sortCounts_57 : decode cX9_sortCounts 57 = .ok (.iload_n 3, 1) := dk_29 (dk_at dksX9_sortCounts_2 11 rfl rfl)
theorem dX9_sortCounts_58 : decode cX9_sortCounts 58 = .ok (.iload 6, 2) := dk_21 6 (dk_at dksX9_sortCounts_2 12 rfl rfl)
theorem dX9_sortCounts_60 : decode cX9_sortCounts 60 = .ok (.iadd, 1) := dk_96 (dk_at dksX9_sortCounts_2 14 rfl rfl)
theorem dX9_sortCounts_61 : decode cX9_sortCounts 61 = .ok (.iconst 1, 1) := dk_4 (dk_at dksX9_sortCounts_2 15 rfl rfl)
theorem dX9_sortCounts_62 : decode cX9_sortCounts 62 = .ok (.isub, 1) := dk_100 (dk_at dksX9_sortCounts_2 16 rfl rfl)
theorem dX9_sortCounts_63 : decode cX9_sortCounts 63 = .ok (.iaload, 1) := dk_46 (dk_at dksX9_sortCounts_2 17 rfl rfl)
theorem dX9_sortCounts_64 : decode cX9_sortCounts 64 = .ok (.iastore, 1) := dk_79 (dk_at dksX9_sortCounts_2 18 rfl rfl)
theorem dX9_sortCounts_65 : decode cX9_sortCounts 65 = .ok (.iinc 6 (-1), 3) := dk_132 6 255 (dk_at dksX9_sortCounts_2 19 rfl rfl)
theorem dX9_sortCounts_68 : decode cX9_sortCounts 68 = .ok (.goto (-44), 3) := dk_167 255 212 (dk_at dksX9_sortCounts_3 0 rfl rfl)
theorem dX9_sortCounts_71 : decode cX9_sortCounts 71 = .ok (.aload_n 0, 1) := dk_42 (dk_at dksX9_sortCounts_3 3 rfl rfl)
theorem dX9_sortCounts_72 : decode cX9_sortCounts 72 = .ok (.getfield 57, 3) := dk_180 0 57 (dk_at dksX9_sortCounts_3 4 rfl rfl)
theorem dX9_sortCounts_75 : decode cX9_sortCounts 75 = .ok (.iload_n 3, 1) := dk_29 (dk_at dksX9_sortCounts_3 7 rfl rfl)
theorem dX9_sortCounts_76 : decode cX9_sortCounts 76 = .ok (.iload 6, 2) := dk_21 6 (dk_at dksX9_sortCounts_3 8 rfl rfl)
theorem dX9_sortCounts_78 : decode cX9_sortCounts 78 = .ok (.iadd, 1) := dk_96 (dk_at dksX9_sortCounts_3 10 rfl rfl)
theorem dX9_sortCounts_79 : decode cX9_sortCounts 79 = .ok (.iload 5, 2) := dk_21 5 (dk_at dksX9_sortCounts_3 11 rfl rfl)
theorem dX9_sortCounts_81 : decode cX9_sortCounts 81 = .ok (.iastore, 1) := dk_79 (dk_at dksX9_sortCounts_3 13 rfl rfl)
theorem dX9_sortCounts_82 : decode cX9_sortCounts 82 = .ok (.iinc 4 1, 3) := dk_132 4 1 (dk_at dksX9_sortCounts_3 14 rfl rfl)
theorem dX9_sortCounts_85 : decode cX9_sortCounts 85 = .ok (.goto (-82), 3) := dk_167 255 174 (dk_at dksX9_sortCounts_3 17 rfl rfl)
theorem dX9_sortCounts_88 : decode cX9_sortCounts 88 = .ok (.return_, 1) := dk_177 (dk_at dksX9_sortCounts_3 20 rfl rfl)
abbrev cX9_countIn : ByteArray := prog_28_method_94_code
def yX9_countIn : MethodName := ⟨RX9, "countIn", "(III)I"⟩
def dkwX9_countIn_0 : List UInt8 := [29, 42, 180, 0, 25, 27, 46, 162, 0, 13, 42, 27, 28, 29, 182, 0, 167, 167, 0, 4, 3, 172]
abbrev dktX9_countIn_0 : List UInt8 := dkwX9_countIn_0 ++ []
theorem dksX9_countIn_0 : cX9_countIn.data.toList.drop 0 = dktX9_countIn_0 := by decide +kernel
theorem dX9_countIn_0 : decode cX9_countIn 0 = .ok (.iload_n 3, 1) := dk_29 (dk_at dksX9_countIn_0 0 rfl rfl)
theorem dX9_countIn_1 : decode cX9_countIn 1 = .ok (.aload_n 0, 1) := dk_42 (dk_at dksX9_countIn_0 1 rfl rfl)
theorem dX9_countIn_2 : decode cX9_countIn 2 = .ok (.getfield 25, 3) := dk_180 0 25 (dk_at dksX9_countIn_0 2 rfl rfl)
theorem dX9_countIn_5 : decode cX9_countIn 5 = .ok (.iload_n 1, 1) := dk_27 (dk_at dksX9_countIn_0 5 rfl rfl)
theorem dX9_countIn_6 : decode cX9_countIn 6 = .ok (.iaload, 1) := dk_46 (dk_at dksX9_countIn_0 6 rfl rfl)
theorem dX9_countIn_7 : decode cX9_countIn 7 = .ok (.if_icmp .ge 13, 3) := dk_162 0 13 (dk_at dksX9_countIn_0 7 rfl rfl)
theorem dX9_countIn_10 : decode cX9_countIn 10 = .ok (.aload_n 0, 1) := dk_42 (dk_at dksX9_countIn_0 10 rfl rfl)
theorem dX9_countIn_11 : decode cX9_countIn 11 = .ok (.iload_n 1, 1) := dk_27 (dk_at dksX9_countIn_0 11 rfl rfl)
theorem dX9_countIn_12 : decode cX9_countIn 12 = .ok (.iload_n 2, 1) := dk_28 (dk_at dksX9_countIn_0 12 rfl rfl)
theorem dX9_countIn_13 : decode cX9_countIn 13 = .ok (.iload_n 3, 1) := dk_29 (dk_at dksX9_countIn_0 13 rfl rfl)
theorem dX9_countIn_14 : decode cX9_countIn 14 = .ok (.invokevirtual 167, 3) := dk_182 0 167 (dk_at dksX9_countIn_0 14 rfl rfl)
theorem dX9_countIn_17 : decode cX9_countIn 17 = .ok (.goto 4, 3) := dk_167 0 4 (dk_at dksX9_countIn_0 17 rfl rfl)
theorem dX9_countIn_20 : decode cX9_countIn 20 = .ok (.iconst 0, 1) := dk_3 (dk_at dksX9_countIn_0 20 rfl rfl)
theorem dX9_countIn_21 : decode cX9_countIn 21 = .ok (.ireturn, 1) := dk_172 (dk_at dksX9_countIn_0 21 rfl rfl)
abbrev cX9_joinBy : ByteArray := prog_28_method_96_code
def yX9_joinBy : MethodName := ⟨RX9, "joinBy", "(IIIIZ)J"⟩
def dkwX9_joinBy_10 : List UInt8 := [132, 9, 1, 167, 255, 37, 132, 8, 1, 167, 255, 17, 22, 6, 173]
abbrev dktX9_joinBy_10 : List UInt8 := dkwX9_joinBy_10 ++ []
def dkwX9_joinBy_9 : List UInt8 := [105, 184, 0, 181, 184, 0, 181, 167, 0, 14, 22, 10, 22, 12, 105, 22, 14, 105, 22, 20, 109, 97, 55, 6]
abbrev dktX9_joinBy_9 : List UInt8 := dkwX9_joinBy_9 ++ dktX9_joinBy_10
def dkwX9_joinBy_8 : List UInt8 := [22, 6, 21, 5, 153, 0, 30, 22, 10, 22, 16, 105, 22, 18, 105, 22, 12, 22, 18, 105, 22, 14, 22, 16]
abbrev dktX9_joinBy_8 : List UInt8 := dkwX9_joinBy_8 ++ dktX9_joinBy_9
def dkwX9_joinBy_7 : List UInt8 := [21, 9, 4, 182, 0, 241, 42, 29, 21, 4, 21, 9, 3, 182, 0, 241, 100, 4, 96, 133, 105, 55, 20]
abbrev dktX9_joinBy_7 : List UInt8 := dkwX9_joinBy_7 ++ dktX9_joinBy_8
def dkwX9_joinBy_6 : List UInt8 := [28, 21, 8, 4, 182, 0, 241, 42, 27, 28, 21, 8, 3, 182, 0, 241, 100, 4, 96, 133, 42, 29, 21, 4]
abbrev dktX9_joinBy_6 : List UInt8 := dkwX9_joinBy_6 ++ dktX9_joinBy_7
def dkwX9_joinBy_5 : List UInt8 := [21, 8, 6, 182, 0, 241, 133, 55, 16, 42, 29, 21, 4, 21, 9, 6, 182, 0, 241, 133, 55, 18, 42, 27]
abbrev dktX9_joinBy_5 : List UInt8 := dkwX9_joinBy_5 ++ dktX9_joinBy_6
def dkwX9_joinBy_4 : List UInt8 := [5, 182, 0, 241, 133, 55, 12, 42, 29, 21, 4, 21, 9, 5, 182, 0, 241, 133, 55, 14, 42, 27, 28]
abbrev dktX9_joinBy_4 : List UInt8 := dkwX9_joinBy_4 ++ dktX9_joinBy_5
def dkwX9_joinBy_3 : List UInt8 := [182, 0, 241, 184, 0, 202, 100, 4, 96, 133, 55, 10, 22, 10, 9, 148, 158, 0, 150, 42, 27, 28, 21, 8]
abbrev dktX9_joinBy_3 : List UInt8 := dkwX9_joinBy_3 ++ dktX9_joinBy_4
def dkwX9_joinBy_2 : List UInt8 := [182, 0, 241, 184, 0, 194, 42, 27, 28, 21, 8, 3, 182, 0, 241, 42, 29, 21, 4, 21, 9, 3]
abbrev dktX9_joinBy_2 : List UInt8 := dkwX9_joinBy_2 ++ dktX9_joinBy_3
def dkwX9_joinBy_1 : List UInt8 := [21, 4, 182, 0, 238, 162, 0, 213, 42, 27, 28, 21, 8, 4, 182, 0, 241, 42, 29, 21, 4, 21, 9, 4]
abbrev dktX9_joinBy_1 : List UInt8 := dkwX9_joinBy_1 ++ dktX9_joinBy_2
def dkwX9_joinBy_0 : List UInt8 := [9, 55, 6, 3, 54, 8, 21, 8, 42, 27, 28, 182, 0, 238, 162, 0, 234, 3, 54, 9, 21, 9, 42, 29]
abbrev dktX9_joinBy_0 : List UInt8 := dkwX9_joinBy_0 ++ dktX9_joinBy_1
theorem dksX9_joinBy_0 : cX9_joinBy.data.toList.drop 0 = dktX9_joinBy_0 := by decide +kernel
theorem dksX9_joinBy_1 : cX9_joinBy.data.toList.drop 24 = dktX9_joinBy_1 := dk_seg dksX9_joinBy_0 24 rfl rfl
theorem dksX9_joinBy_2 : cX9_joinBy.data.toList.drop 48 = dktX9_joinBy_2 := dk_seg dksX9_joinBy_1 24 rfl rfl
theorem dksX9_joinBy_3 : cX9_joinBy.data.toList.drop 70 = dktX9_joinBy_3 := dk_seg dksX9_joinBy_2 22 rfl rfl
theorem dksX9_joinBy_4 : cX9_joinBy.data.toList.drop 94 = dktX9_joinBy_4 := dk_seg dksX9_joinBy_3 24 rfl rfl
theorem dksX9_joinBy_5 : cX9_joinBy.data.toList.drop 117 = dktX9_joinBy_5 := dk_seg dksX9_joinBy_4 23 rfl rfl
theorem dksX9_joinBy_6 : cX9_joinBy.data.toList.drop 141 = dktX9_joinBy_6 := dk_seg dksX9_joinBy_5 24 rfl rfl
theorem dksX9_joinBy_7 : cX9_joinBy.data.toList.drop 165 = dktX9_joinBy_7 := dk_seg dksX9_joinBy_6 24 rfl rfl
theorem dksX9_joinBy_8 : cX9_joinBy.data.toList.drop 188 = dktX9_joinBy_8 := dk_seg dksX9_joinBy_7 23 rfl rfl
theorem dksX9_joinBy_9 : cX9_joinBy.data.toList.drop 212 = dktX9_joinBy_9 := dk_seg dksX9_joinBy_8 24 rfl rfl
theorem dksX9_joinBy_10 : cX9_joinBy.data.toList.drop 236 = dktX9_joinBy_10 := dk_seg dksX9_joinBy_9 24 rfl rfl
theorem dX9_joinBy_0 : decode cX9_joinBy 0 = .ok (.lconst 0, 1) := dk_9 (dk_at dksX9_joinBy_0 0 rfl rfl)
theorem dX9_joinBy_1 : decode cX9_joinBy 1 = .ok (.lstore 6, 2) := dk_55 6 (dk_at dksX9_joinBy_0 1 rfl rfl)
theorem dX9_joinBy_3 : decode cX9_joinBy 3 = .ok (.iconst 0, 1) := dk_3 (dk_at dksX9_joinBy_0 3 rfl rfl)
theorem dX9_joinBy_4 : decode cX9_joinBy 4 = .ok (.istore 8, 2) := dk_54 8 (dk_at dksX9_joinBy_0 4 rfl rfl)
theorem dX9_joinBy_6 : decode cX9_joinBy 6 = .ok (.iload 8, 2) := dk_21 8 (dk_at dksX9_joinBy_0 6 rfl rfl)
theorem dX9_joinBy_8 : decode cX9_joinBy 8 = .ok (.aload_n 0, 1) := dk_42 (dk_at dksX9_joinBy_0 8 rfl rfl)
theorem dX9_joinBy_9 : decode cX9_joinBy 9 = .ok (.iload_n 1, 1) := dk_27 (dk_at dksX9_joinBy_0 9 rfl rfl)
theorem dX9_joinBy_10 : decode cX9_joinBy 10 = .ok (.iload_n 2, 1) := dk_28 (dk_at dksX9_joinBy_0 10 rfl rfl)
theorem dX9_joinBy_11 : decode cX9_joinBy 11 = .ok (.invokevirtual 238, 3) := dk_182 0 238 (dk_at dksX9_joinBy_0 11 rfl rfl)
theorem dX9_joinBy_14 : decode cX9_joinBy 14 = .ok (.if_icmp .ge 234, 3) := dk_162 0 234 (dk_at dksX9_joinBy_0 14 rfl rfl)
theorem dX9_joinBy_17 : decode cX9_joinBy 17 = .ok (.iconst 0, 1) := dk_3 (dk_at dksX9_joinBy_0 17 rfl rfl)
theorem dX9_joinBy_18 : decode cX9_joinBy 18 = .ok (.istore 9, 2) := dk_54 9 (dk_at dksX9_joinBy_0 18 rfl rfl)
theorem dX9_joinBy_20 : decode cX9_joinBy 20 = .ok (.iload 9, 2) := dk_21 9 (dk_at dksX9_joinBy_0 20 rfl rfl)
theorem dX9_joinBy_22 : decode cX9_joinBy 22 = .ok (.aload_n 0, 1) := dk_42 (dk_at dksX9_joinBy_0 22 rfl rfl)
theorem dX9_joinBy_23 : decode cX9_joinBy 23 = .ok (.iload_n 3, 1) := dk_29 (dk_at dksX9_joinBy_0 23 rfl rfl)
theorem dX9_joinBy_24 : decode cX9_joinBy 24 = .ok (.iload 4, 2) := dk_21 4 (dk_at dksX9_joinBy_1 0 rfl rfl)
theorem dX9_joinBy_26 : decode cX9_joinBy 26 = .ok (.invokevirtual 238, 3) := dk_182 0 238 (dk_at dksX9_joinBy_1 2 rfl rfl)
theorem dX9_joinBy_29 : decode cX9_joinBy 29 = .ok (.if_icmp .ge 213, 3) := dk_162 0 213 (dk_at dksX9_joinBy_1 5 rfl rfl)
theorem dX9_joinBy_32 : decode cX9_joinBy 32 = .ok (.aload_n 0, 1) := dk_42 (dk_at dksX9_joinBy_1 8 rfl rfl)
theorem dX9_joinBy_33 : decode cX9_joinBy 33 = .ok (.iload_n 1, 1) := dk_27 (dk_at dksX9_joinBy_1 9 rfl rfl)
theorem dX9_joinBy_34 : decode cX9_joinBy 34 = .ok (.iload_n 2, 1) := dk_28 (dk_at dksX9_joinBy_1 10 rfl rfl)
theorem dX9_joinBy_35 : decode cX9_joinBy 35 = .ok (.iload 8, 2) := dk_21 8 (dk_at dksX9_joinBy_1 11 rfl rfl)
theorem dX9_joinBy_37 : decode cX9_joinBy 37 = .ok (.iconst 1, 1) := dk_4 (dk_at dksX9_joinBy_1 13 rfl rfl)
theorem dX9_joinBy_38 : decode cX9_joinBy 38 = .ok (.invokevirtual 241, 3) := dk_182 0 241 (dk_at dksX9_joinBy_1 14 rfl rfl)
theorem dX9_joinBy_41 : decode cX9_joinBy 41 = .ok (.aload_n 0, 1) := dk_42 (dk_at dksX9_joinBy_1 17 rfl rfl)
theorem dX9_joinBy_42 : decode cX9_joinBy 42 = .ok (.iload_n 3, 1) := dk_29 (dk_at dksX9_joinBy_1 18 rfl rfl)
theorem dX9_joinBy_43 : decode cX9_joinBy 43 = .ok (.iload 4, 2) := dk_21 4 (dk_at dksX9_joinBy_1 19 rfl rfl)
theorem dX9_joinBy_45 : decode cX9_joinBy 45 = .ok (.iload 9, 2) := dk_21 9 (dk_at dksX9_joinBy_1 21 rfl rfl)
theorem dX9_joinBy_47 : decode cX9_joinBy 47 = .ok (.iconst 1, 1) := dk_4 (dk_at dksX9_joinBy_1 23 rfl rfl)
theorem dX9_joinBy_48 : decode cX9_joinBy 48 = .ok (.invokevirtual 241, 3) := dk_182 0 241 (dk_at dksX9_joinBy_2 0 rfl rfl)
theorem dX9_joinBy_51 : decode cX9_joinBy 51 = .ok (.invokestatic 194, 3) := dk_184 0 194 (dk_at dksX9_joinBy_2 3 rfl rfl)
theorem dX9_joinBy_54 : decode cX9_joinBy 54 = .ok (.aload_n 0, 1) := dk_42 (dk_at dksX9_joinBy_2 6 rfl rfl)
theorem dX9_joinBy_55 : decode cX9_joinBy 55 = .ok (.iload_n 1, 1) := dk_27 (dk_at dksX9_joinBy_2 7 rfl rfl)
theorem dX9_joinBy_56 : decode cX9_joinBy 56 = .ok (.iload_n 2, 1) := dk_28 (dk_at dksX9_joinBy_2 8 rfl rfl)
theorem dX9_joinBy_57 : decode cX9_joinBy 57 = .ok (.iload 8, 2) := dk_21 8 (dk_at dksX9_joinBy_2 9 rfl rfl)
theorem dX9_joinBy_59 : decode cX9_joinBy 59 = .ok (.iconst 0, 1) := dk_3 (dk_at dksX9_joinBy_2 11 rfl rfl)
theorem dX9_joinBy_60 : decode cX9_joinBy 60 = .ok (.invokevirtual 241, 3) := dk_182 0 241 (dk_at dksX9_joinBy_2 12 rfl rfl)
theorem dX9_joinBy_63 : decode cX9_joinBy 63 = .ok (.aload_n 0, 1) := dk_42 (dk_at dksX9_joinBy_2 15 rfl rfl)
theorem dX9_joinBy_64 : decode cX9_joinBy 64 = .ok (.iload_n 3, 1) := dk_29 (dk_at dksX9_joinBy_2 16 rfl rfl)
theorem dX9_joinBy_65 : decode cX9_joinBy 65 = .ok (.iload 4, 2) := dk_21 4 (dk_at dksX9_joinBy_2 17 rfl rfl)
theorem dX9_joinBy_67 : decode cX9_joinBy 67 = .ok (.iload 9, 2) := dk_21 9 (dk_at dksX9_joinBy_2 19 rfl rfl)
theorem dX9_joinBy_69 : decode cX9_joinBy 69 = .ok (.iconst 0, 1) := dk_3 (dk_at dksX9_joinBy_2 21 rfl rfl)
theorem dX9_joinBy_70 : decode cX9_joinBy 70 = .ok (.invokevirtual 241, 3) := dk_182 0 241 (dk_at dksX9_joinBy_3 0 rfl rfl)
theorem dX9_joinBy_73 : decode cX9_joinBy 73 = .ok (.invokestatic 202, 3) := dk_184 0 202 (dk_at dksX9_joinBy_3 3 rfl rfl)
theorem dX9_joinBy_76 : decode cX9_joinBy 76 = .ok (.isub, 1) := dk_100 (dk_at dksX9_joinBy_3 6 rfl rfl)
theorem dX9_joinBy_77 : decode cX9_joinBy 77 = .ok (.iconst 1, 1) := dk_4 (dk_at dksX9_joinBy_3 7 rfl rfl)
theorem dX9_joinBy_78 : decode cX9_joinBy 78 = .ok (.iadd, 1) := dk_96 (dk_at dksX9_joinBy_3 8 rfl rfl)
theorem dX9_joinBy_79 : decode cX9_joinBy 79 = .ok (.i2l, 1) := dk_133 (dk_at dksX9_joinBy_3 9 rfl rfl)
theorem dX9_joinBy_80 : decode cX9_joinBy 80 = .ok (.lstore 10, 2) := dk_55 10 (dk_at dksX9_joinBy_3 10 rfl rfl)
theorem dX9_joinBy_82 : decode cX9_joinBy 82 = .ok (.lload 10, 2) := dk_22 10 (dk_at dksX9_joinBy_3 12 rfl rfl)
theorem dX9_joinBy_84 : decode cX9_joinBy 84 = .ok (.lconst 0, 1) := dk_9 (dk_at dksX9_joinBy_3 14 rfl rfl)
theorem dX9_joinBy_85 : decode cX9_joinBy 85 = .ok (.lcmp, 1) := dk_148 (dk_at dksX9_joinBy_3 15 rfl rfl)
theorem dX9_joinBy_86 : decode cX9_joinBy 86 = .ok (.ifCond .le 150, 3) := dk_158 0 150 (dk_at dksX9_joinBy_3 16 rfl rfl)
theorem dX9_joinBy_89 : decode cX9_joinBy 89 = .ok (.aload_n 0, 1) := dk_42 (dk_at dksX9_joinBy_3 19 rfl rfl)
theorem dX9_joinBy_90 : decode cX9_joinBy 90 = .ok (.iload_n 1, 1) := dk_27 (dk_at dksX9_joinBy_3 20 rfl rfl)
theorem dX9_joinBy_91 : decode cX9_joinBy 91 = .ok (.iload_n 2, 1) := dk_28 (dk_at dksX9_joinBy_3 21 rfl rfl)
theorem dX9_joinBy_92 : decode cX9_joinBy 92 = .ok (.iload 8, 2) := dk_21 8 (dk_at dksX9_joinBy_3 22 rfl rfl)
theorem dX9_joinBy_94 : decode cX9_joinBy 94 = .ok (.iconst 2, 1) := dk_5 (dk_at dksX9_joinBy_4 0 rfl rfl)
theorem dX9_joinBy_95 : decode cX9_joinBy 95 = .ok (.invokevirtual 241, 3) := dk_182 0 241 (dk_at dksX9_joinBy_4 1 rfl rfl)
theorem dX9_joinBy_98 : decode cX9_joinBy 98 = .ok (.i2l, 1) := dk_133 (dk_at dksX9_joinBy_4 4 rfl rfl)
theorem dX9_joinBy_99 : decode cX9_joinBy 99 = .ok (.lstore 12, 2) := dk_55 12 (dk_at dksX9_joinBy_4 5 rfl rfl)
theorem dX9_joinBy_101 : decode cX9_joinBy 101 = .ok (.aload_n 0, 1) := dk_42 (dk_at dksX9_joinBy_4 7 rfl rfl)
theorem dX9_joinBy_102 : decode cX9_joinBy 102 = .ok (.iload_n 3, 1) := dk_29 (dk_at dksX9_joinBy_4 8 rfl rfl)
theorem dX9_joinBy_103 : decode cX9_joinBy 103 = .ok (.iload 4, 2) := dk_21 4 (dk_at dksX9_joinBy_4 9 rfl rfl)
theorem dX9_joinBy_105 : decode cX9_joinBy 105 = .ok (.iload 9, 2) := dk_21 9 (dk_at dksX9_joinBy_4 11 rfl rfl)
theorem dX9_joinBy_107 : decode cX9_joinBy 107 = .ok (.iconst 2, 1) := dk_5 (dk_at dksX9_joinBy_4 13 rfl rfl)
theorem dX9_joinBy_108 : decode cX9_joinBy 108 = .ok (.invokevirtual 241, 3) := dk_182 0 241 (dk_at dksX9_joinBy_4 14 rfl rfl)
theorem dX9_joinBy_111 : decode cX9_joinBy 111 = .ok (.i2l, 1) := dk_133 (dk_at dksX9_joinBy_4 17 rfl rfl)
theorem dX9_joinBy_112 : decode cX9_joinBy 112 = .ok (.lstore 14, 2) := dk_55 14 (dk_at dksX9_joinBy_4 18 rfl rfl)
theorem dX9_joinBy_114 : decode cX9_joinBy 114 = .ok (.aload_n 0, 1) := dk_42 (dk_at dksX9_joinBy_4 20 rfl rfl)
theorem dX9_joinBy_115 : decode cX9_joinBy 115 = .ok (.iload_n 1, 1) := dk_27 (dk_at dksX9_joinBy_4 21 rfl rfl)
theorem dX9_joinBy_116 : decode cX9_joinBy 116 = .ok (.iload_n 2, 1) := dk_28 (dk_at dksX9_joinBy_4 22 rfl rfl)
theorem dX9_joinBy_117 : decode cX9_joinBy 117 = .ok (.iload 8, 2) := dk_21 8 (dk_at dksX9_joinBy_5 0 rfl rfl)
theorem dX9_joinBy_119 : decode cX9_joinBy 119 = .ok (.iconst 3, 1) := dk_6 (dk_at dksX9_joinBy_5 2 rfl rfl)
theorem dX9_joinBy_120 : decode cX9_joinBy 120 = .ok (.invokevirtual 241, 3) := dk_182 0 241 (dk_at dksX9_joinBy_5 3 rfl rfl)
theorem dX9_joinBy_123 : decode cX9_joinBy 123 = .ok (.i2l, 1) := dk_133 (dk_at dksX9_joinBy_5 6 rfl rfl)
theorem dX9_joinBy_124 : decode cX9_joinBy 124 = .ok (.lstore 16, 2) := dk_55 16 (dk_at dksX9_joinBy_5 7 rfl rfl)
theorem dX9_joinBy_126 : decode cX9_joinBy 126 = .ok (.aload_n 0, 1) := dk_42 (dk_at dksX9_joinBy_5 9 rfl rfl)
theorem dX9_joinBy_127 : decode cX9_joinBy 127 = .ok (.iload_n 3, 1) := dk_29 (dk_at dksX9_joinBy_5 10 rfl rfl)
theorem dX9_joinBy_128 : decode cX9_joinBy 128 = .ok (.iload 4, 2) := dk_21 4 (dk_at dksX9_joinBy_5 11 rfl rfl)
theorem dX9_joinBy_130 : decode cX9_joinBy 130 = .ok (.iload 9, 2) := dk_21 9 (dk_at dksX9_joinBy_5 13 rfl rfl)
theorem dX9_joinBy_132 : decode cX9_joinBy 132 = .ok (.iconst 3, 1) := dk_6 (dk_at dksX9_joinBy_5 15 rfl rfl)
theorem dX9_joinBy_133 : decode cX9_joinBy 133 = .ok (.invokevirtual 241, 3) := dk_182 0 241 (dk_at dksX9_joinBy_5 16 rfl rfl)
theorem dX9_joinBy_136 : decode cX9_joinBy 136 = .ok (.i2l, 1) := dk_133 (dk_at dksX9_joinBy_5 19 rfl rfl)
theorem dX9_joinBy_137 : decode cX9_joinBy 137 = .ok (.lstore 18, 2) := dk_55 18 (dk_at dksX9_joinBy_5 20 rfl rfl)
theorem dX9_joinBy_139 : decode cX9_joinBy 139 = .ok (.aload_n 0, 1) := dk_42 (dk_at dksX9_joinBy_5 22 rfl rfl)
theorem dX9_joinBy_140 : decode cX9_joinBy 140 = .ok (.iload_n 1, 1) := dk_27 (dk_at dksX9_joinBy_5 23 rfl rfl)
theorem dX9_joinBy_141 : decode cX9_joinBy 141 = .ok (.iload_n 2, 1) := dk_28 (dk_at dksX9_joinBy_6 0 rfl rfl)
theorem dX9_joinBy_142 : decode cX9_joinBy 142 = .ok (.iload 8, 2) := dk_21 8 (dk_at dksX9_joinBy_6 1 rfl rfl)
theorem dX9_joinBy_144 : decode cX9_joinBy 144 = .ok (.iconst 1, 1) := dk_4 (dk_at dksX9_joinBy_6 3 rfl rfl)
theorem dX9_joinBy_145 : decode cX9_joinBy 145 = .ok (.invokevirtual 241, 3) := dk_182 0 241 (dk_at dksX9_joinBy_6 4 rfl rfl)
theorem dX9_joinBy_148 : decode cX9_joinBy 148 = .ok (.aload_n 0, 1) := dk_42 (dk_at dksX9_joinBy_6 7 rfl rfl)
theorem dX9_joinBy_149 : decode cX9_joinBy 149 = .ok (.iload_n 1, 1) := dk_27 (dk_at dksX9_joinBy_6 8 rfl rfl)
theorem dX9_joinBy_150 : decode cX9_joinBy 150 = .ok (.iload_n 2, 1) := dk_28 (dk_at dksX9_joinBy_6 9 rfl rfl)
theorem dX9_joinBy_151 : decode cX9_joinBy 151 = .ok (.iload 8, 2) := dk_21 8 (dk_at dksX9_joinBy_6 10 rfl rfl)
theorem dX9_joinBy_153 : decode cX9_joinBy 153 = .ok (.iconst 0, 1) := dk_3 (dk_at dksX9_joinBy_6 12 rfl rfl)
theorem dX9_joinBy_154 : decode cX9_joinBy 154 = .ok (.invokevirtual 241, 3) := dk_182 0 241 (dk_at dksX9_joinBy_6 13 rfl rfl)
theorem dX9_joinBy_157 : decode cX9_joinBy 157 = .ok (.isub, 1) := dk_100 (dk_at dksX9_joinBy_6 16 rfl rfl)
theorem dX9_joinBy_158 : decode cX9_joinBy 158 = .ok (.iconst 1, 1) := dk_4 (dk_at dksX9_joinBy_6 17 rfl rfl)
theorem dX9_joinBy_159 : decode cX9_joinBy 159 = .ok (.iadd, 1) := dk_96 (dk_at dksX9_joinBy_6 18 rfl rfl)
theorem dX9_joinBy_160 : decode cX9_joinBy 160 = .ok (.i2l, 1) := dk_133 (dk_at dksX9_joinBy_6 19 rfl rfl)
theorem dX9_joinBy_161 : decode cX9_joinBy 161 = .ok (.aload_n 0, 1) := dk_42 (dk_at dksX9_joinBy_6 20 rfl rfl)
theorem dX9_joinBy_162 : decode cX9_joinBy 162 = .ok (.iload_n 3, 1) := dk_29 (dk_at dksX9_joinBy_6 21 rfl rfl)
theorem dX9_joinBy_163 : decode cX9_joinBy 163 = .ok (.iload 4, 2) := dk_21 4 (dk_at dksX9_joinBy_6 22 rfl rfl)
theorem dX9_joinBy_165 : decode cX9_joinBy 165 = .ok (.iload 9, 2) := dk_21 9 (dk_at dksX9_joinBy_7 0 rfl rfl)
theorem dX9_joinBy_167 : decode cX9_joinBy 167 = .ok (.iconst 1, 1) := dk_4 (dk_at dksX9_joinBy_7 2 rfl rfl)
theorem dX9_joinBy_168 : decode cX9_joinBy 168 = .ok (.invokevirtual 241, 3) := dk_182 0 241 (dk_at dksX9_joinBy_7 3 rfl rfl)
theorem dX9_joinBy_171 : decode cX9_joinBy 171 = .ok (.aload_n 0, 1) := dk_42 (dk_at dksX9_joinBy_7 6 rfl rfl)
theorem dX9_joinBy_172 : decode cX9_joinBy 172 = .ok (.iload_n 3, 1) := dk_29 (dk_at dksX9_joinBy_7 7 rfl rfl)
theorem dX9_joinBy_173 : decode cX9_joinBy 173 = .ok (.iload 4, 2) := dk_21 4 (dk_at dksX9_joinBy_7 8 rfl rfl)
theorem dX9_joinBy_175 : decode cX9_joinBy 175 = .ok (.iload 9, 2) := dk_21 9 (dk_at dksX9_joinBy_7 10 rfl rfl)
theorem dX9_joinBy_177 : decode cX9_joinBy 177 = .ok (.iconst 0, 1) := dk_3 (dk_at dksX9_joinBy_7 12 rfl rfl)
theorem dX9_joinBy_178 : decode cX9_joinBy 178 = .ok (.invokevirtual 241, 3) := dk_182 0 241 (dk_at dksX9_joinBy_7 13 rfl rfl)
theorem dX9_joinBy_181 : decode cX9_joinBy 181 = .ok (.isub, 1) := dk_100 (dk_at dksX9_joinBy_7 16 rfl rfl)
theorem dX9_joinBy_182 : decode cX9_joinBy 182 = .ok (.iconst 1, 1) := dk_4 (dk_at dksX9_joinBy_7 17 rfl rfl)
theorem dX9_joinBy_183 : decode cX9_joinBy 183 = .ok (.iadd, 1) := dk_96 (dk_at dksX9_joinBy_7 18 rfl rfl)
theorem dX9_joinBy_184 : decode cX9_joinBy 184 = .ok (.i2l, 1) := dk_133 (dk_at dksX9_joinBy_7 19 rfl rfl)
theorem dX9_joinBy_185 : decode cX9_joinBy 185 = .ok (.lmul, 1) := dk_105 (dk_at dksX9_joinBy_7 20 rfl rfl)
theorem dX9_joinBy_186 : decode cX9_joinBy 186 = .ok (.lstore 20, 2) := dk_55 20 (dk_at dksX9_joinBy_7 21 rfl rfl)
theorem dX9_joinBy_188 : decode cX9_joinBy 188 = .ok (.lload 6, 2) := dk_22 6 (dk_at dksX9_joinBy_8 0 rfl rfl)
theorem dX9_joinBy_190 : decode cX9_joinBy 190 = .ok (.iload 5, 2) := dk_21 5 (dk_at dksX9_joinBy_8 2 rfl rfl)
theorem dX9_joinBy_192 : decode cX9_joinBy 192 = .ok (.ifCond .eq 30, 3) := dk_153 0 30 (dk_at dksX9_joinBy_8 4 rfl rfl)
theorem dX9_joinBy_195 : decode cX9_joinBy 195 = .ok (.lload 10, 2) := dk_22 10 (dk_at dksX9_joinBy_8 7 rfl rfl)
theorem dX9_joinBy_197 : decode cX9_joinBy 197 = .ok (.lload 16, 2) := dk_22 16 (dk_at dksX9_joinBy_8 9 rfl rfl)
theorem dX9_joinBy_199 : decode cX9_joinBy 199 = .ok (.lmul, 1) := dk_105 (dk_at dksX9_joinBy_8 11 rfl rfl)
theorem dX9_joinBy_200 : decode cX9_joinBy 200 = .ok (.lload 18, 2) := dk_22 18 (dk_at dksX9_joinBy_8 12 rfl rfl)
theorem dX9_joinBy_202 : decode cX9_joinBy 202 = .ok (.lmul, 1) := dk_105 (dk_at dksX9_joinBy_8 14 rfl rfl)
theorem dX9_joinBy_203 : decode cX9_joinBy 203 = .ok (.lload 12, 2) := dk_22 12 (dk_at dksX9_joinBy_8 15 rfl rfl)
theorem dX9_joinBy_205 : decode cX9_joinBy 205 = .ok (.lload 18, 2) := dk_22 18 (dk_at dksX9_joinBy_8 17 rfl rfl)
theorem dX9_joinBy_207 : decode cX9_joinBy 207 = .ok (.lmul, 1) := dk_105 (dk_at dksX9_joinBy_8 19 rfl rfl)
theorem dX9_joinBy_208 : decode cX9_joinBy 208 = .ok (.lload 14, 2) := dk_22 14 (dk_at dksX9_joinBy_8 20 rfl rfl)
theorem dX9_joinBy_210 : decode cX9_joinBy 210 = .ok (.lload 16, 2) := dk_22 16 (dk_at dksX9_joinBy_8 22 rfl rfl)
theorem dX9_joinBy_212 : decode cX9_joinBy 212 = .ok (.lmul, 1) := dk_105 (dk_at dksX9_joinBy_9 0 rfl rfl)
theorem dX9_joinBy_213 : decode cX9_joinBy 213 = .ok (.invokestatic 181, 3) := dk_184 0 181 (dk_at dksX9_joinBy_9 1 rfl rfl)
theorem dX9_joinBy_216 : decode cX9_joinBy 216 = .ok (.invokestatic 181, 3) := dk_184 0 181 (dk_at dksX9_joinBy_9 4 rfl rfl)
theorem dX9_joinBy_219 : decode cX9_joinBy 219 = .ok (.goto 14, 3) := dk_167 0 14 (dk_at dksX9_joinBy_9 7 rfl rfl)
theorem dX9_joinBy_222 : decode cX9_joinBy 222 = .ok (.lload 10, 2) := dk_22 10 (dk_at dksX9_joinBy_9 10 rfl rfl)
theorem dX9_joinBy_224 : decode cX9_joinBy 224 = .ok (.lload 12, 2) := dk_22 12 (dk_at dksX9_joinBy_9 12 rfl rfl)
theorem dX9_joinBy_226 : decode cX9_joinBy 226 = .ok (.lmul, 1) := dk_105 (dk_at dksX9_joinBy_9 14 rfl rfl)
theorem dX9_joinBy_227 : decode cX9_joinBy 227 = .ok (.lload 14, 2) := dk_22 14 (dk_at dksX9_joinBy_9 15 rfl rfl)
theorem dX9_joinBy_229 : decode cX9_joinBy 229 = .ok (.lmul, 1) := dk_105 (dk_at dksX9_joinBy_9 17 rfl rfl)
theorem dX9_joinBy_230 : decode cX9_joinBy 230 = .ok (.lload 20, 2) := dk_22 20 (dk_at dksX9_joinBy_9 18 rfl rfl)
theorem dX9_joinBy_232 : decode cX9_joinBy 232 = .ok (.ldiv, 1) := dk_109 (dk_at dksX9_joinBy_9 20 rfl rfl)
theorem dX9_joinBy_233 : decode cX9_joinBy 233 = .ok (.ladd, 1) := dk_97 (dk_at dksX9_joinBy_9 21 rfl rfl)
theorem dX9_joinBy_234 : decode cX9_joinBy 234 = .ok (.lstore 6, 2) := dk_55 6 (dk_at dksX9_joinBy_9 22 rfl rfl)
theorem dX9_joinBy_236 : decode cX9_joinBy 236 = .ok (.iinc 9 1, 3) := dk_132 9 1 (dk_at dksX9_joinBy_10 0 rfl rfl)
theorem dX9_joinBy_239 : decode cX9_joinBy 239 = .ok (.goto (-219), 3) := dk_167 255 37 (dk_at dksX9_joinBy_10 3 rfl rfl)
theorem dX9_joinBy_242 : decode cX9_joinBy 242 = .ok (.iinc 8 1, 3) := dk_132 8 1 (dk_at dksX9_joinBy_10 6 rfl rfl)
theorem dX9_joinBy_245 : decode cX9_joinBy 245 = .ok (.goto (-239), 3) := dk_167 255 17 (dk_at dksX9_joinBy_10 9 rfl rfl)
theorem dX9_joinBy_248 : decode cX9_joinBy 248 = .ok (.lload 6, 2) := dk_22 6 (dk_at dksX9_joinBy_10 12 rfl rfl)
theorem dX9_joinBy_250 : decode cX9_joinBy 250 = .ok (.lreturn, 1) := dk_173 (dk_at dksX9_joinBy_10 14 rfl rfl)
abbrev cX9_joinTruth : ByteArray := prog_28_method_95_code
def yX9_joinTruth : MethodName := ⟨RX9, "joinTruth", "(IIII)J"⟩
def dkwX9_joinTruth_3 : List UInt8 := [22, 5, 173]
abbrev dktX9_joinTruth_3 : List UInt8 := dkwX9_joinTruth_3 ++ []
def dkwX9_joinTruth_2 : List UInt8 := [21, 8, 133, 42, 29, 21, 4, 21, 7, 182, 1, 119, 133, 105, 97, 55, 5, 132, 7, 1, 167, 255, 197]
abbrev dktX9_joinTruth_2 : List UInt8 := dkwX9_joinTruth_2 ++ dktX9_joinTruth_3
def dkwX9_joinTruth_1 : List UInt8 := [182, 0, 167, 54, 8, 21, 8, 158, 0, 33, 42, 182, 1, 91, 153, 0, 7, 20, 0, 156, 173, 22, 5]
abbrev dktX9_joinTruth_1 : List UInt8 := dkwX9_joinTruth_1 ++ dktX9_joinTruth_2
def dkwX9_joinTruth_0 : List UInt8 := [9, 55, 5, 3, 54, 7, 21, 7, 42, 180, 0, 25, 27, 46, 162, 0, 54, 42, 27, 28, 21, 7]
abbrev dktX9_joinTruth_0 : List UInt8 := dkwX9_joinTruth_0 ++ dktX9_joinTruth_1
theorem dksX9_joinTruth_0 : cX9_joinTruth.data.toList.drop 0 = dktX9_joinTruth_0 := by decide +kernel
theorem dksX9_joinTruth_1 : cX9_joinTruth.data.toList.drop 22 = dktX9_joinTruth_1 := dk_seg dksX9_joinTruth_0 22 rfl rfl
theorem dksX9_joinTruth_2 : cX9_joinTruth.data.toList.drop 45 = dktX9_joinTruth_2 := dk_seg dksX9_joinTruth_1 23 rfl rfl
theorem dksX9_joinTruth_3 : cX9_joinTruth.data.toList.drop 68 = dktX9_joinTruth_3 := dk_seg dksX9_joinTruth_2 23 rfl rfl
theorem dX9_joinTruth_0 : decode cX9_joinTruth 0 = .ok (.lconst 0, 1) := dk_9 (dk_at dksX9_joinTruth_0 0 rfl rfl)
theorem dX9_joinTruth_1 : decode cX9_joinTruth 1 = .ok (.lstore 5, 2) := dk_55 5 (dk_at dksX9_joinTruth_0 1 rfl rfl)
theorem dX9_joinTruth_3 : decode cX9_joinTruth 3 = .ok (.iconst 0, 1) := dk_3 (dk_at dksX9_joinTruth_0 3 rfl rfl)
theorem dX9_joinTruth_4 : decode cX9_joinTruth 4 = .ok (.istore 7, 2) := dk_54 7 (dk_at dksX9_joinTruth_0 4 rfl rfl)
theorem dX9_joinTruth_6 : decode cX9_joinTruth 6 = .ok (.iload 7, 2) := dk_21 7 (dk_at dksX9_joinTruth_0 6 rfl rfl)
theorem dX9_joinTruth_8 : decode cX9_joinTruth 8 = .ok (.aload_n 0, 1) := dk_42 (dk_at dksX9_joinTruth_0 8 rfl rfl)
theorem dX9_joinTruth_9 : decode cX9_joinTruth 9 = .ok (.getfield 25, 3) := dk_180 0 25 (dk_at dksX9_joinTruth_0 9 rfl rfl)
theorem dX9_joinTruth_12 : decode cX9_joinTruth 12 = .ok (.iload_n 1, 1) := dk_27 (dk_at dksX9_joinTruth_0 12 rfl rfl)
theorem dX9_joinTruth_13 : decode cX9_joinTruth 13 = .ok (.iaload, 1) := dk_46 (dk_at dksX9_joinTruth_0 13 rfl rfl)
theorem dX9_joinTruth_14 : decode cX9_joinTruth 14 = .ok (.if_icmp .ge 54, 3) := dk_162 0 54 (dk_at dksX9_joinTruth_0 14 rfl rfl)
theorem dX9_joinTruth_17 : decode cX9_joinTruth 17 = .ok (.aload_n 0, 1) := dk_42 (dk_at dksX9_joinTruth_0 17 rfl rfl)
theorem dX9_joinTruth_18 : decode cX9_joinTruth 18 = .ok (.iload_n 1, 1) := dk_27 (dk_at dksX9_joinTruth_0 18 rfl rfl)
theorem dX9_joinTruth_19 : decode cX9_joinTruth 19 = .ok (.iload_n 2, 1) := dk_28 (dk_at dksX9_joinTruth_0 19 rfl rfl)
theorem dX9_joinTruth_20 : decode cX9_joinTruth 20 = .ok (.iload 7, 2) := dk_21 7 (dk_at dksX9_joinTruth_0 20 rfl rfl)
theorem dX9_joinTruth_22 : decode cX9_joinTruth 22 = .ok (.invokevirtual 167, 3) := dk_182 0 167 (dk_at dksX9_joinTruth_1 0 rfl rfl)
theorem dX9_joinTruth_25 : decode cX9_joinTruth 25 = .ok (.istore 8, 2) := dk_54 8 (dk_at dksX9_joinTruth_1 3 rfl rfl)
theorem dX9_joinTruth_27 : decode cX9_joinTruth 27 = .ok (.iload 8, 2) := dk_21 8 (dk_at dksX9_joinTruth_1 5 rfl rfl)
theorem dX9_joinTruth_29 : decode cX9_joinTruth 29 = .ok (.ifCond .le 33, 3) := dk_158 0 33 (dk_at dksX9_joinTruth_1 7 rfl rfl)
theorem dX9_joinTruth_32 : decode cX9_joinTruth 32 = .ok (.aload_n 0, 1) := dk_42 (dk_at dksX9_joinTruth_1 10 rfl rfl)
theorem dX9_joinTruth_33 : decode cX9_joinTruth 33 = .ok (.invokevirtual 347, 3) := dk_182 1 91 (dk_at dksX9_joinTruth_1 11 rfl rfl)
theorem dX9_joinTruth_36 : decode cX9_joinTruth 36 = .ok (.ifCond .eq 7, 3) := dk_153 0 7 (dk_at dksX9_joinTruth_1 14 rfl rfl)
theorem dX9_joinTruth_39 : decode cX9_joinTruth 39 = .ok (.ldc2_w 156, 3) := dk_20 0 156 (dk_at dksX9_joinTruth_1 17 rfl rfl)
theorem dX9_joinTruth_42 : decode cX9_joinTruth 42 = .ok (.lreturn, 1) := dk_173 (dk_at dksX9_joinTruth_1 20 rfl rfl)
theorem dX9_joinTruth_43 : decode cX9_joinTruth 43 = .ok (.lload 5, 2) := dk_22 5 (dk_at dksX9_joinTruth_1 21 rfl rfl)
theorem dX9_joinTruth_45 : decode cX9_joinTruth 45 = .ok (.iload 8, 2) := dk_21 8 (dk_at dksX9_joinTruth_2 0 rfl rfl)
theorem dX9_joinTruth_47 : decode cX9_joinTruth 47 = .ok (.i2l, 1) := dk_133 (dk_at dksX9_joinTruth_2 2 rfl rfl)
theorem dX9_joinTruth_48 : decode cX9_joinTruth 48 = .ok (.aload_n 0, 1) := dk_42 (dk_at dksX9_joinTruth_2 3 rfl rfl)
theorem dX9_joinTruth_49 : decode cX9_joinTruth 49 = .ok (.iload_n 3, 1) := dk_29 (dk_at dksX9_joinTruth_2 4 rfl rfl)
theorem dX9_joinTruth_50 : decode cX9_joinTruth 50 = .ok (.iload 4, 2) := dk_21 4 (dk_at dksX9_joinTruth_2 5 rfl rfl)
theorem dX9_joinTruth_52 : decode cX9_joinTruth 52 = .ok (.iload 7, 2) := dk_21 7 (dk_at dksX9_joinTruth_2 7 rfl rfl)
theorem dX9_joinTruth_54 : decode cX9_joinTruth 54 = .ok (.invokevirtual 375, 3) := dk_182 1 119 (dk_at dksX9_joinTruth_2 9 rfl rfl)
theorem dX9_joinTruth_57 : decode cX9_joinTruth 57 = .ok (.i2l, 1) := dk_133 (dk_at dksX9_joinTruth_2 12 rfl rfl)
theorem dX9_joinTruth_58 : decode cX9_joinTruth 58 = .ok (.lmul, 1) := dk_105 (dk_at dksX9_joinTruth_2 13 rfl rfl)
theorem dX9_joinTruth_59 : decode cX9_joinTruth 59 = .ok (.ladd, 1) := dk_97 (dk_at dksX9_joinTruth_2 14 rfl rfl)
theorem dX9_joinTruth_60 : decode cX9_joinTruth 60 = .ok (.lstore 5, 2) := dk_55 5 (dk_at dksX9_joinTruth_2 15 rfl rfl)
theorem dX9_joinTruth_62 : decode cX9_joinTruth 62 = .ok (.iinc 7 1, 3) := dk_132 7 1 (dk_at dksX9_joinTruth_2 17 rfl rfl)
theorem dX9_joinTruth_65 : decode cX9_joinTruth 65 = .ok (.goto (-59), 3) := dk_167 255 197 (dk_at dksX9_joinTruth_2 20 rfl rfl)
theorem dX9_joinTruth_68 : decode cX9_joinTruth 68 = .ok (.lload 5, 2) := dk_22 5 (dk_at dksX9_joinTruth_3 0 rfl rfl)
theorem dX9_joinTruth_70 : decode cX9_joinTruth 70 = .ok (.lreturn, 1) := dk_173 (dk_at dksX9_joinTruth_3 2 rfl rfl)
abbrev cX9_chain : ByteArray := prog_28_method_102_code
def yX9_chain : MethodName := ⟨RX9, "chain", "(I)J"⟩
def dkwX9_chain_3 : List UInt8 := [42, 4, 182, 1, 76, 42, 5, 182, 1, 76, 42, 42, 182, 1, 140, 182, 1, 115, 173]
abbrev dktX9_chain_3 : List UInt8 := dkwX9_chain_3 ++ []
def dkwX9_chain_2 : List UInt8 := [4, 182, 1, 130, 42, 3, 4, 182, 1, 137, 105, 184, 0, 181, 173, 42, 182, 1, 109, 42, 3, 182, 1, 76]
abbrev dktX9_chain_2 : List UInt8 := dkwX9_chain_2 ++ dktX9_chain_3
def dkwX9_chain_1 : List UInt8 := [160, 0, 39, 42, 3, 4, 4, 3, 4, 182, 1, 130, 42, 5, 3, 182, 1, 137, 105, 42, 4, 4, 5, 3]
abbrev dktX9_chain_1 : List UInt8 := dkwX9_chain_1 ++ dktX9_chain_2
def dkwX9_chain_0 : List UInt8 := [42, 180, 0, 150, 6, 161, 0, 13, 27, 133, 9, 10, 184, 0, 77, 154, 0, 7, 20, 0, 156, 173, 27, 4]
abbrev dktX9_chain_0 : List UInt8 := dkwX9_chain_0 ++ dktX9_chain_1
theorem dksX9_chain_0 : cX9_chain.data.toList.drop 0 = dktX9_chain_0 := by decide +kernel
theorem dksX9_chain_1 : cX9_chain.data.toList.drop 24 = dktX9_chain_1 := dk_seg dksX9_chain_0 24 rfl rfl
theorem dksX9_chain_2 : cX9_chain.data.toList.drop 48 = dktX9_chain_2 := dk_seg dksX9_chain_1 24 rfl rfl
theorem dksX9_chain_3 : cX9_chain.data.toList.drop 72 = dktX9_chain_3 := dk_seg dksX9_chain_2 24 rfl rfl
theorem dX9_chain_0 : decode cX9_chain 0 = .ok (.aload_n 0, 1) := dk_42 (dk_at dksX9_chain_0 0 rfl rfl)
theorem dX9_chain_1 : decode cX9_chain 1 = .ok (.getfield 150, 3) := dk_180 0 150 (dk_at dksX9_chain_0 1 rfl rfl)
theorem dX9_chain_4 : decode cX9_chain 4 = .ok (.iconst 3, 1) := dk_6 (dk_at dksX9_chain_0 4 rfl rfl)
theorem dX9_chain_5 : decode cX9_chain 5 = .ok (.if_icmp .lt 13, 3) := dk_161 0 13 (dk_at dksX9_chain_0 5 rfl rfl)
theorem dX9_chain_8 : decode cX9_chain 8 = .ok (.iload_n 1, 1) := dk_27 (dk_at dksX9_chain_0 8 rfl rfl)
theorem dX9_chain_9 : decode cX9_chain 9 = .ok (.i2l, 1) := dk_133 (dk_at dksX9_chain_0 9 rfl rfl)
theorem dX9_chain_10 : decode cX9_chain 10 = .ok (.lconst 0, 1) := dk_9 (dk_at dksX9_chain_0 10 rfl rfl)
theorem dX9_chain_11 : decode cX9_chain 11 = .ok (.lconst 1, 1) := dk_10 (dk_at dksX9_chain_0 11 rfl rfl)
theorem dX9_chain_12 : decode cX9_chain 12 = .ok (.invokestatic 77, 3) := dk_184 0 77 (dk_at dksX9_chain_0 12 rfl rfl)
theorem dX9_chain_15 : decode cX9_chain 15 = .ok (.ifCond .ne 7, 3) := dk_154 0 7 (dk_at dksX9_chain_0 15 rfl rfl)
theorem dX9_chain_18 : decode cX9_chain 18 = .ok (.ldc2_w 156, 3) := dk_20 0 156 (dk_at dksX9_chain_0 18 rfl rfl)
theorem dX9_chain_21 : decode cX9_chain 21 = .ok (.lreturn, 1) := dk_173 (dk_at dksX9_chain_0 21 rfl rfl)
theorem dX9_chain_22 : decode cX9_chain 22 = .ok (.iload_n 1, 1) := dk_27 (dk_at dksX9_chain_0 22 rfl rfl)
theorem dX9_chain_23 : decode cX9_chain 23 = .ok (.iconst 1, 1) := dk_4 (dk_at dksX9_chain_0 23 rfl rfl)
theorem dX9_chain_24 : decode cX9_chain 24 = .ok (.if_icmp .ne 39, 3) := dk_160 0 39 (dk_at dksX9_chain_1 0 rfl rfl)
theorem dX9_chain_27 : decode cX9_chain 27 = .ok (.aload_n 0, 1) := dk_42 (dk_at dksX9_chain_1 3 rfl rfl)
theorem dX9_chain_28 : decode cX9_chain 28 = .ok (.iconst 0, 1) := dk_3 (dk_at dksX9_chain_1 4 rfl rfl)
theorem dX9_chain_29 : decode cX9_chain 29 = .ok (.iconst 1, 1) := dk_4 (dk_at dksX9_chain_1 5 rfl rfl)
theorem dX9_chain_30 : decode cX9_chain 30 = .ok (.iconst 1, 1) := dk_4 (dk_at dksX9_chain_1 6 rfl rfl)
theorem dX9_chain_31 : decode cX9_chain 31 = .ok (.iconst 0, 1) := dk_3 (dk_at dksX9_chain_1 7 rfl rfl)
theorem dX9_chain_32 : decode cX9_chain 32 = .ok (.iconst 1, 1) := dk_4 (dk_at dksX9_chain_1 8 rfl rfl)
theorem dX9_chain_33 : decode cX9_chain 33 = .ok (.invokevirtual 386, 3) := dk_182 1 130 (dk_at dksX9_chain_1 9 rfl rfl)
theorem dX9_chain_36 : decode cX9_chain 36 = .ok (.aload_n 0, 1) := dk_42 (dk_at dksX9_chain_1 12 rfl rfl)
theorem dX9_chain_37 : decode cX9_chain 37 = .ok (.iconst 2, 1) := dk_5 (dk_at dksX9_chain_1 13 rfl rfl)
theorem dX9_chain_38 : decode cX9_chain 38 = .ok (.iconst 0, 1) := dk_3 (dk_at dksX9_chain_1 14 rfl rfl)
theorem dX9_chain_39 : decode cX9_chain 39 = .ok (.invokevirtual 393, 3) := dk_182 1 137 (dk_at dksX9_chain_1 15 rfl rfl)
theorem dX9_chain_42 : decode cX9_chain 42 = .ok (.lmul, 1) := dk_105 (dk_at dksX9_chain_1 18 rfl rfl)
theorem dX9_chain_43 : decode cX9_chain 43 = .ok (.aload_n 0, 1) := dk_42 (dk_at dksX9_chain_1 19 rfl rfl)
theorem dX9_chain_44 : decode cX9_chain 44 = .ok (.iconst 1, 1) := dk_4 (dk_at dksX9_chain_1 20 rfl rfl)
theorem dX9_chain_45 : decode cX9_chain 45 = .ok (.iconst 1, 1) := dk_4 (dk_at dksX9_chain_1 21 rfl rfl)
theorem dX9_chain_46 : decode cX9_chain 46 = .ok (.iconst 2, 1) := dk_5 (dk_at dksX9_chain_1 22 rfl rfl)
theorem dX9_chain_47 : decode cX9_chain 47 = .ok (.iconst 0, 1) := dk_3 (dk_at dksX9_chain_1 23 rfl rfl)
theorem dX9_chain_48 : decode cX9_chain 48 = .ok (.iconst 1, 1) := dk_4 (dk_at dksX9_chain_2 0 rfl rfl)
theorem dX9_chain_49 : decode cX9_chain 49 = .ok (.invokevirtual 386, 3) := dk_182 1 130 (dk_at dksX9_chain_2 1 rfl rfl)
theorem dX9_chain_52 : decode cX9_chain 52 = .ok (.aload_n 0, 1) := dk_42 (dk_at dksX9_chain_2 4 rfl rfl)
theorem dX9_chain_53 : decode cX9_chain 53 = .ok (.iconst 0, 1) := dk_3 (dk_at dksX9_chain_2 5 rfl rfl)
theorem dX9_chain_54 : decode cX9_chain 54 = .ok (.iconst 1, 1) := dk_4 (dk_at dksX9_chain_2 6 rfl rfl)
theorem dX9_chain_55 : decode cX9_chain 55 = .ok (.invokevirtual 393, 3) := dk_182 1 137 (dk_at dksX9_chain_2 7 rfl rfl)
theorem dX9_chain_58 : decode cX9_chain 58 = .ok (.lmul, 1) := dk_105 (dk_at dksX9_chain_2 10 rfl rfl)
theorem dX9_chain_59 : decode cX9_chain 59 = .ok (.invokestatic 181, 3) := dk_184 0 181 (dk_at dksX9_chain_2 11 rfl rfl)
theorem dX9_chain_62 : decode cX9_chain 62 = .ok (.lreturn, 1) := dk_173 (dk_at dksX9_chain_2 14 rfl rfl)
theorem dX9_chain_63 : decode cX9_chain 63 = .ok (.aload_n 0, 1) := dk_42 (dk_at dksX9_chain_2 15 rfl rfl)
theorem dX9_chain_64 : decode cX9_chain 64 = .ok (.invokevirtual 365, 3) := dk_182 1 109 (dk_at dksX9_chain_2 16 rfl rfl)
theorem dX9_chain_67 : decode cX9_chain 67 = .ok (.aload_n 0, 1) := dk_42 (dk_at dksX9_chain_2 19 rfl rfl)
theorem dX9_chain_68 : decode cX9_chain 68 = .ok (.iconst 0, 1) := dk_3 (dk_at dksX9_chain_2 20 rfl rfl)
theorem dX9_chain_69 : decode cX9_chain 69 = .ok (.invokevirtual 332, 3) := dk_182 1 76 (dk_at dksX9_chain_2 21 rfl rfl)
theorem dX9_chain_72 : decode cX9_chain 72 = .ok (.aload_n 0, 1) := dk_42 (dk_at dksX9_chain_3 0 rfl rfl)
theorem dX9_chain_73 : decode cX9_chain 73 = .ok (.iconst 1, 1) := dk_4 (dk_at dksX9_chain_3 1 rfl rfl)
theorem dX9_chain_74 : decode cX9_chain 74 = .ok (.invokevirtual 332, 3) := dk_182 1 76 (dk_at dksX9_chain_3 2 rfl rfl)
theorem dX9_chain_77 : decode cX9_chain 77 = .ok (.aload_n 0, 1) := dk_42 (dk_at dksX9_chain_3 5 rfl rfl)
theorem dX9_chain_78 : decode cX9_chain 78 = .ok (.iconst 2, 1) := dk_5 (dk_at dksX9_chain_3 6 rfl rfl)
theorem dX9_chain_79 : decode cX9_chain 79 = .ok (.invokevirtual 332, 3) := dk_182 1 76 (dk_at dksX9_chain_3 7 rfl rfl)
theorem dX9_chain_82 : decode cX9_chain 82 = .ok (.aload_n 0, 1) := dk_42 (dk_at dksX9_chain_3 10 rfl rfl)
theorem dX9_chain_83 : decode cX9_chain 83 = .ok (.aload_n 0, 1) := dk_42 (dk_at dksX9_chain_3 11 rfl rfl)
theorem dX9_chain_84 : decode cX9_chain 84 = .ok (.invokevirtual 396, 3) := dk_182 1 140 (dk_at dksX9_chain_3 12 rfl rfl)
theorem dX9_chain_87 : decode cX9_chain 87 = .ok (.invokevirtual 371, 3) := dk_182 1 115 (dk_at dksX9_chain_3 15 rfl rfl)
theorem dX9_chain_90 : decode cX9_chain 90 = .ok (.lreturn, 1) := dk_173 (dk_at dksX9_chain_3 18 rfl rfl)
abbrev cX9_greatestOf : ByteArray := prog_28_method_101_code
def yX9_greatestOf : MethodName := ⟨RX9, "greatestOf", "(II)J"⟩
def dkwX9_greatestOf_1 : List UInt8 := [182, 0, 241, 184, 0, 202, 62, 132, 4, 1, 167, 255, 228, 29, 133, 173]
abbrev dktX9_greatestOf_1 : List UInt8 := dkwX9_greatestOf_1 ++ []
def dkwX9_greatestOf_0 : List UInt8 := [3, 62, 3, 54, 4, 21, 4, 42, 27, 28, 182, 0, 238, 162, 0, 23, 29, 42, 27, 28, 21, 4, 6]
abbrev dktX9_greatestOf_0 : List UInt8 := dkwX9_greatestOf_0 ++ dktX9_greatestOf_1
theorem dksX9_greatestOf_0 : cX9_greatestOf.data.toList.drop 0 = dktX9_greatestOf_0 := by decide +kernel
theorem dksX9_greatestOf_1 : cX9_greatestOf.data.toList.drop 23 = dktX9_greatestOf_1 := dk_seg dksX9_greatestOf_0 23 rfl rfl
theorem dX9_greatestOf_0 : decode cX9_greatestOf 0 = .ok (.iconst 0, 1) := dk_3 (dk_at dksX9_greatestOf_0 0 rfl rfl)
theorem dX9_greatestOf_1 : decode cX9_greatestOf 1 = .ok (.istore_n 3, 1) := dk_62 (dk_at dksX9_greatestOf_0 1 rfl rfl)
theorem dX9_greatestOf_2 : decode cX9_greatestOf 2 = .ok (.iconst 0, 1) := dk_3 (dk_at dksX9_greatestOf_0 2 rfl rfl)
theorem dX9_greatestOf_3 : decode cX9_greatestOf 3 = .ok (.istore 4, 2) := dk_54 4 (dk_at dksX9_greatestOf_0 3 rfl rfl)
theorem dX9_greatestOf_5 : decode cX9_greatestOf 5 = .ok (.iload 4, 2) := dk_21 4 (dk_at dksX9_greatestOf_0 5 rfl rfl)
theorem dX9_greatestOf_7 : decode cX9_greatestOf 7 = .ok (.aload_n 0, 1) := dk_42 (dk_at dksX9_greatestOf_0 7 rfl rfl)
theorem dX9_greatestOf_8 : decode cX9_greatestOf 8 = .ok (.iload_n 1, 1) := dk_27 (dk_at dksX9_greatestOf_0 8 rfl rfl)
theorem dX9_greatestOf_9 : decode cX9_greatestOf 9 = .ok (.iload_n 2, 1) := dk_28 (dk_at dksX9_greatestOf_0 9 rfl rfl)
theorem dX9_greatestOf_10 : decode cX9_greatestOf 10 = .ok (.invokevirtual 238, 3) := dk_182 0 238 (dk_at dksX9_greatestOf_0 10 rfl rfl)
theorem dX9_greatestOf_13 : decode cX9_greatestOf 13 = .ok (.if_icmp .ge 23, 3) := dk_162 0 23 (dk_at dksX9_greatestOf_0 13 rfl rfl)
theorem dX9_greatestOf_16 : decode cX9_greatestOf 16 = .ok (.iload_n 3, 1) := dk_29 (dk_at dksX9_greatestOf_0 16 rfl rfl)
theorem dX9_greatestOf_17 : decode cX9_greatestOf 17 = .ok (.aload_n 0, 1) := dk_42 (dk_at dksX9_greatestOf_0 17 rfl rfl)
theorem dX9_greatestOf_18 : decode cX9_greatestOf 18 = .ok (.iload_n 1, 1) := dk_27 (dk_at dksX9_greatestOf_0 18 rfl rfl)
theorem dX9_greatestOf_19 : decode cX9_greatestOf 19 = .ok (.iload_n 2, 1) := dk_28 (dk_at dksX9_greatestOf_0 19 rfl rfl)
theorem dX9_greatestOf_20 : decode cX9_greatestOf 20 = .ok (.iload 4, 2) := dk_21 4 (dk_at dksX9_greatestOf_0 20 rfl rfl)
theorem dX9_greatestOf_22 : decode cX9_greatestOf 22 = .ok (.iconst 3, 1) := dk_6 (dk_at dksX9_greatestOf_0 22 rfl rfl)
theorem dX9_greatestOf_23 : decode cX9_greatestOf 23 = .ok (.invokevirtual 241, 3) := dk_182 0 241 (dk_at dksX9_greatestOf_1 0 rfl rfl)
theorem dX9_greatestOf_26 : decode cX9_greatestOf 26 = .ok (.invokestatic 202, 3) := dk_184 0 202 (dk_at dksX9_greatestOf_1 3 rfl rfl)
theorem dX9_greatestOf_29 : decode cX9_greatestOf 29 = .ok (.istore_n 3, 1) := dk_62 (dk_at dksX9_greatestOf_1 6 rfl rfl)
theorem dX9_greatestOf_30 : decode cX9_greatestOf 30 = .ok (.iinc 4 1, 3) := dk_132 4 1 (dk_at dksX9_greatestOf_1 7 rfl rfl)
theorem dX9_greatestOf_33 : decode cX9_greatestOf 33 = .ok (.goto (-28), 3) := dk_167 255 228 (dk_at dksX9_greatestOf_1 10 rfl rfl)
theorem dX9_greatestOf_36 : decode cX9_greatestOf 36 = .ok (.iload_n 3, 1) := dk_29 (dk_at dksX9_greatestOf_1 13 rfl rfl)
theorem dX9_greatestOf_37 : decode cX9_greatestOf 37 = .ok (.i2l, 1) := dk_133 (dk_at dksX9_greatestOf_1 14 rfl rfl)
theorem dX9_greatestOf_38 : decode cX9_greatestOf 38 = .ok (.lreturn, 1) := dk_173 (dk_at dksX9_greatestOf_1 15 rfl rfl)
abbrev cX9_chainTruth : ByteArray := prog_28_method_100_code
def yX9_chainTruth : MethodName := ⟨RX9, "chainTruth", "()J"⟩
def dkwX9_chainTruth_4 : List UInt8 := [173]
abbrev dktX9_chainTruth_4 : List UInt8 := dkwX9_chainTruth_4 ++ []
def dkwX9_chainTruth_3 : List UInt8 := [5, 3, 21, 4, 182, 1, 119, 133, 105, 97, 64, 132, 4, 1, 167, 255, 187, 132, 3, 1, 167, 255, 168, 31]
abbrev dktX9_chainTruth_3 : List UInt8 := dkwX9_chainTruth_3 ++ dktX9_chainTruth_4
def dkwX9_chainTruth_2 : List UInt8 := [182, 1, 91, 153, 0, 7, 20, 0, 156, 173, 31, 21, 5, 133, 42, 3, 4, 29, 182, 1, 119, 133, 105, 42]
abbrev dktX9_chainTruth_2 : List UInt8 := dkwX9_chainTruth_2 ++ dktX9_chainTruth_3
def dkwX9_chainTruth_1 : List UInt8 := [46, 162, 0, 64, 42, 180, 0, 34, 4, 29, 21, 4, 184, 0, 158, 46, 54, 5, 21, 5, 158, 0, 39, 42]
abbrev dktX9_chainTruth_1 : List UInt8 := dkwX9_chainTruth_1 ++ dktX9_chainTruth_2
def dkwX9_chainTruth_0 : List UInt8 := [9, 64, 3, 62, 29, 42, 180, 0, 25, 4, 46, 162, 0, 84, 3, 54, 4, 21, 4, 42, 180, 0, 25, 4]
abbrev dktX9_chainTruth_0 : List UInt8 := dkwX9_chainTruth_0 ++ dktX9_chainTruth_1
theorem dksX9_chainTruth_0 : cX9_chainTruth.data.toList.drop 0 = dktX9_chainTruth_0 := by decide +kernel
theorem dksX9_chainTruth_1 : cX9_chainTruth.data.toList.drop 24 = dktX9_chainTruth_1 := dk_seg dksX9_chainTruth_0 24 rfl rfl
theorem dksX9_chainTruth_2 : cX9_chainTruth.data.toList.drop 48 = dktX9_chainTruth_2 := dk_seg dksX9_chainTruth_1 24 rfl rfl
theorem dksX9_chainTruth_3 : cX9_chainTruth.data.toList.drop 72 = dktX9_chainTruth_3 := dk_seg dksX9_chainTruth_2 24 rfl rfl
theorem dksX9_chainTruth_4 : cX9_chainTruth.data.toList.drop 96 = dktX9_chainTruth_4 := dk_seg dksX9_chainTruth_3 24 rfl rfl
theorem dX9_chainTruth_0 : decode cX9_chainTruth 0 = .ok (.lconst 0, 1) := dk_9 (dk_at dksX9_chainTruth_0 0 rfl rfl)
theorem dX9_chainTruth_1 : decode cX9_chainTruth 1 = .ok (.lstore_n 1, 1) := dk_64 (dk_at dksX9_chainTruth_0 1 rfl rfl)
theorem dX9_chainTruth_2 : decode cX9_chainTruth 2 = .ok (.iconst 0, 1) := dk_3 (dk_at dksX9_chainTruth_0 2 rfl rfl)
theorem dX9_chainTruth_3 : decode cX9_chainTruth 3 = .ok (.istore_n 3, 1) := dk_62 (dk_at dksX9_chainTruth_0 3 rfl rfl)
theorem dX9_chainTruth_4 : decode cX9_chainTruth 4 = .ok (.iload_n 3, 1) := dk_29 (dk_at dksX9_chainTruth_0 4 rfl rfl)
theorem dX9_chainTruth_5 : decode cX9_chainTruth 5 = .ok (.aload_n 0, 1) := dk_42 (dk_at dksX9_chainTruth_0 5 rfl rfl)
theorem dX9_chainTruth_6 : decode cX9_chainTruth 6 = .ok (.getfield 25, 3) := dk_180 0 25 (dk_at dksX9_chainTruth_0 6 rfl rfl)
theorem dX9_chainTruth_9 : decode cX9_chainTruth 9 = .ok (.iconst 1, 1) := dk_4 (dk_at dksX9_chainTruth_0 9 rfl rfl)
theorem dX9_chainTruth_10 : decode cX9_chainTruth 10 = .ok (.iaload, 1) := dk_46 (dk_at dksX9_chainTruth_0 10 rfl rfl)
theorem dX9_chainTruth_11 : decode cX9_chainTruth 11 = .ok (.if_icmp .ge 84, 3) := dk_162 0 84 (dk_at dksX9_chainTruth_0 11 rfl rfl)
theorem dX9_chainTruth_14 : decode cX9_chainTruth 14 = .ok (.iconst 0, 1) := dk_3 (dk_at dksX9_chainTruth_0 14 rfl rfl)
theorem dX9_chainTruth_15 : decode cX9_chainTruth 15 = .ok (.istore 4, 2) := dk_54 4 (dk_at dksX9_chainTruth_0 15 rfl rfl)
theorem dX9_chainTruth_17 : decode cX9_chainTruth 17 = .ok (.iload 4, 2) := dk_21 4 (dk_at dksX9_chainTruth_0 17 rfl rfl)
theorem dX9_chainTruth_19 : decode cX9_chainTruth 19 = .ok (.aload_n 0, 1) := dk_42 (dk_at dksX9_chainTruth_0 19 rfl rfl)
theorem dX9_chainTruth_20 : decode cX9_chainTruth 20 = .ok (.getfield 25, 3) := dk_180 0 25 (dk_at dksX9_chainTruth_0 20 rfl rfl)
theorem dX9_chainTruth_23 : decode cX9_chainTruth 23 = .ok (.iconst 1, 1) := dk_4 (dk_at dksX9_chainTruth_0 23 rfl rfl)
theorem dX9_chainTruth_24 : decode cX9_chainTruth 24 = .ok (.iaload, 1) := dk_46 (dk_at dksX9_chainTruth_1 0 rfl rfl)
theorem dX9_chainTruth_25 : decode cX9_chainTruth 25 = .ok (.if_icmp .ge 64, 3) := dk_162 0 64 (dk_at dksX9_chainTruth_1 1 rfl rfl)
theorem dX9_chainTruth_28 : decode cX9_chainTruth 28 = .ok (.aload_n 0, 1) := dk_42 (dk_at dksX9_chainTruth_1 4 rfl rfl)
theorem dX9_chainTruth_29 : decode cX9_chainTruth 29 = .ok (.getfield 34, 3) := dk_180 0 34 (dk_at dksX9_chainTruth_1 5 rfl rfl)
theorem dX9_chainTruth_32 : decode cX9_chainTruth 32 = .ok (.iconst 1, 1) := dk_4 (dk_at dksX9_chainTruth_1 8 rfl rfl)
theorem dX9_chainTruth_33 : decode cX9_chainTruth 33 = .ok (.iload_n 3, 1) := dk_29 (dk_at dksX9_chainTruth_1 9 rfl rfl)
theorem dX9_chainTruth_34 : decode cX9_chainTruth 34 = .ok (.iload 4, 2) := dk_21 4 (dk_at dksX9_chainTruth_1 10 rfl rfl)
theorem dX9_chainTruth_36 : decode cX9_chainTruth 36 = .ok (.invokestatic 158, 3) := dk_184 0 158 (dk_at dksX9_chainTruth_1 12 rfl rfl)
theorem dX9_chainTruth_39 : decode cX9_chainTruth 39 = .ok (.iaload, 1) := dk_46 (dk_at dksX9_chainTruth_1 15 rfl rfl)
theorem dX9_chainTruth_40 : decode cX9_chainTruth 40 = .ok (.istore 5, 2) := dk_54 5 (dk_at dksX9_chainTruth_1 16 rfl rfl)
theorem dX9_chainTruth_42 : decode cX9_chainTruth 42 = .ok (.iload 5, 2) := dk_21 5 (dk_at dksX9_chainTruth_1 18 rfl rfl)
theorem dX9_chainTruth_44 : decode cX9_chainTruth 44 = .ok (.ifCond .le 39, 3) := dk_158 0 39 (dk_at dksX9_chainTruth_1 20 rfl rfl)
theorem dX9_chainTruth_47 : decode cX9_chainTruth 47 = .ok (.aload_n 0, 1) := dk_42 (dk_at dksX9_chainTruth_1 23 rfl rfl)
theorem dX9_chainTruth_48 : decode cX9_chainTruth 48 = .ok (.invokevirtual 347, 3) := dk_182 1 91 (dk_at dksX9_chainTruth_2 0 rfl rfl)
theorem dX9_chainTruth_51 : decode cX9_chainTruth 51 = .ok (.ifCond .eq 7, 3) := dk_153 0 7 (dk_at dksX9_chainTruth_2 3 rfl rfl)
theorem dX9_chainTruth_54 : decode cX9_chainTruth 54 = .ok (.ldc2_w 156, 3) := dk_20 0 156 (dk_at dksX9_chainTruth_2 6 rfl rfl)
theorem dX9_chainTruth_57 : decode cX9_chainTruth 57 = .ok (.lreturn, 1) := dk_173 (dk_at dksX9_chainTruth_2 9 rfl rfl)
theorem dX9_chainTruth_58 : decode cX9_chainTruth 58 = .ok (.lload_n 1, 1) := dk_31 (dk_at dksX9_chainTruth_2 10 rfl rfl)
theorem dX9_chainTruth_59 : decode cX9_chainTruth 59 = .ok (.iload 5, 2) := dk_21 5 (dk_at dksX9_chainTruth_2 11 rfl rfl)
theorem dX9_chainTruth_61 : decode cX9_chainTruth 61 = .ok (.i2l, 1) := dk_133 (dk_at dksX9_chainTruth_2 13 rfl rfl)
theorem dX9_chainTruth_62 : decode cX9_chainTruth 62 = .ok (.aload_n 0, 1) := dk_42 (dk_at dksX9_chainTruth_2 14 rfl rfl)
theorem dX9_chainTruth_63 : decode cX9_chainTruth 63 = .ok (.iconst 0, 1) := dk_3 (dk_at dksX9_chainTruth_2 15 rfl rfl)
theorem dX9_chainTruth_64 : decode cX9_chainTruth 64 = .ok (.iconst 1, 1) := dk_4 (dk_at dksX9_chainTruth_2 16 rfl rfl)
theorem dX9_chainTruth_65 : decode cX9_chainTruth 65 = .ok (.iload_n 3, 1) := dk_29 (dk_at dksX9_chainTruth_2 17 rfl rfl)
theorem dX9_chainTruth_66 : decode cX9_chainTruth 66 = .ok (.invokevirtual 375, 3) := dk_182 1 119 (dk_at dksX9_chainTruth_2 18 rfl rfl)
theorem dX9_chainTruth_69 : decode cX9_chainTruth 69 = .ok (.i2l, 1) := dk_133 (dk_at dksX9_chainTruth_2 21 rfl rfl)
theorem dX9_chainTruth_70 : decode cX9_chainTruth 70 = .ok (.lmul, 1) := dk_105 (dk_at dksX9_chainTruth_2 22 rfl rfl)
theorem dX9_chainTruth_71 : decode cX9_chainTruth 71 = .ok (.aload_n 0, 1) := dk_42 (dk_at dksX9_chainTruth_2 23 rfl rfl)
theorem dX9_chainTruth_72 : decode cX9_chainTruth 72 = .ok (.iconst 2, 1) := dk_5 (dk_at dksX9_chainTruth_3 0 rfl rfl)
theorem dX9_chainTruth_73 : decode cX9_chainTruth 73 = .ok (.iconst 0, 1) := dk_3 (dk_at dksX9_chainTruth_3 1 rfl rfl)
theorem dX9_chainTruth_74 : decode cX9_chainTruth 74 = .ok (.iload 4, 2) := dk_21 4 (dk_at dksX9_chainTruth_3 2 rfl rfl)
theorem dX9_chainTruth_76 : decode cX9_chainTruth 76 = .ok (.invokevirtual 375, 3) := dk_182 1 119 (dk_at dksX9_chainTruth_3 4 rfl rfl)
theorem dX9_chainTruth_79 : decode cX9_chainTruth 79 = .ok (.i2l, 1) := dk_133 (dk_at dksX9_chainTruth_3 7 rfl rfl)
theorem dX9_chainTruth_80 : decode cX9_chainTruth 80 = .ok (.lmul, 1) := dk_105 (dk_at dksX9_chainTruth_3 8 rfl rfl)
theorem dX9_chainTruth_81 : decode cX9_chainTruth 81 = .ok (.ladd, 1) := dk_97 (dk_at dksX9_chainTruth_3 9 rfl rfl)
theorem dX9_chainTruth_82 : decode cX9_chainTruth 82 = .ok (.lstore_n 1, 1) := dk_64 (dk_at dksX9_chainTruth_3 10 rfl rfl)
theorem dX9_chainTruth_83 : decode cX9_chainTruth 83 = .ok (.iinc 4 1, 3) := dk_132 4 1 (dk_at dksX9_chainTruth_3 11 rfl rfl)
theorem dX9_chainTruth_86 : decode cX9_chainTruth 86 = .ok (.goto (-69), 3) := dk_167 255 187 (dk_at dksX9_chainTruth_3 14 rfl rfl)
theorem dX9_chainTruth_89 : decode cX9_chainTruth 89 = .ok (.iinc 3 1, 3) := dk_132 3 1 (dk_at dksX9_chainTruth_3 17 rfl rfl)
theorem dX9_chainTruth_92 : decode cX9_chainTruth 92 = .ok (.goto (-88), 3) := dk_167 255 168 (dk_at dksX9_chainTruth_3 20 rfl rfl)
theorem dX9_chainTruth_95 : decode cX9_chainTruth 95 = .ok (.lload_n 1, 1) := dk_31 (dk_at dksX9_chainTruth_3 23 rfl rfl)
theorem dX9_chainTruth_96 : decode cX9_chainTruth 96 = .ok (.lreturn, 1) := dk_173 (dk_at dksX9_chainTruth_4 0 rfl rfl)
abbrev cX9_narrow : ByteArray := prog_28_method_104_code
def yX9_narrow : MethodName := ⟨RX9, "narrow", "(III)I"⟩
def dkwX9_narrow_4 : List UInt8 := [154, 0, 8, 21, 5, 167, 0, 8, 21, 4, 21, 6, 100, 172]
abbrev dktX9_narrow_4 : List UInt8 := dkwX9_narrow_4 ++ []
def dkwX9_narrow_3 : List UInt8 := [54, 8, 21, 8, 21, 6, 162, 0, 11, 21, 7, 54, 5, 21, 8, 54, 6, 132, 7, 1, 167, 255, 222, 29]
abbrev dktX9_narrow_3 : List UInt8 := dkwX9_narrow_3 ++ dktX9_narrow_4
def dkwX9_narrow_2 : List UInt8 := [54, 5, 21, 4, 54, 6, 3, 54, 7, 21, 7, 5, 162, 0, 34, 42, 27, 28, 21, 7, 182, 1, 144]
abbrev dktX9_narrow_2 : List UInt8 := dkwX9_narrow_2 ++ dktX9_narrow_3
def dkwX9_narrow_1 : List UInt8 := [154, 0, 6, 18, 245, 172, 42, 27, 28, 5, 182, 1, 106, 42, 27, 28, 4, 182, 1, 106, 100, 54, 4, 2]
abbrev dktX9_narrow_1 : List UInt8 := dkwX9_narrow_1 ++ dktX9_narrow_2
def dkwX9_narrow_0 : List UInt8 := [42, 27, 182, 0, 153, 153, 0, 21, 42, 28, 182, 1, 103, 153, 0, 13, 29, 133, 9, 10, 184, 0, 77]
abbrev dktX9_narrow_0 : List UInt8 := dkwX9_narrow_0 ++ dktX9_narrow_1
theorem dksX9_narrow_0 : cX9_narrow.data.toList.drop 0 = dktX9_narrow_0 := by decide +kernel
theorem dksX9_narrow_1 : cX9_narrow.data.toList.drop 23 = dktX9_narrow_1 := dk_seg dksX9_narrow_0 23 rfl rfl
theorem dksX9_narrow_2 : cX9_narrow.data.toList.drop 47 = dktX9_narrow_2 := dk_seg dksX9_narrow_1 24 rfl rfl
theorem dksX9_narrow_3 : cX9_narrow.data.toList.drop 70 = dktX9_narrow_3 := dk_seg dksX9_narrow_2 23 rfl rfl
theorem dksX9_narrow_4 : cX9_narrow.data.toList.drop 94 = dktX9_narrow_4 := dk_seg dksX9_narrow_3 24 rfl rfl
theorem dX9_narrow_0 : decode cX9_narrow 0 = .ok (.aload_n 0, 1) := dk_42 (dk_at dksX9_narrow_0 0 rfl rfl)
theorem dX9_narrow_1 : decode cX9_narrow 1 = .ok (.iload_n 1, 1) := dk_27 (dk_at dksX9_narrow_0 1 rfl rfl)
theorem dX9_narrow_2 : decode cX9_narrow 2 = .ok (.invokevirtual 153, 3) := dk_182 0 153 (dk_at dksX9_narrow_0 2 rfl rfl)
theorem dX9_narrow_5 : decode cX9_narrow 5 = .ok (.ifCond .eq 21, 3) := dk_153 0 21 (dk_at dksX9_narrow_0 5 rfl rfl)
theorem dX9_narrow_8 : decode cX9_narrow 8 = .ok (.aload_n 0, 1) := dk_42 (dk_at dksX9_narrow_0 8 rfl rfl)
theorem dX9_narrow_9 : decode cX9_narrow 9 = .ok (.iload_n 2, 1) := dk_28 (dk_at dksX9_narrow_0 9 rfl rfl)
theorem dX9_narrow_10 : decode cX9_narrow 10 = .ok (.invokevirtual 359, 3) := dk_182 1 103 (dk_at dksX9_narrow_0 10 rfl rfl)
theorem dX9_narrow_13 : decode cX9_narrow 13 = .ok (.ifCond .eq 13, 3) := dk_153 0 13 (dk_at dksX9_narrow_0 13 rfl rfl)
theorem dX9_narrow_16 : decode cX9_narrow 16 = .ok (.iload_n 3, 1) := dk_29 (dk_at dksX9_narrow_0 16 rfl rfl)
theorem dX9_narrow_17 : decode cX9_narrow 17 = .ok (.i2l, 1) := dk_133 (dk_at dksX9_narrow_0 17 rfl rfl)
theorem dX9_narrow_18 : decode cX9_narrow 18 = .ok (.lconst 0, 1) := dk_9 (dk_at dksX9_narrow_0 18 rfl rfl)
theorem dX9_narrow_19 : decode cX9_narrow 19 = .ok (.lconst 1, 1) := dk_10 (dk_at dksX9_narrow_0 19 rfl rfl)
theorem dX9_narrow_20 : decode cX9_narrow 20 = .ok (.invokestatic 77, 3) := dk_184 0 77 (dk_at dksX9_narrow_0 20 rfl rfl)
theorem dX9_narrow_23 : decode cX9_narrow 23 = .ok (.ifCond .ne 6, 3) := dk_154 0 6 (dk_at dksX9_narrow_1 0 rfl rfl)
theorem dX9_narrow_26 : decode cX9_narrow 26 = .ok (.ldc 245, 2) := dk_18 245 (dk_at dksX9_narrow_1 3 rfl rfl)
theorem dX9_narrow_28 : decode cX9_narrow 28 = .ok (.ireturn, 1) := dk_172 (dk_at dksX9_narrow_1 5 rfl rfl)
theorem dX9_narrow_29 : decode cX9_narrow 29 = .ok (.aload_n 0, 1) := dk_42 (dk_at dksX9_narrow_1 6 rfl rfl)
theorem dX9_narrow_30 : decode cX9_narrow 30 = .ok (.iload_n 1, 1) := dk_27 (dk_at dksX9_narrow_1 7 rfl rfl)
theorem dX9_narrow_31 : decode cX9_narrow 31 = .ok (.iload_n 2, 1) := dk_28 (dk_at dksX9_narrow_1 8 rfl rfl)
theorem dX9_narrow_32 : decode cX9_narrow 32 = .ok (.iconst 2, 1) := dk_5 (dk_at dksX9_narrow_1 9 rfl rfl)
theorem dX9_narrow_33 : decode cX9_narrow 33 = .ok (.invokevirtual 362, 3) := dk_182 1 106 (dk_at dksX9_narrow_1 10 rfl rfl)
theorem dX9_narrow_36 : decode cX9_narrow 36 = .ok (.aload_n 0, 1) := dk_42 (dk_at dksX9_narrow_1 13 rfl rfl)
theorem dX9_narrow_37 : decode cX9_narrow 37 = .ok (.iload_n 1, 1) := dk_27 (dk_at dksX9_narrow_1 14 rfl rfl)
theorem dX9_narrow_38 : decode cX9_narrow 38 = .ok (.iload_n 2, 1) := dk_28 (dk_at dksX9_narrow_1 15 rfl rfl)
theorem dX9_narrow_39 : decode cX9_narrow 39 = .ok (.iconst 1, 1) := dk_4 (dk_at dksX9_narrow_1 16 rfl rfl)
theorem dX9_narrow_40 : decode cX9_narrow 40 = .ok (.invokevirtual 362, 3) := dk_182 1 106 (dk_at dksX9_narrow_1 17 rfl rfl)
theorem dX9_narrow_43 : decode cX9_narrow 43 = .ok (.isub, 1) := dk_100 (dk_at dksX9_narrow_1 20 rfl rfl)
theorem dX9_narrow_44 : decode cX9_narrow 44 = .ok (.istore 4, 2) := dk_54 4 (dk_at dksX9_narrow_1 21 rfl rfl)
theorem dX9_narrow_46 : decode cX9_narrow 46 = .ok (.iconst (-1), 1) := dk_2 (dk_at dksX9_narrow_1 23 rfl rfl)
theorem dX9_narrow_47 : decode cX9_narrow 47 = .ok (.istore 5, 2) := dk_54 5 (dk_at dksX9_narrow_2 0 rfl rfl)
theorem dX9_narrow_49 : decode cX9_narrow 49 = .ok (.iload 4, 2) := dk_21 4 (dk_at dksX9_narrow_2 2 rfl rfl)
theorem dX9_narrow_51 : decode cX9_narrow 51 = .ok (.istore 6, 2) := dk_54 6 (dk_at dksX9_narrow_2 4 rfl rfl)
theorem dX9_narrow_53 : decode cX9_narrow 53 = .ok (.iconst 0, 1) := dk_3 (dk_at dksX9_narrow_2 6 rfl rfl)
theorem dX9_narrow_54 : decode cX9_narrow 54 = .ok (.istore 7, 2) := dk_54 7 (dk_at dksX9_narrow_2 7 rfl rfl)
theorem dX9_narrow_56 : decode cX9_narrow 56 = .ok (.iload 7, 2) := dk_21 7 (dk_at dksX9_narrow_2 9 rfl rfl)
theorem dX9_narrow_58 : decode cX9_narrow 58 = .ok (.iconst 2, 1) := dk_5 (dk_at dksX9_narrow_2 11 rfl rfl)
theorem dX9_narrow_59 : decode cX9_narrow 59 = .ok (.if_icmp .ge 34, 3) := dk_162 0 34 (dk_at dksX9_narrow_2 12 rfl rfl)
theorem dX9_narrow_62 : decode cX9_narrow 62 = .ok (.aload_n 0, 1) := dk_42 (dk_at dksX9_narrow_2 15 rfl rfl)
theorem dX9_narrow_63 : decode cX9_narrow 63 = .ok (.iload_n 1, 1) := dk_27 (dk_at dksX9_narrow_2 16 rfl rfl)
theorem dX9_narrow_64 : decode cX9_narrow 64 = .ok (.iload_n 2, 1) := dk_28 (dk_at dksX9_narrow_2 17 rfl rfl)
theorem dX9_narrow_65 : decode cX9_narrow 65 = .ok (.iload 7, 2) := dk_21 7 (dk_at dksX9_narrow_2 18 rfl rfl)
theorem dX9_narrow_67 : decode cX9_narrow 67 = .ok (.invokevirtual 400, 3) := dk_182 1 144 (dk_at dksX9_narrow_2 20 rfl rfl)
theorem dX9_narrow_70 : decode cX9_narrow 70 = .ok (.istore 8, 2) := dk_54 8 (dk_at dksX9_narrow_3 0 rfl rfl)
theorem dX9_narrow_72 : decode cX9_narrow 72 = .ok (.iload 8, 2) := dk_21 8 (dk_at dksX9_narrow_3 2 rfl rfl)
theorem dX9_narrow_74 : decode cX9_narrow 74 = .ok (.iload 6, 2) := dk_21 6 (dk_at dksX9_narrow_3 4 rfl rfl)
theorem dX9_narrow_76 : decode cX9_narrow 76 = .ok (.if_icmp .ge 11, 3) := dk_162 0 11 (dk_at dksX9_narrow_3 6 rfl rfl)
theorem dX9_narrow_79 : decode cX9_narrow 79 = .ok (.iload 7, 2) := dk_21 7 (dk_at dksX9_narrow_3 9 rfl rfl)
theorem dX9_narrow_81 : decode cX9_narrow 81 = .ok (.istore 5, 2) := dk_54 5 (dk_at dksX9_narrow_3 11 rfl rfl)
theorem dX9_narrow_83 : decode cX9_narrow 83 = .ok (.iload 8, 2) := dk_21 8 (dk_at dksX9_narrow_3 13 rfl rfl)
theorem dX9_narrow_85 : decode cX9_narrow 85 = .ok (.istore 6, 2) := dk_54 6 (dk_at dksX9_narrow_3 15 rfl rfl)
theorem dX9_narrow_87 : decode cX9_narrow 87 = .ok (.iinc 7 1, 3) := dk_132 7 1 (dk_at dksX9_narrow_3 17 rfl rfl)
theorem dX9_narrow_90 : decode cX9_narrow 90 = .ok (.goto (-34), 3) := dk_167 255 222 (dk_at dksX9_narrow_3 20 rfl rfl)
theorem dX9_narrow_93 : decode cX9_narrow 93 = .ok (.iload_n 3, 1) := dk_29 (dk_at dksX9_narrow_3 23 rfl rfl)
theorem dX9_narrow_94 : decode cX9_narrow 94 = .ok (.ifCond .ne 8, 3) := dk_154 0 8 (dk_at dksX9_narrow_4 0 rfl rfl)
theorem dX9_narrow_97 : decode cX9_narrow 97 = .ok (.iload 5, 2) := dk_21 5 (dk_at dksX9_narrow_4 3 rfl rfl)
theorem dX9_narrow_99 : decode cX9_narrow 99 = .ok (.goto 8, 3) := dk_167 0 8 (dk_at dksX9_narrow_4 5 rfl rfl)
theorem dX9_narrow_102 : decode cX9_narrow 102 = .ok (.iload 4, 2) := dk_21 4 (dk_at dksX9_narrow_4 8 rfl rfl)
theorem dX9_narrow_104 : decode cX9_narrow 104 = .ok (.iload 6, 2) := dk_21 6 (dk_at dksX9_narrow_4 10 rfl rfl)
theorem dX9_narrow_106 : decode cX9_narrow 106 = .ok (.isub, 1) := dk_100 (dk_at dksX9_narrow_4 12 rfl rfl)
theorem dX9_narrow_107 : decode cX9_narrow 107 = .ok (.ireturn, 1) := dk_172 (dk_at dksX9_narrow_4 13 rfl rfl)
abbrev cX9_gapIfBuilt : ByteArray := prog_28_method_103_code
def yX9_gapIfBuilt : MethodName := ⟨RX9, "gapIfBuilt", "(III)I"⟩
def dkwX9_gapIfBuilt_3 : List UInt8 := [180, 0, 60, 21, 5, 46, 79, 132, 5, 1, 167, 255, 231, 21, 4, 172]
abbrev dktX9_gapIfBuilt_3 : List UInt8 := dkwX9_gapIfBuilt_3 ++ []
def dkwX9_gapIfBuilt_2 : List UInt8 := [182, 1, 106, 100, 54, 4, 3, 54, 5, 21, 5, 17, 4, 48, 162, 0, 23, 42, 180, 0, 34, 21, 5, 42]
abbrev dktX9_gapIfBuilt_2 : List UInt8 := dkwX9_gapIfBuilt_2 ++ dktX9_gapIfBuilt_3
def dkwX9_gapIfBuilt_1 : List UInt8 := [79, 132, 4, 1, 167, 255, 231, 42, 27, 29, 182, 0, 209, 42, 27, 28, 5, 182, 1, 106, 42, 27, 28, 4]
abbrev dktX9_gapIfBuilt_1 : List UInt8 := dkwX9_gapIfBuilt_1 ++ dktX9_gapIfBuilt_2
def dkwX9_gapIfBuilt_0 : List UInt8 := [3, 54, 4, 21, 4, 17, 4, 48, 162, 0, 23, 42, 180, 0, 60, 21, 4, 42, 180, 0, 34, 21, 4, 46]
abbrev dktX9_gapIfBuilt_0 : List UInt8 := dkwX9_gapIfBuilt_0 ++ dktX9_gapIfBuilt_1
theorem dksX9_gapIfBuilt_0 : cX9_gapIfBuilt.data.toList.drop 0 = dktX9_gapIfBuilt_0 := by decide +kernel
theorem dksX9_gapIfBuilt_1 : cX9_gapIfBuilt.data.toList.drop 24 = dktX9_gapIfBuilt_1 := dk_seg dksX9_gapIfBuilt_0 24 rfl rfl
theorem dksX9_gapIfBuilt_2 : cX9_gapIfBuilt.data.toList.drop 48 = dktX9_gapIfBuilt_2 := dk_seg dksX9_gapIfBuilt_1 24 rfl rfl
theorem dksX9_gapIfBuilt_3 : cX9_gapIfBuilt.data.toList.drop 72 = dktX9_gapIfBuilt_3 := dk_seg dksX9_gapIfBuilt_2 24 rfl rfl
theorem dX9_gapIfBuilt_0 : decode cX9_gapIfBuilt 0 = .ok (.iconst 0, 1) := dk_3 (dk_at dksX9_gapIfBuilt_0 0 rfl rfl)
theorem dX9_gapIfBuilt_1 : decode cX9_gapIfBuilt 1 = .ok (.istore 4, 2) := dk_54 4 (dk_at dksX9_gapIfBuilt_0 1 rfl rfl)
theorem dX9_gapIfBuilt_3 : decode cX9_gapIfBuilt 3 = .ok (.iload 4, 2) := dk_21 4 (dk_at dksX9_gapIfBuilt_0 3 rfl rfl)
theorem dX9_gapIfBuilt_5 : decode cX9_gapIfBuilt 5 = .ok (.sipush 1072, 3) := dk_17 4 48 (dk_at dksX9_gapIfBuilt_0 5 rfl rfl)
theorem dX9_gapIfBuilt_8 : decode cX9_gapIfBuilt 8 = .ok (.if_icmp .ge 23, 3) := dk_162 0 23 (dk_at dksX9_gapIfBuilt_0 8 rfl rfl)
theorem dX9_gapIfBuilt_11 : decode cX9_gapIfBuilt 11 = .ok (.aload_n 0, 1) := dk_42 (dk_at dksX9_gapIfBuilt_0 11 rfl rfl)
theorem dX9_gapIfBuilt_12 : decode cX9_gapIfBuilt 12 = .ok (.getfield 60, 3) := dk_180 0 60 (dk_at dksX9_gapIfBuilt_0 12 rfl rfl)
theorem dX9_gapIfBuilt_15 : decode cX9_gapIfBuilt 15 = .ok (.iload 4, 2) := dk_21 4 (dk_at dksX9_gapIfBuilt_0 15 rfl rfl)
theorem dX9_gapIfBuilt_17 : decode cX9_gapIfBuilt 17 = .ok (.aload_n 0, 1) := dk_42 (dk_at dksX9_gapIfBuilt_0 17 rfl rfl)
theorem dX9_gapIfBuilt_18 : decode cX9_gapIfBuilt 18 = .ok (.getfield 34, 3) := dk_180 0 34 (dk_at dksX9_gapIfBuilt_0 18 rfl rfl)
theorem dX9_gapIfBuilt_21 : decode cX9_gapIfBuilt 21 = .ok (.iload 4, 2) := dk_21 4 (dk_at dksX9_gapIfBuilt_0 21 rfl rfl)
theorem dX9_gapIfBuilt_23 : decode cX9_gapIfBuilt 23 = .ok (.iaload, 1) := dk_46 (dk_at dksX9_gapIfBuilt_0 23 rfl rfl)
theorem dX9_gapIfBuilt_24 : decode cX9_gapIfBuilt 24 = .ok (.iastore, 1) := dk_79 (dk_at dksX9_gapIfBuilt_1 0 rfl rfl)
theorem dX9_gapIfBuilt_25 : decode cX9_gapIfBuilt 25 = .ok (.iinc 4 1, 3) := dk_132 4 1 (dk_at dksX9_gapIfBuilt_1 1 rfl rfl)
theorem dX9_gapIfBuilt_28 : decode cX9_gapIfBuilt 28 = .ok (.goto (-25), 3) := dk_167 255 231 (dk_at dksX9_gapIfBuilt_1 4 rfl rfl)
theorem dX9_gapIfBuilt_31 : decode cX9_gapIfBuilt 31 = .ok (.aload_n 0, 1) := dk_42 (dk_at dksX9_gapIfBuilt_1 7 rfl rfl)
theorem dX9_gapIfBuilt_32 : decode cX9_gapIfBuilt 32 = .ok (.iload_n 1, 1) := dk_27 (dk_at dksX9_gapIfBuilt_1 8 rfl rfl)
theorem dX9_gapIfBuilt_33 : decode cX9_gapIfBuilt 33 = .ok (.iload_n 3, 1) := dk_29 (dk_at dksX9_gapIfBuilt_1 9 rfl rfl)
theorem dX9_gapIfBuilt_34 : decode cX9_gapIfBuilt 34 = .ok (.invokevirtual 209, 3) := dk_182 0 209 (dk_at dksX9_gapIfBuilt_1 10 rfl rfl)
theorem dX9_gapIfBuilt_37 : decode cX9_gapIfBuilt 37 = .ok (.aload_n 0, 1) := dk_42 (dk_at dksX9_gapIfBuilt_1 13 rfl rfl)
theorem dX9_gapIfBuilt_38 : decode cX9_gapIfBuilt 38 = .ok (.iload_n 1, 1) := dk_27 (dk_at dksX9_gapIfBuilt_1 14 rfl rfl)
theorem dX9_gapIfBuilt_39 : decode cX9_gapIfBuilt 39 = .ok (.iload_n 2, 1) := dk_28 (dk_at dksX9_gapIfBuilt_1 15 rfl rfl)
theorem dX9_gapIfBuilt_40 : decode cX9_gapIfBuilt 40 = .ok (.iconst 2, 1) := dk_5 (dk_at dksX9_gapIfBuilt_1 16 rfl rfl)
theorem dX9_gapIfBuilt_41 : decode cX9_gapIfBuilt 41 = .ok (.invokevirtual 362, 3) := dk_182 1 106 (dk_at dksX9_gapIfBuilt_1 17 rfl rfl)
theorem dX9_gapIfBuilt_44 : decode cX9_gapIfBuilt 44 = .ok (.aload_n 0, 1) := dk_42 (dk_at dksX9_gapIfBuilt_1 20 rfl rfl)
theorem dX9_gapIfBuilt_45 : decode cX9_gapIfBuilt 45 = .ok (.iload_n 1, 1) := dk_27 (dk_at dksX9_gapIfBuilt_1 21 rfl rfl)
theorem dX9_gapIfBuilt_46 : decode cX9_gapIfBuilt 46 = .ok (.iload_n 2, 1) := dk_28 (dk_at dksX9_gapIfBuilt_1 22 rfl rfl)
theorem dX9_gapIfBuilt_47 : decode cX9_gapIfBuilt 47 = .ok (.iconst 1, 1) := dk_4 (dk_at dksX9_gapIfBuilt_1 23 rfl rfl)
theorem dX9_gapIfBuilt_48 : decode cX9_gapIfBuilt 48 = .ok (.invokevirtual 362, 3) := dk_182 1 106 (dk_at dksX9_gapIfBuilt_2 0 rfl rfl)
theorem dX9_gapIfBuilt_51 : decode cX9_gapIfBuilt 51 = .ok (.isub, 1) := dk_100 (dk_at dksX9_gapIfBuilt_2 3 rfl rfl)
theorem dX9_gapIfBuilt_52 : decode cX9_gapIfBuilt 52 = .ok (.istore 4, 2) := dk_54 4 (dk_at dksX9_gapIfBuilt_2 4 rfl rfl)
theorem dX9_gapIfBuilt_54 : decode cX9_gapIfBuilt 54 = .ok (.iconst 0, 1) := dk_3 (dk_at dksX9_gapIfBuilt_2 6 rfl rfl)
theorem dX9_gapIfBuilt_55 : decode cX9_gapIfBuilt 55 = .ok (.istore 5, 2) := dk_54 5 (dk_at dksX9_gapIfBuilt_2 7 rfl rfl)
theorem dX9_gapIfBuilt_57 : decode cX9_gapIfBuilt 57 = .ok (.iload 5, 2) := dk_21 5 (dk_at dksX9_gapIfBuilt_2 9 rfl rfl)
theorem dX9_gapIfBuilt_59 : decode cX9_gapIfBuilt 59 = .ok (.sipush 1072, 3) := dk_17 4 48 (dk_at dksX9_gapIfBuilt_2 11 rfl rfl)
theorem dX9_gapIfBuilt_62 : decode cX9_gapIfBuilt 62 = .ok (.if_icmp .ge 23, 3) := dk_162 0 23 (dk_at dksX9_gapIfBuilt_2 14 rfl rfl)
theorem dX9_gapIfBuilt_65 : decode cX9_gapIfBuilt 65 = .ok (.aload_n 0, 1) := dk_42 (dk_at dksX9_gapIfBuilt_2 17 rfl rfl)
theorem dX9_gapIfBuilt_66 : decode cX9_gapIfBuilt 66 = .ok (.getfield 34, 3) := dk_180 0 34 (dk_at dksX9_gapIfBuilt_2 18 rfl rfl)
theorem dX9_gapIfBuilt_69 : decode cX9_gapIfBuilt 69 = .ok (.iload 5, 2) := dk_21 5 (dk_at dksX9_gapIfBuilt_2 21 rfl rfl)
theorem dX9_gapIfBuilt_71 : decode cX9_gapIfBuilt 71 = .ok (.aload_n 0, 1) := dk_42 (dk_at dksX9_gapIfBuilt_2 23 rfl rfl)
theorem dX9_gapIfBuilt_72 : decode cX9_gapIfBuilt 72 = .ok (.getfield 60, 3) := dk_180 0 60 (dk_at dksX9_gapIfBuilt_3 0 rfl rfl)
theorem dX9_gapIfBuilt_75 : decode cX9_gapIfBuilt 75 = .ok (.iload 5, 2) := dk_21 5 (dk_at dksX9_gapIfBuilt_3 3 rfl rfl)
theorem dX9_gapIfBuilt_77 : decode cX9_gapIfBuilt 77 = .ok (.iaload, 1) := dk_46 (dk_at dksX9_gapIfBuilt_3 5 rfl rfl)
theorem dX9_gapIfBuilt_78 : decode cX9_gapIfBuilt 78 = .ok (.iastore, 1) := dk_79 (dk_at dksX9_gapIfBuilt_3 6 rfl rfl)
theorem dX9_gapIfBuilt_79 : decode cX9_gapIfBuilt 79 = .ok (.iinc 5 1, 3) := dk_132 5 1 (dk_at dksX9_gapIfBuilt_3 7 rfl rfl)
theorem dX9_gapIfBuilt_82 : decode cX9_gapIfBuilt 82 = .ok (.goto (-25), 3) := dk_167 255 231 (dk_at dksX9_gapIfBuilt_3 10 rfl rfl)
theorem dX9_gapIfBuilt_85 : decode cX9_gapIfBuilt 85 = .ok (.iload 4, 2) := dk_21 4 (dk_at dksX9_gapIfBuilt_3 13 rfl rfl)
theorem dX9_gapIfBuilt_87 : decode cX9_gapIfBuilt 87 = .ok (.ireturn, 1) := dk_172 (dk_at dksX9_gapIfBuilt_3 15 rfl rfl)
abbrev cX9_odds : ByteArray := prog_28_method_105_code
def yX9_odds : MethodName := ⟨RX9, "odds", "(IIII)J"⟩
def dkwX9_odds_6 : List UInt8 := [167, 255, 234, 21, 4, 154, 0, 11, 22, 5, 22, 9, 109, 167, 0, 8, 22, 7, 22, 9, 109, 173]
abbrev dktX9_odds_6 : List UInt8 := dkwX9_odds_6 ++ []
def dkwX9_odds_5 : List UInt8 := [22, 11, 9, 148, 153, 0, 21, 22, 9, 22, 11, 113, 55, 13, 22, 11, 55, 9, 22, 13, 55, 11]
abbrev dktX9_odds_5 : List UInt8 := dkwX9_odds_5 ++ dktX9_odds_6
def dkwX9_odds_4 : List UInt8 := [182, 0, 161, 21, 9, 100, 133, 105, 55, 7, 132, 9, 1, 167, 255, 213, 22, 7, 55, 9, 22, 5, 55, 11]
abbrev dktX9_odds_4 : List UInt8 := dkwX9_odds_4 ++ dktX9_odds_5
def dkwX9_odds_3 : List UInt8 := [3, 42, 27, 28, 3, 182, 1, 112, 21, 9, 100, 184, 0, 202, 133, 105, 55, 5, 22, 7, 42, 27]
abbrev dktX9_odds_3 : List UInt8 := dkwX9_odds_3 ++ dktX9_odds_4
def dkwX9_odds_2 : List UInt8 := [162, 0, 7, 20, 0, 156, 173, 10, 55, 5, 10, 55, 7, 3, 54, 9, 21, 9, 29, 162, 0, 43, 22, 5]
abbrev dktX9_odds_2 : List UInt8 := dkwX9_odds_2 ++ dktX9_odds_3
def dkwX9_odds_1 : List UInt8 := [184, 0, 77, 153, 0, 23, 21, 4, 133, 9, 10, 184, 0, 77, 153, 0, 12, 42, 27, 182, 0, 161, 29]
abbrev dktX9_odds_1 : List UInt8 := dkwX9_odds_1 ++ dktX9_odds_2
def dkwX9_odds_0 : List UInt8 := [42, 27, 182, 0, 153, 153, 0, 43, 42, 28, 182, 1, 103, 153, 0, 35, 29, 133, 10, 20, 1, 65]
abbrev dktX9_odds_0 : List UInt8 := dkwX9_odds_0 ++ dktX9_odds_1
theorem dksX9_odds_0 : cX9_odds.data.toList.drop 0 = dktX9_odds_0 := by decide +kernel
theorem dksX9_odds_1 : cX9_odds.data.toList.drop 22 = dktX9_odds_1 := dk_seg dksX9_odds_0 22 rfl rfl
theorem dksX9_odds_2 : cX9_odds.data.toList.drop 45 = dktX9_odds_2 := dk_seg dksX9_odds_1 23 rfl rfl
theorem dksX9_odds_3 : cX9_odds.data.toList.drop 69 = dktX9_odds_3 := dk_seg dksX9_odds_2 24 rfl rfl
theorem dksX9_odds_4 : cX9_odds.data.toList.drop 91 = dktX9_odds_4 := dk_seg dksX9_odds_3 22 rfl rfl
theorem dksX9_odds_5 : cX9_odds.data.toList.drop 115 = dktX9_odds_5 := dk_seg dksX9_odds_4 24 rfl rfl
theorem dksX9_odds_6 : cX9_odds.data.toList.drop 137 = dktX9_odds_6 := dk_seg dksX9_odds_5 22 rfl rfl
theorem dX9_odds_0 : decode cX9_odds 0 = .ok (.aload_n 0, 1) := dk_42 (dk_at dksX9_odds_0 0 rfl rfl)
theorem dX9_odds_1 : decode cX9_odds 1 = .ok (.iload_n 1, 1) := dk_27 (dk_at dksX9_odds_0 1 rfl rfl)
theorem dX9_odds_2 : decode cX9_odds 2 = .ok (.invokevirtual 153, 3) := dk_182 0 153 (dk_at dksX9_odds_0 2 rfl rfl)
theorem dX9_odds_5 : decode cX9_odds 5 = .ok (.ifCond .eq 43, 3) := dk_153 0 43 (dk_at dksX9_odds_0 5 rfl rfl)
theorem dX9_odds_8 : decode cX9_odds 8 = .ok (.aload_n 0, 1) := dk_42 (dk_at dksX9_odds_0 8 rfl rfl)
theorem dX9_odds_9 : decode cX9_odds 9 = .ok (.iload_n 2, 1) := dk_28 (dk_at dksX9_odds_0 9 rfl rfl)
theorem dX9_odds_10 : decode cX9_odds 10 = .ok (.invokevirtual 359, 3) := dk_182 1 103 (dk_at dksX9_odds_0 10 rfl rfl)
theorem dX9_odds_13 : decode cX9_odds 13 = .ok (.ifCond .eq 35, 3) := dk_153 0 35 (dk_at dksX9_odds_0 13 rfl rfl)
theorem dX9_odds_16 : decode cX9_odds 16 = .ok (.iload_n 3, 1) := dk_29 (dk_at dksX9_odds_0 16 rfl rfl)
theorem dX9_odds_17 : decode cX9_odds 17 = .ok (.i2l, 1) := dk_133 (dk_at dksX9_odds_0 17 rfl rfl)
theorem dX9_odds_18 : decode cX9_odds 18 = .ok (.lconst 1, 1) := dk_10 (dk_at dksX9_odds_0 18 rfl rfl)
theorem dX9_odds_19 : decode cX9_odds 19 = .ok (.ldc2_w 321, 3) := dk_20 1 65 (dk_at dksX9_odds_0 19 rfl rfl)
theorem dX9_odds_22 : decode cX9_odds 22 = .ok (.invokestatic 77, 3) := dk_184 0 77 (dk_at dksX9_odds_1 0 rfl rfl)
theorem dX9_odds_25 : decode cX9_odds 25 = .ok (.ifCond .eq 23, 3) := dk_153 0 23 (dk_at dksX9_odds_1 3 rfl rfl)
theorem dX9_odds_28 : decode cX9_odds 28 = .ok (.iload 4, 2) := dk_21 4 (dk_at dksX9_odds_1 6 rfl rfl)
theorem dX9_odds_30 : decode cX9_odds 30 = .ok (.i2l, 1) := dk_133 (dk_at dksX9_odds_1 8 rfl rfl)
theorem dX9_odds_31 : decode cX9_odds 31 = .ok (.lconst 0, 1) := dk_9 (dk_at dksX9_odds_1 9 rfl rfl)
theorem dX9_odds_32 : decode cX9_odds 32 = .ok (.lconst 1, 1) := dk_10 (dk_at dksX9_odds_1 10 rfl rfl)
theorem dX9_odds_33 : decode cX9_odds 33 = .ok (.invokestatic 77, 3) := dk_184 0 77 (dk_at dksX9_odds_1 11 rfl rfl)
theorem dX9_odds_36 : decode cX9_odds 36 = .ok (.ifCond .eq 12, 3) := dk_153 0 12 (dk_at dksX9_odds_1 14 rfl rfl)
theorem dX9_odds_39 : decode cX9_odds 39 = .ok (.aload_n 0, 1) := dk_42 (dk_at dksX9_odds_1 17 rfl rfl)
theorem dX9_odds_40 : decode cX9_odds 40 = .ok (.iload_n 1, 1) := dk_27 (dk_at dksX9_odds_1 18 rfl rfl)
theorem dX9_odds_41 : decode cX9_odds 41 = .ok (.invokevirtual 161, 3) := dk_182 0 161 (dk_at dksX9_odds_1 19 rfl rfl)
theorem dX9_odds_44 : decode cX9_odds 44 = .ok (.iload_n 3, 1) := dk_29 (dk_at dksX9_odds_1 22 rfl rfl)
theorem dX9_odds_45 : decode cX9_odds 45 = .ok (.if_icmp .ge 7, 3) := dk_162 0 7 (dk_at dksX9_odds_2 0 rfl rfl)
theorem dX9_odds_48 : decode cX9_odds 48 = .ok (.ldc2_w 156, 3) := dk_20 0 156 (dk_at dksX9_odds_2 3 rfl rfl)
theorem dX9_odds_51 : decode cX9_odds 51 = .ok (.lreturn, 1) := dk_173 (dk_at dksX9_odds_2 6 rfl rfl)
theorem dX9_odds_52 : decode cX9_odds 52 = .ok (.lconst 1, 1) := dk_10 (dk_at dksX9_odds_2 7 rfl rfl)
theorem dX9_odds_53 : decode cX9_odds 53 = .ok (.lstore 5, 2) := dk_55 5 (dk_at dksX9_odds_2 8 rfl rfl)
theorem dX9_odds_55 : decode cX9_odds 55 = .ok (.lconst 1, 1) := dk_10 (dk_at dksX9_odds_2 10 rfl rfl)
theorem dX9_odds_56 : decode cX9_odds 56 = .ok (.lstore 7, 2) := dk_55 7 (dk_at dksX9_odds_2 11 rfl rfl)
theorem dX9_odds_58 : decode cX9_odds 58 = .ok (.iconst 0, 1) := dk_3 (dk_at dksX9_odds_2 13 rfl rfl)
theorem dX9_odds_59 : decode cX9_odds 59 = .ok (.istore 9, 2) := dk_54 9 (dk_at dksX9_odds_2 14 rfl rfl)
theorem dX9_odds_61 : decode cX9_odds 61 = .ok (.iload 9, 2) := dk_21 9 (dk_at dksX9_odds_2 16 rfl rfl)
theorem dX9_odds_63 : decode cX9_odds 63 = .ok (.iload_n 3, 1) := dk_29 (dk_at dksX9_odds_2 18 rfl rfl)
theorem dX9_odds_64 : decode cX9_odds 64 = .ok (.if_icmp .ge 43, 3) := dk_162 0 43 (dk_at dksX9_odds_2 19 rfl rfl)
theorem dX9_odds_67 : decode cX9_odds 67 = .ok (.lload 5, 2) := dk_22 5 (dk_at dksX9_odds_2 22 rfl rfl)
theorem dX9_odds_69 : decode cX9_odds 69 = .ok (.iconst 0, 1) := dk_3 (dk_at dksX9_odds_3 0 rfl rfl)
theorem dX9_odds_70 : decode cX9_odds 70 = .ok (.aload_n 0, 1) := dk_42 (dk_at dksX9_odds_3 1 rfl rfl)
theorem dX9_odds_71 : decode cX9_odds 71 = .ok (.iload_n 1, 1) := dk_27 (dk_at dksX9_odds_3 2 rfl rfl)
theorem dX9_odds_72 : decode cX9_odds 72 = .ok (.iload_n 2, 1) := dk_28 (dk_at dksX9_odds_3 3 rfl rfl)
theorem dX9_odds_73 : decode cX9_odds 73 = .ok (.iconst 0, 1) := dk_3 (dk_at dksX9_odds_3 4 rfl rfl)
theorem dX9_odds_74 : decode cX9_odds 74 = .ok (.invokevirtual 368, 3) := dk_182 1 112 (dk_at dksX9_odds_3 5 rfl rfl)
theorem dX9_odds_77 : decode cX9_odds 77 = .ok (.iload 9, 2) := dk_21 9 (dk_at dksX9_odds_3 8 rfl rfl)
theorem dX9_odds_79 : decode cX9_odds 79 = .ok (.isub, 1) := dk_100 (dk_at dksX9_odds_3 10 rfl rfl)
theorem dX9_odds_80 : decode cX9_odds 80 = .ok (.invokestatic 202, 3) := dk_184 0 202 (dk_at dksX9_odds_3 11 rfl rfl)
theorem dX9_odds_83 : decode cX9_odds 83 = .ok (.i2l, 1) := dk_133 (dk_at dksX9_odds_3 14 rfl rfl)
theorem dX9_odds_84 : decode cX9_odds 84 = .ok (.lmul, 1) := dk_105 (dk_at dksX9_odds_3 15 rfl rfl)
theorem dX9_odds_85 : decode cX9_odds 85 = .ok (.lstore 5, 2) := dk_55 5 (dk_at dksX9_odds_3 16 rfl rfl)
theorem dX9_odds_87 : decode cX9_odds 87 = .ok (.lload 7, 2) := dk_22 7 (dk_at dksX9_odds_3 18 rfl rfl)
theorem dX9_odds_89 : decode cX9_odds 89 = .ok (.aload_n 0, 1) := dk_42 (dk_at dksX9_odds_3 20 rfl rfl)
theorem dX9_odds_90 : decode cX9_odds 90 = .ok (.iload_n 1, 1) := dk_27 (dk_at dksX9_odds_3 21 rfl rfl)
theorem dX9_odds_91 : decode cX9_odds 91 = .ok (.invokevirtual 161, 3) := dk_182 0 161 (dk_at dksX9_odds_4 0 rfl rfl)
theorem dX9_odds_94 : decode cX9_odds 94 = .ok (.iload 9, 2) := dk_21 9 (dk_at dksX9_odds_4 3 rfl rfl)
theorem dX9_odds_96 : decode cX9_odds 96 = .ok (.isub, 1) := dk_100 (dk_at dksX9_odds_4 5 rfl rfl)
theorem dX9_odds_97 : decode cX9_odds 97 = .ok (.i2l, 1) := dk_133 (dk_at dksX9_odds_4 6 rfl rfl)
theorem dX9_odds_98 : decode cX9_odds 98 = .ok (.lmul, 1) := dk_105 (dk_at dksX9_odds_4 7 rfl rfl)
theorem dX9_odds_99 : decode cX9_odds 99 = .ok (.lstore 7, 2) := dk_55 7 (dk_at dksX9_odds_4 8 rfl rfl)
theorem dX9_odds_101 : decode cX9_odds 101 = .ok (.iinc 9 1, 3) := dk_132 9 1 (dk_at dksX9_odds_4 10 rfl rfl)
theorem dX9_odds_104 : decode cX9_odds 104 = .ok (.goto (-43), 3) := dk_167 255 213 (dk_at dksX9_odds_4 13 rfl rfl)
theorem dX9_odds_107 : decode cX9_odds 107 = .ok (.lload 7, 2) := dk_22 7 (dk_at dksX9_odds_4 16 rfl rfl)
theorem dX9_odds_109 : decode cX9_odds 109 = .ok (.lstore 9, 2) := dk_55 9 (dk_at dksX9_odds_4 18 rfl rfl)
theorem dX9_odds_111 : decode cX9_odds 111 = .ok (.lload 5, 2) := dk_22 5 (dk_at dksX9_odds_4 20 rfl rfl)
theorem dX9_odds_113 : decode cX9_odds 113 = .ok (.lstore 11, 2) := dk_55 11 (dk_at dksX9_odds_4 22 rfl rfl)
theorem dX9_odds_115 : decode cX9_odds 115 = .ok (.lload 11, 2) := dk_22 11 (dk_at dksX9_odds_5 0 rfl rfl)
theorem dX9_odds_117 : decode cX9_odds 117 = .ok (.lconst 0, 1) := dk_9 (dk_at dksX9_odds_5 2 rfl rfl)
theorem dX9_odds_118 : decode cX9_odds 118 = .ok (.lcmp, 1) := dk_148 (dk_at dksX9_odds_5 3 rfl rfl)
theorem dX9_odds_119 : decode cX9_odds 119 = .ok (.ifCond .eq 21, 3) := dk_153 0 21 (dk_at dksX9_odds_5 4 rfl rfl)
theorem dX9_odds_122 : decode cX9_odds 122 = .ok (.lload 9, 2) := dk_22 9 (dk_at dksX9_odds_5 7 rfl rfl)
theorem dX9_odds_124 : decode cX9_odds 124 = .ok (.lload 11, 2) := dk_22 11 (dk_at dksX9_odds_5 9 rfl rfl)
theorem dX9_odds_126 : decode cX9_odds 126 = .ok (.lrem, 1) := dk_113 (dk_at dksX9_odds_5 11 rfl rfl)
theorem dX9_odds_127 : decode cX9_odds 127 = .ok (.lstore 13, 2) := dk_55 13 (dk_at dksX9_odds_5 12 rfl rfl)
theorem dX9_odds_129 : decode cX9_odds 129 = .ok (.lload 11, 2) := dk_22 11 (dk_at dksX9_odds_5 14 rfl rfl)
theorem dX9_odds_131 : decode cX9_odds 131 = .ok (.lstore 9, 2) := dk_55 9 (dk_at dksX9_odds_5 16 rfl rfl)
theorem dX9_odds_133 : decode cX9_odds 133 = .ok (.lload 13, 2) := dk_22 13 (dk_at dksX9_odds_5 18 rfl rfl)
theorem dX9_odds_135 : decode cX9_odds 135 = .ok (.lstore 11, 2) := dk_55 11 (dk_at dksX9_odds_5 20 rfl rfl)
theorem dX9_odds_137 : decode cX9_odds 137 = .ok (.goto (-22), 3) := dk_167 255 234 (dk_at dksX9_odds_6 0 rfl rfl)
theorem dX9_odds_140 : decode cX9_odds 140 = .ok (.iload 4, 2) := dk_21 4 (dk_at dksX9_odds_6 3 rfl rfl)
theorem dX9_odds_142 : decode cX9_odds 142 = .ok (.ifCond .ne 11, 3) := dk_154 0 11 (dk_at dksX9_odds_6 5 rfl rfl)
theorem dX9_odds_145 : decode cX9_odds 145 = .ok (.lload 5, 2) := dk_22 5 (dk_at dksX9_odds_6 8 rfl rfl)
theorem dX9_odds_147 : decode cX9_odds 147 = .ok (.lload 9, 2) := dk_22 9 (dk_at dksX9_odds_6 10 rfl rfl)
theorem dX9_odds_149 : decode cX9_odds 149 = .ok (.ldiv, 1) := dk_109 (dk_at dksX9_odds_6 12 rfl rfl)
theorem dX9_odds_150 : decode cX9_odds 150 = .ok (.goto 8, 3) := dk_167 0 8 (dk_at dksX9_odds_6 13 rfl rfl)
theorem dX9_odds_153 : decode cX9_odds 153 = .ok (.lload 7, 2) := dk_22 7 (dk_at dksX9_odds_6 16 rfl rfl)
theorem dX9_odds_155 : decode cX9_odds 155 = .ok (.lload 9, 2) := dk_22 9 (dk_at dksX9_odds_6 18 rfl rfl)
theorem dX9_odds_157 : decode cX9_odds 157 = .ok (.ldiv, 1) := dk_109 (dk_at dksX9_odds_6 20 rfl rfl)
theorem dX9_odds_158 : decode cX9_odds 158 = .ok (.lreturn, 1) := dk_173 (dk_at dksX9_odds_6 21 rfl rfl)
abbrev cX9_unit : ByteArray := prog_28_method_106_code
def yX9_unit : MethodName := ⟨RX9, "unit", "(III)I"⟩
def dkwX9_unit_2 : List UInt8 := [167, 0, 5, 18, 245, 172]
abbrev dktX9_unit_2 : List UInt8 := dkwX9_unit_2 ++ []
def dkwX9_unit_1 : List UInt8 := [153, 0, 25, 29, 133, 9, 20, 0, 230, 184, 0, 77, 153, 0, 13, 42, 27, 28, 29, 182, 1, 79]
abbrev dktX9_unit_1 : List UInt8 := dkwX9_unit_1 ++ dktX9_unit_2
def dkwX9_unit_0 : List UInt8 := [42, 27, 182, 1, 103, 153, 0, 43, 28, 133, 9, 42, 180, 0, 31, 27, 46, 4, 100, 133, 184, 0, 77]
abbrev dktX9_unit_0 : List UInt8 := dkwX9_unit_0 ++ dktX9_unit_1
theorem dksX9_unit_0 : cX9_unit.data.toList.drop 0 = dktX9_unit_0 := by decide +kernel
theorem dksX9_unit_1 : cX9_unit.data.toList.drop 23 = dktX9_unit_1 := dk_seg dksX9_unit_0 23 rfl rfl
theorem dksX9_unit_2 : cX9_unit.data.toList.drop 45 = dktX9_unit_2 := dk_seg dksX9_unit_1 22 rfl rfl
theorem dX9_unit_0 : decode cX9_unit 0 = .ok (.aload_n 0, 1) := dk_42 (dk_at dksX9_unit_0 0 rfl rfl)
theorem dX9_unit_1 : decode cX9_unit 1 = .ok (.iload_n 1, 1) := dk_27 (dk_at dksX9_unit_0 1 rfl rfl)
theorem dX9_unit_2 : decode cX9_unit 2 = .ok (.invokevirtual 359, 3) := dk_182 1 103 (dk_at dksX9_unit_0 2 rfl rfl)
theorem dX9_unit_5 : decode cX9_unit 5 = .ok (.ifCond .eq 43, 3) := dk_153 0 43 (dk_at dksX9_unit_0 5 rfl rfl)
theorem dX9_unit_8 : decode cX9_unit 8 = .ok (.iload_n 2, 1) := dk_28 (dk_at dksX9_unit_0 8 rfl rfl)
theorem dX9_unit_9 : decode cX9_unit 9 = .ok (.i2l, 1) := dk_133 (dk_at dksX9_unit_0 9 rfl rfl)
theorem dX9_unit_10 : decode cX9_unit 10 = .ok (.lconst 0, 1) := dk_9 (dk_at dksX9_unit_0 10 rfl rfl)
theorem dX9_unit_11 : decode cX9_unit 11 = .ok (.aload_n 0, 1) := dk_42 (dk_at dksX9_unit_0 11 rfl rfl)
theorem dX9_unit_12 : decode cX9_unit 12 = .ok (.getfield 31, 3) := dk_180 0 31 (dk_at dksX9_unit_0 12 rfl rfl)
theorem dX9_unit_15 : decode cX9_unit 15 = .ok (.iload_n 1, 1) := dk_27 (dk_at dksX9_unit_0 15 rfl rfl)
theorem dX9_unit_16 : decode cX9_unit 16 = .ok (.iaload, 1) := dk_46 (dk_at dksX9_unit_0 16 rfl rfl)
theorem dX9_unit_17 : decode cX9_unit 17 = .ok (.iconst 1, 1) := dk_4 (dk_at dksX9_unit_0 17 rfl rfl)
theorem dX9_unit_18 : decode cX9_unit 18 = .ok (.isub, 1) := dk_100 (dk_at dksX9_unit_0 18 rfl rfl)
theorem dX9_unit_19 : decode cX9_unit 19 = .ok (.i2l, 1) := dk_133 (dk_at dksX9_unit_0 19 rfl rfl)
theorem dX9_unit_20 : decode cX9_unit 20 = .ok (.invokestatic 77, 3) := dk_184 0 77 (dk_at dksX9_unit_0 20 rfl rfl)
theorem dX9_unit_23 : decode cX9_unit 23 = .ok (.ifCond .eq 25, 3) := dk_153 0 25 (dk_at dksX9_unit_1 0 rfl rfl)
theorem dX9_unit_26 : decode cX9_unit 26 = .ok (.iload_n 3, 1) := dk_29 (dk_at dksX9_unit_1 3 rfl rfl)
theorem dX9_unit_27 : decode cX9_unit 27 = .ok (.i2l, 1) := dk_133 (dk_at dksX9_unit_1 4 rfl rfl)
theorem dX9_unit_28 : decode cX9_unit 28 = .ok (.lconst 0, 1) := dk_9 (dk_at dksX9_unit_1 5 rfl rfl)
theorem dX9_unit_29 : decode cX9_unit 29 = .ok (.ldc2_w 230, 3) := dk_20 0 230 (dk_at dksX9_unit_1 6 rfl rfl)
theorem dX9_unit_32 : decode cX9_unit 32 = .ok (.invokestatic 77, 3) := dk_184 0 77 (dk_at dksX9_unit_1 9 rfl rfl)
theorem dX9_unit_35 : decode cX9_unit 35 = .ok (.ifCond .eq 13, 3) := dk_153 0 13 (dk_at dksX9_unit_1 12 rfl rfl)
theorem dX9_unit_38 : decode cX9_unit 38 = .ok (.aload_n 0, 1) := dk_42 (dk_at dksX9_unit_1 15 rfl rfl)
theorem dX9_unit_39 : decode cX9_unit 39 = .ok (.iload_n 1, 1) := dk_27 (dk_at dksX9_unit_1 16 rfl rfl)
theorem dX9_unit_40 : decode cX9_unit 40 = .ok (.iload_n 2, 1) := dk_28 (dk_at dksX9_unit_1 17 rfl rfl)
theorem dX9_unit_41 : decode cX9_unit 41 = .ok (.iload_n 3, 1) := dk_29 (dk_at dksX9_unit_1 18 rfl rfl)
theorem dX9_unit_42 : decode cX9_unit 42 = .ok (.invokevirtual 335, 3) := dk_182 1 79 (dk_at dksX9_unit_1 19 rfl rfl)
theorem dX9_unit_45 : decode cX9_unit 45 = .ok (.goto 5, 3) := dk_167 0 5 (dk_at dksX9_unit_2 0 rfl rfl)
theorem dX9_unit_48 : decode cX9_unit 48 = .ok (.ldc 245, 2) := dk_18 245 (dk_at dksX9_unit_2 3 rfl rfl)
theorem dX9_unit_50 : decode cX9_unit 50 = .ok (.ireturn, 1) := dk_172 (dk_at dksX9_unit_2 5 rfl rfl)
abbrev cX9_shares : ByteArray := prog_28_method_107_code
def yX9_shares : MethodName := ⟨RX9, "shares", "(II)I"⟩
def dkwX9_shares_1 : List UInt8 := [182, 1, 62, 154, 0, 7, 3, 167, 0, 15, 28, 42, 27, 182, 0, 161, 104, 42, 182, 1, 62, 108, 172]
abbrev dktX9_shares_1 : List UInt8 := dkwX9_shares_1 ++ []
def dkwX9_shares_0 : List UInt8 := [42, 27, 182, 0, 153, 153, 0, 15, 28, 133, 9, 20, 1, 32, 184, 0, 77, 154, 0, 5, 2, 172, 42]
abbrev dktX9_shares_0 : List UInt8 := dkwX9_shares_0 ++ dktX9_shares_1
theorem dksX9_shares_0 : cX9_shares.data.toList.drop 0 = dktX9_shares_0 := by decide +kernel
theorem dksX9_shares_1 : cX9_shares.data.toList.drop 23 = dktX9_shares_1 := dk_seg dksX9_shares_0 23 rfl rfl
theorem dX9_shares_0 : decode cX9_shares 0 = .ok (.aload_n 0, 1) := dk_42 (dk_at dksX9_shares_0 0 rfl rfl)
theorem dX9_shares_1 : decode cX9_shares 1 = .ok (.iload_n 1, 1) := dk_27 (dk_at dksX9_shares_0 1 rfl rfl)
theorem dX9_shares_2 : decode cX9_shares 2 = .ok (.invokevirtual 153, 3) := dk_182 0 153 (dk_at dksX9_shares_0 2 rfl rfl)
theorem dX9_shares_5 : decode cX9_shares 5 = .ok (.ifCond .eq 15, 3) := dk_153 0 15 (dk_at dksX9_shares_0 5 rfl rfl)
theorem dX9_shares_8 : decode cX9_shares 8 = .ok (.iload_n 2, 1) := dk_28 (dk_at dksX9_shares_0 8 rfl rfl)
theorem dX9_shares_9 : decode cX9_shares 9 = .ok (.i2l, 1) := dk_133 (dk_at dksX9_shares_0 9 rfl rfl)
theorem dX9_shares_10 : decode cX9_shares 10 = .ok (.lconst 0, 1) := dk_9 (dk_at dksX9_shares_0 10 rfl rfl)
theorem dX9_shares_11 : decode cX9_shares 11 = .ok (.ldc2_w 288, 3) := dk_20 1 32 (dk_at dksX9_shares_0 11 rfl rfl)
theorem dX9_shares_14 : decode cX9_shares 14 = .ok (.invokestatic 77, 3) := dk_184 0 77 (dk_at dksX9_shares_0 14 rfl rfl)
theorem dX9_shares_17 : decode cX9_shares 17 = .ok (.ifCond .ne 5, 3) := dk_154 0 5 (dk_at dksX9_shares_0 17 rfl rfl)
theorem dX9_shares_20 : decode cX9_shares 20 = .ok (.iconst (-1), 1) := dk_2 (dk_at dksX9_shares_0 20 rfl rfl)
theorem dX9_shares_21 : decode cX9_shares 21 = .ok (.ireturn, 1) := dk_172 (dk_at dksX9_shares_0 21 rfl rfl)
theorem dX9_shares_22 : decode cX9_shares 22 = .ok (.aload_n 0, 1) := dk_42 (dk_at dksX9_shares_0 22 rfl rfl)
theorem dX9_shares_23 : decode cX9_shares 23 = .ok (.invokevirtual 318, 3) := dk_182 1 62 (dk_at dksX9_shares_1 0 rfl rfl)
theorem dX9_shares_26 : decode cX9_shares 26 = .ok (.ifCond .ne 7, 3) := dk_154 0 7 (dk_at dksX9_shares_1 3 rfl rfl)
theorem dX9_shares_29 : decode cX9_shares 29 = .ok (.iconst 0, 1) := dk_3 (dk_at dksX9_shares_1 6 rfl rfl)
theorem dX9_shares_30 : decode cX9_shares 30 = .ok (.goto 15, 3) := dk_167 0 15 (dk_at dksX9_shares_1 7 rfl rfl)
theorem dX9_shares_33 : decode cX9_shares 33 = .ok (.iload_n 2, 1) := dk_28 (dk_at dksX9_shares_1 10 rfl rfl)
theorem dX9_shares_34 : decode cX9_shares 34 = .ok (.aload_n 0, 1) := dk_42 (dk_at dksX9_shares_1 11 rfl rfl)
theorem dX9_shares_35 : decode cX9_shares 35 = .ok (.iload_n 1, 1) := dk_27 (dk_at dksX9_shares_1 12 rfl rfl)
theorem dX9_shares_36 : decode cX9_shares 36 = .ok (.invokevirtual 161, 3) := dk_182 0 161 (dk_at dksX9_shares_1 13 rfl rfl)
theorem dX9_shares_39 : decode cX9_shares 39 = .ok (.imul, 1) := dk_104 (dk_at dksX9_shares_1 16 rfl rfl)
theorem dX9_shares_40 : decode cX9_shares 40 = .ok (.aload_n 0, 1) := dk_42 (dk_at dksX9_shares_1 17 rfl rfl)
theorem dX9_shares_41 : decode cX9_shares 41 = .ok (.invokevirtual 318, 3) := dk_182 1 62 (dk_at dksX9_shares_1 18 rfl rfl)
theorem dX9_shares_44 : decode cX9_shares 44 = .ok (.idiv, 1) := dk_108 (dk_at dksX9_shares_1 21 rfl rfl)
theorem dX9_shares_45 : decode cX9_shares 45 = .ok (.ireturn, 1) := dk_172 (dk_at dksX9_shares_1 22 rfl rfl)
abbrev cX9_most : ByteArray := prog_28_method_113_code
def yX9_most : MethodName := ⟨RX9, "most", "(I)I"⟩
def dkwX9_most_3 : List UInt8 := [172, 42, 182, 1, 161, 172]
abbrev dktX9_most_3 : List UInt8 := dkwX9_most_3 ++ []
def dkwX9_most_2 : List UInt8 := [42, 182, 1, 149, 172, 42, 182, 1, 152, 172, 42, 182, 1, 155, 172, 42, 182, 1, 158, 172, 42, 182, 1, 62]
abbrev dktX9_most_2 : List UInt8 := dkwX9_most_2 ++ dktX9_most_3
def dkwX9_most_1 : List UInt8 := [170, 0, 0, 0, 58, 0, 0, 0, 0, 0, 0, 0, 4, 0, 0, 0, 33, 0, 0, 0, 38, 0, 0, 0, 43, 0, 0, 0, 48, 0, 0, 0, 53]
abbrev dktX9_most_1 : List UInt8 := dkwX9_most_1 ++ dktX9_most_2
def dkwX9_most_0 : List UInt8 := [42, 182, 0, 225, 153, 0, 15, 27, 133, 9, 20, 1, 147, 184, 0, 77, 154, 0, 6, 18, 245, 172, 27]
abbrev dktX9_most_0 : List UInt8 := dkwX9_most_0 ++ dktX9_most_1
theorem dksX9_most_0 : cX9_most.data.toList.drop 0 = dktX9_most_0 := by decide +kernel
theorem dksX9_most_1 : cX9_most.data.toList.drop 23 = dktX9_most_1 := dk_seg dksX9_most_0 23 rfl rfl
theorem dksX9_most_2 : cX9_most.data.toList.drop 56 = dktX9_most_2 := dk_seg dksX9_most_1 33 rfl rfl
theorem dksX9_most_3 : cX9_most.data.toList.drop 80 = dktX9_most_3 := dk_seg dksX9_most_2 24 rfl rfl
theorem dX9_most_0 : decode cX9_most 0 = .ok (.aload_n 0, 1) := dk_42 (dk_at dksX9_most_0 0 rfl rfl)
theorem dX9_most_1 : decode cX9_most 1 = .ok (.invokevirtual 225, 3) := dk_182 0 225 (dk_at dksX9_most_0 1 rfl rfl)
theorem dX9_most_4 : decode cX9_most 4 = .ok (.ifCond .eq 15, 3) := dk_153 0 15 (dk_at dksX9_most_0 4 rfl rfl)
theorem dX9_most_7 : decode cX9_most 7 = .ok (.iload_n 1, 1) := dk_27 (dk_at dksX9_most_0 7 rfl rfl)
theorem dX9_most_8 : decode cX9_most 8 = .ok (.i2l, 1) := dk_133 (dk_at dksX9_most_0 8 rfl rfl)
theorem dX9_most_9 : decode cX9_most 9 = .ok (.lconst 0, 1) := dk_9 (dk_at dksX9_most_0 9 rfl rfl)
theorem dX9_most_10 : decode cX9_most 10 = .ok (.ldc2_w 403, 3) := dk_20 1 147 (dk_at dksX9_most_0 10 rfl rfl)
theorem dX9_most_13 : decode cX9_most 13 = .ok (.invokestatic 77, 3) := dk_184 0 77 (dk_at dksX9_most_0 13 rfl rfl)
theorem dX9_most_16 : decode cX9_most 16 = .ok (.ifCond .ne 6, 3) := dk_154 0 6 (dk_at dksX9_most_0 16 rfl rfl)
theorem dX9_most_19 : decode cX9_most 19 = .ok (.ldc 245, 2) := dk_18 245 (dk_at dksX9_most_0 19 rfl rfl)
theorem dX9_most_21 : decode cX9_most 21 = .ok (.ireturn, 1) := dk_172 (dk_at dksX9_most_0 21 rfl rfl)
theorem dX9_most_22 : decode cX9_most 22 = .ok (.iload_n 1, 1) := dk_27 (dk_at dksX9_most_0 22 rfl rfl)
theorem dX9_most_23 : decode cX9_most 23 = .ok (.tableswitch 58 0 4 #[33, 38, 43, 48, 53], 33) := by decide +kernel
theorem dX9_most_56 : decode cX9_most 56 = .ok (.aload_n 0, 1) := dk_42 (dk_at dksX9_most_2 0 rfl rfl)
theorem dX9_most_57 : decode cX9_most 57 = .ok (.invokevirtual 405, 3) := dk_182 1 149 (dk_at dksX9_most_2 1 rfl rfl)
theorem dX9_most_60 : decode cX9_most 60 = .ok (.ireturn, 1) := dk_172 (dk_at dksX9_most_2 4 rfl rfl)
theorem dX9_most_61 : decode cX9_most 61 = .ok (.aload_n 0, 1) := dk_42 (dk_at dksX9_most_2 5 rfl rfl)
theorem dX9_most_62 : decode cX9_most 62 = .ok (.invokevirtual 408, 3) := dk_182 1 152 (dk_at dksX9_most_2 6 rfl rfl)
theorem dX9_most_65 : decode cX9_most 65 = .ok (.ireturn, 1) := dk_172 (dk_at dksX9_most_2 9 rfl rfl)
theorem dX9_most_66 : decode cX9_most 66 = .ok (.aload_n 0, 1) := dk_42 (dk_at dksX9_most_2 10 rfl rfl)
theorem dX9_most_67 : decode cX9_most 67 = .ok (.invokevirtual 411, 3) := dk_182 1 155 (dk_at dksX9_most_2 11 rfl rfl)
theorem dX9_most_70 : decode cX9_most 70 = .ok (.ireturn, 1) := dk_172 (dk_at dksX9_most_2 14 rfl rfl)
theorem dX9_most_71 : decode cX9_most 71 = .ok (.aload_n 0, 1) := dk_42 (dk_at dksX9_most_2 15 rfl rfl)
theorem dX9_most_72 : decode cX9_most 72 = .ok (.invokevirtual 414, 3) := dk_182 1 158 (dk_at dksX9_most_2 16 rfl rfl)
theorem dX9_most_75 : decode cX9_most 75 = .ok (.ireturn, 1) := dk_172 (dk_at dksX9_most_2 19 rfl rfl)
theorem dX9_most_76 : decode cX9_most 76 = .ok (.aload_n 0, 1) := dk_42 (dk_at dksX9_most_2 20 rfl rfl)
theorem dX9_most_77 : decode cX9_most 77 = .ok (.invokevirtual 318, 3) := dk_182 1 62 (dk_at dksX9_most_2 21 rfl rfl)
theorem dX9_most_80 : decode cX9_most 80 = .ok (.ireturn, 1) := dk_172 (dk_at dksX9_most_3 0 rfl rfl)
theorem dX9_most_81 : decode cX9_most 81 = .ok (.aload_n 0, 1) := dk_42 (dk_at dksX9_most_3 1 rfl rfl)
theorem dX9_most_82 : decode cX9_most 82 = .ok (.invokevirtual 417, 3) := dk_182 1 161 (dk_at dksX9_most_3 2 rfl rfl)
theorem dX9_most_85 : decode cX9_most 85 = .ok (.ireturn, 1) := dk_172 (dk_at dksX9_most_3 5 rfl rfl)
abbrev cX9_longest : ByteArray := prog_28_method_108_code
def yX9_longest : MethodName := ⟨RX9, "longest", "()I"⟩
def dkwX9_longest_1 : List UInt8 := [164, 0, 7, 28, 167, 0, 4, 27, 60, 132, 2, 1, 167, 255, 226, 27, 172]
abbrev dktX9_longest_1 : List UInt8 := dkwX9_longest_1 ++ []
def dkwX9_longest_0 : List UInt8 := [3, 60, 4, 61, 28, 42, 180, 0, 150, 162, 0, 28, 42, 28, 182, 0, 161, 42, 27, 182, 0, 161]
abbrev dktX9_longest_0 : List UInt8 := dkwX9_longest_0 ++ dktX9_longest_1
theorem dksX9_longest_0 : cX9_longest.data.toList.drop 0 = dktX9_longest_0 := by decide +kernel
theorem dksX9_longest_1 : cX9_longest.data.toList.drop 22 = dktX9_longest_1 := dk_seg dksX9_longest_0 22 rfl rfl
theorem dX9_longest_0 : decode cX9_longest 0 = .ok (.iconst 0, 1) := dk_3 (dk_at dksX9_longest_0 0 rfl rfl)
theorem dX9_longest_1 : decode cX9_longest 1 = .ok (.istore_n 1, 1) := dk_60 (dk_at dksX9_longest_0 1 rfl rfl)
theorem dX9_longest_2 : decode cX9_longest 2 = .ok (.iconst 1, 1) := dk_4 (dk_at dksX9_longest_0 2 rfl rfl)
theorem dX9_longest_3 : decode cX9_longest 3 = .ok (.istore_n 2, 1) := dk_61 (dk_at dksX9_longest_0 3 rfl rfl)
theorem dX9_longest_4 : decode cX9_longest 4 = .ok (.iload_n 2, 1) := dk_28 (dk_at dksX9_longest_0 4 rfl rfl)
theorem dX9_longest_5 : decode cX9_longest 5 = .ok (.aload_n 0, 1) := dk_42 (dk_at dksX9_longest_0 5 rfl rfl)
theorem dX9_longest_6 : decode cX9_longest 6 = .ok (.getfield 150, 3) := dk_180 0 150 (dk_at dksX9_longest_0 6 rfl rfl)
theorem dX9_longest_9 : decode cX9_longest 9 = .ok (.if_icmp .ge 28, 3) := dk_162 0 28 (dk_at dksX9_longest_0 9 rfl rfl)
theorem dX9_longest_12 : decode cX9_longest 12 = .ok (.aload_n 0, 1) := dk_42 (dk_at dksX9_longest_0 12 rfl rfl)
theorem dX9_longest_13 : decode cX9_longest 13 = .ok (.iload_n 2, 1) := dk_28 (dk_at dksX9_longest_0 13 rfl rfl)
theorem dX9_longest_14 : decode cX9_longest 14 = .ok (.invokevirtual 161, 3) := dk_182 0 161 (dk_at dksX9_longest_0 14 rfl rfl)
theorem dX9_longest_17 : decode cX9_longest 17 = .ok (.aload_n 0, 1) := dk_42 (dk_at dksX9_longest_0 17 rfl rfl)
theorem dX9_longest_18 : decode cX9_longest 18 = .ok (.iload_n 1, 1) := dk_27 (dk_at dksX9_longest_0 18 rfl rfl)
theorem dX9_longest_19 : decode cX9_longest 19 = .ok (.invokevirtual 161, 3) := dk_182 0 161 (dk_at dksX9_longest_0 19 rfl rfl)
theorem dX9_longest_22 : decode cX9_longest 22 = .ok (.if_icmp .le 7, 3) := dk_164 0 7 (dk_at dksX9_longest_1 0 rfl rfl)
theorem dX9_longest_25 : decode cX9_longest 25 = .ok (.iload_n 2, 1) := dk_28 (dk_at dksX9_longest_1 3 rfl rfl)
theorem dX9_longest_26 : decode cX9_longest 26 = .ok (.goto 4, 3) := dk_167 0 4 (dk_at dksX9_longest_1 4 rfl rfl)
theorem dX9_longest_29 : decode cX9_longest 29 = .ok (.iload_n 1, 1) := dk_27 (dk_at dksX9_longest_1 7 rfl rfl)
theorem dX9_longest_30 : decode cX9_longest 30 = .ok (.istore_n 1, 1) := dk_60 (dk_at dksX9_longest_1 8 rfl rfl)
theorem dX9_longest_31 : decode cX9_longest 31 = .ok (.iinc 2 1, 3) := dk_132 2 1 (dk_at dksX9_longest_1 9 rfl rfl)
theorem dX9_longest_34 : decode cX9_longest 34 = .ok (.goto (-30), 3) := dk_167 255 226 (dk_at dksX9_longest_1 12 rfl rfl)
theorem dX9_longest_37 : decode cX9_longest 37 = .ok (.iload_n 1, 1) := dk_27 (dk_at dksX9_longest_1 15 rfl rfl)
theorem dX9_longest_38 : decode cX9_longest 38 = .ok (.ireturn, 1) := dk_172 (dk_at dksX9_longest_1 16 rfl rfl)
abbrev cX9_mostDrifted : ByteArray := prog_28_method_109_code
def yX9_mostDrifted : MethodName := ⟨RX9, "mostDrifted", "()I"⟩
def dkwX9_mostDrifted_2 : List UInt8 := [167, 0, 4, 27, 60, 132, 2, 1, 167, 255, 206, 16, 10, 27, 5, 108, 104, 27, 5, 112, 96, 172]
abbrev dktX9_mostDrifted_2 : List UInt8 := dkwX9_mostDrifted_2 ++ []
def dkwX9_mostDrifted_1 : List UInt8 := [184, 0, 199, 46, 42, 180, 0, 34, 27, 5, 108, 27, 5, 112, 184, 0, 199, 46, 164, 0, 7, 28]
abbrev dktX9_mostDrifted_1 : List UInt8 := dkwX9_mostDrifted_1 ++ dktX9_mostDrifted_2
def dkwX9_mostDrifted_0 : List UInt8 := [3, 60, 4, 61, 28, 5, 42, 180, 0, 150, 104, 162, 0, 46, 42, 180, 0, 34, 28, 5, 108, 28, 5, 112]
abbrev dktX9_mostDrifted_0 : List UInt8 := dkwX9_mostDrifted_0 ++ dktX9_mostDrifted_1
theorem dksX9_mostDrifted_0 : cX9_mostDrifted.data.toList.drop 0 = dktX9_mostDrifted_0 := by decide +kernel
theorem dksX9_mostDrifted_1 : cX9_mostDrifted.data.toList.drop 24 = dktX9_mostDrifted_1 := dk_seg dksX9_mostDrifted_0 24 rfl rfl
theorem dksX9_mostDrifted_2 : cX9_mostDrifted.data.toList.drop 46 = dktX9_mostDrifted_2 := dk_seg dksX9_mostDrifted_1 22 rfl rfl
theorem dX9_mostDrifted_0 : decode cX9_mostDrifted 0 = .ok (.iconst 0, 1) := dk_3 (dk_at dksX9_mostDrifted_0 0 rfl rfl)
theorem dX9_mostDrifted_1 : decode cX9_mostDrifted 1 = .ok (.istore_n 1, 1) := dk_60 (dk_at dksX9_mostDrifted_0 1 rfl rfl)
theorem dX9_mostDrifted_2 : decode cX9_mostDrifted 2 = .ok (.iconst 1, 1) := dk_4 (dk_at dksX9_mostDrifted_0 2 rfl rfl)
theorem dX9_mostDrifted_3 : decode cX9_mostDrifted 3 = .ok (.istore_n 2, 1) := dk_61 (dk_at dksX9_mostDrifted_0 3 rfl rfl)
theorem dX9_mostDrifted_4 : decode cX9_mostDrifted 4 = .ok (.iload_n 2, 1) := dk_28 (dk_at dksX9_mostDrifted_0 4 rfl rfl)
theorem dX9_mostDrifted_5 : decode cX9_mostDrifted 5 = .ok (.iconst 2, 1) := dk_5 (dk_at dksX9_mostDrifted_0 5 rfl rfl)
theorem dX9_mostDrifted_6 : decode cX9_mostDrifted 6 = .ok (.aload_n 0, 1) := dk_42 (dk_at dksX9_mostDrifted_0 6 rfl rfl)
theorem dX9_mostDrifted_7 : decode cX9_mostDrifted 7 = .ok (.getfield 150, 3) := dk_180 0 150 (dk_at dksX9_mostDrifted_0 7 rfl rfl)
theorem dX9_mostDrifted_10 : decode cX9_mostDrifted 10 = .ok (.imul, 1) := dk_104 (dk_at dksX9_mostDrifted_0 10 rfl rfl)
theorem dX9_mostDrifted_11 : decode cX9_mostDrifted 11 = .ok (.if_icmp .ge 46, 3) := dk_162 0 46 (dk_at dksX9_mostDrifted_0 11 rfl rfl)
theorem dX9_mostDrifted_14 : decode cX9_mostDrifted 14 = .ok (.aload_n 0, 1) := dk_42 (dk_at dksX9_mostDrifted_0 14 rfl rfl)
theorem dX9_mostDrifted_15 : decode cX9_mostDrifted 15 = .ok (.getfield 34, 3) := dk_180 0 34 (dk_at dksX9_mostDrifted_0 15 rfl rfl)
theorem dX9_mostDrifted_18 : decode cX9_mostDrifted 18 = .ok (.iload_n 2, 1) := dk_28 (dk_at dksX9_mostDrifted_0 18 rfl rfl)
theorem dX9_mostDrifted_19 : decode cX9_mostDrifted 19 = .ok (.iconst 2, 1) := dk_5 (dk_at dksX9_mostDrifted_0 19 rfl rfl)
theorem dX9_mostDrifted_20 : decode cX9_mostDrifted 20 = .ok (.idiv, 1) := dk_108 (dk_at dksX9_mostDrifted_0 20 rfl rfl)
theorem dX9_mostDrifted_21 : decode cX9_mostDrifted 21 = .ok (.iload_n 2, 1) := dk_28 (dk_at dksX9_mostDrifted_0 21 rfl rfl)
theorem dX9_mostDrifted_22 : decode cX9_mostDrifted 22 = .ok (.iconst 2, 1) := dk_5 (dk_at dksX9_mostDrifted_0 22 rfl rfl)
theorem dX9_mostDrifted_23 : decode cX9_mostDrifted 23 = .ok (.irem, 1) := dk_112 (dk_at dksX9_mostDrifted_0 23 rfl rfl)
theorem dX9_mostDrifted_24 : decode cX9_mostDrifted 24 = .ok (.invokestatic 199, 3) := dk_184 0 199 (dk_at dksX9_mostDrifted_1 0 rfl rfl)
theorem dX9_mostDrifted_27 : decode cX9_mostDrifted 27 = .ok (.iaload, 1) := dk_46 (dk_at dksX9_mostDrifted_1 3 rfl rfl)
theorem dX9_mostDrifted_28 : decode cX9_mostDrifted 28 = .ok (.aload_n 0, 1) := dk_42 (dk_at dksX9_mostDrifted_1 4 rfl rfl)
theorem dX9_mostDrifted_29 : decode cX9_mostDrifted 29 = .ok (.getfield 34, 3) := dk_180 0 34 (dk_at dksX9_mostDrifted_1 5 rfl rfl)
theorem dX9_mostDrifted_32 : decode cX9_mostDrifted 32 = .ok (.iload_n 1, 1) := dk_27 (dk_at dksX9_mostDrifted_1 8 rfl rfl)
theorem dX9_mostDrifted_33 : decode cX9_mostDrifted 33 = .ok (.iconst 2, 1) := dk_5 (dk_at dksX9_mostDrifted_1 9 rfl rfl)
theorem dX9_mostDrifted_34 : decode cX9_mostDrifted 34 = .ok (.idiv, 1) := dk_108 (dk_at dksX9_mostDrifted_1 10 rfl rfl)
theorem dX9_mostDrifted_35 : decode cX9_mostDrifted 35 = .ok (.iload_n 1, 1) := dk_27 (dk_at dksX9_mostDrifted_1 11 rfl rfl)
theorem dX9_mostDrifted_36 : decode cX9_mostDrifted 36 = .ok (.iconst 2, 1) := dk_5 (dk_at dksX9_mostDrifted_1 12 rfl rfl)
theorem dX9_mostDrifted_37 : decode cX9_mostDrifted 37 = .ok (.irem, 1) := dk_112 (dk_at dksX9_mostDrifted_1 13 rfl rfl)
theorem dX9_mostDrifted_38 : decode cX9_mostDrifted 38 = .ok (.invokestatic 199, 3) := dk_184 0 199 (dk_at dksX9_mostDrifted_1 14 rfl rfl)
theorem dX9_mostDrifted_41 : decode cX9_mostDrifted 41 = .ok (.iaload, 1) := dk_46 (dk_at dksX9_mostDrifted_1 17 rfl rfl)
theorem dX9_mostDrifted_42 : decode cX9_mostDrifted 42 = .ok (.if_icmp .le 7, 3) := dk_164 0 7 (dk_at dksX9_mostDrifted_1 18 rfl rfl)
theorem dX9_mostDrifted_45 : decode cX9_mostDrifted 45 = .ok (.iload_n 2, 1) := dk_28 (dk_at dksX9_mostDrifted_1 21 rfl rfl)
theorem dX9_mostDrifted_46 : decode cX9_mostDrifted 46 = .ok (.goto 4, 3) := dk_167 0 4 (dk_at dksX9_mostDrifted_2 0 rfl rfl)
theorem dX9_mostDrifted_49 : decode cX9_mostDrifted 49 = .ok (.iload_n 1, 1) := dk_27 (dk_at dksX9_mostDrifted_2 3 rfl rfl)
theorem dX9_mostDrifted_50 : decode cX9_mostDrifted 50 = .ok (.istore_n 1, 1) := dk_60 (dk_at dksX9_mostDrifted_2 4 rfl rfl)
theorem dX9_mostDrifted_51 : decode cX9_mostDrifted 51 = .ok (.iinc 2 1, 3) := dk_132 2 1 (dk_at dksX9_mostDrifted_2 5 rfl rfl)
theorem dX9_mostDrifted_54 : decode cX9_mostDrifted 54 = .ok (.goto (-50), 3) := dk_167 255 206 (dk_at dksX9_mostDrifted_2 8 rfl rfl)
theorem dX9_mostDrifted_57 : decode cX9_mostDrifted 57 = .ok (.bipush 10, 2) := dk_16 10 (dk_at dksX9_mostDrifted_2 11 rfl rfl)
theorem dX9_mostDrifted_59 : decode cX9_mostDrifted 59 = .ok (.iload_n 1, 1) := dk_27 (dk_at dksX9_mostDrifted_2 13 rfl rfl)
theorem dX9_mostDrifted_60 : decode cX9_mostDrifted 60 = .ok (.iconst 2, 1) := dk_5 (dk_at dksX9_mostDrifted_2 14 rfl rfl)
theorem dX9_mostDrifted_61 : decode cX9_mostDrifted 61 = .ok (.idiv, 1) := dk_108 (dk_at dksX9_mostDrifted_2 15 rfl rfl)
theorem dX9_mostDrifted_62 : decode cX9_mostDrifted 62 = .ok (.imul, 1) := dk_104 (dk_at dksX9_mostDrifted_2 16 rfl rfl)
theorem dX9_mostDrifted_63 : decode cX9_mostDrifted 63 = .ok (.iload_n 1, 1) := dk_27 (dk_at dksX9_mostDrifted_2 17 rfl rfl)
theorem dX9_mostDrifted_64 : decode cX9_mostDrifted 64 = .ok (.iconst 2, 1) := dk_5 (dk_at dksX9_mostDrifted_2 18 rfl rfl)
theorem dX9_mostDrifted_65 : decode cX9_mostDrifted 65 = .ok (.irem, 1) := dk_112 (dk_at dksX9_mostDrifted_2 19 rfl rfl)
theorem dX9_mostDrifted_66 : decode cX9_mostDrifted 66 = .ok (.iadd, 1) := dk_96 (dk_at dksX9_mostDrifted_2 20 rfl rfl)
theorem dX9_mostDrifted_67 : decode cX9_mostDrifted 67 = .ok (.ireturn, 1) := dk_172 (dk_at dksX9_mostDrifted_2 21 rfl rfl)
abbrev cX9_greatestTotal : ByteArray := prog_28_method_110_code
def yX9_greatestTotal : MethodName := ⟨RX9, "greatestTotal", "()I"⟩
def dkwX9_greatestTotal_2 : List UInt8 := [132, 3, 1, 167, 255, 222, 132, 2, 1, 167, 255, 204, 27, 172]
abbrev dktX9_greatestTotal_2 : List UInt8 := dkwX9_greatestTotal_2 ++ []
def dkwX9_greatestTotal_1 : List UInt8 := [182, 0, 238, 162, 0, 26, 27, 42, 28, 5, 108, 28, 5, 112, 29, 5, 182, 0, 241, 184, 0, 202, 60]
abbrev dktX9_greatestTotal_1 : List UInt8 := dkwX9_greatestTotal_1 ++ dktX9_greatestTotal_2
def dkwX9_greatestTotal_0 : List UInt8 := [3, 60, 3, 61, 28, 5, 42, 180, 0, 150, 104, 162, 0, 48, 3, 62, 29, 42, 28, 5, 108, 28, 5, 112]
abbrev dktX9_greatestTotal_0 : List UInt8 := dkwX9_greatestTotal_0 ++ dktX9_greatestTotal_1
theorem dksX9_greatestTotal_0 : cX9_greatestTotal.data.toList.drop 0 = dktX9_greatestTotal_0 := by decide +kernel
theorem dksX9_greatestTotal_1 : cX9_greatestTotal.data.toList.drop 24 = dktX9_greatestTotal_1 := dk_seg dksX9_greatestTotal_0 24 rfl rfl
theorem dksX9_greatestTotal_2 : cX9_greatestTotal.data.toList.drop 47 = dktX9_greatestTotal_2 := dk_seg dksX9_greatestTotal_1 23 rfl rfl
theorem dX9_greatestTotal_0 : decode cX9_greatestTotal 0 = .ok (.iconst 0, 1) := dk_3 (dk_at dksX9_greatestTotal_0 0 rfl rfl)
theorem dX9_greatestTotal_1 : decode cX9_greatestTotal 1 = .ok (.istore_n 1, 1) := dk_60 (dk_at dksX9_greatestTotal_0 1 rfl rfl)
theorem dX9_greatestTotal_2 : decode cX9_greatestTotal 2 = .ok (.iconst 0, 1) := dk_3 (dk_at dksX9_greatestTotal_0 2 rfl rfl)
theorem dX9_greatestTotal_3 : decode cX9_greatestTotal 3 = .ok (.istore_n 2, 1) := dk_61 (dk_at dksX9_greatestTotal_0 3 rfl rfl)
theorem dX9_greatestTotal_4 : decode cX9_greatestTotal 4 = .ok (.iload_n 2, 1) := dk_28 (dk_at dksX9_greatestTotal_0 4 rfl rfl)
theorem dX9_greatestTotal_5 : decode cX9_greatestTotal 5 = .ok (.iconst 2, 1) := dk_5 (dk_at dksX9_greatestTotal_0 5 rfl rfl)
theorem dX9_greatestTotal_6 : decode cX9_greatestTotal 6 = .ok (.aload_n 0, 1) := dk_42 (dk_at dksX9_greatestTotal_0 6 rfl rfl)
theorem dX9_greatestTotal_7 : decode cX9_greatestTotal 7 = .ok (.getfield 150, 3) := dk_180 0 150 (dk_at dksX9_greatestTotal_0 7 rfl rfl)
theorem dX9_greatestTotal_10 : decode cX9_greatestTotal 10 = .ok (.imul, 1) := dk_104 (dk_at dksX9_greatestTotal_0 10 rfl rfl)
theorem dX9_greatestTotal_11 : decode cX9_greatestTotal 11 = .ok (.if_icmp .ge 48, 3) := dk_162 0 48 (dk_at dksX9_greatestTotal_0 11 rfl rfl)
theorem dX9_greatestTotal_14 : decode cX9_greatestTotal 14 = .ok (.iconst 0, 1) := dk_3 (dk_at dksX9_greatestTotal_0 14 rfl rfl)
theorem dX9_greatestTotal_15 : decode cX9_greatestTotal 15 = .ok (.istore_n 3, 1) := dk_62 (dk_at dksX9_greatestTotal_0 15 rfl rfl)
theorem dX9_greatestTotal_16 : decode cX9_greatestTotal 16 = .ok (.iload_n 3, 1) := dk_29 (dk_at dksX9_greatestTotal_0 16 rfl rfl)
theorem dX9_greatestTotal_17 : decode cX9_greatestTotal 17 = .ok (.aload_n 0, 1) := dk_42 (dk_at dksX9_greatestTotal_0 17 rfl rfl)
theorem dX9_greatestTotal_18 : decode cX9_greatestTotal 18 = .ok (.iload_n 2, 1) := dk_28 (dk_at dksX9_greatestTotal_0 18 rfl rfl)
theorem dX9_greatestTotal_19 : decode cX9_greatestTotal 19 = .ok (.iconst 2, 1) := dk_5 (dk_at dksX9_greatestTotal_0 19 rfl rfl)
theorem dX9_greatestTotal_20 : decode cX9_greatestTotal 20 = .ok (.idiv, 1) := dk_108 (dk_at dksX9_greatestTotal_0 20 rfl rfl)
theorem dX9_greatestTotal_21 : decode cX9_greatestTotal 21 = .ok (.iload_n 2, 1) := dk_28 (dk_at dksX9_greatestTotal_0 21 rfl rfl)
theorem dX9_greatestTotal_22 : decode cX9_greatestTotal 22 = .ok (.iconst 2, 1) := dk_5 (dk_at dksX9_greatestTotal_0 22 rfl rfl)
theorem dX9_greatestTotal_23 : decode cX9_greatestTotal 23 = .ok (.irem, 1) := dk_112 (dk_at dksX9_greatestTotal_0 23 rfl rfl)
theorem dX9_greatestTotal_24 : decode cX9_greatestTotal 24 = .ok (.invokevirtual 238, 3) := dk_182 0 238 (dk_at dksX9_greatestTotal_1 0 rfl rfl)
theorem dX9_greatestTotal_27 : decode cX9_greatestTotal 27 = .ok (.if_icmp .ge 26, 3) := dk_162 0 26 (dk_at dksX9_greatestTotal_1 3 rfl rfl)
theorem dX9_greatestTotal_30 : decode cX9_greatestTotal 30 = .ok (.iload_n 1, 1) := dk_27 (dk_at dksX9_greatestTotal_1 6 rfl rfl)
theorem dX9_greatestTotal_31 : decode cX9_greatestTotal 31 = .ok (.aload_n 0, 1) := dk_42 (dk_at dksX9_greatestTotal_1 7 rfl rfl)
theorem dX9_greatestTotal_32 : decode cX9_greatestTotal 32 = .ok (.iload_n 2, 1) := dk_28 (dk_at dksX9_greatestTotal_1 8 rfl rfl)
theorem dX9_greatestTotal_33 : decode cX9_greatestTotal 33 = .ok (.iconst 2, 1) := dk_5 (dk_at dksX9_greatestTotal_1 9 rfl rfl)
theorem dX9_greatestTotal_34 : decode cX9_greatestTotal 34 = .ok (.idiv, 1) := dk_108 (dk_at dksX9_greatestTotal_1 10 rfl rfl)
theorem dX9_greatestTotal_35 : decode cX9_greatestTotal 35 = .ok (.iload_n 2, 1) := dk_28 (dk_at dksX9_greatestTotal_1 11 rfl rfl)
theorem dX9_greatestTotal_36 : decode cX9_greatestTotal 36 = .ok (.iconst 2, 1) := dk_5 (dk_at dksX9_greatestTotal_1 12 rfl rfl)
theorem dX9_greatestTotal_37 : decode cX9_greatestTotal 37 = .ok (.irem, 1) := dk_112 (dk_at dksX9_greatestTotal_1 13 rfl rfl)
theorem dX9_greatestTotal_38 : decode cX9_greatestTotal 38 = .ok (.iload_n 3, 1) := dk_29 (dk_at dksX9_greatestTotal_1 14 rfl rfl)
theorem dX9_greatestTotal_39 : decode cX9_greatestTotal 39 = .ok (.iconst 2, 1) := dk_5 (dk_at dksX9_greatestTotal_1 15 rfl rfl)
theorem dX9_greatestTotal_40 : decode cX9_greatestTotal 40 = .ok (.invokevirtual 241, 3) := dk_182 0 241 (dk_at dksX9_greatestTotal_1 16 rfl rfl)
theorem dX9_greatestTotal_43 : decode cX9_greatestTotal 43 = .ok (.invokestatic 202, 3) := dk_184 0 202 (dk_at dksX9_greatestTotal_1 19 rfl rfl)
theorem dX9_greatestTotal_46 : decode cX9_greatestTotal 46 = .ok (.istore_n 1, 1) := dk_60 (dk_at dksX9_greatestTotal_1 22 rfl rfl)
theorem dX9_greatestTotal_47 : decode cX9_greatestTotal 47 = .ok (.iinc 3 1, 3) := dk_132 3 1 (dk_at dksX9_greatestTotal_2 0 rfl rfl)
theorem dX9_greatestTotal_50 : decode cX9_greatestTotal 50 = .ok (.goto (-34), 3) := dk_167 255 222 (dk_at dksX9_greatestTotal_2 3 rfl rfl)
theorem dX9_greatestTotal_53 : decode cX9_greatestTotal 53 = .ok (.iinc 2 1, 3) := dk_132 2 1 (dk_at dksX9_greatestTotal_2 6 rfl rfl)
theorem dX9_greatestTotal_56 : decode cX9_greatestTotal 56 = .ok (.goto (-52), 3) := dk_167 255 204 (dk_at dksX9_greatestTotal_2 9 rfl rfl)
theorem dX9_greatestTotal_59 : decode cX9_greatestTotal 59 = .ok (.iload_n 1, 1) := dk_27 (dk_at dksX9_greatestTotal_2 12 rfl rfl)
theorem dX9_greatestTotal_60 : decode cX9_greatestTotal 60 = .ok (.ireturn, 1) := dk_172 (dk_at dksX9_greatestTotal_2 13 rfl rfl)
abbrev cX9_mostAlike : ByteArray := prog_28_method_111_code
def yX9_mostAlike : MethodName := ⟨RX9, "mostAlike", "()I"⟩
def dkwX9_mostAlike_2 : List UInt8 := [167, 255, 213, 27, 172]
abbrev dktX9_mostAlike_2 : List UInt8 := dkwX9_mostAlike_2 ++ []
def dkwX9_mostAlike_1 : List UInt8 := [180, 0, 34, 17, 1, 101, 28, 104, 29, 96, 46, 184, 0, 202, 60, 132, 3, 1, 167, 255, 229, 132, 2, 1]
abbrev dktX9_mostAlike_1 : List UInt8 := dkwX9_mostAlike_1 ++ dktX9_mostAlike_2
def dkwX9_mostAlike_0 : List UInt8 := [3, 60, 3, 61, 28, 42, 180, 0, 150, 162, 0, 41, 3, 62, 29, 17, 1, 33, 162, 0, 26, 27, 42]
abbrev dktX9_mostAlike_0 : List UInt8 := dkwX9_mostAlike_0 ++ dktX9_mostAlike_1
theorem dksX9_mostAlike_0 : cX9_mostAlike.data.toList.drop 0 = dktX9_mostAlike_0 := by decide +kernel
theorem dksX9_mostAlike_1 : cX9_mostAlike.data.toList.drop 23 = dktX9_mostAlike_1 := dk_seg dksX9_mostAlike_0 23 rfl rfl
theorem dksX9_mostAlike_2 : cX9_mostAlike.data.toList.drop 47 = dktX9_mostAlike_2 := dk_seg dksX9_mostAlike_1 24 rfl rfl
theorem dX9_mostAlike_0 : decode cX9_mostAlike 0 = .ok (.iconst 0, 1) := dk_3 (dk_at dksX9_mostAlike_0 0 rfl rfl)
theorem dX9_mostAlike_1 : decode cX9_mostAlike 1 = .ok (.istore_n 1, 1) := dk_60 (dk_at dksX9_mostAlike_0 1 rfl rfl)
theorem dX9_mostAlike_2 : decode cX9_mostAlike 2 = .ok (.iconst 0, 1) := dk_3 (dk_at dksX9_mostAlike_0 2 rfl rfl)
theorem dX9_mostAlike_3 : decode cX9_mostAlike 3 = .ok (.istore_n 2, 1) := dk_61 (dk_at dksX9_mostAlike_0 3 rfl rfl)
theorem dX9_mostAlike_4 : decode cX9_mostAlike 4 = .ok (.iload_n 2, 1) := dk_28 (dk_at dksX9_mostAlike_0 4 rfl rfl)
theorem dX9_mostAlike_5 : decode cX9_mostAlike 5 = .ok (.aload_n 0, 1) := dk_42 (dk_at dksX9_mostAlike_0 5 rfl rfl)
theorem dX9_mostAlike_6 : decode cX9_mostAlike 6 = .ok (.getfield 150, 3) := dk_180 0 150 (dk_at dksX9_mostAlike_0 6 rfl rfl)
theorem dX9_mostAlike_9 : decode cX9_mostAlike 9 = .ok (.if_icmp .ge 41, 3) := dk_162 0 41 (dk_at dksX9_mostAlike_0 9 rfl rfl)
theorem dX9_mostAlike_12 : decode cX9_mostAlike 12 = .ok (.iconst 0, 1) := dk_3 (dk_at dksX9_mostAlike_0 12 rfl rfl)
theorem dX9_mostAlike_13 : decode cX9_mostAlike 13 = .ok (.istore_n 3, 1) := dk_62 (dk_at dksX9_mostAlike_0 13 rfl rfl)
theorem dX9_mostAlike_14 : decode cX9_mostAlike 14 = .ok (.iload_n 3, 1) := dk_29 (dk_at dksX9_mostAlike_0 14 rfl rfl)
theorem dX9_mostAlike_15 : decode cX9_mostAlike 15 = .ok (.sipush 289, 3) := dk_17 1 33 (dk_at dksX9_mostAlike_0 15 rfl rfl)
theorem dX9_mostAlike_18 : decode cX9_mostAlike 18 = .ok (.if_icmp .ge 26, 3) := dk_162 0 26 (dk_at dksX9_mostAlike_0 18 rfl rfl)
theorem dX9_mostAlike_21 : decode cX9_mostAlike 21 = .ok (.iload_n 1, 1) := dk_27 (dk_at dksX9_mostAlike_0 21 rfl rfl)
theorem dX9_mostAlike_22 : decode cX9_mostAlike 22 = .ok (.aload_n 0, 1) := dk_42 (dk_at dksX9_mostAlike_0 22 rfl rfl)
theorem dX9_mostAlike_23 : decode cX9_mostAlike 23 = .ok (.getfield 34, 3) := dk_180 0 34 (dk_at dksX9_mostAlike_1 0 rfl rfl)
theorem dX9_mostAlike_26 : decode cX9_mostAlike 26 = .ok (.sipush 357, 3) := dk_17 1 101 (dk_at dksX9_mostAlike_1 3 rfl rfl)
theorem dX9_mostAlike_29 : decode cX9_mostAlike 29 = .ok (.iload_n 2, 1) := dk_28 (dk_at dksX9_mostAlike_1 6 rfl rfl)
theorem dX9_mostAlike_30 : decode cX9_mostAlike 30 = .ok (.imul, 1) := dk_104 (dk_at dksX9_mostAlike_1 7 rfl rfl)
theorem dX9_mostAlike_31 : decode cX9_mostAlike 31 = .ok (.iload_n 3, 1) := dk_29 (dk_at dksX9_mostAlike_1 8 rfl rfl)
theorem dX9_mostAlike_32 : decode cX9_mostAlike 32 = .ok (.iadd, 1) := dk_96 (dk_at dksX9_mostAlike_1 9 rfl rfl)
theorem dX9_mostAlike_33 : decode cX9_mostAlike 33 = .ok (.iaload, 1) := dk_46 (dk_at dksX9_mostAlike_1 10 rfl rfl)
theorem dX9_mostAlike_34 : decode cX9_mostAlike 34 = .ok (.invokestatic 202, 3) := dk_184 0 202 (dk_at dksX9_mostAlike_1 11 rfl rfl)
theorem dX9_mostAlike_37 : decode cX9_mostAlike 37 = .ok (.istore_n 1, 1) := dk_60 (dk_at dksX9_mostAlike_1 14 rfl rfl)
theorem dX9_mostAlike_38 : decode cX9_mostAlike 38 = .ok (.iinc 3 1, 3) := dk_132 3 1 (dk_at dksX9_mostAlike_1 15 rfl rfl)
theorem dX9_mostAlike_41 : decode cX9_mostAlike 41 = .ok (.goto (-27), 3) := dk_167 255 229 (dk_at dksX9_mostAlike_1 18 rfl rfl)
theorem dX9_mostAlike_44 : decode cX9_mostAlike 44 = .ok (.iinc 2 1, 3) := dk_132 2 1 (dk_at dksX9_mostAlike_1 21 rfl rfl)
theorem dX9_mostAlike_47 : decode cX9_mostAlike 47 = .ok (.goto (-43), 3) := dk_167 255 213 (dk_at dksX9_mostAlike_2 0 rfl rfl)
theorem dX9_mostAlike_50 : decode cX9_mostAlike 50 = .ok (.iload_n 1, 1) := dk_27 (dk_at dksX9_mostAlike_2 3 rfl rfl)
theorem dX9_mostAlike_51 : decode cX9_mostAlike 51 = .ok (.ireturn, 1) := dk_172 (dk_at dksX9_mostAlike_2 4 rfl rfl)
abbrev cX9_commonest : ByteArray := prog_28_method_112_code
def yX9_commonest : MethodName := ⟨RX9, "commonest", "()I"⟩
def dkwX9_commonest_2 : List UInt8 := [29, 60, 21, 5, 61, 132, 4, 1, 167, 255, 216, 132, 3, 1, 167, 255, 201, 27, 172]
abbrev dktX9_commonest_2 : List UInt8 := dkwX9_commonest_2 ++ []
def dkwX9_commonest_1 : List UInt8 := [162, 0, 35, 42, 21, 4, 5, 108, 21, 4, 5, 112, 29, 182, 1, 119, 54, 5, 21, 5, 28, 164, 0, 8]
abbrev dktX9_commonest_1 : List UInt8 := dkwX9_commonest_1 ++ dktX9_commonest_2
def dkwX9_commonest_0 : List UInt8 := [3, 60, 2, 61, 3, 62, 29, 16, 16, 162, 0, 55, 3, 54, 4, 21, 4, 5, 42, 180, 0, 150, 104]
abbrev dktX9_commonest_0 : List UInt8 := dkwX9_commonest_0 ++ dktX9_commonest_1
theorem dksX9_commonest_0 : cX9_commonest.data.toList.drop 0 = dktX9_commonest_0 := by decide +kernel
theorem dksX9_commonest_1 : cX9_commonest.data.toList.drop 23 = dktX9_commonest_1 := dk_seg dksX9_commonest_0 23 rfl rfl
theorem dksX9_commonest_2 : cX9_commonest.data.toList.drop 47 = dktX9_commonest_2 := dk_seg dksX9_commonest_1 24 rfl rfl
theorem dX9_commonest_0 : decode cX9_commonest 0 = .ok (.iconst 0, 1) := dk_3 (dk_at dksX9_commonest_0 0 rfl rfl)
theorem dX9_commonest_1 : decode cX9_commonest 1 = .ok (.istore_n 1, 1) := dk_60 (dk_at dksX9_commonest_0 1 rfl rfl)
theorem dX9_commonest_2 : decode cX9_commonest 2 = .ok (.iconst (-1), 1) := dk_2 (dk_at dksX9_commonest_0 2 rfl rfl)
theorem dX9_commonest_3 : decode cX9_commonest 3 = .ok (.istore_n 2, 1) := dk_61 (dk_at dksX9_commonest_0 3 rfl rfl)
theorem dX9_commonest_4 : decode cX9_commonest 4 = .ok (.iconst 0, 1) := dk_3 (dk_at dksX9_commonest_0 4 rfl rfl)
theorem dX9_commonest_5 : decode cX9_commonest 5 = .ok (.istore_n 3, 1) := dk_62 (dk_at dksX9_commonest_0 5 rfl rfl)
theorem dX9_commonest_6 : decode cX9_commonest 6 = .ok (.iload_n 3, 1) := dk_29 (dk_at dksX9_commonest_0 6 rfl rfl)
theorem dX9_commonest_7 : decode cX9_commonest 7 = .ok (.bipush 16, 2) := dk_16 16 (dk_at dksX9_commonest_0 7 rfl rfl)
theorem dX9_commonest_9 : decode cX9_commonest 9 = .ok (.if_icmp .ge 55, 3) := dk_162 0 55 (dk_at dksX9_commonest_0 9 rfl rfl)
theorem dX9_commonest_12 : decode cX9_commonest 12 = .ok (.iconst 0, 1) := dk_3 (dk_at dksX9_commonest_0 12 rfl rfl)
theorem dX9_commonest_13 : decode cX9_commonest 13 = .ok (.istore 4, 2) := dk_54 4 (dk_at dksX9_commonest_0 13 rfl rfl)
theorem dX9_commonest_15 : decode cX9_commonest 15 = .ok (.iload 4, 2) := dk_21 4 (dk_at dksX9_commonest_0 15 rfl rfl)
theorem dX9_commonest_17 : decode cX9_commonest 17 = .ok (.iconst 2, 1) := dk_5 (dk_at dksX9_commonest_0 17 rfl rfl)
theorem dX9_commonest_18 : decode cX9_commonest 18 = .ok (.aload_n 0, 1) := dk_42 (dk_at dksX9_commonest_0 18 rfl rfl)
theorem dX9_commonest_19 : decode cX9_commonest 19 = .ok (.getfield 150, 3) := dk_180 0 150 (dk_at dksX9_commonest_0 19 rfl rfl)
theorem dX9_commonest_22 : decode cX9_commonest 22 = .ok (.imul, 1) := dk_104 (dk_at dksX9_commonest_0 22 rfl rfl)
theorem dX9_commonest_23 : decode cX9_commonest 23 = .ok (.if_icmp .ge 35, 3) := dk_162 0 35 (dk_at dksX9_commonest_1 0 rfl rfl)
theorem dX9_commonest_26 : decode cX9_commonest 26 = .ok (.aload_n 0, 1) := dk_42 (dk_at dksX9_commonest_1 3 rfl rfl)
theorem dX9_commonest_27 : decode cX9_commonest 27 = .ok (.iload 4, 2) := dk_21 4 (dk_at dksX9_commonest_1 4 rfl rfl)
theorem dX9_commonest_29 : decode cX9_commonest 29 = .ok (.iconst 2, 1) := dk_5 (dk_at dksX9_commonest_1 6 rfl rfl)
theorem dX9_commonest_30 : decode cX9_commonest 30 = .ok (.idiv, 1) := dk_108 (dk_at dksX9_commonest_1 7 rfl rfl)
theorem dX9_commonest_31 : decode cX9_commonest 31 = .ok (.iload 4, 2) := dk_21 4 (dk_at dksX9_commonest_1 8 rfl rfl)
theorem dX9_commonest_33 : decode cX9_commonest 33 = .ok (.iconst 2, 1) := dk_5 (dk_at dksX9_commonest_1 10 rfl rfl)
theorem dX9_commonest_34 : decode cX9_commonest 34 = .ok (.irem, 1) := dk_112 (dk_at dksX9_commonest_1 11 rfl rfl)
theorem dX9_commonest_35 : decode cX9_commonest 35 = .ok (.iload_n 3, 1) := dk_29 (dk_at dksX9_commonest_1 12 rfl rfl)
theorem dX9_commonest_36 : decode cX9_commonest 36 = .ok (.invokevirtual 375, 3) := dk_182 1 119 (dk_at dksX9_commonest_1 13 rfl rfl)
theorem dX9_commonest_39 : decode cX9_commonest 39 = .ok (.istore 5, 2) := dk_54 5 (dk_at dksX9_commonest_1 16 rfl rfl)
theorem dX9_commonest_41 : decode cX9_commonest 41 = .ok (.iload 5, 2) := dk_21 5 (dk_at dksX9_commonest_1 18 rfl rfl)
theorem dX9_commonest_43 : decode cX9_commonest 43 = .ok (.iload_n 2, 1) := dk_28 (dk_at dksX9_commonest_1 20 rfl rfl)
theorem dX9_commonest_44 : decode cX9_commonest 44 = .ok (.if_icmp .le 8, 3) := dk_164 0 8 (dk_at dksX9_commonest_1 21 rfl rfl)
theorem dX9_commonest_47 : decode cX9_commonest 47 = .ok (.iload_n 3, 1) := dk_29 (dk_at dksX9_commonest_2 0 rfl rfl)
theorem dX9_commonest_48 : decode cX9_commonest 48 = .ok (.istore_n 1, 1) := dk_60 (dk_at dksX9_commonest_2 1 rfl rfl)
theorem dX9_commonest_49 : decode cX9_commonest 49 = .ok (.iload 5, 2) := dk_21 5 (dk_at dksX9_commonest_2 2 rfl rfl)
theorem dX9_commonest_51 : decode cX9_commonest 51 = .ok (.istore_n 2, 1) := dk_61 (dk_at dksX9_commonest_2 4 rfl rfl)
theorem dX9_commonest_52 : decode cX9_commonest 52 = .ok (.iinc 4 1, 3) := dk_132 4 1 (dk_at dksX9_commonest_2 5 rfl rfl)
theorem dX9_commonest_55 : decode cX9_commonest 55 = .ok (.goto (-40), 3) := dk_167 255 216 (dk_at dksX9_commonest_2 8 rfl rfl)
theorem dX9_commonest_58 : decode cX9_commonest 58 = .ok (.iinc 3 1, 3) := dk_132 3 1 (dk_at dksX9_commonest_2 11 rfl rfl)
theorem dX9_commonest_61 : decode cX9_commonest 61 = .ok (.goto (-55), 3) := dk_167 255 201 (dk_at dksX9_commonest_2 14 rfl rfl)
theorem dX9_commonest_64 : decode cX9_commonest 64 = .ok (.iload_n 1, 1) := dk_27 (dk_at dksX9_commonest_2 17 rfl rfl)
theorem dX9_commonest_65 : decode cX9_commonest 65 = .ok (.ireturn, 1) := dk_172 (dk_at dksX9_commonest_2 18 rfl rfl)
abbrev cX9_image : ByteArray := prog_28_method_114_code
def yX9_image : MethodName := ⟨RX9, "image", "()I"⟩
def dkwX9_image_1 : List UInt8 := [180, 0, 34, 27, 46, 79, 132, 1, 1, 167, 255, 234, 42, 4, 181, 0, 215, 42, 182, 1, 62, 172]
abbrev dktX9_image_1 : List UInt8 := dkwX9_image_1 ++ []
def dkwX9_image_0 : List UInt8 := [42, 182, 0, 225, 154, 0, 5, 2, 172, 3, 60, 27, 17, 4, 229, 162, 0, 21, 42, 180, 0, 63, 27, 42]
abbrev dktX9_image_0 : List UInt8 := dkwX9_image_0 ++ dktX9_image_1
theorem dksX9_image_0 : cX9_image.data.toList.drop 0 = dktX9_image_0 := by decide +kernel
theorem dksX9_image_1 : cX9_image.data.toList.drop 24 = dktX9_image_1 := dk_seg dksX9_image_0 24 rfl rfl
theorem dX9_image_0 : decode cX9_image 0 = .ok (.aload_n 0, 1) := dk_42 (dk_at dksX9_image_0 0 rfl rfl)
theorem dX9_image_1 : decode cX9_image 1 = .ok (.invokevirtual 225, 3) := dk_182 0 225 (dk_at dksX9_image_0 1 rfl rfl)
theorem dX9_image_4 : decode cX9_image 4 = .ok (.ifCond .ne 5, 3) := dk_154 0 5 (dk_at dksX9_image_0 4 rfl rfl)
theorem dX9_image_7 : decode cX9_image 7 = .ok (.iconst (-1), 1) := dk_2 (dk_at dksX9_image_0 7 rfl rfl)
theorem dX9_image_8 : decode cX9_image 8 = .ok (.ireturn, 1) := dk_172 (dk_at dksX9_image_0 8 rfl rfl)
theorem dX9_image_9 : decode cX9_image 9 = .ok (.iconst 0, 1) := dk_3 (dk_at dksX9_image_0 9 rfl rfl)
theorem dX9_image_10 : decode cX9_image 10 = .ok (.istore_n 1, 1) := dk_60 (dk_at dksX9_image_0 10 rfl rfl)
theorem dX9_image_11 : decode cX9_image 11 = .ok (.iload_n 1, 1) := dk_27 (dk_at dksX9_image_0 11 rfl rfl)
theorem dX9_image_12 : decode cX9_image 12 = .ok (.sipush 1253, 3) := dk_17 4 229 (dk_at dksX9_image_0 12 rfl rfl)
theorem dX9_image_15 : decode cX9_image 15 = .ok (.if_icmp .ge 21, 3) := dk_162 0 21 (dk_at dksX9_image_0 15 rfl rfl)
theorem dX9_image_18 : decode cX9_image 18 = .ok (.aload_n 0, 1) := dk_42 (dk_at dksX9_image_0 18 rfl rfl)
theorem dX9_image_19 : decode cX9_image 19 = .ok (.getfield 63, 3) := dk_180 0 63 (dk_at dksX9_image_0 19 rfl rfl)
theorem dX9_image_22 : decode cX9_image 22 = .ok (.iload_n 1, 1) := dk_27 (dk_at dksX9_image_0 22 rfl rfl)
theorem dX9_image_23 : decode cX9_image 23 = .ok (.aload_n 0, 1) := dk_42 (dk_at dksX9_image_0 23 rfl rfl)
theorem dX9_image_24 : decode cX9_image 24 = .ok (.getfield 34, 3) := dk_180 0 34 (dk_at dksX9_image_1 0 rfl rfl)
theorem dX9_image_27 : decode cX9_image 27 = .ok (.iload_n 1, 1) := dk_27 (dk_at dksX9_image_1 3 rfl rfl)
theorem dX9_image_28 : decode cX9_image 28 = .ok (.iaload, 1) := dk_46 (dk_at dksX9_image_1 4 rfl rfl)
theorem dX9_image_29 : decode cX9_image 29 = .ok (.iastore, 1) := dk_79 (dk_at dksX9_image_1 5 rfl rfl)
theorem dX9_image_30 : decode cX9_image 30 = .ok (.iinc 1 1, 3) := dk_132 1 1 (dk_at dksX9_image_1 6 rfl rfl)
theorem dX9_image_33 : decode cX9_image 33 = .ok (.goto (-22), 3) := dk_167 255 234 (dk_at dksX9_image_1 9 rfl rfl)
theorem dX9_image_36 : decode cX9_image 36 = .ok (.aload_n 0, 1) := dk_42 (dk_at dksX9_image_1 12 rfl rfl)
theorem dX9_image_37 : decode cX9_image 37 = .ok (.iconst 1, 1) := dk_4 (dk_at dksX9_image_1 13 rfl rfl)
theorem dX9_image_38 : decode cX9_image 38 = .ok (.putfield 215, 3) := dk_181 0 215 (dk_at dksX9_image_1 14 rfl rfl)
theorem dX9_image_41 : decode cX9_image 41 = .ok (.aload_n 0, 1) := dk_42 (dk_at dksX9_image_1 17 rfl rfl)
theorem dX9_image_42 : decode cX9_image 42 = .ok (.invokevirtual 318, 3) := dk_182 1 62 (dk_at dksX9_image_1 18 rfl rfl)
theorem dX9_image_45 : decode cX9_image 45 = .ok (.ireturn, 1) := dk_172 (dk_at dksX9_image_1 21 rfl rfl)
abbrev cX9_back : ByteArray := prog_28_method_115_code
def yX9_back : MethodName := ⟨RX9, "back", "()I"⟩
def dkwX9_back_1 : List UInt8 := [180, 0, 63, 27, 46, 79, 132, 1, 1, 167, 255, 234, 42, 3, 181, 0, 212, 42, 182, 1, 62, 172]
abbrev dktX9_back_1 : List UInt8 := dkwX9_back_1 ++ []
def dkwX9_back_0 : List UInt8 := [42, 180, 0, 215, 154, 0, 5, 2, 172, 3, 60, 27, 17, 4, 229, 162, 0, 21, 42, 180, 0, 34, 27, 42]
abbrev dktX9_back_0 : List UInt8 := dkwX9_back_0 ++ dktX9_back_1
theorem dksX9_back_0 : cX9_back.data.toList.drop 0 = dktX9_back_0 := by decide +kernel
theorem dksX9_back_1 : cX9_back.data.toList.drop 24 = dktX9_back_1 := dk_seg dksX9_back_0 24 rfl rfl
theorem dX9_back_0 : decode cX9_back 0 = .ok (.aload_n 0, 1) := dk_42 (dk_at dksX9_back_0 0 rfl rfl)
theorem dX9_back_1 : decode cX9_back 1 = .ok (.getfield 215, 3) := dk_180 0 215 (dk_at dksX9_back_0 1 rfl rfl)
theorem dX9_back_4 : decode cX9_back 4 = .ok (.ifCond .ne 5, 3) := dk_154 0 5 (dk_at dksX9_back_0 4 rfl rfl)
theorem dX9_back_7 : decode cX9_back 7 = .ok (.iconst (-1), 1) := dk_2 (dk_at dksX9_back_0 7 rfl rfl)
theorem dX9_back_8 : decode cX9_back 8 = .ok (.ireturn, 1) := dk_172 (dk_at dksX9_back_0 8 rfl rfl)
theorem dX9_back_9 : decode cX9_back 9 = .ok (.iconst 0, 1) := dk_3 (dk_at dksX9_back_0 9 rfl rfl)
theorem dX9_back_10 : decode cX9_back 10 = .ok (.istore_n 1, 1) := dk_60 (dk_at dksX9_back_0 10 rfl rfl)
theorem dX9_back_11 : decode cX9_back 11 = .ok (.iload_n 1, 1) := dk_27 (dk_at dksX9_back_0 11 rfl rfl)
theorem dX9_back_12 : decode cX9_back 12 = .ok (.sipush 1253, 3) := dk_17 4 229 (dk_at dksX9_back_0 12 rfl rfl)
theorem dX9_back_15 : decode cX9_back 15 = .ok (.if_icmp .ge 21, 3) := dk_162 0 21 (dk_at dksX9_back_0 15 rfl rfl)
theorem dX9_back_18 : decode cX9_back 18 = .ok (.aload_n 0, 1) := dk_42 (dk_at dksX9_back_0 18 rfl rfl)
theorem dX9_back_19 : decode cX9_back 19 = .ok (.getfield 34, 3) := dk_180 0 34 (dk_at dksX9_back_0 19 rfl rfl)
theorem dX9_back_22 : decode cX9_back 22 = .ok (.iload_n 1, 1) := dk_27 (dk_at dksX9_back_0 22 rfl rfl)
theorem dX9_back_23 : decode cX9_back 23 = .ok (.aload_n 0, 1) := dk_42 (dk_at dksX9_back_0 23 rfl rfl)
theorem dX9_back_24 : decode cX9_back 24 = .ok (.getfield 63, 3) := dk_180 0 63 (dk_at dksX9_back_1 0 rfl rfl)
theorem dX9_back_27 : decode cX9_back 27 = .ok (.iload_n 1, 1) := dk_27 (dk_at dksX9_back_1 3 rfl rfl)
theorem dX9_back_28 : decode cX9_back 28 = .ok (.iaload, 1) := dk_46 (dk_at dksX9_back_1 4 rfl rfl)
theorem dX9_back_29 : decode cX9_back 29 = .ok (.iastore, 1) := dk_79 (dk_at dksX9_back_1 5 rfl rfl)
theorem dX9_back_30 : decode cX9_back 30 = .ok (.iinc 1 1, 3) := dk_132 1 1 (dk_at dksX9_back_1 6 rfl rfl)
theorem dX9_back_33 : decode cX9_back 33 = .ok (.goto (-22), 3) := dk_167 255 234 (dk_at dksX9_back_1 9 rfl rfl)
theorem dX9_back_36 : decode cX9_back 36 = .ok (.aload_n 0, 1) := dk_42 (dk_at dksX9_back_1 12 rfl rfl)
theorem dX9_back_37 : decode cX9_back 37 = .ok (.iconst 0, 1) := dk_3 (dk_at dksX9_back_1 13 rfl rfl)
theorem dX9_back_38 : decode cX9_back 38 = .ok (.putfield 212, 3) := dk_181 0 212 (dk_at dksX9_back_1 14 rfl rfl)
theorem dX9_back_41 : decode cX9_back 41 = .ok (.aload_n 0, 1) := dk_42 (dk_at dksX9_back_1 17 rfl rfl)
theorem dX9_back_42 : decode cX9_back 42 = .ok (.invokevirtual 318, 3) := dk_182 1 62 (dk_at dksX9_back_1 18 rfl rfl)
theorem dX9_back_45 : decode cX9_back 45 = .ok (.ireturn, 1) := dk_172 (dk_at dksX9_back_1 21 rfl rfl)
abbrev cX9_count : ByteArray := prog_28_method_116_code
def yX9_count : MethodName := ⟨RX9, "count", "(I)I"⟩
def dkwX9_count_3 : List UInt8 := [42, 180, 0, 212, 172, 42, 180, 1, 67, 172, 18, 245, 172]
abbrev dktX9_count_3 : List UInt8 := dkwX9_count_3 ++ []
def dkwX9_count_2 : List UInt8 := [42, 180, 0, 150, 172, 42, 180, 0, 222, 172, 42, 180, 0, 74, 172, 42, 180, 0, 34, 17, 4, 48, 46, 172]
abbrev dktX9_count_2 : List UInt8 := dkwX9_count_2 ++ dktX9_count_3
def dkwX9_count_1 : List UInt8 := [170, 0, 0, 0, 0, 0, 73, 0, 0, 0, 0, 0, 0, 0, 5, 0, 0, 0, 39, 0, 0, 0, 44, 0, 0, 0, 49, 0, 0, 0, 54, 0, 0, 0, 63, 0, 0, 0, 68]
abbrev dktX9_count_1 : List UInt8 := dkwX9_count_1 ++ dktX9_count_2
def dkwX9_count_0 : List UInt8 := [27]
abbrev dktX9_count_0 : List UInt8 := dkwX9_count_0 ++ dktX9_count_1
theorem dksX9_count_0 : cX9_count.data.toList.drop 0 = dktX9_count_0 := by decide +kernel
theorem dksX9_count_1 : cX9_count.data.toList.drop 1 = dktX9_count_1 := dk_seg dksX9_count_0 1 rfl rfl
theorem dksX9_count_2 : cX9_count.data.toList.drop 40 = dktX9_count_2 := dk_seg dksX9_count_1 39 rfl rfl
theorem dksX9_count_3 : cX9_count.data.toList.drop 64 = dktX9_count_3 := dk_seg dksX9_count_2 24 rfl rfl
theorem dX9_count_0 : decode cX9_count 0 = .ok (.iload_n 1, 1) := dk_27 (dk_at dksX9_count_0 0 rfl rfl)
theorem dX9_count_1 : decode cX9_count 1 = .ok (.tableswitch 73 0 5 #[39, 44, 49, 54, 63, 68], 39) := by decide +kernel
theorem dX9_count_40 : decode cX9_count 40 = .ok (.aload_n 0, 1) := dk_42 (dk_at dksX9_count_2 0 rfl rfl)
theorem dX9_count_41 : decode cX9_count 41 = .ok (.getfield 150, 3) := dk_180 0 150 (dk_at dksX9_count_2 1 rfl rfl)
theorem dX9_count_44 : decode cX9_count 44 = .ok (.ireturn, 1) := dk_172 (dk_at dksX9_count_2 4 rfl rfl)
theorem dX9_count_45 : decode cX9_count 45 = .ok (.aload_n 0, 1) := dk_42 (dk_at dksX9_count_2 5 rfl rfl)
theorem dX9_count_46 : decode cX9_count 46 = .ok (.getfield 222, 3) := dk_180 0 222 (dk_at dksX9_count_2 6 rfl rfl)
theorem dX9_count_49 : decode cX9_count 49 = .ok (.ireturn, 1) := dk_172 (dk_at dksX9_count_2 9 rfl rfl)
theorem dX9_count_50 : decode cX9_count 50 = .ok (.aload_n 0, 1) := dk_42 (dk_at dksX9_count_2 10 rfl rfl)
theorem dX9_count_51 : decode cX9_count 51 = .ok (.getfield 74, 3) := dk_180 0 74 (dk_at dksX9_count_2 11 rfl rfl)
theorem dX9_count_54 : decode cX9_count 54 = .ok (.ireturn, 1) := dk_172 (dk_at dksX9_count_2 14 rfl rfl)
theorem dX9_count_55 : decode cX9_count 55 = .ok (.aload_n 0, 1) := dk_42 (dk_at dksX9_count_2 15 rfl rfl)
theorem dX9_count_56 : decode cX9_count 56 = .ok (.getfield 34, 3) := dk_180 0 34 (dk_at dksX9_count_2 16 rfl rfl)
theorem dX9_count_59 : decode cX9_count 59 = .ok (.sipush 1072, 3) := dk_17 4 48 (dk_at dksX9_count_2 19 rfl rfl)
theorem dX9_count_62 : decode cX9_count 62 = .ok (.iaload, 1) := dk_46 (dk_at dksX9_count_2 22 rfl rfl)
theorem dX9_count_63 : decode cX9_count 63 = .ok (.ireturn, 1) := dk_172 (dk_at dksX9_count_2 23 rfl rfl)
theorem dX9_count_64 : decode cX9_count 64 = .ok (.aload_n 0, 1) := dk_42 (dk_at dksX9_count_3 0 rfl rfl)
theorem dX9_count_65 : decode cX9_count 65 = .ok (.getfield 212, 3) := dk_180 0 212 (dk_at dksX9_count_3 1 rfl rfl)
theorem dX9_count_68 : decode cX9_count 68 = .ok (.ireturn, 1) := dk_172 (dk_at dksX9_count_3 4 rfl rfl)
theorem dX9_count_69 : decode cX9_count 69 = .ok (.aload_n 0, 1) := dk_42 (dk_at dksX9_count_3 5 rfl rfl)
theorem dX9_count_70 : decode cX9_count 70 = .ok (.getfield 323, 3) := dk_180 1 67 (dk_at dksX9_count_3 6 rfl rfl)
theorem dX9_count_73 : decode cX9_count 73 = .ok (.ireturn, 1) := dk_172 (dk_at dksX9_count_3 9 rfl rfl)
theorem dX9_count_74 : decode cX9_count 74 = .ok (.ldc 245, 2) := dk_18 245 (dk_at dksX9_count_3 10 rfl rfl)
theorem dX9_count_76 : decode cX9_count 76 = .ok (.ireturn, 1) := dk_172 (dk_at dksX9_count_3 12 rfl rfl)
theorem q126 : (Jvm.Cond.initialized "SafeBucketsModel") ∈ lw_all := lw_g (lw_at lw_m1 11 rfl) rfl
theorem q1367 : (Jvm.Cond.selects "SafeBucketsModel" ({ cls := "java/lang/Object", name := "getClass", desc := "()Ljava/lang/Class;" } : Jvm.MethodName) ({ cls := "java/lang/Object", name := "getClass", desc := "()Ljava/lang/Class;" } : Jvm.MethodName)) ∈ lw_all := lw_g (lw_at lw_m6 52 rfl) rfl
theorem q1564 : (Jvm.Cond.instantiable "SafeBucketsModel" (33 : Nat)) ∈ lw_all := lw_g (lw_at lw_m7 9 rfl) rfl
theorem q1566 : (Jvm.Cond.instanceMethod ({ cls := "SafeBucketsModel", name := "<init>", desc := "()V" } : Jvm.MethodName)) ∈ lw_all := lw_g (lw_at lw_m7 11 rfl) rfl
theorem q1567 : (Jvm.Cond.code ({ cls := "SafeBucketsModel", name := "<init>", desc := "()V" } : Jvm.MethodName) prog_28_method_3_code (1 : Nat) (Option.none : Option Jvm.ClassFile.FieldType)) ∈ lw_all := lw_g (lw_at lw_m7 12 rfl) rfl
theorem q1568 : (Jvm.Cond.methodLink "SafeBucketsModel" (3 : Nat) ({ cls := "java/lang/Object", name := "<init>", desc := "()V" } : Jvm.MethodName)) ∈ lw_all := lw_g (lw_at lw_m7 13 rfl) rfl
theorem q1569 : (Jvm.Cond.constant "SafeBucketsModel" (50 : Nat) (50120 : Int32)) ∈ lw_all := lw_g (lw_at lw_m7 14 rfl) rfl
theorem q1570 : (Jvm.Cond.fieldLink "SafeBucketsModel" (66 : Nat) "SafeBucketsModel" "thrown" "I") ∈ lw_all := lw_g (lw_at lw_m7 15 rfl) rfl
theorem q1571 : (Jvm.Cond.fieldLink "SafeBucketsModel" (9 : Nat) "SafeBucketsModel" "tape" "[I") ∈ lw_all := lw_g (lw_at lw_m7 16 rfl) rfl
theorem q1572 : (Jvm.Cond.fieldLink "SafeBucketsModel" (74 : Nat) "SafeBucketsModel" "taped" "I") ∈ lw_all := lw_g (lw_at lw_m7 17 rfl) rfl
theorem q1573 : (Jvm.Cond.fieldLink "SafeBucketsModel" (81 : Nat) "SafeBucketsModel" "at" "I") ∈ lw_all := lw_g (lw_at lw_m7 18 rfl) rfl
theorem q1574 : (Jvm.Cond.fieldLink "SafeBucketsModel" (88 : Nat) "SafeBucketsModel" "wrong" "I") ∈ lw_all := lw_g (lw_at lw_m7 19 rfl) rfl
theorem q1575 : (Jvm.Cond.fieldLink "SafeBucketsModel" (13 : Nat) "SafeBucketsModel" "readRule" "[I") ∈ lw_all := lw_g (lw_at lw_m7 20 rfl) rfl
theorem q1576 : (Jvm.Cond.fieldLink "SafeBucketsModel" (16 : Nat) "SafeBucketsModel" "readTable" "[I") ∈ lw_all := lw_g (lw_at lw_m7 21 rfl) rfl
theorem q1577 : (Jvm.Cond.fieldLink "SafeBucketsModel" (19 : Nat) "SafeBucketsModel" "readRows" "[I") ∈ lw_all := lw_g (lw_at lw_m7 22 rfl) rfl
theorem q1578 : (Jvm.Cond.fieldLink "SafeBucketsModel" (122 : Nat) "SafeBucketsModel" "readTables" "I") ∈ lw_all := lw_g (lw_at lw_m7 23 rfl) rfl
theorem q1579 : (Jvm.Cond.fieldLink "SafeBucketsModel" (125 : Nat) "SafeBucketsModel" "readLines" "I") ∈ lw_all := lw_g (lw_at lw_m7 24 rfl) rfl
theorem q1580 : (Jvm.Cond.fieldLink "SafeBucketsModel" (22 : Nat) "SafeBucketsModel" "rule" "[I") ∈ lw_all := lw_g (lw_at lw_m7 25 rfl) rfl
theorem q1581 : (Jvm.Cond.fieldLink "SafeBucketsModel" (25 : Nat) "SafeBucketsModel" "values" "[I") ∈ lw_all := lw_g (lw_at lw_m7 26 rfl) rfl
theorem q1582 : (Jvm.Cond.fieldLink "SafeBucketsModel" (150 : Nat) "SafeBucketsModel" "tables" "I") ∈ lw_all := lw_g (lw_at lw_m7 27 rfl) rfl
theorem q1583 : (Jvm.Cond.fieldLink "SafeBucketsModel" (28 : Nat) "SafeBucketsModel" "units" "[I") ∈ lw_all := lw_g (lw_at lw_m7 28 rfl) rfl
theorem q1584 : (Jvm.Cond.fieldLink "SafeBucketsModel" (31 : Nat) "SafeBucketsModel" "unitMany" "[I") ∈ lw_all := lw_g (lw_at lw_m7 29 rfl) rfl
theorem q1585 : (Jvm.Cond.fieldLink "SafeBucketsModel" (222 : Nat) "SafeBucketsModel" "wheres" "I") ∈ lw_all := lw_g (lw_at lw_m7 30 rfl) rfl
theorem q1586 : (Jvm.Cond.fieldLink "SafeBucketsModel" (34 : Nat) "SafeBucketsModel" "now" "[I") ∈ lw_all := lw_g (lw_at lw_m7 31 rfl) rfl
theorem q1587 : (Jvm.Cond.fieldLink "SafeBucketsModel" (37 : Nat) "SafeBucketsModel" "refused" "[I") ∈ lw_all := lw_g (lw_at lw_m7 32 rfl) rfl
theorem q1588 : (Jvm.Cond.fieldLink "SafeBucketsModel" (40 : Nat) "SafeBucketsModel" "counts" "[I") ∈ lw_all := lw_g (lw_at lw_m7 33 rfl) rfl
theorem q1589 : (Jvm.Cond.fieldLink "SafeBucketsModel" (164 : Nat) "SafeBucketsModel" "countMany" "I") ∈ lw_all := lw_g (lw_at lw_m7 34 rfl) rfl
theorem q1590 : (Jvm.Cond.fieldLink "SafeBucketsModel" (43 : Nat) "SafeBucketsModel" "least" "[J") ∈ lw_all := lw_g (lw_at lw_m7 35 rfl) rfl
theorem q1591 : (Jvm.Cond.fieldLink "SafeBucketsModel" (47 : Nat) "SafeBucketsModel" "borders" "[I") ∈ lw_all := lw_g (lw_at lw_m7 36 rfl) rfl
theorem q1592 : (Jvm.Cond.fieldLink "SafeBucketsModel" (51 : Nat) "SafeBucketsModel" "kept" "[I") ∈ lw_all := lw_g (lw_at lw_m7 37 rfl) rfl
theorem q1593 : (Jvm.Cond.fieldLink "SafeBucketsModel" (212 : Nat) "SafeBucketsModel" "acts" "I") ∈ lw_all := lw_g (lw_at lw_m7 38 rfl) rfl
theorem q1594 : (Jvm.Cond.fieldLink "SafeBucketsModel" (290 : Nat) "SafeBucketsModel" "drawn" "J") ∈ lw_all := lw_g (lw_at lw_m7 39 rfl) rfl
theorem q1595 : (Jvm.Cond.fieldLink "SafeBucketsModel" (54 : Nat) "SafeBucketsModel" "trace" "[I") ∈ lw_all := lw_g (lw_at lw_m7 40 rfl) rfl
theorem q1596 : (Jvm.Cond.fieldLink "SafeBucketsModel" (323 : Nat) "SafeBucketsModel" "traced" "I") ∈ lw_all := lw_g (lw_at lw_m7 41 rfl) rfl
theorem q1597 : (Jvm.Cond.fieldLink "SafeBucketsModel" (326 : Nat) "SafeBucketsModel" "stepsLeft" "I") ∈ lw_all := lw_g (lw_at lw_m7 42 rfl) rfl
theorem q1598 : (Jvm.Cond.fieldLink "SafeBucketsModel" (329 : Nat) "SafeBucketsModel" "isStopped" "Z") ∈ lw_all := lw_g (lw_at lw_m7 43 rfl) rfl
theorem q1599 : (Jvm.Cond.fieldLink "SafeBucketsModel" (57 : Nat) "SafeBucketsModel" "sorted" "[I") ∈ lw_all := lw_g (lw_at lw_m7 44 rfl) rfl
theorem q1600 : (Jvm.Cond.fieldLink "SafeBucketsModel" (60 : Nat) "SafeBucketsModel" "aside" "[I") ∈ lw_all := lw_g (lw_at lw_m7 45 rfl) rfl
theorem q1601 : (Jvm.Cond.fieldLink "SafeBucketsModel" (63 : Nat) "SafeBucketsModel" "image" "[I") ∈ lw_all := lw_g (lw_at lw_m7 46 rfl) rfl
theorem q1602 : (Jvm.Cond.fieldLink "SafeBucketsModel" (215 : Nat) "SafeBucketsModel" "hasImage" "Z") ∈ lw_all := lw_g (lw_at lw_m7 47 rfl) rfl
theorem q1603 : (Jvm.Cond.lays "SafeBucketsModel" "SafeBucketsModel" "thrown" "I") ∈ lw_all := lw_g (lw_at lw_m7 48 rfl) rfl
theorem q1604 : (Jvm.Cond.soleField "SafeBucketsModel" "thrown") ∈ lw_all := lw_g (lw_at lw_m7 49 rfl) rfl
theorem q1605 : (Jvm.Cond.laysFinal "SafeBucketsModel" "SafeBucketsModel" "tape" "[I") ∈ lw_all := lw_g (lw_at lw_m7 50 rfl) rfl
theorem q1606 : (Jvm.Cond.soleField "SafeBucketsModel" "tape") ∈ lw_all := lw_g (lw_at lw_m7 51 rfl) rfl
theorem q1607 : (Jvm.Cond.lays "SafeBucketsModel" "SafeBucketsModel" "taped" "I") ∈ lw_all := lw_g (lw_at lw_m7 52 rfl) rfl
theorem q1608 : (Jvm.Cond.soleField "SafeBucketsModel" "taped") ∈ lw_all := lw_g (lw_at lw_m7 53 rfl) rfl
theorem q1609 : (Jvm.Cond.lays "SafeBucketsModel" "SafeBucketsModel" "at" "I") ∈ lw_all := lw_g (lw_at lw_m7 54 rfl) rfl
theorem q1610 : (Jvm.Cond.soleField "SafeBucketsModel" "at") ∈ lw_all := lw_g (lw_at lw_m7 55 rfl) rfl
theorem q1611 : (Jvm.Cond.lays "SafeBucketsModel" "SafeBucketsModel" "wrong" "I") ∈ lw_all := lw_g (lw_at lw_m7 56 rfl) rfl
theorem q1612 : (Jvm.Cond.soleField "SafeBucketsModel" "wrong") ∈ lw_all := lw_g (lw_at lw_m7 57 rfl) rfl
theorem q1613 : (Jvm.Cond.laysFinal "SafeBucketsModel" "SafeBucketsModel" "readRule" "[I") ∈ lw_all := lw_g (lw_at lw_m7 58 rfl) rfl
theorem q1614 : (Jvm.Cond.soleField "SafeBucketsModel" "readRule") ∈ lw_all := lw_g (lw_at lw_m7 59 rfl) rfl
theorem q1615 : (Jvm.Cond.laysFinal "SafeBucketsModel" "SafeBucketsModel" "readTable" "[I") ∈ lw_all := lw_g (lw_at lw_m7 60 rfl) rfl
theorem q1616 : (Jvm.Cond.soleField "SafeBucketsModel" "readTable") ∈ lw_all := lw_g (lw_at lw_m7 61 rfl) rfl
theorem q1617 : (Jvm.Cond.laysFinal "SafeBucketsModel" "SafeBucketsModel" "readRows" "[I") ∈ lw_all := lw_g (lw_at lw_m7 62 rfl) rfl
theorem q1618 : (Jvm.Cond.soleField "SafeBucketsModel" "readRows") ∈ lw_all := lw_g (lw_at lw_m7 63 rfl) rfl
theorem q1619 : (Jvm.Cond.lays "SafeBucketsModel" "SafeBucketsModel" "readTables" "I") ∈ lw_all := lw_g (lw_at lw_m7 64 rfl) rfl
theorem q1620 : (Jvm.Cond.soleField "SafeBucketsModel" "readTables") ∈ lw_all := lw_g (lw_at lw_m7 65 rfl) rfl
theorem q1621 : (Jvm.Cond.lays "SafeBucketsModel" "SafeBucketsModel" "readLines" "I") ∈ lw_all := lw_g (lw_at lw_m7 66 rfl) rfl
theorem q1622 : (Jvm.Cond.soleField "SafeBucketsModel" "readLines") ∈ lw_all := lw_g (lw_at lw_m7 67 rfl) rfl
theorem q1623 : (Jvm.Cond.laysFinal "SafeBucketsModel" "SafeBucketsModel" "rule" "[I") ∈ lw_all := lw_g (lw_at lw_m7 68 rfl) rfl
theorem q1624 : (Jvm.Cond.soleField "SafeBucketsModel" "rule") ∈ lw_all := lw_g (lw_at lw_m7 69 rfl) rfl
theorem q1625 : (Jvm.Cond.laysFinal "SafeBucketsModel" "SafeBucketsModel" "values" "[I") ∈ lw_all := lw_g (lw_at lw_m7 70 rfl) rfl
theorem q1626 : (Jvm.Cond.soleField "SafeBucketsModel" "values") ∈ lw_all := lw_g (lw_at lw_m7 71 rfl) rfl
theorem q1627 : (Jvm.Cond.lays "SafeBucketsModel" "SafeBucketsModel" "tables" "I") ∈ lw_all := lw_g (lw_at lw_m7 72 rfl) rfl
theorem q1628 : (Jvm.Cond.soleField "SafeBucketsModel" "tables") ∈ lw_all := lw_g (lw_at lw_m7 73 rfl) rfl
theorem q1629 : (Jvm.Cond.laysFinal "SafeBucketsModel" "SafeBucketsModel" "units" "[I") ∈ lw_all := lw_g (lw_at lw_m7 74 rfl) rfl
theorem q1630 : (Jvm.Cond.soleField "SafeBucketsModel" "units") ∈ lw_all := lw_g (lw_at lw_m7 75 rfl) rfl
theorem q1631 : (Jvm.Cond.laysFinal "SafeBucketsModel" "SafeBucketsModel" "unitMany" "[I") ∈ lw_all := lw_g (lw_at lw_m7 76 rfl) rfl
theorem q1632 : (Jvm.Cond.soleField "SafeBucketsModel" "unitMany") ∈ lw_all := lw_g (lw_at lw_m7 77 rfl) rfl
theorem q1633 : (Jvm.Cond.lays "SafeBucketsModel" "SafeBucketsModel" "wheres" "I") ∈ lw_all := lw_g (lw_at lw_m7 78 rfl) rfl
theorem q1634 : (Jvm.Cond.soleField "SafeBucketsModel" "wheres") ∈ lw_all := lw_g (lw_at lw_m7 79 rfl) rfl
theorem q1635 : (Jvm.Cond.laysFinal "SafeBucketsModel" "SafeBucketsModel" "now" "[I") ∈ lw_all := lw_g (lw_at lw_m7 80 rfl) rfl
theorem q1636 : (Jvm.Cond.soleField "SafeBucketsModel" "now") ∈ lw_all := lw_g (lw_at lw_m7 81 rfl) rfl
theorem q1637 : (Jvm.Cond.laysFinal "SafeBucketsModel" "SafeBucketsModel" "refused" "[I") ∈ lw_all := lw_g (lw_at lw_m7 82 rfl) rfl
theorem q1638 : (Jvm.Cond.soleField "SafeBucketsModel" "refused") ∈ lw_all := lw_g (lw_at lw_m7 83 rfl) rfl
theorem q1639 : (Jvm.Cond.laysFinal "SafeBucketsModel" "SafeBucketsModel" "counts" "[I") ∈ lw_all := lw_g (lw_at lw_m7 84 rfl) rfl
theorem q1640 : (Jvm.Cond.soleField "SafeBucketsModel" "counts") ∈ lw_all := lw_g (lw_at lw_m7 85 rfl) rfl
theorem q1641 : (Jvm.Cond.lays "SafeBucketsModel" "SafeBucketsModel" "countMany" "I") ∈ lw_all := lw_g (lw_at lw_m7 86 rfl) rfl
theorem q1642 : (Jvm.Cond.soleField "SafeBucketsModel" "countMany") ∈ lw_all := lw_g (lw_at lw_m7 87 rfl) rfl
theorem q1643 : (Jvm.Cond.laysFinal "SafeBucketsModel" "SafeBucketsModel" "least" "[J") ∈ lw_all := lw_g (lw_at lw_m7 88 rfl) rfl
theorem q1644 : (Jvm.Cond.soleField "SafeBucketsModel" "least") ∈ lw_all := lw_g (lw_at lw_m7 89 rfl) rfl
theorem q1645 : (Jvm.Cond.laysFinal "SafeBucketsModel" "SafeBucketsModel" "borders" "[I") ∈ lw_all := lw_g (lw_at lw_m7 90 rfl) rfl
theorem q1646 : (Jvm.Cond.soleField "SafeBucketsModel" "borders") ∈ lw_all := lw_g (lw_at lw_m7 91 rfl) rfl
theorem q1647 : (Jvm.Cond.laysFinal "SafeBucketsModel" "SafeBucketsModel" "kept" "[I") ∈ lw_all := lw_g (lw_at lw_m7 92 rfl) rfl
theorem q1648 : (Jvm.Cond.soleField "SafeBucketsModel" "kept") ∈ lw_all := lw_g (lw_at lw_m7 93 rfl) rfl
theorem q1649 : (Jvm.Cond.lays "SafeBucketsModel" "SafeBucketsModel" "acts" "I") ∈ lw_all := lw_g (lw_at lw_m7 94 rfl) rfl
theorem q1650 : (Jvm.Cond.soleField "SafeBucketsModel" "acts") ∈ lw_all := lw_g (lw_at lw_m7 95 rfl) rfl
theorem q1651 : (Jvm.Cond.lays "SafeBucketsModel" "SafeBucketsModel" "drawn" "J") ∈ lw_all := lw_g (lw_at lw_m7 96 rfl) rfl
theorem q1652 : (Jvm.Cond.soleField "SafeBucketsModel" "drawn") ∈ lw_all := lw_g (lw_at lw_m7 97 rfl) rfl
theorem q1653 : (Jvm.Cond.laysFinal "SafeBucketsModel" "SafeBucketsModel" "trace" "[I") ∈ lw_all := lw_g (lw_at lw_m7 98 rfl) rfl
theorem q1654 : (Jvm.Cond.soleField "SafeBucketsModel" "trace") ∈ lw_all := lw_g (lw_at lw_m7 99 rfl) rfl
theorem q1655 : (Jvm.Cond.lays "SafeBucketsModel" "SafeBucketsModel" "traced" "I") ∈ lw_all := lw_g (lw_at lw_m7 100 rfl) rfl
theorem q1656 : (Jvm.Cond.soleField "SafeBucketsModel" "traced") ∈ lw_all := lw_g (lw_at lw_m7 101 rfl) rfl
theorem q1657 : (Jvm.Cond.lays "SafeBucketsModel" "SafeBucketsModel" "stepsLeft" "I") ∈ lw_all := lw_g (lw_at lw_m7 102 rfl) rfl
theorem q1658 : (Jvm.Cond.soleField "SafeBucketsModel" "stepsLeft") ∈ lw_all := lw_g (lw_at lw_m7 103 rfl) rfl
theorem q1659 : (Jvm.Cond.lays "SafeBucketsModel" "SafeBucketsModel" "isStopped" "Z") ∈ lw_all := lw_g (lw_at lw_m7 104 rfl) rfl
theorem q1660 : (Jvm.Cond.soleField "SafeBucketsModel" "isStopped") ∈ lw_all := lw_g (lw_at lw_m7 105 rfl) rfl
theorem q1661 : (Jvm.Cond.laysFinal "SafeBucketsModel" "SafeBucketsModel" "sorted" "[I") ∈ lw_all := lw_g (lw_at lw_m7 106 rfl) rfl
theorem q1662 : (Jvm.Cond.soleField "SafeBucketsModel" "sorted") ∈ lw_all := lw_g (lw_at lw_m7 107 rfl) rfl
theorem q1663 : (Jvm.Cond.laysFinal "SafeBucketsModel" "SafeBucketsModel" "aside" "[I") ∈ lw_all := lw_g (lw_at lw_m7 108 rfl) rfl
theorem q1664 : (Jvm.Cond.soleField "SafeBucketsModel" "aside") ∈ lw_all := lw_g (lw_at lw_m7 109 rfl) rfl
theorem q1665 : (Jvm.Cond.laysFinal "SafeBucketsModel" "SafeBucketsModel" "image" "[I") ∈ lw_all := lw_g (lw_at lw_m7 110 rfl) rfl
theorem q1666 : (Jvm.Cond.soleField "SafeBucketsModel" "image") ∈ lw_all := lw_g (lw_at lw_m7 111 rfl) rfl
theorem q1667 : (Jvm.Cond.lays "SafeBucketsModel" "SafeBucketsModel" "hasImage" "Z") ∈ lw_all := lw_g (lw_at lw_m7 112 rfl) rfl
theorem q1668 : (Jvm.Cond.soleField "SafeBucketsModel" "hasImage") ∈ lw_all := lw_g (lw_at lw_m7 113 rfl) rfl
theorem q1669 : (Jvm.Cond.superclass "SafeBucketsModel" "java/lang/Object") ∈ lw_all := lw_g (lw_at lw_m7 114 rfl) rfl
theorem q1671 : (Jvm.Cond.instanceMethod ({ cls := "SafeBucketsModel", name := "thrown", desc := "()I" } : Jvm.MethodName)) ∈ lw_all := lw_g (lw_at lw_m7 116 rfl) rfl
theorem q1672 : (Jvm.Cond.selects "SafeBucketsModel" ({ cls := "SafeBucketsModel", name := "thrown", desc := "()I" } : Jvm.MethodName) ({ cls := "SafeBucketsModel", name := "thrown", desc := "()I" } : Jvm.MethodName)) ∈ lw_all := lw_g (lw_at lw_m7 117 rfl) rfl
theorem q1673 : (Jvm.Cond.code ({ cls := "SafeBucketsModel", name := "thrown", desc := "()I" } : Jvm.MethodName) prog_28_method_4_code (1 : Nat) (Option.some Jvm.ClassFile.FieldType.int)) ∈ lw_all := lw_g (lw_at lw_m7 118 rfl) rfl
theorem q1675 : (Jvm.Cond.instanceMethod ({ cls := "SafeBucketsModel", name := "feed", desc := "(IIIII)I" } : Jvm.MethodName)) ∈ lw_all := lw_g (lw_at lw_m7 120 rfl) rfl
theorem q1676 : (Jvm.Cond.selects "SafeBucketsModel" ({ cls := "SafeBucketsModel", name := "feed", desc := "(IIIII)I" } : Jvm.MethodName) ({ cls := "SafeBucketsModel", name := "feed", desc := "(IIIII)I" } : Jvm.MethodName)) ∈ lw_all := lw_g (lw_at lw_m7 121 rfl) rfl
theorem q1677 : (Jvm.Cond.code ({ cls := "SafeBucketsModel", name := "feed", desc := "(IIIII)I" } : Jvm.MethodName) prog_28_method_6_code (9 : Nat) (Option.some Jvm.ClassFile.FieldType.int)) ∈ lw_all := lw_g (lw_at lw_m7 122 rfl) rfl
theorem q1678 : (Jvm.Cond.methodLink "SafeBucketsModel" (70 : Nat) ({ cls := "SafeBucketsModel", name := "byteOf", desc := "(IIIIII)I" } : Jvm.MethodName)) ∈ lw_all := lw_g (lw_at lw_m7 123 rfl) rfl
theorem q1679 : (Jvm.Cond.static ({ cls := "SafeBucketsModel", name := "byteOf", desc := "(IIIIII)I" } : Jvm.MethodName)) ∈ lw_all := lw_g (lw_at lw_m7 124 rfl) rfl
theorem q1680 : (Jvm.Cond.code ({ cls := "SafeBucketsModel", name := "byteOf", desc := "(IIIIII)I" } : Jvm.MethodName) prog_28_method_5_code (7 : Nat) (Option.some Jvm.ClassFile.FieldType.int)) ∈ lw_all := lw_g (lw_at lw_m7 125 rfl) rfl
theorem q1682 : (Jvm.Cond.instanceMethod ({ cls := "SafeBucketsModel", name := "end", desc := "(I)Z" } : Jvm.MethodName)) ∈ lw_all := lw_g (lw_at lw_m7 127 rfl) rfl
theorem q1683 : (Jvm.Cond.selects "SafeBucketsModel" ({ cls := "SafeBucketsModel", name := "end", desc := "(I)Z" } : Jvm.MethodName) ({ cls := "SafeBucketsModel", name := "end", desc := "(I)Z" } : Jvm.MethodName)) ∈ lw_all := lw_g (lw_at lw_m7 128 rfl) rfl
theorem q1684 : (Jvm.Cond.code ({ cls := "SafeBucketsModel", name := "end", desc := "(I)Z" } : Jvm.MethodName) prog_28_method_7_code (2 : Nat) (Option.some Jvm.ClassFile.FieldType.boolean)) ∈ lw_all := lw_g (lw_at lw_m7 129 rfl) rfl
theorem q1685 : (Jvm.Cond.methodLink "SafeBucketsModel" (77 : Nat) ({ cls := "SafeBucketsModel", name := "in", desc := "(JJJ)Z" } : Jvm.MethodName)) ∈ lw_all := lw_g (lw_at lw_m7 130 rfl) rfl
theorem q1686 : (Jvm.Cond.static ({ cls := "SafeBucketsModel", name := "in", desc := "(JJJ)Z" } : Jvm.MethodName)) ∈ lw_all := lw_g (lw_at lw_m7 131 rfl) rfl
theorem q1687 : (Jvm.Cond.code ({ cls := "SafeBucketsModel", name := "in", desc := "(JJJ)Z" } : Jvm.MethodName) prog_28_method_1_code (6 : Nat) (Option.some Jvm.ClassFile.FieldType.boolean)) ∈ lw_all := lw_g (lw_at lw_m7 132 rfl) rfl
theorem q1689 : (Jvm.Cond.instanceMethod ({ cls := "SafeBucketsModel", name := "fault", desc := "(I)I" } : Jvm.MethodName)) ∈ lw_all := lw_g (lw_at lw_m7 134 rfl) rfl
theorem q1690 : (Jvm.Cond.selects "SafeBucketsModel" ({ cls := "SafeBucketsModel", name := "fault", desc := "(I)I" } : Jvm.MethodName) ({ cls := "SafeBucketsModel", name := "fault", desc := "(I)I" } : Jvm.MethodName)) ∈ lw_all := lw_g (lw_at lw_m7 135 rfl) rfl
theorem q1691 : (Jvm.Cond.code ({ cls := "SafeBucketsModel", name := "fault", desc := "(I)I" } : Jvm.MethodName) prog_28_method_22_code (2 : Nat) (Option.some Jvm.ClassFile.FieldType.int)) ∈ lw_all := lw_g (lw_at lw_m7 136 rfl) rfl
theorem q1692 : (Jvm.Cond.methodLink "SafeBucketsModel" (140 : Nat) ({ cls := "SafeBucketsModel", name := "readBook", desc := "()I" } : Jvm.MethodName)) ∈ lw_all := lw_g (lw_at lw_m7 137 rfl) rfl
theorem q1693 : (Jvm.Cond.privateMethod ({ cls := "SafeBucketsModel", name := "readBook", desc := "()I" } : Jvm.MethodName)) ∈ lw_tbl := lw_at lw_m7 138 rfl
theorem q1694 : (Jvm.Cond.instanceMethod ({ cls := "SafeBucketsModel", name := "readBook", desc := "()I" } : Jvm.MethodName)) ∈ lw_all := lw_g (lw_at lw_m7 139 rfl) rfl
theorem q1695 : (Jvm.Cond.code ({ cls := "SafeBucketsModel", name := "readBook", desc := "()I" } : Jvm.MethodName) prog_28_method_19_code (4 : Nat) (Option.some Jvm.ClassFile.FieldType.int)) ∈ lw_all := lw_g (lw_at lw_m7 140 rfl) rfl
theorem q1696 : (Jvm.Cond.methodLink "SafeBucketsModel" (101 : Nat) ({ cls := "SafeBucketsModel", name := "usual", desc := "(II)I" } : Jvm.MethodName)) ∈ lw_all := lw_g (lw_at lw_m7 141 rfl) rfl
theorem q1697 : (Jvm.Cond.static ({ cls := "SafeBucketsModel", name := "usual", desc := "(II)I" } : Jvm.MethodName)) ∈ lw_all := lw_g (lw_at lw_m7 142 rfl) rfl
theorem q1698 : (Jvm.Cond.code ({ cls := "SafeBucketsModel", name := "usual", desc := "(II)I" } : Jvm.MethodName) prog_28_method_16_code (2 : Nat) (Option.some Jvm.ClassFile.FieldType.int)) ∈ lw_all := lw_g (lw_at lw_m7 143 rfl) rfl
theorem q1699 : (Jvm.Cond.methodLink "SafeBucketsModel" (91 : Nat) ({ cls := "SafeBucketsModel", name := "ahead", desc := "()I" } : Jvm.MethodName)) ∈ lw_all := lw_g (lw_at lw_m7 144 rfl) rfl
theorem q1700 : (Jvm.Cond.privateMethod ({ cls := "SafeBucketsModel", name := "ahead", desc := "()I" } : Jvm.MethodName)) ∈ lw_tbl := lw_at lw_m7 145 rfl
theorem q1701 : (Jvm.Cond.instanceMethod ({ cls := "SafeBucketsModel", name := "ahead", desc := "()I" } : Jvm.MethodName)) ∈ lw_all := lw_g (lw_at lw_m7 146 rfl) rfl
theorem q1702 : (Jvm.Cond.code ({ cls := "SafeBucketsModel", name := "ahead", desc := "()I" } : Jvm.MethodName) prog_28_method_9_code (1 : Nat) (Option.some Jvm.ClassFile.FieldType.int)) ∈ lw_all := lw_g (lw_at lw_m7 147 rfl) rfl
theorem q1703 : (Jvm.Cond.methodLink "SafeBucketsModel" (84 : Nat) ({ cls := "SafeBucketsModel", name := "here", desc := "()I" } : Jvm.MethodName)) ∈ lw_all := lw_g (lw_at lw_m7 148 rfl) rfl
theorem q1704 : (Jvm.Cond.privateMethod ({ cls := "SafeBucketsModel", name := "here", desc := "()I" } : Jvm.MethodName)) ∈ lw_tbl := lw_at lw_m7 149 rfl
theorem q1705 : (Jvm.Cond.instanceMethod ({ cls := "SafeBucketsModel", name := "here", desc := "()I" } : Jvm.MethodName)) ∈ lw_all := lw_g (lw_at lw_m7 150 rfl) rfl
theorem q1706 : (Jvm.Cond.code ({ cls := "SafeBucketsModel", name := "here", desc := "()I" } : Jvm.MethodName) prog_28_method_8_code (1 : Nat) (Option.some Jvm.ClassFile.FieldType.int)) ∈ lw_all := lw_g (lw_at lw_m7 151 rfl) rfl
theorem q1707 : (Jvm.Cond.methodLink "SafeBucketsModel" (128 : Nat) ({ cls := "SafeBucketsModel", name := "items", desc := "(I[III)V" } : Jvm.MethodName)) ∈ lw_all := lw_g (lw_at lw_m7 152 rfl) rfl
theorem q1708 : (Jvm.Cond.privateMethod ({ cls := "SafeBucketsModel", name := "items", desc := "(I[III)V" } : Jvm.MethodName)) ∈ lw_tbl := lw_at lw_m7 153 rfl
theorem q1709 : (Jvm.Cond.instanceMethod ({ cls := "SafeBucketsModel", name := "items", desc := "(I[III)V" } : Jvm.MethodName)) ∈ lw_all := lw_g (lw_at lw_m7 154 rfl) rfl
theorem q1710 : (Jvm.Cond.code ({ cls := "SafeBucketsModel", name := "items", desc := "(I[III)V" } : Jvm.MethodName) prog_28_method_17_code (7 : Nat) (Option.none : Option Jvm.ClassFile.FieldType)) ∈ lw_all := lw_g (lw_at lw_m7 155 rfl) rfl
theorem q1711 : (Jvm.Cond.methodLink "SafeBucketsModel" (105 : Nat) ({ cls := "SafeBucketsModel", name := "itemOf", desc := "(II)I" } : Jvm.MethodName)) ∈ lw_all := lw_g (lw_at lw_m7 156 rfl) rfl
theorem q1712 : (Jvm.Cond.static ({ cls := "SafeBucketsModel", name := "itemOf", desc := "(II)I" } : Jvm.MethodName)) ∈ lw_all := lw_g (lw_at lw_m7 157 rfl) rfl
theorem q1713 : (Jvm.Cond.code ({ cls := "SafeBucketsModel", name := "itemOf", desc := "(II)I" } : Jvm.MethodName) prog_28_method_13_code (2 : Nat) (Option.some Jvm.ClassFile.FieldType.int)) ∈ lw_all := lw_g (lw_at lw_m7 158 rfl) rfl
theorem q1714 : (Jvm.Cond.methodLink "SafeBucketsModel" (108 : Nat) ({ cls := "SafeBucketsModel", name := "has", desc := "(II)Z" } : Jvm.MethodName)) ∈ lw_all := lw_g (lw_at lw_m7 159 rfl) rfl
theorem q1715 : (Jvm.Cond.static ({ cls := "SafeBucketsModel", name := "has", desc := "(II)Z" } : Jvm.MethodName)) ∈ lw_all := lw_g (lw_at lw_m7 160 rfl) rfl
theorem q1716 : (Jvm.Cond.code ({ cls := "SafeBucketsModel", name := "has", desc := "(II)Z" } : Jvm.MethodName) prog_28_method_2_code (2 : Nat) (Option.some Jvm.ClassFile.FieldType.boolean)) ∈ lw_all := lw_g (lw_at lw_m7 161 rfl) rfl
theorem q1717 : (Jvm.Cond.methodLink "SafeBucketsModel" (112 : Nat) ({ cls := "SafeBucketsModel", name := "lowest", desc := "(II)I" } : Jvm.MethodName)) ∈ lw_all := lw_g (lw_at lw_m7 162 rfl) rfl
theorem q1718 : (Jvm.Cond.static ({ cls := "SafeBucketsModel", name := "lowest", desc := "(II)I" } : Jvm.MethodName)) ∈ lw_all := lw_g (lw_at lw_m7 163 rfl) rfl
theorem q1719 : (Jvm.Cond.code ({ cls := "SafeBucketsModel", name := "lowest", desc := "(II)I" } : Jvm.MethodName) prog_28_method_14_code (2 : Nat) (Option.some Jvm.ClassFile.FieldType.int)) ∈ lw_all := lw_g (lw_at lw_m7 164 rfl) rfl
theorem q1720 : (Jvm.Cond.methodLink "SafeBucketsModel" (115 : Nat) ({ cls := "SafeBucketsModel", name := "highest", desc := "(II)I" } : Jvm.MethodName)) ∈ lw_all := lw_g (lw_at lw_m7 165 rfl) rfl
theorem q1721 : (Jvm.Cond.static ({ cls := "SafeBucketsModel", name := "highest", desc := "(II)I" } : Jvm.MethodName)) ∈ lw_all := lw_g (lw_at lw_m7 166 rfl) rfl
theorem q1722 : (Jvm.Cond.code ({ cls := "SafeBucketsModel", name := "highest", desc := "(II)I" } : Jvm.MethodName) prog_28_method_15_code (2 : Nat) (Option.some Jvm.ClassFile.FieldType.int)) ∈ lw_all := lw_g (lw_at lw_m7 167 rfl) rfl
theorem q1723 : (Jvm.Cond.methodLink "SafeBucketsModel" (118 : Nat) ({ cls := "SafeBucketsModel", name := "number", desc := "(III)I" } : Jvm.MethodName)) ∈ lw_all := lw_g (lw_at lw_m7 168 rfl) rfl
theorem q1724 : (Jvm.Cond.privateMethod ({ cls := "SafeBucketsModel", name := "number", desc := "(III)I" } : Jvm.MethodName)) ∈ lw_tbl := lw_at lw_m7 169 rfl
theorem q1725 : (Jvm.Cond.instanceMethod ({ cls := "SafeBucketsModel", name := "number", desc := "(III)I" } : Jvm.MethodName)) ∈ lw_all := lw_g (lw_at lw_m7 170 rfl) rfl
theorem q1726 : (Jvm.Cond.code ({ cls := "SafeBucketsModel", name := "number", desc := "(III)I" } : Jvm.MethodName) prog_28_method_12_code (6 : Nat) (Option.some Jvm.ClassFile.FieldType.int)) ∈ lw_all := lw_g (lw_at lw_m7 171 rfl) rfl
theorem q1727 : (Jvm.Cond.methodLink "SafeBucketsModel" (94 : Nat) ({ cls := "SafeBucketsModel", name := "isDigit", desc := "(I)Z" } : Jvm.MethodName)) ∈ lw_all := lw_g (lw_at lw_m7 172 rfl) rfl
theorem q1728 : (Jvm.Cond.static ({ cls := "SafeBucketsModel", name := "isDigit", desc := "(I)Z" } : Jvm.MethodName)) ∈ lw_all := lw_g (lw_at lw_m7 173 rfl) rfl
theorem q1729 : (Jvm.Cond.code ({ cls := "SafeBucketsModel", name := "isDigit", desc := "(I)Z" } : Jvm.MethodName) prog_28_method_11_code (1 : Nat) (Option.some Jvm.ClassFile.FieldType.boolean)) ∈ lw_all := lw_g (lw_at lw_m7 174 rfl) rfl
theorem q1730 : (Jvm.Cond.methodLink "SafeBucketsModel" (98 : Nat) ({ cls := "SafeBucketsModel", name := "bad", desc := "()V" } : Jvm.MethodName)) ∈ lw_all := lw_g (lw_at lw_m7 175 rfl) rfl
theorem q1731 : (Jvm.Cond.privateMethod ({ cls := "SafeBucketsModel", name := "bad", desc := "()V" } : Jvm.MethodName)) ∈ lw_tbl := lw_at lw_m7 176 rfl
theorem q1732 : (Jvm.Cond.instanceMethod ({ cls := "SafeBucketsModel", name := "bad", desc := "()V" } : Jvm.MethodName)) ∈ lw_all := lw_g (lw_at lw_m7 177 rfl) rfl
theorem q1733 : (Jvm.Cond.code ({ cls := "SafeBucketsModel", name := "bad", desc := "()V" } : Jvm.MethodName) prog_28_method_10_code (1 : Nat) (Option.none : Option Jvm.ClassFile.FieldType)) ∈ lw_all := lw_g (lw_at lw_m7 178 rfl) rfl
theorem q1734 : (Jvm.Cond.methodLink "SafeBucketsModel" (132 : Nat) ({ cls := "SafeBucketsModel", name := "isWhole", desc := "()Z" } : Jvm.MethodName)) ∈ lw_all := lw_g (lw_at lw_m7 179 rfl) rfl
theorem q1735 : (Jvm.Cond.privateMethod ({ cls := "SafeBucketsModel", name := "isWhole", desc := "()Z" } : Jvm.MethodName)) ∈ lw_tbl := lw_at lw_m7 180 rfl
theorem q1736 : (Jvm.Cond.instanceMethod ({ cls := "SafeBucketsModel", name := "isWhole", desc := "()Z" } : Jvm.MethodName)) ∈ lw_all := lw_g (lw_at lw_m7 181 rfl) rfl
theorem q1737 : (Jvm.Cond.code ({ cls := "SafeBucketsModel", name := "isWhole", desc := "()Z" } : Jvm.MethodName) prog_28_method_18_code (4 : Nat) (Option.some Jvm.ClassFile.FieldType.boolean)) ∈ lw_all := lw_g (lw_at lw_m7 182 rfl) rfl
theorem q1738 : (Jvm.Cond.methodLink "SafeBucketsModel" (143 : Nat) ({ cls := "SafeBucketsModel", name := "readWhere", desc := "(I)I" } : Jvm.MethodName)) ∈ lw_all := lw_g (lw_at lw_m7 183 rfl) rfl
theorem q1739 : (Jvm.Cond.privateMethod ({ cls := "SafeBucketsModel", name := "readWhere", desc := "(I)I" } : Jvm.MethodName)) ∈ lw_tbl := lw_at lw_m7 184 rfl
theorem q1740 : (Jvm.Cond.instanceMethod ({ cls := "SafeBucketsModel", name := "readWhere", desc := "(I)I" } : Jvm.MethodName)) ∈ lw_all := lw_g (lw_at lw_m7 185 rfl) rfl
theorem q1741 : (Jvm.Cond.code ({ cls := "SafeBucketsModel", name := "readWhere", desc := "(I)I" } : Jvm.MethodName) prog_28_method_21_code (5 : Nat) (Option.some Jvm.ClassFile.FieldType.int)) ∈ lw_all := lw_g (lw_at lw_m7 186 rfl) rfl
theorem q1742 : (Jvm.Cond.methodLink "SafeBucketsModel" (136 : Nat) ({ cls := "SafeBucketsModel", name := "readUnit", desc := "(II)V" } : Jvm.MethodName)) ∈ lw_all := lw_g (lw_at lw_m7 187 rfl) rfl
theorem q1743 : (Jvm.Cond.privateMethod ({ cls := "SafeBucketsModel", name := "readUnit", desc := "(II)V" } : Jvm.MethodName)) ∈ lw_tbl := lw_at lw_m7 188 rfl
theorem q1744 : (Jvm.Cond.instanceMethod ({ cls := "SafeBucketsModel", name := "readUnit", desc := "(II)V" } : Jvm.MethodName)) ∈ lw_all := lw_g (lw_at lw_m7 189 rfl) rfl
theorem q1745 : (Jvm.Cond.code ({ cls := "SafeBucketsModel", name := "readUnit", desc := "(II)V" } : Jvm.MethodName) prog_28_method_20_code (6 : Nat) (Option.none : Option Jvm.ClassFile.FieldType)) ∈ lw_all := lw_g (lw_at lw_m7 190 rfl) rfl
theorem q1747 : (Jvm.Cond.instanceMethod ({ cls := "SafeBucketsModel", name := "text", desc := "(I)I" } : Jvm.MethodName)) ∈ lw_all := lw_g (lw_at lw_m7 192 rfl) rfl
theorem q1748 : (Jvm.Cond.selects "SafeBucketsModel" ({ cls := "SafeBucketsModel", name := "text", desc := "(I)I" } : Jvm.MethodName) ({ cls := "SafeBucketsModel", name := "text", desc := "(I)I" } : Jvm.MethodName)) ∈ lw_all := lw_g (lw_at lw_m7 193 rfl) rfl
theorem q1749 : (Jvm.Cond.code ({ cls := "SafeBucketsModel", name := "text", desc := "(I)I" } : Jvm.MethodName) prog_28_method_43_code (2 : Nat) (Option.some Jvm.ClassFile.FieldType.int)) ∈ lw_all := lw_g (lw_at lw_m7 194 rfl) rfl
theorem q1750 : (Jvm.Cond.methodLink "SafeBucketsModel" (219 : Nat) ({ cls := "SafeBucketsModel", name := "takeBook", desc := "()I" } : Jvm.MethodName)) ∈ lw_all := lw_g (lw_at lw_m7 195 rfl) rfl
theorem q1751 : (Jvm.Cond.privateMethod ({ cls := "SafeBucketsModel", name := "takeBook", desc := "()I" } : Jvm.MethodName)) ∈ lw_tbl := lw_at lw_m7 196 rfl
theorem q1752 : (Jvm.Cond.instanceMethod ({ cls := "SafeBucketsModel", name := "takeBook", desc := "()I" } : Jvm.MethodName)) ∈ lw_all := lw_g (lw_at lw_m7 197 rfl) rfl
theorem q1753 : (Jvm.Cond.code ({ cls := "SafeBucketsModel", name := "takeBook", desc := "()I" } : Jvm.MethodName) prog_28_method_42_code (2 : Nat) (Option.some Jvm.ClassFile.FieldType.int)) ∈ lw_all := lw_g (lw_at lw_m7 198 rfl) rfl
theorem q1754 : (Jvm.Cond.methodLink "SafeBucketsModel" (158 : Nat) ({ cls := "SafeBucketsModel", name := "place", desc := "(III)I" } : Jvm.MethodName)) ∈ lw_all := lw_g (lw_at lw_m7 199 rfl) rfl
theorem q1755 : (Jvm.Cond.static ({ cls := "SafeBucketsModel", name := "place", desc := "(III)I" } : Jvm.MethodName)) ∈ lw_all := lw_g (lw_at lw_m7 200 rfl) rfl
theorem q1756 : (Jvm.Cond.code ({ cls := "SafeBucketsModel", name := "place", desc := "(III)I" } : Jvm.MethodName) prog_28_method_23_code (3 : Nat) (Option.some Jvm.ClassFile.FieldType.int)) ∈ lw_all := lw_g (lw_at lw_m7 201 rfl) rfl
theorem q1757 : (Jvm.Cond.methodLink "SafeBucketsModel" (209 : Nat) ({ cls := "SafeBucketsModel", name := "buildNow", desc := "(II)V" } : Jvm.MethodName)) ∈ lw_all := lw_g (lw_at lw_m7 202 rfl) rfl
theorem q1758 : (Jvm.Cond.privateMethod ({ cls := "SafeBucketsModel", name := "buildNow", desc := "(II)V" } : Jvm.MethodName)) ∈ lw_tbl := lw_at lw_m7 203 rfl
theorem q1759 : (Jvm.Cond.instanceMethod ({ cls := "SafeBucketsModel", name := "buildNow", desc := "(II)V" } : Jvm.MethodName)) ∈ lw_all := lw_g (lw_at lw_m7 204 rfl) rfl
theorem q1760 : (Jvm.Cond.code ({ cls := "SafeBucketsModel", name := "buildNow", desc := "(II)V" } : Jvm.MethodName) prog_28_method_41_code (8 : Nat) (Option.none : Option Jvm.ClassFile.FieldType)) ∈ lw_all := lw_g (lw_at lw_m7 205 rfl) rfl
theorem q1761 : (Jvm.Cond.methodLink "SafeBucketsModel" (191 : Nat) ({ cls := "SafeBucketsModel", name := "layCounts", desc := "(II)V" } : Jvm.MethodName)) ∈ lw_all := lw_g (lw_at lw_m7 206 rfl) rfl
theorem q1762 : (Jvm.Cond.privateMethod ({ cls := "SafeBucketsModel", name := "layCounts", desc := "(II)V" } : Jvm.MethodName)) ∈ lw_tbl := lw_at lw_m7 207 rfl
theorem q1763 : (Jvm.Cond.instanceMethod ({ cls := "SafeBucketsModel", name := "layCounts", desc := "(II)V" } : Jvm.MethodName)) ∈ lw_all := lw_g (lw_at lw_m7 208 rfl) rfl
theorem q1764 : (Jvm.Cond.code ({ cls := "SafeBucketsModel", name := "layCounts", desc := "(II)V" } : Jvm.MethodName) prog_28_method_36_code (4 : Nat) (Option.none : Option Jvm.ClassFile.FieldType)) ∈ lw_all := lw_g (lw_at lw_m7 209 rfl) rfl
theorem q1765 : (Jvm.Cond.methodLink "SafeBucketsModel" (167 : Nat) ({ cls := "SafeBucketsModel", name := "countAt", desc := "(III)I" } : Jvm.MethodName)) ∈ lw_all := lw_g (lw_at lw_m7 210 rfl) rfl
theorem q1766 : (Jvm.Cond.privateMethod ({ cls := "SafeBucketsModel", name := "countAt", desc := "(III)I" } : Jvm.MethodName)) ∈ lw_tbl := lw_at lw_m7 211 rfl
theorem q1767 : (Jvm.Cond.instanceMethod ({ cls := "SafeBucketsModel", name := "countAt", desc := "(III)I" } : Jvm.MethodName)) ∈ lw_all := lw_g (lw_at lw_m7 212 rfl) rfl
theorem q1768 : (Jvm.Cond.code ({ cls := "SafeBucketsModel", name := "countAt", desc := "(III)I" } : Jvm.MethodName) prog_28_method_33_code (7 : Nat) (Option.some Jvm.ClassFile.FieldType.int)) ∈ lw_all := lw_g (lw_at lw_m7 213 rfl) rfl
theorem q1769 : (Jvm.Cond.methodLink "SafeBucketsModel" (194 : Nat) ({ cls := "java/lang/Math", name := "min", desc := "(II)I" } : Jvm.MethodName)) ∈ lw_all := lw_g (lw_at lw_m7 214 rfl) rfl
theorem q1770 : (Jvm.Cond.methodLink "SafeBucketsModel" (196 : Nat) ({ cls := "SafeBucketsModel", name := "layBorders", desc := "(I)V" } : Jvm.MethodName)) ∈ lw_all := lw_g (lw_at lw_m7 215 rfl) rfl
theorem q1771 : (Jvm.Cond.privateMethod ({ cls := "SafeBucketsModel", name := "layBorders", desc := "(I)V" } : Jvm.MethodName)) ∈ lw_tbl := lw_at lw_m7 216 rfl
theorem q1772 : (Jvm.Cond.instanceMethod ({ cls := "SafeBucketsModel", name := "layBorders", desc := "(I)V" } : Jvm.MethodName)) ∈ lw_all := lw_g (lw_at lw_m7 217 rfl) rfl
theorem q1773 : (Jvm.Cond.code ({ cls := "SafeBucketsModel", name := "layBorders", desc := "(I)V" } : Jvm.MethodName) prog_28_method_40_code (5 : Nat) (Option.none : Option Jvm.ClassFile.FieldType)) ∈ lw_all := lw_g (lw_at lw_m7 218 rfl) rfl
theorem q1774 : (Jvm.Cond.methodLink "SafeBucketsModel" (187 : Nat) ({ cls := "SafeBucketsModel", name := "layLeast", desc := "(I)V" } : Jvm.MethodName)) ∈ lw_all := lw_g (lw_at lw_m7 219 rfl) rfl
theorem q1775 : (Jvm.Cond.privateMethod ({ cls := "SafeBucketsModel", name := "layLeast", desc := "(I)V" } : Jvm.MethodName)) ∈ lw_tbl := lw_at lw_m7 220 rfl
theorem q1776 : (Jvm.Cond.instanceMethod ({ cls := "SafeBucketsModel", name := "layLeast", desc := "(I)V" } : Jvm.MethodName)) ∈ lw_all := lw_g (lw_at lw_m7 221 rfl) rfl
theorem q1777 : (Jvm.Cond.code ({ cls := "SafeBucketsModel", name := "layLeast", desc := "(I)V" } : Jvm.MethodName) prog_28_method_39_code (9 : Nat) (Option.none : Option Jvm.ClassFile.FieldType)) ∈ lw_all := lw_g (lw_at lw_m7 222 rfl) rfl
theorem q1778 : (Jvm.Cond.constantLong "SafeBucketsModel" (172 : Nat) (1000000000000000 : Int64)) ∈ lw_all := lw_g (lw_at lw_m7 223 rfl) rfl
theorem q1779 : (Jvm.Cond.methodLink "SafeBucketsModel" (174 : Nat) ({ cls := "SafeBucketsModel", name := "leastAt", desc := "(II)I" } : Jvm.MethodName)) ∈ lw_all := lw_g (lw_at lw_m7 224 rfl) rfl
theorem q1780 : (Jvm.Cond.static ({ cls := "SafeBucketsModel", name := "leastAt", desc := "(II)I" } : Jvm.MethodName)) ∈ lw_all := lw_g (lw_at lw_m7 225 rfl) rfl
theorem q1781 : (Jvm.Cond.code ({ cls := "SafeBucketsModel", name := "leastAt", desc := "(II)I" } : Jvm.MethodName) prog_28_method_38_code (2 : Nat) (Option.some Jvm.ClassFile.FieldType.int)) ∈ lw_all := lw_g (lw_at lw_m7 226 rfl) rfl
theorem q1782 : (Jvm.Cond.methodLink "SafeBucketsModel" (177 : Nat) ({ cls := "SafeBucketsModel", name := "errorOf", desc := "(II)J" } : Jvm.MethodName)) ∈ lw_all := lw_g (lw_at lw_m7 227 rfl) rfl
theorem q1783 : (Jvm.Cond.privateMethod ({ cls := "SafeBucketsModel", name := "errorOf", desc := "(II)J" } : Jvm.MethodName)) ∈ lw_tbl := lw_at lw_m7 228 rfl
theorem q1784 : (Jvm.Cond.instanceMethod ({ cls := "SafeBucketsModel", name := "errorOf", desc := "(II)J" } : Jvm.MethodName)) ∈ lw_all := lw_g (lw_at lw_m7 229 rfl) rfl
theorem q1785 : (Jvm.Cond.code ({ cls := "SafeBucketsModel", name := "errorOf", desc := "(II)J" } : Jvm.MethodName) prog_28_method_37_code (8 : Nat) (Option.some Jvm.ClassFile.FieldType.long)) ∈ lw_all := lw_g (lw_at lw_m7 230 rfl) rfl
theorem q1786 : (Jvm.Cond.constantLong "SafeBucketsModel" (170 : Nat) (720720 : Int64)) ∈ lw_all := lw_g (lw_at lw_m7 231 rfl) rfl
theorem q1787 : (Jvm.Cond.methodLink "SafeBucketsModel" (181 : Nat) ({ cls := "java/lang/Math", name := "min", desc := "(JJ)J" } : Jvm.MethodName)) ∈ lw_all := lw_g (lw_at lw_m7 232 rfl) rfl
theorem q1788 : (Jvm.Cond.methodLink "SafeBucketsModel" (147 : Nat) ({ cls := "SafeBucketsModel", name := "column", desc := "(II)I" } : Jvm.MethodName)) ∈ lw_all := lw_g (lw_at lw_m7 233 rfl) rfl
theorem q1789 : (Jvm.Cond.static ({ cls := "SafeBucketsModel", name := "column", desc := "(II)I" } : Jvm.MethodName)) ∈ lw_all := lw_g (lw_at lw_m7 234 rfl) rfl
theorem q1790 : (Jvm.Cond.code ({ cls := "SafeBucketsModel", name := "column", desc := "(II)I" } : Jvm.MethodName) prog_28_method_24_code (2 : Nat) (Option.some Jvm.ClassFile.FieldType.int)) ∈ lw_all := lw_g (lw_at lw_m7 235 rfl) rfl
theorem q1791 : (Jvm.Cond.methodLink "SafeBucketsModel" (199 : Nat) ({ cls := "SafeBucketsModel", name := "drift", desc := "(II)I" } : Jvm.MethodName)) ∈ lw_all := lw_g (lw_at lw_m7 236 rfl) rfl
theorem q1792 : (Jvm.Cond.static ({ cls := "SafeBucketsModel", name := "drift", desc := "(II)I" } : Jvm.MethodName)) ∈ lw_all := lw_g (lw_at lw_m7 237 rfl) rfl
theorem q1793 : (Jvm.Cond.code ({ cls := "SafeBucketsModel", name := "drift", desc := "(II)I" } : Jvm.MethodName) prog_28_method_25_code (2 : Nat) (Option.some Jvm.ClassFile.FieldType.int)) ∈ lw_all := lw_g (lw_at lw_m7 238 rfl) rfl
theorem q1794 : (Jvm.Cond.methodLink "SafeBucketsModel" (202 : Nat) ({ cls := "java/lang/Math", name := "max", desc := "(II)I" } : Jvm.MethodName)) ∈ lw_all := lw_g (lw_at lw_m7 239 rfl) rfl
theorem q1795 : (Jvm.Cond.methodLink "SafeBucketsModel" (205 : Nat) ({ cls := "SafeBucketsModel", name := "put", desc := "(IIIII)V" } : Jvm.MethodName)) ∈ lw_all := lw_g (lw_at lw_m8 0 rfl) rfl
theorem q1796 : (Jvm.Cond.privateMethod ({ cls := "SafeBucketsModel", name := "put", desc := "(IIIII)V" } : Jvm.MethodName)) ∈ lw_tbl := lw_at lw_m8 1 rfl
theorem q1797 : (Jvm.Cond.instanceMethod ({ cls := "SafeBucketsModel", name := "put", desc := "(IIIII)V" } : Jvm.MethodName)) ∈ lw_all := lw_g (lw_at lw_m8 2 rfl) rfl
theorem q1798 : (Jvm.Cond.code ({ cls := "SafeBucketsModel", name := "put", desc := "(IIIII)V" } : Jvm.MethodName) prog_28_method_28_code (6 : Nat) (Option.none : Option Jvm.ClassFile.FieldType)) ∈ lw_all := lw_g (lw_at lw_m8 3 rfl) rfl
theorem q1800 : (Jvm.Cond.instanceMethod ({ cls := "SafeBucketsModel", name := "rule", desc := "(I)I" } : Jvm.MethodName)) ∈ lw_all := lw_g (lw_at lw_m8 5 rfl) rfl
theorem q1801 : (Jvm.Cond.selects "SafeBucketsModel" ({ cls := "SafeBucketsModel", name := "rule", desc := "(I)I" } : Jvm.MethodName) ({ cls := "SafeBucketsModel", name := "rule", desc := "(I)I" } : Jvm.MethodName)) ∈ lw_all := lw_g (lw_at lw_m8 6 rfl) rfl
theorem q1802 : (Jvm.Cond.code ({ cls := "SafeBucketsModel", name := "rule", desc := "(I)I" } : Jvm.MethodName) prog_28_method_44_code (2 : Nat) (Option.some Jvm.ClassFile.FieldType.int)) ∈ lw_all := lw_g (lw_at lw_m8 7 rfl) rfl
theorem q1803 : (Jvm.Cond.methodLink "SafeBucketsModel" (225 : Nat) ({ cls := "SafeBucketsModel", name := "isBook", desc := "()Z" } : Jvm.MethodName)) ∈ lw_all := lw_g (lw_at lw_m8 8 rfl) rfl
theorem q1804 : (Jvm.Cond.privateMethod ({ cls := "SafeBucketsModel", name := "isBook", desc := "()Z" } : Jvm.MethodName)) ∈ lw_tbl := lw_at lw_m8 9 rfl
theorem q1805 : (Jvm.Cond.instanceMethod ({ cls := "SafeBucketsModel", name := "isBook", desc := "()Z" } : Jvm.MethodName)) ∈ lw_all := lw_g (lw_at lw_m8 10 rfl) rfl
theorem q1806 : (Jvm.Cond.code ({ cls := "SafeBucketsModel", name := "isBook", desc := "()Z" } : Jvm.MethodName) prog_28_method_29_code (1 : Nat) (Option.some Jvm.ClassFile.FieldType.boolean)) ∈ lw_all := lw_g (lw_at lw_m8 11 rfl) rfl
theorem q1807 : (Jvm.Cond.constantLong "SafeBucketsModel" (228 : Nat) (2 : Int64)) ∈ lw_all := lw_g (lw_at lw_m8 12 rfl) rfl
theorem q1809 : (Jvm.Cond.instanceMethod ({ cls := "SafeBucketsModel", name := "table", desc := "(II)I" } : Jvm.MethodName)) ∈ lw_all := lw_g (lw_at lw_m8 14 rfl) rfl
theorem q1810 : (Jvm.Cond.selects "SafeBucketsModel" ({ cls := "SafeBucketsModel", name := "table", desc := "(II)I" } : Jvm.MethodName) ({ cls := "SafeBucketsModel", name := "table", desc := "(II)I" } : Jvm.MethodName)) ∈ lw_all := lw_g (lw_at lw_m8 15 rfl) rfl
theorem q1811 : (Jvm.Cond.code ({ cls := "SafeBucketsModel", name := "table", desc := "(II)I" } : Jvm.MethodName) prog_28_method_45_code (3 : Nat) (Option.some Jvm.ClassFile.FieldType.int)) ∈ lw_all := lw_g (lw_at lw_m8 16 rfl) rfl
theorem q1812 : (Jvm.Cond.methodLink "SafeBucketsModel" (153 : Nat) ({ cls := "SafeBucketsModel", name := "isTable", desc := "(I)Z" } : Jvm.MethodName)) ∈ lw_all := lw_g (lw_at lw_m8 17 rfl) rfl
theorem q1813 : (Jvm.Cond.privateMethod ({ cls := "SafeBucketsModel", name := "isTable", desc := "(I)Z" } : Jvm.MethodName)) ∈ lw_tbl := lw_at lw_m8 18 rfl
theorem q1814 : (Jvm.Cond.instanceMethod ({ cls := "SafeBucketsModel", name := "isTable", desc := "(I)Z" } : Jvm.MethodName)) ∈ lw_all := lw_g (lw_at lw_m8 19 rfl) rfl
theorem q1815 : (Jvm.Cond.code ({ cls := "SafeBucketsModel", name := "isTable", desc := "(I)Z" } : Jvm.MethodName) prog_28_method_30_code (2 : Nat) (Option.some Jvm.ClassFile.FieldType.boolean)) ∈ lw_all := lw_g (lw_at lw_m8 20 rfl) rfl
theorem q1816 : (Jvm.Cond.constantLong "SafeBucketsModel" (230 : Nat) (3 : Int64)) ∈ lw_all := lw_g (lw_at lw_m8 21 rfl) rfl
theorem q1817 : (Jvm.Cond.methodLink "SafeBucketsModel" (161 : Nat) ({ cls := "SafeBucketsModel", name := "rowsOf", desc := "(I)I" } : Jvm.MethodName)) ∈ lw_all := lw_g (lw_at lw_m8 22 rfl) rfl
theorem q1818 : (Jvm.Cond.privateMethod ({ cls := "SafeBucketsModel", name := "rowsOf", desc := "(I)I" } : Jvm.MethodName)) ∈ lw_tbl := lw_at lw_m8 23 rfl
theorem q1819 : (Jvm.Cond.instanceMethod ({ cls := "SafeBucketsModel", name := "rowsOf", desc := "(I)I" } : Jvm.MethodName)) ∈ lw_all := lw_g (lw_at lw_m8 24 rfl) rfl
theorem q1820 : (Jvm.Cond.code ({ cls := "SafeBucketsModel", name := "rowsOf", desc := "(I)I" } : Jvm.MethodName) prog_28_method_34_code (4 : Nat) (Option.some Jvm.ClassFile.FieldType.int)) ∈ lw_all := lw_g (lw_at lw_m8 25 rfl) rfl
theorem q1822 : (Jvm.Cond.instanceMethod ({ cls := "SafeBucketsModel", name := "rows", desc := "(III)I" } : Jvm.MethodName)) ∈ lw_all := lw_g (lw_at lw_m8 27 rfl) rfl
theorem q1823 : (Jvm.Cond.selects "SafeBucketsModel" ({ cls := "SafeBucketsModel", name := "rows", desc := "(III)I" } : Jvm.MethodName) ({ cls := "SafeBucketsModel", name := "rows", desc := "(III)I" } : Jvm.MethodName)) ∈ lw_all := lw_g (lw_at lw_m8 28 rfl) rfl
theorem q1824 : (Jvm.Cond.code ({ cls := "SafeBucketsModel", name := "rows", desc := "(III)I" } : Jvm.MethodName) prog_28_method_46_code (4 : Nat) (Option.some Jvm.ClassFile.FieldType.int)) ∈ lw_all := lw_g (lw_at lw_m8 29 rfl) rfl
theorem q1825 : (Jvm.Cond.methodLink "SafeBucketsModel" (232 : Nat) ({ cls := "SafeBucketsModel", name := "isValue", desc := "(II)Z" } : Jvm.MethodName)) ∈ lw_all := lw_g (lw_at lw_m8 30 rfl) rfl
theorem q1826 : (Jvm.Cond.privateMethod ({ cls := "SafeBucketsModel", name := "isValue", desc := "(II)Z" } : Jvm.MethodName)) ∈ lw_tbl := lw_at lw_m8 31 rfl
theorem q1827 : (Jvm.Cond.instanceMethod ({ cls := "SafeBucketsModel", name := "isValue", desc := "(II)Z" } : Jvm.MethodName)) ∈ lw_all := lw_g (lw_at lw_m8 32 rfl) rfl
theorem q1828 : (Jvm.Cond.code ({ cls := "SafeBucketsModel", name := "isValue", desc := "(II)Z" } : Jvm.MethodName) prog_28_method_32_code (3 : Nat) (Option.some Jvm.ClassFile.FieldType.boolean)) ∈ lw_all := lw_g (lw_at lw_m8 33 rfl) rfl
theorem q1829 : (Jvm.Cond.constantLong "SafeBucketsModel" (156 : Nat) (-1 : Int64)) ∈ lw_all := lw_g (lw_at lw_m8 34 rfl) rfl
theorem q1831 : (Jvm.Cond.instanceMethod ({ cls := "SafeBucketsModel", name := "countOf", desc := "(III)I" } : Jvm.MethodName)) ∈ lw_all := lw_g (lw_at lw_m8 36 rfl) rfl
theorem q1832 : (Jvm.Cond.selects "SafeBucketsModel" ({ cls := "SafeBucketsModel", name := "countOf", desc := "(III)I" } : Jvm.MethodName) ({ cls := "SafeBucketsModel", name := "countOf", desc := "(III)I" } : Jvm.MethodName)) ∈ lw_all := lw_g (lw_at lw_m8 37 rfl) rfl
theorem q1833 : (Jvm.Cond.code ({ cls := "SafeBucketsModel", name := "countOf", desc := "(III)I" } : Jvm.MethodName) prog_28_method_47_code (4 : Nat) (Option.some Jvm.ClassFile.FieldType.int)) ∈ lw_all := lw_g (lw_at lw_m8 38 rfl) rfl
theorem q1834 : (Jvm.Cond.methodLink "SafeBucketsModel" (235 : Nat) ({ cls := "SafeBucketsModel", name := "isColumn", desc := "(II)Z" } : Jvm.MethodName)) ∈ lw_all := lw_g (lw_at lw_m8 39 rfl) rfl
theorem q1835 : (Jvm.Cond.privateMethod ({ cls := "SafeBucketsModel", name := "isColumn", desc := "(II)Z" } : Jvm.MethodName)) ∈ lw_tbl := lw_at lw_m8 40 rfl
theorem q1836 : (Jvm.Cond.instanceMethod ({ cls := "SafeBucketsModel", name := "isColumn", desc := "(II)Z" } : Jvm.MethodName)) ∈ lw_all := lw_g (lw_at lw_m8 41 rfl) rfl
theorem q1837 : (Jvm.Cond.code ({ cls := "SafeBucketsModel", name := "isColumn", desc := "(II)Z" } : Jvm.MethodName) prog_28_method_31_code (3 : Nat) (Option.some Jvm.ClassFile.FieldType.boolean)) ∈ lw_all := lw_g (lw_at lw_m8 42 rfl) rfl
theorem q1839 : (Jvm.Cond.instanceMethod ({ cls := "SafeBucketsModel", name := "bucket", desc := "(IIII)I" } : Jvm.MethodName)) ∈ lw_all := lw_g (lw_at lw_m8 44 rfl) rfl
theorem q1840 : (Jvm.Cond.selects "SafeBucketsModel" ({ cls := "SafeBucketsModel", name := "bucket", desc := "(IIII)I" } : Jvm.MethodName) ({ cls := "SafeBucketsModel", name := "bucket", desc := "(IIII)I" } : Jvm.MethodName)) ∈ lw_all := lw_g (lw_at lw_m8 45 rfl) rfl
theorem q1841 : (Jvm.Cond.code ({ cls := "SafeBucketsModel", name := "bucket", desc := "(IIII)I" } : Jvm.MethodName) prog_28_method_48_code (5 : Nat) (Option.some Jvm.ClassFile.FieldType.int)) ∈ lw_all := lw_g (lw_at lw_m8 46 rfl) rfl
theorem q1842 : (Jvm.Cond.methodLink "SafeBucketsModel" (238 : Nat) ({ cls := "SafeBucketsModel", name := "bucketMany", desc := "(II)I" } : Jvm.MethodName)) ∈ lw_all := lw_g (lw_at lw_m8 47 rfl) rfl
theorem q1843 : (Jvm.Cond.privateMethod ({ cls := "SafeBucketsModel", name := "bucketMany", desc := "(II)I" } : Jvm.MethodName)) ∈ lw_tbl := lw_at lw_m8 48 rfl
theorem q1844 : (Jvm.Cond.instanceMethod ({ cls := "SafeBucketsModel", name := "bucketMany", desc := "(II)I" } : Jvm.MethodName)) ∈ lw_all := lw_g (lw_at lw_m8 49 rfl) rfl
theorem q1845 : (Jvm.Cond.code ({ cls := "SafeBucketsModel", name := "bucketMany", desc := "(II)I" } : Jvm.MethodName) prog_28_method_26_code (3 : Nat) (Option.some Jvm.ClassFile.FieldType.int)) ∈ lw_all := lw_g (lw_at lw_m8 50 rfl) rfl
theorem q1846 : (Jvm.Cond.methodLink "SafeBucketsModel" (241 : Nat) ({ cls := "SafeBucketsModel", name := "of", desc := "(IIII)I" } : Jvm.MethodName)) ∈ lw_all := lw_g (lw_at lw_m8 51 rfl) rfl
theorem q1847 : (Jvm.Cond.privateMethod ({ cls := "SafeBucketsModel", name := "of", desc := "(IIII)I" } : Jvm.MethodName)) ∈ lw_tbl := lw_at lw_m8 52 rfl
theorem q1848 : (Jvm.Cond.instanceMethod ({ cls := "SafeBucketsModel", name := "of", desc := "(IIII)I" } : Jvm.MethodName)) ∈ lw_all := lw_g (lw_at lw_m8 53 rfl) rfl
theorem q1849 : (Jvm.Cond.code ({ cls := "SafeBucketsModel", name := "of", desc := "(IIII)I" } : Jvm.MethodName) prog_28_method_27_code (5 : Nat) (Option.some Jvm.ClassFile.FieldType.int)) ∈ lw_all := lw_g (lw_at lw_m8 54 rfl) rfl
theorem q1850 : (Jvm.Cond.constant "SafeBucketsModel" (245 : Nat) (-1000000 : Int32)) ∈ lw_all := lw_g (lw_at lw_m8 55 rfl) rfl
theorem q1852 : (Jvm.Cond.instanceMethod ({ cls := "SafeBucketsModel", name := "column", desc := "(III)I" } : Jvm.MethodName)) ∈ lw_all := lw_g (lw_at lw_m8 57 rfl) rfl
theorem q1853 : (Jvm.Cond.selects "SafeBucketsModel" ({ cls := "SafeBucketsModel", name := "column", desc := "(III)I" } : Jvm.MethodName) ({ cls := "SafeBucketsModel", name := "column", desc := "(III)I" } : Jvm.MethodName)) ∈ lw_all := lw_g (lw_at lw_m8 58 rfl) rfl
theorem q1854 : (Jvm.Cond.code ({ cls := "SafeBucketsModel", name := "column", desc := "(III)I" } : Jvm.MethodName) prog_28_method_50_code (4 : Nat) (Option.some Jvm.ClassFile.FieldType.int)) ∈ lw_all := lw_g (lw_at lw_m8 59 rfl) rfl
theorem q1855 : (Jvm.Cond.methodLink "SafeBucketsModel" (246 : Nat) ({ cls := "SafeBucketsModel", name := "worst", desc := "(II)I" } : Jvm.MethodName)) ∈ lw_all := lw_g (lw_at lw_m8 60 rfl) rfl
theorem q1856 : (Jvm.Cond.privateMethod ({ cls := "SafeBucketsModel", name := "worst", desc := "(II)I" } : Jvm.MethodName)) ∈ lw_tbl := lw_at lw_m8 61 rfl
theorem q1857 : (Jvm.Cond.instanceMethod ({ cls := "SafeBucketsModel", name := "worst", desc := "(II)I" } : Jvm.MethodName)) ∈ lw_all := lw_g (lw_at lw_m8 62 rfl) rfl
theorem q1858 : (Jvm.Cond.code ({ cls := "SafeBucketsModel", name := "worst", desc := "(II)I" } : Jvm.MethodName) prog_28_method_49_code (5 : Nat) (Option.some Jvm.ClassFile.FieldType.int)) ∈ lw_all := lw_g (lw_at lw_m8 63 rfl) rfl
theorem q1860 : (Jvm.Cond.instanceMethod ({ cls := "SafeBucketsModel", name := "error", desc := "(III)J" } : Jvm.MethodName)) ∈ lw_all := lw_g (lw_at lw_m8 65 rfl) rfl
theorem q1861 : (Jvm.Cond.selects "SafeBucketsModel" ({ cls := "SafeBucketsModel", name := "error", desc := "(III)J" } : Jvm.MethodName) ({ cls := "SafeBucketsModel", name := "error", desc := "(III)J" } : Jvm.MethodName)) ∈ lw_all := lw_g (lw_at lw_m8 66 rfl) rfl
theorem q1862 : (Jvm.Cond.code ({ cls := "SafeBucketsModel", name := "error", desc := "(III)J" } : Jvm.MethodName) prog_28_method_52_code (4 : Nat) (Option.some Jvm.ClassFile.FieldType.long)) ∈ lw_all := lw_g (lw_at lw_m8 67 rfl) rfl
theorem q1863 : (Jvm.Cond.methodLink "SafeBucketsModel" (249 : Nat) ({ cls := "SafeBucketsModel", name := "isBuilding", desc := "(III)Z" } : Jvm.MethodName)) ∈ lw_all := lw_g (lw_at lw_m8 68 rfl) rfl
theorem q1864 : (Jvm.Cond.privateMethod ({ cls := "SafeBucketsModel", name := "isBuilding", desc := "(III)Z" } : Jvm.MethodName)) ∈ lw_tbl := lw_at lw_m8 69 rfl
theorem q1865 : (Jvm.Cond.instanceMethod ({ cls := "SafeBucketsModel", name := "isBuilding", desc := "(III)Z" } : Jvm.MethodName)) ∈ lw_all := lw_g (lw_at lw_m8 70 rfl) rfl
theorem q1866 : (Jvm.Cond.code ({ cls := "SafeBucketsModel", name := "isBuilding", desc := "(III)Z" } : Jvm.MethodName) prog_28_method_51_code (4 : Nat) (Option.some Jvm.ClassFile.FieldType.boolean)) ∈ lw_all := lw_g (lw_at lw_m8 71 rfl) rfl
theorem q1868 : (Jvm.Cond.instanceMethod ({ cls := "SafeBucketsModel", name := "border", desc := "(IIII)I" } : Jvm.MethodName)) ∈ lw_all := lw_g (lw_at lw_m8 73 rfl) rfl
theorem q1869 : (Jvm.Cond.selects "SafeBucketsModel" ({ cls := "SafeBucketsModel", name := "border", desc := "(IIII)I" } : Jvm.MethodName) ({ cls := "SafeBucketsModel", name := "border", desc := "(IIII)I" } : Jvm.MethodName)) ∈ lw_all := lw_g (lw_at lw_m8 74 rfl) rfl
theorem q1870 : (Jvm.Cond.code ({ cls := "SafeBucketsModel", name := "border", desc := "(IIII)I" } : Jvm.MethodName) prog_28_method_53_code (5 : Nat) (Option.some Jvm.ClassFile.FieldType.int)) ∈ lw_all := lw_g (lw_at lw_m8 75 rfl) rfl
theorem q1872 : (Jvm.Cond.instanceMethod ({ cls := "SafeBucketsModel", name := "tried", desc := "(IIII)I" } : Jvm.MethodName)) ∈ lw_all := lw_g (lw_at lw_m8 77 rfl) rfl
theorem q1873 : (Jvm.Cond.selects "SafeBucketsModel" ({ cls := "SafeBucketsModel", name := "tried", desc := "(IIII)I" } : Jvm.MethodName) ({ cls := "SafeBucketsModel", name := "tried", desc := "(IIII)I" } : Jvm.MethodName)) ∈ lw_all := lw_g (lw_at lw_m8 78 rfl) rfl
theorem q1874 : (Jvm.Cond.code ({ cls := "SafeBucketsModel", name := "tried", desc := "(IIII)I" } : Jvm.MethodName) prog_28_method_55_code (8 : Nat) (Option.some Jvm.ClassFile.FieldType.int)) ∈ lw_all := lw_g (lw_at lw_m8 79 rfl) rfl
theorem q1875 : (Jvm.Cond.methodLink "SafeBucketsModel" (253 : Nat) ({ cls := "SafeBucketsModel", name := "triedFrom", desc := "(IIZ)I" } : Jvm.MethodName)) ∈ lw_all := lw_g (lw_at lw_m8 80 rfl) rfl
theorem q1876 : (Jvm.Cond.privateMethod ({ cls := "SafeBucketsModel", name := "triedFrom", desc := "(IIZ)I" } : Jvm.MethodName)) ∈ lw_tbl := lw_at lw_m8 81 rfl
theorem q1877 : (Jvm.Cond.instanceMethod ({ cls := "SafeBucketsModel", name := "triedFrom", desc := "(IIZ)I" } : Jvm.MethodName)) ∈ lw_all := lw_g (lw_at lw_m8 82 rfl) rfl
theorem q1878 : (Jvm.Cond.code ({ cls := "SafeBucketsModel", name := "triedFrom", desc := "(IIZ)I" } : Jvm.MethodName) prog_28_method_54_code (9 : Nat) (Option.some Jvm.ClassFile.FieldType.int)) ∈ lw_all := lw_g (lw_at lw_m8 83 rfl) rfl
theorem q1880 : (Jvm.Cond.instanceMethod ({ cls := "SafeBucketsModel", name := "fewest", desc := "(IIJ)I" } : Jvm.MethodName)) ∈ lw_all := lw_g (lw_at lw_m8 85 rfl) rfl
theorem q1881 : (Jvm.Cond.selects "SafeBucketsModel" ({ cls := "SafeBucketsModel", name := "fewest", desc := "(IIJ)I" } : Jvm.MethodName) ({ cls := "SafeBucketsModel", name := "fewest", desc := "(IIJ)I" } : Jvm.MethodName)) ∈ lw_all := lw_g (lw_at lw_m8 86 rfl) rfl
theorem q1882 : (Jvm.Cond.code ({ cls := "SafeBucketsModel", name := "fewest", desc := "(IIJ)I" } : Jvm.MethodName) prog_28_method_56_code (6 : Nat) (Option.some Jvm.ClassFile.FieldType.int)) ∈ lw_all := lw_g (lw_at lw_m8 87 rfl) rfl
theorem q1884 : (Jvm.Cond.instanceMethod ({ cls := "SafeBucketsModel", name := "add", desc := "(IIII)I" } : Jvm.MethodName)) ∈ lw_all := lw_g (lw_at lw_m8 89 rfl) rfl
theorem q1885 : (Jvm.Cond.selects "SafeBucketsModel" ({ cls := "SafeBucketsModel", name := "add", desc := "(IIII)I" } : Jvm.MethodName) ({ cls := "SafeBucketsModel", name := "add", desc := "(IIII)I" } : Jvm.MethodName)) ∈ lw_all := lw_g (lw_at lw_m8 90 rfl) rfl
theorem q1886 : (Jvm.Cond.code ({ cls := "SafeBucketsModel", name := "add", desc := "(IIII)I" } : Jvm.MethodName) prog_28_method_66_code (5 : Nat) (Option.some Jvm.ClassFile.FieldType.int)) ∈ lw_all := lw_g (lw_at lw_m8 91 rfl) rfl
theorem q1887 : (Jvm.Cond.methodLink "SafeBucketsModel" (272 : Nat) ({ cls := "SafeBucketsModel", name := "whyAdd", desc := "(IIII)I" } : Jvm.MethodName)) ∈ lw_all := lw_g (lw_at lw_m8 92 rfl) rfl
theorem q1888 : (Jvm.Cond.privateMethod ({ cls := "SafeBucketsModel", name := "whyAdd", desc := "(IIII)I" } : Jvm.MethodName)) ∈ lw_tbl := lw_at lw_m8 93 rfl
theorem q1889 : (Jvm.Cond.instanceMethod ({ cls := "SafeBucketsModel", name := "whyAdd", desc := "(IIII)I" } : Jvm.MethodName)) ∈ lw_all := lw_g (lw_at lw_m8 94 rfl) rfl
theorem q1890 : (Jvm.Cond.code ({ cls := "SafeBucketsModel", name := "whyAdd", desc := "(IIII)I" } : Jvm.MethodName) prog_28_method_63_code (5 : Nat) (Option.some Jvm.ClassFile.FieldType.int)) ∈ lw_all := lw_g (lw_at lw_m8 95 rfl) rfl
theorem q1891 : (Jvm.Cond.methodLink "SafeBucketsModel" (267 : Nat) ({ cls := "SafeBucketsModel", name := "areThere", desc := "(III)Z" } : Jvm.MethodName)) ∈ lw_all := lw_g (lw_at lw_m8 96 rfl) rfl
theorem q1892 : (Jvm.Cond.privateMethod ({ cls := "SafeBucketsModel", name := "areThere", desc := "(III)Z" } : Jvm.MethodName)) ∈ lw_tbl := lw_at lw_m8 97 rfl
theorem q1893 : (Jvm.Cond.instanceMethod ({ cls := "SafeBucketsModel", name := "areThere", desc := "(III)Z" } : Jvm.MethodName)) ∈ lw_all := lw_g (lw_at lw_m8 98 rfl) rfl
theorem q1894 : (Jvm.Cond.code ({ cls := "SafeBucketsModel", name := "areThere", desc := "(III)Z" } : Jvm.MethodName) prog_28_method_62_code (4 : Nat) (Option.some Jvm.ClassFile.FieldType.boolean)) ∈ lw_all := lw_g (lw_at lw_m8 99 rfl) rfl
theorem q1895 : (Jvm.Cond.constantLong "SafeBucketsModel" (270 : Nat) (99 : Int64)) ∈ lw_all := lw_g (lw_at lw_m8 100 rfl) rfl
theorem q1896 : (Jvm.Cond.methodLink "SafeBucketsModel" (275 : Nat) ({ cls := "SafeBucketsModel", name := "isRefused", desc := "(IIII)Z" } : Jvm.MethodName)) ∈ lw_all := lw_g (lw_at lw_m8 101 rfl) rfl
theorem q1897 : (Jvm.Cond.privateMethod ({ cls := "SafeBucketsModel", name := "isRefused", desc := "(IIII)Z" } : Jvm.MethodName)) ∈ lw_tbl := lw_at lw_m8 102 rfl
theorem q1898 : (Jvm.Cond.instanceMethod ({ cls := "SafeBucketsModel", name := "isRefused", desc := "(IIII)Z" } : Jvm.MethodName)) ∈ lw_all := lw_g (lw_at lw_m8 103 rfl) rfl
theorem q1899 : (Jvm.Cond.code ({ cls := "SafeBucketsModel", name := "isRefused", desc := "(IIII)Z" } : Jvm.MethodName) prog_28_method_58_code (6 : Nat) (Option.some Jvm.ClassFile.FieldType.boolean)) ∈ lw_all := lw_g (lw_at lw_m8 104 rfl) rfl
theorem q1900 : (Jvm.Cond.methodLink "SafeBucketsModel" (257 : Nat) ({ cls := "SafeBucketsModel", name := "keep", desc := "()V" } : Jvm.MethodName)) ∈ lw_all := lw_g (lw_at lw_m8 105 rfl) rfl
theorem q1901 : (Jvm.Cond.privateMethod ({ cls := "SafeBucketsModel", name := "keep", desc := "()V" } : Jvm.MethodName)) ∈ lw_tbl := lw_at lw_m8 106 rfl
theorem q1902 : (Jvm.Cond.instanceMethod ({ cls := "SafeBucketsModel", name := "keep", desc := "()V" } : Jvm.MethodName)) ∈ lw_all := lw_g (lw_at lw_m8 107 rfl) rfl
theorem q1903 : (Jvm.Cond.code ({ cls := "SafeBucketsModel", name := "keep", desc := "()V" } : Jvm.MethodName) prog_28_method_57_code (2 : Nat) (Option.none : Option Jvm.ClassFile.FieldType)) ∈ lw_all := lw_g (lw_at lw_m8 108 rfl) rfl
theorem q1904 : (Jvm.Cond.methodLink "SafeBucketsModel" (279 : Nat) ({ cls := "SafeBucketsModel", name := "change", desc := "(IIII)V" } : Jvm.MethodName)) ∈ lw_all := lw_g (lw_at lw_m8 109 rfl) rfl
theorem q1905 : (Jvm.Cond.privateMethod ({ cls := "SafeBucketsModel", name := "change", desc := "(IIII)V" } : Jvm.MethodName)) ∈ lw_tbl := lw_at lw_m8 110 rfl
theorem q1906 : (Jvm.Cond.instanceMethod ({ cls := "SafeBucketsModel", name := "change", desc := "(IIII)V" } : Jvm.MethodName)) ∈ lw_all := lw_g (lw_at lw_m8 111 rfl) rfl
theorem q1907 : (Jvm.Cond.code ({ cls := "SafeBucketsModel", name := "change", desc := "(IIII)V" } : Jvm.MethodName) prog_28_method_61_code (6 : Nat) (Option.none : Option Jvm.ClassFile.FieldType)) ∈ lw_all := lw_g (lw_at lw_m8 112 rfl) rfl
theorem q1908 : (Jvm.Cond.methodLink "SafeBucketsModel" (263 : Nat) ({ cls := "SafeBucketsModel", name := "drifts", desc := "(IIII)V" } : Jvm.MethodName)) ∈ lw_all := lw_g (lw_at lw_m8 113 rfl) rfl
theorem q1909 : (Jvm.Cond.privateMethod ({ cls := "SafeBucketsModel", name := "drifts", desc := "(IIII)V" } : Jvm.MethodName)) ∈ lw_tbl := lw_at lw_m8 114 rfl
theorem q1910 : (Jvm.Cond.instanceMethod ({ cls := "SafeBucketsModel", name := "drifts", desc := "(IIII)V" } : Jvm.MethodName)) ∈ lw_all := lw_g (lw_at lw_m8 115 rfl) rfl
theorem q1911 : (Jvm.Cond.code ({ cls := "SafeBucketsModel", name := "drifts", desc := "(IIII)V" } : Jvm.MethodName) prog_28_method_60_code (7 : Nat) (Option.none : Option Jvm.ClassFile.FieldType)) ∈ lw_all := lw_g (lw_at lw_m8 116 rfl) rfl
theorem q1912 : (Jvm.Cond.methodLink "SafeBucketsModel" (260 : Nat) ({ cls := "SafeBucketsModel", name := "bucketOf", desc := "(III)I" } : Jvm.MethodName)) ∈ lw_all := lw_g (lw_at lw_m8 117 rfl) rfl
theorem q1913 : (Jvm.Cond.privateMethod ({ cls := "SafeBucketsModel", name := "bucketOf", desc := "(III)I" } : Jvm.MethodName)) ∈ lw_tbl := lw_at lw_m8 118 rfl
theorem q1914 : (Jvm.Cond.instanceMethod ({ cls := "SafeBucketsModel", name := "bucketOf", desc := "(III)I" } : Jvm.MethodName)) ∈ lw_all := lw_g (lw_at lw_m8 119 rfl) rfl
theorem q1915 : (Jvm.Cond.code ({ cls := "SafeBucketsModel", name := "bucketOf", desc := "(III)I" } : Jvm.MethodName) prog_28_method_59_code (5 : Nat) (Option.some Jvm.ClassFile.FieldType.int)) ∈ lw_all := lw_g (lw_at lw_m8 120 rfl) rfl
theorem q1917 : (Jvm.Cond.instanceMethod ({ cls := "SafeBucketsModel", name := "drop", desc := "(IIII)I" } : Jvm.MethodName)) ∈ lw_all := lw_g (lw_at lw_m8 122 rfl) rfl
theorem q1918 : (Jvm.Cond.selects "SafeBucketsModel" ({ cls := "SafeBucketsModel", name := "drop", desc := "(IIII)I" } : Jvm.MethodName) ({ cls := "SafeBucketsModel", name := "drop", desc := "(IIII)I" } : Jvm.MethodName)) ∈ lw_all := lw_g (lw_at lw_m8 123 rfl) rfl
theorem q1919 : (Jvm.Cond.code ({ cls := "SafeBucketsModel", name := "drop", desc := "(IIII)I" } : Jvm.MethodName) prog_28_method_67_code (5 : Nat) (Option.some Jvm.ClassFile.FieldType.int)) ∈ lw_all := lw_g (lw_at lw_m8 124 rfl) rfl
theorem q1920 : (Jvm.Cond.methodLink "SafeBucketsModel" (282 : Nat) ({ cls := "SafeBucketsModel", name := "whyDrop", desc := "(IIII)I" } : Jvm.MethodName)) ∈ lw_all := lw_g (lw_at lw_m8 125 rfl) rfl
theorem q1921 : (Jvm.Cond.privateMethod ({ cls := "SafeBucketsModel", name := "whyDrop", desc := "(IIII)I" } : Jvm.MethodName)) ∈ lw_tbl := lw_at lw_m8 126 rfl
theorem q1922 : (Jvm.Cond.instanceMethod ({ cls := "SafeBucketsModel", name := "whyDrop", desc := "(IIII)I" } : Jvm.MethodName)) ∈ lw_all := lw_g (lw_at lw_m8 127 rfl) rfl
theorem q1923 : (Jvm.Cond.code ({ cls := "SafeBucketsModel", name := "whyDrop", desc := "(IIII)I" } : Jvm.MethodName) prog_28_method_64_code (5 : Nat) (Option.some Jvm.ClassFile.FieldType.int)) ∈ lw_all := lw_g (lw_at lw_m8 128 rfl) rfl
theorem q1925 : (Jvm.Cond.instanceMethod ({ cls := "SafeBucketsModel", name := "move", desc := "(IIIII)I" } : Jvm.MethodName)) ∈ lw_all := lw_g (lw_at lw_m8 130 rfl) rfl
theorem q1926 : (Jvm.Cond.selects "SafeBucketsModel" ({ cls := "SafeBucketsModel", name := "move", desc := "(IIIII)I" } : Jvm.MethodName) ({ cls := "SafeBucketsModel", name := "move", desc := "(IIIII)I" } : Jvm.MethodName)) ∈ lw_all := lw_g (lw_at lw_m8 131 rfl) rfl
theorem q1927 : (Jvm.Cond.code ({ cls := "SafeBucketsModel", name := "move", desc := "(IIIII)I" } : Jvm.MethodName) prog_28_method_68_code (7 : Nat) (Option.some Jvm.ClassFile.FieldType.int)) ∈ lw_all := lw_g (lw_at lw_m8 132 rfl) rfl
theorem q1929 : (Jvm.Cond.instanceMethod ({ cls := "SafeBucketsModel", name := "build", desc := "(II)I" } : Jvm.MethodName)) ∈ lw_all := lw_g (lw_at lw_m8 134 rfl) rfl
theorem q1930 : (Jvm.Cond.selects "SafeBucketsModel" ({ cls := "SafeBucketsModel", name := "build", desc := "(II)I" } : Jvm.MethodName) ({ cls := "SafeBucketsModel", name := "build", desc := "(II)I" } : Jvm.MethodName)) ∈ lw_all := lw_g (lw_at lw_m8 135 rfl) rfl
theorem q1931 : (Jvm.Cond.code ({ cls := "SafeBucketsModel", name := "build", desc := "(II)I" } : Jvm.MethodName) prog_28_method_69_code (3 : Nat) (Option.some Jvm.ClassFile.FieldType.int)) ∈ lw_all := lw_g (lw_at lw_m8 136 rfl) rfl
theorem q1932 : (Jvm.Cond.methodLink "SafeBucketsModel" (285 : Nat) ({ cls := "SafeBucketsModel", name := "whyBuild", desc := "(II)I" } : Jvm.MethodName)) ∈ lw_all := lw_g (lw_at lw_m8 137 rfl) rfl
theorem q1933 : (Jvm.Cond.privateMethod ({ cls := "SafeBucketsModel", name := "whyBuild", desc := "(II)I" } : Jvm.MethodName)) ∈ lw_tbl := lw_at lw_m8 138 rfl
theorem q1934 : (Jvm.Cond.instanceMethod ({ cls := "SafeBucketsModel", name := "whyBuild", desc := "(II)I" } : Jvm.MethodName)) ∈ lw_all := lw_g (lw_at lw_m8 139 rfl) rfl
theorem q1935 : (Jvm.Cond.code ({ cls := "SafeBucketsModel", name := "whyBuild", desc := "(II)I" } : Jvm.MethodName) prog_28_method_65_code (3 : Nat) (Option.some Jvm.ClassFile.FieldType.int)) ∈ lw_all := lw_g (lw_at lw_m8 140 rfl) rfl
theorem q1937 : (Jvm.Cond.instanceMethod ({ cls := "SafeBucketsModel", name := "budget", desc := "(I)I" } : Jvm.MethodName)) ∈ lw_all := lw_g (lw_at lw_m8 142 rfl) rfl
theorem q1938 : (Jvm.Cond.selects "SafeBucketsModel" ({ cls := "SafeBucketsModel", name := "budget", desc := "(I)I" } : Jvm.MethodName) ({ cls := "SafeBucketsModel", name := "budget", desc := "(I)I" } : Jvm.MethodName)) ∈ lw_all := lw_g (lw_at lw_m8 143 rfl) rfl
theorem q1939 : (Jvm.Cond.code ({ cls := "SafeBucketsModel", name := "budget", desc := "(I)I" } : Jvm.MethodName) prog_28_method_70_code (3 : Nat) (Option.some Jvm.ClassFile.FieldType.int)) ∈ lw_all := lw_g (lw_at lw_m8 144 rfl) rfl
theorem q1940 : (Jvm.Cond.constantLong "SafeBucketsModel" (288 : Nat) (999 : Int64)) ∈ lw_all := lw_g (lw_at lw_m8 145 rfl) rfl
theorem q1942 : (Jvm.Cond.instanceMethod ({ cls := "SafeBucketsModel", name := "years", desc := "(IJ)I" } : Jvm.MethodName)) ∈ lw_all := lw_g (lw_at lw_m8 147 rfl) rfl
theorem q1943 : (Jvm.Cond.selects "SafeBucketsModel" ({ cls := "SafeBucketsModel", name := "years", desc := "(IJ)I" } : Jvm.MethodName) ({ cls := "SafeBucketsModel", name := "years", desc := "(IJ)I" } : Jvm.MethodName)) ∈ lw_all := lw_g (lw_at lw_m8 148 rfl) rfl
theorem q1944 : (Jvm.Cond.code ({ cls := "SafeBucketsModel", name := "years", desc := "(IJ)I" } : Jvm.MethodName) prog_28_method_74_code (5 : Nat) (Option.some Jvm.ClassFile.FieldType.int)) ∈ lw_all := lw_g (lw_at lw_m8 149 rfl) rfl
theorem q1945 : (Jvm.Cond.constantLong "SafeBucketsModel" (313 : Nat) (40 : Int64)) ∈ lw_all := lw_g (lw_at lw_m8 150 rfl) rfl
theorem q1946 : (Jvm.Cond.methodLink "SafeBucketsModel" (315 : Nat) ({ cls := "SafeBucketsModel", name := "drawYear", desc := "()V" } : Jvm.MethodName)) ∈ lw_all := lw_g (lw_at lw_m8 151 rfl) rfl
theorem q1947 : (Jvm.Cond.privateMethod ({ cls := "SafeBucketsModel", name := "drawYear", desc := "()V" } : Jvm.MethodName)) ∈ lw_tbl := lw_at lw_m8 152 rfl
theorem q1948 : (Jvm.Cond.instanceMethod ({ cls := "SafeBucketsModel", name := "drawYear", desc := "()V" } : Jvm.MethodName)) ∈ lw_all := lw_g (lw_at lw_m8 153 rfl) rfl
theorem q1949 : (Jvm.Cond.code ({ cls := "SafeBucketsModel", name := "drawYear", desc := "()V" } : Jvm.MethodName) prog_28_method_73_code (6 : Nat) (Option.none : Option Jvm.ClassFile.FieldType)) ∈ lw_all := lw_g (lw_at lw_m8 154 rfl) rfl
theorem q1950 : (Jvm.Cond.methodLink "SafeBucketsModel" (298 : Nat) ({ cls := "SafeBucketsModel", name := "draw", desc := "(I)I" } : Jvm.MethodName)) ∈ lw_all := lw_g (lw_at lw_m8 155 rfl) rfl
theorem q1951 : (Jvm.Cond.privateMethod ({ cls := "SafeBucketsModel", name := "draw", desc := "(I)I" } : Jvm.MethodName)) ∈ lw_tbl := lw_at lw_m8 156 rfl
theorem q1952 : (Jvm.Cond.instanceMethod ({ cls := "SafeBucketsModel", name := "draw", desc := "(I)I" } : Jvm.MethodName)) ∈ lw_all := lw_g (lw_at lw_m8 157 rfl) rfl
theorem q1953 : (Jvm.Cond.code ({ cls := "SafeBucketsModel", name := "draw", desc := "(I)I" } : Jvm.MethodName) prog_28_method_71_code (2 : Nat) (Option.some Jvm.ClassFile.FieldType.int)) ∈ lw_all := lw_g (lw_at lw_m8 158 rfl) rfl
theorem q1954 : (Jvm.Cond.constantLong "SafeBucketsModel" (294 : Nat) (6364136223846793005 : Int64)) ∈ lw_all := lw_g (lw_at lw_m8 159 rfl) rfl
theorem q1955 : (Jvm.Cond.constantLong "SafeBucketsModel" (296 : Nat) (1442695040888963407 : Int64)) ∈ lw_all := lw_g (lw_at lw_m8 160 rfl) rfl
theorem q1956 : (Jvm.Cond.methodLink "SafeBucketsModel" (301 : Nat) ({ cls := "SafeBucketsModel", name := "build", desc := "(II)I" } : Jvm.MethodName)) ∈ lw_all := lw_g (lw_at lw_m8 161 rfl) rfl
theorem q1957 : (Jvm.Cond.methodLink "SafeBucketsModel" (304 : Nat) ({ cls := "SafeBucketsModel", name := "drawValue", desc := "(I)I" } : Jvm.MethodName)) ∈ lw_all := lw_g (lw_at lw_m8 162 rfl) rfl
theorem q1958 : (Jvm.Cond.privateMethod ({ cls := "SafeBucketsModel", name := "drawValue", desc := "(I)I" } : Jvm.MethodName)) ∈ lw_tbl := lw_at lw_m8 163 rfl
theorem q1959 : (Jvm.Cond.instanceMethod ({ cls := "SafeBucketsModel", name := "drawValue", desc := "(I)I" } : Jvm.MethodName)) ∈ lw_all := lw_g (lw_at lw_m8 164 rfl) rfl
theorem q1960 : (Jvm.Cond.code ({ cls := "SafeBucketsModel", name := "drawValue", desc := "(I)I" } : Jvm.MethodName) prog_28_method_72_code (3 : Nat) (Option.some Jvm.ClassFile.FieldType.int)) ∈ lw_all := lw_g (lw_at lw_m8 165 rfl) rfl
theorem q1961 : (Jvm.Cond.methodLink "SafeBucketsModel" (307 : Nat) ({ cls := "SafeBucketsModel", name := "add", desc := "(IIII)I" } : Jvm.MethodName)) ∈ lw_all := lw_g (lw_at lw_m8 166 rfl) rfl
theorem q1962 : (Jvm.Cond.methodLink "SafeBucketsModel" (310 : Nat) ({ cls := "SafeBucketsModel", name := "drop", desc := "(IIII)I" } : Jvm.MethodName)) ∈ lw_all := lw_g (lw_at lw_m8 167 rfl) rfl
theorem q1963 : (Jvm.Cond.methodLink "SafeBucketsModel" (318 : Nat) ({ cls := "SafeBucketsModel", name := "rowsOfAll", desc := "()I" } : Jvm.MethodName)) ∈ lw_all := lw_g (lw_at lw_m8 168 rfl) rfl
theorem q1964 : (Jvm.Cond.privateMethod ({ cls := "SafeBucketsModel", name := "rowsOfAll", desc := "()I" } : Jvm.MethodName)) ∈ lw_tbl := lw_at lw_m8 169 rfl
theorem q1965 : (Jvm.Cond.instanceMethod ({ cls := "SafeBucketsModel", name := "rowsOfAll", desc := "()I" } : Jvm.MethodName)) ∈ lw_all := lw_g (lw_at lw_m8 170 rfl) rfl
theorem q1966 : (Jvm.Cond.code ({ cls := "SafeBucketsModel", name := "rowsOfAll", desc := "()I" } : Jvm.MethodName) prog_28_method_35_code (3 : Nat) (Option.some Jvm.ClassFile.FieldType.int)) ∈ lw_all := lw_g (lw_at lw_m8 171 rfl) rfl
theorem q1968 : (Jvm.Cond.instanceMethod ({ cls := "SafeBucketsModel", name := "status", desc := "(I)I" } : Jvm.MethodName)) ∈ lw_all := lw_g (lw_at lw_m8 173 rfl) rfl
theorem q1969 : (Jvm.Cond.selects "SafeBucketsModel" ({ cls := "SafeBucketsModel", name := "status", desc := "(I)I" } : Jvm.MethodName) ({ cls := "SafeBucketsModel", name := "status", desc := "(I)I" } : Jvm.MethodName)) ∈ lw_all := lw_g (lw_at lw_m8 174 rfl) rfl
theorem q1970 : (Jvm.Cond.code ({ cls := "SafeBucketsModel", name := "status", desc := "(I)I" } : Jvm.MethodName) prog_28_method_75_code (2 : Nat) (Option.some Jvm.ClassFile.FieldType.int)) ∈ lw_all := lw_g (lw_at lw_m8 175 rfl) rfl
theorem q1971 : (Jvm.Cond.constantLong "SafeBucketsModel" (321 : Nat) (4 : Int64)) ∈ lw_all := lw_g (lw_at lw_m8 176 rfl) rfl
theorem q1973 : (Jvm.Cond.instanceMethod ({ cls := "SafeBucketsModel", name := "undo", desc := "()I" } : Jvm.MethodName)) ∈ lw_all := lw_g (lw_at lw_m8 178 rfl) rfl
theorem q1974 : (Jvm.Cond.selects "SafeBucketsModel" ({ cls := "SafeBucketsModel", name := "undo", desc := "()I" } : Jvm.MethodName) ({ cls := "SafeBucketsModel", name := "undo", desc := "()I" } : Jvm.MethodName)) ∈ lw_all := lw_g (lw_at lw_m8 179 rfl) rfl
theorem q1975 : (Jvm.Cond.code ({ cls := "SafeBucketsModel", name := "undo", desc := "()I" } : Jvm.MethodName) prog_28_method_76_code (2 : Nat) (Option.some Jvm.ClassFile.FieldType.int)) ∈ lw_all := lw_g (lw_at lw_m8 180 rfl) rfl
theorem q1977 : (Jvm.Cond.instanceMethod ({ cls := "SafeBucketsModel", name := "log", desc := "(II)I" } : Jvm.MethodName)) ∈ lw_all := lw_g (lw_at lw_m8 182 rfl) rfl
theorem q1978 : (Jvm.Cond.selects "SafeBucketsModel" ({ cls := "SafeBucketsModel", name := "log", desc := "(II)I" } : Jvm.MethodName) ({ cls := "SafeBucketsModel", name := "log", desc := "(II)I" } : Jvm.MethodName)) ∈ lw_all := lw_g (lw_at lw_m8 183 rfl) rfl
theorem q1979 : (Jvm.Cond.code ({ cls := "SafeBucketsModel", name := "log", desc := "(II)I" } : Jvm.MethodName) prog_28_method_77_code (3 : Nat) (Option.some Jvm.ClassFile.FieldType.int)) ∈ lw_all := lw_g (lw_at lw_m8 184 rfl) rfl
theorem q1981 : (Jvm.Cond.instanceMethod ({ cls := "SafeBucketsModel", name := "trace", desc := "(I)I" } : Jvm.MethodName)) ∈ lw_all := lw_g (lw_at lw_m8 186 rfl) rfl
theorem q1982 : (Jvm.Cond.selects "SafeBucketsModel" ({ cls := "SafeBucketsModel", name := "trace", desc := "(I)I" } : Jvm.MethodName) ({ cls := "SafeBucketsModel", name := "trace", desc := "(I)I" } : Jvm.MethodName)) ∈ lw_all := lw_g (lw_at lw_m8 187 rfl) rfl
theorem q1983 : (Jvm.Cond.code ({ cls := "SafeBucketsModel", name := "trace", desc := "(I)I" } : Jvm.MethodName) prog_28_method_82_code (2 : Nat) (Option.some Jvm.ClassFile.FieldType.int)) ∈ lw_all := lw_g (lw_at lw_m8 188 rfl) rfl
theorem q1985 : (Jvm.Cond.instanceMethod ({ cls := "SafeBucketsModel", name := "where", desc := "(III)I" } : Jvm.MethodName)) ∈ lw_all := lw_g (lw_at lw_m8 190 rfl) rfl
theorem q1986 : (Jvm.Cond.selects "SafeBucketsModel" ({ cls := "SafeBucketsModel", name := "where", desc := "(III)I" } : Jvm.MethodName) ({ cls := "SafeBucketsModel", name := "where", desc := "(III)I" } : Jvm.MethodName)) ∈ lw_all := lw_g (lw_at lw_m8 191 rfl) rfl
theorem q1987 : (Jvm.Cond.code ({ cls := "SafeBucketsModel", name := "where", desc := "(III)I" } : Jvm.MethodName) prog_28_method_93_code (4 : Nat) (Option.some Jvm.ClassFile.FieldType.int)) ∈ lw_all := lw_g (lw_at lw_m8 192 rfl) rfl
theorem q1988 : (Jvm.Cond.methodLink "SafeBucketsModel" (359 : Nat) ({ cls := "SafeBucketsModel", name := "isWhere", desc := "(I)Z" } : Jvm.MethodName)) ∈ lw_all := lw_g (lw_at lw_m8 193 rfl) rfl
theorem q1989 : (Jvm.Cond.privateMethod ({ cls := "SafeBucketsModel", name := "isWhere", desc := "(I)Z" } : Jvm.MethodName)) ∈ lw_tbl := lw_at lw_m8 194 rfl
theorem q1990 : (Jvm.Cond.instanceMethod ({ cls := "SafeBucketsModel", name := "isWhere", desc := "(I)Z" } : Jvm.MethodName)) ∈ lw_all := lw_g (lw_at lw_m8 195 rfl) rfl
theorem q1991 : (Jvm.Cond.code ({ cls := "SafeBucketsModel", name := "isWhere", desc := "(I)Z" } : Jvm.MethodName) prog_28_method_92_code (2 : Nat) (Option.some Jvm.ClassFile.FieldType.boolean)) ∈ lw_all := lw_g (lw_at lw_m8 196 rfl) rfl
theorem q1992 : (Jvm.Cond.methodLink "SafeBucketsModel" (362 : Nat) ({ cls := "SafeBucketsModel", name := "whereBy", desc := "(III)I" } : Jvm.MethodName)) ∈ lw_all := lw_g (lw_at lw_m8 197 rfl) rfl
theorem q1993 : (Jvm.Cond.privateMethod ({ cls := "SafeBucketsModel", name := "whereBy", desc := "(III)I" } : Jvm.MethodName)) ∈ lw_tbl := lw_at lw_m8 198 rfl
theorem q1994 : (Jvm.Cond.instanceMethod ({ cls := "SafeBucketsModel", name := "whereBy", desc := "(III)I" } : Jvm.MethodName)) ∈ lw_all := lw_g (lw_at lw_m8 199 rfl) rfl
theorem q1995 : (Jvm.Cond.code ({ cls := "SafeBucketsModel", name := "whereBy", desc := "(III)I" } : Jvm.MethodName) prog_28_method_91_code (8 : Nat) (Option.some Jvm.ClassFile.FieldType.int)) ∈ lw_all := lw_g (lw_at lw_m8 200 rfl) rfl
theorem q1996 : (Jvm.Cond.methodLink "SafeBucketsModel" (341 : Nat) ({ cls := "SafeBucketsModel", name := "terms", desc := "(I)I" } : Jvm.MethodName)) ∈ lw_all := lw_g (lw_at lw_m8 201 rfl) rfl
theorem q1997 : (Jvm.Cond.privateMethod ({ cls := "SafeBucketsModel", name := "terms", desc := "(I)I" } : Jvm.MethodName)) ∈ lw_tbl := lw_at lw_m8 202 rfl
theorem q1998 : (Jvm.Cond.instanceMethod ({ cls := "SafeBucketsModel", name := "terms", desc := "(I)I" } : Jvm.MethodName)) ∈ lw_all := lw_g (lw_at lw_m8 203 rfl) rfl
theorem q1999 : (Jvm.Cond.code ({ cls := "SafeBucketsModel", name := "terms", desc := "(I)I" } : Jvm.MethodName) prog_28_method_85_code (2 : Nat) (Option.some Jvm.ClassFile.FieldType.int)) ∈ lw_all := lw_g (lw_at lw_m8 204 rfl) rfl
theorem q2000 : (Jvm.Cond.methodLink "SafeBucketsModel" (335 : Nat) ({ cls := "SafeBucketsModel", name := "unitAt", desc := "(III)I" } : Jvm.MethodName)) ∈ lw_all := lw_g (lw_at lw_m8 205 rfl) rfl
theorem q2001 : (Jvm.Cond.privateMethod ({ cls := "SafeBucketsModel", name := "unitAt", desc := "(III)I" } : Jvm.MethodName)) ∈ lw_tbl := lw_at lw_m8 206 rfl
theorem q2002 : (Jvm.Cond.instanceMethod ({ cls := "SafeBucketsModel", name := "unitAt", desc := "(III)I" } : Jvm.MethodName)) ∈ lw_all := lw_g (lw_at lw_m8 207 rfl) rfl
theorem q2003 : (Jvm.Cond.code ({ cls := "SafeBucketsModel", name := "unitAt", desc := "(III)I" } : Jvm.MethodName) prog_28_method_83_code (4 : Nat) (Option.some Jvm.ClassFile.FieldType.int)) ∈ lw_all := lw_g (lw_at lw_m8 208 rfl) rfl
theorem q2004 : (Jvm.Cond.methodLink "SafeBucketsModel" (356 : Nat) ({ cls := "SafeBucketsModel", name := "termBy", desc := "(IIII)I" } : Jvm.MethodName)) ∈ lw_all := lw_g (lw_at lw_m8 209 rfl) rfl
theorem q2005 : (Jvm.Cond.privateMethod ({ cls := "SafeBucketsModel", name := "termBy", desc := "(IIII)I" } : Jvm.MethodName)) ∈ lw_tbl := lw_at lw_m8 210 rfl
theorem q2006 : (Jvm.Cond.instanceMethod ({ cls := "SafeBucketsModel", name := "termBy", desc := "(IIII)I" } : Jvm.MethodName)) ∈ lw_all := lw_g (lw_at lw_m8 211 rfl) rfl
theorem q2007 : (Jvm.Cond.code ({ cls := "SafeBucketsModel", name := "termBy", desc := "(IIII)I" } : Jvm.MethodName) prog_28_method_90_code (10 : Nat) (Option.some Jvm.ClassFile.FieldType.int)) ∈ lw_all := lw_g (lw_at lw_m8 212 rfl) rfl
theorem q2008 : (Jvm.Cond.methodLink "SafeBucketsModel" (353 : Nat) ({ cls := "SafeBucketsModel", name := "unitBy", desc := "(IIII)I" } : Jvm.MethodName)) ∈ lw_all := lw_g (lw_at lw_m8 213 rfl) rfl
theorem q2009 : (Jvm.Cond.privateMethod ({ cls := "SafeBucketsModel", name := "unitBy", desc := "(IIII)I" } : Jvm.MethodName)) ∈ lw_tbl := lw_at lw_m8 214 rfl
theorem q2010 : (Jvm.Cond.instanceMethod ({ cls := "SafeBucketsModel", name := "unitBy", desc := "(IIII)I" } : Jvm.MethodName)) ∈ lw_all := lw_g (lw_at lw_m8 215 rfl) rfl
theorem q2011 : (Jvm.Cond.code ({ cls := "SafeBucketsModel", name := "unitBy", desc := "(IIII)I" } : Jvm.MethodName) prog_28_method_89_code (13 : Nat) (Option.some Jvm.ClassFile.FieldType.int)) ∈ lw_all := lw_g (lw_at lw_m8 216 rfl) rfl
theorem q2012 : (Jvm.Cond.methodLink "SafeBucketsModel" (338 : Nat) ({ cls := "SafeBucketsModel", name := "isUnitOf", desc := "(III)Z" } : Jvm.MethodName)) ∈ lw_all := lw_g (lw_at lw_m8 217 rfl) rfl
theorem q2013 : (Jvm.Cond.privateMethod ({ cls := "SafeBucketsModel", name := "isUnitOf", desc := "(III)Z" } : Jvm.MethodName)) ∈ lw_tbl := lw_at lw_m8 218 rfl
theorem q2014 : (Jvm.Cond.instanceMethod ({ cls := "SafeBucketsModel", name := "isUnitOf", desc := "(III)Z" } : Jvm.MethodName)) ∈ lw_all := lw_g (lw_at lw_m8 219 rfl) rfl
theorem q2015 : (Jvm.Cond.code ({ cls := "SafeBucketsModel", name := "isUnitOf", desc := "(III)Z" } : Jvm.MethodName) prog_28_method_84_code (5 : Nat) (Option.some Jvm.ClassFile.FieldType.boolean)) ∈ lw_all := lw_g (lw_at lw_m8 220 rfl) rfl
theorem q2016 : (Jvm.Cond.methodLink "SafeBucketsModel" (365 : Nat) ({ cls := "SafeBucketsModel", name := "begin", desc := "()V" } : Jvm.MethodName)) ∈ lw_all := lw_g (lw_at lw_m8 221 rfl) rfl
theorem q2017 : (Jvm.Cond.privateMethod ({ cls := "SafeBucketsModel", name := "begin", desc := "()V" } : Jvm.MethodName)) ∈ lw_tbl := lw_at lw_m8 222 rfl
theorem q2018 : (Jvm.Cond.instanceMethod ({ cls := "SafeBucketsModel", name := "begin", desc := "()V" } : Jvm.MethodName)) ∈ lw_all := lw_g (lw_at lw_m8 223 rfl) rfl
theorem q2019 : (Jvm.Cond.code ({ cls := "SafeBucketsModel", name := "begin", desc := "()V" } : Jvm.MethodName) prog_28_method_78_code (1 : Nat) (Option.none : Option Jvm.ClassFile.FieldType)) ∈ lw_all := lw_g (lw_at lw_m8 224 rfl) rfl
theorem q2020 : (Jvm.Cond.methodLink "SafeBucketsModel" (332 : Nat) ({ cls := "SafeBucketsModel", name := "take", desc := "(I)V" } : Jvm.MethodName)) ∈ lw_all := lw_g (lw_at lw_m8 225 rfl) rfl
theorem q2021 : (Jvm.Cond.privateMethod ({ cls := "SafeBucketsModel", name := "take", desc := "(I)V" } : Jvm.MethodName)) ∈ lw_tbl := lw_at lw_m8 226 rfl
theorem q2022 : (Jvm.Cond.instanceMethod ({ cls := "SafeBucketsModel", name := "take", desc := "(I)V" } : Jvm.MethodName)) ∈ lw_all := lw_g (lw_at lw_m8 227 rfl) rfl
theorem q2023 : (Jvm.Cond.code ({ cls := "SafeBucketsModel", name := "take", desc := "(I)V" } : Jvm.MethodName) prog_28_method_79_code (2 : Nat) (Option.none : Option Jvm.ClassFile.FieldType)) ∈ lw_all := lw_g (lw_at lw_m8 228 rfl) rfl
theorem q2024 : (Jvm.Cond.methodLink "SafeBucketsModel" (368 : Nat) ({ cls := "SafeBucketsModel", name := "truth", desc := "(IIZ)I" } : Jvm.MethodName)) ∈ lw_all := lw_g (lw_at lw_m8 229 rfl) rfl
theorem q2025 : (Jvm.Cond.privateMethod ({ cls := "SafeBucketsModel", name := "truth", desc := "(IIZ)I" } : Jvm.MethodName)) ∈ lw_tbl := lw_at lw_m8 230 rfl
theorem q2026 : (Jvm.Cond.instanceMethod ({ cls := "SafeBucketsModel", name := "truth", desc := "(IIZ)I" } : Jvm.MethodName)) ∈ lw_all := lw_g (lw_at lw_m8 231 rfl) rfl
theorem q2027 : (Jvm.Cond.code ({ cls := "SafeBucketsModel", name := "truth", desc := "(IIZ)I" } : Jvm.MethodName) prog_28_method_88_code (8 : Nat) (Option.some Jvm.ClassFile.FieldType.int)) ∈ lw_all := lw_g (lw_at lw_m8 232 rfl) rfl
theorem q2028 : (Jvm.Cond.methodLink "SafeBucketsModel" (347 : Nat) ({ cls := "SafeBucketsModel", name := "isOver", desc := "()Z" } : Jvm.MethodName)) ∈ lw_all := lw_g (lw_at lw_m8 233 rfl) rfl
theorem q2029 : (Jvm.Cond.privateMethod ({ cls := "SafeBucketsModel", name := "isOver", desc := "()Z" } : Jvm.MethodName)) ∈ lw_tbl := lw_at lw_m8 234 rfl
theorem q2030 : (Jvm.Cond.instanceMethod ({ cls := "SafeBucketsModel", name := "isOver", desc := "()Z" } : Jvm.MethodName)) ∈ lw_all := lw_g (lw_at lw_m8 235 rfl) rfl
theorem q2031 : (Jvm.Cond.code ({ cls := "SafeBucketsModel", name := "isOver", desc := "()Z" } : Jvm.MethodName) prog_28_method_80_code (1 : Nat) (Option.some Jvm.ClassFile.FieldType.boolean)) ∈ lw_all := lw_g (lw_at lw_m8 236 rfl) rfl
theorem q2032 : (Jvm.Cond.methodLink "SafeBucketsModel" (350 : Nat) ({ cls := "SafeBucketsModel", name := "holds", desc := "(III)Z" } : Jvm.MethodName)) ∈ lw_all := lw_g (lw_at lw_m8 237 rfl) rfl
theorem q2033 : (Jvm.Cond.privateMethod ({ cls := "SafeBucketsModel", name := "holds", desc := "(III)Z" } : Jvm.MethodName)) ∈ lw_tbl := lw_at lw_m8 238 rfl
theorem q2034 : (Jvm.Cond.instanceMethod ({ cls := "SafeBucketsModel", name := "holds", desc := "(III)Z" } : Jvm.MethodName)) ∈ lw_all := lw_g (lw_at lw_m8 239 rfl) rfl
theorem q2035 : (Jvm.Cond.code ({ cls := "SafeBucketsModel", name := "holds", desc := "(III)Z" } : Jvm.MethodName) prog_28_method_87_code (6 : Nat) (Option.some Jvm.ClassFile.FieldType.boolean)) ∈ lw_all := lw_g (lw_at lw_m9 0 rfl) rfl
theorem q2036 : (Jvm.Cond.methodLink "SafeBucketsModel" (344 : Nat) ({ cls := "SafeBucketsModel", name := "isTermOf", desc := "(IIII)Z" } : Jvm.MethodName)) ∈ lw_all := lw_g (lw_at lw_m9 1 rfl) rfl
theorem q2037 : (Jvm.Cond.privateMethod ({ cls := "SafeBucketsModel", name := "isTermOf", desc := "(IIII)Z" } : Jvm.MethodName)) ∈ lw_tbl := lw_at lw_m9 2 rfl
theorem q2038 : (Jvm.Cond.instanceMethod ({ cls := "SafeBucketsModel", name := "isTermOf", desc := "(IIII)Z" } : Jvm.MethodName)) ∈ lw_all := lw_g (lw_at lw_m9 3 rfl) rfl
theorem q2039 : (Jvm.Cond.code ({ cls := "SafeBucketsModel", name := "isTermOf", desc := "(IIII)Z" } : Jvm.MethodName) prog_28_method_86_code (7 : Nat) (Option.some Jvm.ClassFile.FieldType.boolean)) ∈ lw_all := lw_g (lw_at lw_m9 4 rfl) rfl
theorem q2040 : (Jvm.Cond.methodLink "SafeBucketsModel" (371 : Nat) ({ cls := "SafeBucketsModel", name := "finish", desc := "(J)J" } : Jvm.MethodName)) ∈ lw_all := lw_g (lw_at lw_m9 5 rfl) rfl
theorem q2041 : (Jvm.Cond.privateMethod ({ cls := "SafeBucketsModel", name := "finish", desc := "(J)J" } : Jvm.MethodName)) ∈ lw_tbl := lw_at lw_m9 6 rfl
theorem q2042 : (Jvm.Cond.instanceMethod ({ cls := "SafeBucketsModel", name := "finish", desc := "(J)J" } : Jvm.MethodName)) ∈ lw_all := lw_g (lw_at lw_m9 7 rfl) rfl
theorem q2043 : (Jvm.Cond.code ({ cls := "SafeBucketsModel", name := "finish", desc := "(J)J" } : Jvm.MethodName) prog_28_method_81_code (5 : Nat) (Option.some Jvm.ClassFile.FieldType.long)) ∈ lw_all := lw_g (lw_at lw_m9 8 rfl) rfl
theorem q2045 : (Jvm.Cond.instanceMethod ({ cls := "SafeBucketsModel", name := "join", desc := "(IIIII)J" } : Jvm.MethodName)) ∈ lw_all := lw_g (lw_at lw_m9 10 rfl) rfl
theorem q2046 : (Jvm.Cond.selects "SafeBucketsModel" ({ cls := "SafeBucketsModel", name := "join", desc := "(IIIII)J" } : Jvm.MethodName) ({ cls := "SafeBucketsModel", name := "join", desc := "(IIIII)J" } : Jvm.MethodName)) ∈ lw_all := lw_g (lw_at lw_m9 11 rfl) rfl
theorem q2047 : (Jvm.Cond.code ({ cls := "SafeBucketsModel", name := "join", desc := "(IIIII)J" } : Jvm.MethodName) prog_28_method_99_code (6 : Nat) (Option.some Jvm.ClassFile.FieldType.long)) ∈ lw_all := lw_g (lw_at lw_m9 12 rfl) rfl
theorem q2048 : (Jvm.Cond.methodLink "SafeBucketsModel" (382 : Nat) ({ cls := "SafeBucketsModel", name := "degrees", desc := "(IIII)J" } : Jvm.MethodName)) ∈ lw_all := lw_g (lw_at lw_m9 13 rfl) rfl
theorem q2049 : (Jvm.Cond.privateMethod ({ cls := "SafeBucketsModel", name := "degrees", desc := "(IIII)J" } : Jvm.MethodName)) ∈ lw_tbl := lw_at lw_m9 14 rfl
theorem q2050 : (Jvm.Cond.instanceMethod ({ cls := "SafeBucketsModel", name := "degrees", desc := "(IIII)J" } : Jvm.MethodName)) ∈ lw_all := lw_g (lw_at lw_m9 15 rfl) rfl
theorem q2051 : (Jvm.Cond.code ({ cls := "SafeBucketsModel", name := "degrees", desc := "(IIII)J" } : Jvm.MethodName) prog_28_method_98_code (8 : Nat) (Option.some Jvm.ClassFile.FieldType.long)) ∈ lw_all := lw_g (lw_at lw_m9 16 rfl) rfl
theorem q2052 : (Jvm.Cond.methodLink "SafeBucketsModel" (378 : Nat) ({ cls := "SafeBucketsModel", name := "sortCounts", desc := "(III)V" } : Jvm.MethodName)) ∈ lw_all := lw_g (lw_at lw_m9 17 rfl) rfl
theorem q2053 : (Jvm.Cond.privateMethod ({ cls := "SafeBucketsModel", name := "sortCounts", desc := "(III)V" } : Jvm.MethodName)) ∈ lw_tbl := lw_at lw_m9 18 rfl
theorem q2054 : (Jvm.Cond.instanceMethod ({ cls := "SafeBucketsModel", name := "sortCounts", desc := "(III)V" } : Jvm.MethodName)) ∈ lw_all := lw_g (lw_at lw_m9 19 rfl) rfl
theorem q2055 : (Jvm.Cond.code ({ cls := "SafeBucketsModel", name := "sortCounts", desc := "(III)V" } : Jvm.MethodName) prog_28_method_97_code (7 : Nat) (Option.none : Option Jvm.ClassFile.FieldType)) ∈ lw_all := lw_g (lw_at lw_m9 20 rfl) rfl
theorem q2056 : (Jvm.Cond.methodLink "SafeBucketsModel" (375 : Nat) ({ cls := "SafeBucketsModel", name := "countIn", desc := "(III)I" } : Jvm.MethodName)) ∈ lw_all := lw_g (lw_at lw_m9 21 rfl) rfl
theorem q2057 : (Jvm.Cond.privateMethod ({ cls := "SafeBucketsModel", name := "countIn", desc := "(III)I" } : Jvm.MethodName)) ∈ lw_tbl := lw_at lw_m9 22 rfl
theorem q2058 : (Jvm.Cond.instanceMethod ({ cls := "SafeBucketsModel", name := "countIn", desc := "(III)I" } : Jvm.MethodName)) ∈ lw_all := lw_g (lw_at lw_m9 23 rfl) rfl
theorem q2059 : (Jvm.Cond.code ({ cls := "SafeBucketsModel", name := "countIn", desc := "(III)I" } : Jvm.MethodName) prog_28_method_94_code (4 : Nat) (Option.some Jvm.ClassFile.FieldType.int)) ∈ lw_all := lw_g (lw_at lw_m9 24 rfl) rfl
theorem q2060 : (Jvm.Cond.methodLink "SafeBucketsModel" (386 : Nat) ({ cls := "SafeBucketsModel", name := "joinBy", desc := "(IIIIZ)J" } : Jvm.MethodName)) ∈ lw_all := lw_g (lw_at lw_m9 25 rfl) rfl
theorem q2061 : (Jvm.Cond.privateMethod ({ cls := "SafeBucketsModel", name := "joinBy", desc := "(IIIIZ)J" } : Jvm.MethodName)) ∈ lw_tbl := lw_at lw_m9 26 rfl
theorem q2062 : (Jvm.Cond.instanceMethod ({ cls := "SafeBucketsModel", name := "joinBy", desc := "(IIIIZ)J" } : Jvm.MethodName)) ∈ lw_all := lw_g (lw_at lw_m9 27 rfl) rfl
theorem q2063 : (Jvm.Cond.code ({ cls := "SafeBucketsModel", name := "joinBy", desc := "(IIIIZ)J" } : Jvm.MethodName) prog_28_method_96_code (22 : Nat) (Option.some Jvm.ClassFile.FieldType.long)) ∈ lw_all := lw_g (lw_at lw_m9 28 rfl) rfl
theorem q2064 : (Jvm.Cond.methodLink "SafeBucketsModel" (390 : Nat) ({ cls := "SafeBucketsModel", name := "joinTruth", desc := "(IIII)J" } : Jvm.MethodName)) ∈ lw_all := lw_g (lw_at lw_m9 29 rfl) rfl
theorem q2065 : (Jvm.Cond.privateMethod ({ cls := "SafeBucketsModel", name := "joinTruth", desc := "(IIII)J" } : Jvm.MethodName)) ∈ lw_tbl := lw_at lw_m9 30 rfl
theorem q2066 : (Jvm.Cond.instanceMethod ({ cls := "SafeBucketsModel", name := "joinTruth", desc := "(IIII)J" } : Jvm.MethodName)) ∈ lw_all := lw_g (lw_at lw_m9 31 rfl) rfl
theorem q2067 : (Jvm.Cond.code ({ cls := "SafeBucketsModel", name := "joinTruth", desc := "(IIII)J" } : Jvm.MethodName) prog_28_method_95_code (9 : Nat) (Option.some Jvm.ClassFile.FieldType.long)) ∈ lw_all := lw_g (lw_at lw_m9 32 rfl) rfl
theorem q2069 : (Jvm.Cond.instanceMethod ({ cls := "SafeBucketsModel", name := "chain", desc := "(I)J" } : Jvm.MethodName)) ∈ lw_all := lw_g (lw_at lw_m9 34 rfl) rfl
theorem q2070 : (Jvm.Cond.selects "SafeBucketsModel" ({ cls := "SafeBucketsModel", name := "chain", desc := "(I)J" } : Jvm.MethodName) ({ cls := "SafeBucketsModel", name := "chain", desc := "(I)J" } : Jvm.MethodName)) ∈ lw_all := lw_g (lw_at lw_m9 35 rfl) rfl
theorem q2071 : (Jvm.Cond.code ({ cls := "SafeBucketsModel", name := "chain", desc := "(I)J" } : Jvm.MethodName) prog_28_method_102_code (2 : Nat) (Option.some Jvm.ClassFile.FieldType.long)) ∈ lw_all := lw_g (lw_at lw_m9 36 rfl) rfl
theorem q2072 : (Jvm.Cond.methodLink "SafeBucketsModel" (393 : Nat) ({ cls := "SafeBucketsModel", name := "greatestOf", desc := "(II)J" } : Jvm.MethodName)) ∈ lw_all := lw_g (lw_at lw_m9 37 rfl) rfl
theorem q2073 : (Jvm.Cond.privateMethod ({ cls := "SafeBucketsModel", name := "greatestOf", desc := "(II)J" } : Jvm.MethodName)) ∈ lw_tbl := lw_at lw_m9 38 rfl
theorem q2074 : (Jvm.Cond.instanceMethod ({ cls := "SafeBucketsModel", name := "greatestOf", desc := "(II)J" } : Jvm.MethodName)) ∈ lw_all := lw_g (lw_at lw_m9 39 rfl) rfl
theorem q2075 : (Jvm.Cond.code ({ cls := "SafeBucketsModel", name := "greatestOf", desc := "(II)J" } : Jvm.MethodName) prog_28_method_101_code (5 : Nat) (Option.some Jvm.ClassFile.FieldType.long)) ∈ lw_all := lw_g (lw_at lw_m9 40 rfl) rfl
theorem q2076 : (Jvm.Cond.methodLink "SafeBucketsModel" (396 : Nat) ({ cls := "SafeBucketsModel", name := "chainTruth", desc := "()J" } : Jvm.MethodName)) ∈ lw_all := lw_g (lw_at lw_m9 41 rfl) rfl
theorem q2077 : (Jvm.Cond.privateMethod ({ cls := "SafeBucketsModel", name := "chainTruth", desc := "()J" } : Jvm.MethodName)) ∈ lw_tbl := lw_at lw_m9 42 rfl
theorem q2078 : (Jvm.Cond.instanceMethod ({ cls := "SafeBucketsModel", name := "chainTruth", desc := "()J" } : Jvm.MethodName)) ∈ lw_all := lw_g (lw_at lw_m9 43 rfl) rfl
theorem q2079 : (Jvm.Cond.code ({ cls := "SafeBucketsModel", name := "chainTruth", desc := "()J" } : Jvm.MethodName) prog_28_method_100_code (6 : Nat) (Option.some Jvm.ClassFile.FieldType.long)) ∈ lw_all := lw_g (lw_at lw_m9 44 rfl) rfl
theorem q2081 : (Jvm.Cond.instanceMethod ({ cls := "SafeBucketsModel", name := "narrow", desc := "(III)I" } : Jvm.MethodName)) ∈ lw_all := lw_g (lw_at lw_m9 46 rfl) rfl
theorem q2082 : (Jvm.Cond.selects "SafeBucketsModel" ({ cls := "SafeBucketsModel", name := "narrow", desc := "(III)I" } : Jvm.MethodName) ({ cls := "SafeBucketsModel", name := "narrow", desc := "(III)I" } : Jvm.MethodName)) ∈ lw_all := lw_g (lw_at lw_m9 47 rfl) rfl
theorem q2083 : (Jvm.Cond.code ({ cls := "SafeBucketsModel", name := "narrow", desc := "(III)I" } : Jvm.MethodName) prog_28_method_104_code (9 : Nat) (Option.some Jvm.ClassFile.FieldType.int)) ∈ lw_all := lw_g (lw_at lw_m9 48 rfl) rfl
theorem q2084 : (Jvm.Cond.methodLink "SafeBucketsModel" (400 : Nat) ({ cls := "SafeBucketsModel", name := "gapIfBuilt", desc := "(III)I" } : Jvm.MethodName)) ∈ lw_all := lw_g (lw_at lw_m9 49 rfl) rfl
theorem q2085 : (Jvm.Cond.privateMethod ({ cls := "SafeBucketsModel", name := "gapIfBuilt", desc := "(III)I" } : Jvm.MethodName)) ∈ lw_tbl := lw_at lw_m9 50 rfl
theorem q2086 : (Jvm.Cond.instanceMethod ({ cls := "SafeBucketsModel", name := "gapIfBuilt", desc := "(III)I" } : Jvm.MethodName)) ∈ lw_all := lw_g (lw_at lw_m9 51 rfl) rfl
theorem q2087 : (Jvm.Cond.code ({ cls := "SafeBucketsModel", name := "gapIfBuilt", desc := "(III)I" } : Jvm.MethodName) prog_28_method_103_code (6 : Nat) (Option.some Jvm.ClassFile.FieldType.int)) ∈ lw_all := lw_g (lw_at lw_m9 52 rfl) rfl
theorem q2089 : (Jvm.Cond.instanceMethod ({ cls := "SafeBucketsModel", name := "odds", desc := "(IIII)J" } : Jvm.MethodName)) ∈ lw_all := lw_g (lw_at lw_m9 54 rfl) rfl
theorem q2090 : (Jvm.Cond.selects "SafeBucketsModel" ({ cls := "SafeBucketsModel", name := "odds", desc := "(IIII)J" } : Jvm.MethodName) ({ cls := "SafeBucketsModel", name := "odds", desc := "(IIII)J" } : Jvm.MethodName)) ∈ lw_all := lw_g (lw_at lw_m9 55 rfl) rfl
theorem q2091 : (Jvm.Cond.code ({ cls := "SafeBucketsModel", name := "odds", desc := "(IIII)J" } : Jvm.MethodName) prog_28_method_105_code (15 : Nat) (Option.some Jvm.ClassFile.FieldType.long)) ∈ lw_all := lw_g (lw_at lw_m9 56 rfl) rfl
theorem q2093 : (Jvm.Cond.instanceMethod ({ cls := "SafeBucketsModel", name := "unit", desc := "(III)I" } : Jvm.MethodName)) ∈ lw_all := lw_g (lw_at lw_m9 58 rfl) rfl
theorem q2094 : (Jvm.Cond.selects "SafeBucketsModel" ({ cls := "SafeBucketsModel", name := "unit", desc := "(III)I" } : Jvm.MethodName) ({ cls := "SafeBucketsModel", name := "unit", desc := "(III)I" } : Jvm.MethodName)) ∈ lw_all := lw_g (lw_at lw_m9 59 rfl) rfl
theorem q2095 : (Jvm.Cond.code ({ cls := "SafeBucketsModel", name := "unit", desc := "(III)I" } : Jvm.MethodName) prog_28_method_106_code (4 : Nat) (Option.some Jvm.ClassFile.FieldType.int)) ∈ lw_all := lw_g (lw_at lw_m9 60 rfl) rfl
theorem q2097 : (Jvm.Cond.instanceMethod ({ cls := "SafeBucketsModel", name := "shares", desc := "(II)I" } : Jvm.MethodName)) ∈ lw_all := lw_g (lw_at lw_m9 62 rfl) rfl
theorem q2098 : (Jvm.Cond.selects "SafeBucketsModel" ({ cls := "SafeBucketsModel", name := "shares", desc := "(II)I" } : Jvm.MethodName) ({ cls := "SafeBucketsModel", name := "shares", desc := "(II)I" } : Jvm.MethodName)) ∈ lw_all := lw_g (lw_at lw_m9 63 rfl) rfl
theorem q2099 : (Jvm.Cond.code ({ cls := "SafeBucketsModel", name := "shares", desc := "(II)I" } : Jvm.MethodName) prog_28_method_107_code (3 : Nat) (Option.some Jvm.ClassFile.FieldType.int)) ∈ lw_all := lw_g (lw_at lw_m9 64 rfl) rfl
theorem q2101 : (Jvm.Cond.instanceMethod ({ cls := "SafeBucketsModel", name := "most", desc := "(I)I" } : Jvm.MethodName)) ∈ lw_all := lw_g (lw_at lw_m9 66 rfl) rfl
theorem q2102 : (Jvm.Cond.selects "SafeBucketsModel" ({ cls := "SafeBucketsModel", name := "most", desc := "(I)I" } : Jvm.MethodName) ({ cls := "SafeBucketsModel", name := "most", desc := "(I)I" } : Jvm.MethodName)) ∈ lw_all := lw_g (lw_at lw_m9 67 rfl) rfl
theorem q2103 : (Jvm.Cond.code ({ cls := "SafeBucketsModel", name := "most", desc := "(I)I" } : Jvm.MethodName) prog_28_method_113_code (2 : Nat) (Option.some Jvm.ClassFile.FieldType.int)) ∈ lw_all := lw_g (lw_at lw_m9 68 rfl) rfl
theorem q2104 : (Jvm.Cond.constantLong "SafeBucketsModel" (403 : Nat) (5 : Int64)) ∈ lw_all := lw_g (lw_at lw_m9 69 rfl) rfl
theorem q2105 : (Jvm.Cond.methodLink "SafeBucketsModel" (405 : Nat) ({ cls := "SafeBucketsModel", name := "longest", desc := "()I" } : Jvm.MethodName)) ∈ lw_all := lw_g (lw_at lw_m9 70 rfl) rfl
theorem q2106 : (Jvm.Cond.privateMethod ({ cls := "SafeBucketsModel", name := "longest", desc := "()I" } : Jvm.MethodName)) ∈ lw_tbl := lw_at lw_m9 71 rfl
theorem q2107 : (Jvm.Cond.instanceMethod ({ cls := "SafeBucketsModel", name := "longest", desc := "()I" } : Jvm.MethodName)) ∈ lw_all := lw_g (lw_at lw_m9 72 rfl) rfl
theorem q2108 : (Jvm.Cond.code ({ cls := "SafeBucketsModel", name := "longest", desc := "()I" } : Jvm.MethodName) prog_28_method_108_code (3 : Nat) (Option.some Jvm.ClassFile.FieldType.int)) ∈ lw_all := lw_g (lw_at lw_m9 73 rfl) rfl
theorem q2109 : (Jvm.Cond.methodLink "SafeBucketsModel" (408 : Nat) ({ cls := "SafeBucketsModel", name := "mostDrifted", desc := "()I" } : Jvm.MethodName)) ∈ lw_all := lw_g (lw_at lw_m9 74 rfl) rfl
theorem q2110 : (Jvm.Cond.privateMethod ({ cls := "SafeBucketsModel", name := "mostDrifted", desc := "()I" } : Jvm.MethodName)) ∈ lw_tbl := lw_at lw_m9 75 rfl
theorem q2111 : (Jvm.Cond.instanceMethod ({ cls := "SafeBucketsModel", name := "mostDrifted", desc := "()I" } : Jvm.MethodName)) ∈ lw_all := lw_g (lw_at lw_m9 76 rfl) rfl
theorem q2112 : (Jvm.Cond.code ({ cls := "SafeBucketsModel", name := "mostDrifted", desc := "()I" } : Jvm.MethodName) prog_28_method_109_code (3 : Nat) (Option.some Jvm.ClassFile.FieldType.int)) ∈ lw_all := lw_g (lw_at lw_m9 77 rfl) rfl
theorem q2113 : (Jvm.Cond.methodLink "SafeBucketsModel" (411 : Nat) ({ cls := "SafeBucketsModel", name := "greatestTotal", desc := "()I" } : Jvm.MethodName)) ∈ lw_all := lw_g (lw_at lw_m9 78 rfl) rfl
theorem q2114 : (Jvm.Cond.privateMethod ({ cls := "SafeBucketsModel", name := "greatestTotal", desc := "()I" } : Jvm.MethodName)) ∈ lw_tbl := lw_at lw_m9 79 rfl
theorem q2115 : (Jvm.Cond.instanceMethod ({ cls := "SafeBucketsModel", name := "greatestTotal", desc := "()I" } : Jvm.MethodName)) ∈ lw_all := lw_g (lw_at lw_m9 80 rfl) rfl
theorem q2116 : (Jvm.Cond.code ({ cls := "SafeBucketsModel", name := "greatestTotal", desc := "()I" } : Jvm.MethodName) prog_28_method_110_code (4 : Nat) (Option.some Jvm.ClassFile.FieldType.int)) ∈ lw_all := lw_g (lw_at lw_m9 81 rfl) rfl
theorem q2117 : (Jvm.Cond.methodLink "SafeBucketsModel" (414 : Nat) ({ cls := "SafeBucketsModel", name := "mostAlike", desc := "()I" } : Jvm.MethodName)) ∈ lw_all := lw_g (lw_at lw_m9 82 rfl) rfl
theorem q2118 : (Jvm.Cond.privateMethod ({ cls := "SafeBucketsModel", name := "mostAlike", desc := "()I" } : Jvm.MethodName)) ∈ lw_tbl := lw_at lw_m9 83 rfl
theorem q2119 : (Jvm.Cond.instanceMethod ({ cls := "SafeBucketsModel", name := "mostAlike", desc := "()I" } : Jvm.MethodName)) ∈ lw_all := lw_g (lw_at lw_m9 84 rfl) rfl
theorem q2120 : (Jvm.Cond.code ({ cls := "SafeBucketsModel", name := "mostAlike", desc := "()I" } : Jvm.MethodName) prog_28_method_111_code (4 : Nat) (Option.some Jvm.ClassFile.FieldType.int)) ∈ lw_all := lw_g (lw_at lw_m9 85 rfl) rfl
theorem q2121 : (Jvm.Cond.methodLink "SafeBucketsModel" (417 : Nat) ({ cls := "SafeBucketsModel", name := "commonest", desc := "()I" } : Jvm.MethodName)) ∈ lw_all := lw_g (lw_at lw_m9 86 rfl) rfl
theorem q2122 : (Jvm.Cond.privateMethod ({ cls := "SafeBucketsModel", name := "commonest", desc := "()I" } : Jvm.MethodName)) ∈ lw_tbl := lw_at lw_m9 87 rfl
theorem q2123 : (Jvm.Cond.instanceMethod ({ cls := "SafeBucketsModel", name := "commonest", desc := "()I" } : Jvm.MethodName)) ∈ lw_all := lw_g (lw_at lw_m9 88 rfl) rfl
theorem q2124 : (Jvm.Cond.code ({ cls := "SafeBucketsModel", name := "commonest", desc := "()I" } : Jvm.MethodName) prog_28_method_112_code (6 : Nat) (Option.some Jvm.ClassFile.FieldType.int)) ∈ lw_all := lw_g (lw_at lw_m9 89 rfl) rfl
theorem q2126 : (Jvm.Cond.instanceMethod ({ cls := "SafeBucketsModel", name := "image", desc := "()I" } : Jvm.MethodName)) ∈ lw_all := lw_g (lw_at lw_m9 91 rfl) rfl
theorem q2127 : (Jvm.Cond.selects "SafeBucketsModel" ({ cls := "SafeBucketsModel", name := "image", desc := "()I" } : Jvm.MethodName) ({ cls := "SafeBucketsModel", name := "image", desc := "()I" } : Jvm.MethodName)) ∈ lw_all := lw_g (lw_at lw_m9 92 rfl) rfl
theorem q2128 : (Jvm.Cond.code ({ cls := "SafeBucketsModel", name := "image", desc := "()I" } : Jvm.MethodName) prog_28_method_114_code (2 : Nat) (Option.some Jvm.ClassFile.FieldType.int)) ∈ lw_all := lw_g (lw_at lw_m9 93 rfl) rfl
theorem q2130 : (Jvm.Cond.instanceMethod ({ cls := "SafeBucketsModel", name := "back", desc := "()I" } : Jvm.MethodName)) ∈ lw_all := lw_g (lw_at lw_m9 95 rfl) rfl
theorem q2131 : (Jvm.Cond.selects "SafeBucketsModel" ({ cls := "SafeBucketsModel", name := "back", desc := "()I" } : Jvm.MethodName) ({ cls := "SafeBucketsModel", name := "back", desc := "()I" } : Jvm.MethodName)) ∈ lw_all := lw_g (lw_at lw_m9 96 rfl) rfl
theorem q2132 : (Jvm.Cond.code ({ cls := "SafeBucketsModel", name := "back", desc := "()I" } : Jvm.MethodName) prog_28_method_115_code (2 : Nat) (Option.some Jvm.ClassFile.FieldType.int)) ∈ lw_all := lw_g (lw_at lw_m9 97 rfl) rfl
theorem q2134 : (Jvm.Cond.instanceMethod ({ cls := "SafeBucketsModel", name := "count", desc := "(I)I" } : Jvm.MethodName)) ∈ lw_all := lw_g (lw_at lw_m9 99 rfl) rfl
theorem q2135 : (Jvm.Cond.selects "SafeBucketsModel" ({ cls := "SafeBucketsModel", name := "count", desc := "(I)I" } : Jvm.MethodName) ({ cls := "SafeBucketsModel", name := "count", desc := "(I)I" } : Jvm.MethodName)) ∈ lw_all := lw_g (lw_at lw_m9 100 rfl) rfl
theorem q2136 : (Jvm.Cond.code ({ cls := "SafeBucketsModel", name := "count", desc := "(I)I" } : Jvm.MethodName) prog_28_method_116_code (2 : Nat) (Option.some Jvm.ClassFile.FieldType.int)) ∈ lw_all := lw_g (lw_at lw_m9 101 rfl) rfl
theorem q2154 : (Jvm.Cond.castable "SafeBucketsModel" "java/lang/Object") ∈ lw_tbl := lw_at lw_m9 119 rfl
theorem in_X9 : ∀ w ∈ wsX90, w ∈ lw_all := lw_in wsX90 [1603, 1605, 1607, 1609, 1611, 1613, 1615, 1617, 1619, 1621, 1623, 1625, 1627, 1629, 1631, 1633, 1635, 1637, 1639, 1641, 1643, 1645, 1647, 1649, 1651, 1653, 1655, 1657, 1659, 1661, 1663, 1665, 1667] (by decide +kernel) (by decide +kernel)
