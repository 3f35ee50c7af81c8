/-! BilevelPagesModel -/
set_option maxRecDepth 100000
def RX6 : String := "BilevelPagesModel"
def TX6 : u_T := fun k => match k with
  | 0 => ("BilevelPagesModel", "code", "I", false)
  | 1 => ("BilevelPagesModel", "order", "I", true)
  | 2 => ("BilevelPagesModel", "segments", "I", false)
  | 3 => ("BilevelPagesModel", "kinds", "[I", true)
  | 4 => ("BilevelPagesModel", "pages", "[I", true)
  | 5 => ("BilevelPagesModel", "refCounts", "[I", true)
  | 6 => ("BilevelPagesModel", "refs", "[I", true)
  | 7 => ("BilevelPagesModel", "lets", "[I", true)
  | 8 => ("BilevelPagesModel", "byteCounts", "[I", true)
  | 9 => ("BilevelPagesModel", "bytes", "[I", true)
  | 10 => ("BilevelPagesModel", "numbers", "[I", true)
  | 11 => ("BilevelPagesModel", "rows", "[I", true)
  | 12 => ("BilevelPagesModel", "out", "[I", true)
  | 13 => ("BilevelPagesModel", "outSize", "I", false)
  | 14 => ("BilevelPagesModel", "globals", "[I", true)
  | 15 => ("BilevelPagesModel", "globalCount", "I", false)
  | 16 => ("BilevelPagesModel", "others", "[I", true)
  | 17 => ("BilevelPagesModel", "otherCount", "I", false)
  | 18 => ("BilevelPagesModel", "all", "[I", true)
  | 19 => ("BilevelPagesModel", "total", "I", false)
  | 20 => ("BilevelPagesModel", "limit", "I", false)
  | 21 => ("BilevelPagesModel", "at", "I", false)
  | 22 => ("BilevelPagesModel", "fault", "I", false)
  | 23 => ("BilevelPagesModel", "place", "I", false)
  | 24 => ("BilevelPagesModel", "heads", "I", false)
  | 25 => ("BilevelPagesModel", "done", "I", false)
  | 26 => ("BilevelPagesModel", "headAt", "[I", true)
  | 27 => ("BilevelPagesModel", "numberOf", "[I", true)
  | 28 => ("BilevelPagesModel", "kindOf", "[I", true)
  | 29 => ("BilevelPagesModel", "pageOf", "[I", true)
  | 30 => ("BilevelPagesModel", "refsOf", "[I", true)
  | 31 => ("BilevelPagesModel", "refOf", "[I", true)
  | 32 => ("BilevelPagesModel", "flagsOf", "[I", true)
  | 33 => ("BilevelPagesModel", "lengthOf", "[J", true)
  | 34 => ("BilevelPagesModel", "dataOf", "[I", true)
  | 35 => ("BilevelPagesModel", "goneBy", "[I", true)
  | 36 => ("BilevelPagesModel", "widthOf", "[I", true)
  | 37 => ("BilevelPagesModel", "heightOf", "[I", true)
  | 38 => ("BilevelPagesModel", "rowsOf", "[I", true)
  | 39 => ("BilevelPagesModel", "openPage", "I", false)
  | 40 => ("BilevelPagesModel", "isThere", "[Z", true)
  | 41 => ("BilevelPagesModel", "pageWidth", "[I", true)
  | 42 => ("BilevelPagesModel", "pageHeight", "[I", true)
  | 43 => ("BilevelPagesModel", "pageOperator", "[I", true)
  | 44 => ("BilevelPagesModel", "stripes", "[I", true)
  | 45 => ("BilevelPagesModel", "stripeRows", "[I", true)
  | 46 => ("BilevelPagesModel", "dark", "[Z", true)
  | 47 => ("BilevelPagesModel", "isRead", "Z", false)
  | 48 => ("BilevelPagesModel", "readCount", "I", false)
  | _ => ("BilevelPagesModel", "lastFault", "I", false)
def tyX6 : Nat → FieldType := fun k => match k with
  | 0 => .int
  | 1 => .int
  | 2 => .int
  | 3 => .array .int
  | 4 => .array .int
  | 5 => .array .int
  | 6 => .array .int
  | 7 => .array .int
  | 8 => .array .int
  | 9 => .array .int
  | 10 => .array .int
  | 11 => .array .int
  | 12 => .array .int
  | 13 => .int
  | 14 => .array .int
  | 15 => .int
  | 16 => .array .int
  | 17 => .int
  | 18 => .array .int
  | 19 => .int
  | 20 => .int
  | 21 => .int
  | 22 => .int
  | 23 => .int
  | 24 => .int
  | 25 => .int
  | 26 => .array .int
  | 27 => .array .int
  | 28 => .array .int
  | 29 => .array .int
  | 30 => .array .int
  | 31 => .array .int
  | 32 => .array .int
  | 33 => .array .long
  | 34 => .array .int
  | 35 => .array .int
  | 36 => .array .int
  | 37 => .array .int
  | 38 => .array .int
  | 39 => .int
  | 40 => .array .boolean
  | 41 => .array .int
  | 42 => .array .int
  | 43 => .array .int
  | 44 => .array .int
  | 45 => .array .int
  | 46 => .array .boolean
  | 47 => .boolean
  | 48 => .int
  | _ => .int
abbrev wsX60 : List Cond := u_ws RX6 TX6 50
set_option maxRecDepth 100000 in
theorem nmX6 : ∀ a, a < 50 → ∀ b, b < 50 → a ≠ b → (TX6 a).2.1 ≠ (TX6 b).2.1 := by decide +kernel
set_option maxRecDepth 100000 in
theorem tyX6_ok : ∀ k, k < 50 → parseFieldDescriptor (TX6 k).2.2.1 = some (tyX6 k) := by decide +kernel
abbrev cX6_init : ByteArray := prog_8_method_1_code
def yX6_init : MethodName := ⟨RX6, "<init>", "(I)V"⟩
def dkwX6_init_13 : List UInt8 := [167, 0, 13, 27, 5, 164, 0, 7, 5, 167, 0, 4, 27, 181, 0, 111, 177]
abbrev dktX6_init_13 : List UInt8 := dkwX6_init_13 ++ []
def dkwX6_init_12 : List UInt8 := [42, 17, 1, 64, 188, 10, 181, 0, 105, 42, 17, 40, 0, 188, 4, 181, 0, 108, 42, 27, 156, 0, 7, 3]
abbrev dktX6_init_12 : List UInt8 := dkwX6_init_12 ++ dktX6_init_13
def dkwX6_init_11 : List UInt8 := [42, 16, 10, 188, 10, 181, 0, 96, 42, 16, 10, 188, 10, 181, 0, 99, 42, 16, 10, 188, 10, 181, 0, 102]
abbrev dktX6_init_11 : List UInt8 := dkwX6_init_11 ++ dktX6_init_12
def dkwX6_init_10 : List UInt8 := [17, 16, 0, 188, 10, 181, 0, 86, 42, 16, 10, 188, 4, 181, 0, 89, 42, 16, 10, 188, 10, 181, 0, 93]
abbrev dktX6_init_10 : List UInt8 := dkwX6_init_10 ++ dktX6_init_11
def dkwX6_init_9 : List UInt8 := [181, 0, 77, 42, 17, 1, 0, 188, 10, 181, 0, 80, 42, 17, 1, 0, 188, 10, 181, 0, 83, 42]
abbrev dktX6_init_9 : List UInt8 := dkwX6_init_9 ++ dktX6_init_10
def dkwX6_init_8 : List UInt8 := [17, 1, 0, 188, 11, 181, 0, 70, 42, 17, 1, 0, 188, 10, 181, 0, 74, 42, 17, 1, 0, 188, 10]
abbrev dktX6_init_8 : List UInt8 := dkwX6_init_8 ++ dktX6_init_9
def dkwX6_init_7 : List UInt8 := [181, 0, 61, 42, 17, 10, 0, 188, 10, 181, 0, 64, 42, 17, 1, 0, 188, 10, 181, 0, 67, 42]
abbrev dktX6_init_7 : List UInt8 := dkwX6_init_7 ++ dktX6_init_8
def dkwX6_init_6 : List UInt8 := [17, 1, 0, 188, 10, 181, 0, 55, 42, 17, 1, 0, 188, 10, 181, 0, 58, 42, 17, 1, 0, 188, 10]
abbrev dktX6_init_6 : List UInt8 := dkwX6_init_6 ++ dktX6_init_7
def dkwX6_init_5 : List UInt8 := [181, 0, 46, 42, 17, 1, 0, 188, 10, 181, 0, 49, 42, 17, 1, 0, 188, 10, 181, 0, 52, 42]
abbrev dktX6_init_5 : List UInt8 := dkwX6_init_5 ++ dktX6_init_6
def dkwX6_init_4 : List UInt8 := [17, 11, 184, 188, 10, 181, 0, 40, 42, 17, 11, 184, 188, 10, 181, 0, 43, 42, 17, 11, 184, 188, 10]
abbrev dktX6_init_4 : List UInt8 := dkwX6_init_4 ++ dktX6_init_5
def dkwX6_init_3 : List UInt8 := [181, 0, 31, 42, 17, 1, 224, 188, 10, 181, 0, 34, 42, 17, 19, 136, 188, 10, 181, 0, 37, 42]
abbrev dktX6_init_3 : List UInt8 := dkwX6_init_3 ++ dktX6_init_4
def dkwX6_init_2 : List UInt8 := [16, 30, 188, 10, 181, 0, 25, 42, 17, 2, 88, 188, 10, 181, 0, 28, 42, 17, 0, 180, 188, 10]
abbrev dktX6_init_2 : List UInt8 := dkwX6_init_2 ++ dktX6_init_3
def dkwX6_init_1 : List UInt8 := [188, 10, 181, 0, 16, 42, 17, 1, 44, 188, 10, 181, 0, 19, 42, 16, 30, 188, 10, 181, 0, 22, 42]
abbrev dktX6_init_1 : List UInt8 := dkwX6_init_1 ++ dktX6_init_2
def dkwX6_init_0 : List UInt8 := [42, 183, 0, 1, 42, 16, 30, 188, 10, 181, 0, 7, 42, 16, 30, 188, 10, 181, 0, 13, 42, 16, 30]
abbrev dktX6_init_0 : List UInt8 := dkwX6_init_0 ++ dktX6_init_1
theorem dksX6_init_0 : cX6_init.data.toList.drop 0 = dktX6_init_0 := by decide +kernel
theorem dksX6_init_1 : cX6_init.data.toList.drop 23 = dktX6_init_1 := dk_seg dksX6_init_0 23 rfl rfl
theorem dksX6_init_2 : cX6_init.data.toList.drop 46 = dktX6_init_2 := dk_seg dksX6_init_1 23 rfl rfl
theorem dksX6_init_3 : cX6_init.data.toList.drop 68 = dktX6_init_3 := dk_seg dksX6_init_2 22 rfl rfl
theorem dksX6_init_4 : cX6_init.data.toList.drop 90 = dktX6_init_4 := dk_seg dksX6_init_3 22 rfl rfl
theorem dksX6_init_5 : cX6_init.data.toList.drop 113 = dktX6_init_5 := dk_seg dksX6_init_4 23 rfl rfl
theorem dksX6_init_6 : cX6_init.data.toList.drop 135 = dktX6_init_6 := dk_seg dksX6_init_5 22 rfl rfl
theorem dksX6_init_7 : cX6_init.data.toList.drop 158 = dktX6_init_7 := dk_seg dksX6_init_6 23 rfl rfl
theorem dksX6_init_8 : cX6_init.data.toList.drop 180 = dktX6_init_8 := dk_seg dksX6_init_7 22 rfl rfl
theorem dksX6_init_9 : cX6_init.data.toList.drop 203 = dktX6_init_9 := dk_seg dksX6_init_8 23 rfl rfl
theorem dksX6_init_10 : cX6_init.data.toList.drop 225 = dktX6_init_10 := dk_seg dksX6_init_9 22 rfl rfl
theorem dksX6_init_11 : cX6_init.data.toList.drop 249 = dktX6_init_11 := dk_seg dksX6_init_10 24 rfl rfl
theorem dksX6_init_12 : cX6_init.data.toList.drop 273 = dktX6_init_12 := dk_seg dksX6_init_11 24 rfl rfl
theorem dksX6_init_13 : cX6_init.data.toList.drop 297 = dktX6_init_13 := dk_seg dksX6_init_12 24 rfl rfl
theorem dX6_init_0 : decode cX6_init 0 = .ok (.aload_n 0, 1) := dk_42 (dk_at dksX6_init_0 0 rfl rfl)
theorem dX6_init_1 : decode cX6_init 1 = .ok (.invokespecial 1, 3) := dk_183 0 1 (dk_at dksX6_init_0 1 rfl rfl)
theorem dX6_init_4 : decode cX6_init 4 = .ok (.aload_n 0, 1) := dk_42 (dk_at dksX6_init_0 4 rfl rfl)
theorem dX6_init_5 : decode cX6_init 5 = .ok (.bipush 30, 2) := dk_16 30 (dk_at dksX6_init_0 5 rfl rfl)
theorem dX6_init_7 : decode cX6_init 7 = .ok (.newarray .int, 2) := dk_188_10 (dk_at dksX6_init_0 7 rfl rfl)
theorem dX6_init_9 : decode cX6_init 9 = .ok (.putfield 7, 3) := dk_181 0 7 (dk_at dksX6_init_0 9 rfl rfl)
theorem dX6_init_12 : decode cX6_init 12 = .ok (.aload_n 0, 1) := dk_42 (dk_at dksX6_init_0 12 rfl rfl)
theorem dX6_init_13 : decode cX6_init 13 = .ok (.bipush 30, 2) := dk_16 30 (dk_at dksX6_init_0 13 rfl rfl)
theorem dX6_init_15 : decode cX6_init 15 = .ok (.newarray .int, 2) := dk_188_10 (dk_at dksX6_init_0 15 rfl rfl)
theorem dX6_init_17 : decode cX6_init 17 = .ok (.putfield 13, 3) := dk_181 0 13 (dk_at dksX6_init_0 17 rfl rfl)
theorem dX6_init_20 : decode cX6_init 20 = .ok (.aload_n 0, 1) := dk_42 (dk_at dksX6_init_0 20 rfl rfl)
theorem dX6_init_21 : decode cX6_init 21 = .ok (.bipush 30, 2) := dk_16 30 (dk_at dksX6_init_0 21 rfl rfl)
theorem dX6_init_23 : decode cX6_init 23 = .ok (.newarray .int, 2) := dk_188_10 (dk_at dksX6_init_1 0 rfl rfl)
theorem dX6_init_25 : decode cX6_init 25 = .ok (.putfield 16, 3) := dk_181 0 16 (dk_at dksX6_init_1 2 rfl rfl)
theorem dX6_init_28 : decode cX6_init 28 = .ok (.aload_n 0, 1) := dk_42 (dk_at dksX6_init_1 5 rfl rfl)
theorem dX6_init_29 : decode cX6_init 29 = .ok (.sipush 300, 3) := dk_17 1 44 (dk_at dksX6_init_1 6 rfl rfl)
theorem dX6_init_32 : decode cX6_init 32 = .ok (.newarray .int, 2) := dk_188_10 (dk_at dksX6_init_1 9 rfl rfl)
theorem dX6_init_34 : decode cX6_init 34 = .ok (.putfield 19, 3) := dk_181 0 19 (dk_at dksX6_init_1 11 rfl rfl)
theorem dX6_init_37 : decode cX6_init 37 = .ok (.aload_n 0, 1) := dk_42 (dk_at dksX6_init_1 14 rfl rfl)
theorem dX6_init_38 : decode cX6_init 38 = .ok (.bipush 30, 2) := dk_16 30 (dk_at dksX6_init_1 15 rfl rfl)
theorem dX6_init_40 : decode cX6_init 40 = .ok (.newarray .int, 2) := dk_188_10 (dk_at dksX6_init_1 17 rfl rfl)
theorem dX6_init_42 : decode cX6_init 42 = .ok (.putfield 22, 3) := dk_181 0 22 (dk_at dksX6_init_1 19 rfl rfl)
theorem dX6_init_45 : decode cX6_init 45 = .ok (.aload_n 0, 1) := dk_42 (dk_at dksX6_init_1 22 rfl rfl)
theorem dX6_init_46 : decode cX6_init 46 = .ok (.bipush 30, 2) := dk_16 30 (dk_at dksX6_init_2 0 rfl rfl)
theorem dX6_init_48 : decode cX6_init 48 = .ok (.newarray .int, 2) := dk_188_10 (dk_at dksX6_init_2 2 rfl rfl)
theorem dX6_init_50 : decode cX6_init 50 = .ok (.putfield 25, 3) := dk_181 0 25 (dk_at dksX6_init_2 4 rfl rfl)
theorem dX6_init_53 : decode cX6_init 53 = .ok (.aload_n 0, 1) := dk_42 (dk_at dksX6_init_2 7 rfl rfl)
theorem dX6_init_54 : decode cX6_init 54 = .ok (.sipush 600, 3) := dk_17 2 88 (dk_at dksX6_init_2 8 rfl rfl)
theorem dX6_init_57 : decode cX6_init 57 = .ok (.newarray .int, 2) := dk_188_10 (dk_at dksX6_init_2 11 rfl rfl)
theorem dX6_init_59 : decode cX6_init 59 = .ok (.putfield 28, 3) := dk_181 0 28 (dk_at dksX6_init_2 13 rfl rfl)
theorem dX6_init_62 : decode cX6_init 62 = .ok (.aload_n 0, 1) := dk_42 (dk_at dksX6_init_2 16 rfl rfl)
theorem dX6_init_63 : decode cX6_init 63 = .ok (.sipush 180, 3) := dk_17 0 180 (dk_at dksX6_init_2 17 rfl rfl)
theorem dX6_init_66 : decode cX6_init 66 = .ok (.newarray .int, 2) := dk_188_10 (dk_at dksX6_init_2 20 rfl rfl)
theorem dX6_init_68 : decode cX6_init 68 = .ok (.putfield 31, 3) := dk_181 0 31 (dk_at dksX6_init_3 0 rfl rfl)
theorem dX6_init_71 : decode cX6_init 71 = .ok (.aload_n 0, 1) := dk_42 (dk_at dksX6_init_3 3 rfl rfl)
theorem dX6_init_72 : decode cX6_init 72 = .ok (.sipush 480, 3) := dk_17 1 224 (dk_at dksX6_init_3 4 rfl rfl)
theorem dX6_init_75 : decode cX6_init 75 = .ok (.newarray .int, 2) := dk_188_10 (dk_at dksX6_init_3 7 rfl rfl)
theorem dX6_init_77 : decode cX6_init 77 = .ok (.putfield 34, 3) := dk_181 0 34 (dk_at dksX6_init_3 9 rfl rfl)
theorem dX6_init_80 : decode cX6_init 80 = .ok (.aload_n 0, 1) := dk_42 (dk_at dksX6_init_3 12 rfl rfl)
theorem dX6_init_81 : decode cX6_init 81 = .ok (.sipush 5000, 3) := dk_17 19 136 (dk_at dksX6_init_3 13 rfl rfl)
theorem dX6_init_84 : decode cX6_init 84 = .ok (.newarray .int, 2) := dk_188_10 (dk_at dksX6_init_3 16 rfl rfl)
theorem dX6_init_86 : decode cX6_init 86 = .ok (.putfield 37, 3) := dk_181 0 37 (dk_at dksX6_init_3 18 rfl rfl)
theorem dX6_init_89 : decode cX6_init 89 = .ok (.aload_n 0, 1) := dk_42 (dk_at dksX6_init_3 21 rfl rfl)
theorem dX6_init_90 : decode cX6_init 90 = .ok (.sipush 3000, 3) := dk_17 11 184 (dk_at dksX6_init_4 0 rfl rfl)
theorem dX6_init_93 : decode cX6_init 93 = .ok (.newarray .int, 2) := dk_188_10 (dk_at dksX6_init_4 3 rfl rfl)
theorem dX6_init_95 : decode cX6_init 95 = .ok (.putfield 40, 3) := dk_181 0 40 (dk_at dksX6_init_4 5 rfl rfl)
theorem dX6_init_98 : decode cX6_init 98 = .ok (.aload_n 0, 1) := dk_42 (dk_at dksX6_init_4 8 rfl rfl)
theorem dX6_init_99 : decode cX6_init 99 = .ok (.sipush 3000, 3) := dk_17 11 184 (dk_at dksX6_init_4 9 rfl rfl)
theorem dX6_init_102 : decode cX6_init 102 = .ok (.newarray .int, 2) := dk_188_10 (dk_at dksX6_init_4 12 rfl rfl)
theorem dX6_init_104 : decode cX6_init 104 = .ok (.putfield 43, 3) := dk_181 0 43 (dk_at dksX6_init_4 14 rfl rfl)
theorem dX6_init_107 : decode cX6_init 107 = .ok (.aload_n 0, 1) := dk_42 (dk_at dksX6_init_4 17 rfl rfl)
theorem dX6_init_108 : decode cX6_init 108 = .ok (.sipush 3000, 3) := dk_17 11 184 (dk_at dksX6_init_4 18 rfl rfl)
theorem dX6_init_111 : decode cX6_init 111 = .ok (.newarray .int, 2) := dk_188_10 (dk_at dksX6_init_4 21 rfl rfl)
theorem dX6_init_113 : decode cX6_init 113 = .ok (.putfield 46, 3) := dk_181 0 46 (dk_at dksX6_init_5 0 rfl rfl)
theorem dX6_init_116 : decode cX6_init 116 = .ok (.aload_n 0, 1) := dk_42 (dk_at dksX6_init_5 3 rfl rfl)
theorem dX6_init_117 : decode cX6_init 117 = .ok (.sipush 256, 3) := dk_17 1 0 (dk_at dksX6_init_5 4 rfl rfl)
theorem dX6_init_120 : decode cX6_init 120 = .ok (.newarray .int, 2) := dk_188_10 (dk_at dksX6_init_5 7 rfl rfl)
theorem dX6_init_122 : decode cX6_init 122 = .ok (.putfield 49, 3) := dk_181 0 49 (dk_at dksX6_init_5 9 rfl rfl)
theorem dX6_init_125 : decode cX6_init 125 = .ok (.aload_n 0, 1) := dk_42 (dk_at dksX6_init_5 12 rfl rfl)
theorem dX6_init_126 : decode cX6_init 126 = .ok (.sipush 256, 3) := dk_17 1 0 (dk_at dksX6_init_5 13 rfl rfl)
theorem dX6_init_129 : decode cX6_init 129 = .ok (.newarray .int, 2) := dk_188_10 (dk_at dksX6_init_5 16 rfl rfl)
theorem dX6_init_131 : decode cX6_init 131 = .ok (.putfield 52, 3) := dk_181 0 52 (dk_at dksX6_init_5 18 rfl rfl)
theorem dX6_init_134 : decode cX6_init 134 = .ok (.aload_n 0, 1) := dk_42 (dk_at dksX6_init_5 21 rfl rfl)
theorem dX6_init_135 : decode cX6_init 135 = .ok (.sipush 256, 3) := dk_17 1 0 (dk_at dksX6_init_6 0 rfl rfl)
theorem dX6_init_138 : decode cX6_init 138 = .ok (.newarray .int, 2) := dk_188_10 (dk_at dksX6_init_6 3 rfl rfl)
theorem dX6_init_140 : decode cX6_init 140 = .ok (.putfield 55, 3) := dk_181 0 55 (dk_at dksX6_init_6 5 rfl rfl)
theorem dX6_init_143 : decode cX6_init 143 = .ok (.aload_n 0, 1) := dk_42 (dk_at dksX6_init_6 8 rfl rfl)
theorem dX6_init_144 : decode cX6_init 144 = .ok (.sipush 256, 3) := dk_17 1 0 (dk_at dksX6_init_6 9 rfl rfl)
theorem dX6_init_147 : decode cX6_init 147 = .ok (.newarray .int, 2) := dk_188_10 (dk_at dksX6_init_6 12 rfl rfl)
theorem dX6_init_149 : decode cX6_init 149 = .ok (.putfield 58, 3) := dk_181 0 58 (dk_at dksX6_init_6 14 rfl rfl)
theorem dX6_init_152 : decode cX6_init 152 = .ok (.aload_n 0, 1) := dk_42 (dk_at dksX6_init_6 17 rfl rfl)
theorem dX6_init_153 : decode cX6_init 153 = .ok (.sipush 256, 3) := dk_17 1 0 (dk_at dksX6_init_6 18 rfl rfl)
theorem dX6_init_156 : decode cX6_init 156 = .ok (.newarray .int, 2) := dk_188_10 (dk_at dksX6_init_6 21 rfl rfl)
theorem dX6_init_158 : decode cX6_init 158 = .ok (.putfield 61, 3) := dk_181 0 61 (dk_at dksX6_init_7 0 rfl rfl)
theorem dX6_init_161 : decode cX6_init 161 = .ok (.aload_n 0, 1) := dk_42 (dk_at dksX6_init_7 3 rfl rfl)
theorem dX6_init_162 : decode cX6_init 162 = .ok (.sipush 2560, 3) := dk_17 10 0 (dk_at dksX6_init_7 4 rfl rfl)
theorem dX6_init_165 : decode cX6_init 165 = .ok (.newarray .int, 2) := dk_188_10 (dk_at dksX6_init_7 7 rfl rfl)
theorem dX6_init_167 : decode cX6_init 167 = .ok (.putfield 64, 3) := dk_181 0 64 (dk_at dksX6_init_7 9 rfl rfl)
theorem dX6_init_170 : decode cX6_init 170 = .ok (.aload_n 0, 1) := dk_42 (dk_at dksX6_init_7 12 rfl rfl)
theorem dX6_init_171 : decode cX6_init 171 = .ok (.sipush 256, 3) := dk_17 1 0 (dk_at dksX6_init_7 13 rfl rfl)
theorem dX6_init_174 : decode cX6_init 174 = .ok (.newarray .int, 2) := dk_188_10 (dk_at dksX6_init_7 16 rfl rfl)
theorem dX6_init_176 : decode cX6_init 176 = .ok (.putfield 67, 3) := dk_181 0 67 (dk_at dksX6_init_7 18 rfl rfl)
theorem dX6_init_179 : decode cX6_init 179 = .ok (.aload_n 0, 1) := dk_42 (dk_at dksX6_init_7 21 rfl rfl)
theorem dX6_init_180 : decode cX6_init 180 = .ok (.sipush 256, 3) := dk_17 1 0 (dk_at dksX6_init_8 0 rfl rfl)
theorem dX6_init_183 : decode cX6_init 183 = .ok (.newarray .long, 2) := dk_188_11 (dk_at dksX6_init_8 3 rfl rfl)
theorem dX6_init_185 : decode cX6_init 185 = .ok (.putfield 70, 3) := dk_181 0 70 (dk_at dksX6_init_8 5 rfl rfl)
theorem dX6_init_188 : decode cX6_init 188 = .ok (.aload_n 0, 1) := dk_42 (dk_at dksX6_init_8 8 rfl rfl)
theorem dX6_init_189 : decode cX6_init 189 = .ok (.sipush 256, 3) := dk_17 1 0 (dk_at dksX6_init_8 9 rfl rfl)
theorem dX6_init_192 : decode cX6_init 192 = .ok (.newarray .int, 2) := dk_188_10 (dk_at dksX6_init_8 12 rfl rfl)
theorem dX6_init_194 : decode cX6_init 194 = .ok (.putfield 74, 3) := dk_181 0 74 (dk_at dksX6_init_8 14 rfl rfl)
theorem dX6_init_197 : decode cX6_init 197 = .ok (.aload_n 0, 1) := dk_42 (dk_at dksX6_init_8 17 rfl rfl)
theorem dX6_init_198 : decode cX6_init 198 = .ok (.sipush 256, 3) := dk_17 1 0 (dk_at dksX6_init_8 18 rfl rfl)
theorem dX6_init_201 : decode cX6_init 201 = .ok (.newarray .int, 2) := dk_188_10 (dk_at dksX6_init_8 21 rfl rfl)
theorem dX6_init_203 : decode cX6_init 203 = .ok (.putfield 77, 3) := dk_181 0 77 (dk_at dksX6_init_9 0 rfl rfl)
theorem dX6_init_206 : decode cX6_init 206 = .ok (.aload_n 0, 1) := dk_42 (dk_at dksX6_init_9 3 rfl rfl)
theorem dX6_init_207 : decode cX6_init 207 = .ok (.sipush 256, 3) := dk_17 1 0 (dk_at dksX6_init_9 4 rfl rfl)
theorem dX6_init_210 : decode cX6_init 210 = .ok (.newarray .int, 2) := dk_188_10 (dk_at dksX6_init_9 7 rfl rfl)
theorem dX6_init_212 : decode cX6_init 212 = .ok (.putfield 80, 3) := dk_181 0 80 (dk_at dksX6_init_9 9 rfl rfl)
theorem dX6_init_215 : decode cX6_init 215 = .ok (.aload_n 0, 1) := dk_42 (dk_at dksX6_init_9 12 rfl rfl)
theorem dX6_init_216 : decode cX6_init 216 = .ok (.sipush 256, 3) := dk_17 1 0 (dk_at dksX6_init_9 13 rfl rfl)
theorem dX6_init_219 : decode cX6_init 219 = .ok (.newarray .int, 2) := dk_188_10 (dk_at dksX6_init_9 16 rfl rfl)
theorem dX6_init_221 : decode cX6_init 221 = .ok (.putfield 83, 3) := dk_181 0 83 (dk_at dksX6_init_9 18 rfl rfl)
theorem dX6_init_224 : decode cX6_init 224 = .ok (.aload_n 0, 1) := dk_42 (dk_at dksX6_init_9 21 rfl rfl)
theorem dX6_init_225 : decode cX6_init 225 = .ok (.sipush 4096, 3) := dk_17 16 0 (dk_at dksX6_init_10 0 rfl rfl)
theorem dX6_init_228 : decode cX6_init 228 = .ok (.newarray .int, 2) := dk_188_10 (dk_at dksX6_init_10 3 rfl rfl)
theorem dX6_init_230 : decode cX6_init 230 = .ok (.putfield 86, 3) := dk_181 0 86 (dk_at dksX6_init_10 5 rfl rfl)
theorem dX6_init_233 : decode cX6_init 233 = .ok (.aload_n 0, 1) := dk_42 (dk_at dksX6_init_10 8 rfl rfl)
theorem dX6_init_234 : decode cX6_init 234 = .ok (.bipush 10, 2) := dk_16 10 (dk_at dksX6_init_10 9 rfl rfl)
theorem dX6_init_236 : decode cX6_init 236 = .ok (.newarray .boolean, 2) := dk_188_4 (dk_at dksX6_init_10 11 rfl rfl)
theorem dX6_init_238 : decode cX6_init 238 = .ok (.putfield 89, 3) := dk_181 0 89 (dk_at dksX6_init_10 13 rfl rfl)
theorem dX6_init_241 : decode cX6_init 241 = .ok (.aload_n 0, 1) := dk_42 (dk_at dksX6_init_10 16 rfl rfl)
theorem dX6_init_242 : decode cX6_init 242 = .ok (.bipush 10, 2) := dk_16 10 (dk_at dksX6_init_10 17 rfl rfl)
theorem dX6_init_244 : decode cX6_init 244 = .ok (.newarray .int, 2) := dk_188_10 (dk_at dksX6_init_10 19 rfl rfl)
theorem dX6_init_246 : decode cX6_init 246 = .ok (.putfield 93, 3) := dk_181 0 93 (dk_at dksX6_init_10 21 rfl rfl)
theorem dX6_init_249 : decode cX6_init 249 = .ok (.aload_n 0, 1) := dk_42 (dk_at dksX6_init_11 0 rfl rfl)
theorem dX6_init_250 : decode cX6_init 250 = .ok (.bipush 10, 2) := dk_16 10 (dk_at dksX6_init_11 1 rfl rfl)
theorem dX6_init_252 : decode cX6_init 252 = .ok (.newarray .int, 2) := dk_188_10 (dk_at dksX6_init_11 3 rfl rfl)
theorem dX6_init_254 : decode cX6_init 254 = .ok (.putfield 96, 3) := dk_181 0 96 (dk_at dksX6_init_11 5 rfl rfl)
theorem dX6_init_257 : decode cX6_init 257 = .ok (.aload_n 0, 1) := dk_42 (dk_at dksX6_init_11 8 rfl rfl)
theorem dX6_init_258 : decode cX6_init 258 = .ok (.bipush 10, 2) := dk_16 10 (dk_at dksX6_init_11 9 rfl rfl)
theorem dX6_init_260 : decode cX6_init 260 = .ok (.newarray .int, 2) := dk_188_10 (dk_at dksX6_init_11 11 rfl rfl)
theorem dX6_init_262 : decode cX6_init 262 = .ok (.putfield 99, 3) := dk_181 0 99 (dk_at dksX6_init_11 13 rfl rfl)
theorem dX6_init_265 : decode cX6_init 265 = .ok (.aload_n 0, 1) := dk_42 (dk_at dksX6_init_11 16 rfl rfl)
theorem dX6_init_266 : decode cX6_init 266 = .ok (.bipush 10, 2) := dk_16 10 (dk_at dksX6_init_11 17 rfl rfl)
theorem dX6_init_268 : decode cX6_init 268 = .ok (.newarray .int, 2) := dk_188_10 (dk_at dksX6_init_11 19 rfl rfl)
theorem dX6_init_270 : decode cX6_init 270 = .ok (.putfield 102, 3) := dk_181 0 102 (dk_at dksX6_init_11 21 rfl rfl)
theorem dX6_init_273 : decode cX6_init 273 = .ok (.aload_n 0, 1) := dk_42 (dk_at dksX6_init_12 0 rfl rfl)
theorem dX6_init_274 : decode cX6_init 274 = .ok (.sipush 320, 3) := dk_17 1 64 (dk_at dksX6_init_12 1 rfl rfl)
theorem dX6_init_277 : decode cX6_init 277 = .ok (.newarray .int, 2) := dk_188_10 (dk_at dksX6_init_12 4 rfl rfl)
theorem dX6_init_279 : decode cX6_init 279 = .ok (.putfield 105, 3) := dk_181 0 105 (dk_at dksX6_init_12 6 rfl rfl)
theorem dX6_init_282 : decode cX6_init 282 = .ok (.aload_n 0, 1) := dk_42 (dk_at dksX6_init_12 9 rfl rfl)
theorem dX6_init_283 : decode cX6_init 283 = .ok (.sipush 10240, 3) := dk_17 40 0 (dk_at dksX6_init_12 10 rfl rfl)
theorem dX6_init_286 : decode cX6_init 286 = .ok (.newarray .boolean, 2) := dk_188_4 (dk_at dksX6_init_12 13 rfl rfl)
theorem dX6_init_288 : decode cX6_init 288 = .ok (.putfield 108, 3) := dk_181 0 108 (dk_at dksX6_init_12 15 rfl rfl)
theorem dX6_init_291 : decode cX6_init 291 = .ok (.aload_n 0, 1) := dk_42 (dk_at dksX6_init_12 18 rfl rfl)
theorem dX6_init_292 : decode cX6_init 292 = .ok (.iload_n 1, 1) := dk_27 (dk_at dksX6_init_12 19 rfl rfl)
theorem dX6_init_293 : decode cX6_init 293 = .ok (.ifCond .ge 7, 3) := dk_156 0 7 (dk_at dksX6_init_12 20 rfl rfl)
theorem dX6_init_296 : decode cX6_init 296 = .ok (.iconst 0, 1) := dk_3 (dk_at dksX6_init_12 23 rfl rfl)
theorem dX6_init_297 : decode cX6_init 297 = .ok (.goto 13, 3) := dk_167 0 13 (dk_at dksX6_init_13 0 rfl rfl)
theorem dX6_init_300 : decode cX6_init 300 = .ok (.iload_n 1, 1) := dk_27 (dk_at dksX6_init_13 3 rfl rfl)
theorem dX6_init_301 : decode cX6_init 301 = .ok (.iconst 2, 1) := dk_5 (dk_at dksX6_init_13 4 rfl rfl)
theorem dX6_init_302 : decode cX6_init 302 = .ok (.if_icmp .le 7, 3) := dk_164 0 7 (dk_at dksX6_init_13 5 rfl rfl)
theorem dX6_init_305 : decode cX6_init 305 = .ok (.iconst 2, 1) := dk_5 (dk_at dksX6_init_13 8 rfl rfl)
theorem dX6_init_306 : decode cX6_init 306 = .ok (.goto 4, 3) := dk_167 0 4 (dk_at dksX6_init_13 9 rfl rfl)
theorem dX6_init_309 : decode cX6_init 309 = .ok (.iload_n 1, 1) := dk_27 (dk_at dksX6_init_13 12 rfl rfl)
theorem dX6_init_310 : decode cX6_init 310 = .ok (.putfield 111, 3) := dk_181 0 111 (dk_at dksX6_init_13 13 rfl rfl)
theorem dX6_init_313 : decode cX6_init 313 = .ok (.return_, 1) := dk_177 (dk_at dksX6_init_13 16 rfl rfl)
abbrev cX6_thrown : ByteArray := prog_8_method_2_code
def yX6_thrown : MethodName := ⟨RX6, "thrown", "()I"⟩
theorem dX6_thrown_0 : decode cX6_thrown 0 = .ok (.aload_n 0, 1) := by decide +kernel
theorem dX6_thrown_1 : decode cX6_thrown 1 = .ok (.getfield 115, 3) := by decide +kernel
theorem dX6_thrown_4 : decode cX6_thrown 4 = .ok (.ireturn, 1) := by decide +kernel
abbrev cX6_segment : ByteArray := prog_8_method_8_code
def yX6_segment : MethodName := ⟨RX6, "segment", "(II)I"⟩
def dkwX6_segment_6 : List UInt8 := [3, 79, 132, 4, 1, 167, 255, 233, 42, 89, 180, 0, 118, 4, 96, 181, 0, 118, 29, 172]
abbrev dktX6_segment_6 : List UInt8 := dkwX6_segment_6 ++ []
def dkwX6_segment_5 : List UInt8 := [167, 255, 228, 3, 54, 4, 21, 4, 16, 16, 162, 0, 22, 42, 180, 0, 34, 16, 16, 29, 104, 21, 4, 96]
abbrev dktX6_segment_5 : List UInt8 := dkwX6_segment_5 ++ dktX6_segment_6
def dkwX6_segment_4 : List UInt8 := [162, 0, 27, 42, 180, 0, 31, 16, 6, 29, 104, 21, 4, 96, 27, 21, 4, 184, 0, 133, 79, 132, 4, 1]
abbrev dktX6_segment_4 : List UInt8 := dkwX6_segment_4 ++ dktX6_segment_5
def dkwX6_segment_3 : List UInt8 := [79, 42, 180, 0, 22, 29, 3, 79, 42, 180, 0, 25, 29, 3, 79, 3, 54, 4, 21, 4, 16, 6]
abbrev dktX6_segment_3 : List UInt8 := dkwX6_segment_3 ++ dktX6_segment_4
def dkwX6_segment_2 : List UInt8 := [180, 0, 118, 62, 42, 180, 0, 7, 29, 27, 79, 42, 180, 0, 13, 29, 28, 79, 42, 180, 0, 16, 29, 3]
abbrev dktX6_segment_2 : List UInt8 := dkwX6_segment_2 ++ dktX6_segment_3
def dkwX6_segment_1 : List UInt8 := [180, 0, 118, 16, 30, 162, 0, 7, 4, 167, 0, 4, 3, 4, 4, 182, 0, 129, 154, 0, 5, 3, 172, 42]
abbrev dktX6_segment_1 : List UInt8 := dkwX6_segment_1 ++ dktX6_segment_2
def dkwX6_segment_0 : List UInt8 := [42, 27, 184, 0, 125, 153, 0, 17, 28, 3, 16, 9, 184, 0, 121, 153, 0, 7, 4, 167, 0, 4, 3, 42]
abbrev dktX6_segment_0 : List UInt8 := dkwX6_segment_0 ++ dktX6_segment_1
theorem dksX6_segment_0 : cX6_segment.data.toList.drop 0 = dktX6_segment_0 := by decide +kernel
theorem dksX6_segment_1 : cX6_segment.data.toList.drop 24 = dktX6_segment_1 := dk_seg dksX6_segment_0 24 rfl rfl
theorem dksX6_segment_2 : cX6_segment.data.toList.drop 48 = dktX6_segment_2 := dk_seg dksX6_segment_1 24 rfl rfl
theorem dksX6_segment_3 : cX6_segment.data.toList.drop 72 = dktX6_segment_3 := dk_seg dksX6_segment_2 24 rfl rfl
theorem dksX6_segment_4 : cX6_segment.data.toList.drop 94 = dktX6_segment_4 := dk_seg dksX6_segment_3 22 rfl rfl
theorem dksX6_segment_5 : cX6_segment.data.toList.drop 118 = dktX6_segment_5 := dk_seg dksX6_segment_4 24 rfl rfl
theorem dksX6_segment_6 : cX6_segment.data.toList.drop 142 = dktX6_segment_6 := dk_seg dksX6_segment_5 24 rfl rfl
theorem dX6_segment_0 : decode cX6_segment 0 = .ok (.aload_n 0, 1) := dk_42 (dk_at dksX6_segment_0 0 rfl rfl)
theorem dX6_segment_1 : decode cX6_segment 1 = .ok (.iload_n 1, 1) := dk_27 (dk_at dksX6_segment_0 1 rfl rfl)
theorem dX6_segment_2 : decode cX6_segment 2 = .ok (.invokestatic 125, 3) := dk_184 0 125 (dk_at dksX6_segment_0 2 rfl rfl)
theorem dX6_segment_5 : decode cX6_segment 5 = .ok (.ifCond .eq 17, 3) := dk_153 0 17 (dk_at dksX6_segment_0 5 rfl rfl)
theorem dX6_segment_8 : decode cX6_segment 8 = .ok (.iload_n 2, 1) := dk_28 (dk_at dksX6_segment_0 8 rfl rfl)
theorem dX6_segment_9 : decode cX6_segment 9 = .ok (.iconst 0, 1) := dk_3 (dk_at dksX6_segment_0 9 rfl rfl)
theorem dX6_segment_10 : decode cX6_segment 10 = .ok (.bipush 9, 2) := dk_16 9 (dk_at dksX6_segment_0 10 rfl rfl)
theorem dX6_segment_12 : decode cX6_segment 12 = .ok (.invokestatic 121, 3) := dk_184 0 121 (dk_at dksX6_segment_0 12 rfl rfl)
theorem dX6_segment_15 : decode cX6_segment 15 = .ok (.ifCond .eq 7, 3) := dk_153 0 7 (dk_at dksX6_segment_0 15 rfl rfl)
theorem dX6_segment_18 : decode cX6_segment 18 = .ok (.iconst 1, 1) := dk_4 (dk_at dksX6_segment_0 18 rfl rfl)
theorem dX6_segment_19 : decode cX6_segment 19 = .ok (.goto 4, 3) := dk_167 0 4 (dk_at dksX6_segment_0 19 rfl rfl)
theorem dX6_segment_22 : decode cX6_segment 22 = .ok (.iconst 0, 1) := dk_3 (dk_at dksX6_segment_0 22 rfl rfl)
theorem dX6_segment_23 : decode cX6_segment 23 = .ok (.aload_n 0, 1) := dk_42 (dk_at dksX6_segment_0 23 rfl rfl)
theorem dX6_segment_24 : decode cX6_segment 24 = .ok (.getfield 118, 3) := dk_180 0 118 (dk_at dksX6_segment_1 0 rfl rfl)
theorem dX6_segment_27 : decode cX6_segment 27 = .ok (.bipush 30, 2) := dk_16 30 (dk_at dksX6_segment_1 3 rfl rfl)
theorem dX6_segment_29 : decode cX6_segment 29 = .ok (.if_icmp .ge 7, 3) := dk_162 0 7 (dk_at dksX6_segment_1 5 rfl rfl)
theorem dX6_segment_32 : decode cX6_segment 32 = .ok (.iconst 1, 1) := dk_4 (dk_at dksX6_segment_1 8 rfl rfl)
theorem dX6_segment_33 : decode cX6_segment 33 = .ok (.goto 4, 3) := dk_167 0 4 (dk_at dksX6_segment_1 9 rfl rfl)
theorem dX6_segment_36 : decode cX6_segment 36 = .ok (.iconst 0, 1) := dk_3 (dk_at dksX6_segment_1 12 rfl rfl)
theorem dX6_segment_37 : decode cX6_segment 37 = .ok (.iconst 1, 1) := dk_4 (dk_at dksX6_segment_1 13 rfl rfl)
theorem dX6_segment_38 : decode cX6_segment 38 = .ok (.iconst 1, 1) := dk_4 (dk_at dksX6_segment_1 14 rfl rfl)
theorem dX6_segment_39 : decode cX6_segment 39 = .ok (.invokevirtual 129, 3) := dk_182 0 129 (dk_at dksX6_segment_1 15 rfl rfl)
theorem dX6_segment_42 : decode cX6_segment 42 = .ok (.ifCond .ne 5, 3) := dk_154 0 5 (dk_at dksX6_segment_1 18 rfl rfl)
theorem dX6_segment_45 : decode cX6_segment 45 = .ok (.iconst 0, 1) := dk_3 (dk_at dksX6_segment_1 21 rfl rfl)
theorem dX6_segment_46 : decode cX6_segment 46 = .ok (.ireturn, 1) := dk_172 (dk_at dksX6_segment_1 22 rfl rfl)
theorem dX6_segment_47 : decode cX6_segment 47 = .ok (.aload_n 0, 1) := dk_42 (dk_at dksX6_segment_1 23 rfl rfl)
theorem dX6_segment_48 : decode cX6_segment 48 = .ok (.getfield 118, 3) := dk_180 0 118 (dk_at dksX6_segment_2 0 rfl rfl)
theorem dX6_segment_51 : decode cX6_segment 51 = .ok (.istore_n 3, 1) := dk_62 (dk_at dksX6_segment_2 3 rfl rfl)
theorem dX6_segment_52 : decode cX6_segment 52 = .ok (.aload_n 0, 1) := dk_42 (dk_at dksX6_segment_2 4 rfl rfl)
theorem dX6_segment_53 : decode cX6_segment 53 = .ok (.getfield 7, 3) := dk_180 0 7 (dk_at dksX6_segment_2 5 rfl rfl)
theorem dX6_segment_56 : decode cX6_segment 56 = .ok (.iload_n 3, 1) := dk_29 (dk_at dksX6_segment_2 8 rfl rfl)
theorem dX6_segment_57 : decode cX6_segment 57 = .ok (.iload_n 1, 1) := dk_27 (dk_at dksX6_segment_2 9 rfl rfl)
theorem dX6_segment_58 : decode cX6_segment 58 = .ok (.iastore, 1) := dk_79 (dk_at dksX6_segment_2 10 rfl rfl)
theorem dX6_segment_59 : decode cX6_segment 59 = .ok (.aload_n 0, 1) := dk_42 (dk_at dksX6_segment_2 11 rfl rfl)
theorem dX6_segment_60 : decode cX6_segment 60 = .ok (.getfield 13, 3) := dk_180 0 13 (dk_at dksX6_segment_2 12 rfl rfl)
theorem dX6_segment_63 : decode cX6_segment 63 = .ok (.iload_n 3, 1) := dk_29 (dk_at dksX6_segment_2 15 rfl rfl)
theorem dX6_segment_64 : decode cX6_segment 64 = .ok (.iload_n 2, 1) := dk_28 (dk_at dksX6_segment_2 16 rfl rfl)
theorem dX6_segment_65 : decode cX6_segment 65 = .ok (.iastore, 1) := dk_79 (dk_at dksX6_segment_2 17 rfl rfl)
theorem dX6_segment_66 : decode cX6_segment 66 = .ok (.aload_n 0, 1) := dk_42 (dk_at dksX6_segment_2 18 rfl rfl)
theorem dX6_segment_67 : decode cX6_segment 67 = .ok (.getfield 16, 3) := dk_180 0 16 (dk_at dksX6_segment_2 19 rfl rfl)
theorem dX6_segment_70 : decode cX6_segment 70 = .ok (.iload_n 3, 1) := dk_29 (dk_at dksX6_segment_2 22 rfl rfl)
theorem dX6_segment_71 : decode cX6_segment 71 = .ok (.iconst 0, 1) := dk_3 (dk_at dksX6_segment_2 23 rfl rfl)
theorem dX6_segment_72 : decode cX6_segment 72 = .ok (.iastore, 1) := dk_79 (dk_at dksX6_segment_3 0 rfl rfl)
theorem dX6_segment_73 : decode cX6_segment 73 = .ok (.aload_n 0, 1) := dk_42 (dk_at dksX6_segment_3 1 rfl rfl)
theorem dX6_segment_74 : decode cX6_segment 74 = .ok (.getfield 22, 3) := dk_180 0 22 (dk_at dksX6_segment_3 2 rfl rfl)
theorem dX6_segment_77 : decode cX6_segment 77 = .ok (.iload_n 3, 1) := dk_29 (dk_at dksX6_segment_3 5 rfl rfl)
theorem dX6_segment_78 : decode cX6_segment 78 = .ok (.iconst 0, 1) := dk_3 (dk_at dksX6_segment_3 6 rfl rfl)
theorem dX6_segment_79 : decode cX6_segment 79 = .ok (.iastore, 1) := dk_79 (dk_at dksX6_segment_3 7 rfl rfl)
theorem dX6_segment_80 : decode cX6_segment 80 = .ok (.aload_n 0, 1) := dk_42 (dk_at dksX6_segment_3 8 rfl rfl)
theorem dX6_segment_81 : decode cX6_segment 81 = .ok (.getfield 25, 3) := dk_180 0 25 (dk_at dksX6_segment_3 9 rfl rfl)
theorem dX6_segment_84 : decode cX6_segment 84 = .ok (.iload_n 3, 1) := dk_29 (dk_at dksX6_segment_3 12 rfl rfl)
theorem dX6_segment_85 : decode cX6_segment 85 = .ok (.iconst 0, 1) := dk_3 (dk_at dksX6_segment_3 13 rfl rfl)
theorem dX6_segment_86 : decode cX6_segment 86 = .ok (.iastore, 1) := dk_79 (dk_at dksX6_segment_3 14 rfl rfl)
theorem dX6_segment_87 : decode cX6_segment 87 = .ok (.iconst 0, 1) := dk_3 (dk_at dksX6_segment_3 15 rfl rfl)
theorem dX6_segment_88 : decode cX6_segment 88 = .ok (.istore 4, 2) := dk_54 4 (dk_at dksX6_segment_3 16 rfl rfl)
theorem dX6_segment_90 : decode cX6_segment 90 = .ok (.iload 4, 2) := dk_21 4 (dk_at dksX6_segment_3 18 rfl rfl)
theorem dX6_segment_92 : decode cX6_segment 92 = .ok (.bipush 6, 2) := dk_16 6 (dk_at dksX6_segment_3 20 rfl rfl)
theorem dX6_segment_94 : decode cX6_segment 94 = .ok (.if_icmp .ge 27, 3) := dk_162 0 27 (dk_at dksX6_segment_4 0 rfl rfl)
theorem dX6_segment_97 : decode cX6_segment 97 = .ok (.aload_n 0, 1) := dk_42 (dk_at dksX6_segment_4 3 rfl rfl)
theorem dX6_segment_98 : decode cX6_segment 98 = .ok (.getfield 31, 3) := dk_180 0 31 (dk_at dksX6_segment_4 4 rfl rfl)
theorem dX6_segment_101 : decode cX6_segment 101 = .ok (.bipush 6, 2) := dk_16 6 (dk_at dksX6_segment_4 7 rfl rfl)
theorem dX6_segment_103 : decode cX6_segment 103 = .ok (.iload_n 3, 1) := dk_29 (dk_at dksX6_segment_4 9 rfl rfl)
theorem dX6_segment_104 : decode cX6_segment 104 = .ok (.imul, 1) := dk_104 (dk_at dksX6_segment_4 10 rfl rfl)
theorem dX6_segment_105 : decode cX6_segment 105 = .ok (.iload 4, 2) := dk_21 4 (dk_at dksX6_segment_4 11 rfl rfl)
theorem dX6_segment_107 : decode cX6_segment 107 = .ok (.iadd, 1) := dk_96 (dk_at dksX6_segment_4 13 rfl rfl)
theorem dX6_segment_108 : decode cX6_segment 108 = .ok (.iload_n 1, 1) := dk_27 (dk_at dksX6_segment_4 14 rfl rfl)
theorem dX6_segment_109 : decode cX6_segment 109 = .ok (.iload 4, 2) := dk_21 4 (dk_at dksX6_segment_4 15 rfl rfl)
theorem dX6_segment_111 : decode cX6_segment 111 = .ok (.invokestatic 133, 3) := dk_184 0 133 (dk_at dksX6_segment_4 17 rfl rfl)
theorem dX6_segment_114 : decode cX6_segment 114 = .ok (.iastore, 1) := dk_79 (dk_at dksX6_segment_4 20 rfl rfl)
theorem dX6_segment_115 : decode cX6_segment 115 = .ok (.iinc 4 1, 3) := dk_132 4 1 (dk_at dksX6_segment_4 21 rfl rfl)
theorem dX6_segment_118 : decode cX6_segment 118 = .ok (.goto (-28), 3) := dk_167 255 228 (dk_at dksX6_segment_5 0 rfl rfl)
theorem dX6_segment_121 : decode cX6_segment 121 = .ok (.iconst 0, 1) := dk_3 (dk_at dksX6_segment_5 3 rfl rfl)
theorem dX6_segment_122 : decode cX6_segment 122 = .ok (.istore 4, 2) := dk_54 4 (dk_at dksX6_segment_5 4 rfl rfl)
theorem dX6_segment_124 : decode cX6_segment 124 = .ok (.iload 4, 2) := dk_21 4 (dk_at dksX6_segment_5 6 rfl rfl)
theorem dX6_segment_126 : decode cX6_segment 126 = .ok (.bipush 16, 2) := dk_16 16 (dk_at dksX6_segment_5 8 rfl rfl)
theorem dX6_segment_128 : decode cX6_segment 128 = .ok (.if_icmp .ge 22, 3) := dk_162 0 22 (dk_at dksX6_segment_5 10 rfl rfl)
theorem dX6_segment_131 : decode cX6_segment 131 = .ok (.aload_n 0, 1) := dk_42 (dk_at dksX6_segment_5 13 rfl rfl)
theorem dX6_segment_132 : decode cX6_segment 132 = .ok (.getfield 34, 3) := dk_180 0 34 (dk_at dksX6_segment_5 14 rfl rfl)
theorem dX6_segment_135 : decode cX6_segment 135 = .ok (.bipush 16, 2) := dk_16 16 (dk_at dksX6_segment_5 17 rfl rfl)
theorem dX6_segment_137 : decode cX6_segment 137 = .ok (.iload_n 3, 1) := dk_29 (dk_at dksX6_segment_5 19 rfl rfl)
theorem dX6_segment_138 : decode cX6_segment 138 = .ok (.imul, 1) := dk_104 (dk_at dksX6_segment_5 20 rfl rfl)
theorem dX6_segment_139 : decode cX6_segment 139 = .ok (.iload 4, 2) := dk_21 4 (dk_at dksX6_segment_5 21 rfl rfl)
theorem dX6_segment_141 : decode cX6_segment 141 = .ok (.iadd, 1) := dk_96 (dk_at dksX6_segment_5 23 rfl rfl)
theorem dX6_segment_142 : decode cX6_segment 142 = .ok (.iconst 0, 1) := dk_3 (dk_at dksX6_segment_6 0 rfl rfl)
theorem dX6_segment_143 : decode cX6_segment 143 = .ok (.iastore, 1) := dk_79 (dk_at dksX6_segment_6 1 rfl rfl)
theorem dX6_segment_144 : decode cX6_segment 144 = .ok (.iinc 4 1, 3) := dk_132 4 1 (dk_at dksX6_segment_6 2 rfl rfl)
theorem dX6_segment_147 : decode cX6_segment 147 = .ok (.goto (-23), 3) := dk_167 255 233 (dk_at dksX6_segment_6 5 rfl rfl)
theorem dX6_segment_150 : decode cX6_segment 150 = .ok (.aload_n 0, 1) := dk_42 (dk_at dksX6_segment_6 8 rfl rfl)
theorem dX6_segment_151 : decode cX6_segment 151 = .ok (.dup, 1) := dk_89 (dk_at dksX6_segment_6 9 rfl rfl)
theorem dX6_segment_152 : decode cX6_segment 152 = .ok (.getfield 118, 3) := dk_180 0 118 (dk_at dksX6_segment_6 10 rfl rfl)
theorem dX6_segment_155 : decode cX6_segment 155 = .ok (.iconst 1, 1) := dk_4 (dk_at dksX6_segment_6 13 rfl rfl)
theorem dX6_segment_156 : decode cX6_segment 156 = .ok (.iadd, 1) := dk_96 (dk_at dksX6_segment_6 14 rfl rfl)
theorem dX6_segment_157 : decode cX6_segment 157 = .ok (.putfield 118, 3) := dk_181 0 118 (dk_at dksX6_segment_6 15 rfl rfl)
theorem dX6_segment_160 : decode cX6_segment 160 = .ok (.iload_n 3, 1) := dk_29 (dk_at dksX6_segment_6 18 rfl rfl)
theorem dX6_segment_161 : decode cX6_segment 161 = .ok (.ireturn, 1) := dk_172 (dk_at dksX6_segment_6 19 rfl rfl)
abbrev cX6_isKind : ByteArray := prog_8_method_5_code
def yX6_isKind : MethodName := ⟨RX6, "isKind", "(I)Z"⟩
def dkwX6_isKind_2 : List UInt8 := [167, 0, 4, 3, 172]
abbrev dktX6_isKind_2 : List UInt8 := dkwX6_isKind_2 ++ []
def dkwX6_isKind_1 : List UInt8 := [161, 0, 9, 26, 16, 51, 164, 0, 15, 26, 16, 53, 159, 0, 9, 26, 16, 62, 160, 0, 7, 4]
abbrev dktX6_isKind_1 : List UInt8 := dkwX6_isKind_1 ++ dktX6_isKind_2
def dkwX6_isKind_0 : List UInt8 := [26, 153, 0, 44, 26, 7, 159, 0, 39, 26, 16, 6, 159, 0, 33, 26, 16, 38, 159, 0, 27, 26, 16, 48]
abbrev dktX6_isKind_0 : List UInt8 := dkwX6_isKind_0 ++ dktX6_isKind_1
theorem dksX6_isKind_0 : cX6_isKind.data.toList.drop 0 = dktX6_isKind_0 := by decide +kernel
theorem dksX6_isKind_1 : cX6_isKind.data.toList.drop 24 = dktX6_isKind_1 := dk_seg dksX6_isKind_0 24 rfl rfl
theorem dksX6_isKind_2 : cX6_isKind.data.toList.drop 46 = dktX6_isKind_2 := dk_seg dksX6_isKind_1 22 rfl rfl
theorem dX6_isKind_0 : decode cX6_isKind 0 = .ok (.iload_n 0, 1) := dk_26 (dk_at dksX6_isKind_0 0 rfl rfl)
theorem dX6_isKind_1 : decode cX6_isKind 1 = .ok (.ifCond .eq 44, 3) := dk_153 0 44 (dk_at dksX6_isKind_0 1 rfl rfl)
theorem dX6_isKind_4 : decode cX6_isKind 4 = .ok (.iload_n 0, 1) := dk_26 (dk_at dksX6_isKind_0 4 rfl rfl)
theorem dX6_isKind_5 : decode cX6_isKind 5 = .ok (.iconst 4, 1) := dk_7 (dk_at dksX6_isKind_0 5 rfl rfl)
theorem dX6_isKind_6 : decode cX6_isKind 6 = .ok (.if_icmp .eq 39, 3) := dk_159 0 39 (dk_at dksX6_isKind_0 6 rfl rfl)
theorem dX6_isKind_9 : decode cX6_isKind 9 = .ok (.iload_n 0, 1) := dk_26 (dk_at dksX6_isKind_0 9 rfl rfl)
theorem dX6_isKind_10 : decode cX6_isKind 10 = .ok (.bipush 6, 2) := dk_16 6 (dk_at dksX6_isKind_0 10 rfl rfl)
theorem dX6_isKind_12 : decode cX6_isKind 12 = .ok (.if_icmp .eq 33, 3) := dk_159 0 33 (dk_at dksX6_isKind_0 12 rfl rfl)
theorem dX6_isKind_15 : decode cX6_isKind 15 = .ok (.iload_n 0, 1) := dk_26 (dk_at dksX6_isKind_0 15 rfl rfl)
theorem dX6_isKind_16 : decode cX6_isKind 16 = .ok (.bipush 38, 2) := dk_16 38 (dk_at dksX6_isKind_0 16 rfl rfl)
theorem dX6_isKind_18 : decode cX6_isKind 18 = .ok (.if_icmp .eq 27, 3) := dk_159 0 27 (dk_at dksX6_isKind_0 18 rfl rfl)
theorem dX6_isKind_21 : decode cX6_isKind 21 = .ok (.iload_n 0, 1) := dk_26 (dk_at dksX6_isKind_0 21 rfl rfl)
theorem dX6_isKind_22 : decode cX6_isKind 22 = .ok (.bipush 48, 2) := dk_16 48 (dk_at dksX6_isKind_0 22 rfl rfl)
theorem dX6_isKind_24 : decode cX6_isKind 24 = .ok (.if_icmp .lt 9, 3) := dk_161 0 9 (dk_at dksX6_isKind_1 0 rfl rfl)
theorem dX6_isKind_27 : decode cX6_isKind 27 = .ok (.iload_n 0, 1) := dk_26 (dk_at dksX6_isKind_1 3 rfl rfl)
theorem dX6_isKind_28 : decode cX6_isKind 28 = .ok (.bipush 51, 2) := dk_16 51 (dk_at dksX6_isKind_1 4 rfl rfl)
theorem dX6_isKind_30 : decode cX6_isKind 30 = .ok (.if_icmp .le 15, 3) := dk_164 0 15 (dk_at dksX6_isKind_1 6 rfl rfl)
theorem dX6_isKind_33 : decode cX6_isKind 33 = .ok (.iload_n 0, 1) := dk_26 (dk_at dksX6_isKind_1 9 rfl rfl)
theorem dX6_isKind_34 : decode cX6_isKind 34 = .ok (.bipush 53, 2) := dk_16 53 (dk_at dksX6_isKind_1 10 rfl rfl)
theorem dX6_isKind_36 : decode cX6_isKind 36 = .ok (.if_icmp .eq 9, 3) := dk_159 0 9 (dk_at dksX6_isKind_1 12 rfl rfl)
theorem dX6_isKind_39 : decode cX6_isKind 39 = .ok (.iload_n 0, 1) := dk_26 (dk_at dksX6_isKind_1 15 rfl rfl)
theorem dX6_isKind_40 : decode cX6_isKind 40 = .ok (.bipush 62, 2) := dk_16 62 (dk_at dksX6_isKind_1 16 rfl rfl)
theorem dX6_isKind_42 : decode cX6_isKind 42 = .ok (.if_icmp .ne 7, 3) := dk_160 0 7 (dk_at dksX6_isKind_1 18 rfl rfl)
theorem dX6_isKind_45 : decode cX6_isKind 45 = .ok (.iconst 1, 1) := dk_4 (dk_at dksX6_isKind_1 21 rfl rfl)
theorem dX6_isKind_46 : decode cX6_isKind 46 = .ok (.goto 4, 3) := dk_167 0 4 (dk_at dksX6_isKind_2 0 rfl rfl)
theorem dX6_isKind_49 : decode cX6_isKind 49 = .ok (.iconst 0, 1) := dk_3 (dk_at dksX6_isKind_2 3 rfl rfl)
theorem dX6_isKind_50 : decode cX6_isKind 50 = .ok (.ireturn, 1) := dk_172 (dk_at dksX6_isKind_2 4 rfl rfl)
abbrev cX6_isIn : ByteArray := prog_8_method_3_code
def yX6_isIn : MethodName := ⟨RX6, "isIn", "(III)Z"⟩
def dkwX6_isIn_0 : List UInt8 := [26, 27, 161, 0, 12, 26, 28, 163, 0, 7, 4, 167, 0, 4, 3, 172]
abbrev dktX6_isIn_0 : List UInt8 := dkwX6_isIn_0 ++ []
theorem dksX6_isIn_0 : cX6_isIn.data.toList.drop 0 = dktX6_isIn_0 := by decide +kernel
theorem dX6_isIn_0 : decode cX6_isIn 0 = .ok (.iload_n 0, 1) := dk_26 (dk_at dksX6_isIn_0 0 rfl rfl)
theorem dX6_isIn_1 : decode cX6_isIn 1 = .ok (.iload_n 1, 1) := dk_27 (dk_at dksX6_isIn_0 1 rfl rfl)
theorem dX6_isIn_2 : decode cX6_isIn 2 = .ok (.if_icmp .lt 12, 3) := dk_161 0 12 (dk_at dksX6_isIn_0 2 rfl rfl)
theorem dX6_isIn_5 : decode cX6_isIn 5 = .ok (.iload_n 0, 1) := dk_26 (dk_at dksX6_isIn_0 5 rfl rfl)
theorem dX6_isIn_6 : decode cX6_isIn 6 = .ok (.iload_n 2, 1) := dk_28 (dk_at dksX6_isIn_0 6 rfl rfl)
theorem dX6_isIn_7 : decode cX6_isIn 7 = .ok (.if_icmp .gt 7, 3) := dk_163 0 7 (dk_at dksX6_isIn_0 7 rfl rfl)
theorem dX6_isIn_10 : decode cX6_isIn 10 = .ok (.iconst 1, 1) := dk_4 (dk_at dksX6_isIn_0 10 rfl rfl)
theorem dX6_isIn_11 : decode cX6_isIn 11 = .ok (.goto 4, 3) := dk_167 0 4 (dk_at dksX6_isIn_0 11 rfl rfl)
theorem dX6_isIn_14 : decode cX6_isIn 14 = .ok (.iconst 0, 1) := dk_3 (dk_at dksX6_isIn_0 14 rfl rfl)
theorem dX6_isIn_15 : decode cX6_isIn 15 = .ok (.ireturn, 1) := dk_172 (dk_at dksX6_isIn_0 15 rfl rfl)
abbrev cX6_may : ByteArray := prog_8_method_4_code
def yX6_may : MethodName := ⟨RX6, "may", "(ZZZZ)Z"⟩
def dkwX6_may_2 : List UInt8 := [167, 0, 4, 3, 172]
abbrev dktX6_may_2 : List UInt8 := dkwX6_may_2 ++ []
def dkwX6_may_1 : List UInt8 := [167, 0, 13, 21, 4, 154, 0, 7, 7, 167, 0, 4, 3, 181, 0, 115, 42, 180, 0, 115, 154, 0, 7, 4]
abbrev dktX6_may_1 : List UInt8 := dkwX6_may_1 ++ dktX6_may_2
def dkwX6_may_0 : List UInt8 := [42, 27, 154, 0, 7, 4, 167, 0, 29, 28, 154, 0, 7, 5, 167, 0, 21, 29, 154, 0, 7, 6]
abbrev dktX6_may_0 : List UInt8 := dkwX6_may_0 ++ dktX6_may_1
theorem dksX6_may_0 : cX6_may.data.toList.drop 0 = dktX6_may_0 := by decide +kernel
theorem dksX6_may_1 : cX6_may.data.toList.drop 22 = dktX6_may_1 := dk_seg dksX6_may_0 22 rfl rfl
theorem dksX6_may_2 : cX6_may.data.toList.drop 46 = dktX6_may_2 := dk_seg dksX6_may_1 24 rfl rfl
theorem dX6_may_0 : decode cX6_may 0 = .ok (.aload_n 0, 1) := dk_42 (dk_at dksX6_may_0 0 rfl rfl)
theorem dX6_may_1 : decode cX6_may 1 = .ok (.iload_n 1, 1) := dk_27 (dk_at dksX6_may_0 1 rfl rfl)
theorem dX6_may_2 : decode cX6_may 2 = .ok (.ifCond .ne 7, 3) := dk_154 0 7 (dk_at dksX6_may_0 2 rfl rfl)
theorem dX6_may_5 : decode cX6_may 5 = .ok (.iconst 1, 1) := dk_4 (dk_at dksX6_may_0 5 rfl rfl)
theorem dX6_may_6 : decode cX6_may 6 = .ok (.goto 29, 3) := dk_167 0 29 (dk_at dksX6_may_0 6 rfl rfl)
theorem dX6_may_9 : decode cX6_may 9 = .ok (.iload_n 2, 1) := dk_28 (dk_at dksX6_may_0 9 rfl rfl)
theorem dX6_may_10 : decode cX6_may 10 = .ok (.ifCond .ne 7, 3) := dk_154 0 7 (dk_at dksX6_may_0 10 rfl rfl)
theorem dX6_may_13 : decode cX6_may 13 = .ok (.iconst 2, 1) := dk_5 (dk_at dksX6_may_0 13 rfl rfl)
theorem dX6_may_14 : decode cX6_may 14 = .ok (.goto 21, 3) := dk_167 0 21 (dk_at dksX6_may_0 14 rfl rfl)
theorem dX6_may_17 : decode cX6_may 17 = .ok (.iload_n 3, 1) := dk_29 (dk_at dksX6_may_0 17 rfl rfl)
theorem dX6_may_18 : decode cX6_may 18 = .ok (.ifCond .ne 7, 3) := dk_154 0 7 (dk_at dksX6_may_0 18 rfl rfl)
theorem dX6_may_21 : decode cX6_may 21 = .ok (.iconst 3, 1) := dk_6 (dk_at dksX6_may_0 21 rfl rfl)
theorem dX6_may_22 : decode cX6_may 22 = .ok (.goto 13, 3) := dk_167 0 13 (dk_at dksX6_may_1 0 rfl rfl)
theorem dX6_may_25 : decode cX6_may 25 = .ok (.iload 4, 2) := dk_21 4 (dk_at dksX6_may_1 3 rfl rfl)
theorem dX6_may_27 : decode cX6_may 27 = .ok (.ifCond .ne 7, 3) := dk_154 0 7 (dk_at dksX6_may_1 5 rfl rfl)
theorem dX6_may_30 : decode cX6_may 30 = .ok (.iconst 4, 1) := dk_7 (dk_at dksX6_may_1 8 rfl rfl)
theorem dX6_may_31 : decode cX6_may 31 = .ok (.goto 4, 3) := dk_167 0 4 (dk_at dksX6_may_1 9 rfl rfl)
theorem dX6_may_34 : decode cX6_may 34 = .ok (.iconst 0, 1) := dk_3 (dk_at dksX6_may_1 12 rfl rfl)
theorem dX6_may_35 : decode cX6_may 35 = .ok (.putfield 115, 3) := dk_181 0 115 (dk_at dksX6_may_1 13 rfl rfl)
theorem dX6_may_38 : decode cX6_may 38 = .ok (.aload_n 0, 1) := dk_42 (dk_at dksX6_may_1 16 rfl rfl)
theorem dX6_may_39 : decode cX6_may 39 = .ok (.getfield 115, 3) := dk_180 0 115 (dk_at dksX6_may_1 17 rfl rfl)
theorem dX6_may_42 : decode cX6_may 42 = .ok (.ifCond .ne 7, 3) := dk_154 0 7 (dk_at dksX6_may_1 20 rfl rfl)
theorem dX6_may_45 : decode cX6_may 45 = .ok (.iconst 1, 1) := dk_4 (dk_at dksX6_may_1 23 rfl rfl)
theorem dX6_may_46 : decode cX6_may 46 = .ok (.goto 4, 3) := dk_167 0 4 (dk_at dksX6_may_2 0 rfl rfl)
theorem dX6_may_49 : decode cX6_may 49 = .ok (.iconst 0, 1) := dk_3 (dk_at dksX6_may_2 3 rfl rfl)
theorem dX6_may_50 : decode cX6_may 50 = .ok (.ireturn, 1) := dk_172 (dk_at dksX6_may_2 4 rfl rfl)
abbrev cX6_least : ByteArray := prog_8_method_9_code
def yX6_least : MethodName := ⟨RX6, "least", "(II)I"⟩
def dkwX6_least_1 : List UInt8 := [167, 0, 4, 3, 172]
abbrev dktX6_least_1 : List UInt8 := dkwX6_least_1 ++ []
def dkwX6_least_0 : List UInt8 := [26, 184, 0, 137, 153, 0, 8, 27, 5, 161, 0, 13, 26, 16, 48, 160, 0, 11, 27, 154, 0, 7, 4]
abbrev dktX6_least_0 : List UInt8 := dkwX6_least_0 ++ dktX6_least_1
theorem dksX6_least_0 : cX6_least.data.toList.drop 0 = dktX6_least_0 := by decide +kernel
theorem dksX6_least_1 : cX6_least.data.toList.drop 23 = dktX6_least_1 := dk_seg dksX6_least_0 23 rfl rfl
theorem dX6_least_0 : decode cX6_least 0 = .ok (.iload_n 0, 1) := dk_26 (dk_at dksX6_least_0 0 rfl rfl)
theorem dX6_least_1 : decode cX6_least 1 = .ok (.invokestatic 137, 3) := dk_184 0 137 (dk_at dksX6_least_0 1 rfl rfl)
theorem dX6_least_4 : decode cX6_least 4 = .ok (.ifCond .eq 8, 3) := dk_153 0 8 (dk_at dksX6_least_0 4 rfl rfl)
theorem dX6_least_7 : decode cX6_least 7 = .ok (.iload_n 1, 1) := dk_27 (dk_at dksX6_least_0 7 rfl rfl)
theorem dX6_least_8 : decode cX6_least 8 = .ok (.iconst 2, 1) := dk_5 (dk_at dksX6_least_0 8 rfl rfl)
theorem dX6_least_9 : decode cX6_least 9 = .ok (.if_icmp .lt 13, 3) := dk_161 0 13 (dk_at dksX6_least_0 9 rfl rfl)
theorem dX6_least_12 : decode cX6_least 12 = .ok (.iload_n 0, 1) := dk_26 (dk_at dksX6_least_0 12 rfl rfl)
theorem dX6_least_13 : decode cX6_least 13 = .ok (.bipush 48, 2) := dk_16 48 (dk_at dksX6_least_0 13 rfl rfl)
theorem dX6_least_15 : decode cX6_least 15 = .ok (.if_icmp .ne 11, 3) := dk_160 0 11 (dk_at dksX6_least_0 15 rfl rfl)
theorem dX6_least_18 : decode cX6_least 18 = .ok (.iload_n 1, 1) := dk_27 (dk_at dksX6_least_0 18 rfl rfl)
theorem dX6_least_19 : decode cX6_least 19 = .ok (.ifCond .ne 7, 3) := dk_154 0 7 (dk_at dksX6_least_0 19 rfl rfl)
theorem dX6_least_22 : decode cX6_least 22 = .ok (.iconst 1, 1) := dk_4 (dk_at dksX6_least_0 22 rfl rfl)
theorem dX6_least_23 : decode cX6_least 23 = .ok (.goto 4, 3) := dk_167 0 4 (dk_at dksX6_least_1 0 rfl rfl)
theorem dX6_least_26 : decode cX6_least 26 = .ok (.iconst 0, 1) := dk_3 (dk_at dksX6_least_1 3 rfl rfl)
theorem dX6_least_27 : decode cX6_least 27 = .ok (.ireturn, 1) := dk_172 (dk_at dksX6_least_1 4 rfl rfl)
abbrev cX6_isRegion : ByteArray := prog_8_method_6_code
def yX6_isRegion : MethodName := ⟨RX6, "isRegion", "(I)Z"⟩
def dkwX6_isRegion_0 : List UInt8 := [26, 7, 159, 0, 15, 26, 16, 6, 159, 0, 9, 26, 16, 38, 160, 0, 7, 4, 167, 0, 4, 3, 172]
abbrev dktX6_isRegion_0 : List UInt8 := dkwX6_isRegion_0 ++ []
theorem dksX6_isRegion_0 : cX6_isRegion.data.toList.drop 0 = dktX6_isRegion_0 := by decide +kernel
theorem dX6_isRegion_0 : decode cX6_isRegion 0 = .ok (.iload_n 0, 1) := dk_26 (dk_at dksX6_isRegion_0 0 rfl rfl)
theorem dX6_isRegion_1 : decode cX6_isRegion 1 = .ok (.iconst 4, 1) := dk_7 (dk_at dksX6_isRegion_0 1 rfl rfl)
theorem dX6_isRegion_2 : decode cX6_isRegion 2 = .ok (.if_icmp .eq 15, 3) := dk_159 0 15 (dk_at dksX6_isRegion_0 2 rfl rfl)
theorem dX6_isRegion_5 : decode cX6_isRegion 5 = .ok (.iload_n 0, 1) := dk_26 (dk_at dksX6_isRegion_0 5 rfl rfl)
theorem dX6_isRegion_6 : decode cX6_isRegion 6 = .ok (.bipush 6, 2) := dk_16 6 (dk_at dksX6_isRegion_0 6 rfl rfl)
theorem dX6_isRegion_8 : decode cX6_isRegion 8 = .ok (.if_icmp .eq 9, 3) := dk_159 0 9 (dk_at dksX6_isRegion_0 8 rfl rfl)
theorem dX6_isRegion_11 : decode cX6_isRegion 11 = .ok (.iload_n 0, 1) := dk_26 (dk_at dksX6_isRegion_0 11 rfl rfl)
theorem dX6_isRegion_12 : decode cX6_isRegion 12 = .ok (.bipush 38, 2) := dk_16 38 (dk_at dksX6_isRegion_0 12 rfl rfl)
theorem dX6_isRegion_14 : decode cX6_isRegion 14 = .ok (.if_icmp .ne 7, 3) := dk_160 0 7 (dk_at dksX6_isRegion_0 14 rfl rfl)
theorem dX6_isRegion_17 : decode cX6_isRegion 17 = .ok (.iconst 1, 1) := dk_4 (dk_at dksX6_isRegion_0 17 rfl rfl)
theorem dX6_isRegion_18 : decode cX6_isRegion 18 = .ok (.goto 4, 3) := dk_167 0 4 (dk_at dksX6_isRegion_0 18 rfl rfl)
theorem dX6_isRegion_21 : decode cX6_isRegion 21 = .ok (.iconst 0, 1) := dk_3 (dk_at dksX6_isRegion_0 21 rfl rfl)
theorem dX6_isRegion_22 : decode cX6_isRegion 22 = .ok (.ireturn, 1) := dk_172 (dk_at dksX6_isRegion_0 22 rfl rfl)
abbrev cX6_refers : ByteArray := prog_8_method_13_code
def yX6_refers : MethodName := ⟨RX6, "refers", "(II)Z"⟩
def dkwX6_refers_4 : List UInt8 := [180, 0, 16, 27, 46, 96, 28, 79, 42, 180, 0, 16, 27, 92, 46, 4, 96, 79, 4, 172]
abbrev dktX6_refers_4 : List UInt8 := dkwX6_refers_4 ++ []
def dkwX6_refers_3 : List UInt8 := [167, 0, 4, 3, 4, 4, 182, 0, 129, 154, 0, 5, 3, 172, 42, 180, 0, 19, 16, 10, 27, 104, 42]
abbrev dktX6_refers_3 : List UInt8 := dkwX6_refers_3 ++ dktX6_refers_4
def dkwX6_refers_2 : List UInt8 := [182, 0, 140, 155, 0, 5, 3, 172, 42, 4, 42, 180, 0, 16, 27, 46, 16, 10, 162, 0, 7, 4]
abbrev dktX6_refers_2 : List UInt8 := dkwX6_refers_2 ++ dktX6_refers_3
def dkwX6_refers_1 : List UInt8 := [28, 3, 27, 4, 100, 184, 0, 121, 153, 0, 21, 42, 28, 27, 182, 0, 149, 154, 0, 12, 42, 27, 28]
abbrev dktX6_refers_1 : List UInt8 := dkwX6_refers_1 ++ dktX6_refers_2
def dkwX6_refers_0 : List UInt8 := [42, 42, 27, 182, 0, 146, 153, 0, 7, 3, 167, 0, 4, 4, 181, 0, 115, 42, 180, 0, 115, 157, 0, 32]
abbrev dktX6_refers_0 : List UInt8 := dkwX6_refers_0 ++ dktX6_refers_1
theorem dksX6_refers_0 : cX6_refers.data.toList.drop 0 = dktX6_refers_0 := by decide +kernel
theorem dksX6_refers_1 : cX6_refers.data.toList.drop 24 = dktX6_refers_1 := dk_seg dksX6_refers_0 24 rfl rfl
theorem dksX6_refers_2 : cX6_refers.data.toList.drop 47 = dktX6_refers_2 := dk_seg dksX6_refers_1 23 rfl rfl
theorem dksX6_refers_3 : cX6_refers.data.toList.drop 69 = dktX6_refers_3 := dk_seg dksX6_refers_2 22 rfl rfl
theorem dksX6_refers_4 : cX6_refers.data.toList.drop 92 = dktX6_refers_4 := dk_seg dksX6_refers_3 23 rfl rfl
theorem dX6_refers_0 : decode cX6_refers 0 = .ok (.aload_n 0, 1) := dk_42 (dk_at dksX6_refers_0 0 rfl rfl)
theorem dX6_refers_1 : decode cX6_refers 1 = .ok (.aload_n 0, 1) := dk_42 (dk_at dksX6_refers_0 1 rfl rfl)
theorem dX6_refers_2 : decode cX6_refers 2 = .ok (.iload_n 1, 1) := dk_27 (dk_at dksX6_refers_0 2 rfl rfl)
theorem dX6_refers_3 : decode cX6_refers 3 = .ok (.invokevirtual 146, 3) := dk_182 0 146 (dk_at dksX6_refers_0 3 rfl rfl)
theorem dX6_refers_6 : decode cX6_refers 6 = .ok (.ifCond .eq 7, 3) := dk_153 0 7 (dk_at dksX6_refers_0 6 rfl rfl)
theorem dX6_refers_9 : decode cX6_refers 9 = .ok (.iconst 0, 1) := dk_3 (dk_at dksX6_refers_0 9 rfl rfl)
theorem dX6_refers_10 : decode cX6_refers 10 = .ok (.goto 4, 3) := dk_167 0 4 (dk_at dksX6_refers_0 10 rfl rfl)
theorem dX6_refers_13 : decode cX6_refers 13 = .ok (.iconst 1, 1) := dk_4 (dk_at dksX6_refers_0 13 rfl rfl)
theorem dX6_refers_14 : decode cX6_refers 14 = .ok (.putfield 115, 3) := dk_181 0 115 (dk_at dksX6_refers_0 14 rfl rfl)
theorem dX6_refers_17 : decode cX6_refers 17 = .ok (.aload_n 0, 1) := dk_42 (dk_at dksX6_refers_0 17 rfl rfl)
theorem dX6_refers_18 : decode cX6_refers 18 = .ok (.getfield 115, 3) := dk_180 0 115 (dk_at dksX6_refers_0 18 rfl rfl)
theorem dX6_refers_21 : decode cX6_refers 21 = .ok (.ifCond .gt 32, 3) := dk_157 0 32 (dk_at dksX6_refers_0 21 rfl rfl)
theorem dX6_refers_24 : decode cX6_refers 24 = .ok (.iload_n 2, 1) := dk_28 (dk_at dksX6_refers_1 0 rfl rfl)
theorem dX6_refers_25 : decode cX6_refers 25 = .ok (.iconst 0, 1) := dk_3 (dk_at dksX6_refers_1 1 rfl rfl)
theorem dX6_refers_26 : decode cX6_refers 26 = .ok (.iload_n 1, 1) := dk_27 (dk_at dksX6_refers_1 2 rfl rfl)
theorem dX6_refers_27 : decode cX6_refers 27 = .ok (.iconst 1, 1) := dk_4 (dk_at dksX6_refers_1 3 rfl rfl)
theorem dX6_refers_28 : decode cX6_refers 28 = .ok (.isub, 1) := dk_100 (dk_at dksX6_refers_1 4 rfl rfl)
theorem dX6_refers_29 : decode cX6_refers 29 = .ok (.invokestatic 121, 3) := dk_184 0 121 (dk_at dksX6_refers_1 5 rfl rfl)
theorem dX6_refers_32 : decode cX6_refers 32 = .ok (.ifCond .eq 21, 3) := dk_153 0 21 (dk_at dksX6_refers_1 8 rfl rfl)
theorem dX6_refers_35 : decode cX6_refers 35 = .ok (.aload_n 0, 1) := dk_42 (dk_at dksX6_refers_1 11 rfl rfl)
theorem dX6_refers_36 : decode cX6_refers 36 = .ok (.iload_n 2, 1) := dk_28 (dk_at dksX6_refers_1 12 rfl rfl)
theorem dX6_refers_37 : decode cX6_refers 37 = .ok (.iload_n 1, 1) := dk_27 (dk_at dksX6_refers_1 13 rfl rfl)
theorem dX6_refers_38 : decode cX6_refers 38 = .ok (.invokevirtual 149, 3) := dk_182 0 149 (dk_at dksX6_refers_1 14 rfl rfl)
theorem dX6_refers_41 : decode cX6_refers 41 = .ok (.ifCond .ne 12, 3) := dk_154 0 12 (dk_at dksX6_refers_1 17 rfl rfl)
theorem dX6_refers_44 : decode cX6_refers 44 = .ok (.aload_n 0, 1) := dk_42 (dk_at dksX6_refers_1 20 rfl rfl)
theorem dX6_refers_45 : decode cX6_refers 45 = .ok (.iload_n 1, 1) := dk_27 (dk_at dksX6_refers_1 21 rfl rfl)
theorem dX6_refers_46 : decode cX6_refers 46 = .ok (.iload_n 2, 1) := dk_28 (dk_at dksX6_refers_1 22 rfl rfl)
theorem dX6_refers_47 : decode cX6_refers 47 = .ok (.invokevirtual 140, 3) := dk_182 0 140 (dk_at dksX6_refers_2 0 rfl rfl)
theorem dX6_refers_50 : decode cX6_refers 50 = .ok (.ifCond .lt 5, 3) := dk_155 0 5 (dk_at dksX6_refers_2 3 rfl rfl)
theorem dX6_refers_53 : decode cX6_refers 53 = .ok (.iconst 0, 1) := dk_3 (dk_at dksX6_refers_2 6 rfl rfl)
theorem dX6_refers_54 : decode cX6_refers 54 = .ok (.ireturn, 1) := dk_172 (dk_at dksX6_refers_2 7 rfl rfl)
theorem dX6_refers_55 : decode cX6_refers 55 = .ok (.aload_n 0, 1) := dk_42 (dk_at dksX6_refers_2 8 rfl rfl)
theorem dX6_refers_56 : decode cX6_refers 56 = .ok (.iconst 1, 1) := dk_4 (dk_at dksX6_refers_2 9 rfl rfl)
theorem dX6_refers_57 : decode cX6_refers 57 = .ok (.aload_n 0, 1) := dk_42 (dk_at dksX6_refers_2 10 rfl rfl)
theorem dX6_refers_58 : decode cX6_refers 58 = .ok (.getfield 16, 3) := dk_180 0 16 (dk_at dksX6_refers_2 11 rfl rfl)
theorem dX6_refers_61 : decode cX6_refers 61 = .ok (.iload_n 1, 1) := dk_27 (dk_at dksX6_refers_2 14 rfl rfl)
theorem dX6_refers_62 : decode cX6_refers 62 = .ok (.iaload, 1) := dk_46 (dk_at dksX6_refers_2 15 rfl rfl)
theorem dX6_refers_63 : decode cX6_refers 63 = .ok (.bipush 10, 2) := dk_16 10 (dk_at dksX6_refers_2 16 rfl rfl)
theorem dX6_refers_65 : decode cX6_refers 65 = .ok (.if_icmp .ge 7, 3) := dk_162 0 7 (dk_at dksX6_refers_2 18 rfl rfl)
theorem dX6_refers_68 : decode cX6_refers 68 = .ok (.iconst 1, 1) := dk_4 (dk_at dksX6_refers_2 21 rfl rfl)
theorem dX6_refers_69 : decode cX6_refers 69 = .ok (.goto 4, 3) := dk_167 0 4 (dk_at dksX6_refers_3 0 rfl rfl)
theorem dX6_refers_72 : decode cX6_refers 72 = .ok (.iconst 0, 1) := dk_3 (dk_at dksX6_refers_3 3 rfl rfl)
theorem dX6_refers_73 : decode cX6_refers 73 = .ok (.iconst 1, 1) := dk_4 (dk_at dksX6_refers_3 4 rfl rfl)
theorem dX6_refers_74 : decode cX6_refers 74 = .ok (.iconst 1, 1) := dk_4 (dk_at dksX6_refers_3 5 rfl rfl)
theorem dX6_refers_75 : decode cX6_refers 75 = .ok (.invokevirtual 129, 3) := dk_182 0 129 (dk_at dksX6_refers_3 6 rfl rfl)
theorem dX6_refers_78 : decode cX6_refers 78 = .ok (.ifCond .ne 5, 3) := dk_154 0 5 (dk_at dksX6_refers_3 9 rfl rfl)
theorem dX6_refers_81 : decode cX6_refers 81 = .ok (.iconst 0, 1) := dk_3 (dk_at dksX6_refers_3 12 rfl rfl)
theorem dX6_refers_82 : decode cX6_refers 82 = .ok (.ireturn, 1) := dk_172 (dk_at dksX6_refers_3 13 rfl rfl)
theorem dX6_refers_83 : decode cX6_refers 83 = .ok (.aload_n 0, 1) := dk_42 (dk_at dksX6_refers_3 14 rfl rfl)
theorem dX6_refers_84 : decode cX6_refers 84 = .ok (.getfield 19, 3) := dk_180 0 19 (dk_at dksX6_refers_3 15 rfl rfl)
theorem dX6_refers_87 : decode cX6_refers 87 = .ok (.bipush 10, 2) := dk_16 10 (dk_at dksX6_refers_3 18 rfl rfl)
theorem dX6_refers_89 : decode cX6_refers 89 = .ok (.iload_n 1, 1) := dk_27 (dk_at dksX6_refers_3 20 rfl rfl)
theorem dX6_refers_90 : decode cX6_refers 90 = .ok (.imul, 1) := dk_104 (dk_at dksX6_refers_3 21 rfl rfl)
theorem dX6_refers_91 : decode cX6_refers 91 = .ok (.aload_n 0, 1) := dk_42 (dk_at dksX6_refers_3 22 rfl rfl)
theorem dX6_refers_92 : decode cX6_refers 92 = .ok (.getfield 16, 3) := dk_180 0 16 (dk_at dksX6_refers_4 0 rfl rfl)
theorem dX6_refers_95 : decode cX6_refers 95 = .ok (.iload_n 1, 1) := dk_27 (dk_at dksX6_refers_4 3 rfl rfl)
theorem dX6_refers_96 : decode cX6_refers 96 = .ok (.iaload, 1) := dk_46 (dk_at dksX6_refers_4 4 rfl rfl)
theorem dX6_refers_97 : decode cX6_refers 97 = .ok (.iadd, 1) := dk_96 (dk_at dksX6_refers_4 5 rfl rfl)
theorem dX6_refers_98 : decode cX6_refers 98 = .ok (.iload_n 2, 1) := dk_28 (dk_at dksX6_refers_4 6 rfl rfl)
theorem dX6_refers_99 : decode cX6_refers 99 = .ok (.iastore, 1) := dk_79 (dk_at dksX6_refers_4 7 rfl rfl)
theorem dX6_refers_100 : decode cX6_refers 100 = .ok (.aload_n 0, 1) := dk_42 (dk_at dksX6_refers_4 8 rfl rfl)
theorem dX6_refers_101 : decode cX6_refers 101 = .ok (.getfield 16, 3) := dk_180 0 16 (dk_at dksX6_refers_4 9 rfl rfl)
theorem dX6_refers_104 : decode cX6_refers 104 = .ok (.iload_n 1, 1) := dk_27 (dk_at dksX6_refers_4 12 rfl rfl)
theorem dX6_refers_105 : decode cX6_refers 105 = .ok (.dup2, 1) := dk_92 (dk_at dksX6_refers_4 13 rfl rfl)
theorem dX6_refers_106 : decode cX6_refers 106 = .ok (.iaload, 1) := dk_46 (dk_at dksX6_refers_4 14 rfl rfl)
theorem dX6_refers_107 : decode cX6_refers 107 = .ok (.iconst 1, 1) := dk_4 (dk_at dksX6_refers_4 15 rfl rfl)
theorem dX6_refers_108 : decode cX6_refers 108 = .ok (.iadd, 1) := dk_96 (dk_at dksX6_refers_4 16 rfl rfl)
theorem dX6_refers_109 : decode cX6_refers 109 = .ok (.iastore, 1) := dk_79 (dk_at dksX6_refers_4 17 rfl rfl)
theorem dX6_refers_110 : decode cX6_refers 110 = .ok (.iconst 1, 1) := dk_4 (dk_at dksX6_refers_4 18 rfl rfl)
theorem dX6_refers_111 : decode cX6_refers 111 = .ok (.ireturn, 1) := dk_172 (dk_at dksX6_refers_4 19 rfl rfl)
abbrev cX6_isSegment : ByteArray := prog_8_method_7_code
def yX6_isSegment : MethodName := ⟨RX6, "isSegment", "(I)Z"⟩
def dkwX6_isSegment_0 : List UInt8 := [27, 3, 42, 180, 0, 118, 4, 100, 184, 0, 121, 172]
abbrev dktX6_isSegment_0 : List UInt8 := dkwX6_isSegment_0 ++ []
theorem dksX6_isSegment_0 : cX6_isSegment.data.toList.drop 0 = dktX6_isSegment_0 := by decide +kernel
theorem dX6_isSegment_0 : decode cX6_isSegment 0 = .ok (.iload_n 1, 1) := dk_27 (dk_at dksX6_isSegment_0 0 rfl rfl)
theorem dX6_isSegment_1 : decode cX6_isSegment 1 = .ok (.iconst 0, 1) := dk_3 (dk_at dksX6_isSegment_0 1 rfl rfl)
theorem dX6_isSegment_2 : decode cX6_isSegment 2 = .ok (.aload_n 0, 1) := dk_42 (dk_at dksX6_isSegment_0 2 rfl rfl)
theorem dX6_isSegment_3 : decode cX6_isSegment 3 = .ok (.getfield 118, 3) := dk_180 0 118 (dk_at dksX6_isSegment_0 3 rfl rfl)
theorem dX6_isSegment_6 : decode cX6_isSegment 6 = .ok (.iconst 1, 1) := dk_4 (dk_at dksX6_isSegment_0 6 rfl rfl)
theorem dX6_isSegment_7 : decode cX6_isSegment 7 = .ok (.isub, 1) := dk_100 (dk_at dksX6_isSegment_0 7 rfl rfl)
theorem dX6_isSegment_8 : decode cX6_isSegment 8 = .ok (.invokestatic 121, 3) := dk_184 0 121 (dk_at dksX6_isSegment_0 8 rfl rfl)
theorem dX6_isSegment_11 : decode cX6_isSegment 11 = .ok (.ireturn, 1) := dk_172 (dk_at dksX6_isSegment_0 11 rfl rfl)
abbrev cX6_isLetGo : ByteArray := prog_8_method_12_code
def yX6_isLetGo : MethodName := ⟨RX6, "isLetGo", "(II)Z"⟩
def dkwX6_isLetGo_1 : List UInt8 := [21, 4, 27, 182, 0, 143, 126, 153, 0, 7, 4, 167, 0, 4, 3, 62, 132, 4, 1, 167, 255, 219, 29, 172]
abbrev dktX6_isLetGo_1 : List UInt8 := dkwX6_isLetGo_1 ++ []
def dkwX6_isLetGo_0 : List UInt8 := [3, 62, 3, 54, 4, 21, 4, 28, 162, 0, 37, 29, 154, 0, 21, 42, 180, 0, 22, 21, 4, 46, 42]
abbrev dktX6_isLetGo_0 : List UInt8 := dkwX6_isLetGo_0 ++ dktX6_isLetGo_1
theorem dksX6_isLetGo_0 : cX6_isLetGo.data.toList.drop 0 = dktX6_isLetGo_0 := by decide +kernel
theorem dksX6_isLetGo_1 : cX6_isLetGo.data.toList.drop 23 = dktX6_isLetGo_1 := dk_seg dksX6_isLetGo_0 23 rfl rfl
theorem dX6_isLetGo_0 : decode cX6_isLetGo 0 = .ok (.iconst 0, 1) := dk_3 (dk_at dksX6_isLetGo_0 0 rfl rfl)
theorem dX6_isLetGo_1 : decode cX6_isLetGo 1 = .ok (.istore_n 3, 1) := dk_62 (dk_at dksX6_isLetGo_0 1 rfl rfl)
theorem dX6_isLetGo_2 : decode cX6_isLetGo 2 = .ok (.iconst 0, 1) := dk_3 (dk_at dksX6_isLetGo_0 2 rfl rfl)
theorem dX6_isLetGo_3 : decode cX6_isLetGo 3 = .ok (.istore 4, 2) := dk_54 4 (dk_at dksX6_isLetGo_0 3 rfl rfl)
theorem dX6_isLetGo_5 : decode cX6_isLetGo 5 = .ok (.iload 4, 2) := dk_21 4 (dk_at dksX6_isLetGo_0 5 rfl rfl)
theorem dX6_isLetGo_7 : decode cX6_isLetGo 7 = .ok (.iload_n 2, 1) := dk_28 (dk_at dksX6_isLetGo_0 7 rfl rfl)
theorem dX6_isLetGo_8 : decode cX6_isLetGo 8 = .ok (.if_icmp .ge 37, 3) := dk_162 0 37 (dk_at dksX6_isLetGo_0 8 rfl rfl)
theorem dX6_isLetGo_11 : decode cX6_isLetGo 11 = .ok (.iload_n 3, 1) := dk_29 (dk_at dksX6_isLetGo_0 11 rfl rfl)
theorem dX6_isLetGo_12 : decode cX6_isLetGo 12 = .ok (.ifCond .ne 21, 3) := dk_154 0 21 (dk_at dksX6_isLetGo_0 12 rfl rfl)
theorem dX6_isLetGo_15 : decode cX6_isLetGo 15 = .ok (.aload_n 0, 1) := dk_42 (dk_at dksX6_isLetGo_0 15 rfl rfl)
theorem dX6_isLetGo_16 : decode cX6_isLetGo 16 = .ok (.getfield 22, 3) := dk_180 0 22 (dk_at dksX6_isLetGo_0 16 rfl rfl)
theorem dX6_isLetGo_19 : decode cX6_isLetGo 19 = .ok (.iload 4, 2) := dk_21 4 (dk_at dksX6_isLetGo_0 19 rfl rfl)
theorem dX6_isLetGo_21 : decode cX6_isLetGo 21 = .ok (.iaload, 1) := dk_46 (dk_at dksX6_isLetGo_0 21 rfl rfl)
theorem dX6_isLetGo_22 : decode cX6_isLetGo 22 = .ok (.aload_n 0, 1) := dk_42 (dk_at dksX6_isLetGo_0 22 rfl rfl)
theorem dX6_isLetGo_23 : decode cX6_isLetGo 23 = .ok (.iload 4, 2) := dk_21 4 (dk_at dksX6_isLetGo_1 0 rfl rfl)
theorem dX6_isLetGo_25 : decode cX6_isLetGo 25 = .ok (.iload_n 1, 1) := dk_27 (dk_at dksX6_isLetGo_1 2 rfl rfl)
theorem dX6_isLetGo_26 : decode cX6_isLetGo 26 = .ok (.invokevirtual 143, 3) := dk_182 0 143 (dk_at dksX6_isLetGo_1 3 rfl rfl)
theorem dX6_isLetGo_29 : decode cX6_isLetGo 29 = .ok (.iand, 1) := dk_126 (dk_at dksX6_isLetGo_1 6 rfl rfl)
theorem dX6_isLetGo_30 : decode cX6_isLetGo 30 = .ok (.ifCond .eq 7, 3) := dk_153 0 7 (dk_at dksX6_isLetGo_1 7 rfl rfl)
theorem dX6_isLetGo_33 : decode cX6_isLetGo 33 = .ok (.iconst 1, 1) := dk_4 (dk_at dksX6_isLetGo_1 10 rfl rfl)
theorem dX6_isLetGo_34 : decode cX6_isLetGo 34 = .ok (.goto 4, 3) := dk_167 0 4 (dk_at dksX6_isLetGo_1 11 rfl rfl)
theorem dX6_isLetGo_37 : decode cX6_isLetGo 37 = .ok (.iconst 0, 1) := dk_3 (dk_at dksX6_isLetGo_1 14 rfl rfl)
theorem dX6_isLetGo_38 : decode cX6_isLetGo 38 = .ok (.istore_n 3, 1) := dk_62 (dk_at dksX6_isLetGo_1 15 rfl rfl)
theorem dX6_isLetGo_39 : decode cX6_isLetGo 39 = .ok (.iinc 4 1, 3) := dk_132 4 1 (dk_at dksX6_isLetGo_1 16 rfl rfl)
theorem dX6_isLetGo_42 : decode cX6_isLetGo 42 = .ok (.goto (-37), 3) := dk_167 255 219 (dk_at dksX6_isLetGo_1 19 rfl rfl)
theorem dX6_isLetGo_45 : decode cX6_isLetGo 45 = .ok (.iload_n 3, 1) := dk_29 (dk_at dksX6_isLetGo_1 22 rfl rfl)
theorem dX6_isLetGo_46 : decode cX6_isLetGo 46 = .ok (.ireturn, 1) := dk_172 (dk_at dksX6_isLetGo_1 23 rfl rfl)
abbrev cX6_bitOf : ByteArray := prog_8_method_11_code
def yX6_bitOf : MethodName := ⟨RX6, "bitOf", "(II)I"⟩
def dkwX6_bitOf_1 : List UInt8 := [5, 29, 120, 172]
abbrev dktX6_bitOf_1 : List UInt8 := dkwX6_bitOf_1 ++ []
def dkwX6_bitOf_0 : List UInt8 := [42, 27, 28, 182, 0, 140, 62, 27, 28, 160, 0, 7, 4, 167, 0, 14, 29, 156, 0, 7, 3, 167, 0, 6]
abbrev dktX6_bitOf_0 : List UInt8 := dkwX6_bitOf_0 ++ dktX6_bitOf_1
theorem dksX6_bitOf_0 : cX6_bitOf.data.toList.drop 0 = dktX6_bitOf_0 := by decide +kernel
theorem dksX6_bitOf_1 : cX6_bitOf.data.toList.drop 24 = dktX6_bitOf_1 := dk_seg dksX6_bitOf_0 24 rfl rfl
theorem dX6_bitOf_0 : decode cX6_bitOf 0 = .ok (.aload_n 0, 1) := dk_42 (dk_at dksX6_bitOf_0 0 rfl rfl)
theorem dX6_bitOf_1 : decode cX6_bitOf 1 = .ok (.iload_n 1, 1) := dk_27 (dk_at dksX6_bitOf_0 1 rfl rfl)
theorem dX6_bitOf_2 : decode cX6_bitOf 2 = .ok (.iload_n 2, 1) := dk_28 (dk_at dksX6_bitOf_0 2 rfl rfl)
theorem dX6_bitOf_3 : decode cX6_bitOf 3 = .ok (.invokevirtual 140, 3) := dk_182 0 140 (dk_at dksX6_bitOf_0 3 rfl rfl)
theorem dX6_bitOf_6 : decode cX6_bitOf 6 = .ok (.istore_n 3, 1) := dk_62 (dk_at dksX6_bitOf_0 6 rfl rfl)
theorem dX6_bitOf_7 : decode cX6_bitOf 7 = .ok (.iload_n 1, 1) := dk_27 (dk_at dksX6_bitOf_0 7 rfl rfl)
theorem dX6_bitOf_8 : decode cX6_bitOf 8 = .ok (.iload_n 2, 1) := dk_28 (dk_at dksX6_bitOf_0 8 rfl rfl)
theorem dX6_bitOf_9 : decode cX6_bitOf 9 = .ok (.if_icmp .ne 7, 3) := dk_160 0 7 (dk_at dksX6_bitOf_0 9 rfl rfl)
theorem dX6_bitOf_12 : decode cX6_bitOf 12 = .ok (.iconst 1, 1) := dk_4 (dk_at dksX6_bitOf_0 12 rfl rfl)
theorem dX6_bitOf_13 : decode cX6_bitOf 13 = .ok (.goto 14, 3) := dk_167 0 14 (dk_at dksX6_bitOf_0 13 rfl rfl)
theorem dX6_bitOf_16 : decode cX6_bitOf 16 = .ok (.iload_n 3, 1) := dk_29 (dk_at dksX6_bitOf_0 16 rfl rfl)
theorem dX6_bitOf_17 : decode cX6_bitOf 17 = .ok (.ifCond .ge 7, 3) := dk_156 0 7 (dk_at dksX6_bitOf_0 17 rfl rfl)
theorem dX6_bitOf_20 : decode cX6_bitOf 20 = .ok (.iconst 0, 1) := dk_3 (dk_at dksX6_bitOf_0 20 rfl rfl)
theorem dX6_bitOf_21 : decode cX6_bitOf 21 = .ok (.goto 6, 3) := dk_167 0 6 (dk_at dksX6_bitOf_0 21 rfl rfl)
theorem dX6_bitOf_24 : decode cX6_bitOf 24 = .ok (.iconst 2, 1) := dk_5 (dk_at dksX6_bitOf_1 0 rfl rfl)
theorem dX6_bitOf_25 : decode cX6_bitOf 25 = .ok (.iload_n 3, 1) := dk_29 (dk_at dksX6_bitOf_1 1 rfl rfl)
theorem dX6_bitOf_26 : decode cX6_bitOf 26 = .ok (.ishl, 1) := dk_120 (dk_at dksX6_bitOf_1 2 rfl rfl)
theorem dX6_bitOf_27 : decode cX6_bitOf 27 = .ok (.ireturn, 1) := dk_172 (dk_at dksX6_bitOf_1 3 rfl rfl)
abbrev cX6_refPlace : ByteArray := prog_8_method_10_code
def yX6_refPlace : MethodName := ⟨RX6, "refPlace", "(II)I"⟩
def dkwX6_refPlace_1 : List UInt8 := [160, 0, 5, 29, 172, 132, 3, 1, 167, 255, 226, 2, 172]
abbrev dktX6_refPlace_1 : List UInt8 := dkwX6_refPlace_1 ++ []
def dkwX6_refPlace_0 : List UInt8 := [3, 62, 29, 42, 180, 0, 16, 27, 46, 162, 0, 26, 42, 180, 0, 19, 16, 10, 27, 104, 29, 96, 46, 28]
abbrev dktX6_refPlace_0 : List UInt8 := dkwX6_refPlace_0 ++ dktX6_refPlace_1
theorem dksX6_refPlace_0 : cX6_refPlace.data.toList.drop 0 = dktX6_refPlace_0 := by decide +kernel
theorem dksX6_refPlace_1 : cX6_refPlace.data.toList.drop 24 = dktX6_refPlace_1 := dk_seg dksX6_refPlace_0 24 rfl rfl
theorem dX6_refPlace_0 : decode cX6_refPlace 0 = .ok (.iconst 0, 1) := dk_3 (dk_at dksX6_refPlace_0 0 rfl rfl)
theorem dX6_refPlace_1 : decode cX6_refPlace 1 = .ok (.istore_n 3, 1) := dk_62 (dk_at dksX6_refPlace_0 1 rfl rfl)
theorem dX6_refPlace_2 : decode cX6_refPlace 2 = .ok (.iload_n 3, 1) := dk_29 (dk_at dksX6_refPlace_0 2 rfl rfl)
theorem dX6_refPlace_3 : decode cX6_refPlace 3 = .ok (.aload_n 0, 1) := dk_42 (dk_at dksX6_refPlace_0 3 rfl rfl)
theorem dX6_refPlace_4 : decode cX6_refPlace 4 = .ok (.getfield 16, 3) := dk_180 0 16 (dk_at dksX6_refPlace_0 4 rfl rfl)
theorem dX6_refPlace_7 : decode cX6_refPlace 7 = .ok (.iload_n 1, 1) := dk_27 (dk_at dksX6_refPlace_0 7 rfl rfl)
theorem dX6_refPlace_8 : decode cX6_refPlace 8 = .ok (.iaload, 1) := dk_46 (dk_at dksX6_refPlace_0 8 rfl rfl)
theorem dX6_refPlace_9 : decode cX6_refPlace 9 = .ok (.if_icmp .ge 26, 3) := dk_162 0 26 (dk_at dksX6_refPlace_0 9 rfl rfl)
theorem dX6_refPlace_12 : decode cX6_refPlace 12 = .ok (.aload_n 0, 1) := dk_42 (dk_at dksX6_refPlace_0 12 rfl rfl)
theorem dX6_refPlace_13 : decode cX6_refPlace 13 = .ok (.getfield 19, 3) := dk_180 0 19 (dk_at dksX6_refPlace_0 13 rfl rfl)
theorem dX6_refPlace_16 : decode cX6_refPlace 16 = .ok (.bipush 10, 2) := dk_16 10 (dk_at dksX6_refPlace_0 16 rfl rfl)
theorem dX6_refPlace_18 : decode cX6_refPlace 18 = .ok (.iload_n 1, 1) := dk_27 (dk_at dksX6_refPlace_0 18 rfl rfl)
theorem dX6_refPlace_19 : decode cX6_refPlace 19 = .ok (.imul, 1) := dk_104 (dk_at dksX6_refPlace_0 19 rfl rfl)
theorem dX6_refPlace_20 : decode cX6_refPlace 20 = .ok (.iload_n 3, 1) := dk_29 (dk_at dksX6_refPlace_0 20 rfl rfl)
theorem dX6_refPlace_21 : decode cX6_refPlace 21 = .ok (.iadd, 1) := dk_96 (dk_at dksX6_refPlace_0 21 rfl rfl)
theorem dX6_refPlace_22 : decode cX6_refPlace 22 = .ok (.iaload, 1) := dk_46 (dk_at dksX6_refPlace_0 22 rfl rfl)
theorem dX6_refPlace_23 : decode cX6_refPlace 23 = .ok (.iload_n 2, 1) := dk_28 (dk_at dksX6_refPlace_0 23 rfl rfl)
theorem dX6_refPlace_24 : decode cX6_refPlace 24 = .ok (.if_icmp .ne 5, 3) := dk_160 0 5 (dk_at dksX6_refPlace_1 0 rfl rfl)
theorem dX6_refPlace_27 : decode cX6_refPlace 27 = .ok (.iload_n 3, 1) := dk_29 (dk_at dksX6_refPlace_1 3 rfl rfl)
theorem dX6_refPlace_28 : decode cX6_refPlace 28 = .ok (.ireturn, 1) := dk_172 (dk_at dksX6_refPlace_1 4 rfl rfl)
theorem dX6_refPlace_29 : decode cX6_refPlace 29 = .ok (.iinc 3 1, 3) := dk_132 3 1 (dk_at dksX6_refPlace_1 5 rfl rfl)
theorem dX6_refPlace_32 : decode cX6_refPlace 32 = .ok (.goto (-30), 3) := dk_167 255 226 (dk_at dksX6_refPlace_1 8 rfl rfl)
theorem dX6_refPlace_35 : decode cX6_refPlace 35 = .ok (.iconst (-1), 1) := dk_2 (dk_at dksX6_refPlace_1 11 rfl rfl)
theorem dX6_refPlace_36 : decode cX6_refPlace 36 = .ok (.ireturn, 1) := dk_172 (dk_at dksX6_refPlace_1 12 rfl rfl)
abbrev cX6_letGo : ByteArray := prog_8_method_14_code
def yX6_letGo : MethodName := ⟨RX6, "letGo", "(II)Z"⟩
def dkwX6_letGo_2 : List UInt8 := [4, 167, 0, 4, 3, 54, 4, 42, 180, 0, 22, 27, 42, 180, 0, 22, 27, 46, 29, 128, 79, 21, 4, 172]
abbrev dktX6_letGo_2 : List UInt8 := dkwX6_letGo_2 ++ []
def dkwX6_letGo_1 : List UInt8 := [3, 172, 42, 27, 28, 182, 0, 143, 62, 29, 153, 0, 18, 42, 180, 0, 22, 27, 46, 29, 126, 154, 0, 7]
abbrev dktX6_letGo_1 : List UInt8 := dkwX6_letGo_1 ++ dktX6_letGo_2
def dkwX6_letGo_0 : List UInt8 := [42, 42, 27, 182, 0, 146, 153, 0, 7, 3, 167, 0, 4, 4, 181, 0, 115, 42, 180, 0, 115, 158, 0, 5]
abbrev dktX6_letGo_0 : List UInt8 := dkwX6_letGo_0 ++ dktX6_letGo_1
theorem dksX6_letGo_0 : cX6_letGo.data.toList.drop 0 = dktX6_letGo_0 := by decide +kernel
theorem dksX6_letGo_1 : cX6_letGo.data.toList.drop 24 = dktX6_letGo_1 := dk_seg dksX6_letGo_0 24 rfl rfl
theorem dksX6_letGo_2 : cX6_letGo.data.toList.drop 48 = dktX6_letGo_2 := dk_seg dksX6_letGo_1 24 rfl rfl
theorem dX6_letGo_0 : decode cX6_letGo 0 = .ok (.aload_n 0, 1) := dk_42 (dk_at dksX6_letGo_0 0 rfl rfl)
theorem dX6_letGo_1 : decode cX6_letGo 1 = .ok (.aload_n 0, 1) := dk_42 (dk_at dksX6_letGo_0 1 rfl rfl)
theorem dX6_letGo_2 : decode cX6_letGo 2 = .ok (.iload_n 1, 1) := dk_27 (dk_at dksX6_letGo_0 2 rfl rfl)
theorem dX6_letGo_3 : decode cX6_letGo 3 = .ok (.invokevirtual 146, 3) := dk_182 0 146 (dk_at dksX6_letGo_0 3 rfl rfl)
theorem dX6_letGo_6 : decode cX6_letGo 6 = .ok (.ifCond .eq 7, 3) := dk_153 0 7 (dk_at dksX6_letGo_0 6 rfl rfl)
theorem dX6_letGo_9 : decode cX6_letGo 9 = .ok (.iconst 0, 1) := dk_3 (dk_at dksX6_letGo_0 9 rfl rfl)
theorem dX6_letGo_10 : decode cX6_letGo 10 = .ok (.goto 4, 3) := dk_167 0 4 (dk_at dksX6_letGo_0 10 rfl rfl)
theorem dX6_letGo_13 : decode cX6_letGo 13 = .ok (.iconst 1, 1) := dk_4 (dk_at dksX6_letGo_0 13 rfl rfl)
theorem dX6_letGo_14 : decode cX6_letGo 14 = .ok (.putfield 115, 3) := dk_181 0 115 (dk_at dksX6_letGo_0 14 rfl rfl)
theorem dX6_letGo_17 : decode cX6_letGo 17 = .ok (.aload_n 0, 1) := dk_42 (dk_at dksX6_letGo_0 17 rfl rfl)
theorem dX6_letGo_18 : decode cX6_letGo 18 = .ok (.getfield 115, 3) := dk_180 0 115 (dk_at dksX6_letGo_0 18 rfl rfl)
theorem dX6_letGo_21 : decode cX6_letGo 21 = .ok (.ifCond .le 5, 3) := dk_158 0 5 (dk_at dksX6_letGo_0 21 rfl rfl)
theorem dX6_letGo_24 : decode cX6_letGo 24 = .ok (.iconst 0, 1) := dk_3 (dk_at dksX6_letGo_1 0 rfl rfl)
theorem dX6_letGo_25 : decode cX6_letGo 25 = .ok (.ireturn, 1) := dk_172 (dk_at dksX6_letGo_1 1 rfl rfl)
theorem dX6_letGo_26 : decode cX6_letGo 26 = .ok (.aload_n 0, 1) := dk_42 (dk_at dksX6_letGo_1 2 rfl rfl)
theorem dX6_letGo_27 : decode cX6_letGo 27 = .ok (.iload_n 1, 1) := dk_27 (dk_at dksX6_letGo_1 3 rfl rfl)
theorem dX6_letGo_28 : decode cX6_letGo 28 = .ok (.iload_n 2, 1) := dk_28 (dk_at dksX6_letGo_1 4 rfl rfl)
theorem dX6_letGo_29 : decode cX6_letGo 29 = .ok (.invokevirtual 143, 3) := dk_182 0 143 (dk_at dksX6_letGo_1 5 rfl rfl)
theorem dX6_letGo_32 : decode cX6_letGo 32 = .ok (.istore_n 3, 1) := dk_62 (dk_at dksX6_letGo_1 8 rfl rfl)
theorem dX6_letGo_33 : decode cX6_letGo 33 = .ok (.iload_n 3, 1) := dk_29 (dk_at dksX6_letGo_1 9 rfl rfl)
theorem dX6_letGo_34 : decode cX6_letGo 34 = .ok (.ifCond .eq 18, 3) := dk_153 0 18 (dk_at dksX6_letGo_1 10 rfl rfl)
theorem dX6_letGo_37 : decode cX6_letGo 37 = .ok (.aload_n 0, 1) := dk_42 (dk_at dksX6_letGo_1 13 rfl rfl)
theorem dX6_letGo_38 : decode cX6_letGo 38 = .ok (.getfield 22, 3) := dk_180 0 22 (dk_at dksX6_letGo_1 14 rfl rfl)
theorem dX6_letGo_41 : decode cX6_letGo 41 = .ok (.iload_n 1, 1) := dk_27 (dk_at dksX6_letGo_1 17 rfl rfl)
theorem dX6_letGo_42 : decode cX6_letGo 42 = .ok (.iaload, 1) := dk_46 (dk_at dksX6_letGo_1 18 rfl rfl)
theorem dX6_letGo_43 : decode cX6_letGo 43 = .ok (.iload_n 3, 1) := dk_29 (dk_at dksX6_letGo_1 19 rfl rfl)
theorem dX6_letGo_44 : decode cX6_letGo 44 = .ok (.iand, 1) := dk_126 (dk_at dksX6_letGo_1 20 rfl rfl)
theorem dX6_letGo_45 : decode cX6_letGo 45 = .ok (.ifCond .ne 7, 3) := dk_154 0 7 (dk_at dksX6_letGo_1 21 rfl rfl)
theorem dX6_letGo_48 : decode cX6_letGo 48 = .ok (.iconst 1, 1) := dk_4 (dk_at dksX6_letGo_2 0 rfl rfl)
theorem dX6_letGo_49 : decode cX6_letGo 49 = .ok (.goto 4, 3) := dk_167 0 4 (dk_at dksX6_letGo_2 1 rfl rfl)
theorem dX6_letGo_52 : decode cX6_letGo 52 = .ok (.iconst 0, 1) := dk_3 (dk_at dksX6_letGo_2 4 rfl rfl)
theorem dX6_letGo_53 : decode cX6_letGo 53 = .ok (.istore 4, 2) := dk_54 4 (dk_at dksX6_letGo_2 5 rfl rfl)
theorem dX6_letGo_55 : decode cX6_letGo 55 = .ok (.aload_n 0, 1) := dk_42 (dk_at dksX6_letGo_2 7 rfl rfl)
theorem dX6_letGo_56 : decode cX6_letGo 56 = .ok (.getfield 22, 3) := dk_180 0 22 (dk_at dksX6_letGo_2 8 rfl rfl)
theorem dX6_letGo_59 : decode cX6_letGo 59 = .ok (.iload_n 1, 1) := dk_27 (dk_at dksX6_letGo_2 11 rfl rfl)
theorem dX6_letGo_60 : decode cX6_letGo 60 = .ok (.aload_n 0, 1) := dk_42 (dk_at dksX6_letGo_2 12 rfl rfl)
theorem dX6_letGo_61 : decode cX6_letGo 61 = .ok (.getfield 22, 3) := dk_180 0 22 (dk_at dksX6_letGo_2 13 rfl rfl)
theorem dX6_letGo_64 : decode cX6_letGo 64 = .ok (.iload_n 1, 1) := dk_27 (dk_at dksX6_letGo_2 16 rfl rfl)
theorem dX6_letGo_65 : decode cX6_letGo 65 = .ok (.iaload, 1) := dk_46 (dk_at dksX6_letGo_2 17 rfl rfl)
theorem dX6_letGo_66 : decode cX6_letGo 66 = .ok (.iload_n 3, 1) := dk_29 (dk_at dksX6_letGo_2 18 rfl rfl)
theorem dX6_letGo_67 : decode cX6_letGo 67 = .ok (.ior, 1) := dk_128 (dk_at dksX6_letGo_2 19 rfl rfl)
theorem dX6_letGo_68 : decode cX6_letGo 68 = .ok (.iastore, 1) := dk_79 (dk_at dksX6_letGo_2 20 rfl rfl)
theorem dX6_letGo_69 : decode cX6_letGo 69 = .ok (.iload 4, 2) := dk_21 4 (dk_at dksX6_letGo_2 21 rfl rfl)
theorem dX6_letGo_71 : decode cX6_letGo 71 = .ok (.ireturn, 1) := dk_172 (dk_at dksX6_letGo_2 23 rfl rfl)
abbrev cX6_byteOf : ByteArray := prog_8_method_16_code
def yX6_byteOf : MethodName := ⟨RX6, "byteOf", "(II)I"⟩
def dkwX6_byteOf_4 : List UInt8 := [180, 0, 25, 27, 46, 172]
abbrev dktX6_byteOf_4 : List UInt8 := dkwX6_byteOf_4 ++ []
def dkwX6_byteOf_3 : List UInt8 := [27, 104, 42, 180, 0, 25, 27, 46, 96, 28, 79, 42, 180, 0, 25, 27, 92, 46, 4, 96, 79, 42]
abbrev dktX6_byteOf_3 : List UInt8 := dkwX6_byteOf_3 ++ dktX6_byteOf_4
def dkwX6_byteOf_2 : List UInt8 := [16, 20, 162, 0, 7, 4, 167, 0, 4, 3, 182, 0, 129, 154, 0, 5, 3, 172, 42, 180, 0, 28, 16, 20]
abbrev dktX6_byteOf_2 : List UInt8 := dkwX6_byteOf_2 ++ dktX6_byteOf_3
def dkwX6_byteOf_1 : List UInt8 := [4, 167, 0, 4, 3, 28, 3, 17, 0, 255, 184, 0, 121, 29, 153, 0, 18, 42, 180, 0, 25, 27, 46]
abbrev dktX6_byteOf_1 : List UInt8 := dkwX6_byteOf_1 ++ dktX6_byteOf_2
def dkwX6_byteOf_0 : List UInt8 := [42, 27, 182, 0, 146, 62, 42, 29, 29, 153, 0, 19, 42, 180, 0, 7, 27, 46, 184, 0, 153, 153, 0, 7]
abbrev dktX6_byteOf_0 : List UInt8 := dkwX6_byteOf_0 ++ dktX6_byteOf_1
theorem dksX6_byteOf_0 : cX6_byteOf.data.toList.drop 0 = dktX6_byteOf_0 := by decide +kernel
theorem dksX6_byteOf_1 : cX6_byteOf.data.toList.drop 24 = dktX6_byteOf_1 := dk_seg dksX6_byteOf_0 24 rfl rfl
theorem dksX6_byteOf_2 : cX6_byteOf.data.toList.drop 47 = dktX6_byteOf_2 := dk_seg dksX6_byteOf_1 23 rfl rfl
theorem dksX6_byteOf_3 : cX6_byteOf.data.toList.drop 71 = dktX6_byteOf_3 := dk_seg dksX6_byteOf_2 24 rfl rfl
theorem dksX6_byteOf_4 : cX6_byteOf.data.toList.drop 93 = dktX6_byteOf_4 := dk_seg dksX6_byteOf_3 22 rfl rfl
theorem dX6_byteOf_0 : decode cX6_byteOf 0 = .ok (.aload_n 0, 1) := dk_42 (dk_at dksX6_byteOf_0 0 rfl rfl)
theorem dX6_byteOf_1 : decode cX6_byteOf 1 = .ok (.iload_n 1, 1) := dk_27 (dk_at dksX6_byteOf_0 1 rfl rfl)
theorem dX6_byteOf_2 : decode cX6_byteOf 2 = .ok (.invokevirtual 146, 3) := dk_182 0 146 (dk_at dksX6_byteOf_0 2 rfl rfl)
theorem dX6_byteOf_5 : decode cX6_byteOf 5 = .ok (.istore_n 3, 1) := dk_62 (dk_at dksX6_byteOf_0 5 rfl rfl)
theorem dX6_byteOf_6 : decode cX6_byteOf 6 = .ok (.aload_n 0, 1) := dk_42 (dk_at dksX6_byteOf_0 6 rfl rfl)
theorem dX6_byteOf_7 : decode cX6_byteOf 7 = .ok (.iload_n 3, 1) := dk_29 (dk_at dksX6_byteOf_0 7 rfl rfl)
theorem dX6_byteOf_8 : decode cX6_byteOf 8 = .ok (.iload_n 3, 1) := dk_29 (dk_at dksX6_byteOf_0 8 rfl rfl)
theorem dX6_byteOf_9 : decode cX6_byteOf 9 = .ok (.ifCond .eq 19, 3) := dk_153 0 19 (dk_at dksX6_byteOf_0 9 rfl rfl)
theorem dX6_byteOf_12 : decode cX6_byteOf 12 = .ok (.aload_n 0, 1) := dk_42 (dk_at dksX6_byteOf_0 12 rfl rfl)
theorem dX6_byteOf_13 : decode cX6_byteOf 13 = .ok (.getfield 7, 3) := dk_180 0 7 (dk_at dksX6_byteOf_0 13 rfl rfl)
theorem dX6_byteOf_16 : decode cX6_byteOf 16 = .ok (.iload_n 1, 1) := dk_27 (dk_at dksX6_byteOf_0 16 rfl rfl)
theorem dX6_byteOf_17 : decode cX6_byteOf 17 = .ok (.iaload, 1) := dk_46 (dk_at dksX6_byteOf_0 17 rfl rfl)
theorem dX6_byteOf_18 : decode cX6_byteOf 18 = .ok (.invokestatic 153, 3) := dk_184 0 153 (dk_at dksX6_byteOf_0 18 rfl rfl)
theorem dX6_byteOf_21 : decode cX6_byteOf 21 = .ok (.ifCond .eq 7, 3) := dk_153 0 7 (dk_at dksX6_byteOf_0 21 rfl rfl)
theorem dX6_byteOf_24 : decode cX6_byteOf 24 = .ok (.iconst 1, 1) := dk_4 (dk_at dksX6_byteOf_1 0 rfl rfl)
theorem dX6_byteOf_25 : decode cX6_byteOf 25 = .ok (.goto 4, 3) := dk_167 0 4 (dk_at dksX6_byteOf_1 1 rfl rfl)
theorem dX6_byteOf_28 : decode cX6_byteOf 28 = .ok (.iconst 0, 1) := dk_3 (dk_at dksX6_byteOf_1 4 rfl rfl)
theorem dX6_byteOf_29 : decode cX6_byteOf 29 = .ok (.iload_n 2, 1) := dk_28 (dk_at dksX6_byteOf_1 5 rfl rfl)
theorem dX6_byteOf_30 : decode cX6_byteOf 30 = .ok (.iconst 0, 1) := dk_3 (dk_at dksX6_byteOf_1 6 rfl rfl)
theorem dX6_byteOf_31 : decode cX6_byteOf 31 = .ok (.sipush 255, 3) := dk_17 0 255 (dk_at dksX6_byteOf_1 7 rfl rfl)
theorem dX6_byteOf_34 : decode cX6_byteOf 34 = .ok (.invokestatic 121, 3) := dk_184 0 121 (dk_at dksX6_byteOf_1 10 rfl rfl)
theorem dX6_byteOf_37 : decode cX6_byteOf 37 = .ok (.iload_n 3, 1) := dk_29 (dk_at dksX6_byteOf_1 13 rfl rfl)
theorem dX6_byteOf_38 : decode cX6_byteOf 38 = .ok (.ifCond .eq 18, 3) := dk_153 0 18 (dk_at dksX6_byteOf_1 14 rfl rfl)
theorem dX6_byteOf_41 : decode cX6_byteOf 41 = .ok (.aload_n 0, 1) := dk_42 (dk_at dksX6_byteOf_1 17 rfl rfl)
theorem dX6_byteOf_42 : decode cX6_byteOf 42 = .ok (.getfield 25, 3) := dk_180 0 25 (dk_at dksX6_byteOf_1 18 rfl rfl)
theorem dX6_byteOf_45 : decode cX6_byteOf 45 = .ok (.iload_n 1, 1) := dk_27 (dk_at dksX6_byteOf_1 21 rfl rfl)
theorem dX6_byteOf_46 : decode cX6_byteOf 46 = .ok (.iaload, 1) := dk_46 (dk_at dksX6_byteOf_1 22 rfl rfl)
theorem dX6_byteOf_47 : decode cX6_byteOf 47 = .ok (.bipush 20, 2) := dk_16 20 (dk_at dksX6_byteOf_2 0 rfl rfl)
theorem dX6_byteOf_49 : decode cX6_byteOf 49 = .ok (.if_icmp .ge 7, 3) := dk_162 0 7 (dk_at dksX6_byteOf_2 2 rfl rfl)
theorem dX6_byteOf_52 : decode cX6_byteOf 52 = .ok (.iconst 1, 1) := dk_4 (dk_at dksX6_byteOf_2 5 rfl rfl)
theorem dX6_byteOf_53 : decode cX6_byteOf 53 = .ok (.goto 4, 3) := dk_167 0 4 (dk_at dksX6_byteOf_2 6 rfl rfl)
theorem dX6_byteOf_56 : decode cX6_byteOf 56 = .ok (.iconst 0, 1) := dk_3 (dk_at dksX6_byteOf_2 9 rfl rfl)
theorem dX6_byteOf_57 : decode cX6_byteOf 57 = .ok (.invokevirtual 129, 3) := dk_182 0 129 (dk_at dksX6_byteOf_2 10 rfl rfl)
theorem dX6_byteOf_60 : decode cX6_byteOf 60 = .ok (.ifCond .ne 5, 3) := dk_154 0 5 (dk_at dksX6_byteOf_2 13 rfl rfl)
theorem dX6_byteOf_63 : decode cX6_byteOf 63 = .ok (.iconst 0, 1) := dk_3 (dk_at dksX6_byteOf_2 16 rfl rfl)
theorem dX6_byteOf_64 : decode cX6_byteOf 64 = .ok (.ireturn, 1) := dk_172 (dk_at dksX6_byteOf_2 17 rfl rfl)
theorem dX6_byteOf_65 : decode cX6_byteOf 65 = .ok (.aload_n 0, 1) := dk_42 (dk_at dksX6_byteOf_2 18 rfl rfl)
theorem dX6_byteOf_66 : decode cX6_byteOf 66 = .ok (.getfield 28, 3) := dk_180 0 28 (dk_at dksX6_byteOf_2 19 rfl rfl)
theorem dX6_byteOf_69 : decode cX6_byteOf 69 = .ok (.bipush 20, 2) := dk_16 20 (dk_at dksX6_byteOf_2 22 rfl rfl)
theorem dX6_byteOf_71 : decode cX6_byteOf 71 = .ok (.iload_n 1, 1) := dk_27 (dk_at dksX6_byteOf_3 0 rfl rfl)
theorem dX6_byteOf_72 : decode cX6_byteOf 72 = .ok (.imul, 1) := dk_104 (dk_at dksX6_byteOf_3 1 rfl rfl)
theorem dX6_byteOf_73 : decode cX6_byteOf 73 = .ok (.aload_n 0, 1) := dk_42 (dk_at dksX6_byteOf_3 2 rfl rfl)
theorem dX6_byteOf_74 : decode cX6_byteOf 74 = .ok (.getfield 25, 3) := dk_180 0 25 (dk_at dksX6_byteOf_3 3 rfl rfl)
theorem dX6_byteOf_77 : decode cX6_byteOf 77 = .ok (.iload_n 1, 1) := dk_27 (dk_at dksX6_byteOf_3 6 rfl rfl)
theorem dX6_byteOf_78 : decode cX6_byteOf 78 = .ok (.iaload, 1) := dk_46 (dk_at dksX6_byteOf_3 7 rfl rfl)
theorem dX6_byteOf_79 : decode cX6_byteOf 79 = .ok (.iadd, 1) := dk_96 (dk_at dksX6_byteOf_3 8 rfl rfl)
theorem dX6_byteOf_80 : decode cX6_byteOf 80 = .ok (.iload_n 2, 1) := dk_28 (dk_at dksX6_byteOf_3 9 rfl rfl)
theorem dX6_byteOf_81 : decode cX6_byteOf 81 = .ok (.iastore, 1) := dk_79 (dk_at dksX6_byteOf_3 10 rfl rfl)
theorem dX6_byteOf_82 : decode cX6_byteOf 82 = .ok (.aload_n 0, 1) := dk_42 (dk_at dksX6_byteOf_3 11 rfl rfl)
theorem dX6_byteOf_83 : decode cX6_byteOf 83 = .ok (.getfield 25, 3) := dk_180 0 25 (dk_at dksX6_byteOf_3 12 rfl rfl)
theorem dX6_byteOf_86 : decode cX6_byteOf 86 = .ok (.iload_n 1, 1) := dk_27 (dk_at dksX6_byteOf_3 15 rfl rfl)
theorem dX6_byteOf_87 : decode cX6_byteOf 87 = .ok (.dup2, 1) := dk_92 (dk_at dksX6_byteOf_3 16 rfl rfl)
theorem dX6_byteOf_88 : decode cX6_byteOf 88 = .ok (.iaload, 1) := dk_46 (dk_at dksX6_byteOf_3 17 rfl rfl)
theorem dX6_byteOf_89 : decode cX6_byteOf 89 = .ok (.iconst 1, 1) := dk_4 (dk_at dksX6_byteOf_3 18 rfl rfl)
theorem dX6_byteOf_90 : decode cX6_byteOf 90 = .ok (.iadd, 1) := dk_96 (dk_at dksX6_byteOf_3 19 rfl rfl)
theorem dX6_byteOf_91 : decode cX6_byteOf 91 = .ok (.iastore, 1) := dk_79 (dk_at dksX6_byteOf_3 20 rfl rfl)
theorem dX6_byteOf_92 : decode cX6_byteOf 92 = .ok (.aload_n 0, 1) := dk_42 (dk_at dksX6_byteOf_3 21 rfl rfl)
theorem dX6_byteOf_93 : decode cX6_byteOf 93 = .ok (.getfield 25, 3) := dk_180 0 25 (dk_at dksX6_byteOf_4 0 rfl rfl)
theorem dX6_byteOf_96 : decode cX6_byteOf 96 = .ok (.iload_n 1, 1) := dk_27 (dk_at dksX6_byteOf_4 3 rfl rfl)
theorem dX6_byteOf_97 : decode cX6_byteOf 97 = .ok (.iaload, 1) := dk_46 (dk_at dksX6_byteOf_4 4 rfl rfl)
theorem dX6_byteOf_98 : decode cX6_byteOf 98 = .ok (.ireturn, 1) := dk_172 (dk_at dksX6_byteOf_4 5 rfl rfl)
abbrev cX6_hasBytes : ByteArray := prog_8_method_15_code
def yX6_hasBytes : MethodName := ⟨RX6, "hasBytes", "(I)Z"⟩
def dkwX6_hasBytes_0 : List UInt8 := [26, 153, 0, 15, 26, 16, 53, 159, 0, 9, 26, 16, 62, 160, 0, 7, 4, 167, 0, 4, 3, 172]
abbrev dktX6_hasBytes_0 : List UInt8 := dkwX6_hasBytes_0 ++ []
theorem dksX6_hasBytes_0 : cX6_hasBytes.data.toList.drop 0 = dktX6_hasBytes_0 := by decide +kernel
theorem dX6_hasBytes_0 : decode cX6_hasBytes 0 = .ok (.iload_n 0, 1) := dk_26 (dk_at dksX6_hasBytes_0 0 rfl rfl)
theorem dX6_hasBytes_1 : decode cX6_hasBytes 1 = .ok (.ifCond .eq 15, 3) := dk_153 0 15 (dk_at dksX6_hasBytes_0 1 rfl rfl)
theorem dX6_hasBytes_4 : decode cX6_hasBytes 4 = .ok (.iload_n 0, 1) := dk_26 (dk_at dksX6_hasBytes_0 4 rfl rfl)
theorem dX6_hasBytes_5 : decode cX6_hasBytes 5 = .ok (.bipush 53, 2) := dk_16 53 (dk_at dksX6_hasBytes_0 5 rfl rfl)
theorem dX6_hasBytes_7 : decode cX6_hasBytes 7 = .ok (.if_icmp .eq 9, 3) := dk_159 0 9 (dk_at dksX6_hasBytes_0 7 rfl rfl)
theorem dX6_hasBytes_10 : decode cX6_hasBytes 10 = .ok (.iload_n 0, 1) := dk_26 (dk_at dksX6_hasBytes_0 10 rfl rfl)
theorem dX6_hasBytes_11 : decode cX6_hasBytes 11 = .ok (.bipush 62, 2) := dk_16 62 (dk_at dksX6_hasBytes_0 11 rfl rfl)
theorem dX6_hasBytes_13 : decode cX6_hasBytes 13 = .ok (.if_icmp .ne 7, 3) := dk_160 0 7 (dk_at dksX6_hasBytes_0 13 rfl rfl)
theorem dX6_hasBytes_16 : decode cX6_hasBytes 16 = .ok (.iconst 1, 1) := dk_4 (dk_at dksX6_hasBytes_0 16 rfl rfl)
theorem dX6_hasBytes_17 : decode cX6_hasBytes 17 = .ok (.goto 4, 3) := dk_167 0 4 (dk_at dksX6_hasBytes_0 17 rfl rfl)
theorem dX6_hasBytes_20 : decode cX6_hasBytes 20 = .ok (.iconst 0, 1) := dk_3 (dk_at dksX6_hasBytes_0 20 rfl rfl)
theorem dX6_hasBytes_21 : decode cX6_hasBytes 21 = .ok (.ireturn, 1) := dk_172 (dk_at dksX6_hasBytes_0 21 rfl rfl)
abbrev cX6_number : ByteArray := prog_8_method_18_code
def yX6_number : MethodName := ⟨RX6, "number", "(III)I"⟩
def dkwX6_number_3 : List UInt8 := [21, 5, 172]
abbrev dktX6_number_3 : List UInt8 := dkwX6_number_3 ++ []
def dkwX6_number_2 : List UInt8 := [180, 0, 31, 16, 6, 27, 104, 28, 96, 46, 54, 5, 42, 180, 0, 31, 16, 6, 27, 104, 28, 96, 29, 79]
abbrev dktX6_number_2 : List UInt8 := dkwX6_number_2 ++ dktX6_number_3
def dkwX6_number_1 : List UInt8 := [184, 0, 156, 153, 0, 7, 4, 167, 0, 4, 3, 4, 4, 182, 0, 129, 154, 0, 5, 3, 172, 42]
abbrev dktX6_number_1 : List UInt8 := dkwX6_number_1 ++ dktX6_number_2
def dkwX6_number_0 : List UInt8 := [42, 27, 182, 0, 146, 54, 4, 42, 21, 4, 21, 4, 153, 0, 21, 42, 180, 0, 7, 27, 46, 28, 29]
abbrev dktX6_number_0 : List UInt8 := dkwX6_number_0 ++ dktX6_number_1
theorem dksX6_number_0 : cX6_number.data.toList.drop 0 = dktX6_number_0 := by decide +kernel
theorem dksX6_number_1 : cX6_number.data.toList.drop 23 = dktX6_number_1 := dk_seg dksX6_number_0 23 rfl rfl
theorem dksX6_number_2 : cX6_number.data.toList.drop 45 = dktX6_number_2 := dk_seg dksX6_number_1 22 rfl rfl
theorem dksX6_number_3 : cX6_number.data.toList.drop 69 = dktX6_number_3 := dk_seg dksX6_number_2 24 rfl rfl
theorem dX6_number_0 : decode cX6_number 0 = .ok (.aload_n 0, 1) := dk_42 (dk_at dksX6_number_0 0 rfl rfl)
theorem dX6_number_1 : decode cX6_number 1 = .ok (.iload_n 1, 1) := dk_27 (dk_at dksX6_number_0 1 rfl rfl)
theorem dX6_number_2 : decode cX6_number 2 = .ok (.invokevirtual 146, 3) := dk_182 0 146 (dk_at dksX6_number_0 2 rfl rfl)
theorem dX6_number_5 : decode cX6_number 5 = .ok (.istore 4, 2) := dk_54 4 (dk_at dksX6_number_0 5 rfl rfl)
theorem dX6_number_7 : decode cX6_number 7 = .ok (.aload_n 0, 1) := dk_42 (dk_at dksX6_number_0 7 rfl rfl)
theorem dX6_number_8 : decode cX6_number 8 = .ok (.iload 4, 2) := dk_21 4 (dk_at dksX6_number_0 8 rfl rfl)
theorem dX6_number_10 : decode cX6_number 10 = .ok (.iload 4, 2) := dk_21 4 (dk_at dksX6_number_0 10 rfl rfl)
theorem dX6_number_12 : decode cX6_number 12 = .ok (.ifCond .eq 21, 3) := dk_153 0 21 (dk_at dksX6_number_0 12 rfl rfl)
theorem dX6_number_15 : decode cX6_number 15 = .ok (.aload_n 0, 1) := dk_42 (dk_at dksX6_number_0 15 rfl rfl)
theorem dX6_number_16 : decode cX6_number 16 = .ok (.getfield 7, 3) := dk_180 0 7 (dk_at dksX6_number_0 16 rfl rfl)
theorem dX6_number_19 : decode cX6_number 19 = .ok (.iload_n 1, 1) := dk_27 (dk_at dksX6_number_0 19 rfl rfl)
theorem dX6_number_20 : decode cX6_number 20 = .ok (.iaload, 1) := dk_46 (dk_at dksX6_number_0 20 rfl rfl)
theorem dX6_number_21 : decode cX6_number 21 = .ok (.iload_n 2, 1) := dk_28 (dk_at dksX6_number_0 21 rfl rfl)
theorem dX6_number_22 : decode cX6_number 22 = .ok (.iload_n 3, 1) := dk_29 (dk_at dksX6_number_0 22 rfl rfl)
theorem dX6_number_23 : decode cX6_number 23 = .ok (.invokestatic 156, 3) := dk_184 0 156 (dk_at dksX6_number_1 0 rfl rfl)
theorem dX6_number_26 : decode cX6_number 26 = .ok (.ifCond .eq 7, 3) := dk_153 0 7 (dk_at dksX6_number_1 3 rfl rfl)
theorem dX6_number_29 : decode cX6_number 29 = .ok (.iconst 1, 1) := dk_4 (dk_at dksX6_number_1 6 rfl rfl)
theorem dX6_number_30 : decode cX6_number 30 = .ok (.goto 4, 3) := dk_167 0 4 (dk_at dksX6_number_1 7 rfl rfl)
theorem dX6_number_33 : decode cX6_number 33 = .ok (.iconst 0, 1) := dk_3 (dk_at dksX6_number_1 10 rfl rfl)
theorem dX6_number_34 : decode cX6_number 34 = .ok (.iconst 1, 1) := dk_4 (dk_at dksX6_number_1 11 rfl rfl)
theorem dX6_number_35 : decode cX6_number 35 = .ok (.iconst 1, 1) := dk_4 (dk_at dksX6_number_1 12 rfl rfl)
theorem dX6_number_36 : decode cX6_number 36 = .ok (.invokevirtual 129, 3) := dk_182 0 129 (dk_at dksX6_number_1 13 rfl rfl)
theorem dX6_number_39 : decode cX6_number 39 = .ok (.ifCond .ne 5, 3) := dk_154 0 5 (dk_at dksX6_number_1 16 rfl rfl)
theorem dX6_number_42 : decode cX6_number 42 = .ok (.iconst 0, 1) := dk_3 (dk_at dksX6_number_1 19 rfl rfl)
theorem dX6_number_43 : decode cX6_number 43 = .ok (.ireturn, 1) := dk_172 (dk_at dksX6_number_1 20 rfl rfl)
theorem dX6_number_44 : decode cX6_number 44 = .ok (.aload_n 0, 1) := dk_42 (dk_at dksX6_number_1 21 rfl rfl)
theorem dX6_number_45 : decode cX6_number 45 = .ok (.getfield 31, 3) := dk_180 0 31 (dk_at dksX6_number_2 0 rfl rfl)
theorem dX6_number_48 : decode cX6_number 48 = .ok (.bipush 6, 2) := dk_16 6 (dk_at dksX6_number_2 3 rfl rfl)
theorem dX6_number_50 : decode cX6_number 50 = .ok (.iload_n 1, 1) := dk_27 (dk_at dksX6_number_2 5 rfl rfl)
theorem dX6_number_51 : decode cX6_number 51 = .ok (.imul, 1) := dk_104 (dk_at dksX6_number_2 6 rfl rfl)
theorem dX6_number_52 : decode cX6_number 52 = .ok (.iload_n 2, 1) := dk_28 (dk_at dksX6_number_2 7 rfl rfl)
theorem dX6_number_53 : decode cX6_number 53 = .ok (.iadd, 1) := dk_96 (dk_at dksX6_number_2 8 rfl rfl)
theorem dX6_number_54 : decode cX6_number 54 = .ok (.iaload, 1) := dk_46 (dk_at dksX6_number_2 9 rfl rfl)
theorem dX6_number_55 : decode cX6_number 55 = .ok (.istore 5, 2) := dk_54 5 (dk_at dksX6_number_2 10 rfl rfl)
theorem dX6_number_57 : decode cX6_number 57 = .ok (.aload_n 0, 1) := dk_42 (dk_at dksX6_number_2 12 rfl rfl)
theorem dX6_number_58 : decode cX6_number 58 = .ok (.getfield 31, 3) := dk_180 0 31 (dk_at dksX6_number_2 13 rfl rfl)
theorem dX6_number_61 : decode cX6_number 61 = .ok (.bipush 6, 2) := dk_16 6 (dk_at dksX6_number_2 16 rfl rfl)
theorem dX6_number_63 : decode cX6_number 63 = .ok (.iload_n 1, 1) := dk_27 (dk_at dksX6_number_2 18 rfl rfl)
theorem dX6_number_64 : decode cX6_number 64 = .ok (.imul, 1) := dk_104 (dk_at dksX6_number_2 19 rfl rfl)
theorem dX6_number_65 : decode cX6_number 65 = .ok (.iload_n 2, 1) := dk_28 (dk_at dksX6_number_2 20 rfl rfl)
theorem dX6_number_66 : decode cX6_number 66 = .ok (.iadd, 1) := dk_96 (dk_at dksX6_number_2 21 rfl rfl)
theorem dX6_number_67 : decode cX6_number 67 = .ok (.iload_n 3, 1) := dk_29 (dk_at dksX6_number_2 22 rfl rfl)
theorem dX6_number_68 : decode cX6_number 68 = .ok (.iastore, 1) := dk_79 (dk_at dksX6_number_2 23 rfl rfl)
theorem dX6_number_69 : decode cX6_number 69 = .ok (.iload 5, 2) := dk_21 5 (dk_at dksX6_number_3 0 rfl rfl)
theorem dX6_number_71 : decode cX6_number 71 = .ok (.ireturn, 1) := dk_172 (dk_at dksX6_number_3 2 rfl rfl)
abbrev cX6_isNumber : ByteArray := prog_8_method_17_code
def yX6_isNumber : MethodName := ⟨RX6, "isNumber", "(III)Z"⟩
def dkwX6_isNumber_7 : List UInt8 := [3, 16, 31, 184, 0, 121, 154, 0, 9, 26, 16, 62, 160, 0, 7, 4, 167, 0, 4, 3, 172]
abbrev dktX6_isNumber_7 : List UInt8 := dkwX6_isNumber_7 ++ []
def dkwX6_isNumber_6 : List UInt8 := [7, 184, 0, 121, 153, 0, 7, 4, 167, 0, 4, 3, 172, 27, 154, 0, 29, 26, 16, 50, 160, 0, 13, 28]
abbrev dktX6_isNumber_6 : List UInt8 := dkwX6_isNumber_6 ++ dktX6_isNumber_7
def dkwX6_isNumber_5 : List UInt8 := [154, 0, 31, 27, 5, 160, 0, 12, 28, 3, 4, 184, 0, 121, 154, 0, 17, 27, 6, 160, 0, 16, 28, 3]
abbrev dktX6_isNumber_5 : List UInt8 := dkwX6_isNumber_5 ++ dktX6_isNumber_6
def dkwX6_isNumber_4 : List UInt8 := [28, 4, 16, 32, 184, 0, 121, 154, 0, 46, 27, 4, 160, 0, 13, 28, 3, 16, 32, 184, 0, 121]
abbrev dktX6_isNumber_4 : List UInt8 := dkwX6_isNumber_4 ++ dktX6_isNumber_5
def dkwX6_isNumber_3 : List UInt8 := [3, 4, 184, 0, 121, 153, 0, 7, 4, 167, 0, 4, 3, 172, 26, 16, 48, 160, 0, 66, 27, 154, 0, 13]
abbrev dktX6_isNumber_3 : List UInt8 := dkwX6_isNumber_3 ++ dktX6_isNumber_4
def dkwX6_isNumber_2 : List UInt8 := [160, 0, 12, 28, 3, 8, 184, 0, 121, 154, 0, 23, 26, 16, 38, 160, 0, 21, 27, 8, 160, 0, 16, 28]
abbrev dktX6_isNumber_2 : List UInt8 := dkwX6_isNumber_2 ++ dktX6_isNumber_3
def dkwX6_isNumber_1 : List UInt8 := [154, 0, 56, 27, 5, 6, 184, 0, 121, 153, 0, 13, 28, 3, 16, 31, 184, 0, 121, 154, 0, 37, 27, 7]
abbrev dktX6_isNumber_1 : List UInt8 := dkwX6_isNumber_1 ++ dktX6_isNumber_2
def dkwX6_isNumber_0 : List UInt8 := [26, 184, 0, 137, 153, 0, 81, 27, 3, 4, 184, 0, 121, 153, 0, 13, 28, 4, 16, 16, 184, 0, 121]
abbrev dktX6_isNumber_0 : List UInt8 := dkwX6_isNumber_0 ++ dktX6_isNumber_1
theorem dksX6_isNumber_0 : cX6_isNumber.data.toList.drop 0 = dktX6_isNumber_0 := by decide +kernel
theorem dksX6_isNumber_1 : cX6_isNumber.data.toList.drop 23 = dktX6_isNumber_1 := dk_seg dksX6_isNumber_0 23 rfl rfl
theorem dksX6_isNumber_2 : cX6_isNumber.data.toList.drop 47 = dktX6_isNumber_2 := dk_seg dksX6_isNumber_1 24 rfl rfl
theorem dksX6_isNumber_3 : cX6_isNumber.data.toList.drop 71 = dktX6_isNumber_3 := dk_seg dksX6_isNumber_2 24 rfl rfl
theorem dksX6_isNumber_4 : cX6_isNumber.data.toList.drop 95 = dktX6_isNumber_4 := dk_seg dksX6_isNumber_3 24 rfl rfl
theorem dksX6_isNumber_5 : cX6_isNumber.data.toList.drop 117 = dktX6_isNumber_5 := dk_seg dksX6_isNumber_4 22 rfl rfl
theorem dksX6_isNumber_6 : cX6_isNumber.data.toList.drop 141 = dktX6_isNumber_6 := dk_seg dksX6_isNumber_5 24 rfl rfl
theorem dksX6_isNumber_7 : cX6_isNumber.data.toList.drop 165 = dktX6_isNumber_7 := dk_seg dksX6_isNumber_6 24 rfl rfl
theorem dX6_isNumber_0 : decode cX6_isNumber 0 = .ok (.iload_n 0, 1) := dk_26 (dk_at dksX6_isNumber_0 0 rfl rfl)
theorem dX6_isNumber_1 : decode cX6_isNumber 1 = .ok (.invokestatic 137, 3) := dk_184 0 137 (dk_at dksX6_isNumber_0 1 rfl rfl)
theorem dX6_isNumber_4 : decode cX6_isNumber 4 = .ok (.ifCond .eq 81, 3) := dk_153 0 81 (dk_at dksX6_isNumber_0 4 rfl rfl)
theorem dX6_isNumber_7 : decode cX6_isNumber 7 = .ok (.iload_n 1, 1) := dk_27 (dk_at dksX6_isNumber_0 7 rfl rfl)
theorem dX6_isNumber_8 : decode cX6_isNumber 8 = .ok (.iconst 0, 1) := dk_3 (dk_at dksX6_isNumber_0 8 rfl rfl)
theorem dX6_isNumber_9 : decode cX6_isNumber 9 = .ok (.iconst 1, 1) := dk_4 (dk_at dksX6_isNumber_0 9 rfl rfl)
theorem dX6_isNumber_10 : decode cX6_isNumber 10 = .ok (.invokestatic 121, 3) := dk_184 0 121 (dk_at dksX6_isNumber_0 10 rfl rfl)
theorem dX6_isNumber_13 : decode cX6_isNumber 13 = .ok (.ifCond .eq 13, 3) := dk_153 0 13 (dk_at dksX6_isNumber_0 13 rfl rfl)
theorem dX6_isNumber_16 : decode cX6_isNumber 16 = .ok (.iload_n 2, 1) := dk_28 (dk_at dksX6_isNumber_0 16 rfl rfl)
theorem dX6_isNumber_17 : decode cX6_isNumber 17 = .ok (.iconst 1, 1) := dk_4 (dk_at dksX6_isNumber_0 17 rfl rfl)
theorem dX6_isNumber_18 : decode cX6_isNumber 18 = .ok (.bipush 16, 2) := dk_16 16 (dk_at dksX6_isNumber_0 18 rfl rfl)
theorem dX6_isNumber_20 : decode cX6_isNumber 20 = .ok (.invokestatic 121, 3) := dk_184 0 121 (dk_at dksX6_isNumber_0 20 rfl rfl)
theorem dX6_isNumber_23 : decode cX6_isNumber 23 = .ok (.ifCond .ne 56, 3) := dk_154 0 56 (dk_at dksX6_isNumber_1 0 rfl rfl)
theorem dX6_isNumber_26 : decode cX6_isNumber 26 = .ok (.iload_n 1, 1) := dk_27 (dk_at dksX6_isNumber_1 3 rfl rfl)
theorem dX6_isNumber_27 : decode cX6_isNumber 27 = .ok (.iconst 2, 1) := dk_5 (dk_at dksX6_isNumber_1 4 rfl rfl)
theorem dX6_isNumber_28 : decode cX6_isNumber 28 = .ok (.iconst 3, 1) := dk_6 (dk_at dksX6_isNumber_1 5 rfl rfl)
theorem dX6_isNumber_29 : decode cX6_isNumber 29 = .ok (.invokestatic 121, 3) := dk_184 0 121 (dk_at dksX6_isNumber_1 6 rfl rfl)
theorem dX6_isNumber_32 : decode cX6_isNumber 32 = .ok (.ifCond .eq 13, 3) := dk_153 0 13 (dk_at dksX6_isNumber_1 9 rfl rfl)
theorem dX6_isNumber_35 : decode cX6_isNumber 35 = .ok (.iload_n 2, 1) := dk_28 (dk_at dksX6_isNumber_1 12 rfl rfl)
theorem dX6_isNumber_36 : decode cX6_isNumber 36 = .ok (.iconst 0, 1) := dk_3 (dk_at dksX6_isNumber_1 13 rfl rfl)
theorem dX6_isNumber_37 : decode cX6_isNumber 37 = .ok (.bipush 31, 2) := dk_16 31 (dk_at dksX6_isNumber_1 14 rfl rfl)
theorem dX6_isNumber_39 : decode cX6_isNumber 39 = .ok (.invokestatic 121, 3) := dk_184 0 121 (dk_at dksX6_isNumber_1 16 rfl rfl)
theorem dX6_isNumber_42 : decode cX6_isNumber 42 = .ok (.ifCond .ne 37, 3) := dk_154 0 37 (dk_at dksX6_isNumber_1 19 rfl rfl)
theorem dX6_isNumber_45 : decode cX6_isNumber 45 = .ok (.iload_n 1, 1) := dk_27 (dk_at dksX6_isNumber_1 22 rfl rfl)
theorem dX6_isNumber_46 : decode cX6_isNumber 46 = .ok (.iconst 4, 1) := dk_7 (dk_at dksX6_isNumber_1 23 rfl rfl)
theorem dX6_isNumber_47 : decode cX6_isNumber 47 = .ok (.if_icmp .ne 12, 3) := dk_160 0 12 (dk_at dksX6_isNumber_2 0 rfl rfl)
theorem dX6_isNumber_50 : decode cX6_isNumber 50 = .ok (.iload_n 2, 1) := dk_28 (dk_at dksX6_isNumber_2 3 rfl rfl)
theorem dX6_isNumber_51 : decode cX6_isNumber 51 = .ok (.iconst 0, 1) := dk_3 (dk_at dksX6_isNumber_2 4 rfl rfl)
theorem dX6_isNumber_52 : decode cX6_isNumber 52 = .ok (.iconst 5, 1) := dk_8 (dk_at dksX6_isNumber_2 5 rfl rfl)
theorem dX6_isNumber_53 : decode cX6_isNumber 53 = .ok (.invokestatic 121, 3) := dk_184 0 121 (dk_at dksX6_isNumber_2 6 rfl rfl)
theorem dX6_isNumber_56 : decode cX6_isNumber 56 = .ok (.ifCond .ne 23, 3) := dk_154 0 23 (dk_at dksX6_isNumber_2 9 rfl rfl)
theorem dX6_isNumber_59 : decode cX6_isNumber 59 = .ok (.iload_n 0, 1) := dk_26 (dk_at dksX6_isNumber_2 12 rfl rfl)
theorem dX6_isNumber_60 : decode cX6_isNumber 60 = .ok (.bipush 38, 2) := dk_16 38 (dk_at dksX6_isNumber_2 13 rfl rfl)
theorem dX6_isNumber_62 : decode cX6_isNumber 62 = .ok (.if_icmp .ne 21, 3) := dk_160 0 21 (dk_at dksX6_isNumber_2 15 rfl rfl)
theorem dX6_isNumber_65 : decode cX6_isNumber 65 = .ok (.iload_n 1, 1) := dk_27 (dk_at dksX6_isNumber_2 18 rfl rfl)
theorem dX6_isNumber_66 : decode cX6_isNumber 66 = .ok (.iconst 5, 1) := dk_8 (dk_at dksX6_isNumber_2 19 rfl rfl)
theorem dX6_isNumber_67 : decode cX6_isNumber 67 = .ok (.if_icmp .ne 16, 3) := dk_160 0 16 (dk_at dksX6_isNumber_2 20 rfl rfl)
theorem dX6_isNumber_70 : decode cX6_isNumber 70 = .ok (.iload_n 2, 1) := dk_28 (dk_at dksX6_isNumber_2 23 rfl rfl)
theorem dX6_isNumber_71 : decode cX6_isNumber 71 = .ok (.iconst 0, 1) := dk_3 (dk_at dksX6_isNumber_3 0 rfl rfl)
theorem dX6_isNumber_72 : decode cX6_isNumber 72 = .ok (.iconst 1, 1) := dk_4 (dk_at dksX6_isNumber_3 1 rfl rfl)
theorem dX6_isNumber_73 : decode cX6_isNumber 73 = .ok (.invokestatic 121, 3) := dk_184 0 121 (dk_at dksX6_isNumber_3 2 rfl rfl)
theorem dX6_isNumber_76 : decode cX6_isNumber 76 = .ok (.ifCond .eq 7, 3) := dk_153 0 7 (dk_at dksX6_isNumber_3 5 rfl rfl)
theorem dX6_isNumber_79 : decode cX6_isNumber 79 = .ok (.iconst 1, 1) := dk_4 (dk_at dksX6_isNumber_3 8 rfl rfl)
theorem dX6_isNumber_80 : decode cX6_isNumber 80 = .ok (.goto 4, 3) := dk_167 0 4 (dk_at dksX6_isNumber_3 9 rfl rfl)
theorem dX6_isNumber_83 : decode cX6_isNumber 83 = .ok (.iconst 0, 1) := dk_3 (dk_at dksX6_isNumber_3 12 rfl rfl)
theorem dX6_isNumber_84 : decode cX6_isNumber 84 = .ok (.ireturn, 1) := dk_172 (dk_at dksX6_isNumber_3 13 rfl rfl)
theorem dX6_isNumber_85 : decode cX6_isNumber 85 = .ok (.iload_n 0, 1) := dk_26 (dk_at dksX6_isNumber_3 14 rfl rfl)
theorem dX6_isNumber_86 : decode cX6_isNumber 86 = .ok (.bipush 48, 2) := dk_16 48 (dk_at dksX6_isNumber_3 15 rfl rfl)
theorem dX6_isNumber_88 : decode cX6_isNumber 88 = .ok (.if_icmp .ne 66, 3) := dk_160 0 66 (dk_at dksX6_isNumber_3 17 rfl rfl)
theorem dX6_isNumber_91 : decode cX6_isNumber 91 = .ok (.iload_n 1, 1) := dk_27 (dk_at dksX6_isNumber_3 20 rfl rfl)
theorem dX6_isNumber_92 : decode cX6_isNumber 92 = .ok (.ifCond .ne 13, 3) := dk_154 0 13 (dk_at dksX6_isNumber_3 21 rfl rfl)
theorem dX6_isNumber_95 : decode cX6_isNumber 95 = .ok (.iload_n 2, 1) := dk_28 (dk_at dksX6_isNumber_4 0 rfl rfl)
theorem dX6_isNumber_96 : decode cX6_isNumber 96 = .ok (.iconst 1, 1) := dk_4 (dk_at dksX6_isNumber_4 1 rfl rfl)
theorem dX6_isNumber_97 : decode cX6_isNumber 97 = .ok (.bipush 32, 2) := dk_16 32 (dk_at dksX6_isNumber_4 2 rfl rfl)
theorem dX6_isNumber_99 : decode cX6_isNumber 99 = .ok (.invokestatic 121, 3) := dk_184 0 121 (dk_at dksX6_isNumber_4 4 rfl rfl)
theorem dX6_isNumber_102 : decode cX6_isNumber 102 = .ok (.ifCond .ne 46, 3) := dk_154 0 46 (dk_at dksX6_isNumber_4 7 rfl rfl)
theorem dX6_isNumber_105 : decode cX6_isNumber 105 = .ok (.iload_n 1, 1) := dk_27 (dk_at dksX6_isNumber_4 10 rfl rfl)
theorem dX6_isNumber_106 : decode cX6_isNumber 106 = .ok (.iconst 1, 1) := dk_4 (dk_at dksX6_isNumber_4 11 rfl rfl)
theorem dX6_isNumber_107 : decode cX6_isNumber 107 = .ok (.if_icmp .ne 13, 3) := dk_160 0 13 (dk_at dksX6_isNumber_4 12 rfl rfl)
theorem dX6_isNumber_110 : decode cX6_isNumber 110 = .ok (.iload_n 2, 1) := dk_28 (dk_at dksX6_isNumber_4 15 rfl rfl)
theorem dX6_isNumber_111 : decode cX6_isNumber 111 = .ok (.iconst 0, 1) := dk_3 (dk_at dksX6_isNumber_4 16 rfl rfl)
theorem dX6_isNumber_112 : decode cX6_isNumber 112 = .ok (.bipush 32, 2) := dk_16 32 (dk_at dksX6_isNumber_4 17 rfl rfl)
theorem dX6_isNumber_114 : decode cX6_isNumber 114 = .ok (.invokestatic 121, 3) := dk_184 0 121 (dk_at dksX6_isNumber_4 19 rfl rfl)
theorem dX6_isNumber_117 : decode cX6_isNumber 117 = .ok (.ifCond .ne 31, 3) := dk_154 0 31 (dk_at dksX6_isNumber_5 0 rfl rfl)
theorem dX6_isNumber_120 : decode cX6_isNumber 120 = .ok (.iload_n 1, 1) := dk_27 (dk_at dksX6_isNumber_5 3 rfl rfl)
theorem dX6_isNumber_121 : decode cX6_isNumber 121 = .ok (.iconst 2, 1) := dk_5 (dk_at dksX6_isNumber_5 4 rfl rfl)
theorem dX6_isNumber_122 : decode cX6_isNumber 122 = .ok (.if_icmp .ne 12, 3) := dk_160 0 12 (dk_at dksX6_isNumber_5 5 rfl rfl)
theorem dX6_isNumber_125 : decode cX6_isNumber 125 = .ok (.iload_n 2, 1) := dk_28 (dk_at dksX6_isNumber_5 8 rfl rfl)
theorem dX6_isNumber_126 : decode cX6_isNumber 126 = .ok (.iconst 0, 1) := dk_3 (dk_at dksX6_isNumber_5 9 rfl rfl)
theorem dX6_isNumber_127 : decode cX6_isNumber 127 = .ok (.iconst 1, 1) := dk_4 (dk_at dksX6_isNumber_5 10 rfl rfl)
theorem dX6_isNumber_128 : decode cX6_isNumber 128 = .ok (.invokestatic 121, 3) := dk_184 0 121 (dk_at dksX6_isNumber_5 11 rfl rfl)
theorem dX6_isNumber_131 : decode cX6_isNumber 131 = .ok (.ifCond .ne 17, 3) := dk_154 0 17 (dk_at dksX6_isNumber_5 14 rfl rfl)
theorem dX6_isNumber_134 : decode cX6_isNumber 134 = .ok (.iload_n 1, 1) := dk_27 (dk_at dksX6_isNumber_5 17 rfl rfl)
theorem dX6_isNumber_135 : decode cX6_isNumber 135 = .ok (.iconst 3, 1) := dk_6 (dk_at dksX6_isNumber_5 18 rfl rfl)
theorem dX6_isNumber_136 : decode cX6_isNumber 136 = .ok (.if_icmp .ne 16, 3) := dk_160 0 16 (dk_at dksX6_isNumber_5 19 rfl rfl)
theorem dX6_isNumber_139 : decode cX6_isNumber 139 = .ok (.iload_n 2, 1) := dk_28 (dk_at dksX6_isNumber_5 22 rfl rfl)
theorem dX6_isNumber_140 : decode cX6_isNumber 140 = .ok (.iconst 0, 1) := dk_3 (dk_at dksX6_isNumber_5 23 rfl rfl)
theorem dX6_isNumber_141 : decode cX6_isNumber 141 = .ok (.iconst 4, 1) := dk_7 (dk_at dksX6_isNumber_6 0 rfl rfl)
theorem dX6_isNumber_142 : decode cX6_isNumber 142 = .ok (.invokestatic 121, 3) := dk_184 0 121 (dk_at dksX6_isNumber_6 1 rfl rfl)
theorem dX6_isNumber_145 : decode cX6_isNumber 145 = .ok (.ifCond .eq 7, 3) := dk_153 0 7 (dk_at dksX6_isNumber_6 4 rfl rfl)
theorem dX6_isNumber_148 : decode cX6_isNumber 148 = .ok (.iconst 1, 1) := dk_4 (dk_at dksX6_isNumber_6 7 rfl rfl)
theorem dX6_isNumber_149 : decode cX6_isNumber 149 = .ok (.goto 4, 3) := dk_167 0 4 (dk_at dksX6_isNumber_6 8 rfl rfl)
theorem dX6_isNumber_152 : decode cX6_isNumber 152 = .ok (.iconst 0, 1) := dk_3 (dk_at dksX6_isNumber_6 11 rfl rfl)
theorem dX6_isNumber_153 : decode cX6_isNumber 153 = .ok (.ireturn, 1) := dk_172 (dk_at dksX6_isNumber_6 12 rfl rfl)
theorem dX6_isNumber_154 : decode cX6_isNumber 154 = .ok (.iload_n 1, 1) := dk_27 (dk_at dksX6_isNumber_6 13 rfl rfl)
theorem dX6_isNumber_155 : decode cX6_isNumber 155 = .ok (.ifCond .ne 29, 3) := dk_154 0 29 (dk_at dksX6_isNumber_6 14 rfl rfl)
theorem dX6_isNumber_158 : decode cX6_isNumber 158 = .ok (.iload_n 0, 1) := dk_26 (dk_at dksX6_isNumber_6 17 rfl rfl)
theorem dX6_isNumber_159 : decode cX6_isNumber 159 = .ok (.bipush 50, 2) := dk_16 50 (dk_at dksX6_isNumber_6 18 rfl rfl)
theorem dX6_isNumber_161 : decode cX6_isNumber 161 = .ok (.if_icmp .ne 13, 3) := dk_160 0 13 (dk_at dksX6_isNumber_6 20 rfl rfl)
theorem dX6_isNumber_164 : decode cX6_isNumber 164 = .ok (.iload_n 2, 1) := dk_28 (dk_at dksX6_isNumber_6 23 rfl rfl)
theorem dX6_isNumber_165 : decode cX6_isNumber 165 = .ok (.iconst 0, 1) := dk_3 (dk_at dksX6_isNumber_7 0 rfl rfl)
theorem dX6_isNumber_166 : decode cX6_isNumber 166 = .ok (.bipush 31, 2) := dk_16 31 (dk_at dksX6_isNumber_7 1 rfl rfl)
theorem dX6_isNumber_168 : decode cX6_isNumber 168 = .ok (.invokestatic 121, 3) := dk_184 0 121 (dk_at dksX6_isNumber_7 3 rfl rfl)
theorem dX6_isNumber_171 : decode cX6_isNumber 171 = .ok (.ifCond .ne 9, 3) := dk_154 0 9 (dk_at dksX6_isNumber_7 6 rfl rfl)
theorem dX6_isNumber_174 : decode cX6_isNumber 174 = .ok (.iload_n 0, 1) := dk_26 (dk_at dksX6_isNumber_7 9 rfl rfl)
theorem dX6_isNumber_175 : decode cX6_isNumber 175 = .ok (.bipush 62, 2) := dk_16 62 (dk_at dksX6_isNumber_7 10 rfl rfl)
theorem dX6_isNumber_177 : decode cX6_isNumber 177 = .ok (.if_icmp .ne 7, 3) := dk_160 0 7 (dk_at dksX6_isNumber_7 12 rfl rfl)
theorem dX6_isNumber_180 : decode cX6_isNumber 180 = .ok (.iconst 1, 1) := dk_4 (dk_at dksX6_isNumber_7 15 rfl rfl)
theorem dX6_isNumber_181 : decode cX6_isNumber 181 = .ok (.goto 4, 3) := dk_167 0 4 (dk_at dksX6_isNumber_7 16 rfl rfl)
theorem dX6_isNumber_184 : decode cX6_isNumber 184 = .ok (.iconst 0, 1) := dk_3 (dk_at dksX6_isNumber_7 19 rfl rfl)
theorem dX6_isNumber_185 : decode cX6_isNumber 185 = .ok (.ireturn, 1) := dk_172 (dk_at dksX6_isNumber_7 20 rfl rfl)
abbrev cX6_pixel : ByteArray := prog_8_method_19_code
def yX6_pixel : MethodName := ⟨RX6, "pixel", "(IIIZ)Z"⟩
def dkwX6_pixel_7 : List UInt8 := [21, 4, 159, 0, 7, 4, 167, 0, 4, 3, 172]
abbrev dktX6_pixel_7 : List UInt8 := dkwX6_pixel_7 ++ []
def dkwX6_pixel_6 : List UInt8 := [153, 0, 12, 21, 6, 4, 28, 120, 128, 167, 0, 11, 21, 6, 4, 28, 120, 2, 130, 126, 79, 21, 7]
abbrev dktX6_pixel_6 : List UInt8 := dkwX6_pixel_6 ++ dktX6_pixel_7
def dkwX6_pixel_5 : List UInt8 := [4, 160, 0, 7, 4, 167, 0, 4, 3, 54, 7, 42, 180, 0, 34, 16, 16, 27, 104, 29, 96, 21, 4]
abbrev dktX6_pixel_5 : List UInt8 := dkwX6_pixel_5 ++ dktX6_pixel_6
def dkwX6_pixel_4 : List UInt8 := [154, 0, 5, 3, 172, 42, 180, 0, 34, 16, 16, 27, 104, 29, 96, 46, 54, 6, 21, 6, 28, 122, 4, 126]
abbrev dktX6_pixel_4 : List UInt8 := dkwX6_pixel_4 ++ dktX6_pixel_5
def dkwX6_pixel_3 : List UInt8 := [27, 104, 4, 96, 46, 4, 100, 184, 0, 121, 153, 0, 7, 4, 167, 0, 4, 3, 4, 4, 4, 182, 0, 129]
abbrev dktX6_pixel_3 : List UInt8 := dkwX6_pixel_3 ++ dktX6_pixel_4
def dkwX6_pixel_2 : List UInt8 := [180, 0, 31, 16, 6, 27, 104, 46, 4, 100, 184, 0, 121, 153, 0, 28, 29, 3, 42, 180, 0, 31, 16, 6]
abbrev dktX6_pixel_2 : List UInt8 := dkwX6_pixel_2 ++ dktX6_pixel_3
def dkwX6_pixel_1 : List UInt8 := [153, 0, 7, 4, 167, 0, 4, 3, 4, 4, 182, 0, 129, 154, 0, 5, 3, 172, 42, 28, 3, 42]
abbrev dktX6_pixel_1 : List UInt8 := dkwX6_pixel_1 ++ dktX6_pixel_2
def dkwX6_pixel_0 : List UInt8 := [42, 27, 182, 0, 146, 54, 5, 42, 21, 5, 21, 5, 153, 0, 19, 42, 180, 0, 7, 27, 46, 184, 0, 137]
abbrev dktX6_pixel_0 : List UInt8 := dkwX6_pixel_0 ++ dktX6_pixel_1
theorem dksX6_pixel_0 : cX6_pixel.data.toList.drop 0 = dktX6_pixel_0 := by decide +kernel
theorem dksX6_pixel_1 : cX6_pixel.data.toList.drop 24 = dktX6_pixel_1 := dk_seg dksX6_pixel_0 24 rfl rfl
theorem dksX6_pixel_2 : cX6_pixel.data.toList.drop 46 = dktX6_pixel_2 := dk_seg dksX6_pixel_1 22 rfl rfl
theorem dksX6_pixel_3 : cX6_pixel.data.toList.drop 70 = dktX6_pixel_3 := dk_seg dksX6_pixel_2 24 rfl rfl
theorem dksX6_pixel_4 : cX6_pixel.data.toList.drop 94 = dktX6_pixel_4 := dk_seg dksX6_pixel_3 24 rfl rfl
theorem dksX6_pixel_5 : cX6_pixel.data.toList.drop 118 = dktX6_pixel_5 := dk_seg dksX6_pixel_4 24 rfl rfl
theorem dksX6_pixel_6 : cX6_pixel.data.toList.drop 141 = dktX6_pixel_6 := dk_seg dksX6_pixel_5 23 rfl rfl
theorem dksX6_pixel_7 : cX6_pixel.data.toList.drop 164 = dktX6_pixel_7 := dk_seg dksX6_pixel_6 23 rfl rfl
theorem dX6_pixel_0 : decode cX6_pixel 0 = .ok (.aload_n 0, 1) := dk_42 (dk_at dksX6_pixel_0 0 rfl rfl)
theorem dX6_pixel_1 : decode cX6_pixel 1 = .ok (.iload_n 1, 1) := dk_27 (dk_at dksX6_pixel_0 1 rfl rfl)
theorem dX6_pixel_2 : decode cX6_pixel 2 = .ok (.invokevirtual 146, 3) := dk_182 0 146 (dk_at dksX6_pixel_0 2 rfl rfl)
theorem dX6_pixel_5 : decode cX6_pixel 5 = .ok (.istore 5, 2) := dk_54 5 (dk_at dksX6_pixel_0 5 rfl rfl)
theorem dX6_pixel_7 : decode cX6_pixel 7 = .ok (.aload_n 0, 1) := dk_42 (dk_at dksX6_pixel_0 7 rfl rfl)
theorem dX6_pixel_8 : decode cX6_pixel 8 = .ok (.iload 5, 2) := dk_21 5 (dk_at dksX6_pixel_0 8 rfl rfl)
theorem dX6_pixel_10 : decode cX6_pixel 10 = .ok (.iload 5, 2) := dk_21 5 (dk_at dksX6_pixel_0 10 rfl rfl)
theorem dX6_pixel_12 : decode cX6_pixel 12 = .ok (.ifCond .eq 19, 3) := dk_153 0 19 (dk_at dksX6_pixel_0 12 rfl rfl)
theorem dX6_pixel_15 : decode cX6_pixel 15 = .ok (.aload_n 0, 1) := dk_42 (dk_at dksX6_pixel_0 15 rfl rfl)
theorem dX6_pixel_16 : decode cX6_pixel 16 = .ok (.getfield 7, 3) := dk_180 0 7 (dk_at dksX6_pixel_0 16 rfl rfl)
theorem dX6_pixel_19 : decode cX6_pixel 19 = .ok (.iload_n 1, 1) := dk_27 (dk_at dksX6_pixel_0 19 rfl rfl)
theorem dX6_pixel_20 : decode cX6_pixel 20 = .ok (.iaload, 1) := dk_46 (dk_at dksX6_pixel_0 20 rfl rfl)
theorem dX6_pixel_21 : decode cX6_pixel 21 = .ok (.invokestatic 137, 3) := dk_184 0 137 (dk_at dksX6_pixel_0 21 rfl rfl)
theorem dX6_pixel_24 : decode cX6_pixel 24 = .ok (.ifCond .eq 7, 3) := dk_153 0 7 (dk_at dksX6_pixel_1 0 rfl rfl)
theorem dX6_pixel_27 : decode cX6_pixel 27 = .ok (.iconst 1, 1) := dk_4 (dk_at dksX6_pixel_1 3 rfl rfl)
theorem dX6_pixel_28 : decode cX6_pixel 28 = .ok (.goto 4, 3) := dk_167 0 4 (dk_at dksX6_pixel_1 4 rfl rfl)
theorem dX6_pixel_31 : decode cX6_pixel 31 = .ok (.iconst 0, 1) := dk_3 (dk_at dksX6_pixel_1 7 rfl rfl)
theorem dX6_pixel_32 : decode cX6_pixel 32 = .ok (.iconst 1, 1) := dk_4 (dk_at dksX6_pixel_1 8 rfl rfl)
theorem dX6_pixel_33 : decode cX6_pixel 33 = .ok (.iconst 1, 1) := dk_4 (dk_at dksX6_pixel_1 9 rfl rfl)
theorem dX6_pixel_34 : decode cX6_pixel 34 = .ok (.invokevirtual 129, 3) := dk_182 0 129 (dk_at dksX6_pixel_1 10 rfl rfl)
theorem dX6_pixel_37 : decode cX6_pixel 37 = .ok (.ifCond .ne 5, 3) := dk_154 0 5 (dk_at dksX6_pixel_1 13 rfl rfl)
theorem dX6_pixel_40 : decode cX6_pixel 40 = .ok (.iconst 0, 1) := dk_3 (dk_at dksX6_pixel_1 16 rfl rfl)
theorem dX6_pixel_41 : decode cX6_pixel 41 = .ok (.ireturn, 1) := dk_172 (dk_at dksX6_pixel_1 17 rfl rfl)
theorem dX6_pixel_42 : decode cX6_pixel 42 = .ok (.aload_n 0, 1) := dk_42 (dk_at dksX6_pixel_1 18 rfl rfl)
theorem dX6_pixel_43 : decode cX6_pixel 43 = .ok (.iload_n 2, 1) := dk_28 (dk_at dksX6_pixel_1 19 rfl rfl)
theorem dX6_pixel_44 : decode cX6_pixel 44 = .ok (.iconst 0, 1) := dk_3 (dk_at dksX6_pixel_1 20 rfl rfl)
theorem dX6_pixel_45 : decode cX6_pixel 45 = .ok (.aload_n 0, 1) := dk_42 (dk_at dksX6_pixel_1 21 rfl rfl)
theorem dX6_pixel_46 : decode cX6_pixel 46 = .ok (.getfield 31, 3) := dk_180 0 31 (dk_at dksX6_pixel_2 0 rfl rfl)
theorem dX6_pixel_49 : decode cX6_pixel 49 = .ok (.bipush 6, 2) := dk_16 6 (dk_at dksX6_pixel_2 3 rfl rfl)
theorem dX6_pixel_51 : decode cX6_pixel 51 = .ok (.iload_n 1, 1) := dk_27 (dk_at dksX6_pixel_2 5 rfl rfl)
theorem dX6_pixel_52 : decode cX6_pixel 52 = .ok (.imul, 1) := dk_104 (dk_at dksX6_pixel_2 6 rfl rfl)
theorem dX6_pixel_53 : decode cX6_pixel 53 = .ok (.iaload, 1) := dk_46 (dk_at dksX6_pixel_2 7 rfl rfl)
theorem dX6_pixel_54 : decode cX6_pixel 54 = .ok (.iconst 1, 1) := dk_4 (dk_at dksX6_pixel_2 8 rfl rfl)
theorem dX6_pixel_55 : decode cX6_pixel 55 = .ok (.isub, 1) := dk_100 (dk_at dksX6_pixel_2 9 rfl rfl)
theorem dX6_pixel_56 : decode cX6_pixel 56 = .ok (.invokestatic 121, 3) := dk_184 0 121 (dk_at dksX6_pixel_2 10 rfl rfl)
theorem dX6_pixel_59 : decode cX6_pixel 59 = .ok (.ifCond .eq 28, 3) := dk_153 0 28 (dk_at dksX6_pixel_2 13 rfl rfl)
theorem dX6_pixel_62 : decode cX6_pixel 62 = .ok (.iload_n 3, 1) := dk_29 (dk_at dksX6_pixel_2 16 rfl rfl)
theorem dX6_pixel_63 : decode cX6_pixel 63 = .ok (.iconst 0, 1) := dk_3 (dk_at dksX6_pixel_2 17 rfl rfl)
theorem dX6_pixel_64 : decode cX6_pixel 64 = .ok (.aload_n 0, 1) := dk_42 (dk_at dksX6_pixel_2 18 rfl rfl)
theorem dX6_pixel_65 : decode cX6_pixel 65 = .ok (.getfield 31, 3) := dk_180 0 31 (dk_at dksX6_pixel_2 19 rfl rfl)
theorem dX6_pixel_68 : decode cX6_pixel 68 = .ok (.bipush 6, 2) := dk_16 6 (dk_at dksX6_pixel_2 22 rfl rfl)
theorem dX6_pixel_70 : decode cX6_pixel 70 = .ok (.iload_n 1, 1) := dk_27 (dk_at dksX6_pixel_3 0 rfl rfl)
theorem dX6_pixel_71 : decode cX6_pixel 71 = .ok (.imul, 1) := dk_104 (dk_at dksX6_pixel_3 1 rfl rfl)
theorem dX6_pixel_72 : decode cX6_pixel 72 = .ok (.iconst 1, 1) := dk_4 (dk_at dksX6_pixel_3 2 rfl rfl)
theorem dX6_pixel_73 : decode cX6_pixel 73 = .ok (.iadd, 1) := dk_96 (dk_at dksX6_pixel_3 3 rfl rfl)
theorem dX6_pixel_74 : decode cX6_pixel 74 = .ok (.iaload, 1) := dk_46 (dk_at dksX6_pixel_3 4 rfl rfl)
theorem dX6_pixel_75 : decode cX6_pixel 75 = .ok (.iconst 1, 1) := dk_4 (dk_at dksX6_pixel_3 5 rfl rfl)
theorem dX6_pixel_76 : decode cX6_pixel 76 = .ok (.isub, 1) := dk_100 (dk_at dksX6_pixel_3 6 rfl rfl)
theorem dX6_pixel_77 : decode cX6_pixel 77 = .ok (.invokestatic 121, 3) := dk_184 0 121 (dk_at dksX6_pixel_3 7 rfl rfl)
theorem dX6_pixel_80 : decode cX6_pixel 80 = .ok (.ifCond .eq 7, 3) := dk_153 0 7 (dk_at dksX6_pixel_3 10 rfl rfl)
theorem dX6_pixel_83 : decode cX6_pixel 83 = .ok (.iconst 1, 1) := dk_4 (dk_at dksX6_pixel_3 13 rfl rfl)
theorem dX6_pixel_84 : decode cX6_pixel 84 = .ok (.goto 4, 3) := dk_167 0 4 (dk_at dksX6_pixel_3 14 rfl rfl)
theorem dX6_pixel_87 : decode cX6_pixel 87 = .ok (.iconst 0, 1) := dk_3 (dk_at dksX6_pixel_3 17 rfl rfl)
theorem dX6_pixel_88 : decode cX6_pixel 88 = .ok (.iconst 1, 1) := dk_4 (dk_at dksX6_pixel_3 18 rfl rfl)
theorem dX6_pixel_89 : decode cX6_pixel 89 = .ok (.iconst 1, 1) := dk_4 (dk_at dksX6_pixel_3 19 rfl rfl)
theorem dX6_pixel_90 : decode cX6_pixel 90 = .ok (.iconst 1, 1) := dk_4 (dk_at dksX6_pixel_3 20 rfl rfl)
theorem dX6_pixel_91 : decode cX6_pixel 91 = .ok (.invokevirtual 129, 3) := dk_182 0 129 (dk_at dksX6_pixel_3 21 rfl rfl)
theorem dX6_pixel_94 : decode cX6_pixel 94 = .ok (.ifCond .ne 5, 3) := dk_154 0 5 (dk_at dksX6_pixel_4 0 rfl rfl)
theorem dX6_pixel_97 : decode cX6_pixel 97 = .ok (.iconst 0, 1) := dk_3 (dk_at dksX6_pixel_4 3 rfl rfl)
theorem dX6_pixel_98 : decode cX6_pixel 98 = .ok (.ireturn, 1) := dk_172 (dk_at dksX6_pixel_4 4 rfl rfl)
theorem dX6_pixel_99 : decode cX6_pixel 99 = .ok (.aload_n 0, 1) := dk_42 (dk_at dksX6_pixel_4 5 rfl rfl)
theorem dX6_pixel_100 : decode cX6_pixel 100 = .ok (.getfield 34, 3) := dk_180 0 34 (dk_at dksX6_pixel_4 6 rfl rfl)
theorem dX6_pixel_103 : decode cX6_pixel 103 = .ok (.bipush 16, 2) := dk_16 16 (dk_at dksX6_pixel_4 9 rfl rfl)
theorem dX6_pixel_105 : decode cX6_pixel 105 = .ok (.iload_n 1, 1) := dk_27 (dk_at dksX6_pixel_4 11 rfl rfl)
theorem dX6_pixel_106 : decode cX6_pixel 106 = .ok (.imul, 1) := dk_104 (dk_at dksX6_pixel_4 12 rfl rfl)
theorem dX6_pixel_107 : decode cX6_pixel 107 = .ok (.iload_n 3, 1) := dk_29 (dk_at dksX6_pixel_4 13 rfl rfl)
theorem dX6_pixel_108 : decode cX6_pixel 108 = .ok (.iadd, 1) := dk_96 (dk_at dksX6_pixel_4 14 rfl rfl)
theorem dX6_pixel_109 : decode cX6_pixel 109 = .ok (.iaload, 1) := dk_46 (dk_at dksX6_pixel_4 15 rfl rfl)
theorem dX6_pixel_110 : decode cX6_pixel 110 = .ok (.istore 6, 2) := dk_54 6 (dk_at dksX6_pixel_4 16 rfl rfl)
theorem dX6_pixel_112 : decode cX6_pixel 112 = .ok (.iload 6, 2) := dk_21 6 (dk_at dksX6_pixel_4 18 rfl rfl)
theorem dX6_pixel_114 : decode cX6_pixel 114 = .ok (.iload_n 2, 1) := dk_28 (dk_at dksX6_pixel_4 20 rfl rfl)
theorem dX6_pixel_115 : decode cX6_pixel 115 = .ok (.ishr, 1) := dk_122 (dk_at dksX6_pixel_4 21 rfl rfl)
theorem dX6_pixel_116 : decode cX6_pixel 116 = .ok (.iconst 1, 1) := dk_4 (dk_at dksX6_pixel_4 22 rfl rfl)
theorem dX6_pixel_117 : decode cX6_pixel 117 = .ok (.iand, 1) := dk_126 (dk_at dksX6_pixel_4 23 rfl rfl)
theorem dX6_pixel_118 : decode cX6_pixel 118 = .ok (.iconst 1, 1) := dk_4 (dk_at dksX6_pixel_5 0 rfl rfl)
theorem dX6_pixel_119 : decode cX6_pixel 119 = .ok (.if_icmp .ne 7, 3) := dk_160 0 7 (dk_at dksX6_pixel_5 1 rfl rfl)
theorem dX6_pixel_122 : decode cX6_pixel 122 = .ok (.iconst 1, 1) := dk_4 (dk_at dksX6_pixel_5 4 rfl rfl)
theorem dX6_pixel_123 : decode cX6_pixel 123 = .ok (.goto 4, 3) := dk_167 0 4 (dk_at dksX6_pixel_5 5 rfl rfl)
theorem dX6_pixel_126 : decode cX6_pixel 126 = .ok (.iconst 0, 1) := dk_3 (dk_at dksX6_pixel_5 8 rfl rfl)
theorem dX6_pixel_127 : decode cX6_pixel 127 = .ok (.istore 7, 2) := dk_54 7 (dk_at dksX6_pixel_5 9 rfl rfl)
theorem dX6_pixel_129 : decode cX6_pixel 129 = .ok (.aload_n 0, 1) := dk_42 (dk_at dksX6_pixel_5 11 rfl rfl)
theorem dX6_pixel_130 : decode cX6_pixel 130 = .ok (.getfield 34, 3) := dk_180 0 34 (dk_at dksX6_pixel_5 12 rfl rfl)
theorem dX6_pixel_133 : decode cX6_pixel 133 = .ok (.bipush 16, 2) := dk_16 16 (dk_at dksX6_pixel_5 15 rfl rfl)
theorem dX6_pixel_135 : decode cX6_pixel 135 = .ok (.iload_n 1, 1) := dk_27 (dk_at dksX6_pixel_5 17 rfl rfl)
theorem dX6_pixel_136 : decode cX6_pixel 136 = .ok (.imul, 1) := dk_104 (dk_at dksX6_pixel_5 18 rfl rfl)
theorem dX6_pixel_137 : decode cX6_pixel 137 = .ok (.iload_n 3, 1) := dk_29 (dk_at dksX6_pixel_5 19 rfl rfl)
theorem dX6_pixel_138 : decode cX6_pixel 138 = .ok (.iadd, 1) := dk_96 (dk_at dksX6_pixel_5 20 rfl rfl)
theorem dX6_pixel_139 : decode cX6_pixel 139 = .ok (.iload 4, 2) := dk_21 4 (dk_at dksX6_pixel_5 21 rfl rfl)
theorem dX6_pixel_141 : decode cX6_pixel 141 = .ok (.ifCond .eq 12, 3) := dk_153 0 12 (dk_at dksX6_pixel_6 0 rfl rfl)
theorem dX6_pixel_144 : decode cX6_pixel 144 = .ok (.iload 6, 2) := dk_21 6 (dk_at dksX6_pixel_6 3 rfl rfl)
theorem dX6_pixel_146 : decode cX6_pixel 146 = .ok (.iconst 1, 1) := dk_4 (dk_at dksX6_pixel_6 5 rfl rfl)
theorem dX6_pixel_147 : decode cX6_pixel 147 = .ok (.iload_n 2, 1) := dk_28 (dk_at dksX6_pixel_6 6 rfl rfl)
theorem dX6_pixel_148 : decode cX6_pixel 148 = .ok (.ishl, 1) := dk_120 (dk_at dksX6_pixel_6 7 rfl rfl)
theorem dX6_pixel_149 : decode cX6_pixel 149 = .ok (.ior, 1) := dk_128 (dk_at dksX6_pixel_6 8 rfl rfl)
theorem dX6_pixel_150 : decode cX6_pixel 150 = .ok (.goto 11, 3) := dk_167 0 11 (dk_at dksX6_pixel_6 9 rfl rfl)
theorem dX6_pixel_153 : decode cX6_pixel 153 = .ok (.iload 6, 2) := dk_21 6 (dk_at dksX6_pixel_6 12 rfl rfl)
theorem dX6_pixel_155 : decode cX6_pixel 155 = .ok (.iconst 1, 1) := dk_4 (dk_at dksX6_pixel_6 14 rfl rfl)
theorem dX6_pixel_156 : decode cX6_pixel 156 = .ok (.iload_n 2, 1) := dk_28 (dk_at dksX6_pixel_6 15 rfl rfl)
theorem dX6_pixel_157 : decode cX6_pixel 157 = .ok (.ishl, 1) := dk_120 (dk_at dksX6_pixel_6 16 rfl rfl)
theorem dX6_pixel_158 : decode cX6_pixel 158 = .ok (.iconst (-1), 1) := dk_2 (dk_at dksX6_pixel_6 17 rfl rfl)
theorem dX6_pixel_159 : decode cX6_pixel 159 = .ok (.ixor, 1) := dk_130 (dk_at dksX6_pixel_6 18 rfl rfl)
theorem dX6_pixel_160 : decode cX6_pixel 160 = .ok (.iand, 1) := dk_126 (dk_at dksX6_pixel_6 19 rfl rfl)
theorem dX6_pixel_161 : decode cX6_pixel 161 = .ok (.iastore, 1) := dk_79 (dk_at dksX6_pixel_6 20 rfl rfl)
theorem dX6_pixel_162 : decode cX6_pixel 162 = .ok (.iload 7, 2) := dk_21 7 (dk_at dksX6_pixel_6 21 rfl rfl)
theorem dX6_pixel_164 : decode cX6_pixel 164 = .ok (.iload 4, 2) := dk_21 4 (dk_at dksX6_pixel_7 0 rfl rfl)
theorem dX6_pixel_166 : decode cX6_pixel 166 = .ok (.if_icmp .eq 7, 3) := dk_159 0 7 (dk_at dksX6_pixel_7 2 rfl rfl)
theorem dX6_pixel_169 : decode cX6_pixel 169 = .ok (.iconst 1, 1) := dk_4 (dk_at dksX6_pixel_7 5 rfl rfl)
theorem dX6_pixel_170 : decode cX6_pixel 170 = .ok (.goto 4, 3) := dk_167 0 4 (dk_at dksX6_pixel_7 6 rfl rfl)
theorem dX6_pixel_173 : decode cX6_pixel 173 = .ok (.iconst 0, 1) := dk_3 (dk_at dksX6_pixel_7 9 rfl rfl)
theorem dX6_pixel_174 : decode cX6_pixel 174 = .ok (.ireturn, 1) := dk_172 (dk_at dksX6_pixel_7 10 rfl rfl)
abbrev cX6_write : ByteArray := prog_8_method_28_code
def yX6_write : MethodName := ⟨RX6, "write", "(I)I"⟩
def dkwX6_write_10 : List UInt8 := [132, 4, 1, 167, 255, 162, 132, 3, 1, 167, 255, 136, 42, 180, 0, 159, 172]
abbrev dktX6_write_10 : List UInt8 := dkwX6_write_10 ++ []
def dkwX6_write_9 : List UInt8 := [153, 0, 22, 42, 180, 0, 111, 4, 160, 0, 8, 29, 4, 160, 0, 9, 42, 21, 4, 182, 0, 185]
abbrev dktX6_write_9 : List UInt8 := dkwX6_write_9 ++ dktX6_write_10
def dkwX6_write_8 : List UInt8 := [167, 0, 4, 3, 54, 5, 21, 5, 153, 0, 13, 29, 154, 0, 9, 42, 21, 4, 182, 0, 182, 21, 5]
abbrev dktX6_write_8 : List UInt8 := dkwX6_write_8 ++ dktX6_write_9
def dkwX6_write_7 : List UInt8 := [4, 167, 0, 4, 3, 42, 180, 0, 13, 21, 4, 46, 154, 0, 7, 4, 167, 0, 4, 3, 160, 0, 7, 4]
abbrev dktX6_write_7 : List UInt8 := dkwX6_write_7 ++ dktX6_write_8
def dkwX6_write_6 : List UInt8 := [54, 4, 21, 4, 42, 180, 0, 118, 162, 0, 91, 42, 180, 0, 111, 5, 161, 0, 31, 27, 4, 160, 0, 7]
abbrev dktX6_write_6 : List UInt8 := dkwX6_write_6 ++ dktX6_write_7
def dkwX6_write_5 : List UInt8 := [182, 0, 166, 3, 62, 29, 42, 180, 0, 111, 4, 160, 0, 7, 5, 167, 0, 4, 4, 162, 0, 109, 3]
abbrev dktX6_write_5 : List UInt8 := dkwX6_write_5 ++ dktX6_write_6
def dkwX6_write_4 : List UInt8 := [184, 0, 179, 182, 0, 162, 132, 3, 1, 167, 255, 239, 42, 4, 42, 180, 0, 111, 100, 182, 0, 162, 42, 28]
abbrev dktX6_write_4 : List UInt8 := dkwX6_write_4 ++ dktX6_write_5
def dkwX6_write_3 : List UInt8 := [132, 3, 1, 167, 255, 226, 42, 180, 0, 111, 5, 162, 0, 40, 3, 62, 29, 16, 8, 162, 0, 17, 42, 29]
abbrev dktX6_write_3 : List UInt8 := dkwX6_write_3 ++ dktX6_write_4
def dkwX6_write_2 : List UInt8 := [162, 0, 28, 28, 42, 180, 0, 7, 29, 46, 16, 48, 160, 0, 7, 4, 167, 0, 4, 3, 96, 61]
abbrev dktX6_write_2 : List UInt8 := dkwX6_write_2 ++ dktX6_write_3
def dkwX6_write_1 : List UInt8 := [4, 4, 182, 0, 129, 154, 0, 5, 3, 172, 42, 3, 181, 0, 159, 3, 61, 3, 62, 29, 42, 180, 0, 118]
abbrev dktX6_write_1 : List UInt8 := dkwX6_write_1 ++ dktX6_write_2
def dkwX6_write_0 : List UInt8 := [42, 27, 153, 0, 16, 27, 4, 160, 0, 15, 42, 180, 0, 111, 5, 160, 0, 7, 4, 167, 0, 4, 3, 4]
abbrev dktX6_write_0 : List UInt8 := dkwX6_write_0 ++ dktX6_write_1
theorem dksX6_write_0 : cX6_write.data.toList.drop 0 = dktX6_write_0 := by decide +kernel
theorem dksX6_write_1 : cX6_write.data.toList.drop 24 = dktX6_write_1 := dk_seg dksX6_write_0 24 rfl rfl
theorem dksX6_write_2 : cX6_write.data.toList.drop 48 = dktX6_write_2 := dk_seg dksX6_write_1 24 rfl rfl
theorem dksX6_write_3 : cX6_write.data.toList.drop 70 = dktX6_write_3 := dk_seg dksX6_write_2 22 rfl rfl
theorem dksX6_write_4 : cX6_write.data.toList.drop 94 = dktX6_write_4 := dk_seg dksX6_write_3 24 rfl rfl
theorem dksX6_write_5 : cX6_write.data.toList.drop 118 = dktX6_write_5 := dk_seg dksX6_write_4 24 rfl rfl
theorem dksX6_write_6 : cX6_write.data.toList.drop 141 = dktX6_write_6 := dk_seg dksX6_write_5 23 rfl rfl
theorem dksX6_write_7 : cX6_write.data.toList.drop 165 = dktX6_write_7 := dk_seg dksX6_write_6 24 rfl rfl
theorem dksX6_write_8 : cX6_write.data.toList.drop 189 = dktX6_write_8 := dk_seg dksX6_write_7 24 rfl rfl
theorem dksX6_write_9 : cX6_write.data.toList.drop 212 = dktX6_write_9 := dk_seg dksX6_write_8 23 rfl rfl
theorem dksX6_write_10 : cX6_write.data.toList.drop 234 = dktX6_write_10 := dk_seg dksX6_write_9 22 rfl rfl
theorem dX6_write_0 : decode cX6_write 0 = .ok (.aload_n 0, 1) := dk_42 (dk_at dksX6_write_0 0 rfl rfl)
theorem dX6_write_1 : decode cX6_write 1 = .ok (.iload_n 1, 1) := dk_27 (dk_at dksX6_write_0 1 rfl rfl)
theorem dX6_write_2 : decode cX6_write 2 = .ok (.ifCond .eq 16, 3) := dk_153 0 16 (dk_at dksX6_write_0 2 rfl rfl)
theorem dX6_write_5 : decode cX6_write 5 = .ok (.iload_n 1, 1) := dk_27 (dk_at dksX6_write_0 5 rfl rfl)
theorem dX6_write_6 : decode cX6_write 6 = .ok (.iconst 1, 1) := dk_4 (dk_at dksX6_write_0 6 rfl rfl)
theorem dX6_write_7 : decode cX6_write 7 = .ok (.if_icmp .ne 15, 3) := dk_160 0 15 (dk_at dksX6_write_0 7 rfl rfl)
theorem dX6_write_10 : decode cX6_write 10 = .ok (.aload_n 0, 1) := dk_42 (dk_at dksX6_write_0 10 rfl rfl)
theorem dX6_write_11 : decode cX6_write 11 = .ok (.getfield 111, 3) := dk_180 0 111 (dk_at dksX6_write_0 11 rfl rfl)
theorem dX6_write_14 : decode cX6_write 14 = .ok (.iconst 2, 1) := dk_5 (dk_at dksX6_write_0 14 rfl rfl)
theorem dX6_write_15 : decode cX6_write 15 = .ok (.if_icmp .ne 7, 3) := dk_160 0 7 (dk_at dksX6_write_0 15 rfl rfl)
theorem dX6_write_18 : decode cX6_write 18 = .ok (.iconst 1, 1) := dk_4 (dk_at dksX6_write_0 18 rfl rfl)
theorem dX6_write_19 : decode cX6_write 19 = .ok (.goto 4, 3) := dk_167 0 4 (dk_at dksX6_write_0 19 rfl rfl)
theorem dX6_write_22 : decode cX6_write 22 = .ok (.iconst 0, 1) := dk_3 (dk_at dksX6_write_0 22 rfl rfl)
theorem dX6_write_23 : decode cX6_write 23 = .ok (.iconst 1, 1) := dk_4 (dk_at dksX6_write_0 23 rfl rfl)
theorem dX6_write_24 : decode cX6_write 24 = .ok (.iconst 1, 1) := dk_4 (dk_at dksX6_write_1 0 rfl rfl)
theorem dX6_write_25 : decode cX6_write 25 = .ok (.iconst 1, 1) := dk_4 (dk_at dksX6_write_1 1 rfl rfl)
theorem dX6_write_26 : decode cX6_write 26 = .ok (.invokevirtual 129, 3) := dk_182 0 129 (dk_at dksX6_write_1 2 rfl rfl)
theorem dX6_write_29 : decode cX6_write 29 = .ok (.ifCond .ne 5, 3) := dk_154 0 5 (dk_at dksX6_write_1 5 rfl rfl)
theorem dX6_write_32 : decode cX6_write 32 = .ok (.iconst 0, 1) := dk_3 (dk_at dksX6_write_1 8 rfl rfl)
theorem dX6_write_33 : decode cX6_write 33 = .ok (.ireturn, 1) := dk_172 (dk_at dksX6_write_1 9 rfl rfl)
theorem dX6_write_34 : decode cX6_write 34 = .ok (.aload_n 0, 1) := dk_42 (dk_at dksX6_write_1 10 rfl rfl)
theorem dX6_write_35 : decode cX6_write 35 = .ok (.iconst 0, 1) := dk_3 (dk_at dksX6_write_1 11 rfl rfl)
theorem dX6_write_36 : decode cX6_write 36 = .ok (.putfield 159, 3) := dk_181 0 159 (dk_at dksX6_write_1 12 rfl rfl)
theorem dX6_write_39 : decode cX6_write 39 = .ok (.iconst 0, 1) := dk_3 (dk_at dksX6_write_1 15 rfl rfl)
theorem dX6_write_40 : decode cX6_write 40 = .ok (.istore_n 2, 1) := dk_61 (dk_at dksX6_write_1 16 rfl rfl)
theorem dX6_write_41 : decode cX6_write 41 = .ok (.iconst 0, 1) := dk_3 (dk_at dksX6_write_1 17 rfl rfl)
theorem dX6_write_42 : decode cX6_write 42 = .ok (.istore_n 3, 1) := dk_62 (dk_at dksX6_write_1 18 rfl rfl)
theorem dX6_write_43 : decode cX6_write 43 = .ok (.iload_n 3, 1) := dk_29 (dk_at dksX6_write_1 19 rfl rfl)
theorem dX6_write_44 : decode cX6_write 44 = .ok (.aload_n 0, 1) := dk_42 (dk_at dksX6_write_1 20 rfl rfl)
theorem dX6_write_45 : decode cX6_write 45 = .ok (.getfield 118, 3) := dk_180 0 118 (dk_at dksX6_write_1 21 rfl rfl)
theorem dX6_write_48 : decode cX6_write 48 = .ok (.if_icmp .ge 28, 3) := dk_162 0 28 (dk_at dksX6_write_2 0 rfl rfl)
theorem dX6_write_51 : decode cX6_write 51 = .ok (.iload_n 2, 1) := dk_28 (dk_at dksX6_write_2 3 rfl rfl)
theorem dX6_write_52 : decode cX6_write 52 = .ok (.aload_n 0, 1) := dk_42 (dk_at dksX6_write_2 4 rfl rfl)
theorem dX6_write_53 : decode cX6_write 53 = .ok (.getfield 7, 3) := dk_180 0 7 (dk_at dksX6_write_2 5 rfl rfl)
theorem dX6_write_56 : decode cX6_write 56 = .ok (.iload_n 3, 1) := dk_29 (dk_at dksX6_write_2 8 rfl rfl)
theorem dX6_write_57 : decode cX6_write 57 = .ok (.iaload, 1) := dk_46 (dk_at dksX6_write_2 9 rfl rfl)
theorem dX6_write_58 : decode cX6_write 58 = .ok (.bipush 48, 2) := dk_16 48 (dk_at dksX6_write_2 10 rfl rfl)
theorem dX6_write_60 : decode cX6_write 60 = .ok (.if_icmp .ne 7, 3) := dk_160 0 7 (dk_at dksX6_write_2 12 rfl rfl)
theorem dX6_write_63 : decode cX6_write 63 = .ok (.iconst 1, 1) := dk_4 (dk_at dksX6_write_2 15 rfl rfl)
theorem dX6_write_64 : decode cX6_write 64 = .ok (.goto 4, 3) := dk_167 0 4 (dk_at dksX6_write_2 16 rfl rfl)
theorem dX6_write_67 : decode cX6_write 67 = .ok (.iconst 0, 1) := dk_3 (dk_at dksX6_write_2 19 rfl rfl)
theorem dX6_write_68 : decode cX6_write 68 = .ok (.iadd, 1) := dk_96 (dk_at dksX6_write_2 20 rfl rfl)
theorem dX6_write_69 : decode cX6_write 69 = .ok (.istore_n 2, 1) := dk_61 (dk_at dksX6_write_2 21 rfl rfl)
theorem dX6_write_70 : decode cX6_write 70 = .ok (.iinc 3 1, 3) := dk_132 3 1 (dk_at dksX6_write_3 0 rfl rfl)
theorem dX6_write_73 : decode cX6_write 73 = .ok (.goto (-30), 3) := dk_167 255 226 (dk_at dksX6_write_3 3 rfl rfl)
theorem dX6_write_76 : decode cX6_write 76 = .ok (.aload_n 0, 1) := dk_42 (dk_at dksX6_write_3 6 rfl rfl)
theorem dX6_write_77 : decode cX6_write 77 = .ok (.getfield 111, 3) := dk_180 0 111 (dk_at dksX6_write_3 7 rfl rfl)
theorem dX6_write_80 : decode cX6_write 80 = .ok (.iconst 2, 1) := dk_5 (dk_at dksX6_write_3 10 rfl rfl)
theorem dX6_write_81 : decode cX6_write 81 = .ok (.if_icmp .ge 40, 3) := dk_162 0 40 (dk_at dksX6_write_3 11 rfl rfl)
theorem dX6_write_84 : decode cX6_write 84 = .ok (.iconst 0, 1) := dk_3 (dk_at dksX6_write_3 14 rfl rfl)
theorem dX6_write_85 : decode cX6_write 85 = .ok (.istore_n 3, 1) := dk_62 (dk_at dksX6_write_3 15 rfl rfl)
theorem dX6_write_86 : decode cX6_write 86 = .ok (.iload_n 3, 1) := dk_29 (dk_at dksX6_write_3 16 rfl rfl)
theorem dX6_write_87 : decode cX6_write 87 = .ok (.bipush 8, 2) := dk_16 8 (dk_at dksX6_write_3 17 rfl rfl)
theorem dX6_write_89 : decode cX6_write 89 = .ok (.if_icmp .ge 17, 3) := dk_162 0 17 (dk_at dksX6_write_3 19 rfl rfl)
theorem dX6_write_92 : decode cX6_write 92 = .ok (.aload_n 0, 1) := dk_42 (dk_at dksX6_write_3 22 rfl rfl)
theorem dX6_write_93 : decode cX6_write 93 = .ok (.iload_n 3, 1) := dk_29 (dk_at dksX6_write_3 23 rfl rfl)
theorem dX6_write_94 : decode cX6_write 94 = .ok (.invokestatic 179, 3) := dk_184 0 179 (dk_at dksX6_write_4 0 rfl rfl)
theorem dX6_write_97 : decode cX6_write 97 = .ok (.invokevirtual 162, 3) := dk_182 0 162 (dk_at dksX6_write_4 3 rfl rfl)
theorem dX6_write_100 : decode cX6_write 100 = .ok (.iinc 3 1, 3) := dk_132 3 1 (dk_at dksX6_write_4 6 rfl rfl)
theorem dX6_write_103 : decode cX6_write 103 = .ok (.goto (-17), 3) := dk_167 255 239 (dk_at dksX6_write_4 9 rfl rfl)
theorem dX6_write_106 : decode cX6_write 106 = .ok (.aload_n 0, 1) := dk_42 (dk_at dksX6_write_4 12 rfl rfl)
theorem dX6_write_107 : decode cX6_write 107 = .ok (.iconst 1, 1) := dk_4 (dk_at dksX6_write_4 13 rfl rfl)
theorem dX6_write_108 : decode cX6_write 108 = .ok (.aload_n 0, 1) := dk_42 (dk_at dksX6_write_4 14 rfl rfl)
theorem dX6_write_109 : decode cX6_write 109 = .ok (.getfield 111, 3) := dk_180 0 111 (dk_at dksX6_write_4 15 rfl rfl)
theorem dX6_write_112 : decode cX6_write 112 = .ok (.isub, 1) := dk_100 (dk_at dksX6_write_4 18 rfl rfl)
theorem dX6_write_113 : decode cX6_write 113 = .ok (.invokevirtual 162, 3) := dk_182 0 162 (dk_at dksX6_write_4 19 rfl rfl)
theorem dX6_write_116 : decode cX6_write 116 = .ok (.aload_n 0, 1) := dk_42 (dk_at dksX6_write_4 22 rfl rfl)
theorem dX6_write_117 : decode cX6_write 117 = .ok (.iload_n 2, 1) := dk_28 (dk_at dksX6_write_4 23 rfl rfl)
theorem dX6_write_118 : decode cX6_write 118 = .ok (.invokevirtual 166, 3) := dk_182 0 166 (dk_at dksX6_write_5 0 rfl rfl)
theorem dX6_write_121 : decode cX6_write 121 = .ok (.iconst 0, 1) := dk_3 (dk_at dksX6_write_5 3 rfl rfl)
theorem dX6_write_122 : decode cX6_write 122 = .ok (.istore_n 3, 1) := dk_62 (dk_at dksX6_write_5 4 rfl rfl)
theorem dX6_write_123 : decode cX6_write 123 = .ok (.iload_n 3, 1) := dk_29 (dk_at dksX6_write_5 5 rfl rfl)
theorem dX6_write_124 : decode cX6_write 124 = .ok (.aload_n 0, 1) := dk_42 (dk_at dksX6_write_5 6 rfl rfl)
theorem dX6_write_125 : decode cX6_write 125 = .ok (.getfield 111, 3) := dk_180 0 111 (dk_at dksX6_write_5 7 rfl rfl)
theorem dX6_write_128 : decode cX6_write 128 = .ok (.iconst 1, 1) := dk_4 (dk_at dksX6_write_5 10 rfl rfl)
theorem dX6_write_129 : decode cX6_write 129 = .ok (.if_icmp .ne 7, 3) := dk_160 0 7 (dk_at dksX6_write_5 11 rfl rfl)
theorem dX6_write_132 : decode cX6_write 132 = .ok (.iconst 2, 1) := dk_5 (dk_at dksX6_write_5 14 rfl rfl)
theorem dX6_write_133 : decode cX6_write 133 = .ok (.goto 4, 3) := dk_167 0 4 (dk_at dksX6_write_5 15 rfl rfl)
theorem dX6_write_136 : decode cX6_write 136 = .ok (.iconst 1, 1) := dk_4 (dk_at dksX6_write_5 18 rfl rfl)
theorem dX6_write_137 : decode cX6_write 137 = .ok (.if_icmp .ge 109, 3) := dk_162 0 109 (dk_at dksX6_write_5 19 rfl rfl)
theorem dX6_write_140 : decode cX6_write 140 = .ok (.iconst 0, 1) := dk_3 (dk_at dksX6_write_5 22 rfl rfl)
theorem dX6_write_141 : decode cX6_write 141 = .ok (.istore 4, 2) := dk_54 4 (dk_at dksX6_write_6 0 rfl rfl)
theorem dX6_write_143 : decode cX6_write 143 = .ok (.iload 4, 2) := dk_21 4 (dk_at dksX6_write_6 2 rfl rfl)
theorem dX6_write_145 : decode cX6_write 145 = .ok (.aload_n 0, 1) := dk_42 (dk_at dksX6_write_6 4 rfl rfl)
theorem dX6_write_146 : decode cX6_write 146 = .ok (.getfield 118, 3) := dk_180 0 118 (dk_at dksX6_write_6 5 rfl rfl)
theorem dX6_write_149 : decode cX6_write 149 = .ok (.if_icmp .ge 91, 3) := dk_162 0 91 (dk_at dksX6_write_6 8 rfl rfl)
theorem dX6_write_152 : decode cX6_write 152 = .ok (.aload_n 0, 1) := dk_42 (dk_at dksX6_write_6 11 rfl rfl)
theorem dX6_write_153 : decode cX6_write 153 = .ok (.getfield 111, 3) := dk_180 0 111 (dk_at dksX6_write_6 12 rfl rfl)
theorem dX6_write_156 : decode cX6_write 156 = .ok (.iconst 2, 1) := dk_5 (dk_at dksX6_write_6 15 rfl rfl)
theorem dX6_write_157 : decode cX6_write 157 = .ok (.if_icmp .lt 31, 3) := dk_161 0 31 (dk_at dksX6_write_6 16 rfl rfl)
theorem dX6_write_160 : decode cX6_write 160 = .ok (.iload_n 1, 1) := dk_27 (dk_at dksX6_write_6 19 rfl rfl)
theorem dX6_write_161 : decode cX6_write 161 = .ok (.iconst 1, 1) := dk_4 (dk_at dksX6_write_6 20 rfl rfl)
theorem dX6_write_162 : decode cX6_write 162 = .ok (.if_icmp .ne 7, 3) := dk_160 0 7 (dk_at dksX6_write_6 21 rfl rfl)
theorem dX6_write_165 : decode cX6_write 165 = .ok (.iconst 1, 1) := dk_4 (dk_at dksX6_write_7 0 rfl rfl)
theorem dX6_write_166 : decode cX6_write 166 = .ok (.goto 4, 3) := dk_167 0 4 (dk_at dksX6_write_7 1 rfl rfl)
theorem dX6_write_169 : decode cX6_write 169 = .ok (.iconst 0, 1) := dk_3 (dk_at dksX6_write_7 4 rfl rfl)
theorem dX6_write_170 : decode cX6_write 170 = .ok (.aload_n 0, 1) := dk_42 (dk_at dksX6_write_7 5 rfl rfl)
theorem dX6_write_171 : decode cX6_write 171 = .ok (.getfield 13, 3) := dk_180 0 13 (dk_at dksX6_write_7 6 rfl rfl)
theorem dX6_write_174 : decode cX6_write 174 = .ok (.iload 4, 2) := dk_21 4 (dk_at dksX6_write_7 9 rfl rfl)
theorem dX6_write_176 : decode cX6_write 176 = .ok (.iaload, 1) := dk_46 (dk_at dksX6_write_7 11 rfl rfl)
theorem dX6_write_177 : decode cX6_write 177 = .ok (.ifCond .ne 7, 3) := dk_154 0 7 (dk_at dksX6_write_7 12 rfl rfl)
theorem dX6_write_180 : decode cX6_write 180 = .ok (.iconst 1, 1) := dk_4 (dk_at dksX6_write_7 15 rfl rfl)
theorem dX6_write_181 : decode cX6_write 181 = .ok (.goto 4, 3) := dk_167 0 4 (dk_at dksX6_write_7 16 rfl rfl)
theorem dX6_write_184 : decode cX6_write 184 = .ok (.iconst 0, 1) := dk_3 (dk_at dksX6_write_7 19 rfl rfl)
theorem dX6_write_185 : decode cX6_write 185 = .ok (.if_icmp .ne 7, 3) := dk_160 0 7 (dk_at dksX6_write_7 20 rfl rfl)
theorem dX6_write_188 : decode cX6_write 188 = .ok (.iconst 1, 1) := dk_4 (dk_at dksX6_write_7 23 rfl rfl)
theorem dX6_write_189 : decode cX6_write 189 = .ok (.goto 4, 3) := dk_167 0 4 (dk_at dksX6_write_8 0 rfl rfl)
theorem dX6_write_192 : decode cX6_write 192 = .ok (.iconst 0, 1) := dk_3 (dk_at dksX6_write_8 3 rfl rfl)
theorem dX6_write_193 : decode cX6_write 193 = .ok (.istore 5, 2) := dk_54 5 (dk_at dksX6_write_8 4 rfl rfl)
theorem dX6_write_195 : decode cX6_write 195 = .ok (.iload 5, 2) := dk_21 5 (dk_at dksX6_write_8 6 rfl rfl)
theorem dX6_write_197 : decode cX6_write 197 = .ok (.ifCond .eq 13, 3) := dk_153 0 13 (dk_at dksX6_write_8 8 rfl rfl)
theorem dX6_write_200 : decode cX6_write 200 = .ok (.iload_n 3, 1) := dk_29 (dk_at dksX6_write_8 11 rfl rfl)
theorem dX6_write_201 : decode cX6_write 201 = .ok (.ifCond .ne 9, 3) := dk_154 0 9 (dk_at dksX6_write_8 12 rfl rfl)
theorem dX6_write_204 : decode cX6_write 204 = .ok (.aload_n 0, 1) := dk_42 (dk_at dksX6_write_8 15 rfl rfl)
theorem dX6_write_205 : decode cX6_write 205 = .ok (.iload 4, 2) := dk_21 4 (dk_at dksX6_write_8 16 rfl rfl)
theorem dX6_write_207 : decode cX6_write 207 = .ok (.invokevirtual 182, 3) := dk_182 0 182 (dk_at dksX6_write_8 18 rfl rfl)
theorem dX6_write_210 : decode cX6_write 210 = .ok (.iload 5, 2) := dk_21 5 (dk_at dksX6_write_8 21 rfl rfl)
theorem dX6_write_212 : decode cX6_write 212 = .ok (.ifCond .eq 22, 3) := dk_153 0 22 (dk_at dksX6_write_9 0 rfl rfl)
theorem dX6_write_215 : decode cX6_write 215 = .ok (.aload_n 0, 1) := dk_42 (dk_at dksX6_write_9 3 rfl rfl)
theorem dX6_write_216 : decode cX6_write 216 = .ok (.getfield 111, 3) := dk_180 0 111 (dk_at dksX6_write_9 4 rfl rfl)
theorem dX6_write_219 : decode cX6_write 219 = .ok (.iconst 1, 1) := dk_4 (dk_at dksX6_write_9 7 rfl rfl)
theorem dX6_write_220 : decode cX6_write 220 = .ok (.if_icmp .ne 8, 3) := dk_160 0 8 (dk_at dksX6_write_9 8 rfl rfl)
theorem dX6_write_223 : decode cX6_write 223 = .ok (.iload_n 3, 1) := dk_29 (dk_at dksX6_write_9 11 rfl rfl)
theorem dX6_write_224 : decode cX6_write 224 = .ok (.iconst 1, 1) := dk_4 (dk_at dksX6_write_9 12 rfl rfl)
theorem dX6_write_225 : decode cX6_write 225 = .ok (.if_icmp .ne 9, 3) := dk_160 0 9 (dk_at dksX6_write_9 13 rfl rfl)
theorem dX6_write_228 : decode cX6_write 228 = .ok (.aload_n 0, 1) := dk_42 (dk_at dksX6_write_9 16 rfl rfl)
theorem dX6_write_229 : decode cX6_write 229 = .ok (.iload 4, 2) := dk_21 4 (dk_at dksX6_write_9 17 rfl rfl)
theorem dX6_write_231 : decode cX6_write 231 = .ok (.invokevirtual 185, 3) := dk_182 0 185 (dk_at dksX6_write_9 19 rfl rfl)
theorem dX6_write_234 : decode cX6_write 234 = .ok (.iinc 4 1, 3) := dk_132 4 1 (dk_at dksX6_write_10 0 rfl rfl)
theorem dX6_write_237 : decode cX6_write 237 = .ok (.goto (-94), 3) := dk_167 255 162 (dk_at dksX6_write_10 3 rfl rfl)
theorem dX6_write_240 : decode cX6_write 240 = .ok (.iinc 3 1, 3) := dk_132 3 1 (dk_at dksX6_write_10 6 rfl rfl)
theorem dX6_write_243 : decode cX6_write 243 = .ok (.goto (-120), 3) := dk_167 255 136 (dk_at dksX6_write_10 9 rfl rfl)
theorem dX6_write_246 : decode cX6_write 246 = .ok (.aload_n 0, 1) := dk_42 (dk_at dksX6_write_10 12 rfl rfl)
theorem dX6_write_247 : decode cX6_write 247 = .ok (.getfield 159, 3) := dk_180 0 159 (dk_at dksX6_write_10 13 rfl rfl)
theorem dX6_write_250 : decode cX6_write 250 = .ok (.ireturn, 1) := dk_172 (dk_at dksX6_write_10 16 rfl rfl)
abbrev cX6_magic : ByteArray := prog_8_method_27_code
def yX6_magic : MethodName := ⟨RX6, "magic", "(I)I"⟩
def dkwX6_magic_3 : List UInt8 := [172]
abbrev dktX6_magic_3 : List UInt8 := dkwX6_magic_3 ++ []
def dkwX6_magic_2 : List UInt8 := [17, 0, 151, 172, 16, 74, 172, 16, 66, 172, 16, 50, 172, 16, 13, 172, 16, 10, 172, 16, 26, 172, 16, 10]
abbrev dktX6_magic_2 : List UInt8 := dkwX6_magic_2 ++ dktX6_magic_3
def dkwX6_magic_1 : List UInt8 := [170, 0, 0, 0, 0, 0, 65, 0, 0, 0, 0, 0, 0, 0, 6, 0, 0, 0, 43, 0, 0, 0, 47, 0, 0, 0, 50, 0, 0, 0, 53, 0, 0, 0, 56, 0, 0, 0, 59, 0, 0, 0, 62]
abbrev dktX6_magic_1 : List UInt8 := dkwX6_magic_1 ++ dktX6_magic_2
def dkwX6_magic_0 : List UInt8 := [26]
abbrev dktX6_magic_0 : List UInt8 := dkwX6_magic_0 ++ dktX6_magic_1
theorem dksX6_magic_0 : cX6_magic.data.toList.drop 0 = dktX6_magic_0 := by decide +kernel
theorem dksX6_magic_1 : cX6_magic.data.toList.drop 1 = dktX6_magic_1 := dk_seg dksX6_magic_0 1 rfl rfl
theorem dksX6_magic_2 : cX6_magic.data.toList.drop 44 = dktX6_magic_2 := dk_seg dksX6_magic_1 43 rfl rfl
theorem dksX6_magic_3 : cX6_magic.data.toList.drop 68 = dktX6_magic_3 := dk_seg dksX6_magic_2 24 rfl rfl
theorem dX6_magic_0 : decode cX6_magic 0 = .ok (.iload_n 0, 1) := dk_26 (dk_at dksX6_magic_0 0 rfl rfl)
theorem dX6_magic_1 : decode cX6_magic 1 = .ok (.tableswitch 65 0 6 #[43, 47, 50, 53, 56, 59, 62], 43) := by decide +kernel
theorem dX6_magic_44 : decode cX6_magic 44 = .ok (.sipush 151, 3) := dk_17 0 151 (dk_at dksX6_magic_2 0 rfl rfl)
theorem dX6_magic_47 : decode cX6_magic 47 = .ok (.ireturn, 1) := dk_172 (dk_at dksX6_magic_2 3 rfl rfl)
theorem dX6_magic_48 : decode cX6_magic 48 = .ok (.bipush 74, 2) := dk_16 74 (dk_at dksX6_magic_2 4 rfl rfl)
theorem dX6_magic_50 : decode cX6_magic 50 = .ok (.ireturn, 1) := dk_172 (dk_at dksX6_magic_2 6 rfl rfl)
theorem dX6_magic_51 : decode cX6_magic 51 = .ok (.bipush 66, 2) := dk_16 66 (dk_at dksX6_magic_2 7 rfl rfl)
theorem dX6_magic_53 : decode cX6_magic 53 = .ok (.ireturn, 1) := dk_172 (dk_at dksX6_magic_2 9 rfl rfl)
theorem dX6_magic_54 : decode cX6_magic 54 = .ok (.bipush 50, 2) := dk_16 50 (dk_at dksX6_magic_2 10 rfl rfl)
theorem dX6_magic_56 : decode cX6_magic 56 = .ok (.ireturn, 1) := dk_172 (dk_at dksX6_magic_2 12 rfl rfl)
theorem dX6_magic_57 : decode cX6_magic 57 = .ok (.bipush 13, 2) := dk_16 13 (dk_at dksX6_magic_2 13 rfl rfl)
theorem dX6_magic_59 : decode cX6_magic 59 = .ok (.ireturn, 1) := dk_172 (dk_at dksX6_magic_2 15 rfl rfl)
theorem dX6_magic_60 : decode cX6_magic 60 = .ok (.bipush 10, 2) := dk_16 10 (dk_at dksX6_magic_2 16 rfl rfl)
theorem dX6_magic_62 : decode cX6_magic 62 = .ok (.ireturn, 1) := dk_172 (dk_at dksX6_magic_2 18 rfl rfl)
theorem dX6_magic_63 : decode cX6_magic 63 = .ok (.bipush 26, 2) := dk_16 26 (dk_at dksX6_magic_2 19 rfl rfl)
theorem dX6_magic_65 : decode cX6_magic 65 = .ok (.ireturn, 1) := dk_172 (dk_at dksX6_magic_2 21 rfl rfl)
theorem dX6_magic_66 : decode cX6_magic 66 = .ok (.bipush 10, 2) := dk_16 10 (dk_at dksX6_magic_2 22 rfl rfl)
theorem dX6_magic_68 : decode cX6_magic 68 = .ok (.ireturn, 1) := dk_172 (dk_at dksX6_magic_3 0 rfl rfl)
abbrev cX6_put : ByteArray := prog_8_method_20_code
def yX6_put : MethodName := ⟨RX6, "put", "(I)V"⟩
def dkwX6_put_1 : List UInt8 := [177]
abbrev dktX6_put_1 : List UInt8 := dkwX6_put_1 ++ []
def dkwX6_put_0 : List UInt8 := [42, 180, 0, 37, 42, 180, 0, 159, 27, 17, 0, 255, 126, 79, 42, 89, 180, 0, 159, 4, 96, 181, 0, 159]
abbrev dktX6_put_0 : List UInt8 := dkwX6_put_0 ++ dktX6_put_1
theorem dksX6_put_0 : cX6_put.data.toList.drop 0 = dktX6_put_0 := by decide +kernel
theorem dksX6_put_1 : cX6_put.data.toList.drop 24 = dktX6_put_1 := dk_seg dksX6_put_0 24 rfl rfl
theorem dX6_put_0 : decode cX6_put 0 = .ok (.aload_n 0, 1) := dk_42 (dk_at dksX6_put_0 0 rfl rfl)
theorem dX6_put_1 : decode cX6_put 1 = .ok (.getfield 37, 3) := dk_180 0 37 (dk_at dksX6_put_0 1 rfl rfl)
theorem dX6_put_4 : decode cX6_put 4 = .ok (.aload_n 0, 1) := dk_42 (dk_at dksX6_put_0 4 rfl rfl)
theorem dX6_put_5 : decode cX6_put 5 = .ok (.getfield 159, 3) := dk_180 0 159 (dk_at dksX6_put_0 5 rfl rfl)
theorem dX6_put_8 : decode cX6_put 8 = .ok (.iload_n 1, 1) := dk_27 (dk_at dksX6_put_0 8 rfl rfl)
theorem dX6_put_9 : decode cX6_put 9 = .ok (.sipush 255, 3) := dk_17 0 255 (dk_at dksX6_put_0 9 rfl rfl)
theorem dX6_put_12 : decode cX6_put 12 = .ok (.iand, 1) := dk_126 (dk_at dksX6_put_0 12 rfl rfl)
theorem dX6_put_13 : decode cX6_put 13 = .ok (.iastore, 1) := dk_79 (dk_at dksX6_put_0 13 rfl rfl)
theorem dX6_put_14 : decode cX6_put 14 = .ok (.aload_n 0, 1) := dk_42 (dk_at dksX6_put_0 14 rfl rfl)
theorem dX6_put_15 : decode cX6_put 15 = .ok (.dup, 1) := dk_89 (dk_at dksX6_put_0 15 rfl rfl)
theorem dX6_put_16 : decode cX6_put 16 = .ok (.getfield 159, 3) := dk_180 0 159 (dk_at dksX6_put_0 16 rfl rfl)
theorem dX6_put_19 : decode cX6_put 19 = .ok (.iconst 1, 1) := dk_4 (dk_at dksX6_put_0 19 rfl rfl)
theorem dX6_put_20 : decode cX6_put 20 = .ok (.iadd, 1) := dk_96 (dk_at dksX6_put_0 20 rfl rfl)
theorem dX6_put_21 : decode cX6_put 21 = .ok (.putfield 159, 3) := dk_181 0 159 (dk_at dksX6_put_0 21 rfl rfl)
theorem dX6_put_24 : decode cX6_put 24 = .ok (.return_, 1) := dk_177 (dk_at dksX6_put_1 0 rfl rfl)
abbrev cX6_putFour : ByteArray := prog_8_method_21_code
def yX6_putFour : MethodName := ⟨RX6, "putFour", "(I)V"⟩
def dkwX6_putFour_0 : List UInt8 := [16, 24, 61, 28, 155, 0, 16, 42, 27, 28, 122, 182, 0, 162, 132, 2, 248, 167, 255, 242, 177]
abbrev dktX6_putFour_0 : List UInt8 := dkwX6_putFour_0 ++ []
theorem dksX6_putFour_0 : cX6_putFour.data.toList.drop 0 = dktX6_putFour_0 := by decide +kernel
theorem dX6_putFour_0 : decode cX6_putFour 0 = .ok (.bipush 24, 2) := dk_16 24 (dk_at dksX6_putFour_0 0 rfl rfl)
theorem dX6_putFour_2 : decode cX6_putFour 2 = .ok (.istore_n 2, 1) := dk_61 (dk_at dksX6_putFour_0 2 rfl rfl)
theorem dX6_putFour_3 : decode cX6_putFour 3 = .ok (.iload_n 2, 1) := dk_28 (dk_at dksX6_putFour_0 3 rfl rfl)
theorem dX6_putFour_4 : decode cX6_putFour 4 = .ok (.ifCond .lt 16, 3) := dk_155 0 16 (dk_at dksX6_putFour_0 4 rfl rfl)
theorem dX6_putFour_7 : decode cX6_putFour 7 = .ok (.aload_n 0, 1) := dk_42 (dk_at dksX6_putFour_0 7 rfl rfl)
theorem dX6_putFour_8 : decode cX6_putFour 8 = .ok (.iload_n 1, 1) := dk_27 (dk_at dksX6_putFour_0 8 rfl rfl)
theorem dX6_putFour_9 : decode cX6_putFour 9 = .ok (.iload_n 2, 1) := dk_28 (dk_at dksX6_putFour_0 9 rfl rfl)
theorem dX6_putFour_10 : decode cX6_putFour 10 = .ok (.ishr, 1) := dk_122 (dk_at dksX6_putFour_0 10 rfl rfl)
theorem dX6_putFour_11 : decode cX6_putFour 11 = .ok (.invokevirtual 162, 3) := dk_182 0 162 (dk_at dksX6_putFour_0 11 rfl rfl)
theorem dX6_putFour_14 : decode cX6_putFour 14 = .ok (.iinc 2 (-8), 3) := dk_132 2 248 (dk_at dksX6_putFour_0 14 rfl rfl)
theorem dX6_putFour_17 : decode cX6_putFour 17 = .ok (.goto (-14), 3) := dk_167 255 242 (dk_at dksX6_putFour_0 17 rfl rfl)
theorem dX6_putFour_20 : decode cX6_putFour 20 = .ok (.return_, 1) := dk_177 (dk_at dksX6_putFour_0 20 rfl rfl)
abbrev cX6_writeHead : ByteArray := prog_8_method_24_code
def yX6_writeHead : MethodName := ⟨RX6, "writeHead", "(I)V"⟩
def dkwX6_writeHead_6 : List UInt8 := [153, 0, 7, 2, 167, 0, 8, 42, 27, 182, 0, 172, 182, 0, 166, 177]
abbrev dktX6_writeHead_6 : List UInt8 := dkwX6_writeHead_6 ++ []
def dkwX6_writeHead_5 : List UInt8 := [132, 4, 1, 167, 255, 231, 42, 42, 180, 0, 13, 27, 46, 182, 0, 162, 42, 42, 27, 182, 0, 169]
abbrev dktX6_writeHead_5 : List UInt8 := dkwX6_writeHead_5 ++ dktX6_writeHead_6
def dkwX6_writeHead_4 : List UInt8 := [21, 4, 28, 162, 0, 25, 42, 42, 180, 0, 19, 16, 10, 27, 104, 21, 4, 96, 46, 182, 0, 162]
abbrev dktX6_writeHead_4 : List UInt8 := dkwX6_writeHead_4 ++ dktX6_writeHead_5
def dkwX6_writeHead_3 : List UInt8 := [182, 0, 162, 42, 28, 182, 0, 162, 42, 29, 182, 0, 162, 42, 29, 16, 8, 122, 182, 0, 162, 3, 54, 4]
abbrev dktX6_writeHead_3 : List UInt8 := dkwX6_writeHead_3 ++ dktX6_writeHead_4
def dkwX6_writeHead_2 : List UInt8 := [104, 29, 96, 182, 0, 162, 167, 0, 38, 42, 17, 0, 224, 182, 0, 162, 42, 3, 182, 0, 162, 42, 3]
abbrev dktX6_writeHead_2 : List UInt8 := dkwX6_writeHead_2 ++ dktX6_writeHead_3
def dkwX6_writeHead_1 : List UInt8 := [42, 27, 182, 0, 166, 42, 42, 180, 0, 7, 27, 46, 182, 0, 162, 28, 8, 162, 0, 16, 42, 16, 32, 28]
abbrev dktX6_writeHead_1 : List UInt8 := dkwX6_writeHead_1 ++ dktX6_writeHead_2
def dkwX6_writeHead_0 : List UInt8 := [42, 180, 0, 16, 27, 46, 61, 4, 28, 4, 96, 120, 4, 100, 42, 180, 0, 22, 27, 46, 2, 130, 126, 62]
abbrev dktX6_writeHead_0 : List UInt8 := dkwX6_writeHead_0 ++ dktX6_writeHead_1
theorem dksX6_writeHead_0 : cX6_writeHead.data.toList.drop 0 = dktX6_writeHead_0 := by decide +kernel
theorem dksX6_writeHead_1 : cX6_writeHead.data.toList.drop 24 = dktX6_writeHead_1 := dk_seg dksX6_writeHead_0 24 rfl rfl
theorem dksX6_writeHead_2 : cX6_writeHead.data.toList.drop 48 = dktX6_writeHead_2 := dk_seg dksX6_writeHead_1 24 rfl rfl
theorem dksX6_writeHead_3 : cX6_writeHead.data.toList.drop 71 = dktX6_writeHead_3 := dk_seg dksX6_writeHead_2 23 rfl rfl
theorem dksX6_writeHead_4 : cX6_writeHead.data.toList.drop 95 = dktX6_writeHead_4 := dk_seg dksX6_writeHead_3 24 rfl rfl
theorem dksX6_writeHead_5 : cX6_writeHead.data.toList.drop 117 = dktX6_writeHead_5 := dk_seg dksX6_writeHead_4 22 rfl rfl
theorem dksX6_writeHead_6 : cX6_writeHead.data.toList.drop 139 = dktX6_writeHead_6 := dk_seg dksX6_writeHead_5 22 rfl rfl
theorem dX6_writeHead_0 : decode cX6_writeHead 0 = .ok (.aload_n 0, 1) := dk_42 (dk_at dksX6_writeHead_0 0 rfl rfl)
theorem dX6_writeHead_1 : decode cX6_writeHead 1 = .ok (.getfield 16, 3) := dk_180 0 16 (dk_at dksX6_writeHead_0 1 rfl rfl)
theorem dX6_writeHead_4 : decode cX6_writeHead 4 = .ok (.iload_n 1, 1) := dk_27 (dk_at dksX6_writeHead_0 4 rfl rfl)
theorem dX6_writeHead_5 : decode cX6_writeHead 5 = .ok (.iaload, 1) := dk_46 (dk_at dksX6_writeHead_0 5 rfl rfl)
theorem dX6_writeHead_6 : decode cX6_writeHead 6 = .ok (.istore_n 2, 1) := dk_61 (dk_at dksX6_writeHead_0 6 rfl rfl)
theorem dX6_writeHead_7 : decode cX6_writeHead 7 = .ok (.iconst 1, 1) := dk_4 (dk_at dksX6_writeHead_0 7 rfl rfl)
theorem dX6_writeHead_8 : decode cX6_writeHead 8 = .ok (.iload_n 2, 1) := dk_28 (dk_at dksX6_writeHead_0 8 rfl rfl)
theorem dX6_writeHead_9 : decode cX6_writeHead 9 = .ok (.iconst 1, 1) := dk_4 (dk_at dksX6_writeHead_0 9 rfl rfl)
theorem dX6_writeHead_10 : decode cX6_writeHead 10 = .ok (.iadd, 1) := dk_96 (dk_at dksX6_writeHead_0 10 rfl rfl)
theorem dX6_writeHead_11 : decode cX6_writeHead 11 = .ok (.ishl, 1) := dk_120 (dk_at dksX6_writeHead_0 11 rfl rfl)
theorem dX6_writeHead_12 : decode cX6_writeHead 12 = .ok (.iconst 1, 1) := dk_4 (dk_at dksX6_writeHead_0 12 rfl rfl)
theorem dX6_writeHead_13 : decode cX6_writeHead 13 = .ok (.isub, 1) := dk_100 (dk_at dksX6_writeHead_0 13 rfl rfl)
theorem dX6_writeHead_14 : decode cX6_writeHead 14 = .ok (.aload_n 0, 1) := dk_42 (dk_at dksX6_writeHead_0 14 rfl rfl)
theorem dX6_writeHead_15 : decode cX6_writeHead 15 = .ok (.getfield 22, 3) := dk_180 0 22 (dk_at dksX6_writeHead_0 15 rfl rfl)
theorem dX6_writeHead_18 : decode cX6_writeHead 18 = .ok (.iload_n 1, 1) := dk_27 (dk_at dksX6_writeHead_0 18 rfl rfl)
theorem dX6_writeHead_19 : decode cX6_writeHead 19 = .ok (.iaload, 1) := dk_46 (dk_at dksX6_writeHead_0 19 rfl rfl)
theorem dX6_writeHead_20 : decode cX6_writeHead 20 = .ok (.iconst (-1), 1) := dk_2 (dk_at dksX6_writeHead_0 20 rfl rfl)
theorem dX6_writeHead_21 : decode cX6_writeHead 21 = .ok (.ixor, 1) := dk_130 (dk_at dksX6_writeHead_0 21 rfl rfl)
theorem dX6_writeHead_22 : decode cX6_writeHead 22 = .ok (.iand, 1) := dk_126 (dk_at dksX6_writeHead_0 22 rfl rfl)
theorem dX6_writeHead_23 : decode cX6_writeHead 23 = .ok (.istore_n 3, 1) := dk_62 (dk_at dksX6_writeHead_0 23 rfl rfl)
theorem dX6_writeHead_24 : decode cX6_writeHead 24 = .ok (.aload_n 0, 1) := dk_42 (dk_at dksX6_writeHead_1 0 rfl rfl)
theorem dX6_writeHead_25 : decode cX6_writeHead 25 = .ok (.iload_n 1, 1) := dk_27 (dk_at dksX6_writeHead_1 1 rfl rfl)
theorem dX6_writeHead_26 : decode cX6_writeHead 26 = .ok (.invokevirtual 166, 3) := dk_182 0 166 (dk_at dksX6_writeHead_1 2 rfl rfl)
theorem dX6_writeHead_29 : decode cX6_writeHead 29 = .ok (.aload_n 0, 1) := dk_42 (dk_at dksX6_writeHead_1 5 rfl rfl)
theorem dX6_writeHead_30 : decode cX6_writeHead 30 = .ok (.aload_n 0, 1) := dk_42 (dk_at dksX6_writeHead_1 6 rfl rfl)
theorem dX6_writeHead_31 : decode cX6_writeHead 31 = .ok (.getfield 7, 3) := dk_180 0 7 (dk_at dksX6_writeHead_1 7 rfl rfl)
theorem dX6_writeHead_34 : decode cX6_writeHead 34 = .ok (.iload_n 1, 1) := dk_27 (dk_at dksX6_writeHead_1 10 rfl rfl)
theorem dX6_writeHead_35 : decode cX6_writeHead 35 = .ok (.iaload, 1) := dk_46 (dk_at dksX6_writeHead_1 11 rfl rfl)
theorem dX6_writeHead_36 : decode cX6_writeHead 36 = .ok (.invokevirtual 162, 3) := dk_182 0 162 (dk_at dksX6_writeHead_1 12 rfl rfl)
theorem dX6_writeHead_39 : decode cX6_writeHead 39 = .ok (.iload_n 2, 1) := dk_28 (dk_at dksX6_writeHead_1 15 rfl rfl)
theorem dX6_writeHead_40 : decode cX6_writeHead 40 = .ok (.iconst 5, 1) := dk_8 (dk_at dksX6_writeHead_1 16 rfl rfl)
theorem dX6_writeHead_41 : decode cX6_writeHead 41 = .ok (.if_icmp .ge 16, 3) := dk_162 0 16 (dk_at dksX6_writeHead_1 17 rfl rfl)
theorem dX6_writeHead_44 : decode cX6_writeHead 44 = .ok (.aload_n 0, 1) := dk_42 (dk_at dksX6_writeHead_1 20 rfl rfl)
theorem dX6_writeHead_45 : decode cX6_writeHead 45 = .ok (.bipush 32, 2) := dk_16 32 (dk_at dksX6_writeHead_1 21 rfl rfl)
theorem dX6_writeHead_47 : decode cX6_writeHead 47 = .ok (.iload_n 2, 1) := dk_28 (dk_at dksX6_writeHead_1 23 rfl rfl)
theorem dX6_writeHead_48 : decode cX6_writeHead 48 = .ok (.imul, 1) := dk_104 (dk_at dksX6_writeHead_2 0 rfl rfl)
theorem dX6_writeHead_49 : decode cX6_writeHead 49 = .ok (.iload_n 3, 1) := dk_29 (dk_at dksX6_writeHead_2 1 rfl rfl)
theorem dX6_writeHead_50 : decode cX6_writeHead 50 = .ok (.iadd, 1) := dk_96 (dk_at dksX6_writeHead_2 2 rfl rfl)
theorem dX6_writeHead_51 : decode cX6_writeHead 51 = .ok (.invokevirtual 162, 3) := dk_182 0 162 (dk_at dksX6_writeHead_2 3 rfl rfl)
theorem dX6_writeHead_54 : decode cX6_writeHead 54 = .ok (.goto 38, 3) := dk_167 0 38 (dk_at dksX6_writeHead_2 6 rfl rfl)
theorem dX6_writeHead_57 : decode cX6_writeHead 57 = .ok (.aload_n 0, 1) := dk_42 (dk_at dksX6_writeHead_2 9 rfl rfl)
theorem dX6_writeHead_58 : decode cX6_writeHead 58 = .ok (.sipush 224, 3) := dk_17 0 224 (dk_at dksX6_writeHead_2 10 rfl rfl)
theorem dX6_writeHead_61 : decode cX6_writeHead 61 = .ok (.invokevirtual 162, 3) := dk_182 0 162 (dk_at dksX6_writeHead_2 13 rfl rfl)
theorem dX6_writeHead_64 : decode cX6_writeHead 64 = .ok (.aload_n 0, 1) := dk_42 (dk_at dksX6_writeHead_2 16 rfl rfl)
theorem dX6_writeHead_65 : decode cX6_writeHead 65 = .ok (.iconst 0, 1) := dk_3 (dk_at dksX6_writeHead_2 17 rfl rfl)
theorem dX6_writeHead_66 : decode cX6_writeHead 66 = .ok (.invokevirtual 162, 3) := dk_182 0 162 (dk_at dksX6_writeHead_2 18 rfl rfl)
theorem dX6_writeHead_69 : decode cX6_writeHead 69 = .ok (.aload_n 0, 1) := dk_42 (dk_at dksX6_writeHead_2 21 rfl rfl)
theorem dX6_writeHead_70 : decode cX6_writeHead 70 = .ok (.iconst 0, 1) := dk_3 (dk_at dksX6_writeHead_2 22 rfl rfl)
theorem dX6_writeHead_71 : decode cX6_writeHead 71 = .ok (.invokevirtual 162, 3) := dk_182 0 162 (dk_at dksX6_writeHead_3 0 rfl rfl)
theorem dX6_writeHead_74 : decode cX6_writeHead 74 = .ok (.aload_n 0, 1) := dk_42 (dk_at dksX6_writeHead_3 3 rfl rfl)
theorem dX6_writeHead_75 : decode cX6_writeHead 75 = .ok (.iload_n 2, 1) := dk_28 (dk_at dksX6_writeHead_3 4 rfl rfl)
theorem dX6_writeHead_76 : decode cX6_writeHead 76 = .ok (.invokevirtual 162, 3) := dk_182 0 162 (dk_at dksX6_writeHead_3 5 rfl rfl)
theorem dX6_writeHead_79 : decode cX6_writeHead 79 = .ok (.aload_n 0, 1) := dk_42 (dk_at dksX6_writeHead_3 8 rfl rfl)
theorem dX6_writeHead_80 : decode cX6_writeHead 80 = .ok (.iload_n 3, 1) := dk_29 (dk_at dksX6_writeHead_3 9 rfl rfl)
theorem dX6_writeHead_81 : decode cX6_writeHead 81 = .ok (.invokevirtual 162, 3) := dk_182 0 162 (dk_at dksX6_writeHead_3 10 rfl rfl)
theorem dX6_writeHead_84 : decode cX6_writeHead 84 = .ok (.aload_n 0, 1) := dk_42 (dk_at dksX6_writeHead_3 13 rfl rfl)
theorem dX6_writeHead_85 : decode cX6_writeHead 85 = .ok (.iload_n 3, 1) := dk_29 (dk_at dksX6_writeHead_3 14 rfl rfl)
theorem dX6_writeHead_86 : decode cX6_writeHead 86 = .ok (.bipush 8, 2) := dk_16 8 (dk_at dksX6_writeHead_3 15 rfl rfl)
theorem dX6_writeHead_88 : decode cX6_writeHead 88 = .ok (.ishr, 1) := dk_122 (dk_at dksX6_writeHead_3 17 rfl rfl)
theorem dX6_writeHead_89 : decode cX6_writeHead 89 = .ok (.invokevirtual 162, 3) := dk_182 0 162 (dk_at dksX6_writeHead_3 18 rfl rfl)
theorem dX6_writeHead_92 : decode cX6_writeHead 92 = .ok (.iconst 0, 1) := dk_3 (dk_at dksX6_writeHead_3 21 rfl rfl)
theorem dX6_writeHead_93 : decode cX6_writeHead 93 = .ok (.istore 4, 2) := dk_54 4 (dk_at dksX6_writeHead_3 22 rfl rfl)
theorem dX6_writeHead_95 : decode cX6_writeHead 95 = .ok (.iload 4, 2) := dk_21 4 (dk_at dksX6_writeHead_4 0 rfl rfl)
theorem dX6_writeHead_97 : decode cX6_writeHead 97 = .ok (.iload_n 2, 1) := dk_28 (dk_at dksX6_writeHead_4 2 rfl rfl)
theorem dX6_writeHead_98 : decode cX6_writeHead 98 = .ok (.if_icmp .ge 25, 3) := dk_162 0 25 (dk_at dksX6_writeHead_4 3 rfl rfl)
theorem dX6_writeHead_101 : decode cX6_writeHead 101 = .ok (.aload_n 0, 1) := dk_42 (dk_at dksX6_writeHead_4 6 rfl rfl)
theorem dX6_writeHead_102 : decode cX6_writeHead 102 = .ok (.aload_n 0, 1) := dk_42 (dk_at dksX6_writeHead_4 7 rfl rfl)
theorem dX6_writeHead_103 : decode cX6_writeHead 103 = .ok (.getfield 19, 3) := dk_180 0 19 (dk_at dksX6_writeHead_4 8 rfl rfl)
theorem dX6_writeHead_106 : decode cX6_writeHead 106 = .ok (.bipush 10, 2) := dk_16 10 (dk_at dksX6_writeHead_4 11 rfl rfl)
theorem dX6_writeHead_108 : decode cX6_writeHead 108 = .ok (.iload_n 1, 1) := dk_27 (dk_at dksX6_writeHead_4 13 rfl rfl)
theorem dX6_writeHead_109 : decode cX6_writeHead 109 = .ok (.imul, 1) := dk_104 (dk_at dksX6_writeHead_4 14 rfl rfl)
theorem dX6_writeHead_110 : decode cX6_writeHead 110 = .ok (.iload 4, 2) := dk_21 4 (dk_at dksX6_writeHead_4 15 rfl rfl)
theorem dX6_writeHead_112 : decode cX6_writeHead 112 = .ok (.iadd, 1) := dk_96 (dk_at dksX6_writeHead_4 17 rfl rfl)
theorem dX6_writeHead_113 : decode cX6_writeHead 113 = .ok (.iaload, 1) := dk_46 (dk_at dksX6_writeHead_4 18 rfl rfl)
theorem dX6_writeHead_114 : decode cX6_writeHead 114 = .ok (.invokevirtual 162, 3) := dk_182 0 162 (dk_at dksX6_writeHead_4 19 rfl rfl)
theorem dX6_writeHead_117 : decode cX6_writeHead 117 = .ok (.iinc 4 1, 3) := dk_132 4 1 (dk_at dksX6_writeHead_5 0 rfl rfl)
theorem dX6_writeHead_120 : decode cX6_writeHead 120 = .ok (.goto (-25), 3) := dk_167 255 231 (dk_at dksX6_writeHead_5 3 rfl rfl)
theorem dX6_writeHead_123 : decode cX6_writeHead 123 = .ok (.aload_n 0, 1) := dk_42 (dk_at dksX6_writeHead_5 6 rfl rfl)
theorem dX6_writeHead_124 : decode cX6_writeHead 124 = .ok (.aload_n 0, 1) := dk_42 (dk_at dksX6_writeHead_5 7 rfl rfl)
theorem dX6_writeHead_125 : decode cX6_writeHead 125 = .ok (.getfield 13, 3) := dk_180 0 13 (dk_at dksX6_writeHead_5 8 rfl rfl)
theorem dX6_writeHead_128 : decode cX6_writeHead 128 = .ok (.iload_n 1, 1) := dk_27 (dk_at dksX6_writeHead_5 11 rfl rfl)
theorem dX6_writeHead_129 : decode cX6_writeHead 129 = .ok (.iaload, 1) := dk_46 (dk_at dksX6_writeHead_5 12 rfl rfl)
theorem dX6_writeHead_130 : decode cX6_writeHead 130 = .ok (.invokevirtual 162, 3) := dk_182 0 162 (dk_at dksX6_writeHead_5 13 rfl rfl)
theorem dX6_writeHead_133 : decode cX6_writeHead 133 = .ok (.aload_n 0, 1) := dk_42 (dk_at dksX6_writeHead_5 16 rfl rfl)
theorem dX6_writeHead_134 : decode cX6_writeHead 134 = .ok (.aload_n 0, 1) := dk_42 (dk_at dksX6_writeHead_5 17 rfl rfl)
theorem dX6_writeHead_135 : decode cX6_writeHead 135 = .ok (.iload_n 1, 1) := dk_27 (dk_at dksX6_writeHead_5 18 rfl rfl)
theorem dX6_writeHead_136 : decode cX6_writeHead 136 = .ok (.invokevirtual 169, 3) := dk_182 0 169 (dk_at dksX6_writeHead_5 19 rfl rfl)
theorem dX6_writeHead_139 : decode cX6_writeHead 139 = .ok (.ifCond .eq 7, 3) := dk_153 0 7 (dk_at dksX6_writeHead_6 0 rfl rfl)
theorem dX6_writeHead_142 : decode cX6_writeHead 142 = .ok (.iconst (-1), 1) := dk_2 (dk_at dksX6_writeHead_6 3 rfl rfl)
theorem dX6_writeHead_143 : decode cX6_writeHead 143 = .ok (.goto 8, 3) := dk_167 0 8 (dk_at dksX6_writeHead_6 4 rfl rfl)
theorem dX6_writeHead_146 : decode cX6_writeHead 146 = .ok (.aload_n 0, 1) := dk_42 (dk_at dksX6_writeHead_6 7 rfl rfl)
theorem dX6_writeHead_147 : decode cX6_writeHead 147 = .ok (.iload_n 1, 1) := dk_27 (dk_at dksX6_writeHead_6 8 rfl rfl)
theorem dX6_writeHead_148 : decode cX6_writeHead 148 = .ok (.invokevirtual 172, 3) := dk_182 0 172 (dk_at dksX6_writeHead_6 9 rfl rfl)
theorem dX6_writeHead_151 : decode cX6_writeHead 151 = .ok (.invokevirtual 166, 3) := dk_182 0 166 (dk_at dksX6_writeHead_6 12 rfl rfl)
theorem dX6_writeHead_154 : decode cX6_writeHead 154 = .ok (.return_, 1) := dk_177 (dk_at dksX6_writeHead_6 15 rfl rfl)
abbrev cX6_isOpen : ByteArray := prog_8_method_22_code
def yX6_isOpen : MethodName := ⟨RX6, "isOpen", "(I)Z"⟩
def dkwX6_isOpen_1 : List UInt8 := [160, 0, 7, 4, 167, 0, 4, 3, 172]
abbrev dktX6_isOpen_1 : List UInt8 := dkwX6_isOpen_1 ++ []
def dkwX6_isOpen_0 : List UInt8 := [42, 180, 0, 7, 27, 46, 16, 38, 160, 0, 22, 42, 180, 0, 31, 16, 6, 27, 104, 8, 96, 46, 4]
abbrev dktX6_isOpen_0 : List UInt8 := dkwX6_isOpen_0 ++ dktX6_isOpen_1
theorem dksX6_isOpen_0 : cX6_isOpen.data.toList.drop 0 = dktX6_isOpen_0 := by decide +kernel
theorem dksX6_isOpen_1 : cX6_isOpen.data.toList.drop 23 = dktX6_isOpen_1 := dk_seg dksX6_isOpen_0 23 rfl rfl
theorem dX6_isOpen_0 : decode cX6_isOpen 0 = .ok (.aload_n 0, 1) := dk_42 (dk_at dksX6_isOpen_0 0 rfl rfl)
theorem dX6_isOpen_1 : decode cX6_isOpen 1 = .ok (.getfield 7, 3) := dk_180 0 7 (dk_at dksX6_isOpen_0 1 rfl rfl)
theorem dX6_isOpen_4 : decode cX6_isOpen 4 = .ok (.iload_n 1, 1) := dk_27 (dk_at dksX6_isOpen_0 4 rfl rfl)
theorem dX6_isOpen_5 : decode cX6_isOpen 5 = .ok (.iaload, 1) := dk_46 (dk_at dksX6_isOpen_0 5 rfl rfl)
theorem dX6_isOpen_6 : decode cX6_isOpen 6 = .ok (.bipush 38, 2) := dk_16 38 (dk_at dksX6_isOpen_0 6 rfl rfl)
theorem dX6_isOpen_8 : decode cX6_isOpen 8 = .ok (.if_icmp .ne 22, 3) := dk_160 0 22 (dk_at dksX6_isOpen_0 8 rfl rfl)
theorem dX6_isOpen_11 : decode cX6_isOpen 11 = .ok (.aload_n 0, 1) := dk_42 (dk_at dksX6_isOpen_0 11 rfl rfl)
theorem dX6_isOpen_12 : decode cX6_isOpen 12 = .ok (.getfield 31, 3) := dk_180 0 31 (dk_at dksX6_isOpen_0 12 rfl rfl)
theorem dX6_isOpen_15 : decode cX6_isOpen 15 = .ok (.bipush 6, 2) := dk_16 6 (dk_at dksX6_isOpen_0 15 rfl rfl)
theorem dX6_isOpen_17 : decode cX6_isOpen 17 = .ok (.iload_n 1, 1) := dk_27 (dk_at dksX6_isOpen_0 17 rfl rfl)
theorem dX6_isOpen_18 : decode cX6_isOpen 18 = .ok (.imul, 1) := dk_104 (dk_at dksX6_isOpen_0 18 rfl rfl)
theorem dX6_isOpen_19 : decode cX6_isOpen 19 = .ok (.iconst 5, 1) := dk_8 (dk_at dksX6_isOpen_0 19 rfl rfl)
theorem dX6_isOpen_20 : decode cX6_isOpen 20 = .ok (.iadd, 1) := dk_96 (dk_at dksX6_isOpen_0 20 rfl rfl)
theorem dX6_isOpen_21 : decode cX6_isOpen 21 = .ok (.iaload, 1) := dk_46 (dk_at dksX6_isOpen_0 21 rfl rfl)
theorem dX6_isOpen_22 : decode cX6_isOpen 22 = .ok (.iconst 1, 1) := dk_4 (dk_at dksX6_isOpen_0 22 rfl rfl)
theorem dX6_isOpen_23 : decode cX6_isOpen 23 = .ok (.if_icmp .ne 7, 3) := dk_160 0 7 (dk_at dksX6_isOpen_1 0 rfl rfl)
theorem dX6_isOpen_26 : decode cX6_isOpen 26 = .ok (.iconst 1, 1) := dk_4 (dk_at dksX6_isOpen_1 3 rfl rfl)
theorem dX6_isOpen_27 : decode cX6_isOpen 27 = .ok (.goto 4, 3) := dk_167 0 4 (dk_at dksX6_isOpen_1 4 rfl rfl)
theorem dX6_isOpen_30 : decode cX6_isOpen 30 = .ok (.iconst 0, 1) := dk_3 (dk_at dksX6_isOpen_1 7 rfl rfl)
theorem dX6_isOpen_31 : decode cX6_isOpen 31 = .ok (.ireturn, 1) := dk_172 (dk_at dksX6_isOpen_1 8 rfl rfl)
abbrev cX6_dataSize : ByteArray := prog_8_method_23_code
def yX6_dataSize : MethodName := ⟨RX6, "dataSize", "(I)I"⟩
def dkwX6_dataSize_4 : List UInt8 := [180, 0, 25, 27, 46, 167, 0, 4, 3, 172]
abbrev dktX6_dataSize_4 : List UInt8 := dkwX6_dataSize_4 ++ []
def dkwX6_dataSize_3 : List UInt8 := [160, 0, 14, 7, 42, 180, 0, 25, 27, 46, 96, 167, 0, 20, 29, 184, 0, 153, 153, 0, 12, 42]
abbrev dktX6_dataSize_3 : List UInt8 := dkwX6_dataSize_3 ++ dktX6_dataSize_4
def dkwX6_dataSize_2 : List UInt8 := [16, 48, 160, 0, 8, 16, 10, 167, 0, 47, 29, 16, 50, 160, 0, 7, 7, 167, 0, 37, 29, 16, 62]
abbrev dktX6_dataSize_2 : List UInt8 := dkwX6_dataSize_2 ++ dktX6_dataSize_3
def dkwX6_dataSize_1 : List UInt8 := [16, 17, 42, 180, 0, 31, 16, 6, 27, 104, 4, 96, 46, 28, 16, 7, 96, 16, 8, 108, 104, 96, 172, 29]
abbrev dktX6_dataSize_1 : List UInt8 := dkwX6_dataSize_1 ++ dktX6_dataSize_2
def dkwX6_dataSize_0 : List UInt8 := [42, 180, 0, 31, 16, 6, 27, 104, 46, 61, 42, 180, 0, 7, 27, 46, 62, 29, 184, 0, 137, 153, 0, 26]
abbrev dktX6_dataSize_0 : List UInt8 := dkwX6_dataSize_0 ++ dktX6_dataSize_1
theorem dksX6_dataSize_0 : cX6_dataSize.data.toList.drop 0 = dktX6_dataSize_0 := by decide +kernel
theorem dksX6_dataSize_1 : cX6_dataSize.data.toList.drop 24 = dktX6_dataSize_1 := dk_seg dksX6_dataSize_0 24 rfl rfl
theorem dksX6_dataSize_2 : cX6_dataSize.data.toList.drop 48 = dktX6_dataSize_2 := dk_seg dksX6_dataSize_1 24 rfl rfl
theorem dksX6_dataSize_3 : cX6_dataSize.data.toList.drop 71 = dktX6_dataSize_3 := dk_seg dksX6_dataSize_2 23 rfl rfl
theorem dksX6_dataSize_4 : cX6_dataSize.data.toList.drop 93 = dktX6_dataSize_4 := dk_seg dksX6_dataSize_3 22 rfl rfl
theorem dX6_dataSize_0 : decode cX6_dataSize 0 = .ok (.aload_n 0, 1) := dk_42 (dk_at dksX6_dataSize_0 0 rfl rfl)
theorem dX6_dataSize_1 : decode cX6_dataSize 1 = .ok (.getfield 31, 3) := dk_180 0 31 (dk_at dksX6_dataSize_0 1 rfl rfl)
theorem dX6_dataSize_4 : decode cX6_dataSize 4 = .ok (.bipush 6, 2) := dk_16 6 (dk_at dksX6_dataSize_0 4 rfl rfl)
theorem dX6_dataSize_6 : decode cX6_dataSize 6 = .ok (.iload_n 1, 1) := dk_27 (dk_at dksX6_dataSize_0 6 rfl rfl)
theorem dX6_dataSize_7 : decode cX6_dataSize 7 = .ok (.imul, 1) := dk_104 (dk_at dksX6_dataSize_0 7 rfl rfl)
theorem dX6_dataSize_8 : decode cX6_dataSize 8 = .ok (.iaload, 1) := dk_46 (dk_at dksX6_dataSize_0 8 rfl rfl)
theorem dX6_dataSize_9 : decode cX6_dataSize 9 = .ok (.istore_n 2, 1) := dk_61 (dk_at dksX6_dataSize_0 9 rfl rfl)
theorem dX6_dataSize_10 : decode cX6_dataSize 10 = .ok (.aload_n 0, 1) := dk_42 (dk_at dksX6_dataSize_0 10 rfl rfl)
theorem dX6_dataSize_11 : decode cX6_dataSize 11 = .ok (.getfield 7, 3) := dk_180 0 7 (dk_at dksX6_dataSize_0 11 rfl rfl)
theorem dX6_dataSize_14 : decode cX6_dataSize 14 = .ok (.iload_n 1, 1) := dk_27 (dk_at dksX6_dataSize_0 14 rfl rfl)
theorem dX6_dataSize_15 : decode cX6_dataSize 15 = .ok (.iaload, 1) := dk_46 (dk_at dksX6_dataSize_0 15 rfl rfl)
theorem dX6_dataSize_16 : decode cX6_dataSize 16 = .ok (.istore_n 3, 1) := dk_62 (dk_at dksX6_dataSize_0 16 rfl rfl)
theorem dX6_dataSize_17 : decode cX6_dataSize 17 = .ok (.iload_n 3, 1) := dk_29 (dk_at dksX6_dataSize_0 17 rfl rfl)
theorem dX6_dataSize_18 : decode cX6_dataSize 18 = .ok (.invokestatic 137, 3) := dk_184 0 137 (dk_at dksX6_dataSize_0 18 rfl rfl)
theorem dX6_dataSize_21 : decode cX6_dataSize 21 = .ok (.ifCond .eq 26, 3) := dk_153 0 26 (dk_at dksX6_dataSize_0 21 rfl rfl)
theorem dX6_dataSize_24 : decode cX6_dataSize 24 = .ok (.bipush 17, 2) := dk_16 17 (dk_at dksX6_dataSize_1 0 rfl rfl)
theorem dX6_dataSize_26 : decode cX6_dataSize 26 = .ok (.aload_n 0, 1) := dk_42 (dk_at dksX6_dataSize_1 2 rfl rfl)
theorem dX6_dataSize_27 : decode cX6_dataSize 27 = .ok (.getfield 31, 3) := dk_180 0 31 (dk_at dksX6_dataSize_1 3 rfl rfl)
theorem dX6_dataSize_30 : decode cX6_dataSize 30 = .ok (.bipush 6, 2) := dk_16 6 (dk_at dksX6_dataSize_1 6 rfl rfl)
theorem dX6_dataSize_32 : decode cX6_dataSize 32 = .ok (.iload_n 1, 1) := dk_27 (dk_at dksX6_dataSize_1 8 rfl rfl)
theorem dX6_dataSize_33 : decode cX6_dataSize 33 = .ok (.imul, 1) := dk_104 (dk_at dksX6_dataSize_1 9 rfl rfl)
theorem dX6_dataSize_34 : decode cX6_dataSize 34 = .ok (.iconst 1, 1) := dk_4 (dk_at dksX6_dataSize_1 10 rfl rfl)
theorem dX6_dataSize_35 : decode cX6_dataSize 35 = .ok (.iadd, 1) := dk_96 (dk_at dksX6_dataSize_1 11 rfl rfl)
theorem dX6_dataSize_36 : decode cX6_dataSize 36 = .ok (.iaload, 1) := dk_46 (dk_at dksX6_dataSize_1 12 rfl rfl)
theorem dX6_dataSize_37 : decode cX6_dataSize 37 = .ok (.iload_n 2, 1) := dk_28 (dk_at dksX6_dataSize_1 13 rfl rfl)
theorem dX6_dataSize_38 : decode cX6_dataSize 38 = .ok (.bipush 7, 2) := dk_16 7 (dk_at dksX6_dataSize_1 14 rfl rfl)
theorem dX6_dataSize_40 : decode cX6_dataSize 40 = .ok (.iadd, 1) := dk_96 (dk_at dksX6_dataSize_1 16 rfl rfl)
theorem dX6_dataSize_41 : decode cX6_dataSize 41 = .ok (.bipush 8, 2) := dk_16 8 (dk_at dksX6_dataSize_1 17 rfl rfl)
theorem dX6_dataSize_43 : decode cX6_dataSize 43 = .ok (.idiv, 1) := dk_108 (dk_at dksX6_dataSize_1 19 rfl rfl)
theorem dX6_dataSize_44 : decode cX6_dataSize 44 = .ok (.imul, 1) := dk_104 (dk_at dksX6_dataSize_1 20 rfl rfl)
theorem dX6_dataSize_45 : decode cX6_dataSize 45 = .ok (.iadd, 1) := dk_96 (dk_at dksX6_dataSize_1 21 rfl rfl)
theorem dX6_dataSize_46 : decode cX6_dataSize 46 = .ok (.ireturn, 1) := dk_172 (dk_at dksX6_dataSize_1 22 rfl rfl)
theorem dX6_dataSize_47 : decode cX6_dataSize 47 = .ok (.iload_n 3, 1) := dk_29 (dk_at dksX6_dataSize_1 23 rfl rfl)
theorem dX6_dataSize_48 : decode cX6_dataSize 48 = .ok (.bipush 48, 2) := dk_16 48 (dk_at dksX6_dataSize_2 0 rfl rfl)
theorem dX6_dataSize_50 : decode cX6_dataSize 50 = .ok (.if_icmp .ne 8, 3) := dk_160 0 8 (dk_at dksX6_dataSize_2 2 rfl rfl)
theorem dX6_dataSize_53 : decode cX6_dataSize 53 = .ok (.bipush 10, 2) := dk_16 10 (dk_at dksX6_dataSize_2 5 rfl rfl)
theorem dX6_dataSize_55 : decode cX6_dataSize 55 = .ok (.goto 47, 3) := dk_167 0 47 (dk_at dksX6_dataSize_2 7 rfl rfl)
theorem dX6_dataSize_58 : decode cX6_dataSize 58 = .ok (.iload_n 3, 1) := dk_29 (dk_at dksX6_dataSize_2 10 rfl rfl)
theorem dX6_dataSize_59 : decode cX6_dataSize 59 = .ok (.bipush 50, 2) := dk_16 50 (dk_at dksX6_dataSize_2 11 rfl rfl)
theorem dX6_dataSize_61 : decode cX6_dataSize 61 = .ok (.if_icmp .ne 7, 3) := dk_160 0 7 (dk_at dksX6_dataSize_2 13 rfl rfl)
theorem dX6_dataSize_64 : decode cX6_dataSize 64 = .ok (.iconst 4, 1) := dk_7 (dk_at dksX6_dataSize_2 16 rfl rfl)
theorem dX6_dataSize_65 : decode cX6_dataSize 65 = .ok (.goto 37, 3) := dk_167 0 37 (dk_at dksX6_dataSize_2 17 rfl rfl)
theorem dX6_dataSize_68 : decode cX6_dataSize 68 = .ok (.iload_n 3, 1) := dk_29 (dk_at dksX6_dataSize_2 20 rfl rfl)
theorem dX6_dataSize_69 : decode cX6_dataSize 69 = .ok (.bipush 62, 2) := dk_16 62 (dk_at dksX6_dataSize_2 21 rfl rfl)
theorem dX6_dataSize_71 : decode cX6_dataSize 71 = .ok (.if_icmp .ne 14, 3) := dk_160 0 14 (dk_at dksX6_dataSize_3 0 rfl rfl)
theorem dX6_dataSize_74 : decode cX6_dataSize 74 = .ok (.iconst 4, 1) := dk_7 (dk_at dksX6_dataSize_3 3 rfl rfl)
theorem dX6_dataSize_75 : decode cX6_dataSize 75 = .ok (.aload_n 0, 1) := dk_42 (dk_at dksX6_dataSize_3 4 rfl rfl)
theorem dX6_dataSize_76 : decode cX6_dataSize 76 = .ok (.getfield 25, 3) := dk_180 0 25 (dk_at dksX6_dataSize_3 5 rfl rfl)
theorem dX6_dataSize_79 : decode cX6_dataSize 79 = .ok (.iload_n 1, 1) := dk_27 (dk_at dksX6_dataSize_3 8 rfl rfl)
theorem dX6_dataSize_80 : decode cX6_dataSize 80 = .ok (.iaload, 1) := dk_46 (dk_at dksX6_dataSize_3 9 rfl rfl)
theorem dX6_dataSize_81 : decode cX6_dataSize 81 = .ok (.iadd, 1) := dk_96 (dk_at dksX6_dataSize_3 10 rfl rfl)
theorem dX6_dataSize_82 : decode cX6_dataSize 82 = .ok (.goto 20, 3) := dk_167 0 20 (dk_at dksX6_dataSize_3 11 rfl rfl)
theorem dX6_dataSize_85 : decode cX6_dataSize 85 = .ok (.iload_n 3, 1) := dk_29 (dk_at dksX6_dataSize_3 14 rfl rfl)
theorem dX6_dataSize_86 : decode cX6_dataSize 86 = .ok (.invokestatic 153, 3) := dk_184 0 153 (dk_at dksX6_dataSize_3 15 rfl rfl)
theorem dX6_dataSize_89 : decode cX6_dataSize 89 = .ok (.ifCond .eq 12, 3) := dk_153 0 12 (dk_at dksX6_dataSize_3 18 rfl rfl)
theorem dX6_dataSize_92 : decode cX6_dataSize 92 = .ok (.aload_n 0, 1) := dk_42 (dk_at dksX6_dataSize_3 21 rfl rfl)
theorem dX6_dataSize_93 : decode cX6_dataSize 93 = .ok (.getfield 25, 3) := dk_180 0 25 (dk_at dksX6_dataSize_4 0 rfl rfl)
theorem dX6_dataSize_96 : decode cX6_dataSize 96 = .ok (.iload_n 1, 1) := dk_27 (dk_at dksX6_dataSize_4 3 rfl rfl)
theorem dX6_dataSize_97 : decode cX6_dataSize 97 = .ok (.iaload, 1) := dk_46 (dk_at dksX6_dataSize_4 4 rfl rfl)
theorem dX6_dataSize_98 : decode cX6_dataSize 98 = .ok (.goto 4, 3) := dk_167 0 4 (dk_at dksX6_dataSize_4 5 rfl rfl)
theorem dX6_dataSize_101 : decode cX6_dataSize 101 = .ok (.iconst 0, 1) := dk_3 (dk_at dksX6_dataSize_4 8 rfl rfl)
theorem dX6_dataSize_102 : decode cX6_dataSize 102 = .ok (.ireturn, 1) := dk_172 (dk_at dksX6_dataSize_4 9 rfl rfl)
abbrev cX6_writeData : ByteArray := prog_8_method_26_code
def yX6_writeData : MethodName := ⟨RX6, "writeData", "(I)V"⟩
def dkwX6_writeData_7 : List UInt8 := [167, 255, 228, 177]
abbrev dktX6_writeData_7 : List UInt8 := dkwX6_writeData_7 ++ []
def dkwX6_writeData_6 : List UInt8 := [46, 162, 0, 24, 42, 42, 180, 0, 28, 16, 20, 27, 104, 29, 96, 46, 182, 0, 162, 132, 3, 1]
abbrev dktX6_writeData_6 : List UInt8 := dkwX6_writeData_6 ++ dktX6_writeData_7
def dkwX6_writeData_5 : List UInt8 := [160, 0, 16, 42, 42, 180, 0, 31, 16, 6, 27, 104, 46, 182, 0, 166, 3, 62, 29, 42, 180, 0, 25, 27]
abbrev dktX6_writeData_5 : List UInt8 := dkwX6_writeData_5 ++ dktX6_writeData_6
def dkwX6_writeData_4 : List UInt8 := [16, 6, 27, 104, 6, 96, 46, 182, 0, 162, 167, 0, 28, 28, 16, 50, 159, 0, 9, 28, 16, 62]
abbrev dktX6_writeData_4 : List UInt8 := dkwX6_writeData_4 ++ dktX6_writeData_5
def dkwX6_writeData_3 : List UInt8 := [46, 182, 0, 166, 42, 42, 180, 0, 31, 16, 6, 27, 104, 5, 96, 46, 182, 0, 162, 42, 42, 180, 0, 31]
abbrev dktX6_writeData_3 : List UInt8 := dkwX6_writeData_3 ++ dktX6_writeData_4
def dkwX6_writeData_2 : List UInt8 := [16, 6, 27, 104, 4, 96, 46, 154, 0, 7, 2, 167, 0, 14, 42, 180, 0, 31, 16, 6, 27, 104, 4, 96]
abbrev dktX6_writeData_2 : List UInt8 := dkwX6_writeData_2 ++ dktX6_writeData_3
def dkwX6_writeData_1 : List UInt8 := [16, 48, 160, 0, 82, 42, 42, 180, 0, 31, 16, 6, 27, 104, 46, 182, 0, 166, 42, 42, 180, 0, 31]
abbrev dktX6_writeData_1 : List UInt8 := dkwX6_writeData_1 ++ dktX6_writeData_2
def dkwX6_writeData_0 : List UInt8 := [42, 180, 0, 7, 27, 46, 61, 28, 184, 0, 137, 153, 0, 11, 42, 27, 182, 0, 176, 167, 0, 113, 28]
abbrev dktX6_writeData_0 : List UInt8 := dkwX6_writeData_0 ++ dktX6_writeData_1
theorem dksX6_writeData_0 : cX6_writeData.data.toList.drop 0 = dktX6_writeData_0 := by decide +kernel
theorem dksX6_writeData_1 : cX6_writeData.data.toList.drop 23 = dktX6_writeData_1 := dk_seg dksX6_writeData_0 23 rfl rfl
theorem dksX6_writeData_2 : cX6_writeData.data.toList.drop 46 = dktX6_writeData_2 := dk_seg dksX6_writeData_1 23 rfl rfl
theorem dksX6_writeData_3 : cX6_writeData.data.toList.drop 70 = dktX6_writeData_3 := dk_seg dksX6_writeData_2 24 rfl rfl
theorem dksX6_writeData_4 : cX6_writeData.data.toList.drop 94 = dktX6_writeData_4 := dk_seg dksX6_writeData_3 24 rfl rfl
theorem dksX6_writeData_5 : cX6_writeData.data.toList.drop 116 = dktX6_writeData_5 := dk_seg dksX6_writeData_4 22 rfl rfl
theorem dksX6_writeData_6 : cX6_writeData.data.toList.drop 140 = dktX6_writeData_6 := dk_seg dksX6_writeData_5 24 rfl rfl
theorem dksX6_writeData_7 : cX6_writeData.data.toList.drop 162 = dktX6_writeData_7 := dk_seg dksX6_writeData_6 22 rfl rfl
theorem dX6_writeData_0 : decode cX6_writeData 0 = .ok (.aload_n 0, 1) := dk_42 (dk_at dksX6_writeData_0 0 rfl rfl)
theorem dX6_writeData_1 : decode cX6_writeData 1 = .ok (.getfield 7, 3) := dk_180 0 7 (dk_at dksX6_writeData_0 1 rfl rfl)
theorem dX6_writeData_4 : decode cX6_writeData 4 = .ok (.iload_n 1, 1) := dk_27 (dk_at dksX6_writeData_0 4 rfl rfl)
theorem dX6_writeData_5 : decode cX6_writeData 5 = .ok (.iaload, 1) := dk_46 (dk_at dksX6_writeData_0 5 rfl rfl)
theorem dX6_writeData_6 : decode cX6_writeData 6 = .ok (.istore_n 2, 1) := dk_61 (dk_at dksX6_writeData_0 6 rfl rfl)
theorem dX6_writeData_7 : decode cX6_writeData 7 = .ok (.iload_n 2, 1) := dk_28 (dk_at dksX6_writeData_0 7 rfl rfl)
theorem dX6_writeData_8 : decode cX6_writeData 8 = .ok (.invokestatic 137, 3) := dk_184 0 137 (dk_at dksX6_writeData_0 8 rfl rfl)
theorem dX6_writeData_11 : decode cX6_writeData 11 = .ok (.ifCond .eq 11, 3) := dk_153 0 11 (dk_at dksX6_writeData_0 11 rfl rfl)
theorem dX6_writeData_14 : decode cX6_writeData 14 = .ok (.aload_n 0, 1) := dk_42 (dk_at dksX6_writeData_0 14 rfl rfl)
theorem dX6_writeData_15 : decode cX6_writeData 15 = .ok (.iload_n 1, 1) := dk_27 (dk_at dksX6_writeData_0 15 rfl rfl)
theorem dX6_writeData_16 : decode cX6_writeData 16 = .ok (.invokevirtual 176, 3) := dk_182 0 176 (dk_at dksX6_writeData_0 16 rfl rfl)
theorem dX6_writeData_19 : decode cX6_writeData 19 = .ok (.goto 113, 3) := dk_167 0 113 (dk_at dksX6_writeData_0 19 rfl rfl)
theorem dX6_writeData_22 : decode cX6_writeData 22 = .ok (.iload_n 2, 1) := dk_28 (dk_at dksX6_writeData_0 22 rfl rfl)
theorem dX6_writeData_23 : decode cX6_writeData 23 = .ok (.bipush 48, 2) := dk_16 48 (dk_at dksX6_writeData_1 0 rfl rfl)
theorem dX6_writeData_25 : decode cX6_writeData 25 = .ok (.if_icmp .ne 82, 3) := dk_160 0 82 (dk_at dksX6_writeData_1 2 rfl rfl)
theorem dX6_writeData_28 : decode cX6_writeData 28 = .ok (.aload_n 0, 1) := dk_42 (dk_at dksX6_writeData_1 5 rfl rfl)
theorem dX6_writeData_29 : decode cX6_writeData 29 = .ok (.aload_n 0, 1) := dk_42 (dk_at dksX6_writeData_1 6 rfl rfl)
theorem dX6_writeData_30 : decode cX6_writeData 30 = .ok (.getfield 31, 3) := dk_180 0 31 (dk_at dksX6_writeData_1 7 rfl rfl)
theorem dX6_writeData_33 : decode cX6_writeData 33 = .ok (.bipush 6, 2) := dk_16 6 (dk_at dksX6_writeData_1 10 rfl rfl)
theorem dX6_writeData_35 : decode cX6_writeData 35 = .ok (.iload_n 1, 1) := dk_27 (dk_at dksX6_writeData_1 12 rfl rfl)
theorem dX6_writeData_36 : decode cX6_writeData 36 = .ok (.imul, 1) := dk_104 (dk_at dksX6_writeData_1 13 rfl rfl)
theorem dX6_writeData_37 : decode cX6_writeData 37 = .ok (.iaload, 1) := dk_46 (dk_at dksX6_writeData_1 14 rfl rfl)
theorem dX6_writeData_38 : decode cX6_writeData 38 = .ok (.invokevirtual 166, 3) := dk_182 0 166 (dk_at dksX6_writeData_1 15 rfl rfl)
theorem dX6_writeData_41 : decode cX6_writeData 41 = .ok (.aload_n 0, 1) := dk_42 (dk_at dksX6_writeData_1 18 rfl rfl)
theorem dX6_writeData_42 : decode cX6_writeData 42 = .ok (.aload_n 0, 1) := dk_42 (dk_at dksX6_writeData_1 19 rfl rfl)
theorem dX6_writeData_43 : decode cX6_writeData 43 = .ok (.getfield 31, 3) := dk_180 0 31 (dk_at dksX6_writeData_1 20 rfl rfl)
theorem dX6_writeData_46 : decode cX6_writeData 46 = .ok (.bipush 6, 2) := dk_16 6 (dk_at dksX6_writeData_2 0 rfl rfl)
theorem dX6_writeData_48 : decode cX6_writeData 48 = .ok (.iload_n 1, 1) := dk_27 (dk_at dksX6_writeData_2 2 rfl rfl)
theorem dX6_writeData_49 : decode cX6_writeData 49 = .ok (.imul, 1) := dk_104 (dk_at dksX6_writeData_2 3 rfl rfl)
theorem dX6_writeData_50 : decode cX6_writeData 50 = .ok (.iconst 1, 1) := dk_4 (dk_at dksX6_writeData_2 4 rfl rfl)
theorem dX6_writeData_51 : decode cX6_writeData 51 = .ok (.iadd, 1) := dk_96 (dk_at dksX6_writeData_2 5 rfl rfl)
theorem dX6_writeData_52 : decode cX6_writeData 52 = .ok (.iaload, 1) := dk_46 (dk_at dksX6_writeData_2 6 rfl rfl)
theorem dX6_writeData_53 : decode cX6_writeData 53 = .ok (.ifCond .ne 7, 3) := dk_154 0 7 (dk_at dksX6_writeData_2 7 rfl rfl)
theorem dX6_writeData_56 : decode cX6_writeData 56 = .ok (.iconst (-1), 1) := dk_2 (dk_at dksX6_writeData_2 10 rfl rfl)
theorem dX6_writeData_57 : decode cX6_writeData 57 = .ok (.goto 14, 3) := dk_167 0 14 (dk_at dksX6_writeData_2 11 rfl rfl)
theorem dX6_writeData_60 : decode cX6_writeData 60 = .ok (.aload_n 0, 1) := dk_42 (dk_at dksX6_writeData_2 14 rfl rfl)
theorem dX6_writeData_61 : decode cX6_writeData 61 = .ok (.getfield 31, 3) := dk_180 0 31 (dk_at dksX6_writeData_2 15 rfl rfl)
theorem dX6_writeData_64 : decode cX6_writeData 64 = .ok (.bipush 6, 2) := dk_16 6 (dk_at dksX6_writeData_2 18 rfl rfl)
theorem dX6_writeData_66 : decode cX6_writeData 66 = .ok (.iload_n 1, 1) := dk_27 (dk_at dksX6_writeData_2 20 rfl rfl)
theorem dX6_writeData_67 : decode cX6_writeData 67 = .ok (.imul, 1) := dk_104 (dk_at dksX6_writeData_2 21 rfl rfl)
theorem dX6_writeData_68 : decode cX6_writeData 68 = .ok (.iconst 1, 1) := dk_4 (dk_at dksX6_writeData_2 22 rfl rfl)
theorem dX6_writeData_69 : decode cX6_writeData 69 = .ok (.iadd, 1) := dk_96 (dk_at dksX6_writeData_2 23 rfl rfl)
theorem dX6_writeData_70 : decode cX6_writeData 70 = .ok (.iaload, 1) := dk_46 (dk_at dksX6_writeData_3 0 rfl rfl)
theorem dX6_writeData_71 : decode cX6_writeData 71 = .ok (.invokevirtual 166, 3) := dk_182 0 166 (dk_at dksX6_writeData_3 1 rfl rfl)
theorem dX6_writeData_74 : decode cX6_writeData 74 = .ok (.aload_n 0, 1) := dk_42 (dk_at dksX6_writeData_3 4 rfl rfl)
theorem dX6_writeData_75 : decode cX6_writeData 75 = .ok (.aload_n 0, 1) := dk_42 (dk_at dksX6_writeData_3 5 rfl rfl)
theorem dX6_writeData_76 : decode cX6_writeData 76 = .ok (.getfield 31, 3) := dk_180 0 31 (dk_at dksX6_writeData_3 6 rfl rfl)
theorem dX6_writeData_79 : decode cX6_writeData 79 = .ok (.bipush 6, 2) := dk_16 6 (dk_at dksX6_writeData_3 9 rfl rfl)
theorem dX6_writeData_81 : decode cX6_writeData 81 = .ok (.iload_n 1, 1) := dk_27 (dk_at dksX6_writeData_3 11 rfl rfl)
theorem dX6_writeData_82 : decode cX6_writeData 82 = .ok (.imul, 1) := dk_104 (dk_at dksX6_writeData_3 12 rfl rfl)
theorem dX6_writeData_83 : decode cX6_writeData 83 = .ok (.iconst 2, 1) := dk_5 (dk_at dksX6_writeData_3 13 rfl rfl)
theorem dX6_writeData_84 : decode cX6_writeData 84 = .ok (.iadd, 1) := dk_96 (dk_at dksX6_writeData_3 14 rfl rfl)
theorem dX6_writeData_85 : decode cX6_writeData 85 = .ok (.iaload, 1) := dk_46 (dk_at dksX6_writeData_3 15 rfl rfl)
theorem dX6_writeData_86 : decode cX6_writeData 86 = .ok (.invokevirtual 162, 3) := dk_182 0 162 (dk_at dksX6_writeData_3 16 rfl rfl)
theorem dX6_writeData_89 : decode cX6_writeData 89 = .ok (.aload_n 0, 1) := dk_42 (dk_at dksX6_writeData_3 19 rfl rfl)
theorem dX6_writeData_90 : decode cX6_writeData 90 = .ok (.aload_n 0, 1) := dk_42 (dk_at dksX6_writeData_3 20 rfl rfl)
theorem dX6_writeData_91 : decode cX6_writeData 91 = .ok (.getfield 31, 3) := dk_180 0 31 (dk_at dksX6_writeData_3 21 rfl rfl)
theorem dX6_writeData_94 : decode cX6_writeData 94 = .ok (.bipush 6, 2) := dk_16 6 (dk_at dksX6_writeData_4 0 rfl rfl)
theorem dX6_writeData_96 : decode cX6_writeData 96 = .ok (.iload_n 1, 1) := dk_27 (dk_at dksX6_writeData_4 2 rfl rfl)
theorem dX6_writeData_97 : decode cX6_writeData 97 = .ok (.imul, 1) := dk_104 (dk_at dksX6_writeData_4 3 rfl rfl)
theorem dX6_writeData_98 : decode cX6_writeData 98 = .ok (.iconst 3, 1) := dk_6 (dk_at dksX6_writeData_4 4 rfl rfl)
theorem dX6_writeData_99 : decode cX6_writeData 99 = .ok (.iadd, 1) := dk_96 (dk_at dksX6_writeData_4 5 rfl rfl)
theorem dX6_writeData_100 : decode cX6_writeData 100 = .ok (.iaload, 1) := dk_46 (dk_at dksX6_writeData_4 6 rfl rfl)
theorem dX6_writeData_101 : decode cX6_writeData 101 = .ok (.invokevirtual 162, 3) := dk_182 0 162 (dk_at dksX6_writeData_4 7 rfl rfl)
theorem dX6_writeData_104 : decode cX6_writeData 104 = .ok (.goto 28, 3) := dk_167 0 28 (dk_at dksX6_writeData_4 10 rfl rfl)
theorem dX6_writeData_107 : decode cX6_writeData 107 = .ok (.iload_n 2, 1) := dk_28 (dk_at dksX6_writeData_4 13 rfl rfl)
theorem dX6_writeData_108 : decode cX6_writeData 108 = .ok (.bipush 50, 2) := dk_16 50 (dk_at dksX6_writeData_4 14 rfl rfl)
theorem dX6_writeData_110 : decode cX6_writeData 110 = .ok (.if_icmp .eq 9, 3) := dk_159 0 9 (dk_at dksX6_writeData_4 16 rfl rfl)
theorem dX6_writeData_113 : decode cX6_writeData 113 = .ok (.iload_n 2, 1) := dk_28 (dk_at dksX6_writeData_4 19 rfl rfl)
theorem dX6_writeData_114 : decode cX6_writeData 114 = .ok (.bipush 62, 2) := dk_16 62 (dk_at dksX6_writeData_4 20 rfl rfl)
theorem dX6_writeData_116 : decode cX6_writeData 116 = .ok (.if_icmp .ne 16, 3) := dk_160 0 16 (dk_at dksX6_writeData_5 0 rfl rfl)
theorem dX6_writeData_119 : decode cX6_writeData 119 = .ok (.aload_n 0, 1) := dk_42 (dk_at dksX6_writeData_5 3 rfl rfl)
theorem dX6_writeData_120 : decode cX6_writeData 120 = .ok (.aload_n 0, 1) := dk_42 (dk_at dksX6_writeData_5 4 rfl rfl)
theorem dX6_writeData_121 : decode cX6_writeData 121 = .ok (.getfield 31, 3) := dk_180 0 31 (dk_at dksX6_writeData_5 5 rfl rfl)
theorem dX6_writeData_124 : decode cX6_writeData 124 = .ok (.bipush 6, 2) := dk_16 6 (dk_at dksX6_writeData_5 8 rfl rfl)
theorem dX6_writeData_126 : decode cX6_writeData 126 = .ok (.iload_n 1, 1) := dk_27 (dk_at dksX6_writeData_5 10 rfl rfl)
theorem dX6_writeData_127 : decode cX6_writeData 127 = .ok (.imul, 1) := dk_104 (dk_at dksX6_writeData_5 11 rfl rfl)
theorem dX6_writeData_128 : decode cX6_writeData 128 = .ok (.iaload, 1) := dk_46 (dk_at dksX6_writeData_5 12 rfl rfl)
theorem dX6_writeData_129 : decode cX6_writeData 129 = .ok (.invokevirtual 166, 3) := dk_182 0 166 (dk_at dksX6_writeData_5 13 rfl rfl)
theorem dX6_writeData_132 : decode cX6_writeData 132 = .ok (.iconst 0, 1) := dk_3 (dk_at dksX6_writeData_5 16 rfl rfl)
theorem dX6_writeData_133 : decode cX6_writeData 133 = .ok (.istore_n 3, 1) := dk_62 (dk_at dksX6_writeData_5 17 rfl rfl)
theorem dX6_writeData_134 : decode cX6_writeData 134 = .ok (.iload_n 3, 1) := dk_29 (dk_at dksX6_writeData_5 18 rfl rfl)
theorem dX6_writeData_135 : decode cX6_writeData 135 = .ok (.aload_n 0, 1) := dk_42 (dk_at dksX6_writeData_5 19 rfl rfl)
theorem dX6_writeData_136 : decode cX6_writeData 136 = .ok (.getfield 25, 3) := dk_180 0 25 (dk_at dksX6_writeData_5 20 rfl rfl)
theorem dX6_writeData_139 : decode cX6_writeData 139 = .ok (.iload_n 1, 1) := dk_27 (dk_at dksX6_writeData_5 23 rfl rfl)
theorem dX6_writeData_140 : decode cX6_writeData 140 = .ok (.iaload, 1) := dk_46 (dk_at dksX6_writeData_6 0 rfl rfl)
theorem dX6_writeData_141 : decode cX6_writeData 141 = .ok (.if_icmp .ge 24, 3) := dk_162 0 24 (dk_at dksX6_writeData_6 1 rfl rfl)
theorem dX6_writeData_144 : decode cX6_writeData 144 = .ok (.aload_n 0, 1) := dk_42 (dk_at dksX6_writeData_6 4 rfl rfl)
theorem dX6_writeData_145 : decode cX6_writeData 145 = .ok (.aload_n 0, 1) := dk_42 (dk_at dksX6_writeData_6 5 rfl rfl)
theorem dX6_writeData_146 : decode cX6_writeData 146 = .ok (.getfield 28, 3) := dk_180 0 28 (dk_at dksX6_writeData_6 6 rfl rfl)
theorem dX6_writeData_149 : decode cX6_writeData 149 = .ok (.bipush 20, 2) := dk_16 20 (dk_at dksX6_writeData_6 9 rfl rfl)
theorem dX6_writeData_151 : decode cX6_writeData 151 = .ok (.iload_n 1, 1) := dk_27 (dk_at dksX6_writeData_6 11 rfl rfl)
theorem dX6_writeData_152 : decode cX6_writeData 152 = .ok (.imul, 1) := dk_104 (dk_at dksX6_writeData_6 12 rfl rfl)
theorem dX6_writeData_153 : decode cX6_writeData 153 = .ok (.iload_n 3, 1) := dk_29 (dk_at dksX6_writeData_6 13 rfl rfl)
theorem dX6_writeData_154 : decode cX6_writeData 154 = .ok (.iadd, 1) := dk_96 (dk_at dksX6_writeData_6 14 rfl rfl)
theorem dX6_writeData_155 : decode cX6_writeData 155 = .ok (.iaload, 1) := dk_46 (dk_at dksX6_writeData_6 15 rfl rfl)
theorem dX6_writeData_156 : decode cX6_writeData 156 = .ok (.invokevirtual 162, 3) := dk_182 0 162 (dk_at dksX6_writeData_6 16 rfl rfl)
theorem dX6_writeData_159 : decode cX6_writeData 159 = .ok (.iinc 3 1, 3) := dk_132 3 1 (dk_at dksX6_writeData_6 19 rfl rfl)
theorem dX6_writeData_162 : decode cX6_writeData 162 = .ok (.goto (-28), 3) := dk_167 255 228 (dk_at dksX6_writeData_7 0 rfl rfl)
theorem dX6_writeData_165 : decode cX6_writeData 165 = .ok (.return_, 1) := dk_177 (dk_at dksX6_writeData_7 3 rfl rfl)
abbrev cX6_writeRegion : ByteArray := prog_8_method_25_code
def yX6_writeRegion : MethodName := ⟨RX6, "writeRegion", "(I)V"⟩
def dkwX6_writeRegion_8 : List UInt8 := [153, 0, 22, 42, 17, 0, 255, 182, 0, 162, 42, 17, 0, 172, 182, 0, 162, 42, 29, 182, 0, 166, 177]
abbrev dktX6_writeRegion_8 : List UInt8 := dkwX6_writeRegion_8 ++ []
def dkwX6_writeRegion_7 : List UInt8 := [21, 6, 182, 0, 162, 132, 5, 8, 167, 255, 184, 132, 4, 1, 167, 255, 156, 42, 27, 182, 0, 169]
abbrev dktX6_writeRegion_7 : List UInt8 := dkwX6_writeRegion_7 ++ dktX6_writeRegion_8
def dkwX6_writeRegion_6 : List UInt8 := [21, 4, 96, 46, 21, 7, 122, 4, 126, 167, 0, 4, 3, 96, 54, 6, 132, 7, 1, 167, 255, 209, 42]
abbrev dktX6_writeRegion_6 : List UInt8 := dkwX6_writeRegion_6 ++ dktX6_writeRegion_7
def dkwX6_writeRegion_5 : List UInt8 := [16, 8, 96, 162, 0, 43, 5, 21, 6, 104, 21, 7, 28, 162, 0, 23, 42, 180, 0, 34, 16, 16, 27, 104]
abbrev dktX6_writeRegion_5 : List UInt8 := dkwX6_writeRegion_5 ++ dktX6_writeRegion_6
def dkwX6_writeRegion_4 : List UInt8 := [182, 0, 162, 3, 54, 5, 21, 5, 28, 162, 0, 72, 3, 54, 6, 21, 5, 54, 7, 21, 7, 21, 5]
abbrev dktX6_writeRegion_4 : List UInt8 := dkwX6_writeRegion_4 ++ dktX6_writeRegion_5
def dkwX6_writeRegion_3 : List UInt8 := [96, 46, 182, 0, 162, 3, 54, 4, 21, 4, 29, 162, 0, 100, 42, 27, 182, 0, 169, 153, 0, 8, 42, 4]
abbrev dktX6_writeRegion_3 : List UInt8 := dkwX6_writeRegion_3 ++ dktX6_writeRegion_4
def dkwX6_writeRegion_2 : List UInt8 := [42, 180, 0, 31, 16, 6, 27, 104, 6, 96, 46, 182, 0, 166, 42, 42, 180, 0, 31, 16, 6, 27, 104, 7]
abbrev dktX6_writeRegion_2 : List UInt8 := dkwX6_writeRegion_2 ++ dktX6_writeRegion_3
def dkwX6_writeRegion_1 : List UInt8 := [182, 0, 166, 42, 29, 182, 0, 166, 42, 42, 180, 0, 31, 16, 6, 27, 104, 5, 96, 46, 182, 0, 166, 42]
abbrev dktX6_writeRegion_1 : List UInt8 := dkwX6_writeRegion_1 ++ dktX6_writeRegion_2
def dkwX6_writeRegion_0 : List UInt8 := [42, 180, 0, 31, 16, 6, 27, 104, 46, 61, 42, 180, 0, 31, 16, 6, 27, 104, 4, 96, 46, 62, 42, 28]
abbrev dktX6_writeRegion_0 : List UInt8 := dkwX6_writeRegion_0 ++ dktX6_writeRegion_1
theorem dksX6_writeRegion_0 : cX6_writeRegion.data.toList.drop 0 = dktX6_writeRegion_0 := by decide +kernel
theorem dksX6_writeRegion_1 : cX6_writeRegion.data.toList.drop 24 = dktX6_writeRegion_1 := dk_seg dksX6_writeRegion_0 24 rfl rfl
theorem dksX6_writeRegion_2 : cX6_writeRegion.data.toList.drop 48 = dktX6_writeRegion_2 := dk_seg dksX6_writeRegion_1 24 rfl rfl
theorem dksX6_writeRegion_3 : cX6_writeRegion.data.toList.drop 72 = dktX6_writeRegion_3 := dk_seg dksX6_writeRegion_2 24 rfl rfl
theorem dksX6_writeRegion_4 : cX6_writeRegion.data.toList.drop 96 = dktX6_writeRegion_4 := dk_seg dksX6_writeRegion_3 24 rfl rfl
theorem dksX6_writeRegion_5 : cX6_writeRegion.data.toList.drop 119 = dktX6_writeRegion_5 := dk_seg dksX6_writeRegion_4 23 rfl rfl
theorem dksX6_writeRegion_6 : cX6_writeRegion.data.toList.drop 143 = dktX6_writeRegion_6 := dk_seg dksX6_writeRegion_5 24 rfl rfl
theorem dksX6_writeRegion_7 : cX6_writeRegion.data.toList.drop 166 = dktX6_writeRegion_7 := dk_seg dksX6_writeRegion_6 23 rfl rfl
theorem dksX6_writeRegion_8 : cX6_writeRegion.data.toList.drop 188 = dktX6_writeRegion_8 := dk_seg dksX6_writeRegion_7 22 rfl rfl
theorem dX6_writeRegion_0 : decode cX6_writeRegion 0 = .ok (.aload_n 0, 1) := dk_42 (dk_at dksX6_writeRegion_0 0 rfl rfl)
theorem dX6_writeRegion_1 : decode cX6_writeRegion 1 = .ok (.getfield 31, 3) := dk_180 0 31 (dk_at dksX6_writeRegion_0 1 rfl rfl)
theorem dX6_writeRegion_4 : decode cX6_writeRegion 4 = .ok (.bipush 6, 2) := dk_16 6 (dk_at dksX6_writeRegion_0 4 rfl rfl)
theorem dX6_writeRegion_6 : decode cX6_writeRegion 6 = .ok (.iload_n 1, 1) := dk_27 (dk_at dksX6_writeRegion_0 6 rfl rfl)
theorem dX6_writeRegion_7 : decode cX6_writeRegion 7 = .ok (.imul, 1) := dk_104 (dk_at dksX6_writeRegion_0 7 rfl rfl)
theorem dX6_writeRegion_8 : decode cX6_writeRegion 8 = .ok (.iaload, 1) := dk_46 (dk_at dksX6_writeRegion_0 8 rfl rfl)
theorem dX6_writeRegion_9 : decode cX6_writeRegion 9 = .ok (.istore_n 2, 1) := dk_61 (dk_at dksX6_writeRegion_0 9 rfl rfl)
theorem dX6_writeRegion_10 : decode cX6_writeRegion 10 = .ok (.aload_n 0, 1) := dk_42 (dk_at dksX6_writeRegion_0 10 rfl rfl)
theorem dX6_writeRegion_11 : decode cX6_writeRegion 11 = .ok (.getfield 31, 3) := dk_180 0 31 (dk_at dksX6_writeRegion_0 11 rfl rfl)
theorem dX6_writeRegion_14 : decode cX6_writeRegion 14 = .ok (.bipush 6, 2) := dk_16 6 (dk_at dksX6_writeRegion_0 14 rfl rfl)
theorem dX6_writeRegion_16 : decode cX6_writeRegion 16 = .ok (.iload_n 1, 1) := dk_27 (dk_at dksX6_writeRegion_0 16 rfl rfl)
theorem dX6_writeRegion_17 : decode cX6_writeRegion 17 = .ok (.imul, 1) := dk_104 (dk_at dksX6_writeRegion_0 17 rfl rfl)
theorem dX6_writeRegion_18 : decode cX6_writeRegion 18 = .ok (.iconst 1, 1) := dk_4 (dk_at dksX6_writeRegion_0 18 rfl rfl)
theorem dX6_writeRegion_19 : decode cX6_writeRegion 19 = .ok (.iadd, 1) := dk_96 (dk_at dksX6_writeRegion_0 19 rfl rfl)
theorem dX6_writeRegion_20 : decode cX6_writeRegion 20 = .ok (.iaload, 1) := dk_46 (dk_at dksX6_writeRegion_0 20 rfl rfl)
theorem dX6_writeRegion_21 : decode cX6_writeRegion 21 = .ok (.istore_n 3, 1) := dk_62 (dk_at dksX6_writeRegion_0 21 rfl rfl)
theorem dX6_writeRegion_22 : decode cX6_writeRegion 22 = .ok (.aload_n 0, 1) := dk_42 (dk_at dksX6_writeRegion_0 22 rfl rfl)
theorem dX6_writeRegion_23 : decode cX6_writeRegion 23 = .ok (.iload_n 2, 1) := dk_28 (dk_at dksX6_writeRegion_0 23 rfl rfl)
theorem dX6_writeRegion_24 : decode cX6_writeRegion 24 = .ok (.invokevirtual 166, 3) := dk_182 0 166 (dk_at dksX6_writeRegion_1 0 rfl rfl)
theorem dX6_writeRegion_27 : decode cX6_writeRegion 27 = .ok (.aload_n 0, 1) := dk_42 (dk_at dksX6_writeRegion_1 3 rfl rfl)
theorem dX6_writeRegion_28 : decode cX6_writeRegion 28 = .ok (.iload_n 3, 1) := dk_29 (dk_at dksX6_writeRegion_1 4 rfl rfl)
theorem dX6_writeRegion_29 : decode cX6_writeRegion 29 = .ok (.invokevirtual 166, 3) := dk_182 0 166 (dk_at dksX6_writeRegion_1 5 rfl rfl)
theorem dX6_writeRegion_32 : decode cX6_writeRegion 32 = .ok (.aload_n 0, 1) := dk_42 (dk_at dksX6_writeRegion_1 8 rfl rfl)
theorem dX6_writeRegion_33 : decode cX6_writeRegion 33 = .ok (.aload_n 0, 1) := dk_42 (dk_at dksX6_writeRegion_1 9 rfl rfl)
theorem dX6_writeRegion_34 : decode cX6_writeRegion 34 = .ok (.getfield 31, 3) := dk_180 0 31 (dk_at dksX6_writeRegion_1 10 rfl rfl)
theorem dX6_writeRegion_37 : decode cX6_writeRegion 37 = .ok (.bipush 6, 2) := dk_16 6 (dk_at dksX6_writeRegion_1 13 rfl rfl)
theorem dX6_writeRegion_39 : decode cX6_writeRegion 39 = .ok (.iload_n 1, 1) := dk_27 (dk_at dksX6_writeRegion_1 15 rfl rfl)
theorem dX6_writeRegion_40 : decode cX6_writeRegion 40 = .ok (.imul, 1) := dk_104 (dk_at dksX6_writeRegion_1 16 rfl rfl)
theorem dX6_writeRegion_41 : decode cX6_writeRegion 41 = .ok (.iconst 2, 1) := dk_5 (dk_at dksX6_writeRegion_1 17 rfl rfl)
theorem dX6_writeRegion_42 : decode cX6_writeRegion 42 = .ok (.iadd, 1) := dk_96 (dk_at dksX6_writeRegion_1 18 rfl rfl)
theorem dX6_writeRegion_43 : decode cX6_writeRegion 43 = .ok (.iaload, 1) := dk_46 (dk_at dksX6_writeRegion_1 19 rfl rfl)
theorem dX6_writeRegion_44 : decode cX6_writeRegion 44 = .ok (.invokevirtual 166, 3) := dk_182 0 166 (dk_at dksX6_writeRegion_1 20 rfl rfl)
theorem dX6_writeRegion_47 : decode cX6_writeRegion 47 = .ok (.aload_n 0, 1) := dk_42 (dk_at dksX6_writeRegion_1 23 rfl rfl)
theorem dX6_writeRegion_48 : decode cX6_writeRegion 48 = .ok (.aload_n 0, 1) := dk_42 (dk_at dksX6_writeRegion_2 0 rfl rfl)
theorem dX6_writeRegion_49 : decode cX6_writeRegion 49 = .ok (.getfield 31, 3) := dk_180 0 31 (dk_at dksX6_writeRegion_2 1 rfl rfl)
theorem dX6_writeRegion_52 : decode cX6_writeRegion 52 = .ok (.bipush 6, 2) := dk_16 6 (dk_at dksX6_writeRegion_2 4 rfl rfl)
theorem dX6_writeRegion_54 : decode cX6_writeRegion 54 = .ok (.iload_n 1, 1) := dk_27 (dk_at dksX6_writeRegion_2 6 rfl rfl)
theorem dX6_writeRegion_55 : decode cX6_writeRegion 55 = .ok (.imul, 1) := dk_104 (dk_at dksX6_writeRegion_2 7 rfl rfl)
theorem dX6_writeRegion_56 : decode cX6_writeRegion 56 = .ok (.iconst 3, 1) := dk_6 (dk_at dksX6_writeRegion_2 8 rfl rfl)
theorem dX6_writeRegion_57 : decode cX6_writeRegion 57 = .ok (.iadd, 1) := dk_96 (dk_at dksX6_writeRegion_2 9 rfl rfl)
theorem dX6_writeRegion_58 : decode cX6_writeRegion 58 = .ok (.iaload, 1) := dk_46 (dk_at dksX6_writeRegion_2 10 rfl rfl)
theorem dX6_writeRegion_59 : decode cX6_writeRegion 59 = .ok (.invokevirtual 166, 3) := dk_182 0 166 (dk_at dksX6_writeRegion_2 11 rfl rfl)
theorem dX6_writeRegion_62 : decode cX6_writeRegion 62 = .ok (.aload_n 0, 1) := dk_42 (dk_at dksX6_writeRegion_2 14 rfl rfl)
theorem dX6_writeRegion_63 : decode cX6_writeRegion 63 = .ok (.aload_n 0, 1) := dk_42 (dk_at dksX6_writeRegion_2 15 rfl rfl)
theorem dX6_writeRegion_64 : decode cX6_writeRegion 64 = .ok (.getfield 31, 3) := dk_180 0 31 (dk_at dksX6_writeRegion_2 16 rfl rfl)
theorem dX6_writeRegion_67 : decode cX6_writeRegion 67 = .ok (.bipush 6, 2) := dk_16 6 (dk_at dksX6_writeRegion_2 19 rfl rfl)
theorem dX6_writeRegion_69 : decode cX6_writeRegion 69 = .ok (.iload_n 1, 1) := dk_27 (dk_at dksX6_writeRegion_2 21 rfl rfl)
theorem dX6_writeRegion_70 : decode cX6_writeRegion 70 = .ok (.imul, 1) := dk_104 (dk_at dksX6_writeRegion_2 22 rfl rfl)
theorem dX6_writeRegion_71 : decode cX6_writeRegion 71 = .ok (.iconst 4, 1) := dk_7 (dk_at dksX6_writeRegion_2 23 rfl rfl)
theorem dX6_writeRegion_72 : decode cX6_writeRegion 72 = .ok (.iadd, 1) := dk_96 (dk_at dksX6_writeRegion_3 0 rfl rfl)
theorem dX6_writeRegion_73 : decode cX6_writeRegion 73 = .ok (.iaload, 1) := dk_46 (dk_at dksX6_writeRegion_3 1 rfl rfl)
theorem dX6_writeRegion_74 : decode cX6_writeRegion 74 = .ok (.invokevirtual 162, 3) := dk_182 0 162 (dk_at dksX6_writeRegion_3 2 rfl rfl)
theorem dX6_writeRegion_77 : decode cX6_writeRegion 77 = .ok (.iconst 0, 1) := dk_3 (dk_at dksX6_writeRegion_3 5 rfl rfl)
theorem dX6_writeRegion_78 : decode cX6_writeRegion 78 = .ok (.istore 4, 2) := dk_54 4 (dk_at dksX6_writeRegion_3 6 rfl rfl)
theorem dX6_writeRegion_80 : decode cX6_writeRegion 80 = .ok (.iload 4, 2) := dk_21 4 (dk_at dksX6_writeRegion_3 8 rfl rfl)
theorem dX6_writeRegion_82 : decode cX6_writeRegion 82 = .ok (.iload_n 3, 1) := dk_29 (dk_at dksX6_writeRegion_3 10 rfl rfl)
theorem dX6_writeRegion_83 : decode cX6_writeRegion 83 = .ok (.if_icmp .ge 100, 3) := dk_162 0 100 (dk_at dksX6_writeRegion_3 11 rfl rfl)
theorem dX6_writeRegion_86 : decode cX6_writeRegion 86 = .ok (.aload_n 0, 1) := dk_42 (dk_at dksX6_writeRegion_3 14 rfl rfl)
theorem dX6_writeRegion_87 : decode cX6_writeRegion 87 = .ok (.iload_n 1, 1) := dk_27 (dk_at dksX6_writeRegion_3 15 rfl rfl)
theorem dX6_writeRegion_88 : decode cX6_writeRegion 88 = .ok (.invokevirtual 169, 3) := dk_182 0 169 (dk_at dksX6_writeRegion_3 16 rfl rfl)
theorem dX6_writeRegion_91 : decode cX6_writeRegion 91 = .ok (.ifCond .eq 8, 3) := dk_153 0 8 (dk_at dksX6_writeRegion_3 19 rfl rfl)
theorem dX6_writeRegion_94 : decode cX6_writeRegion 94 = .ok (.aload_n 0, 1) := dk_42 (dk_at dksX6_writeRegion_3 22 rfl rfl)
theorem dX6_writeRegion_95 : decode cX6_writeRegion 95 = .ok (.iconst 1, 1) := dk_4 (dk_at dksX6_writeRegion_3 23 rfl rfl)
theorem dX6_writeRegion_96 : decode cX6_writeRegion 96 = .ok (.invokevirtual 162, 3) := dk_182 0 162 (dk_at dksX6_writeRegion_4 0 rfl rfl)
theorem dX6_writeRegion_99 : decode cX6_writeRegion 99 = .ok (.iconst 0, 1) := dk_3 (dk_at dksX6_writeRegion_4 3 rfl rfl)
theorem dX6_writeRegion_100 : decode cX6_writeRegion 100 = .ok (.istore 5, 2) := dk_54 5 (dk_at dksX6_writeRegion_4 4 rfl rfl)
theorem dX6_writeRegion_102 : decode cX6_writeRegion 102 = .ok (.iload 5, 2) := dk_21 5 (dk_at dksX6_writeRegion_4 6 rfl rfl)
theorem dX6_writeRegion_104 : decode cX6_writeRegion 104 = .ok (.iload_n 2, 1) := dk_28 (dk_at dksX6_writeRegion_4 8 rfl rfl)
theorem dX6_writeRegion_105 : decode cX6_writeRegion 105 = .ok (.if_icmp .ge 72, 3) := dk_162 0 72 (dk_at dksX6_writeRegion_4 9 rfl rfl)
theorem dX6_writeRegion_108 : decode cX6_writeRegion 108 = .ok (.iconst 0, 1) := dk_3 (dk_at dksX6_writeRegion_4 12 rfl rfl)
theorem dX6_writeRegion_109 : decode cX6_writeRegion 109 = .ok (.istore 6, 2) := dk_54 6 (dk_at dksX6_writeRegion_4 13 rfl rfl)
theorem dX6_writeRegion_111 : decode cX6_writeRegion 111 = .ok (.iload 5, 2) := dk_21 5 (dk_at dksX6_writeRegion_4 15 rfl rfl)
theorem dX6_writeRegion_113 : decode cX6_writeRegion 113 = .ok (.istore 7, 2) := dk_54 7 (dk_at dksX6_writeRegion_4 17 rfl rfl)
theorem dX6_writeRegion_115 : decode cX6_writeRegion 115 = .ok (.iload 7, 2) := dk_21 7 (dk_at dksX6_writeRegion_4 19 rfl rfl)
theorem dX6_writeRegion_117 : decode cX6_writeRegion 117 = .ok (.iload 5, 2) := dk_21 5 (dk_at dksX6_writeRegion_4 21 rfl rfl)
theorem dX6_writeRegion_119 : decode cX6_writeRegion 119 = .ok (.bipush 8, 2) := dk_16 8 (dk_at dksX6_writeRegion_5 0 rfl rfl)
theorem dX6_writeRegion_121 : decode cX6_writeRegion 121 = .ok (.iadd, 1) := dk_96 (dk_at dksX6_writeRegion_5 2 rfl rfl)
theorem dX6_writeRegion_122 : decode cX6_writeRegion 122 = .ok (.if_icmp .ge 43, 3) := dk_162 0 43 (dk_at dksX6_writeRegion_5 3 rfl rfl)
theorem dX6_writeRegion_125 : decode cX6_writeRegion 125 = .ok (.iconst 2, 1) := dk_5 (dk_at dksX6_writeRegion_5 6 rfl rfl)
theorem dX6_writeRegion_126 : decode cX6_writeRegion 126 = .ok (.iload 6, 2) := dk_21 6 (dk_at dksX6_writeRegion_5 7 rfl rfl)
theorem dX6_writeRegion_128 : decode cX6_writeRegion 128 = .ok (.imul, 1) := dk_104 (dk_at dksX6_writeRegion_5 9 rfl rfl)
theorem dX6_writeRegion_129 : decode cX6_writeRegion 129 = .ok (.iload 7, 2) := dk_21 7 (dk_at dksX6_writeRegion_5 10 rfl rfl)
theorem dX6_writeRegion_131 : decode cX6_writeRegion 131 = .ok (.iload_n 2, 1) := dk_28 (dk_at dksX6_writeRegion_5 12 rfl rfl)
theorem dX6_writeRegion_132 : decode cX6_writeRegion 132 = .ok (.if_icmp .ge 23, 3) := dk_162 0 23 (dk_at dksX6_writeRegion_5 13 rfl rfl)
theorem dX6_writeRegion_135 : decode cX6_writeRegion 135 = .ok (.aload_n 0, 1) := dk_42 (dk_at dksX6_writeRegion_5 16 rfl rfl)
theorem dX6_writeRegion_136 : decode cX6_writeRegion 136 = .ok (.getfield 34, 3) := dk_180 0 34 (dk_at dksX6_writeRegion_5 17 rfl rfl)
theorem dX6_writeRegion_139 : decode cX6_writeRegion 139 = .ok (.bipush 16, 2) := dk_16 16 (dk_at dksX6_writeRegion_5 20 rfl rfl)
theorem dX6_writeRegion_141 : decode cX6_writeRegion 141 = .ok (.iload_n 1, 1) := dk_27 (dk_at dksX6_writeRegion_5 22 rfl rfl)
theorem dX6_writeRegion_142 : decode cX6_writeRegion 142 = .ok (.imul, 1) := dk_104 (dk_at dksX6_writeRegion_5 23 rfl rfl)
theorem dX6_writeRegion_143 : decode cX6_writeRegion 143 = .ok (.iload 4, 2) := dk_21 4 (dk_at dksX6_writeRegion_6 0 rfl rfl)
theorem dX6_writeRegion_145 : decode cX6_writeRegion 145 = .ok (.iadd, 1) := dk_96 (dk_at dksX6_writeRegion_6 2 rfl rfl)
theorem dX6_writeRegion_146 : decode cX6_writeRegion 146 = .ok (.iaload, 1) := dk_46 (dk_at dksX6_writeRegion_6 3 rfl rfl)
theorem dX6_writeRegion_147 : decode cX6_writeRegion 147 = .ok (.iload 7, 2) := dk_21 7 (dk_at dksX6_writeRegion_6 4 rfl rfl)
theorem dX6_writeRegion_149 : decode cX6_writeRegion 149 = .ok (.ishr, 1) := dk_122 (dk_at dksX6_writeRegion_6 6 rfl rfl)
theorem dX6_writeRegion_150 : decode cX6_writeRegion 150 = .ok (.iconst 1, 1) := dk_4 (dk_at dksX6_writeRegion_6 7 rfl rfl)
theorem dX6_writeRegion_151 : decode cX6_writeRegion 151 = .ok (.iand, 1) := dk_126 (dk_at dksX6_writeRegion_6 8 rfl rfl)
theorem dX6_writeRegion_152 : decode cX6_writeRegion 152 = .ok (.goto 4, 3) := dk_167 0 4 (dk_at dksX6_writeRegion_6 9 rfl rfl)
theorem dX6_writeRegion_155 : decode cX6_writeRegion 155 = .ok (.iconst 0, 1) := dk_3 (dk_at dksX6_writeRegion_6 12 rfl rfl)
theorem dX6_writeRegion_156 : decode cX6_writeRegion 156 = .ok (.iadd, 1) := dk_96 (dk_at dksX6_writeRegion_6 13 rfl rfl)
theorem dX6_writeRegion_157 : decode cX6_writeRegion 157 = .ok (.istore 6, 2) := dk_54 6 (dk_at dksX6_writeRegion_6 14 rfl rfl)
theorem dX6_writeRegion_159 : decode cX6_writeRegion 159 = .ok (.iinc 7 1, 3) := dk_132 7 1 (dk_at dksX6_writeRegion_6 16 rfl rfl)
theorem dX6_writeRegion_162 : decode cX6_writeRegion 162 = .ok (.goto (-47), 3) := dk_167 255 209 (dk_at dksX6_writeRegion_6 19 rfl rfl)
theorem dX6_writeRegion_165 : decode cX6_writeRegion 165 = .ok (.aload_n 0, 1) := dk_42 (dk_at dksX6_writeRegion_6 22 rfl rfl)
theorem dX6_writeRegion_166 : decode cX6_writeRegion 166 = .ok (.iload 6, 2) := dk_21 6 (dk_at dksX6_writeRegion_7 0 rfl rfl)
theorem dX6_writeRegion_168 : decode cX6_writeRegion 168 = .ok (.invokevirtual 162, 3) := dk_182 0 162 (dk_at dksX6_writeRegion_7 2 rfl rfl)
theorem dX6_writeRegion_171 : decode cX6_writeRegion 171 = .ok (.iinc 5 8, 3) := dk_132 5 8 (dk_at dksX6_writeRegion_7 5 rfl rfl)
theorem dX6_writeRegion_174 : decode cX6_writeRegion 174 = .ok (.goto (-72), 3) := dk_167 255 184 (dk_at dksX6_writeRegion_7 8 rfl rfl)
theorem dX6_writeRegion_177 : decode cX6_writeRegion 177 = .ok (.iinc 4 1, 3) := dk_132 4 1 (dk_at dksX6_writeRegion_7 11 rfl rfl)
theorem dX6_writeRegion_180 : decode cX6_writeRegion 180 = .ok (.goto (-100), 3) := dk_167 255 156 (dk_at dksX6_writeRegion_7 14 rfl rfl)
theorem dX6_writeRegion_183 : decode cX6_writeRegion 183 = .ok (.aload_n 0, 1) := dk_42 (dk_at dksX6_writeRegion_7 17 rfl rfl)
theorem dX6_writeRegion_184 : decode cX6_writeRegion 184 = .ok (.iload_n 1, 1) := dk_27 (dk_at dksX6_writeRegion_7 18 rfl rfl)
theorem dX6_writeRegion_185 : decode cX6_writeRegion 185 = .ok (.invokevirtual 169, 3) := dk_182 0 169 (dk_at dksX6_writeRegion_7 19 rfl rfl)
theorem dX6_writeRegion_188 : decode cX6_writeRegion 188 = .ok (.ifCond .eq 22, 3) := dk_153 0 22 (dk_at dksX6_writeRegion_8 0 rfl rfl)
theorem dX6_writeRegion_191 : decode cX6_writeRegion 191 = .ok (.aload_n 0, 1) := dk_42 (dk_at dksX6_writeRegion_8 3 rfl rfl)
theorem dX6_writeRegion_192 : decode cX6_writeRegion 192 = .ok (.sipush 255, 3) := dk_17 0 255 (dk_at dksX6_writeRegion_8 4 rfl rfl)
theorem dX6_writeRegion_195 : decode cX6_writeRegion 195 = .ok (.invokevirtual 162, 3) := dk_182 0 162 (dk_at dksX6_writeRegion_8 7 rfl rfl)
theorem dX6_writeRegion_198 : decode cX6_writeRegion 198 = .ok (.aload_n 0, 1) := dk_42 (dk_at dksX6_writeRegion_8 10 rfl rfl)
theorem dX6_writeRegion_199 : decode cX6_writeRegion 199 = .ok (.sipush 172, 3) := dk_17 0 172 (dk_at dksX6_writeRegion_8 11 rfl rfl)
theorem dX6_writeRegion_202 : decode cX6_writeRegion 202 = .ok (.invokevirtual 162, 3) := dk_182 0 162 (dk_at dksX6_writeRegion_8 14 rfl rfl)
theorem dX6_writeRegion_205 : decode cX6_writeRegion 205 = .ok (.aload_n 0, 1) := dk_42 (dk_at dksX6_writeRegion_8 17 rfl rfl)
theorem dX6_writeRegion_206 : decode cX6_writeRegion 206 = .ok (.iload_n 3, 1) := dk_29 (dk_at dksX6_writeRegion_8 18 rfl rfl)
theorem dX6_writeRegion_207 : decode cX6_writeRegion 207 = .ok (.invokevirtual 166, 3) := dk_182 0 166 (dk_at dksX6_writeRegion_8 19 rfl rfl)
theorem dX6_writeRegion_210 : decode cX6_writeRegion 210 = .ok (.return_, 1) := dk_177 (dk_at dksX6_writeRegion_8 22 rfl rfl)
abbrev cX6_byteAt : ByteArray := prog_8_method_29_code
def yX6_byteAt : MethodName := ⟨RX6, "byteAt", "(I)I"⟩
def dkwX6_byteAt_1 : List UInt8 := [180, 0, 37, 27, 46, 167, 0, 4, 3, 172]
abbrev dktX6_byteAt_1 : List UInt8 := dkwX6_byteAt_1 ++ []
def dkwX6_byteAt_0 : List UInt8 := [42, 27, 3, 42, 180, 0, 159, 4, 100, 184, 0, 121, 4, 4, 4, 182, 0, 129, 153, 0, 12, 42]
abbrev dktX6_byteAt_0 : List UInt8 := dkwX6_byteAt_0 ++ dktX6_byteAt_1
theorem dksX6_byteAt_0 : cX6_byteAt.data.toList.drop 0 = dktX6_byteAt_0 := by decide +kernel
theorem dksX6_byteAt_1 : cX6_byteAt.data.toList.drop 22 = dktX6_byteAt_1 := dk_seg dksX6_byteAt_0 22 rfl rfl
theorem dX6_byteAt_0 : decode cX6_byteAt 0 = .ok (.aload_n 0, 1) := dk_42 (dk_at dksX6_byteAt_0 0 rfl rfl)
theorem dX6_byteAt_1 : decode cX6_byteAt 1 = .ok (.iload_n 1, 1) := dk_27 (dk_at dksX6_byteAt_0 1 rfl rfl)
theorem dX6_byteAt_2 : decode cX6_byteAt 2 = .ok (.iconst 0, 1) := dk_3 (dk_at dksX6_byteAt_0 2 rfl rfl)
theorem dX6_byteAt_3 : decode cX6_byteAt 3 = .ok (.aload_n 0, 1) := dk_42 (dk_at dksX6_byteAt_0 3 rfl rfl)
theorem dX6_byteAt_4 : decode cX6_byteAt 4 = .ok (.getfield 159, 3) := dk_180 0 159 (dk_at dksX6_byteAt_0 4 rfl rfl)
theorem dX6_byteAt_7 : decode cX6_byteAt 7 = .ok (.iconst 1, 1) := dk_4 (dk_at dksX6_byteAt_0 7 rfl rfl)
theorem dX6_byteAt_8 : decode cX6_byteAt 8 = .ok (.isub, 1) := dk_100 (dk_at dksX6_byteAt_0 8 rfl rfl)
theorem dX6_byteAt_9 : decode cX6_byteAt 9 = .ok (.invokestatic 121, 3) := dk_184 0 121 (dk_at dksX6_byteAt_0 9 rfl rfl)
theorem dX6_byteAt_12 : decode cX6_byteAt 12 = .ok (.iconst 1, 1) := dk_4 (dk_at dksX6_byteAt_0 12 rfl rfl)
theorem dX6_byteAt_13 : decode cX6_byteAt 13 = .ok (.iconst 1, 1) := dk_4 (dk_at dksX6_byteAt_0 13 rfl rfl)
theorem dX6_byteAt_14 : decode cX6_byteAt 14 = .ok (.iconst 1, 1) := dk_4 (dk_at dksX6_byteAt_0 14 rfl rfl)
theorem dX6_byteAt_15 : decode cX6_byteAt 15 = .ok (.invokevirtual 129, 3) := dk_182 0 129 (dk_at dksX6_byteAt_0 15 rfl rfl)
theorem dX6_byteAt_18 : decode cX6_byteAt 18 = .ok (.ifCond .eq 12, 3) := dk_153 0 12 (dk_at dksX6_byteAt_0 18 rfl rfl)
theorem dX6_byteAt_21 : decode cX6_byteAt 21 = .ok (.aload_n 0, 1) := dk_42 (dk_at dksX6_byteAt_0 21 rfl rfl)
theorem dX6_byteAt_22 : decode cX6_byteAt 22 = .ok (.getfield 37, 3) := dk_180 0 37 (dk_at dksX6_byteAt_1 0 rfl rfl)
theorem dX6_byteAt_25 : decode cX6_byteAt 25 = .ok (.iload_n 1, 1) := dk_27 (dk_at dksX6_byteAt_1 3 rfl rfl)
theorem dX6_byteAt_26 : decode cX6_byteAt 26 = .ok (.iaload, 1) := dk_46 (dk_at dksX6_byteAt_1 4 rfl rfl)
theorem dX6_byteAt_27 : decode cX6_byteAt 27 = .ok (.goto 4, 3) := dk_167 0 4 (dk_at dksX6_byteAt_1 5 rfl rfl)
theorem dX6_byteAt_30 : decode cX6_byteAt 30 = .ok (.iconst 0, 1) := dk_3 (dk_at dksX6_byteAt_1 8 rfl rfl)
theorem dX6_byteAt_31 : decode cX6_byteAt 31 = .ok (.ireturn, 1) := dk_172 (dk_at dksX6_byteAt_1 9 rfl rfl)
abbrev cX6_feed : ByteArray := prog_8_method_30_code
def yX6_feed : MethodName := ⟨RX6, "feed", "(IZ)I"⟩
def dkwX6_feed_5 : List UInt8 := [180, 0, 191, 172]
abbrev dktX6_feed_5 : List UInt8 := dkwX6_feed_5 ++ []
def dkwX6_feed_4 : List UInt8 := [42, 89, 180, 0, 191, 4, 96, 181, 0, 191, 28, 153, 0, 10, 42, 180, 0, 188, 167, 0, 7, 42]
abbrev dktX6_feed_4 : List UInt8 := dkwX6_feed_4 ++ dktX6_feed_5
def dkwX6_feed_3 : List UInt8 := [79, 42, 89, 180, 0, 188, 4, 96, 181, 0, 188, 167, 0, 23, 42, 180, 0, 43, 42, 180, 0, 191, 27, 79]
abbrev dktX6_feed_3 : List UInt8 := dkwX6_feed_3 ++ dktX6_feed_4
def dkwX6_feed_2 : List UInt8 := [3, 4, 4, 182, 0, 129, 154, 0, 5, 3, 172, 28, 153, 0, 26, 42, 180, 0, 40, 42, 180, 0, 188, 27]
abbrev dktX6_feed_2 : List UInt8 := dkwX6_feed_2 ++ dktX6_feed_3
def dkwX6_feed_1 : List UInt8 := [4, 167, 0, 4, 3, 42, 180, 0, 188, 42, 180, 0, 191, 96, 17, 11, 184, 162, 0, 7, 4, 167, 0, 4]
abbrev dktX6_feed_1 : List UInt8 := dkwX6_feed_1 ++ dktX6_feed_2
def dkwX6_feed_0 : List UInt8 := [42, 27, 3, 17, 0, 255, 184, 0, 121, 153, 0, 19, 28, 153, 0, 11, 42, 180, 0, 111, 5, 160, 0, 7]
abbrev dktX6_feed_0 : List UInt8 := dkwX6_feed_0 ++ dktX6_feed_1
theorem dksX6_feed_0 : cX6_feed.data.toList.drop 0 = dktX6_feed_0 := by decide +kernel
theorem dksX6_feed_1 : cX6_feed.data.toList.drop 24 = dktX6_feed_1 := dk_seg dksX6_feed_0 24 rfl rfl
theorem dksX6_feed_2 : cX6_feed.data.toList.drop 48 = dktX6_feed_2 := dk_seg dksX6_feed_1 24 rfl rfl
theorem dksX6_feed_3 : cX6_feed.data.toList.drop 72 = dktX6_feed_3 := dk_seg dksX6_feed_2 24 rfl rfl
theorem dksX6_feed_4 : cX6_feed.data.toList.drop 96 = dktX6_feed_4 := dk_seg dksX6_feed_3 24 rfl rfl
theorem dksX6_feed_5 : cX6_feed.data.toList.drop 118 = dktX6_feed_5 := dk_seg dksX6_feed_4 22 rfl rfl
theorem dX6_feed_0 : decode cX6_feed 0 = .ok (.aload_n 0, 1) := dk_42 (dk_at dksX6_feed_0 0 rfl rfl)
theorem dX6_feed_1 : decode cX6_feed 1 = .ok (.iload_n 1, 1) := dk_27 (dk_at dksX6_feed_0 1 rfl rfl)
theorem dX6_feed_2 : decode cX6_feed 2 = .ok (.iconst 0, 1) := dk_3 (dk_at dksX6_feed_0 2 rfl rfl)
theorem dX6_feed_3 : decode cX6_feed 3 = .ok (.sipush 255, 3) := dk_17 0 255 (dk_at dksX6_feed_0 3 rfl rfl)
theorem dX6_feed_6 : decode cX6_feed 6 = .ok (.invokestatic 121, 3) := dk_184 0 121 (dk_at dksX6_feed_0 6 rfl rfl)
theorem dX6_feed_9 : decode cX6_feed 9 = .ok (.ifCond .eq 19, 3) := dk_153 0 19 (dk_at dksX6_feed_0 9 rfl rfl)
theorem dX6_feed_12 : decode cX6_feed 12 = .ok (.iload_n 2, 1) := dk_28 (dk_at dksX6_feed_0 12 rfl rfl)
theorem dX6_feed_13 : decode cX6_feed 13 = .ok (.ifCond .eq 11, 3) := dk_153 0 11 (dk_at dksX6_feed_0 13 rfl rfl)
theorem dX6_feed_16 : decode cX6_feed 16 = .ok (.aload_n 0, 1) := dk_42 (dk_at dksX6_feed_0 16 rfl rfl)
theorem dX6_feed_17 : decode cX6_feed 17 = .ok (.getfield 111, 3) := dk_180 0 111 (dk_at dksX6_feed_0 17 rfl rfl)
theorem dX6_feed_20 : decode cX6_feed 20 = .ok (.iconst 2, 1) := dk_5 (dk_at dksX6_feed_0 20 rfl rfl)
theorem dX6_feed_21 : decode cX6_feed 21 = .ok (.if_icmp .ne 7, 3) := dk_160 0 7 (dk_at dksX6_feed_0 21 rfl rfl)
theorem dX6_feed_24 : decode cX6_feed 24 = .ok (.iconst 1, 1) := dk_4 (dk_at dksX6_feed_1 0 rfl rfl)
theorem dX6_feed_25 : decode cX6_feed 25 = .ok (.goto 4, 3) := dk_167 0 4 (dk_at dksX6_feed_1 1 rfl rfl)
theorem dX6_feed_28 : decode cX6_feed 28 = .ok (.iconst 0, 1) := dk_3 (dk_at dksX6_feed_1 4 rfl rfl)
theorem dX6_feed_29 : decode cX6_feed 29 = .ok (.aload_n 0, 1) := dk_42 (dk_at dksX6_feed_1 5 rfl rfl)
theorem dX6_feed_30 : decode cX6_feed 30 = .ok (.getfield 188, 3) := dk_180 0 188 (dk_at dksX6_feed_1 6 rfl rfl)
theorem dX6_feed_33 : decode cX6_feed 33 = .ok (.aload_n 0, 1) := dk_42 (dk_at dksX6_feed_1 9 rfl rfl)
theorem dX6_feed_34 : decode cX6_feed 34 = .ok (.getfield 191, 3) := dk_180 0 191 (dk_at dksX6_feed_1 10 rfl rfl)
theorem dX6_feed_37 : decode cX6_feed 37 = .ok (.iadd, 1) := dk_96 (dk_at dksX6_feed_1 13 rfl rfl)
theorem dX6_feed_38 : decode cX6_feed 38 = .ok (.sipush 3000, 3) := dk_17 11 184 (dk_at dksX6_feed_1 14 rfl rfl)
theorem dX6_feed_41 : decode cX6_feed 41 = .ok (.if_icmp .ge 7, 3) := dk_162 0 7 (dk_at dksX6_feed_1 17 rfl rfl)
theorem dX6_feed_44 : decode cX6_feed 44 = .ok (.iconst 1, 1) := dk_4 (dk_at dksX6_feed_1 20 rfl rfl)
theorem dX6_feed_45 : decode cX6_feed 45 = .ok (.goto 4, 3) := dk_167 0 4 (dk_at dksX6_feed_1 21 rfl rfl)
theorem dX6_feed_48 : decode cX6_feed 48 = .ok (.iconst 0, 1) := dk_3 (dk_at dksX6_feed_2 0 rfl rfl)
theorem dX6_feed_49 : decode cX6_feed 49 = .ok (.iconst 1, 1) := dk_4 (dk_at dksX6_feed_2 1 rfl rfl)
theorem dX6_feed_50 : decode cX6_feed 50 = .ok (.iconst 1, 1) := dk_4 (dk_at dksX6_feed_2 2 rfl rfl)
theorem dX6_feed_51 : decode cX6_feed 51 = .ok (.invokevirtual 129, 3) := dk_182 0 129 (dk_at dksX6_feed_2 3 rfl rfl)
theorem dX6_feed_54 : decode cX6_feed 54 = .ok (.ifCond .ne 5, 3) := dk_154 0 5 (dk_at dksX6_feed_2 6 rfl rfl)
theorem dX6_feed_57 : decode cX6_feed 57 = .ok (.iconst 0, 1) := dk_3 (dk_at dksX6_feed_2 9 rfl rfl)
theorem dX6_feed_58 : decode cX6_feed 58 = .ok (.ireturn, 1) := dk_172 (dk_at dksX6_feed_2 10 rfl rfl)
theorem dX6_feed_59 : decode cX6_feed 59 = .ok (.iload_n 2, 1) := dk_28 (dk_at dksX6_feed_2 11 rfl rfl)
theorem dX6_feed_60 : decode cX6_feed 60 = .ok (.ifCond .eq 26, 3) := dk_153 0 26 (dk_at dksX6_feed_2 12 rfl rfl)
theorem dX6_feed_63 : decode cX6_feed 63 = .ok (.aload_n 0, 1) := dk_42 (dk_at dksX6_feed_2 15 rfl rfl)
theorem dX6_feed_64 : decode cX6_feed 64 = .ok (.getfield 40, 3) := dk_180 0 40 (dk_at dksX6_feed_2 16 rfl rfl)
theorem dX6_feed_67 : decode cX6_feed 67 = .ok (.aload_n 0, 1) := dk_42 (dk_at dksX6_feed_2 19 rfl rfl)
theorem dX6_feed_68 : decode cX6_feed 68 = .ok (.getfield 188, 3) := dk_180 0 188 (dk_at dksX6_feed_2 20 rfl rfl)
theorem dX6_feed_71 : decode cX6_feed 71 = .ok (.iload_n 1, 1) := dk_27 (dk_at dksX6_feed_2 23 rfl rfl)
theorem dX6_feed_72 : decode cX6_feed 72 = .ok (.iastore, 1) := dk_79 (dk_at dksX6_feed_3 0 rfl rfl)
theorem dX6_feed_73 : decode cX6_feed 73 = .ok (.aload_n 0, 1) := dk_42 (dk_at dksX6_feed_3 1 rfl rfl)
theorem dX6_feed_74 : decode cX6_feed 74 = .ok (.dup, 1) := dk_89 (dk_at dksX6_feed_3 2 rfl rfl)
theorem dX6_feed_75 : decode cX6_feed 75 = .ok (.getfield 188, 3) := dk_180 0 188 (dk_at dksX6_feed_3 3 rfl rfl)
theorem dX6_feed_78 : decode cX6_feed 78 = .ok (.iconst 1, 1) := dk_4 (dk_at dksX6_feed_3 6 rfl rfl)
theorem dX6_feed_79 : decode cX6_feed 79 = .ok (.iadd, 1) := dk_96 (dk_at dksX6_feed_3 7 rfl rfl)
theorem dX6_feed_80 : decode cX6_feed 80 = .ok (.putfield 188, 3) := dk_181 0 188 (dk_at dksX6_feed_3 8 rfl rfl)
theorem dX6_feed_83 : decode cX6_feed 83 = .ok (.goto 23, 3) := dk_167 0 23 (dk_at dksX6_feed_3 11 rfl rfl)
theorem dX6_feed_86 : decode cX6_feed 86 = .ok (.aload_n 0, 1) := dk_42 (dk_at dksX6_feed_3 14 rfl rfl)
theorem dX6_feed_87 : decode cX6_feed 87 = .ok (.getfield 43, 3) := dk_180 0 43 (dk_at dksX6_feed_3 15 rfl rfl)
theorem dX6_feed_90 : decode cX6_feed 90 = .ok (.aload_n 0, 1) := dk_42 (dk_at dksX6_feed_3 18 rfl rfl)
theorem dX6_feed_91 : decode cX6_feed 91 = .ok (.getfield 191, 3) := dk_180 0 191 (dk_at dksX6_feed_3 19 rfl rfl)
theorem dX6_feed_94 : decode cX6_feed 94 = .ok (.iload_n 1, 1) := dk_27 (dk_at dksX6_feed_3 22 rfl rfl)
theorem dX6_feed_95 : decode cX6_feed 95 = .ok (.iastore, 1) := dk_79 (dk_at dksX6_feed_3 23 rfl rfl)
theorem dX6_feed_96 : decode cX6_feed 96 = .ok (.aload_n 0, 1) := dk_42 (dk_at dksX6_feed_4 0 rfl rfl)
theorem dX6_feed_97 : decode cX6_feed 97 = .ok (.dup, 1) := dk_89 (dk_at dksX6_feed_4 1 rfl rfl)
theorem dX6_feed_98 : decode cX6_feed 98 = .ok (.getfield 191, 3) := dk_180 0 191 (dk_at dksX6_feed_4 2 rfl rfl)
theorem dX6_feed_101 : decode cX6_feed 101 = .ok (.iconst 1, 1) := dk_4 (dk_at dksX6_feed_4 5 rfl rfl)
theorem dX6_feed_102 : decode cX6_feed 102 = .ok (.iadd, 1) := dk_96 (dk_at dksX6_feed_4 6 rfl rfl)
theorem dX6_feed_103 : decode cX6_feed 103 = .ok (.putfield 191, 3) := dk_181 0 191 (dk_at dksX6_feed_4 7 rfl rfl)
theorem dX6_feed_106 : decode cX6_feed 106 = .ok (.iload_n 2, 1) := dk_28 (dk_at dksX6_feed_4 10 rfl rfl)
theorem dX6_feed_107 : decode cX6_feed 107 = .ok (.ifCond .eq 10, 3) := dk_153 0 10 (dk_at dksX6_feed_4 11 rfl rfl)
theorem dX6_feed_110 : decode cX6_feed 110 = .ok (.aload_n 0, 1) := dk_42 (dk_at dksX6_feed_4 14 rfl rfl)
theorem dX6_feed_111 : decode cX6_feed 111 = .ok (.getfield 188, 3) := dk_180 0 188 (dk_at dksX6_feed_4 15 rfl rfl)
theorem dX6_feed_114 : decode cX6_feed 114 = .ok (.goto 7, 3) := dk_167 0 7 (dk_at dksX6_feed_4 18 rfl rfl)
theorem dX6_feed_117 : decode cX6_feed 117 = .ok (.aload_n 0, 1) := dk_42 (dk_at dksX6_feed_4 21 rfl rfl)
theorem dX6_feed_118 : decode cX6_feed 118 = .ok (.getfield 191, 3) := dk_180 0 191 (dk_at dksX6_feed_5 0 rfl rfl)
theorem dX6_feed_121 : decode cX6_feed 121 = .ok (.ireturn, 1) := dk_172 (dk_at dksX6_feed_5 3 rfl rfl)
abbrev cX6_pass : ByteArray := prog_8_method_31_code
def yX6_pass : MethodName := ⟨RX6, "pass", "(Z)I"⟩
def dkwX6_pass_7 : List UInt8 := [180, 0, 191, 172]
abbrev dktX6_pass_7 : List UInt8 := dkwX6_pass_7 ++ []
def dkwX6_pass_6 : List UInt8 := [3, 167, 0, 7, 42, 180, 0, 159, 96, 181, 0, 191, 27, 153, 0, 10, 42, 180, 0, 188, 167, 0, 7, 42]
abbrev dktX6_pass_6 : List UInt8 := dkwX6_pass_6 ++ dktX6_pass_7
def dkwX6_pass_5 : List UInt8 := [153, 0, 10, 42, 180, 0, 159, 167, 0, 4, 3, 96, 181, 0, 188, 42, 89, 180, 0, 191, 27, 153, 0, 7]
abbrev dktX6_pass_5 : List UInt8 := dkwX6_pass_5 ++ dktX6_pass_6
def dkwX6_pass_4 : List UInt8 := [180, 0, 191, 28, 96, 42, 180, 0, 37, 28, 46, 79, 132, 2, 1, 167, 255, 204, 42, 89, 180, 0, 188, 27]
abbrev dktX6_pass_4 : List UInt8 := dkwX6_pass_4 ++ dktX6_pass_5
def dkwX6_pass_3 : List UInt8 := [180, 0, 40, 42, 180, 0, 188, 28, 96, 42, 180, 0, 37, 28, 46, 79, 167, 0, 20, 42, 180, 0, 43, 42]
abbrev dktX6_pass_3 : List UInt8 := dkwX6_pass_3 ++ dktX6_pass_4
def dkwX6_pass_2 : List UInt8 := [182, 0, 129, 154, 0, 5, 3, 172, 3, 61, 28, 42, 180, 0, 159, 162, 0, 50, 27, 153, 0, 23, 42]
abbrev dktX6_pass_2 : List UInt8 := dkwX6_pass_2 ++ dktX6_pass_3
def dkwX6_pass_1 : List UInt8 := [180, 0, 191, 96, 42, 180, 0, 159, 96, 17, 11, 184, 163, 0, 7, 4, 167, 0, 4, 3, 4, 4]
abbrev dktX6_pass_1 : List UInt8 := dkwX6_pass_1 ++ dktX6_pass_2
def dkwX6_pass_0 : List UInt8 := [42, 27, 153, 0, 11, 42, 180, 0, 111, 5, 160, 0, 7, 4, 167, 0, 4, 3, 42, 180, 0, 188, 42]
abbrev dktX6_pass_0 : List UInt8 := dkwX6_pass_0 ++ dktX6_pass_1
theorem dksX6_pass_0 : cX6_pass.data.toList.drop 0 = dktX6_pass_0 := by decide +kernel
theorem dksX6_pass_1 : cX6_pass.data.toList.drop 23 = dktX6_pass_1 := dk_seg dksX6_pass_0 23 rfl rfl
theorem dksX6_pass_2 : cX6_pass.data.toList.drop 45 = dktX6_pass_2 := dk_seg dksX6_pass_1 22 rfl rfl
theorem dksX6_pass_3 : cX6_pass.data.toList.drop 68 = dktX6_pass_3 := dk_seg dksX6_pass_2 23 rfl rfl
theorem dksX6_pass_4 : cX6_pass.data.toList.drop 92 = dktX6_pass_4 := dk_seg dksX6_pass_3 24 rfl rfl
theorem dksX6_pass_5 : cX6_pass.data.toList.drop 116 = dktX6_pass_5 := dk_seg dksX6_pass_4 24 rfl rfl
theorem dksX6_pass_6 : cX6_pass.data.toList.drop 140 = dktX6_pass_6 := dk_seg dksX6_pass_5 24 rfl rfl
theorem dksX6_pass_7 : cX6_pass.data.toList.drop 164 = dktX6_pass_7 := dk_seg dksX6_pass_6 24 rfl rfl
theorem dX6_pass_0 : decode cX6_pass 0 = .ok (.aload_n 0, 1) := dk_42 (dk_at dksX6_pass_0 0 rfl rfl)
theorem dX6_pass_1 : decode cX6_pass 1 = .ok (.iload_n 1, 1) := dk_27 (dk_at dksX6_pass_0 1 rfl rfl)
theorem dX6_pass_2 : decode cX6_pass 2 = .ok (.ifCond .eq 11, 3) := dk_153 0 11 (dk_at dksX6_pass_0 2 rfl rfl)
theorem dX6_pass_5 : decode cX6_pass 5 = .ok (.aload_n 0, 1) := dk_42 (dk_at dksX6_pass_0 5 rfl rfl)
theorem dX6_pass_6 : decode cX6_pass 6 = .ok (.getfield 111, 3) := dk_180 0 111 (dk_at dksX6_pass_0 6 rfl rfl)
theorem dX6_pass_9 : decode cX6_pass 9 = .ok (.iconst 2, 1) := dk_5 (dk_at dksX6_pass_0 9 rfl rfl)
theorem dX6_pass_10 : decode cX6_pass 10 = .ok (.if_icmp .ne 7, 3) := dk_160 0 7 (dk_at dksX6_pass_0 10 rfl rfl)
theorem dX6_pass_13 : decode cX6_pass 13 = .ok (.iconst 1, 1) := dk_4 (dk_at dksX6_pass_0 13 rfl rfl)
theorem dX6_pass_14 : decode cX6_pass 14 = .ok (.goto 4, 3) := dk_167 0 4 (dk_at dksX6_pass_0 14 rfl rfl)
theorem dX6_pass_17 : decode cX6_pass 17 = .ok (.iconst 0, 1) := dk_3 (dk_at dksX6_pass_0 17 rfl rfl)
theorem dX6_pass_18 : decode cX6_pass 18 = .ok (.aload_n 0, 1) := dk_42 (dk_at dksX6_pass_0 18 rfl rfl)
theorem dX6_pass_19 : decode cX6_pass 19 = .ok (.getfield 188, 3) := dk_180 0 188 (dk_at dksX6_pass_0 19 rfl rfl)
theorem dX6_pass_22 : decode cX6_pass 22 = .ok (.aload_n 0, 1) := dk_42 (dk_at dksX6_pass_0 22 rfl rfl)
theorem dX6_pass_23 : decode cX6_pass 23 = .ok (.getfield 191, 3) := dk_180 0 191 (dk_at dksX6_pass_1 0 rfl rfl)
theorem dX6_pass_26 : decode cX6_pass 26 = .ok (.iadd, 1) := dk_96 (dk_at dksX6_pass_1 3 rfl rfl)
theorem dX6_pass_27 : decode cX6_pass 27 = .ok (.aload_n 0, 1) := dk_42 (dk_at dksX6_pass_1 4 rfl rfl)
theorem dX6_pass_28 : decode cX6_pass 28 = .ok (.getfield 159, 3) := dk_180 0 159 (dk_at dksX6_pass_1 5 rfl rfl)
theorem dX6_pass_31 : decode cX6_pass 31 = .ok (.iadd, 1) := dk_96 (dk_at dksX6_pass_1 8 rfl rfl)
theorem dX6_pass_32 : decode cX6_pass 32 = .ok (.sipush 3000, 3) := dk_17 11 184 (dk_at dksX6_pass_1 9 rfl rfl)
theorem dX6_pass_35 : decode cX6_pass 35 = .ok (.if_icmp .gt 7, 3) := dk_163 0 7 (dk_at dksX6_pass_1 12 rfl rfl)
theorem dX6_pass_38 : decode cX6_pass 38 = .ok (.iconst 1, 1) := dk_4 (dk_at dksX6_pass_1 15 rfl rfl)
theorem dX6_pass_39 : decode cX6_pass 39 = .ok (.goto 4, 3) := dk_167 0 4 (dk_at dksX6_pass_1 16 rfl rfl)
theorem dX6_pass_42 : decode cX6_pass 42 = .ok (.iconst 0, 1) := dk_3 (dk_at dksX6_pass_1 19 rfl rfl)
theorem dX6_pass_43 : decode cX6_pass 43 = .ok (.iconst 1, 1) := dk_4 (dk_at dksX6_pass_1 20 rfl rfl)
theorem dX6_pass_44 : decode cX6_pass 44 = .ok (.iconst 1, 1) := dk_4 (dk_at dksX6_pass_1 21 rfl rfl)
theorem dX6_pass_45 : decode cX6_pass 45 = .ok (.invokevirtual 129, 3) := dk_182 0 129 (dk_at dksX6_pass_2 0 rfl rfl)
theorem dX6_pass_48 : decode cX6_pass 48 = .ok (.ifCond .ne 5, 3) := dk_154 0 5 (dk_at dksX6_pass_2 3 rfl rfl)
theorem dX6_pass_51 : decode cX6_pass 51 = .ok (.iconst 0, 1) := dk_3 (dk_at dksX6_pass_2 6 rfl rfl)
theorem dX6_pass_52 : decode cX6_pass 52 = .ok (.ireturn, 1) := dk_172 (dk_at dksX6_pass_2 7 rfl rfl)
theorem dX6_pass_53 : decode cX6_pass 53 = .ok (.iconst 0, 1) := dk_3 (dk_at dksX6_pass_2 8 rfl rfl)
theorem dX6_pass_54 : decode cX6_pass 54 = .ok (.istore_n 2, 1) := dk_61 (dk_at dksX6_pass_2 9 rfl rfl)
theorem dX6_pass_55 : decode cX6_pass 55 = .ok (.iload_n 2, 1) := dk_28 (dk_at dksX6_pass_2 10 rfl rfl)
theorem dX6_pass_56 : decode cX6_pass 56 = .ok (.aload_n 0, 1) := dk_42 (dk_at dksX6_pass_2 11 rfl rfl)
theorem dX6_pass_57 : decode cX6_pass 57 = .ok (.getfield 159, 3) := dk_180 0 159 (dk_at dksX6_pass_2 12 rfl rfl)
theorem dX6_pass_60 : decode cX6_pass 60 = .ok (.if_icmp .ge 50, 3) := dk_162 0 50 (dk_at dksX6_pass_2 15 rfl rfl)
theorem dX6_pass_63 : decode cX6_pass 63 = .ok (.iload_n 1, 1) := dk_27 (dk_at dksX6_pass_2 18 rfl rfl)
theorem dX6_pass_64 : decode cX6_pass 64 = .ok (.ifCond .eq 23, 3) := dk_153 0 23 (dk_at dksX6_pass_2 19 rfl rfl)
theorem dX6_pass_67 : decode cX6_pass 67 = .ok (.aload_n 0, 1) := dk_42 (dk_at dksX6_pass_2 22 rfl rfl)
theorem dX6_pass_68 : decode cX6_pass 68 = .ok (.getfield 40, 3) := dk_180 0 40 (dk_at dksX6_pass_3 0 rfl rfl)
theorem dX6_pass_71 : decode cX6_pass 71 = .ok (.aload_n 0, 1) := dk_42 (dk_at dksX6_pass_3 3 rfl rfl)
theorem dX6_pass_72 : decode cX6_pass 72 = .ok (.getfield 188, 3) := dk_180 0 188 (dk_at dksX6_pass_3 4 rfl rfl)
theorem dX6_pass_75 : decode cX6_pass 75 = .ok (.iload_n 2, 1) := dk_28 (dk_at dksX6_pass_3 7 rfl rfl)
theorem dX6_pass_76 : decode cX6_pass 76 = .ok (.iadd, 1) := dk_96 (dk_at dksX6_pass_3 8 rfl rfl)
theorem dX6_pass_77 : decode cX6_pass 77 = .ok (.aload_n 0, 1) := dk_42 (dk_at dksX6_pass_3 9 rfl rfl)
theorem dX6_pass_78 : decode cX6_pass 78 = .ok (.getfield 37, 3) := dk_180 0 37 (dk_at dksX6_pass_3 10 rfl rfl)
theorem dX6_pass_81 : decode cX6_pass 81 = .ok (.iload_n 2, 1) := dk_28 (dk_at dksX6_pass_3 13 rfl rfl)
theorem dX6_pass_82 : decode cX6_pass 82 = .ok (.iaload, 1) := dk_46 (dk_at dksX6_pass_3 14 rfl rfl)
theorem dX6_pass_83 : decode cX6_pass 83 = .ok (.iastore, 1) := dk_79 (dk_at dksX6_pass_3 15 rfl rfl)
theorem dX6_pass_84 : decode cX6_pass 84 = .ok (.goto 20, 3) := dk_167 0 20 (dk_at dksX6_pass_3 16 rfl rfl)
theorem dX6_pass_87 : decode cX6_pass 87 = .ok (.aload_n 0, 1) := dk_42 (dk_at dksX6_pass_3 19 rfl rfl)
theorem dX6_pass_88 : decode cX6_pass 88 = .ok (.getfield 43, 3) := dk_180 0 43 (dk_at dksX6_pass_3 20 rfl rfl)
theorem dX6_pass_91 : decode cX6_pass 91 = .ok (.aload_n 0, 1) := dk_42 (dk_at dksX6_pass_3 23 rfl rfl)
theorem dX6_pass_92 : decode cX6_pass 92 = .ok (.getfield 191, 3) := dk_180 0 191 (dk_at dksX6_pass_4 0 rfl rfl)
theorem dX6_pass_95 : decode cX6_pass 95 = .ok (.iload_n 2, 1) := dk_28 (dk_at dksX6_pass_4 3 rfl rfl)
theorem dX6_pass_96 : decode cX6_pass 96 = .ok (.iadd, 1) := dk_96 (dk_at dksX6_pass_4 4 rfl rfl)
theorem dX6_pass_97 : decode cX6_pass 97 = .ok (.aload_n 0, 1) := dk_42 (dk_at dksX6_pass_4 5 rfl rfl)
theorem dX6_pass_98 : decode cX6_pass 98 = .ok (.getfield 37, 3) := dk_180 0 37 (dk_at dksX6_pass_4 6 rfl rfl)
theorem dX6_pass_101 : decode cX6_pass 101 = .ok (.iload_n 2, 1) := dk_28 (dk_at dksX6_pass_4 9 rfl rfl)
theorem dX6_pass_102 : decode cX6_pass 102 = .ok (.iaload, 1) := dk_46 (dk_at dksX6_pass_4 10 rfl rfl)
theorem dX6_pass_103 : decode cX6_pass 103 = .ok (.iastore, 1) := dk_79 (dk_at dksX6_pass_4 11 rfl rfl)
theorem dX6_pass_104 : decode cX6_pass 104 = .ok (.iinc 2 1, 3) := dk_132 2 1 (dk_at dksX6_pass_4 12 rfl rfl)
theorem dX6_pass_107 : decode cX6_pass 107 = .ok (.goto (-52), 3) := dk_167 255 204 (dk_at dksX6_pass_4 15 rfl rfl)
theorem dX6_pass_110 : decode cX6_pass 110 = .ok (.aload_n 0, 1) := dk_42 (dk_at dksX6_pass_4 18 rfl rfl)
theorem dX6_pass_111 : decode cX6_pass 111 = .ok (.dup, 1) := dk_89 (dk_at dksX6_pass_4 19 rfl rfl)
theorem dX6_pass_112 : decode cX6_pass 112 = .ok (.getfield 188, 3) := dk_180 0 188 (dk_at dksX6_pass_4 20 rfl rfl)
theorem dX6_pass_115 : decode cX6_pass 115 = .ok (.iload_n 1, 1) := dk_27 (dk_at dksX6_pass_4 23 rfl rfl)
theorem dX6_pass_116 : decode cX6_pass 116 = .ok (.ifCond .eq 10, 3) := dk_153 0 10 (dk_at dksX6_pass_5 0 rfl rfl)
theorem dX6_pass_119 : decode cX6_pass 119 = .ok (.aload_n 0, 1) := dk_42 (dk_at dksX6_pass_5 3 rfl rfl)
theorem dX6_pass_120 : decode cX6_pass 120 = .ok (.getfield 159, 3) := dk_180 0 159 (dk_at dksX6_pass_5 4 rfl rfl)
theorem dX6_pass_123 : decode cX6_pass 123 = .ok (.goto 4, 3) := dk_167 0 4 (dk_at dksX6_pass_5 7 rfl rfl)
theorem dX6_pass_126 : decode cX6_pass 126 = .ok (.iconst 0, 1) := dk_3 (dk_at dksX6_pass_5 10 rfl rfl)
theorem dX6_pass_127 : decode cX6_pass 127 = .ok (.iadd, 1) := dk_96 (dk_at dksX6_pass_5 11 rfl rfl)
theorem dX6_pass_128 : decode cX6_pass 128 = .ok (.putfield 188, 3) := dk_181 0 188 (dk_at dksX6_pass_5 12 rfl rfl)
theorem dX6_pass_131 : decode cX6_pass 131 = .ok (.aload_n 0, 1) := dk_42 (dk_at dksX6_pass_5 15 rfl rfl)
theorem dX6_pass_132 : decode cX6_pass 132 = .ok (.dup, 1) := dk_89 (dk_at dksX6_pass_5 16 rfl rfl)
theorem dX6_pass_133 : decode cX6_pass 133 = .ok (.getfield 191, 3) := dk_180 0 191 (dk_at dksX6_pass_5 17 rfl rfl)
theorem dX6_pass_136 : decode cX6_pass 136 = .ok (.iload_n 1, 1) := dk_27 (dk_at dksX6_pass_5 20 rfl rfl)
theorem dX6_pass_137 : decode cX6_pass 137 = .ok (.ifCond .eq 7, 3) := dk_153 0 7 (dk_at dksX6_pass_5 21 rfl rfl)
theorem dX6_pass_140 : decode cX6_pass 140 = .ok (.iconst 0, 1) := dk_3 (dk_at dksX6_pass_6 0 rfl rfl)
theorem dX6_pass_141 : decode cX6_pass 141 = .ok (.goto 7, 3) := dk_167 0 7 (dk_at dksX6_pass_6 1 rfl rfl)
theorem dX6_pass_144 : decode cX6_pass 144 = .ok (.aload_n 0, 1) := dk_42 (dk_at dksX6_pass_6 4 rfl rfl)
theorem dX6_pass_145 : decode cX6_pass 145 = .ok (.getfield 159, 3) := dk_180 0 159 (dk_at dksX6_pass_6 5 rfl rfl)
theorem dX6_pass_148 : decode cX6_pass 148 = .ok (.iadd, 1) := dk_96 (dk_at dksX6_pass_6 8 rfl rfl)
theorem dX6_pass_149 : decode cX6_pass 149 = .ok (.putfield 191, 3) := dk_181 0 191 (dk_at dksX6_pass_6 9 rfl rfl)
theorem dX6_pass_152 : decode cX6_pass 152 = .ok (.iload_n 1, 1) := dk_27 (dk_at dksX6_pass_6 12 rfl rfl)
theorem dX6_pass_153 : decode cX6_pass 153 = .ok (.ifCond .eq 10, 3) := dk_153 0 10 (dk_at dksX6_pass_6 13 rfl rfl)
theorem dX6_pass_156 : decode cX6_pass 156 = .ok (.aload_n 0, 1) := dk_42 (dk_at dksX6_pass_6 16 rfl rfl)
theorem dX6_pass_157 : decode cX6_pass 157 = .ok (.getfield 188, 3) := dk_180 0 188 (dk_at dksX6_pass_6 17 rfl rfl)
theorem dX6_pass_160 : decode cX6_pass 160 = .ok (.goto 7, 3) := dk_167 0 7 (dk_at dksX6_pass_6 20 rfl rfl)
theorem dX6_pass_163 : decode cX6_pass 163 = .ok (.aload_n 0, 1) := dk_42 (dk_at dksX6_pass_6 23 rfl rfl)
theorem dX6_pass_164 : decode cX6_pass 164 = .ok (.getfield 191, 3) := dk_180 0 191 (dk_at dksX6_pass_7 0 rfl rfl)
theorem dX6_pass_167 : decode cX6_pass 167 = .ok (.ireturn, 1) := dk_172 (dk_at dksX6_pass_7 3 rfl rfl)
abbrev cX6_alter : ByteArray := prog_8_method_32_code
def yX6_alter : MethodName := ⟨RX6, "alter", "(II)I"⟩
def dkwX6_alter_1 : List UInt8 := [182, 0, 129, 154, 0, 5, 3, 172, 42, 180, 0, 43, 27, 46, 62, 42, 180, 0, 43, 27, 28, 79, 29, 172]
abbrev dktX6_alter_1 : List UInt8 := dkwX6_alter_1 ++ []
def dkwX6_alter_0 : List UInt8 := [42, 27, 3, 42, 180, 0, 191, 4, 100, 184, 0, 121, 28, 3, 17, 0, 255, 184, 0, 121, 4, 4]
abbrev dktX6_alter_0 : List UInt8 := dkwX6_alter_0 ++ dktX6_alter_1
theorem dksX6_alter_0 : cX6_alter.data.toList.drop 0 = dktX6_alter_0 := by decide +kernel
theorem dksX6_alter_1 : cX6_alter.data.toList.drop 22 = dktX6_alter_1 := dk_seg dksX6_alter_0 22 rfl rfl
theorem dX6_alter_0 : decode cX6_alter 0 = .ok (.aload_n 0, 1) := dk_42 (dk_at dksX6_alter_0 0 rfl rfl)
theorem dX6_alter_1 : decode cX6_alter 1 = .ok (.iload_n 1, 1) := dk_27 (dk_at dksX6_alter_0 1 rfl rfl)
theorem dX6_alter_2 : decode cX6_alter 2 = .ok (.iconst 0, 1) := dk_3 (dk_at dksX6_alter_0 2 rfl rfl)
theorem dX6_alter_3 : decode cX6_alter 3 = .ok (.aload_n 0, 1) := dk_42 (dk_at dksX6_alter_0 3 rfl rfl)
theorem dX6_alter_4 : decode cX6_alter 4 = .ok (.getfield 191, 3) := dk_180 0 191 (dk_at dksX6_alter_0 4 rfl rfl)
theorem dX6_alter_7 : decode cX6_alter 7 = .ok (.iconst 1, 1) := dk_4 (dk_at dksX6_alter_0 7 rfl rfl)
theorem dX6_alter_8 : decode cX6_alter 8 = .ok (.isub, 1) := dk_100 (dk_at dksX6_alter_0 8 rfl rfl)
theorem dX6_alter_9 : decode cX6_alter 9 = .ok (.invokestatic 121, 3) := dk_184 0 121 (dk_at dksX6_alter_0 9 rfl rfl)
theorem dX6_alter_12 : decode cX6_alter 12 = .ok (.iload_n 2, 1) := dk_28 (dk_at dksX6_alter_0 12 rfl rfl)
theorem dX6_alter_13 : decode cX6_alter 13 = .ok (.iconst 0, 1) := dk_3 (dk_at dksX6_alter_0 13 rfl rfl)
theorem dX6_alter_14 : decode cX6_alter 14 = .ok (.sipush 255, 3) := dk_17 0 255 (dk_at dksX6_alter_0 14 rfl rfl)
theorem dX6_alter_17 : decode cX6_alter 17 = .ok (.invokestatic 121, 3) := dk_184 0 121 (dk_at dksX6_alter_0 17 rfl rfl)
theorem dX6_alter_20 : decode cX6_alter 20 = .ok (.iconst 1, 1) := dk_4 (dk_at dksX6_alter_0 20 rfl rfl)
theorem dX6_alter_21 : decode cX6_alter 21 = .ok (.iconst 1, 1) := dk_4 (dk_at dksX6_alter_0 21 rfl rfl)
theorem dX6_alter_22 : decode cX6_alter 22 = .ok (.invokevirtual 129, 3) := dk_182 0 129 (dk_at dksX6_alter_1 0 rfl rfl)
theorem dX6_alter_25 : decode cX6_alter 25 = .ok (.ifCond .ne 5, 3) := dk_154 0 5 (dk_at dksX6_alter_1 3 rfl rfl)
theorem dX6_alter_28 : decode cX6_alter 28 = .ok (.iconst 0, 1) := dk_3 (dk_at dksX6_alter_1 6 rfl rfl)
theorem dX6_alter_29 : decode cX6_alter 29 = .ok (.ireturn, 1) := dk_172 (dk_at dksX6_alter_1 7 rfl rfl)
theorem dX6_alter_30 : decode cX6_alter 30 = .ok (.aload_n 0, 1) := dk_42 (dk_at dksX6_alter_1 8 rfl rfl)
theorem dX6_alter_31 : decode cX6_alter 31 = .ok (.getfield 43, 3) := dk_180 0 43 (dk_at dksX6_alter_1 9 rfl rfl)
theorem dX6_alter_34 : decode cX6_alter 34 = .ok (.iload_n 1, 1) := dk_27 (dk_at dksX6_alter_1 12 rfl rfl)
theorem dX6_alter_35 : decode cX6_alter 35 = .ok (.iaload, 1) := dk_46 (dk_at dksX6_alter_1 13 rfl rfl)
theorem dX6_alter_36 : decode cX6_alter 36 = .ok (.istore_n 3, 1) := dk_62 (dk_at dksX6_alter_1 14 rfl rfl)
theorem dX6_alter_37 : decode cX6_alter 37 = .ok (.aload_n 0, 1) := dk_42 (dk_at dksX6_alter_1 15 rfl rfl)
theorem dX6_alter_38 : decode cX6_alter 38 = .ok (.getfield 43, 3) := dk_180 0 43 (dk_at dksX6_alter_1 16 rfl rfl)
theorem dX6_alter_41 : decode cX6_alter 41 = .ok (.iload_n 1, 1) := dk_27 (dk_at dksX6_alter_1 19 rfl rfl)
theorem dX6_alter_42 : decode cX6_alter 42 = .ok (.iload_n 2, 1) := dk_28 (dk_at dksX6_alter_1 20 rfl rfl)
theorem dX6_alter_43 : decode cX6_alter 43 = .ok (.iastore, 1) := dk_79 (dk_at dksX6_alter_1 21 rfl rfl)
theorem dX6_alter_44 : decode cX6_alter 44 = .ok (.iload_n 3, 1) := dk_29 (dk_at dksX6_alter_1 22 rfl rfl)
theorem dX6_alter_45 : decode cX6_alter 45 = .ok (.ireturn, 1) := dk_172 (dk_at dksX6_alter_1 23 rfl rfl)
abbrev cX6_read : ByteArray := prog_8_method_57_code
def yX6_read : MethodName := ⟨RX6, "read", "()I"⟩
def dkwX6_read_9 : List UInt8 := [2, 42, 180, 0, 197, 100, 172]
abbrev dktX6_read_9 : List UInt8 := dkwX6_read_9 ++ []
def dkwX6_read_8 : List UInt8 := [180, 1, 39, 167, 0, 4, 3, 181, 1, 65, 42, 180, 1, 61, 153, 0, 10, 42, 180, 1, 39, 167, 0, 9]
abbrev dktX6_read_8 : List UInt8 := dkwX6_read_8 ++ dktX6_read_9
def dkwX6_read_7 : List UInt8 := [42, 180, 0, 194, 154, 0, 7, 4, 167, 0, 4, 3, 181, 1, 61, 42, 42, 180, 1, 61, 153, 0, 10, 42]
abbrev dktX6_read_7 : List UInt8 := dkwX6_read_7 ++ dktX6_read_8
def dkwX6_read_6 : List UInt8 := [5, 160, 0, 10, 42, 182, 1, 52, 167, 0, 7, 42, 182, 1, 55, 42, 42, 180, 0, 194, 181, 1, 58, 42]
abbrev dktX6_read_6 : List UInt8 := dkwX6_read_6 ++ dktX6_read_7
def dkwX6_read_5 : List UInt8 := [60, 27, 16, 10, 162, 0, 16, 42, 180, 0, 89, 27, 3, 84, 132, 1, 1, 167, 255, 240, 42, 180, 0, 111]
abbrev dktX6_read_5 : List UInt8 := dkwX6_read_5 ++ dktX6_read_6
def dkwX6_read_4 : List UInt8 := [181, 0, 194, 42, 3, 181, 0, 206, 42, 3, 181, 0, 209, 42, 3, 181, 1, 39, 42, 3, 181, 0, 234, 3]
abbrev dktX6_read_4 : List UInt8 := dkwX6_read_4 ++ dktX6_read_5
def dkwX6_read_3 : List UInt8 := [180, 0, 43, 27, 46, 79, 42, 89, 180, 1, 42, 4, 96, 181, 1, 42, 132, 1, 1, 167, 255, 220, 42, 3]
abbrev dktX6_read_3 : List UInt8 := dkwX6_read_3 ++ dktX6_read_4
def dkwX6_read_2 : List UInt8 := [167, 255, 220, 3, 60, 27, 42, 180, 0, 191, 162, 0, 34, 42, 180, 0, 46, 42, 180, 1, 42, 42]
abbrev dktX6_read_2 : List UInt8 := dkwX6_read_2 ++ dktX6_read_3
def dkwX6_read_1 : List UInt8 := [42, 180, 1, 42, 42, 180, 0, 40, 27, 46, 79, 42, 89, 180, 1, 42, 4, 96, 181, 1, 42, 132, 1, 1]
abbrev dktX6_read_1 : List UInt8 := dkwX6_read_1 ++ dktX6_read_2
def dkwX6_read_0 : List UInt8 := [42, 3, 181, 0, 115, 42, 3, 181, 1, 42, 3, 60, 27, 42, 180, 0, 188, 162, 0, 34, 42, 180, 0, 46]
abbrev dktX6_read_0 : List UInt8 := dkwX6_read_0 ++ dktX6_read_1
theorem dksX6_read_0 : cX6_read.data.toList.drop 0 = dktX6_read_0 := by decide +kernel
theorem dksX6_read_1 : cX6_read.data.toList.drop 24 = dktX6_read_1 := dk_seg dksX6_read_0 24 rfl rfl
theorem dksX6_read_2 : cX6_read.data.toList.drop 48 = dktX6_read_2 := dk_seg dksX6_read_1 24 rfl rfl
theorem dksX6_read_3 : cX6_read.data.toList.drop 70 = dktX6_read_3 := dk_seg dksX6_read_2 22 rfl rfl
theorem dksX6_read_4 : cX6_read.data.toList.drop 94 = dktX6_read_4 := dk_seg dksX6_read_3 24 rfl rfl
theorem dksX6_read_5 : cX6_read.data.toList.drop 118 = dktX6_read_5 := dk_seg dksX6_read_4 24 rfl rfl
theorem dksX6_read_6 : cX6_read.data.toList.drop 142 = dktX6_read_6 := dk_seg dksX6_read_5 24 rfl rfl
theorem dksX6_read_7 : cX6_read.data.toList.drop 166 = dktX6_read_7 := dk_seg dksX6_read_6 24 rfl rfl
theorem dksX6_read_8 : cX6_read.data.toList.drop 190 = dktX6_read_8 := dk_seg dksX6_read_7 24 rfl rfl
theorem dksX6_read_9 : cX6_read.data.toList.drop 214 = dktX6_read_9 := dk_seg dksX6_read_8 24 rfl rfl
theorem dX6_read_0 : decode cX6_read 0 = .ok (.aload_n 0, 1) := dk_42 (dk_at dksX6_read_0 0 rfl rfl)
theorem dX6_read_1 : decode cX6_read 1 = .ok (.iconst 0, 1) := dk_3 (dk_at dksX6_read_0 1 rfl rfl)
theorem dX6_read_2 : decode cX6_read 2 = .ok (.putfield 115, 3) := dk_181 0 115 (dk_at dksX6_read_0 2 rfl rfl)
theorem dX6_read_5 : decode cX6_read 5 = .ok (.aload_n 0, 1) := dk_42 (dk_at dksX6_read_0 5 rfl rfl)
theorem dX6_read_6 : decode cX6_read 6 = .ok (.iconst 0, 1) := dk_3 (dk_at dksX6_read_0 6 rfl rfl)
theorem dX6_read_7 : decode cX6_read 7 = .ok (.putfield 298, 3) := dk_181 1 42 (dk_at dksX6_read_0 7 rfl rfl)
theorem dX6_read_10 : decode cX6_read 10 = .ok (.iconst 0, 1) := dk_3 (dk_at dksX6_read_0 10 rfl rfl)
theorem dX6_read_11 : decode cX6_read 11 = .ok (.istore_n 1, 1) := dk_60 (dk_at dksX6_read_0 11 rfl rfl)
theorem dX6_read_12 : decode cX6_read 12 = .ok (.iload_n 1, 1) := dk_27 (dk_at dksX6_read_0 12 rfl rfl)
theorem dX6_read_13 : decode cX6_read 13 = .ok (.aload_n 0, 1) := dk_42 (dk_at dksX6_read_0 13 rfl rfl)
theorem dX6_read_14 : decode cX6_read 14 = .ok (.getfield 188, 3) := dk_180 0 188 (dk_at dksX6_read_0 14 rfl rfl)
theorem dX6_read_17 : decode cX6_read 17 = .ok (.if_icmp .ge 34, 3) := dk_162 0 34 (dk_at dksX6_read_0 17 rfl rfl)
theorem dX6_read_20 : decode cX6_read 20 = .ok (.aload_n 0, 1) := dk_42 (dk_at dksX6_read_0 20 rfl rfl)
theorem dX6_read_21 : decode cX6_read 21 = .ok (.getfield 46, 3) := dk_180 0 46 (dk_at dksX6_read_0 21 rfl rfl)
theorem dX6_read_24 : decode cX6_read 24 = .ok (.aload_n 0, 1) := dk_42 (dk_at dksX6_read_1 0 rfl rfl)
theorem dX6_read_25 : decode cX6_read 25 = .ok (.getfield 298, 3) := dk_180 1 42 (dk_at dksX6_read_1 1 rfl rfl)
theorem dX6_read_28 : decode cX6_read 28 = .ok (.aload_n 0, 1) := dk_42 (dk_at dksX6_read_1 4 rfl rfl)
theorem dX6_read_29 : decode cX6_read 29 = .ok (.getfield 40, 3) := dk_180 0 40 (dk_at dksX6_read_1 5 rfl rfl)
theorem dX6_read_32 : decode cX6_read 32 = .ok (.iload_n 1, 1) := dk_27 (dk_at dksX6_read_1 8 rfl rfl)
theorem dX6_read_33 : decode cX6_read 33 = .ok (.iaload, 1) := dk_46 (dk_at dksX6_read_1 9 rfl rfl)
theorem dX6_read_34 : decode cX6_read 34 = .ok (.iastore, 1) := dk_79 (dk_at dksX6_read_1 10 rfl rfl)
theorem dX6_read_35 : decode cX6_read 35 = .ok (.aload_n 0, 1) := dk_42 (dk_at dksX6_read_1 11 rfl rfl)
theorem dX6_read_36 : decode cX6_read 36 = .ok (.dup, 1) := dk_89 (dk_at dksX6_read_1 12 rfl rfl)
theorem dX6_read_37 : decode cX6_read 37 = .ok (.getfield 298, 3) := dk_180 1 42 (dk_at dksX6_read_1 13 rfl rfl)
theorem dX6_read_40 : decode cX6_read 40 = .ok (.iconst 1, 1) := dk_4 (dk_at dksX6_read_1 16 rfl rfl)
theorem dX6_read_41 : decode cX6_read 41 = .ok (.iadd, 1) := dk_96 (dk_at dksX6_read_1 17 rfl rfl)
theorem dX6_read_42 : decode cX6_read 42 = .ok (.putfield 298, 3) := dk_181 1 42 (dk_at dksX6_read_1 18 rfl rfl)
theorem dX6_read_45 : decode cX6_read 45 = .ok (.iinc 1 1, 3) := dk_132 1 1 (dk_at dksX6_read_1 21 rfl rfl)
theorem dX6_read_48 : decode cX6_read 48 = .ok (.goto (-36), 3) := dk_167 255 220 (dk_at dksX6_read_2 0 rfl rfl)
theorem dX6_read_51 : decode cX6_read 51 = .ok (.iconst 0, 1) := dk_3 (dk_at dksX6_read_2 3 rfl rfl)
theorem dX6_read_52 : decode cX6_read 52 = .ok (.istore_n 1, 1) := dk_60 (dk_at dksX6_read_2 4 rfl rfl)
theorem dX6_read_53 : decode cX6_read 53 = .ok (.iload_n 1, 1) := dk_27 (dk_at dksX6_read_2 5 rfl rfl)
theorem dX6_read_54 : decode cX6_read 54 = .ok (.aload_n 0, 1) := dk_42 (dk_at dksX6_read_2 6 rfl rfl)
theorem dX6_read_55 : decode cX6_read 55 = .ok (.getfield 191, 3) := dk_180 0 191 (dk_at dksX6_read_2 7 rfl rfl)
theorem dX6_read_58 : decode cX6_read 58 = .ok (.if_icmp .ge 34, 3) := dk_162 0 34 (dk_at dksX6_read_2 10 rfl rfl)
theorem dX6_read_61 : decode cX6_read 61 = .ok (.aload_n 0, 1) := dk_42 (dk_at dksX6_read_2 13 rfl rfl)
theorem dX6_read_62 : decode cX6_read 62 = .ok (.getfield 46, 3) := dk_180 0 46 (dk_at dksX6_read_2 14 rfl rfl)
theorem dX6_read_65 : decode cX6_read 65 = .ok (.aload_n 0, 1) := dk_42 (dk_at dksX6_read_2 17 rfl rfl)
theorem dX6_read_66 : decode cX6_read 66 = .ok (.getfield 298, 3) := dk_180 1 42 (dk_at dksX6_read_2 18 rfl rfl)
theorem dX6_read_69 : decode cX6_read 69 = .ok (.aload_n 0, 1) := dk_42 (dk_at dksX6_read_2 21 rfl rfl)
theorem dX6_read_70 : decode cX6_read 70 = .ok (.getfield 43, 3) := dk_180 0 43 (dk_at dksX6_read_3 0 rfl rfl)
theorem dX6_read_73 : decode cX6_read 73 = .ok (.iload_n 1, 1) := dk_27 (dk_at dksX6_read_3 3 rfl rfl)
theorem dX6_read_74 : decode cX6_read 74 = .ok (.iaload, 1) := dk_46 (dk_at dksX6_read_3 4 rfl rfl)
theorem dX6_read_75 : decode cX6_read 75 = .ok (.iastore, 1) := dk_79 (dk_at dksX6_read_3 5 rfl rfl)
theorem dX6_read_76 : decode cX6_read 76 = .ok (.aload_n 0, 1) := dk_42 (dk_at dksX6_read_3 6 rfl rfl)
theorem dX6_read_77 : decode cX6_read 77 = .ok (.dup, 1) := dk_89 (dk_at dksX6_read_3 7 rfl rfl)
theorem dX6_read_78 : decode cX6_read 78 = .ok (.getfield 298, 3) := dk_180 1 42 (dk_at dksX6_read_3 8 rfl rfl)
theorem dX6_read_81 : decode cX6_read 81 = .ok (.iconst 1, 1) := dk_4 (dk_at dksX6_read_3 11 rfl rfl)
theorem dX6_read_82 : decode cX6_read 82 = .ok (.iadd, 1) := dk_96 (dk_at dksX6_read_3 12 rfl rfl)
theorem dX6_read_83 : decode cX6_read 83 = .ok (.putfield 298, 3) := dk_181 1 42 (dk_at dksX6_read_3 13 rfl rfl)
theorem dX6_read_86 : decode cX6_read 86 = .ok (.iinc 1 1, 3) := dk_132 1 1 (dk_at dksX6_read_3 16 rfl rfl)
theorem dX6_read_89 : decode cX6_read 89 = .ok (.goto (-36), 3) := dk_167 255 220 (dk_at dksX6_read_3 19 rfl rfl)
theorem dX6_read_92 : decode cX6_read 92 = .ok (.aload_n 0, 1) := dk_42 (dk_at dksX6_read_3 22 rfl rfl)
theorem dX6_read_93 : decode cX6_read 93 = .ok (.iconst 0, 1) := dk_3 (dk_at dksX6_read_3 23 rfl rfl)
theorem dX6_read_94 : decode cX6_read 94 = .ok (.putfield 194, 3) := dk_181 0 194 (dk_at dksX6_read_4 0 rfl rfl)
theorem dX6_read_97 : decode cX6_read 97 = .ok (.aload_n 0, 1) := dk_42 (dk_at dksX6_read_4 3 rfl rfl)
theorem dX6_read_98 : decode cX6_read 98 = .ok (.iconst 0, 1) := dk_3 (dk_at dksX6_read_4 4 rfl rfl)
theorem dX6_read_99 : decode cX6_read 99 = .ok (.putfield 206, 3) := dk_181 0 206 (dk_at dksX6_read_4 5 rfl rfl)
theorem dX6_read_102 : decode cX6_read 102 = .ok (.aload_n 0, 1) := dk_42 (dk_at dksX6_read_4 8 rfl rfl)
theorem dX6_read_103 : decode cX6_read 103 = .ok (.iconst 0, 1) := dk_3 (dk_at dksX6_read_4 9 rfl rfl)
theorem dX6_read_104 : decode cX6_read 104 = .ok (.putfield 209, 3) := dk_181 0 209 (dk_at dksX6_read_4 10 rfl rfl)
theorem dX6_read_107 : decode cX6_read 107 = .ok (.aload_n 0, 1) := dk_42 (dk_at dksX6_read_4 13 rfl rfl)
theorem dX6_read_108 : decode cX6_read 108 = .ok (.iconst 0, 1) := dk_3 (dk_at dksX6_read_4 14 rfl rfl)
theorem dX6_read_109 : decode cX6_read 109 = .ok (.putfield 295, 3) := dk_181 1 39 (dk_at dksX6_read_4 15 rfl rfl)
theorem dX6_read_112 : decode cX6_read 112 = .ok (.aload_n 0, 1) := dk_42 (dk_at dksX6_read_4 18 rfl rfl)
theorem dX6_read_113 : decode cX6_read 113 = .ok (.iconst 0, 1) := dk_3 (dk_at dksX6_read_4 19 rfl rfl)
theorem dX6_read_114 : decode cX6_read 114 = .ok (.putfield 234, 3) := dk_181 0 234 (dk_at dksX6_read_4 20 rfl rfl)
theorem dX6_read_117 : decode cX6_read 117 = .ok (.iconst 0, 1) := dk_3 (dk_at dksX6_read_4 23 rfl rfl)
theorem dX6_read_118 : decode cX6_read 118 = .ok (.istore_n 1, 1) := dk_60 (dk_at dksX6_read_5 0 rfl rfl)
theorem dX6_read_119 : decode cX6_read 119 = .ok (.iload_n 1, 1) := dk_27 (dk_at dksX6_read_5 1 rfl rfl)
theorem dX6_read_120 : decode cX6_read 120 = .ok (.bipush 10, 2) := dk_16 10 (dk_at dksX6_read_5 2 rfl rfl)
theorem dX6_read_122 : decode cX6_read 122 = .ok (.if_icmp .ge 16, 3) := dk_162 0 16 (dk_at dksX6_read_5 4 rfl rfl)
theorem dX6_read_125 : decode cX6_read 125 = .ok (.aload_n 0, 1) := dk_42 (dk_at dksX6_read_5 7 rfl rfl)
theorem dX6_read_126 : decode cX6_read 126 = .ok (.getfield 89, 3) := dk_180 0 89 (dk_at dksX6_read_5 8 rfl rfl)
theorem dX6_read_129 : decode cX6_read 129 = .ok (.iload_n 1, 1) := dk_27 (dk_at dksX6_read_5 11 rfl rfl)
theorem dX6_read_130 : decode cX6_read 130 = .ok (.iconst 0, 1) := dk_3 (dk_at dksX6_read_5 12 rfl rfl)
theorem dX6_read_131 : decode cX6_read 131 = .ok (.bastore, 1) := dk_84 (dk_at dksX6_read_5 13 rfl rfl)
theorem dX6_read_132 : decode cX6_read 132 = .ok (.iinc 1 1, 3) := dk_132 1 1 (dk_at dksX6_read_5 14 rfl rfl)
theorem dX6_read_135 : decode cX6_read 135 = .ok (.goto (-16), 3) := dk_167 255 240 (dk_at dksX6_read_5 17 rfl rfl)
theorem dX6_read_138 : decode cX6_read 138 = .ok (.aload_n 0, 1) := dk_42 (dk_at dksX6_read_5 20 rfl rfl)
theorem dX6_read_139 : decode cX6_read 139 = .ok (.getfield 111, 3) := dk_180 0 111 (dk_at dksX6_read_5 21 rfl rfl)
theorem dX6_read_142 : decode cX6_read 142 = .ok (.iconst 2, 1) := dk_5 (dk_at dksX6_read_6 0 rfl rfl)
theorem dX6_read_143 : decode cX6_read 143 = .ok (.if_icmp .ne 10, 3) := dk_160 0 10 (dk_at dksX6_read_6 1 rfl rfl)
theorem dX6_read_146 : decode cX6_read 146 = .ok (.aload_n 0, 1) := dk_42 (dk_at dksX6_read_6 4 rfl rfl)
theorem dX6_read_147 : decode cX6_read 147 = .ok (.invokevirtual 308, 3) := dk_182 1 52 (dk_at dksX6_read_6 5 rfl rfl)
theorem dX6_read_150 : decode cX6_read 150 = .ok (.goto 7, 3) := dk_167 0 7 (dk_at dksX6_read_6 8 rfl rfl)
theorem dX6_read_153 : decode cX6_read 153 = .ok (.aload_n 0, 1) := dk_42 (dk_at dksX6_read_6 11 rfl rfl)
theorem dX6_read_154 : decode cX6_read 154 = .ok (.invokevirtual 311, 3) := dk_182 1 55 (dk_at dksX6_read_6 12 rfl rfl)
theorem dX6_read_157 : decode cX6_read 157 = .ok (.aload_n 0, 1) := dk_42 (dk_at dksX6_read_6 15 rfl rfl)
theorem dX6_read_158 : decode cX6_read 158 = .ok (.aload_n 0, 1) := dk_42 (dk_at dksX6_read_6 16 rfl rfl)
theorem dX6_read_159 : decode cX6_read 159 = .ok (.getfield 194, 3) := dk_180 0 194 (dk_at dksX6_read_6 17 rfl rfl)
theorem dX6_read_162 : decode cX6_read 162 = .ok (.putfield 314, 3) := dk_181 1 58 (dk_at dksX6_read_6 20 rfl rfl)
theorem dX6_read_165 : decode cX6_read 165 = .ok (.aload_n 0, 1) := dk_42 (dk_at dksX6_read_6 23 rfl rfl)
theorem dX6_read_166 : decode cX6_read 166 = .ok (.aload_n 0, 1) := dk_42 (dk_at dksX6_read_7 0 rfl rfl)
theorem dX6_read_167 : decode cX6_read 167 = .ok (.getfield 194, 3) := dk_180 0 194 (dk_at dksX6_read_7 1 rfl rfl)
theorem dX6_read_170 : decode cX6_read 170 = .ok (.ifCond .ne 7, 3) := dk_154 0 7 (dk_at dksX6_read_7 4 rfl rfl)
theorem dX6_read_173 : decode cX6_read 173 = .ok (.iconst 1, 1) := dk_4 (dk_at dksX6_read_7 7 rfl rfl)
theorem dX6_read_174 : decode cX6_read 174 = .ok (.goto 4, 3) := dk_167 0 4 (dk_at dksX6_read_7 8 rfl rfl)
theorem dX6_read_177 : decode cX6_read 177 = .ok (.iconst 0, 1) := dk_3 (dk_at dksX6_read_7 11 rfl rfl)
theorem dX6_read_178 : decode cX6_read 178 = .ok (.putfield 317, 3) := dk_181 1 61 (dk_at dksX6_read_7 12 rfl rfl)
theorem dX6_read_181 : decode cX6_read 181 = .ok (.aload_n 0, 1) := dk_42 (dk_at dksX6_read_7 15 rfl rfl)
theorem dX6_read_182 : decode cX6_read 182 = .ok (.aload_n 0, 1) := dk_42 (dk_at dksX6_read_7 16 rfl rfl)
theorem dX6_read_183 : decode cX6_read 183 = .ok (.getfield 317, 3) := dk_180 1 61 (dk_at dksX6_read_7 17 rfl rfl)
theorem dX6_read_186 : decode cX6_read 186 = .ok (.ifCond .eq 10, 3) := dk_153 0 10 (dk_at dksX6_read_7 20 rfl rfl)
theorem dX6_read_189 : decode cX6_read 189 = .ok (.aload_n 0, 1) := dk_42 (dk_at dksX6_read_7 23 rfl rfl)
theorem dX6_read_190 : decode cX6_read 190 = .ok (.getfield 295, 3) := dk_180 1 39 (dk_at dksX6_read_8 0 rfl rfl)
theorem dX6_read_193 : decode cX6_read 193 = .ok (.goto 4, 3) := dk_167 0 4 (dk_at dksX6_read_8 3 rfl rfl)
theorem dX6_read_196 : decode cX6_read 196 = .ok (.iconst 0, 1) := dk_3 (dk_at dksX6_read_8 6 rfl rfl)
theorem dX6_read_197 : decode cX6_read 197 = .ok (.putfield 321, 3) := dk_181 1 65 (dk_at dksX6_read_8 7 rfl rfl)
theorem dX6_read_200 : decode cX6_read 200 = .ok (.aload_n 0, 1) := dk_42 (dk_at dksX6_read_8 10 rfl rfl)
theorem dX6_read_201 : decode cX6_read 201 = .ok (.getfield 317, 3) := dk_180 1 61 (dk_at dksX6_read_8 11 rfl rfl)
theorem dX6_read_204 : decode cX6_read 204 = .ok (.ifCond .eq 10, 3) := dk_153 0 10 (dk_at dksX6_read_8 14 rfl rfl)
theorem dX6_read_207 : decode cX6_read 207 = .ok (.aload_n 0, 1) := dk_42 (dk_at dksX6_read_8 17 rfl rfl)
theorem dX6_read_208 : decode cX6_read 208 = .ok (.getfield 295, 3) := dk_180 1 39 (dk_at dksX6_read_8 18 rfl rfl)
theorem dX6_read_211 : decode cX6_read 211 = .ok (.goto 9, 3) := dk_167 0 9 (dk_at dksX6_read_8 21 rfl rfl)
theorem dX6_read_214 : decode cX6_read 214 = .ok (.iconst (-1), 1) := dk_2 (dk_at dksX6_read_9 0 rfl rfl)
theorem dX6_read_215 : decode cX6_read 215 = .ok (.aload_n 0, 1) := dk_42 (dk_at dksX6_read_9 1 rfl rfl)
theorem dX6_read_216 : decode cX6_read 216 = .ok (.getfield 197, 3) := dk_180 0 197 (dk_at dksX6_read_9 2 rfl rfl)
theorem dX6_read_219 : decode cX6_read 219 = .ok (.isub, 1) := dk_100 (dk_at dksX6_read_9 5 rfl rfl)
theorem dX6_read_220 : decode cX6_read 220 = .ok (.ireturn, 1) := dk_172 (dk_at dksX6_read_9 6 rfl rfl)
abbrev cX6_readEmbedded : ByteArray := prog_8_method_55_code
def yX6_readEmbedded : MethodName := ⟨RX6, "readEmbedded", "()V"⟩
def dkwX6_readEmbedded_4 : List UInt8 := [87, 177]
abbrev dktX6_readEmbedded_4 : List UInt8 := dkwX6_readEmbedded_4 ++ []
def dkwX6_readEmbedded_3 : List UInt8 := [167, 255, 189, 27, 153, 0, 21, 42, 180, 0, 234, 158, 0, 14, 42, 16, 10, 42, 180, 1, 42, 182, 0, 200]
abbrev dktX6_readEmbedded_3 : List UInt8 := dkwX6_readEmbedded_3 ++ dktX6_readEmbedded_4
def dkwX6_readEmbedded_2 : List UInt8 := [153, 0, 20, 42, 42, 180, 0, 209, 4, 100, 182, 1, 49, 153, 0, 7, 4, 167, 0, 4, 3, 60]
abbrev dktX6_readEmbedded_2 : List UInt8 := dkwX6_readEmbedded_2 ++ dktX6_readEmbedded_3
def dkwX6_readEmbedded_1 : List UInt8 := [180, 0, 188, 162, 0, 10, 42, 180, 0, 188, 167, 0, 7, 42, 180, 1, 42, 181, 0, 203, 42, 182, 1, 45]
abbrev dktX6_readEmbedded_1 : List UInt8 := dkwX6_readEmbedded_1 ++ dktX6_readEmbedded_2
def dkwX6_readEmbedded_0 : List UInt8 := [4, 60, 27, 153, 0, 69, 42, 180, 0, 206, 42, 180, 1, 42, 162, 0, 58, 42, 42, 180, 0, 206, 42]
abbrev dktX6_readEmbedded_0 : List UInt8 := dkwX6_readEmbedded_0 ++ dktX6_readEmbedded_1
theorem dksX6_readEmbedded_0 : cX6_readEmbedded.data.toList.drop 0 = dktX6_readEmbedded_0 := by decide +kernel
theorem dksX6_readEmbedded_1 : cX6_readEmbedded.data.toList.drop 23 = dktX6_readEmbedded_1 := dk_seg dksX6_readEmbedded_0 23 rfl rfl
theorem dksX6_readEmbedded_2 : cX6_readEmbedded.data.toList.drop 47 = dktX6_readEmbedded_2 := dk_seg dksX6_readEmbedded_1 24 rfl rfl
theorem dksX6_readEmbedded_3 : cX6_readEmbedded.data.toList.drop 69 = dktX6_readEmbedded_3 := dk_seg dksX6_readEmbedded_2 22 rfl rfl
theorem dksX6_readEmbedded_4 : cX6_readEmbedded.data.toList.drop 93 = dktX6_readEmbedded_4 := dk_seg dksX6_readEmbedded_3 24 rfl rfl
theorem dX6_readEmbedded_0 : decode cX6_readEmbedded 0 = .ok (.iconst 1, 1) := dk_4 (dk_at dksX6_readEmbedded_0 0 rfl rfl)
theorem dX6_readEmbedded_1 : decode cX6_readEmbedded 1 = .ok (.istore_n 1, 1) := dk_60 (dk_at dksX6_readEmbedded_0 1 rfl rfl)
theorem dX6_readEmbedded_2 : decode cX6_readEmbedded 2 = .ok (.iload_n 1, 1) := dk_27 (dk_at dksX6_readEmbedded_0 2 rfl rfl)
theorem dX6_readEmbedded_3 : decode cX6_readEmbedded 3 = .ok (.ifCond .eq 69, 3) := dk_153 0 69 (dk_at dksX6_readEmbedded_0 3 rfl rfl)
theorem dX6_readEmbedded_6 : decode cX6_readEmbedded 6 = .ok (.aload_n 0, 1) := dk_42 (dk_at dksX6_readEmbedded_0 6 rfl rfl)
theorem dX6_readEmbedded_7 : decode cX6_readEmbedded 7 = .ok (.getfield 206, 3) := dk_180 0 206 (dk_at dksX6_readEmbedded_0 7 rfl rfl)
theorem dX6_readEmbedded_10 : decode cX6_readEmbedded 10 = .ok (.aload_n 0, 1) := dk_42 (dk_at dksX6_readEmbedded_0 10 rfl rfl)
theorem dX6_readEmbedded_11 : decode cX6_readEmbedded 11 = .ok (.getfield 298, 3) := dk_180 1 42 (dk_at dksX6_readEmbedded_0 11 rfl rfl)
theorem dX6_readEmbedded_14 : decode cX6_readEmbedded 14 = .ok (.if_icmp .ge 58, 3) := dk_162 0 58 (dk_at dksX6_readEmbedded_0 14 rfl rfl)
theorem dX6_readEmbedded_17 : decode cX6_readEmbedded 17 = .ok (.aload_n 0, 1) := dk_42 (dk_at dksX6_readEmbedded_0 17 rfl rfl)
theorem dX6_readEmbedded_18 : decode cX6_readEmbedded 18 = .ok (.aload_n 0, 1) := dk_42 (dk_at dksX6_readEmbedded_0 18 rfl rfl)
theorem dX6_readEmbedded_19 : decode cX6_readEmbedded 19 = .ok (.getfield 206, 3) := dk_180 0 206 (dk_at dksX6_readEmbedded_0 19 rfl rfl)
theorem dX6_readEmbedded_22 : decode cX6_readEmbedded 22 = .ok (.aload_n 0, 1) := dk_42 (dk_at dksX6_readEmbedded_0 22 rfl rfl)
theorem dX6_readEmbedded_23 : decode cX6_readEmbedded 23 = .ok (.getfield 188, 3) := dk_180 0 188 (dk_at dksX6_readEmbedded_1 0 rfl rfl)
theorem dX6_readEmbedded_26 : decode cX6_readEmbedded 26 = .ok (.if_icmp .ge 10, 3) := dk_162 0 10 (dk_at dksX6_readEmbedded_1 3 rfl rfl)
theorem dX6_readEmbedded_29 : decode cX6_readEmbedded 29 = .ok (.aload_n 0, 1) := dk_42 (dk_at dksX6_readEmbedded_1 6 rfl rfl)
theorem dX6_readEmbedded_30 : decode cX6_readEmbedded 30 = .ok (.getfield 188, 3) := dk_180 0 188 (dk_at dksX6_readEmbedded_1 7 rfl rfl)
theorem dX6_readEmbedded_33 : decode cX6_readEmbedded 33 = .ok (.goto 7, 3) := dk_167 0 7 (dk_at dksX6_readEmbedded_1 10 rfl rfl)
theorem dX6_readEmbedded_36 : decode cX6_readEmbedded 36 = .ok (.aload_n 0, 1) := dk_42 (dk_at dksX6_readEmbedded_1 13 rfl rfl)
theorem dX6_readEmbedded_37 : decode cX6_readEmbedded 37 = .ok (.getfield 298, 3) := dk_180 1 42 (dk_at dksX6_readEmbedded_1 14 rfl rfl)
theorem dX6_readEmbedded_40 : decode cX6_readEmbedded 40 = .ok (.putfield 203, 3) := dk_181 0 203 (dk_at dksX6_readEmbedded_1 17 rfl rfl)
theorem dX6_readEmbedded_43 : decode cX6_readEmbedded 43 = .ok (.aload_n 0, 1) := dk_42 (dk_at dksX6_readEmbedded_1 20 rfl rfl)
theorem dX6_readEmbedded_44 : decode cX6_readEmbedded 44 = .ok (.invokevirtual 301, 3) := dk_182 1 45 (dk_at dksX6_readEmbedded_1 21 rfl rfl)
theorem dX6_readEmbedded_47 : decode cX6_readEmbedded 47 = .ok (.ifCond .eq 20, 3) := dk_153 0 20 (dk_at dksX6_readEmbedded_2 0 rfl rfl)
theorem dX6_readEmbedded_50 : decode cX6_readEmbedded 50 = .ok (.aload_n 0, 1) := dk_42 (dk_at dksX6_readEmbedded_2 3 rfl rfl)
theorem dX6_readEmbedded_51 : decode cX6_readEmbedded 51 = .ok (.aload_n 0, 1) := dk_42 (dk_at dksX6_readEmbedded_2 4 rfl rfl)
theorem dX6_readEmbedded_52 : decode cX6_readEmbedded 52 = .ok (.getfield 209, 3) := dk_180 0 209 (dk_at dksX6_readEmbedded_2 5 rfl rfl)
theorem dX6_readEmbedded_55 : decode cX6_readEmbedded 55 = .ok (.iconst 1, 1) := dk_4 (dk_at dksX6_readEmbedded_2 8 rfl rfl)
theorem dX6_readEmbedded_56 : decode cX6_readEmbedded 56 = .ok (.isub, 1) := dk_100 (dk_at dksX6_readEmbedded_2 9 rfl rfl)
theorem dX6_readEmbedded_57 : decode cX6_readEmbedded 57 = .ok (.invokevirtual 305, 3) := dk_182 1 49 (dk_at dksX6_readEmbedded_2 10 rfl rfl)
theorem dX6_readEmbedded_60 : decode cX6_readEmbedded 60 = .ok (.ifCond .eq 7, 3) := dk_153 0 7 (dk_at dksX6_readEmbedded_2 13 rfl rfl)
theorem dX6_readEmbedded_63 : decode cX6_readEmbedded 63 = .ok (.iconst 1, 1) := dk_4 (dk_at dksX6_readEmbedded_2 16 rfl rfl)
theorem dX6_readEmbedded_64 : decode cX6_readEmbedded 64 = .ok (.goto 4, 3) := dk_167 0 4 (dk_at dksX6_readEmbedded_2 17 rfl rfl)
theorem dX6_readEmbedded_67 : decode cX6_readEmbedded 67 = .ok (.iconst 0, 1) := dk_3 (dk_at dksX6_readEmbedded_2 20 rfl rfl)
theorem dX6_readEmbedded_68 : decode cX6_readEmbedded 68 = .ok (.istore_n 1, 1) := dk_60 (dk_at dksX6_readEmbedded_2 21 rfl rfl)
theorem dX6_readEmbedded_69 : decode cX6_readEmbedded 69 = .ok (.goto (-67), 3) := dk_167 255 189 (dk_at dksX6_readEmbedded_3 0 rfl rfl)
theorem dX6_readEmbedded_72 : decode cX6_readEmbedded 72 = .ok (.iload_n 1, 1) := dk_27 (dk_at dksX6_readEmbedded_3 3 rfl rfl)
theorem dX6_readEmbedded_73 : decode cX6_readEmbedded 73 = .ok (.ifCond .eq 21, 3) := dk_153 0 21 (dk_at dksX6_readEmbedded_3 4 rfl rfl)
theorem dX6_readEmbedded_76 : decode cX6_readEmbedded 76 = .ok (.aload_n 0, 1) := dk_42 (dk_at dksX6_readEmbedded_3 7 rfl rfl)
theorem dX6_readEmbedded_77 : decode cX6_readEmbedded 77 = .ok (.getfield 234, 3) := dk_180 0 234 (dk_at dksX6_readEmbedded_3 8 rfl rfl)
theorem dX6_readEmbedded_80 : decode cX6_readEmbedded 80 = .ok (.ifCond .le 14, 3) := dk_158 0 14 (dk_at dksX6_readEmbedded_3 11 rfl rfl)
theorem dX6_readEmbedded_83 : decode cX6_readEmbedded 83 = .ok (.aload_n 0, 1) := dk_42 (dk_at dksX6_readEmbedded_3 14 rfl rfl)
theorem dX6_readEmbedded_84 : decode cX6_readEmbedded 84 = .ok (.bipush 10, 2) := dk_16 10 (dk_at dksX6_readEmbedded_3 15 rfl rfl)
theorem dX6_readEmbedded_86 : decode cX6_readEmbedded 86 = .ok (.aload_n 0, 1) := dk_42 (dk_at dksX6_readEmbedded_3 17 rfl rfl)
theorem dX6_readEmbedded_87 : decode cX6_readEmbedded 87 = .ok (.getfield 298, 3) := dk_180 1 42 (dk_at dksX6_readEmbedded_3 18 rfl rfl)
theorem dX6_readEmbedded_90 : decode cX6_readEmbedded 90 = .ok (.invokevirtual 200, 3) := dk_182 0 200 (dk_at dksX6_readEmbedded_3 21 rfl rfl)
theorem dX6_readEmbedded_93 : decode cX6_readEmbedded 93 = .ok (.pop, 1) := dk_87 (dk_at dksX6_readEmbedded_4 0 rfl rfl)
theorem dX6_readEmbedded_94 : decode cX6_readEmbedded 94 = .ok (.return_, 1) := dk_177 (dk_at dksX6_readEmbedded_4 1 rfl rfl)
abbrev cX6_readHead : ByteArray := prog_8_method_37_code
def yX6_readHead : MethodName := ⟨RX6, "readHead", "()Z"⟩
def dkwX6_readHead_23 : List UInt8 := [21, 8, 96, 8, 96, 181, 0, 206, 42, 89, 180, 0, 209, 4, 96, 181, 0, 209, 4, 172]
abbrev dktX6_readHead_23 : List UInt8 := dkwX6_readHead_23 ++ []
def dkwX6_readHead_22 : List UInt8 := [21, 8, 96, 4, 96, 182, 0, 220, 133, 20, 0, 225, 127, 80, 42, 180, 0, 77, 27, 2, 79, 42, 21, 9]
abbrev dktX6_readHead_22 : List UInt8 := dkwX6_readHead_22 ++ dktX6_readHead_23
def dkwX6_readHead_21 : List UInt8 := [180, 0, 58, 27, 42, 180, 0, 46, 21, 9, 21, 8, 96, 46, 79, 42, 180, 0, 70, 27, 42, 21, 9]
abbrev dktX6_readHead_21 : List UInt8 := dkwX6_readHead_21 ++ dktX6_readHead_22
def dkwX6_readHead_20 : List UInt8 := [104, 21, 11, 96, 42, 180, 0, 46, 21, 9, 21, 11, 96, 46, 79, 132, 11, 1, 167, 255, 224, 42]
abbrev dktX6_readHead_20 : List UInt8 := dkwX6_readHead_20 ++ dktX6_readHead_21
def dkwX6_readHead_19 : List UInt8 := [180, 0, 67, 27, 21, 10, 79, 3, 54, 11, 21, 11, 21, 8, 162, 0, 31, 42, 180, 0, 64, 16, 10, 27]
abbrev dktX6_readHead_19 : List UInt8 := dkwX6_readHead_19 ++ dktX6_readHead_20
def dkwX6_readHead_18 : List UInt8 := [180, 0, 52, 27, 28, 79, 42, 180, 0, 55, 27, 21, 4, 79, 42, 180, 0, 61, 27, 21, 8, 79, 42]
abbrev dktX6_readHead_18 : List UInt8 := dkwX6_readHead_18 ++ dktX6_readHead_19
def dkwX6_readHead_17 : List UInt8 := [54, 10, 21, 10, 21, 8, 4, 96, 122, 153, 0, 14, 42, 16, 8, 42, 180, 0, 206, 182, 0, 200, 172, 42]
abbrev dktX6_readHead_17 : List UInt8 := dkwX6_readHead_17 ++ dktX6_readHead_18
def dkwX6_readHead_16 : List UInt8 := [180, 0, 46, 42, 180, 0, 206, 16, 10, 96, 46, 16, 8, 120, 128, 167, 0, 8, 21, 5, 16, 32, 112]
abbrev dktX6_readHead_16 : List UInt8 := dkwX6_readHead_16 ++ dktX6_readHead_17
def dkwX6_readHead_15 : List UInt8 := [154, 0, 5, 3, 172, 21, 6, 153, 0, 34, 42, 180, 0, 46, 42, 180, 0, 206, 16, 9, 96, 46, 42]
abbrev dktX6_readHead_15 : List UInt8 := dkwX6_readHead_15 ++ dktX6_readHead_16
def dkwX6_readHead_14 : List UInt8 := [16, 6, 96, 54, 9, 42, 21, 9, 42, 180, 0, 206, 100, 21, 8, 96, 133, 20, 0, 223, 97, 182, 0, 214]
abbrev dktX6_readHead_14 : List UInt8 := dkwX6_readHead_14 ++ dktX6_readHead_15
def dkwX6_readHead_13 : List UInt8 := [167, 0, 8, 21, 5, 16, 32, 108, 54, 8, 42, 180, 0, 206, 21, 6, 153, 0, 8, 16, 11, 167, 0, 5]
abbrev dktX6_readHead_13 : List UInt8 := dkwX6_readHead_13 ++ dktX6_readHead_14
def dkwX6_readHead_12 : List UInt8 := [180, 0, 206, 182, 0, 200, 172, 21, 6, 153, 0, 18, 42, 180, 0, 46, 42, 180, 0, 206, 16, 8, 96, 46]
abbrev dktX6_readHead_12 : List UInt8 := dkwX6_readHead_12 ++ dktX6_readHead_13
def dkwX6_readHead_11 : List UInt8 := [21, 5, 17, 0, 160, 162, 0, 7, 4, 167, 0, 4, 3, 54, 7, 21, 7, 154, 0, 14, 42, 16, 8, 42]
abbrev dktX6_readHead_11 : List UInt8 := dkwX6_readHead_11 ++ dktX6_readHead_12
def dkwX6_readHead_10 : List UInt8 := [180, 0, 206, 16, 8, 96, 46, 8, 16, 10, 184, 0, 121, 153, 0, 7, 4, 167, 0, 20, 3, 167, 0, 16]
abbrev dktX6_readHead_10 : List UInt8 := dkwX6_readHead_10 ++ dktX6_readHead_11
def dkwX6_readHead_9 : List UInt8 := [46, 154, 0, 43, 42, 180, 0, 46, 42, 180, 0, 206, 16, 7, 96, 46, 154, 0, 28, 42, 180, 0, 46, 42]
abbrev dktX6_readHead_9 : List UInt8 := dkwX6_readHead_9 ++ dktX6_readHead_10
def dkwX6_readHead_8 : List UInt8 := [21, 6, 153, 0, 70, 21, 5, 17, 0, 224, 160, 0, 58, 42, 180, 0, 46, 42, 180, 0, 206, 16, 6, 96]
abbrev dktX6_readHead_8 : List UInt8 := dkwX6_readHead_8 ++ dktX6_readHead_9
def dkwX6_readHead_7 : List UInt8 := [180, 0, 206, 8, 96, 46, 54, 5, 21, 5, 17, 0, 223, 164, 0, 7, 4, 167, 0, 4, 3, 54, 6]
abbrev dktX6_readHead_7 : List UInt8 := dkwX6_readHead_7 ++ dktX6_readHead_8
def dkwX6_readHead_6 : List UInt8 := [42, 180, 0, 111, 5, 160, 0, 13, 42, 7, 42, 180, 0, 206, 182, 0, 200, 172, 42, 180, 0, 46, 42]
abbrev dktX6_readHead_6 : List UInt8 := dkwX6_readHead_6 ++ dktX6_readHead_7
def dkwX6_readHead_5 : List UInt8 := [42, 180, 0, 206, 7, 96, 46, 54, 4, 21, 4, 184, 0, 125, 153, 0, 18, 21, 4, 16, 51, 160, 0, 21]
abbrev dktX6_readHead_5 : List UInt8 := dkwX6_readHead_5 ++ dktX6_readHead_6
def dkwX6_readHead_4 : List UInt8 := [17, 0, 255, 163, 0, 7, 29, 154, 0, 13, 42, 6, 42, 180, 0, 206, 182, 0, 200, 172, 42, 180, 0, 46]
abbrev dktX6_readHead_4 : List UInt8 := dkwX6_readHead_4 ++ dktX6_readHead_5
def dkwX6_readHead_3 : List UInt8 := [28, 42, 180, 0, 52, 27, 4, 100, 46, 164, 0, 7, 4, 167, 0, 4, 3, 62, 28, 155, 0, 14, 28]
abbrev dktX6_readHead_3 : List UInt8 := dkwX6_readHead_3 ++ dktX6_readHead_4
def dkwX6_readHead_2 : List UInt8 := [20, 0, 218, 182, 0, 214, 154, 0, 5, 3, 172, 42, 42, 180, 0, 206, 182, 0, 220, 61, 27, 153, 0, 15]
abbrev dktX6_readHead_2 : List UInt8 := dkwX6_readHead_2 ++ dktX6_readHead_3
def dkwX6_readHead_1 : List UInt8 := [182, 0, 214, 153, 0, 30, 42, 180, 0, 46, 42, 180, 0, 206, 8, 96, 46, 17, 0, 223, 164, 0, 15, 42]
abbrev dktX6_readHead_1 : List UInt8 := dkwX6_readHead_1 ++ dktX6_readHead_2
def dkwX6_readHead_0 : List UInt8 := [42, 180, 0, 209, 60, 42, 180, 0, 49, 27, 17, 1, 0, 112, 42, 180, 0, 206, 79, 42, 20, 0, 212]
abbrev dktX6_readHead_0 : List UInt8 := dkwX6_readHead_0 ++ dktX6_readHead_1
theorem dksX6_readHead_0 : cX6_readHead.data.toList.drop 0 = dktX6_readHead_0 := by decide +kernel
theorem dksX6_readHead_1 : cX6_readHead.data.toList.drop 23 = dktX6_readHead_1 := dk_seg dksX6_readHead_0 23 rfl rfl
theorem dksX6_readHead_2 : cX6_readHead.data.toList.drop 47 = dktX6_readHead_2 := dk_seg dksX6_readHead_1 24 rfl rfl
theorem dksX6_readHead_3 : cX6_readHead.data.toList.drop 71 = dktX6_readHead_3 := dk_seg dksX6_readHead_2 24 rfl rfl
theorem dksX6_readHead_4 : cX6_readHead.data.toList.drop 94 = dktX6_readHead_4 := dk_seg dksX6_readHead_3 23 rfl rfl
theorem dksX6_readHead_5 : cX6_readHead.data.toList.drop 118 = dktX6_readHead_5 := dk_seg dksX6_readHead_4 24 rfl rfl
theorem dksX6_readHead_6 : cX6_readHead.data.toList.drop 142 = dktX6_readHead_6 := dk_seg dksX6_readHead_5 24 rfl rfl
theorem dksX6_readHead_7 : cX6_readHead.data.toList.drop 165 = dktX6_readHead_7 := dk_seg dksX6_readHead_6 23 rfl rfl
theorem dksX6_readHead_8 : cX6_readHead.data.toList.drop 188 = dktX6_readHead_8 := dk_seg dksX6_readHead_7 23 rfl rfl
theorem dksX6_readHead_9 : cX6_readHead.data.toList.drop 212 = dktX6_readHead_9 := dk_seg dksX6_readHead_8 24 rfl rfl
theorem dksX6_readHead_10 : cX6_readHead.data.toList.drop 236 = dktX6_readHead_10 := dk_seg dksX6_readHead_9 24 rfl rfl
theorem dksX6_readHead_11 : cX6_readHead.data.toList.drop 260 = dktX6_readHead_11 := dk_seg dksX6_readHead_10 24 rfl rfl
theorem dksX6_readHead_12 : cX6_readHead.data.toList.drop 284 = dktX6_readHead_12 := dk_seg dksX6_readHead_11 24 rfl rfl
theorem dksX6_readHead_13 : cX6_readHead.data.toList.drop 308 = dktX6_readHead_13 := dk_seg dksX6_readHead_12 24 rfl rfl
theorem dksX6_readHead_14 : cX6_readHead.data.toList.drop 332 = dktX6_readHead_14 := dk_seg dksX6_readHead_13 24 rfl rfl
theorem dksX6_readHead_15 : cX6_readHead.data.toList.drop 356 = dktX6_readHead_15 := dk_seg dksX6_readHead_14 24 rfl rfl
theorem dksX6_readHead_16 : cX6_readHead.data.toList.drop 379 = dktX6_readHead_16 := dk_seg dksX6_readHead_15 23 rfl rfl
theorem dksX6_readHead_17 : cX6_readHead.data.toList.drop 402 = dktX6_readHead_17 := dk_seg dksX6_readHead_16 23 rfl rfl
theorem dksX6_readHead_18 : cX6_readHead.data.toList.drop 426 = dktX6_readHead_18 := dk_seg dksX6_readHead_17 24 rfl rfl
theorem dksX6_readHead_19 : cX6_readHead.data.toList.drop 449 = dktX6_readHead_19 := dk_seg dksX6_readHead_18 23 rfl rfl
theorem dksX6_readHead_20 : cX6_readHead.data.toList.drop 473 = dktX6_readHead_20 := dk_seg dksX6_readHead_19 24 rfl rfl
theorem dksX6_readHead_21 : cX6_readHead.data.toList.drop 495 = dktX6_readHead_21 := dk_seg dksX6_readHead_20 22 rfl rfl
theorem dksX6_readHead_22 : cX6_readHead.data.toList.drop 518 = dktX6_readHead_22 := dk_seg dksX6_readHead_21 23 rfl rfl
theorem dksX6_readHead_23 : cX6_readHead.data.toList.drop 542 = dktX6_readHead_23 := dk_seg dksX6_readHead_22 24 rfl rfl
theorem dX6_readHead_0 : decode cX6_readHead 0 = .ok (.aload_n 0, 1) := dk_42 (dk_at dksX6_readHead_0 0 rfl rfl)
theorem dX6_readHead_1 : decode cX6_readHead 1 = .ok (.getfield 209, 3) := dk_180 0 209 (dk_at dksX6_readHead_0 1 rfl rfl)
theorem dX6_readHead_4 : decode cX6_readHead 4 = .ok (.istore_n 1, 1) := dk_60 (dk_at dksX6_readHead_0 4 rfl rfl)
theorem dX6_readHead_5 : decode cX6_readHead 5 = .ok (.aload_n 0, 1) := dk_42 (dk_at dksX6_readHead_0 5 rfl rfl)
theorem dX6_readHead_6 : decode cX6_readHead 6 = .ok (.getfield 49, 3) := dk_180 0 49 (dk_at dksX6_readHead_0 6 rfl rfl)
theorem dX6_readHead_9 : decode cX6_readHead 9 = .ok (.iload_n 1, 1) := dk_27 (dk_at dksX6_readHead_0 9 rfl rfl)
theorem dX6_readHead_10 : decode cX6_readHead 10 = .ok (.sipush 256, 3) := dk_17 1 0 (dk_at dksX6_readHead_0 10 rfl rfl)
theorem dX6_readHead_13 : decode cX6_readHead 13 = .ok (.irem, 1) := dk_112 (dk_at dksX6_readHead_0 13 rfl rfl)
theorem dX6_readHead_14 : decode cX6_readHead 14 = .ok (.aload_n 0, 1) := dk_42 (dk_at dksX6_readHead_0 14 rfl rfl)
theorem dX6_readHead_15 : decode cX6_readHead 15 = .ok (.getfield 206, 3) := dk_180 0 206 (dk_at dksX6_readHead_0 15 rfl rfl)
theorem dX6_readHead_18 : decode cX6_readHead 18 = .ok (.iastore, 1) := dk_79 (dk_at dksX6_readHead_0 18 rfl rfl)
theorem dX6_readHead_19 : decode cX6_readHead 19 = .ok (.aload_n 0, 1) := dk_42 (dk_at dksX6_readHead_0 19 rfl rfl)
theorem dX6_readHead_20 : decode cX6_readHead 20 = .ok (.ldc2_w 212, 3) := dk_20 0 212 (dk_at dksX6_readHead_0 20 rfl rfl)
theorem dX6_readHead_23 : decode cX6_readHead 23 = .ok (.invokevirtual 214, 3) := dk_182 0 214 (dk_at dksX6_readHead_1 0 rfl rfl)
theorem dX6_readHead_26 : decode cX6_readHead 26 = .ok (.ifCond .eq 30, 3) := dk_153 0 30 (dk_at dksX6_readHead_1 3 rfl rfl)
theorem dX6_readHead_29 : decode cX6_readHead 29 = .ok (.aload_n 0, 1) := dk_42 (dk_at dksX6_readHead_1 6 rfl rfl)
theorem dX6_readHead_30 : decode cX6_readHead 30 = .ok (.getfield 46, 3) := dk_180 0 46 (dk_at dksX6_readHead_1 7 rfl rfl)
theorem dX6_readHead_33 : decode cX6_readHead 33 = .ok (.aload_n 0, 1) := dk_42 (dk_at dksX6_readHead_1 10 rfl rfl)
theorem dX6_readHead_34 : decode cX6_readHead 34 = .ok (.getfield 206, 3) := dk_180 0 206 (dk_at dksX6_readHead_1 11 rfl rfl)
theorem dX6_readHead_37 : decode cX6_readHead 37 = .ok (.iconst 5, 1) := dk_8 (dk_at dksX6_readHead_1 14 rfl rfl)
theorem dX6_readHead_38 : decode cX6_readHead 38 = .ok (.iadd, 1) := dk_96 (dk_at dksX6_readHead_1 15 rfl rfl)
theorem dX6_readHead_39 : decode cX6_readHead 39 = .ok (.iaload, 1) := dk_46 (dk_at dksX6_readHead_1 16 rfl rfl)
theorem dX6_readHead_40 : decode cX6_readHead 40 = .ok (.sipush 223, 3) := dk_17 0 223 (dk_at dksX6_readHead_1 17 rfl rfl)
theorem dX6_readHead_43 : decode cX6_readHead 43 = .ok (.if_icmp .le 15, 3) := dk_164 0 15 (dk_at dksX6_readHead_1 20 rfl rfl)
theorem dX6_readHead_46 : decode cX6_readHead 46 = .ok (.aload_n 0, 1) := dk_42 (dk_at dksX6_readHead_1 23 rfl rfl)
theorem dX6_readHead_47 : decode cX6_readHead 47 = .ok (.ldc2_w 218, 3) := dk_20 0 218 (dk_at dksX6_readHead_2 0 rfl rfl)
theorem dX6_readHead_50 : decode cX6_readHead 50 = .ok (.invokevirtual 214, 3) := dk_182 0 214 (dk_at dksX6_readHead_2 3 rfl rfl)
theorem dX6_readHead_53 : decode cX6_readHead 53 = .ok (.ifCond .ne 5, 3) := dk_154 0 5 (dk_at dksX6_readHead_2 6 rfl rfl)
theorem dX6_readHead_56 : decode cX6_readHead 56 = .ok (.iconst 0, 1) := dk_3 (dk_at dksX6_readHead_2 9 rfl rfl)
theorem dX6_readHead_57 : decode cX6_readHead 57 = .ok (.ireturn, 1) := dk_172 (dk_at dksX6_readHead_2 10 rfl rfl)
theorem dX6_readHead_58 : decode cX6_readHead 58 = .ok (.aload_n 0, 1) := dk_42 (dk_at dksX6_readHead_2 11 rfl rfl)
theorem dX6_readHead_59 : decode cX6_readHead 59 = .ok (.aload_n 0, 1) := dk_42 (dk_at dksX6_readHead_2 12 rfl rfl)
theorem dX6_readHead_60 : decode cX6_readHead 60 = .ok (.getfield 206, 3) := dk_180 0 206 (dk_at dksX6_readHead_2 13 rfl rfl)
theorem dX6_readHead_63 : decode cX6_readHead 63 = .ok (.invokevirtual 220, 3) := dk_182 0 220 (dk_at dksX6_readHead_2 16 rfl rfl)
theorem dX6_readHead_66 : decode cX6_readHead 66 = .ok (.istore_n 2, 1) := dk_61 (dk_at dksX6_readHead_2 19 rfl rfl)
theorem dX6_readHead_67 : decode cX6_readHead 67 = .ok (.iload_n 1, 1) := dk_27 (dk_at dksX6_readHead_2 20 rfl rfl)
theorem dX6_readHead_68 : decode cX6_readHead 68 = .ok (.ifCond .eq 15, 3) := dk_153 0 15 (dk_at dksX6_readHead_2 21 rfl rfl)
theorem dX6_readHead_71 : decode cX6_readHead 71 = .ok (.iload_n 2, 1) := dk_28 (dk_at dksX6_readHead_3 0 rfl rfl)
theorem dX6_readHead_72 : decode cX6_readHead 72 = .ok (.aload_n 0, 1) := dk_42 (dk_at dksX6_readHead_3 1 rfl rfl)
theorem dX6_readHead_73 : decode cX6_readHead 73 = .ok (.getfield 52, 3) := dk_180 0 52 (dk_at dksX6_readHead_3 2 rfl rfl)
theorem dX6_readHead_76 : decode cX6_readHead 76 = .ok (.iload_n 1, 1) := dk_27 (dk_at dksX6_readHead_3 5 rfl rfl)
theorem dX6_readHead_77 : decode cX6_readHead 77 = .ok (.iconst 1, 1) := dk_4 (dk_at dksX6_readHead_3 6 rfl rfl)
theorem dX6_readHead_78 : decode cX6_readHead 78 = .ok (.isub, 1) := dk_100 (dk_at dksX6_readHead_3 7 rfl rfl)
theorem dX6_readHead_79 : decode cX6_readHead 79 = .ok (.iaload, 1) := dk_46 (dk_at dksX6_readHead_3 8 rfl rfl)
theorem dX6_readHead_80 : decode cX6_readHead 80 = .ok (.if_icmp .le 7, 3) := dk_164 0 7 (dk_at dksX6_readHead_3 9 rfl rfl)
theorem dX6_readHead_83 : decode cX6_readHead 83 = .ok (.iconst 1, 1) := dk_4 (dk_at dksX6_readHead_3 12 rfl rfl)
theorem dX6_readHead_84 : decode cX6_readHead 84 = .ok (.goto 4, 3) := dk_167 0 4 (dk_at dksX6_readHead_3 13 rfl rfl)
theorem dX6_readHead_87 : decode cX6_readHead 87 = .ok (.iconst 0, 1) := dk_3 (dk_at dksX6_readHead_3 16 rfl rfl)
theorem dX6_readHead_88 : decode cX6_readHead 88 = .ok (.istore_n 3, 1) := dk_62 (dk_at dksX6_readHead_3 17 rfl rfl)
theorem dX6_readHead_89 : decode cX6_readHead 89 = .ok (.iload_n 2, 1) := dk_28 (dk_at dksX6_readHead_3 18 rfl rfl)
theorem dX6_readHead_90 : decode cX6_readHead 90 = .ok (.ifCond .lt 14, 3) := dk_155 0 14 (dk_at dksX6_readHead_3 19 rfl rfl)
theorem dX6_readHead_93 : decode cX6_readHead 93 = .ok (.iload_n 2, 1) := dk_28 (dk_at dksX6_readHead_3 22 rfl rfl)
theorem dX6_readHead_94 : decode cX6_readHead 94 = .ok (.sipush 255, 3) := dk_17 0 255 (dk_at dksX6_readHead_4 0 rfl rfl)
theorem dX6_readHead_97 : decode cX6_readHead 97 = .ok (.if_icmp .gt 7, 3) := dk_163 0 7 (dk_at dksX6_readHead_4 3 rfl rfl)
theorem dX6_readHead_100 : decode cX6_readHead 100 = .ok (.iload_n 3, 1) := dk_29 (dk_at dksX6_readHead_4 6 rfl rfl)
theorem dX6_readHead_101 : decode cX6_readHead 101 = .ok (.ifCond .ne 13, 3) := dk_154 0 13 (dk_at dksX6_readHead_4 7 rfl rfl)
theorem dX6_readHead_104 : decode cX6_readHead 104 = .ok (.aload_n 0, 1) := dk_42 (dk_at dksX6_readHead_4 10 rfl rfl)
theorem dX6_readHead_105 : decode cX6_readHead 105 = .ok (.iconst 3, 1) := dk_6 (dk_at dksX6_readHead_4 11 rfl rfl)
theorem dX6_readHead_106 : decode cX6_readHead 106 = .ok (.aload_n 0, 1) := dk_42 (dk_at dksX6_readHead_4 12 rfl rfl)
theorem dX6_readHead_107 : decode cX6_readHead 107 = .ok (.getfield 206, 3) := dk_180 0 206 (dk_at dksX6_readHead_4 13 rfl rfl)
theorem dX6_readHead_110 : decode cX6_readHead 110 = .ok (.invokevirtual 200, 3) := dk_182 0 200 (dk_at dksX6_readHead_4 16 rfl rfl)
theorem dX6_readHead_113 : decode cX6_readHead 113 = .ok (.ireturn, 1) := dk_172 (dk_at dksX6_readHead_4 19 rfl rfl)
theorem dX6_readHead_114 : decode cX6_readHead 114 = .ok (.aload_n 0, 1) := dk_42 (dk_at dksX6_readHead_4 20 rfl rfl)
theorem dX6_readHead_115 : decode cX6_readHead 115 = .ok (.getfield 46, 3) := dk_180 0 46 (dk_at dksX6_readHead_4 21 rfl rfl)
theorem dX6_readHead_118 : decode cX6_readHead 118 = .ok (.aload_n 0, 1) := dk_42 (dk_at dksX6_readHead_5 0 rfl rfl)
theorem dX6_readHead_119 : decode cX6_readHead 119 = .ok (.getfield 206, 3) := dk_180 0 206 (dk_at dksX6_readHead_5 1 rfl rfl)
theorem dX6_readHead_122 : decode cX6_readHead 122 = .ok (.iconst 4, 1) := dk_7 (dk_at dksX6_readHead_5 4 rfl rfl)
theorem dX6_readHead_123 : decode cX6_readHead 123 = .ok (.iadd, 1) := dk_96 (dk_at dksX6_readHead_5 5 rfl rfl)
theorem dX6_readHead_124 : decode cX6_readHead 124 = .ok (.iaload, 1) := dk_46 (dk_at dksX6_readHead_5 6 rfl rfl)
theorem dX6_readHead_125 : decode cX6_readHead 125 = .ok (.istore 4, 2) := dk_54 4 (dk_at dksX6_readHead_5 7 rfl rfl)
theorem dX6_readHead_127 : decode cX6_readHead 127 = .ok (.iload 4, 2) := dk_21 4 (dk_at dksX6_readHead_5 9 rfl rfl)
theorem dX6_readHead_129 : decode cX6_readHead 129 = .ok (.invokestatic 125, 3) := dk_184 0 125 (dk_at dksX6_readHead_5 11 rfl rfl)
theorem dX6_readHead_132 : decode cX6_readHead 132 = .ok (.ifCond .eq 18, 3) := dk_153 0 18 (dk_at dksX6_readHead_5 14 rfl rfl)
theorem dX6_readHead_135 : decode cX6_readHead 135 = .ok (.iload 4, 2) := dk_21 4 (dk_at dksX6_readHead_5 17 rfl rfl)
theorem dX6_readHead_137 : decode cX6_readHead 137 = .ok (.bipush 51, 2) := dk_16 51 (dk_at dksX6_readHead_5 19 rfl rfl)
theorem dX6_readHead_139 : decode cX6_readHead 139 = .ok (.if_icmp .ne 21, 3) := dk_160 0 21 (dk_at dksX6_readHead_5 21 rfl rfl)
theorem dX6_readHead_142 : decode cX6_readHead 142 = .ok (.aload_n 0, 1) := dk_42 (dk_at dksX6_readHead_6 0 rfl rfl)
theorem dX6_readHead_143 : decode cX6_readHead 143 = .ok (.getfield 111, 3) := dk_180 0 111 (dk_at dksX6_readHead_6 1 rfl rfl)
theorem dX6_readHead_146 : decode cX6_readHead 146 = .ok (.iconst 2, 1) := dk_5 (dk_at dksX6_readHead_6 4 rfl rfl)
theorem dX6_readHead_147 : decode cX6_readHead 147 = .ok (.if_icmp .ne 13, 3) := dk_160 0 13 (dk_at dksX6_readHead_6 5 rfl rfl)
theorem dX6_readHead_150 : decode cX6_readHead 150 = .ok (.aload_n 0, 1) := dk_42 (dk_at dksX6_readHead_6 8 rfl rfl)
theorem dX6_readHead_151 : decode cX6_readHead 151 = .ok (.iconst 4, 1) := dk_7 (dk_at dksX6_readHead_6 9 rfl rfl)
theorem dX6_readHead_152 : decode cX6_readHead 152 = .ok (.aload_n 0, 1) := dk_42 (dk_at dksX6_readHead_6 10 rfl rfl)
theorem dX6_readHead_153 : decode cX6_readHead 153 = .ok (.getfield 206, 3) := dk_180 0 206 (dk_at dksX6_readHead_6 11 rfl rfl)
theorem dX6_readHead_156 : decode cX6_readHead 156 = .ok (.invokevirtual 200, 3) := dk_182 0 200 (dk_at dksX6_readHead_6 14 rfl rfl)
theorem dX6_readHead_159 : decode cX6_readHead 159 = .ok (.ireturn, 1) := dk_172 (dk_at dksX6_readHead_6 17 rfl rfl)
theorem dX6_readHead_160 : decode cX6_readHead 160 = .ok (.aload_n 0, 1) := dk_42 (dk_at dksX6_readHead_6 18 rfl rfl)
theorem dX6_readHead_161 : decode cX6_readHead 161 = .ok (.getfield 46, 3) := dk_180 0 46 (dk_at dksX6_readHead_6 19 rfl rfl)
theorem dX6_readHead_164 : decode cX6_readHead 164 = .ok (.aload_n 0, 1) := dk_42 (dk_at dksX6_readHead_6 22 rfl rfl)
theorem dX6_readHead_165 : decode cX6_readHead 165 = .ok (.getfield 206, 3) := dk_180 0 206 (dk_at dksX6_readHead_7 0 rfl rfl)
theorem dX6_readHead_168 : decode cX6_readHead 168 = .ok (.iconst 5, 1) := dk_8 (dk_at dksX6_readHead_7 3 rfl rfl)
theorem dX6_readHead_169 : decode cX6_readHead 169 = .ok (.iadd, 1) := dk_96 (dk_at dksX6_readHead_7 4 rfl rfl)
theorem dX6_readHead_170 : decode cX6_readHead 170 = .ok (.iaload, 1) := dk_46 (dk_at dksX6_readHead_7 5 rfl rfl)
theorem dX6_readHead_171 : decode cX6_readHead 171 = .ok (.istore 5, 2) := dk_54 5 (dk_at dksX6_readHead_7 6 rfl rfl)
theorem dX6_readHead_173 : decode cX6_readHead 173 = .ok (.iload 5, 2) := dk_21 5 (dk_at dksX6_readHead_7 8 rfl rfl)
theorem dX6_readHead_175 : decode cX6_readHead 175 = .ok (.sipush 223, 3) := dk_17 0 223 (dk_at dksX6_readHead_7 10 rfl rfl)
theorem dX6_readHead_178 : decode cX6_readHead 178 = .ok (.if_icmp .le 7, 3) := dk_164 0 7 (dk_at dksX6_readHead_7 13 rfl rfl)
theorem dX6_readHead_181 : decode cX6_readHead 181 = .ok (.iconst 1, 1) := dk_4 (dk_at dksX6_readHead_7 16 rfl rfl)
theorem dX6_readHead_182 : decode cX6_readHead 182 = .ok (.goto 4, 3) := dk_167 0 4 (dk_at dksX6_readHead_7 17 rfl rfl)
theorem dX6_readHead_185 : decode cX6_readHead 185 = .ok (.iconst 0, 1) := dk_3 (dk_at dksX6_readHead_7 20 rfl rfl)
theorem dX6_readHead_186 : decode cX6_readHead 186 = .ok (.istore 6, 2) := dk_54 6 (dk_at dksX6_readHead_7 21 rfl rfl)
theorem dX6_readHead_188 : decode cX6_readHead 188 = .ok (.iload 6, 2) := dk_21 6 (dk_at dksX6_readHead_8 0 rfl rfl)
theorem dX6_readHead_190 : decode cX6_readHead 190 = .ok (.ifCond .eq 70, 3) := dk_153 0 70 (dk_at dksX6_readHead_8 2 rfl rfl)
theorem dX6_readHead_193 : decode cX6_readHead 193 = .ok (.iload 5, 2) := dk_21 5 (dk_at dksX6_readHead_8 5 rfl rfl)
theorem dX6_readHead_195 : decode cX6_readHead 195 = .ok (.sipush 224, 3) := dk_17 0 224 (dk_at dksX6_readHead_8 7 rfl rfl)
theorem dX6_readHead_198 : decode cX6_readHead 198 = .ok (.if_icmp .ne 58, 3) := dk_160 0 58 (dk_at dksX6_readHead_8 10 rfl rfl)
theorem dX6_readHead_201 : decode cX6_readHead 201 = .ok (.aload_n 0, 1) := dk_42 (dk_at dksX6_readHead_8 13 rfl rfl)
theorem dX6_readHead_202 : decode cX6_readHead 202 = .ok (.getfield 46, 3) := dk_180 0 46 (dk_at dksX6_readHead_8 14 rfl rfl)
theorem dX6_readHead_205 : decode cX6_readHead 205 = .ok (.aload_n 0, 1) := dk_42 (dk_at dksX6_readHead_8 17 rfl rfl)
theorem dX6_readHead_206 : decode cX6_readHead 206 = .ok (.getfield 206, 3) := dk_180 0 206 (dk_at dksX6_readHead_8 18 rfl rfl)
theorem dX6_readHead_209 : decode cX6_readHead 209 = .ok (.bipush 6, 2) := dk_16 6 (dk_at dksX6_readHead_8 21 rfl rfl)
theorem dX6_readHead_211 : decode cX6_readHead 211 = .ok (.iadd, 1) := dk_96 (dk_at dksX6_readHead_8 23 rfl rfl)
theorem dX6_readHead_212 : decode cX6_readHead 212 = .ok (.iaload, 1) := dk_46 (dk_at dksX6_readHead_9 0 rfl rfl)
theorem dX6_readHead_213 : decode cX6_readHead 213 = .ok (.ifCond .ne 43, 3) := dk_154 0 43 (dk_at dksX6_readHead_9 1 rfl rfl)
theorem dX6_readHead_216 : decode cX6_readHead 216 = .ok (.aload_n 0, 1) := dk_42 (dk_at dksX6_readHead_9 4 rfl rfl)
theorem dX6_readHead_217 : decode cX6_readHead 217 = .ok (.getfield 46, 3) := dk_180 0 46 (dk_at dksX6_readHead_9 5 rfl rfl)
theorem dX6_readHead_220 : decode cX6_readHead 220 = .ok (.aload_n 0, 1) := dk_42 (dk_at dksX6_readHead_9 8 rfl rfl)
theorem dX6_readHead_221 : decode cX6_readHead 221 = .ok (.getfield 206, 3) := dk_180 0 206 (dk_at dksX6_readHead_9 9 rfl rfl)
theorem dX6_readHead_224 : decode cX6_readHead 224 = .ok (.bipush 7, 2) := dk_16 7 (dk_at dksX6_readHead_9 12 rfl rfl)
theorem dX6_readHead_226 : decode cX6_readHead 226 = .ok (.iadd, 1) := dk_96 (dk_at dksX6_readHead_9 14 rfl rfl)
theorem dX6_readHead_227 : decode cX6_readHead 227 = .ok (.iaload, 1) := dk_46 (dk_at dksX6_readHead_9 15 rfl rfl)
theorem dX6_readHead_228 : decode cX6_readHead 228 = .ok (.ifCond .ne 28, 3) := dk_154 0 28 (dk_at dksX6_readHead_9 16 rfl rfl)
theorem dX6_readHead_231 : decode cX6_readHead 231 = .ok (.aload_n 0, 1) := dk_42 (dk_at dksX6_readHead_9 19 rfl rfl)
theorem dX6_readHead_232 : decode cX6_readHead 232 = .ok (.getfield 46, 3) := dk_180 0 46 (dk_at dksX6_readHead_9 20 rfl rfl)
theorem dX6_readHead_235 : decode cX6_readHead 235 = .ok (.aload_n 0, 1) := dk_42 (dk_at dksX6_readHead_9 23 rfl rfl)
theorem dX6_readHead_236 : decode cX6_readHead 236 = .ok (.getfield 206, 3) := dk_180 0 206 (dk_at dksX6_readHead_10 0 rfl rfl)
theorem dX6_readHead_239 : decode cX6_readHead 239 = .ok (.bipush 8, 2) := dk_16 8 (dk_at dksX6_readHead_10 3 rfl rfl)
theorem dX6_readHead_241 : decode cX6_readHead 241 = .ok (.iadd, 1) := dk_96 (dk_at dksX6_readHead_10 5 rfl rfl)
theorem dX6_readHead_242 : decode cX6_readHead 242 = .ok (.iaload, 1) := dk_46 (dk_at dksX6_readHead_10 6 rfl rfl)
theorem dX6_readHead_243 : decode cX6_readHead 243 = .ok (.iconst 5, 1) := dk_8 (dk_at dksX6_readHead_10 7 rfl rfl)
theorem dX6_readHead_244 : decode cX6_readHead 244 = .ok (.bipush 10, 2) := dk_16 10 (dk_at dksX6_readHead_10 8 rfl rfl)
theorem dX6_readHead_246 : decode cX6_readHead 246 = .ok (.invokestatic 121, 3) := dk_184 0 121 (dk_at dksX6_readHead_10 10 rfl rfl)
theorem dX6_readHead_249 : decode cX6_readHead 249 = .ok (.ifCond .eq 7, 3) := dk_153 0 7 (dk_at dksX6_readHead_10 13 rfl rfl)
theorem dX6_readHead_252 : decode cX6_readHead 252 = .ok (.iconst 1, 1) := dk_4 (dk_at dksX6_readHead_10 16 rfl rfl)
theorem dX6_readHead_253 : decode cX6_readHead 253 = .ok (.goto 20, 3) := dk_167 0 20 (dk_at dksX6_readHead_10 17 rfl rfl)
theorem dX6_readHead_256 : decode cX6_readHead 256 = .ok (.iconst 0, 1) := dk_3 (dk_at dksX6_readHead_10 20 rfl rfl)
theorem dX6_readHead_257 : decode cX6_readHead 257 = .ok (.goto 16, 3) := dk_167 0 16 (dk_at dksX6_readHead_10 21 rfl rfl)
theorem dX6_readHead_260 : decode cX6_readHead 260 = .ok (.iload 5, 2) := dk_21 5 (dk_at dksX6_readHead_11 0 rfl rfl)
theorem dX6_readHead_262 : decode cX6_readHead 262 = .ok (.sipush 160, 3) := dk_17 0 160 (dk_at dksX6_readHead_11 2 rfl rfl)
theorem dX6_readHead_265 : decode cX6_readHead 265 = .ok (.if_icmp .ge 7, 3) := dk_162 0 7 (dk_at dksX6_readHead_11 5 rfl rfl)
theorem dX6_readHead_268 : decode cX6_readHead 268 = .ok (.iconst 1, 1) := dk_4 (dk_at dksX6_readHead_11 8 rfl rfl)
theorem dX6_readHead_269 : decode cX6_readHead 269 = .ok (.goto 4, 3) := dk_167 0 4 (dk_at dksX6_readHead_11 9 rfl rfl)
theorem dX6_readHead_272 : decode cX6_readHead 272 = .ok (.iconst 0, 1) := dk_3 (dk_at dksX6_readHead_11 12 rfl rfl)
theorem dX6_readHead_273 : decode cX6_readHead 273 = .ok (.istore 7, 2) := dk_54 7 (dk_at dksX6_readHead_11 13 rfl rfl)
theorem dX6_readHead_275 : decode cX6_readHead 275 = .ok (.iload 7, 2) := dk_21 7 (dk_at dksX6_readHead_11 15 rfl rfl)
theorem dX6_readHead_277 : decode cX6_readHead 277 = .ok (.ifCond .ne 14, 3) := dk_154 0 14 (dk_at dksX6_readHead_11 17 rfl rfl)
theorem dX6_readHead_280 : decode cX6_readHead 280 = .ok (.aload_n 0, 1) := dk_42 (dk_at dksX6_readHead_11 20 rfl rfl)
theorem dX6_readHead_281 : decode cX6_readHead 281 = .ok (.bipush 8, 2) := dk_16 8 (dk_at dksX6_readHead_11 21 rfl rfl)
theorem dX6_readHead_283 : decode cX6_readHead 283 = .ok (.aload_n 0, 1) := dk_42 (dk_at dksX6_readHead_11 23 rfl rfl)
theorem dX6_readHead_284 : decode cX6_readHead 284 = .ok (.getfield 206, 3) := dk_180 0 206 (dk_at dksX6_readHead_12 0 rfl rfl)
theorem dX6_readHead_287 : decode cX6_readHead 287 = .ok (.invokevirtual 200, 3) := dk_182 0 200 (dk_at dksX6_readHead_12 3 rfl rfl)
theorem dX6_readHead_290 : decode cX6_readHead 290 = .ok (.ireturn, 1) := dk_172 (dk_at dksX6_readHead_12 6 rfl rfl)
theorem dX6_readHead_291 : decode cX6_readHead 291 = .ok (.iload 6, 2) := dk_21 6 (dk_at dksX6_readHead_12 7 rfl rfl)
theorem dX6_readHead_293 : decode cX6_readHead 293 = .ok (.ifCond .eq 18, 3) := dk_153 0 18 (dk_at dksX6_readHead_12 9 rfl rfl)
theorem dX6_readHead_296 : decode cX6_readHead 296 = .ok (.aload_n 0, 1) := dk_42 (dk_at dksX6_readHead_12 12 rfl rfl)
theorem dX6_readHead_297 : decode cX6_readHead 297 = .ok (.getfield 46, 3) := dk_180 0 46 (dk_at dksX6_readHead_12 13 rfl rfl)
theorem dX6_readHead_300 : decode cX6_readHead 300 = .ok (.aload_n 0, 1) := dk_42 (dk_at dksX6_readHead_12 16 rfl rfl)
theorem dX6_readHead_301 : decode cX6_readHead 301 = .ok (.getfield 206, 3) := dk_180 0 206 (dk_at dksX6_readHead_12 17 rfl rfl)
theorem dX6_readHead_304 : decode cX6_readHead 304 = .ok (.bipush 8, 2) := dk_16 8 (dk_at dksX6_readHead_12 20 rfl rfl)
theorem dX6_readHead_306 : decode cX6_readHead 306 = .ok (.iadd, 1) := dk_96 (dk_at dksX6_readHead_12 22 rfl rfl)
theorem dX6_readHead_307 : decode cX6_readHead 307 = .ok (.iaload, 1) := dk_46 (dk_at dksX6_readHead_12 23 rfl rfl)
theorem dX6_readHead_308 : decode cX6_readHead 308 = .ok (.goto 8, 3) := dk_167 0 8 (dk_at dksX6_readHead_13 0 rfl rfl)
theorem dX6_readHead_311 : decode cX6_readHead 311 = .ok (.iload 5, 2) := dk_21 5 (dk_at dksX6_readHead_13 3 rfl rfl)
theorem dX6_readHead_313 : decode cX6_readHead 313 = .ok (.bipush 32, 2) := dk_16 32 (dk_at dksX6_readHead_13 5 rfl rfl)
theorem dX6_readHead_315 : decode cX6_readHead 315 = .ok (.idiv, 1) := dk_108 (dk_at dksX6_readHead_13 7 rfl rfl)
theorem dX6_readHead_316 : decode cX6_readHead 316 = .ok (.istore 8, 2) := dk_54 8 (dk_at dksX6_readHead_13 8 rfl rfl)
theorem dX6_readHead_318 : decode cX6_readHead 318 = .ok (.aload_n 0, 1) := dk_42 (dk_at dksX6_readHead_13 10 rfl rfl)
theorem dX6_readHead_319 : decode cX6_readHead 319 = .ok (.getfield 206, 3) := dk_180 0 206 (dk_at dksX6_readHead_13 11 rfl rfl)
theorem dX6_readHead_322 : decode cX6_readHead 322 = .ok (.iload 6, 2) := dk_21 6 (dk_at dksX6_readHead_13 14 rfl rfl)
theorem dX6_readHead_324 : decode cX6_readHead 324 = .ok (.ifCond .eq 8, 3) := dk_153 0 8 (dk_at dksX6_readHead_13 16 rfl rfl)
theorem dX6_readHead_327 : decode cX6_readHead 327 = .ok (.bipush 11, 2) := dk_16 11 (dk_at dksX6_readHead_13 19 rfl rfl)
theorem dX6_readHead_329 : decode cX6_readHead 329 = .ok (.goto 5, 3) := dk_167 0 5 (dk_at dksX6_readHead_13 21 rfl rfl)
theorem dX6_readHead_332 : decode cX6_readHead 332 = .ok (.bipush 6, 2) := dk_16 6 (dk_at dksX6_readHead_14 0 rfl rfl)
theorem dX6_readHead_334 : decode cX6_readHead 334 = .ok (.iadd, 1) := dk_96 (dk_at dksX6_readHead_14 2 rfl rfl)
theorem dX6_readHead_335 : decode cX6_readHead 335 = .ok (.istore 9, 2) := dk_54 9 (dk_at dksX6_readHead_14 3 rfl rfl)
theorem dX6_readHead_337 : decode cX6_readHead 337 = .ok (.aload_n 0, 1) := dk_42 (dk_at dksX6_readHead_14 5 rfl rfl)
theorem dX6_readHead_338 : decode cX6_readHead 338 = .ok (.iload 9, 2) := dk_21 9 (dk_at dksX6_readHead_14 6 rfl rfl)
theorem dX6_readHead_340 : decode cX6_readHead 340 = .ok (.aload_n 0, 1) := dk_42 (dk_at dksX6_readHead_14 8 rfl rfl)
theorem dX6_readHead_341 : decode cX6_readHead 341 = .ok (.getfield 206, 3) := dk_180 0 206 (dk_at dksX6_readHead_14 9 rfl rfl)
theorem dX6_readHead_344 : decode cX6_readHead 344 = .ok (.isub, 1) := dk_100 (dk_at dksX6_readHead_14 12 rfl rfl)
theorem dX6_readHead_345 : decode cX6_readHead 345 = .ok (.iload 8, 2) := dk_21 8 (dk_at dksX6_readHead_14 13 rfl rfl)
theorem dX6_readHead_347 : decode cX6_readHead 347 = .ok (.iadd, 1) := dk_96 (dk_at dksX6_readHead_14 15 rfl rfl)
theorem dX6_readHead_348 : decode cX6_readHead 348 = .ok (.i2l, 1) := dk_133 (dk_at dksX6_readHead_14 16 rfl rfl)
theorem dX6_readHead_349 : decode cX6_readHead 349 = .ok (.ldc2_w 223, 3) := dk_20 0 223 (dk_at dksX6_readHead_14 17 rfl rfl)
theorem dX6_readHead_352 : decode cX6_readHead 352 = .ok (.ladd, 1) := dk_97 (dk_at dksX6_readHead_14 20 rfl rfl)
theorem dX6_readHead_353 : decode cX6_readHead 353 = .ok (.invokevirtual 214, 3) := dk_182 0 214 (dk_at dksX6_readHead_14 21 rfl rfl)
theorem dX6_readHead_356 : decode cX6_readHead 356 = .ok (.ifCond .ne 5, 3) := dk_154 0 5 (dk_at dksX6_readHead_15 0 rfl rfl)
theorem dX6_readHead_359 : decode cX6_readHead 359 = .ok (.iconst 0, 1) := dk_3 (dk_at dksX6_readHead_15 3 rfl rfl)
theorem dX6_readHead_360 : decode cX6_readHead 360 = .ok (.ireturn, 1) := dk_172 (dk_at dksX6_readHead_15 4 rfl rfl)
theorem dX6_readHead_361 : decode cX6_readHead 361 = .ok (.iload 6, 2) := dk_21 6 (dk_at dksX6_readHead_15 5 rfl rfl)
theorem dX6_readHead_363 : decode cX6_readHead 363 = .ok (.ifCond .eq 34, 3) := dk_153 0 34 (dk_at dksX6_readHead_15 7 rfl rfl)
theorem dX6_readHead_366 : decode cX6_readHead 366 = .ok (.aload_n 0, 1) := dk_42 (dk_at dksX6_readHead_15 10 rfl rfl)
theorem dX6_readHead_367 : decode cX6_readHead 367 = .ok (.getfield 46, 3) := dk_180 0 46 (dk_at dksX6_readHead_15 11 rfl rfl)
theorem dX6_readHead_370 : decode cX6_readHead 370 = .ok (.aload_n 0, 1) := dk_42 (dk_at dksX6_readHead_15 14 rfl rfl)
theorem dX6_readHead_371 : decode cX6_readHead 371 = .ok (.getfield 206, 3) := dk_180 0 206 (dk_at dksX6_readHead_15 15 rfl rfl)
theorem dX6_readHead_374 : decode cX6_readHead 374 = .ok (.bipush 9, 2) := dk_16 9 (dk_at dksX6_readHead_15 18 rfl rfl)
theorem dX6_readHead_376 : decode cX6_readHead 376 = .ok (.iadd, 1) := dk_96 (dk_at dksX6_readHead_15 20 rfl rfl)
theorem dX6_readHead_377 : decode cX6_readHead 377 = .ok (.iaload, 1) := dk_46 (dk_at dksX6_readHead_15 21 rfl rfl)
theorem dX6_readHead_378 : decode cX6_readHead 378 = .ok (.aload_n 0, 1) := dk_42 (dk_at dksX6_readHead_15 22 rfl rfl)
theorem dX6_readHead_379 : decode cX6_readHead 379 = .ok (.getfield 46, 3) := dk_180 0 46 (dk_at dksX6_readHead_16 0 rfl rfl)
theorem dX6_readHead_382 : decode cX6_readHead 382 = .ok (.aload_n 0, 1) := dk_42 (dk_at dksX6_readHead_16 3 rfl rfl)
theorem dX6_readHead_383 : decode cX6_readHead 383 = .ok (.getfield 206, 3) := dk_180 0 206 (dk_at dksX6_readHead_16 4 rfl rfl)
theorem dX6_readHead_386 : decode cX6_readHead 386 = .ok (.bipush 10, 2) := dk_16 10 (dk_at dksX6_readHead_16 7 rfl rfl)
theorem dX6_readHead_388 : decode cX6_readHead 388 = .ok (.iadd, 1) := dk_96 (dk_at dksX6_readHead_16 9 rfl rfl)
theorem dX6_readHead_389 : decode cX6_readHead 389 = .ok (.iaload, 1) := dk_46 (dk_at dksX6_readHead_16 10 rfl rfl)
theorem dX6_readHead_390 : decode cX6_readHead 390 = .ok (.bipush 8, 2) := dk_16 8 (dk_at dksX6_readHead_16 11 rfl rfl)
theorem dX6_readHead_392 : decode cX6_readHead 392 = .ok (.ishl, 1) := dk_120 (dk_at dksX6_readHead_16 13 rfl rfl)
theorem dX6_readHead_393 : decode cX6_readHead 393 = .ok (.ior, 1) := dk_128 (dk_at dksX6_readHead_16 14 rfl rfl)
theorem dX6_readHead_394 : decode cX6_readHead 394 = .ok (.goto 8, 3) := dk_167 0 8 (dk_at dksX6_readHead_16 15 rfl rfl)
theorem dX6_readHead_397 : decode cX6_readHead 397 = .ok (.iload 5, 2) := dk_21 5 (dk_at dksX6_readHead_16 18 rfl rfl)
theorem dX6_readHead_399 : decode cX6_readHead 399 = .ok (.bipush 32, 2) := dk_16 32 (dk_at dksX6_readHead_16 20 rfl rfl)
theorem dX6_readHead_401 : decode cX6_readHead 401 = .ok (.irem, 1) := dk_112 (dk_at dksX6_readHead_16 22 rfl rfl)
theorem dX6_readHead_402 : decode cX6_readHead 402 = .ok (.istore 10, 2) := dk_54 10 (dk_at dksX6_readHead_17 0 rfl rfl)
theorem dX6_readHead_404 : decode cX6_readHead 404 = .ok (.iload 10, 2) := dk_21 10 (dk_at dksX6_readHead_17 2 rfl rfl)
theorem dX6_readHead_406 : decode cX6_readHead 406 = .ok (.iload 8, 2) := dk_21 8 (dk_at dksX6_readHead_17 4 rfl rfl)
theorem dX6_readHead_408 : decode cX6_readHead 408 = .ok (.iconst 1, 1) := dk_4 (dk_at dksX6_readHead_17 6 rfl rfl)
theorem dX6_readHead_409 : decode cX6_readHead 409 = .ok (.iadd, 1) := dk_96 (dk_at dksX6_readHead_17 7 rfl rfl)
theorem dX6_readHead_410 : decode cX6_readHead 410 = .ok (.ishr, 1) := dk_122 (dk_at dksX6_readHead_17 8 rfl rfl)
theorem dX6_readHead_411 : decode cX6_readHead 411 = .ok (.ifCond .eq 14, 3) := dk_153 0 14 (dk_at dksX6_readHead_17 9 rfl rfl)
theorem dX6_readHead_414 : decode cX6_readHead 414 = .ok (.aload_n 0, 1) := dk_42 (dk_at dksX6_readHead_17 12 rfl rfl)
theorem dX6_readHead_415 : decode cX6_readHead 415 = .ok (.bipush 8, 2) := dk_16 8 (dk_at dksX6_readHead_17 13 rfl rfl)
theorem dX6_readHead_417 : decode cX6_readHead 417 = .ok (.aload_n 0, 1) := dk_42 (dk_at dksX6_readHead_17 15 rfl rfl)
theorem dX6_readHead_418 : decode cX6_readHead 418 = .ok (.getfield 206, 3) := dk_180 0 206 (dk_at dksX6_readHead_17 16 rfl rfl)
theorem dX6_readHead_421 : decode cX6_readHead 421 = .ok (.invokevirtual 200, 3) := dk_182 0 200 (dk_at dksX6_readHead_17 19 rfl rfl)
theorem dX6_readHead_424 : decode cX6_readHead 424 = .ok (.ireturn, 1) := dk_172 (dk_at dksX6_readHead_17 22 rfl rfl)
theorem dX6_readHead_425 : decode cX6_readHead 425 = .ok (.aload_n 0, 1) := dk_42 (dk_at dksX6_readHead_17 23 rfl rfl)
theorem dX6_readHead_426 : decode cX6_readHead 426 = .ok (.getfield 52, 3) := dk_180 0 52 (dk_at dksX6_readHead_18 0 rfl rfl)
theorem dX6_readHead_429 : decode cX6_readHead 429 = .ok (.iload_n 1, 1) := dk_27 (dk_at dksX6_readHead_18 3 rfl rfl)
theorem dX6_readHead_430 : decode cX6_readHead 430 = .ok (.iload_n 2, 1) := dk_28 (dk_at dksX6_readHead_18 4 rfl rfl)
theorem dX6_readHead_431 : decode cX6_readHead 431 = .ok (.iastore, 1) := dk_79 (dk_at dksX6_readHead_18 5 rfl rfl)
theorem dX6_readHead_432 : decode cX6_readHead 432 = .ok (.aload_n 0, 1) := dk_42 (dk_at dksX6_readHead_18 6 rfl rfl)
theorem dX6_readHead_433 : decode cX6_readHead 433 = .ok (.getfield 55, 3) := dk_180 0 55 (dk_at dksX6_readHead_18 7 rfl rfl)
theorem dX6_readHead_436 : decode cX6_readHead 436 = .ok (.iload_n 1, 1) := dk_27 (dk_at dksX6_readHead_18 10 rfl rfl)
theorem dX6_readHead_437 : decode cX6_readHead 437 = .ok (.iload 4, 2) := dk_21 4 (dk_at dksX6_readHead_18 11 rfl rfl)
theorem dX6_readHead_439 : decode cX6_readHead 439 = .ok (.iastore, 1) := dk_79 (dk_at dksX6_readHead_18 13 rfl rfl)
theorem dX6_readHead_440 : decode cX6_readHead 440 = .ok (.aload_n 0, 1) := dk_42 (dk_at dksX6_readHead_18 14 rfl rfl)
theorem dX6_readHead_441 : decode cX6_readHead 441 = .ok (.getfield 61, 3) := dk_180 0 61 (dk_at dksX6_readHead_18 15 rfl rfl)
theorem dX6_readHead_444 : decode cX6_readHead 444 = .ok (.iload_n 1, 1) := dk_27 (dk_at dksX6_readHead_18 18 rfl rfl)
theorem dX6_readHead_445 : decode cX6_readHead 445 = .ok (.iload 8, 2) := dk_21 8 (dk_at dksX6_readHead_18 19 rfl rfl)
theorem dX6_readHead_447 : decode cX6_readHead 447 = .ok (.iastore, 1) := dk_79 (dk_at dksX6_readHead_18 21 rfl rfl)
theorem dX6_readHead_448 : decode cX6_readHead 448 = .ok (.aload_n 0, 1) := dk_42 (dk_at dksX6_readHead_18 22 rfl rfl)
theorem dX6_readHead_449 : decode cX6_readHead 449 = .ok (.getfield 67, 3) := dk_180 0 67 (dk_at dksX6_readHead_19 0 rfl rfl)
theorem dX6_readHead_452 : decode cX6_readHead 452 = .ok (.iload_n 1, 1) := dk_27 (dk_at dksX6_readHead_19 3 rfl rfl)
theorem dX6_readHead_453 : decode cX6_readHead 453 = .ok (.iload 10, 2) := dk_21 10 (dk_at dksX6_readHead_19 4 rfl rfl)
theorem dX6_readHead_455 : decode cX6_readHead 455 = .ok (.iastore, 1) := dk_79 (dk_at dksX6_readHead_19 6 rfl rfl)
theorem dX6_readHead_456 : decode cX6_readHead 456 = .ok (.iconst 0, 1) := dk_3 (dk_at dksX6_readHead_19 7 rfl rfl)
theorem dX6_readHead_457 : decode cX6_readHead 457 = .ok (.istore 11, 2) := dk_54 11 (dk_at dksX6_readHead_19 8 rfl rfl)
theorem dX6_readHead_459 : decode cX6_readHead 459 = .ok (.iload 11, 2) := dk_21 11 (dk_at dksX6_readHead_19 10 rfl rfl)
theorem dX6_readHead_461 : decode cX6_readHead 461 = .ok (.iload 8, 2) := dk_21 8 (dk_at dksX6_readHead_19 12 rfl rfl)
theorem dX6_readHead_463 : decode cX6_readHead 463 = .ok (.if_icmp .ge 31, 3) := dk_162 0 31 (dk_at dksX6_readHead_19 14 rfl rfl)
theorem dX6_readHead_466 : decode cX6_readHead 466 = .ok (.aload_n 0, 1) := dk_42 (dk_at dksX6_readHead_19 17 rfl rfl)
theorem dX6_readHead_467 : decode cX6_readHead 467 = .ok (.getfield 64, 3) := dk_180 0 64 (dk_at dksX6_readHead_19 18 rfl rfl)
theorem dX6_readHead_470 : decode cX6_readHead 470 = .ok (.bipush 10, 2) := dk_16 10 (dk_at dksX6_readHead_19 21 rfl rfl)
theorem dX6_readHead_472 : decode cX6_readHead 472 = .ok (.iload_n 1, 1) := dk_27 (dk_at dksX6_readHead_19 23 rfl rfl)
theorem dX6_readHead_473 : decode cX6_readHead 473 = .ok (.imul, 1) := dk_104 (dk_at dksX6_readHead_20 0 rfl rfl)
theorem dX6_readHead_474 : decode cX6_readHead 474 = .ok (.iload 11, 2) := dk_21 11 (dk_at dksX6_readHead_20 1 rfl rfl)
theorem dX6_readHead_476 : decode cX6_readHead 476 = .ok (.iadd, 1) := dk_96 (dk_at dksX6_readHead_20 3 rfl rfl)
theorem dX6_readHead_477 : decode cX6_readHead 477 = .ok (.aload_n 0, 1) := dk_42 (dk_at dksX6_readHead_20 4 rfl rfl)
theorem dX6_readHead_478 : decode cX6_readHead 478 = .ok (.getfield 46, 3) := dk_180 0 46 (dk_at dksX6_readHead_20 5 rfl rfl)
theorem dX6_readHead_481 : decode cX6_readHead 481 = .ok (.iload 9, 2) := dk_21 9 (dk_at dksX6_readHead_20 8 rfl rfl)
theorem dX6_readHead_483 : decode cX6_readHead 483 = .ok (.iload 11, 2) := dk_21 11 (dk_at dksX6_readHead_20 10 rfl rfl)
theorem dX6_readHead_485 : decode cX6_readHead 485 = .ok (.iadd, 1) := dk_96 (dk_at dksX6_readHead_20 12 rfl rfl)
theorem dX6_readHead_486 : decode cX6_readHead 486 = .ok (.iaload, 1) := dk_46 (dk_at dksX6_readHead_20 13 rfl rfl)
theorem dX6_readHead_487 : decode cX6_readHead 487 = .ok (.iastore, 1) := dk_79 (dk_at dksX6_readHead_20 14 rfl rfl)
theorem dX6_readHead_488 : decode cX6_readHead 488 = .ok (.iinc 11 1, 3) := dk_132 11 1 (dk_at dksX6_readHead_20 15 rfl rfl)
theorem dX6_readHead_491 : decode cX6_readHead 491 = .ok (.goto (-32), 3) := dk_167 255 224 (dk_at dksX6_readHead_20 18 rfl rfl)
theorem dX6_readHead_494 : decode cX6_readHead 494 = .ok (.aload_n 0, 1) := dk_42 (dk_at dksX6_readHead_20 21 rfl rfl)
theorem dX6_readHead_495 : decode cX6_readHead 495 = .ok (.getfield 58, 3) := dk_180 0 58 (dk_at dksX6_readHead_21 0 rfl rfl)
theorem dX6_readHead_498 : decode cX6_readHead 498 = .ok (.iload_n 1, 1) := dk_27 (dk_at dksX6_readHead_21 3 rfl rfl)
theorem dX6_readHead_499 : decode cX6_readHead 499 = .ok (.aload_n 0, 1) := dk_42 (dk_at dksX6_readHead_21 4 rfl rfl)
theorem dX6_readHead_500 : decode cX6_readHead 500 = .ok (.getfield 46, 3) := dk_180 0 46 (dk_at dksX6_readHead_21 5 rfl rfl)
theorem dX6_readHead_503 : decode cX6_readHead 503 = .ok (.iload 9, 2) := dk_21 9 (dk_at dksX6_readHead_21 8 rfl rfl)
theorem dX6_readHead_505 : decode cX6_readHead 505 = .ok (.iload 8, 2) := dk_21 8 (dk_at dksX6_readHead_21 10 rfl rfl)
theorem dX6_readHead_507 : decode cX6_readHead 507 = .ok (.iadd, 1) := dk_96 (dk_at dksX6_readHead_21 12 rfl rfl)
theorem dX6_readHead_508 : decode cX6_readHead 508 = .ok (.iaload, 1) := dk_46 (dk_at dksX6_readHead_21 13 rfl rfl)
theorem dX6_readHead_509 : decode cX6_readHead 509 = .ok (.iastore, 1) := dk_79 (dk_at dksX6_readHead_21 14 rfl rfl)
theorem dX6_readHead_510 : decode cX6_readHead 510 = .ok (.aload_n 0, 1) := dk_42 (dk_at dksX6_readHead_21 15 rfl rfl)
theorem dX6_readHead_511 : decode cX6_readHead 511 = .ok (.getfield 70, 3) := dk_180 0 70 (dk_at dksX6_readHead_21 16 rfl rfl)
theorem dX6_readHead_514 : decode cX6_readHead 514 = .ok (.iload_n 1, 1) := dk_27 (dk_at dksX6_readHead_21 19 rfl rfl)
theorem dX6_readHead_515 : decode cX6_readHead 515 = .ok (.aload_n 0, 1) := dk_42 (dk_at dksX6_readHead_21 20 rfl rfl)
theorem dX6_readHead_516 : decode cX6_readHead 516 = .ok (.iload 9, 2) := dk_21 9 (dk_at dksX6_readHead_21 21 rfl rfl)
theorem dX6_readHead_518 : decode cX6_readHead 518 = .ok (.iload 8, 2) := dk_21 8 (dk_at dksX6_readHead_22 0 rfl rfl)
theorem dX6_readHead_520 : decode cX6_readHead 520 = .ok (.iadd, 1) := dk_96 (dk_at dksX6_readHead_22 2 rfl rfl)
theorem dX6_readHead_521 : decode cX6_readHead 521 = .ok (.iconst 1, 1) := dk_4 (dk_at dksX6_readHead_22 3 rfl rfl)
theorem dX6_readHead_522 : decode cX6_readHead 522 = .ok (.iadd, 1) := dk_96 (dk_at dksX6_readHead_22 4 rfl rfl)
theorem dX6_readHead_523 : decode cX6_readHead 523 = .ok (.invokevirtual 220, 3) := dk_182 0 220 (dk_at dksX6_readHead_22 5 rfl rfl)
theorem dX6_readHead_526 : decode cX6_readHead 526 = .ok (.i2l, 1) := dk_133 (dk_at dksX6_readHead_22 8 rfl rfl)
theorem dX6_readHead_527 : decode cX6_readHead 527 = .ok (.ldc2_w 225, 3) := dk_20 0 225 (dk_at dksX6_readHead_22 9 rfl rfl)
theorem dX6_readHead_530 : decode cX6_readHead 530 = .ok (.land, 1) := dk_127 (dk_at dksX6_readHead_22 12 rfl rfl)
theorem dX6_readHead_531 : decode cX6_readHead 531 = .ok (.lastore, 1) := dk_80 (dk_at dksX6_readHead_22 13 rfl rfl)
theorem dX6_readHead_532 : decode cX6_readHead 532 = .ok (.aload_n 0, 1) := dk_42 (dk_at dksX6_readHead_22 14 rfl rfl)
theorem dX6_readHead_533 : decode cX6_readHead 533 = .ok (.getfield 77, 3) := dk_180 0 77 (dk_at dksX6_readHead_22 15 rfl rfl)
theorem dX6_readHead_536 : decode cX6_readHead 536 = .ok (.iload_n 1, 1) := dk_27 (dk_at dksX6_readHead_22 18 rfl rfl)
theorem dX6_readHead_537 : decode cX6_readHead 537 = .ok (.iconst (-1), 1) := dk_2 (dk_at dksX6_readHead_22 19 rfl rfl)
theorem dX6_readHead_538 : decode cX6_readHead 538 = .ok (.iastore, 1) := dk_79 (dk_at dksX6_readHead_22 20 rfl rfl)
theorem dX6_readHead_539 : decode cX6_readHead 539 = .ok (.aload_n 0, 1) := dk_42 (dk_at dksX6_readHead_22 21 rfl rfl)
theorem dX6_readHead_540 : decode cX6_readHead 540 = .ok (.iload 9, 2) := dk_21 9 (dk_at dksX6_readHead_22 22 rfl rfl)
theorem dX6_readHead_542 : decode cX6_readHead 542 = .ok (.iload 8, 2) := dk_21 8 (dk_at dksX6_readHead_23 0 rfl rfl)
theorem dX6_readHead_544 : decode cX6_readHead 544 = .ok (.iadd, 1) := dk_96 (dk_at dksX6_readHead_23 2 rfl rfl)
theorem dX6_readHead_545 : decode cX6_readHead 545 = .ok (.iconst 5, 1) := dk_8 (dk_at dksX6_readHead_23 3 rfl rfl)
theorem dX6_readHead_546 : decode cX6_readHead 546 = .ok (.iadd, 1) := dk_96 (dk_at dksX6_readHead_23 4 rfl rfl)
theorem dX6_readHead_547 : decode cX6_readHead 547 = .ok (.putfield 206, 3) := dk_181 0 206 (dk_at dksX6_readHead_23 5 rfl rfl)
theorem dX6_readHead_550 : decode cX6_readHead 550 = .ok (.aload_n 0, 1) := dk_42 (dk_at dksX6_readHead_23 8 rfl rfl)
theorem dX6_readHead_551 : decode cX6_readHead 551 = .ok (.dup, 1) := dk_89 (dk_at dksX6_readHead_23 9 rfl rfl)
theorem dX6_readHead_552 : decode cX6_readHead 552 = .ok (.getfield 209, 3) := dk_180 0 209 (dk_at dksX6_readHead_23 10 rfl rfl)
theorem dX6_readHead_555 : decode cX6_readHead 555 = .ok (.iconst 1, 1) := dk_4 (dk_at dksX6_readHead_23 13 rfl rfl)
theorem dX6_readHead_556 : decode cX6_readHead 556 = .ok (.iadd, 1) := dk_96 (dk_at dksX6_readHead_23 14 rfl rfl)
theorem dX6_readHead_557 : decode cX6_readHead 557 = .ok (.putfield 209, 3) := dk_181 0 209 (dk_at dksX6_readHead_23 15 rfl rfl)
theorem dX6_readHead_560 : decode cX6_readHead 560 = .ok (.iconst 1, 1) := dk_4 (dk_at dksX6_readHead_23 18 rfl rfl)
theorem dX6_readHead_561 : decode cX6_readHead 561 = .ok (.ireturn, 1) := dk_172 (dk_at dksX6_readHead_23 19 rfl rfl)
abbrev cX6_hasLeft : ByteArray := prog_8_method_35_code
def yX6_hasLeft : MethodName := ⟨RX6, "hasLeft", "(J)Z"⟩
def dkwX6_hasLeft_1 : List UInt8 := [153, 0, 7, 4, 167, 0, 4, 3, 172]
abbrev dktX6_hasLeft_1 : List UInt8 := dkwX6_hasLeft_1 ++ []
def dkwX6_hasLeft_0 : List UInt8 := [42, 180, 0, 203, 42, 180, 0, 206, 100, 133, 31, 148, 156, 0, 15, 42, 4, 42, 180, 0, 203, 182, 0, 200]
abbrev dktX6_hasLeft_0 : List UInt8 := dkwX6_hasLeft_0 ++ dktX6_hasLeft_1
theorem dksX6_hasLeft_0 : cX6_hasLeft.data.toList.drop 0 = dktX6_hasLeft_0 := by decide +kernel
theorem dksX6_hasLeft_1 : cX6_hasLeft.data.toList.drop 24 = dktX6_hasLeft_1 := dk_seg dksX6_hasLeft_0 24 rfl rfl
theorem dX6_hasLeft_0 : decode cX6_hasLeft 0 = .ok (.aload_n 0, 1) := dk_42 (dk_at dksX6_hasLeft_0 0 rfl rfl)
theorem dX6_hasLeft_1 : decode cX6_hasLeft 1 = .ok (.getfield 203, 3) := dk_180 0 203 (dk_at dksX6_hasLeft_0 1 rfl rfl)
theorem dX6_hasLeft_4 : decode cX6_hasLeft 4 = .ok (.aload_n 0, 1) := dk_42 (dk_at dksX6_hasLeft_0 4 rfl rfl)
theorem dX6_hasLeft_5 : decode cX6_hasLeft 5 = .ok (.getfield 206, 3) := dk_180 0 206 (dk_at dksX6_hasLeft_0 5 rfl rfl)
theorem dX6_hasLeft_8 : decode cX6_hasLeft 8 = .ok (.isub, 1) := dk_100 (dk_at dksX6_hasLeft_0 8 rfl rfl)
theorem dX6_hasLeft_9 : decode cX6_hasLeft 9 = .ok (.i2l, 1) := dk_133 (dk_at dksX6_hasLeft_0 9 rfl rfl)
theorem dX6_hasLeft_10 : decode cX6_hasLeft 10 = .ok (.lload_n 1, 1) := dk_31 (dk_at dksX6_hasLeft_0 10 rfl rfl)
theorem dX6_hasLeft_11 : decode cX6_hasLeft 11 = .ok (.lcmp, 1) := dk_148 (dk_at dksX6_hasLeft_0 11 rfl rfl)
theorem dX6_hasLeft_12 : decode cX6_hasLeft 12 = .ok (.ifCond .ge 15, 3) := dk_156 0 15 (dk_at dksX6_hasLeft_0 12 rfl rfl)
theorem dX6_hasLeft_15 : decode cX6_hasLeft 15 = .ok (.aload_n 0, 1) := dk_42 (dk_at dksX6_hasLeft_0 15 rfl rfl)
theorem dX6_hasLeft_16 : decode cX6_hasLeft 16 = .ok (.iconst 1, 1) := dk_4 (dk_at dksX6_hasLeft_0 16 rfl rfl)
theorem dX6_hasLeft_17 : decode cX6_hasLeft 17 = .ok (.aload_n 0, 1) := dk_42 (dk_at dksX6_hasLeft_0 17 rfl rfl)
theorem dX6_hasLeft_18 : decode cX6_hasLeft 18 = .ok (.getfield 203, 3) := dk_180 0 203 (dk_at dksX6_hasLeft_0 18 rfl rfl)
theorem dX6_hasLeft_21 : decode cX6_hasLeft 21 = .ok (.invokevirtual 200, 3) := dk_182 0 200 (dk_at dksX6_hasLeft_0 21 rfl rfl)
theorem dX6_hasLeft_24 : decode cX6_hasLeft 24 = .ok (.ifCond .eq 7, 3) := dk_153 0 7 (dk_at dksX6_hasLeft_1 0 rfl rfl)
theorem dX6_hasLeft_27 : decode cX6_hasLeft 27 = .ok (.iconst 1, 1) := dk_4 (dk_at dksX6_hasLeft_1 3 rfl rfl)
theorem dX6_hasLeft_28 : decode cX6_hasLeft 28 = .ok (.goto 4, 3) := dk_167 0 4 (dk_at dksX6_hasLeft_1 4 rfl rfl)
theorem dX6_hasLeft_31 : decode cX6_hasLeft 31 = .ok (.iconst 0, 1) := dk_3 (dk_at dksX6_hasLeft_1 7 rfl rfl)
theorem dX6_hasLeft_32 : decode cX6_hasLeft 32 = .ok (.ireturn, 1) := dk_172 (dk_at dksX6_hasLeft_1 8 rfl rfl)
abbrev cX6_fail : ByteArray := prog_8_method_33_code
def yX6_fail : MethodName := ⟨RX6, "fail", "(II)Z"⟩
def dkwX6_fail_0 : List UInt8 := [42, 180, 0, 194, 154, 0, 13, 42, 27, 181, 0, 194, 42, 28, 181, 0, 197, 3, 172]
abbrev dktX6_fail_0 : List UInt8 := dkwX6_fail_0 ++ []
theorem dksX6_fail_0 : cX6_fail.data.toList.drop 0 = dktX6_fail_0 := by decide +kernel
theorem dX6_fail_0 : decode cX6_fail 0 = .ok (.aload_n 0, 1) := dk_42 (dk_at dksX6_fail_0 0 rfl rfl)
theorem dX6_fail_1 : decode cX6_fail 1 = .ok (.getfield 194, 3) := dk_180 0 194 (dk_at dksX6_fail_0 1 rfl rfl)
theorem dX6_fail_4 : decode cX6_fail 4 = .ok (.ifCond .ne 13, 3) := dk_154 0 13 (dk_at dksX6_fail_0 4 rfl rfl)
theorem dX6_fail_7 : decode cX6_fail 7 = .ok (.aload_n 0, 1) := dk_42 (dk_at dksX6_fail_0 7 rfl rfl)
theorem dX6_fail_8 : decode cX6_fail 8 = .ok (.iload_n 1, 1) := dk_27 (dk_at dksX6_fail_0 8 rfl rfl)
theorem dX6_fail_9 : decode cX6_fail 9 = .ok (.putfield 194, 3) := dk_181 0 194 (dk_at dksX6_fail_0 9 rfl rfl)
theorem dX6_fail_12 : decode cX6_fail 12 = .ok (.aload_n 0, 1) := dk_42 (dk_at dksX6_fail_0 12 rfl rfl)
theorem dX6_fail_13 : decode cX6_fail 13 = .ok (.iload_n 2, 1) := dk_28 (dk_at dksX6_fail_0 13 rfl rfl)
theorem dX6_fail_14 : decode cX6_fail 14 = .ok (.putfield 197, 3) := dk_181 0 197 (dk_at dksX6_fail_0 14 rfl rfl)
theorem dX6_fail_17 : decode cX6_fail 17 = .ok (.iconst 0, 1) := dk_3 (dk_at dksX6_fail_0 17 rfl rfl)
theorem dX6_fail_18 : decode cX6_fail 18 = .ok (.ireturn, 1) := dk_172 (dk_at dksX6_fail_0 18 rfl rfl)
abbrev cX6_four : ByteArray := prog_8_method_36_code
def yX6_four : MethodName := ⟨RX6, "four", "(I)I"⟩
def dkwX6_four_1 : List UInt8 := [180, 0, 46, 27, 5, 96, 46, 16, 8, 120, 128, 42, 180, 0, 46, 27, 6, 96, 46, 128, 172]
abbrev dktX6_four_1 : List UInt8 := dkwX6_four_1 ++ []
def dkwX6_four_0 : List UInt8 := [42, 180, 0, 46, 27, 46, 16, 24, 120, 42, 180, 0, 46, 27, 4, 96, 46, 16, 16, 120, 128, 42]
abbrev dktX6_four_0 : List UInt8 := dkwX6_four_0 ++ dktX6_four_1
theorem dksX6_four_0 : cX6_four.data.toList.drop 0 = dktX6_four_0 := by decide +kernel
theorem dksX6_four_1 : cX6_four.data.toList.drop 22 = dktX6_four_1 := dk_seg dksX6_four_0 22 rfl rfl
theorem dX6_four_0 : decode cX6_four 0 = .ok (.aload_n 0, 1) := dk_42 (dk_at dksX6_four_0 0 rfl rfl)
theorem dX6_four_1 : decode cX6_four 1 = .ok (.getfield 46, 3) := dk_180 0 46 (dk_at dksX6_four_0 1 rfl rfl)
theorem dX6_four_4 : decode cX6_four 4 = .ok (.iload_n 1, 1) := dk_27 (dk_at dksX6_four_0 4 rfl rfl)
theorem dX6_four_5 : decode cX6_four 5 = .ok (.iaload, 1) := dk_46 (dk_at dksX6_four_0 5 rfl rfl)
theorem dX6_four_6 : decode cX6_four 6 = .ok (.bipush 24, 2) := dk_16 24 (dk_at dksX6_four_0 6 rfl rfl)
theorem dX6_four_8 : decode cX6_four 8 = .ok (.ishl, 1) := dk_120 (dk_at dksX6_four_0 8 rfl rfl)
theorem dX6_four_9 : decode cX6_four 9 = .ok (.aload_n 0, 1) := dk_42 (dk_at dksX6_four_0 9 rfl rfl)
theorem dX6_four_10 : decode cX6_four 10 = .ok (.getfield 46, 3) := dk_180 0 46 (dk_at dksX6_four_0 10 rfl rfl)
theorem dX6_four_13 : decode cX6_four 13 = .ok (.iload_n 1, 1) := dk_27 (dk_at dksX6_four_0 13 rfl rfl)
theorem dX6_four_14 : decode cX6_four 14 = .ok (.iconst 1, 1) := dk_4 (dk_at dksX6_four_0 14 rfl rfl)
theorem dX6_four_15 : decode cX6_four 15 = .ok (.iadd, 1) := dk_96 (dk_at dksX6_four_0 15 rfl rfl)
theorem dX6_four_16 : decode cX6_four 16 = .ok (.iaload, 1) := dk_46 (dk_at dksX6_four_0 16 rfl rfl)
theorem dX6_four_17 : decode cX6_four 17 = .ok (.bipush 16, 2) := dk_16 16 (dk_at dksX6_four_0 17 rfl rfl)
theorem dX6_four_19 : decode cX6_four 19 = .ok (.ishl, 1) := dk_120 (dk_at dksX6_four_0 19 rfl rfl)
theorem dX6_four_20 : decode cX6_four 20 = .ok (.ior, 1) := dk_128 (dk_at dksX6_four_0 20 rfl rfl)
theorem dX6_four_21 : decode cX6_four 21 = .ok (.aload_n 0, 1) := dk_42 (dk_at dksX6_four_0 21 rfl rfl)
theorem dX6_four_22 : decode cX6_four 22 = .ok (.getfield 46, 3) := dk_180 0 46 (dk_at dksX6_four_1 0 rfl rfl)
theorem dX6_four_25 : decode cX6_four 25 = .ok (.iload_n 1, 1) := dk_27 (dk_at dksX6_four_1 3 rfl rfl)
theorem dX6_four_26 : decode cX6_four 26 = .ok (.iconst 2, 1) := dk_5 (dk_at dksX6_four_1 4 rfl rfl)
theorem dX6_four_27 : decode cX6_four 27 = .ok (.iadd, 1) := dk_96 (dk_at dksX6_four_1 5 rfl rfl)
theorem dX6_four_28 : decode cX6_four 28 = .ok (.iaload, 1) := dk_46 (dk_at dksX6_four_1 6 rfl rfl)
theorem dX6_four_29 : decode cX6_four 29 = .ok (.bipush 8, 2) := dk_16 8 (dk_at dksX6_four_1 7 rfl rfl)
theorem dX6_four_31 : decode cX6_four 31 = .ok (.ishl, 1) := dk_120 (dk_at dksX6_four_1 9 rfl rfl)
theorem dX6_four_32 : decode cX6_four 32 = .ok (.ior, 1) := dk_128 (dk_at dksX6_four_1 10 rfl rfl)
theorem dX6_four_33 : decode cX6_four 33 = .ok (.aload_n 0, 1) := dk_42 (dk_at dksX6_four_1 11 rfl rfl)
theorem dX6_four_34 : decode cX6_four 34 = .ok (.getfield 46, 3) := dk_180 0 46 (dk_at dksX6_four_1 12 rfl rfl)
theorem dX6_four_37 : decode cX6_four 37 = .ok (.iload_n 1, 1) := dk_27 (dk_at dksX6_four_1 15 rfl rfl)
theorem dX6_four_38 : decode cX6_four 38 = .ok (.iconst 3, 1) := dk_6 (dk_at dksX6_four_1 16 rfl rfl)
theorem dX6_four_39 : decode cX6_four 39 = .ok (.iadd, 1) := dk_96 (dk_at dksX6_four_1 17 rfl rfl)
theorem dX6_four_40 : decode cX6_four 40 = .ok (.iaload, 1) := dk_46 (dk_at dksX6_four_1 18 rfl rfl)
theorem dX6_four_41 : decode cX6_four 41 = .ok (.ior, 1) := dk_128 (dk_at dksX6_four_1 19 rfl rfl)
theorem dX6_four_42 : decode cX6_four 42 = .ok (.ireturn, 1) := dk_172 (dk_at dksX6_four_1 20 rfl rfl)
abbrev cX6_readSegment : ByteArray := prog_8_method_54_code
def yX6_readSegment : MethodName := ⟨RX6, "readSegment", "(I)Z"⟩
def dkwX6_readSegment_9 : List UInt8 := [42, 27, 4, 96, 181, 1, 39, 4, 172]
abbrev dktX6_readSegment_9 : List UInt8 := dkwX6_readSegment_9 ++ []
def dkwX6_readSegment_8 : List UInt8 := [3, 172, 42, 180, 0, 74, 27, 29, 42, 180, 0, 206, 100, 79, 42, 29, 181, 0, 206, 42, 27, 182, 1, 36]
abbrev dktX6_readSegment_8 : List UInt8 := dkwX6_readSegment_8 ++ dktX6_readSegment_9
def dkwX6_readSegment_7 : List UInt8 := [180, 0, 234, 154, 0, 7, 4, 167, 0, 4, 3, 16, 10, 27, 182, 0, 237, 54, 4, 21, 4, 154, 0, 5]
abbrev dktX6_readSegment_7 : List UInt8 := dkwX6_readSegment_7 ++ dktX6_readSegment_8
def dkwX6_readSegment_6 : List UInt8 := [4, 167, 0, 4, 3, 16, 9, 27, 182, 0, 237, 54, 4, 167, 0, 30, 28, 16, 51, 160, 0, 24, 42, 42]
abbrev dktX6_readSegment_6 : List UInt8 := dkwX6_readSegment_6 ++ dktX6_readSegment_7
def dkwX6_readSegment_5 : List UInt8 := [3, 54, 4, 167, 0, 64, 28, 16, 62, 160, 0, 31, 42, 42, 42, 180, 0, 206, 182, 0, 220, 155, 0, 7]
abbrev dktX6_readSegment_5 : List UInt8 := dkwX6_readSegment_5 ++ dktX6_readSegment_6
def dkwX6_readSegment_4 : List UInt8 := [167, 0, 91, 28, 184, 0, 137, 153, 0, 23, 42, 27, 182, 1, 33, 62, 29, 155, 0, 7, 4, 167, 0, 4]
abbrev dktX6_readSegment_4 : List UInt8 := dkwX6_readSegment_4 ++ dktX6_readSegment_5
def dkwX6_readSegment_3 : List UInt8 := [42, 27, 182, 1, 27, 54, 4, 167, 0, 107, 28, 16, 49, 160, 0, 13, 42, 27, 182, 1, 30, 54, 4]
abbrev dktX6_readSegment_3 : List UInt8 := dkwX6_readSegment_3 ++ dktX6_readSegment_4
def dkwX6_readSegment_2 : List UInt8 := [54, 4, 28, 16, 48, 160, 0, 13, 42, 27, 182, 1, 24, 54, 4, 167, 0, 123, 28, 16, 50, 160, 0, 13]
abbrev dktX6_readSegment_2 : List UInt8 := dkwX6_readSegment_2 ++ dktX6_readSegment_3
def dkwX6_readSegment_1 : List UInt8 := [3, 172, 42, 180, 0, 55, 27, 46, 61, 42, 180, 0, 206, 42, 180, 0, 70, 27, 47, 136, 96, 62, 4]
abbrev dktX6_readSegment_1 : List UInt8 := dkwX6_readSegment_1 ++ dktX6_readSegment_2
def dkwX6_readSegment_0 : List UInt8 := [42, 27, 182, 1, 15, 153, 0, 19, 42, 27, 182, 1, 18, 153, 0, 11, 42, 27, 182, 1, 21, 154, 0, 5]
abbrev dktX6_readSegment_0 : List UInt8 := dkwX6_readSegment_0 ++ dktX6_readSegment_1
theorem dksX6_readSegment_0 : cX6_readSegment.data.toList.drop 0 = dktX6_readSegment_0 := by decide +kernel
theorem dksX6_readSegment_1 : cX6_readSegment.data.toList.drop 24 = dktX6_readSegment_1 := dk_seg dksX6_readSegment_0 24 rfl rfl
theorem dksX6_readSegment_2 : cX6_readSegment.data.toList.drop 47 = dktX6_readSegment_2 := dk_seg dksX6_readSegment_1 23 rfl rfl
theorem dksX6_readSegment_3 : cX6_readSegment.data.toList.drop 71 = dktX6_readSegment_3 := dk_seg dksX6_readSegment_2 24 rfl rfl
theorem dksX6_readSegment_4 : cX6_readSegment.data.toList.drop 94 = dktX6_readSegment_4 := dk_seg dksX6_readSegment_3 23 rfl rfl
theorem dksX6_readSegment_5 : cX6_readSegment.data.toList.drop 118 = dktX6_readSegment_5 := dk_seg dksX6_readSegment_4 24 rfl rfl
theorem dksX6_readSegment_6 : cX6_readSegment.data.toList.drop 142 = dktX6_readSegment_6 := dk_seg dksX6_readSegment_5 24 rfl rfl
theorem dksX6_readSegment_7 : cX6_readSegment.data.toList.drop 166 = dktX6_readSegment_7 := dk_seg dksX6_readSegment_6 24 rfl rfl
theorem dksX6_readSegment_8 : cX6_readSegment.data.toList.drop 190 = dktX6_readSegment_8 := dk_seg dksX6_readSegment_7 24 rfl rfl
theorem dksX6_readSegment_9 : cX6_readSegment.data.toList.drop 214 = dktX6_readSegment_9 := dk_seg dksX6_readSegment_8 24 rfl rfl
theorem dX6_readSegment_0 : decode cX6_readSegment 0 = .ok (.aload_n 0, 1) := dk_42 (dk_at dksX6_readSegment_0 0 rfl rfl)
theorem dX6_readSegment_1 : decode cX6_readSegment 1 = .ok (.iload_n 1, 1) := dk_27 (dk_at dksX6_readSegment_0 1 rfl rfl)
theorem dX6_readSegment_2 : decode cX6_readSegment 2 = .ok (.invokevirtual 271, 3) := dk_182 1 15 (dk_at dksX6_readSegment_0 2 rfl rfl)
theorem dX6_readSegment_5 : decode cX6_readSegment 5 = .ok (.ifCond .eq 19, 3) := dk_153 0 19 (dk_at dksX6_readSegment_0 5 rfl rfl)
theorem dX6_readSegment_8 : decode cX6_readSegment 8 = .ok (.aload_n 0, 1) := dk_42 (dk_at dksX6_readSegment_0 8 rfl rfl)
theorem dX6_readSegment_9 : decode cX6_readSegment 9 = .ok (.iload_n 1, 1) := dk_27 (dk_at dksX6_readSegment_0 9 rfl rfl)
theorem dX6_readSegment_10 : decode cX6_readSegment 10 = .ok (.invokevirtual 274, 3) := dk_182 1 18 (dk_at dksX6_readSegment_0 10 rfl rfl)
theorem dX6_readSegment_13 : decode cX6_readSegment 13 = .ok (.ifCond .eq 11, 3) := dk_153 0 11 (dk_at dksX6_readSegment_0 13 rfl rfl)
theorem dX6_readSegment_16 : decode cX6_readSegment 16 = .ok (.aload_n 0, 1) := dk_42 (dk_at dksX6_readSegment_0 16 rfl rfl)
theorem dX6_readSegment_17 : decode cX6_readSegment 17 = .ok (.iload_n 1, 1) := dk_27 (dk_at dksX6_readSegment_0 17 rfl rfl)
theorem dX6_readSegment_18 : decode cX6_readSegment 18 = .ok (.invokevirtual 277, 3) := dk_182 1 21 (dk_at dksX6_readSegment_0 18 rfl rfl)
theorem dX6_readSegment_21 : decode cX6_readSegment 21 = .ok (.ifCond .ne 5, 3) := dk_154 0 5 (dk_at dksX6_readSegment_0 21 rfl rfl)
theorem dX6_readSegment_24 : decode cX6_readSegment 24 = .ok (.iconst 0, 1) := dk_3 (dk_at dksX6_readSegment_1 0 rfl rfl)
theorem dX6_readSegment_25 : decode cX6_readSegment 25 = .ok (.ireturn, 1) := dk_172 (dk_at dksX6_readSegment_1 1 rfl rfl)
theorem dX6_readSegment_26 : decode cX6_readSegment 26 = .ok (.aload_n 0, 1) := dk_42 (dk_at dksX6_readSegment_1 2 rfl rfl)
theorem dX6_readSegment_27 : decode cX6_readSegment 27 = .ok (.getfield 55, 3) := dk_180 0 55 (dk_at dksX6_readSegment_1 3 rfl rfl)
theorem dX6_readSegment_30 : decode cX6_readSegment 30 = .ok (.iload_n 1, 1) := dk_27 (dk_at dksX6_readSegment_1 6 rfl rfl)
theorem dX6_readSegment_31 : decode cX6_readSegment 31 = .ok (.iaload, 1) := dk_46 (dk_at dksX6_readSegment_1 7 rfl rfl)
theorem dX6_readSegment_32 : decode cX6_readSegment 32 = .ok (.istore_n 2, 1) := dk_61 (dk_at dksX6_readSegment_1 8 rfl rfl)
theorem dX6_readSegment_33 : decode cX6_readSegment 33 = .ok (.aload_n 0, 1) := dk_42 (dk_at dksX6_readSegment_1 9 rfl rfl)
theorem dX6_readSegment_34 : decode cX6_readSegment 34 = .ok (.getfield 206, 3) := dk_180 0 206 (dk_at dksX6_readSegment_1 10 rfl rfl)
theorem dX6_readSegment_37 : decode cX6_readSegment 37 = .ok (.aload_n 0, 1) := dk_42 (dk_at dksX6_readSegment_1 13 rfl rfl)
theorem dX6_readSegment_38 : decode cX6_readSegment 38 = .ok (.getfield 70, 3) := dk_180 0 70 (dk_at dksX6_readSegment_1 14 rfl rfl)
theorem dX6_readSegment_41 : decode cX6_readSegment 41 = .ok (.iload_n 1, 1) := dk_27 (dk_at dksX6_readSegment_1 17 rfl rfl)
theorem dX6_readSegment_42 : decode cX6_readSegment 42 = .ok (.laload, 1) := dk_47 (dk_at dksX6_readSegment_1 18 rfl rfl)
theorem dX6_readSegment_43 : decode cX6_readSegment 43 = .ok (.l2i, 1) := dk_136 (dk_at dksX6_readSegment_1 19 rfl rfl)
theorem dX6_readSegment_44 : decode cX6_readSegment 44 = .ok (.iadd, 1) := dk_96 (dk_at dksX6_readSegment_1 20 rfl rfl)
theorem dX6_readSegment_45 : decode cX6_readSegment 45 = .ok (.istore_n 3, 1) := dk_62 (dk_at dksX6_readSegment_1 21 rfl rfl)
theorem dX6_readSegment_46 : decode cX6_readSegment 46 = .ok (.iconst 1, 1) := dk_4 (dk_at dksX6_readSegment_1 22 rfl rfl)
theorem dX6_readSegment_47 : decode cX6_readSegment 47 = .ok (.istore 4, 2) := dk_54 4 (dk_at dksX6_readSegment_2 0 rfl rfl)
theorem dX6_readSegment_49 : decode cX6_readSegment 49 = .ok (.iload_n 2, 1) := dk_28 (dk_at dksX6_readSegment_2 2 rfl rfl)
theorem dX6_readSegment_50 : decode cX6_readSegment 50 = .ok (.bipush 48, 2) := dk_16 48 (dk_at dksX6_readSegment_2 3 rfl rfl)
theorem dX6_readSegment_52 : decode cX6_readSegment 52 = .ok (.if_icmp .ne 13, 3) := dk_160 0 13 (dk_at dksX6_readSegment_2 5 rfl rfl)
theorem dX6_readSegment_55 : decode cX6_readSegment 55 = .ok (.aload_n 0, 1) := dk_42 (dk_at dksX6_readSegment_2 8 rfl rfl)
theorem dX6_readSegment_56 : decode cX6_readSegment 56 = .ok (.iload_n 1, 1) := dk_27 (dk_at dksX6_readSegment_2 9 rfl rfl)
theorem dX6_readSegment_57 : decode cX6_readSegment 57 = .ok (.invokevirtual 280, 3) := dk_182 1 24 (dk_at dksX6_readSegment_2 10 rfl rfl)
theorem dX6_readSegment_60 : decode cX6_readSegment 60 = .ok (.istore 4, 2) := dk_54 4 (dk_at dksX6_readSegment_2 13 rfl rfl)
theorem dX6_readSegment_62 : decode cX6_readSegment 62 = .ok (.goto 123, 3) := dk_167 0 123 (dk_at dksX6_readSegment_2 15 rfl rfl)
theorem dX6_readSegment_65 : decode cX6_readSegment 65 = .ok (.iload_n 2, 1) := dk_28 (dk_at dksX6_readSegment_2 18 rfl rfl)
theorem dX6_readSegment_66 : decode cX6_readSegment 66 = .ok (.bipush 50, 2) := dk_16 50 (dk_at dksX6_readSegment_2 19 rfl rfl)
theorem dX6_readSegment_68 : decode cX6_readSegment 68 = .ok (.if_icmp .ne 13, 3) := dk_160 0 13 (dk_at dksX6_readSegment_2 21 rfl rfl)
theorem dX6_readSegment_71 : decode cX6_readSegment 71 = .ok (.aload_n 0, 1) := dk_42 (dk_at dksX6_readSegment_3 0 rfl rfl)
theorem dX6_readSegment_72 : decode cX6_readSegment 72 = .ok (.iload_n 1, 1) := dk_27 (dk_at dksX6_readSegment_3 1 rfl rfl)
theorem dX6_readSegment_73 : decode cX6_readSegment 73 = .ok (.invokevirtual 283, 3) := dk_182 1 27 (dk_at dksX6_readSegment_3 2 rfl rfl)
theorem dX6_readSegment_76 : decode cX6_readSegment 76 = .ok (.istore 4, 2) := dk_54 4 (dk_at dksX6_readSegment_3 5 rfl rfl)
theorem dX6_readSegment_78 : decode cX6_readSegment 78 = .ok (.goto 107, 3) := dk_167 0 107 (dk_at dksX6_readSegment_3 7 rfl rfl)
theorem dX6_readSegment_81 : decode cX6_readSegment 81 = .ok (.iload_n 2, 1) := dk_28 (dk_at dksX6_readSegment_3 10 rfl rfl)
theorem dX6_readSegment_82 : decode cX6_readSegment 82 = .ok (.bipush 49, 2) := dk_16 49 (dk_at dksX6_readSegment_3 11 rfl rfl)
theorem dX6_readSegment_84 : decode cX6_readSegment 84 = .ok (.if_icmp .ne 13, 3) := dk_160 0 13 (dk_at dksX6_readSegment_3 13 rfl rfl)
theorem dX6_readSegment_87 : decode cX6_readSegment 87 = .ok (.aload_n 0, 1) := dk_42 (dk_at dksX6_readSegment_3 16 rfl rfl)
theorem dX6_readSegment_88 : decode cX6_readSegment 88 = .ok (.iload_n 1, 1) := dk_27 (dk_at dksX6_readSegment_3 17 rfl rfl)
theorem dX6_readSegment_89 : decode cX6_readSegment 89 = .ok (.invokevirtual 286, 3) := dk_182 1 30 (dk_at dksX6_readSegment_3 18 rfl rfl)
theorem dX6_readSegment_92 : decode cX6_readSegment 92 = .ok (.istore 4, 2) := dk_54 4 (dk_at dksX6_readSegment_3 21 rfl rfl)
theorem dX6_readSegment_94 : decode cX6_readSegment 94 = .ok (.goto 91, 3) := dk_167 0 91 (dk_at dksX6_readSegment_4 0 rfl rfl)
theorem dX6_readSegment_97 : decode cX6_readSegment 97 = .ok (.iload_n 2, 1) := dk_28 (dk_at dksX6_readSegment_4 3 rfl rfl)
theorem dX6_readSegment_98 : decode cX6_readSegment 98 = .ok (.invokestatic 137, 3) := dk_184 0 137 (dk_at dksX6_readSegment_4 4 rfl rfl)
theorem dX6_readSegment_101 : decode cX6_readSegment 101 = .ok (.ifCond .eq 23, 3) := dk_153 0 23 (dk_at dksX6_readSegment_4 7 rfl rfl)
theorem dX6_readSegment_104 : decode cX6_readSegment 104 = .ok (.aload_n 0, 1) := dk_42 (dk_at dksX6_readSegment_4 10 rfl rfl)
theorem dX6_readSegment_105 : decode cX6_readSegment 105 = .ok (.iload_n 1, 1) := dk_27 (dk_at dksX6_readSegment_4 11 rfl rfl)
theorem dX6_readSegment_106 : decode cX6_readSegment 106 = .ok (.invokevirtual 289, 3) := dk_182 1 33 (dk_at dksX6_readSegment_4 12 rfl rfl)
theorem dX6_readSegment_109 : decode cX6_readSegment 109 = .ok (.istore_n 3, 1) := dk_62 (dk_at dksX6_readSegment_4 15 rfl rfl)
theorem dX6_readSegment_110 : decode cX6_readSegment 110 = .ok (.iload_n 3, 1) := dk_29 (dk_at dksX6_readSegment_4 16 rfl rfl)
theorem dX6_readSegment_111 : decode cX6_readSegment 111 = .ok (.ifCond .lt 7, 3) := dk_155 0 7 (dk_at dksX6_readSegment_4 17 rfl rfl)
theorem dX6_readSegment_114 : decode cX6_readSegment 114 = .ok (.iconst 1, 1) := dk_4 (dk_at dksX6_readSegment_4 20 rfl rfl)
theorem dX6_readSegment_115 : decode cX6_readSegment 115 = .ok (.goto 4, 3) := dk_167 0 4 (dk_at dksX6_readSegment_4 21 rfl rfl)
theorem dX6_readSegment_118 : decode cX6_readSegment 118 = .ok (.iconst 0, 1) := dk_3 (dk_at dksX6_readSegment_5 0 rfl rfl)
theorem dX6_readSegment_119 : decode cX6_readSegment 119 = .ok (.istore 4, 2) := dk_54 4 (dk_at dksX6_readSegment_5 1 rfl rfl)
theorem dX6_readSegment_121 : decode cX6_readSegment 121 = .ok (.goto 64, 3) := dk_167 0 64 (dk_at dksX6_readSegment_5 3 rfl rfl)
theorem dX6_readSegment_124 : decode cX6_readSegment 124 = .ok (.iload_n 2, 1) := dk_28 (dk_at dksX6_readSegment_5 6 rfl rfl)
theorem dX6_readSegment_125 : decode cX6_readSegment 125 = .ok (.bipush 62, 2) := dk_16 62 (dk_at dksX6_readSegment_5 7 rfl rfl)
theorem dX6_readSegment_127 : decode cX6_readSegment 127 = .ok (.if_icmp .ne 31, 3) := dk_160 0 31 (dk_at dksX6_readSegment_5 9 rfl rfl)
theorem dX6_readSegment_130 : decode cX6_readSegment 130 = .ok (.aload_n 0, 1) := dk_42 (dk_at dksX6_readSegment_5 12 rfl rfl)
theorem dX6_readSegment_131 : decode cX6_readSegment 131 = .ok (.aload_n 0, 1) := dk_42 (dk_at dksX6_readSegment_5 13 rfl rfl)
theorem dX6_readSegment_132 : decode cX6_readSegment 132 = .ok (.aload_n 0, 1) := dk_42 (dk_at dksX6_readSegment_5 14 rfl rfl)
theorem dX6_readSegment_133 : decode cX6_readSegment 133 = .ok (.getfield 206, 3) := dk_180 0 206 (dk_at dksX6_readSegment_5 15 rfl rfl)
theorem dX6_readSegment_136 : decode cX6_readSegment 136 = .ok (.invokevirtual 220, 3) := dk_182 0 220 (dk_at dksX6_readSegment_5 18 rfl rfl)
theorem dX6_readSegment_139 : decode cX6_readSegment 139 = .ok (.ifCond .lt 7, 3) := dk_155 0 7 (dk_at dksX6_readSegment_5 21 rfl rfl)
theorem dX6_readSegment_142 : decode cX6_readSegment 142 = .ok (.iconst 1, 1) := dk_4 (dk_at dksX6_readSegment_6 0 rfl rfl)
theorem dX6_readSegment_143 : decode cX6_readSegment 143 = .ok (.goto 4, 3) := dk_167 0 4 (dk_at dksX6_readSegment_6 1 rfl rfl)
theorem dX6_readSegment_146 : decode cX6_readSegment 146 = .ok (.iconst 0, 1) := dk_3 (dk_at dksX6_readSegment_6 4 rfl rfl)
theorem dX6_readSegment_147 : decode cX6_readSegment 147 = .ok (.bipush 9, 2) := dk_16 9 (dk_at dksX6_readSegment_6 5 rfl rfl)
theorem dX6_readSegment_149 : decode cX6_readSegment 149 = .ok (.iload_n 1, 1) := dk_27 (dk_at dksX6_readSegment_6 7 rfl rfl)
theorem dX6_readSegment_150 : decode cX6_readSegment 150 = .ok (.invokevirtual 237, 3) := dk_182 0 237 (dk_at dksX6_readSegment_6 8 rfl rfl)
theorem dX6_readSegment_153 : decode cX6_readSegment 153 = .ok (.istore 4, 2) := dk_54 4 (dk_at dksX6_readSegment_6 11 rfl rfl)
theorem dX6_readSegment_155 : decode cX6_readSegment 155 = .ok (.goto 30, 3) := dk_167 0 30 (dk_at dksX6_readSegment_6 13 rfl rfl)
theorem dX6_readSegment_158 : decode cX6_readSegment 158 = .ok (.iload_n 2, 1) := dk_28 (dk_at dksX6_readSegment_6 16 rfl rfl)
theorem dX6_readSegment_159 : decode cX6_readSegment 159 = .ok (.bipush 51, 2) := dk_16 51 (dk_at dksX6_readSegment_6 17 rfl rfl)
theorem dX6_readSegment_161 : decode cX6_readSegment 161 = .ok (.if_icmp .ne 24, 3) := dk_160 0 24 (dk_at dksX6_readSegment_6 19 rfl rfl)
theorem dX6_readSegment_164 : decode cX6_readSegment 164 = .ok (.aload_n 0, 1) := dk_42 (dk_at dksX6_readSegment_6 22 rfl rfl)
theorem dX6_readSegment_165 : decode cX6_readSegment 165 = .ok (.aload_n 0, 1) := dk_42 (dk_at dksX6_readSegment_6 23 rfl rfl)
theorem dX6_readSegment_166 : decode cX6_readSegment 166 = .ok (.getfield 234, 3) := dk_180 0 234 (dk_at dksX6_readSegment_7 0 rfl rfl)
theorem dX6_readSegment_169 : decode cX6_readSegment 169 = .ok (.ifCond .ne 7, 3) := dk_154 0 7 (dk_at dksX6_readSegment_7 3 rfl rfl)
theorem dX6_readSegment_172 : decode cX6_readSegment 172 = .ok (.iconst 1, 1) := dk_4 (dk_at dksX6_readSegment_7 6 rfl rfl)
theorem dX6_readSegment_173 : decode cX6_readSegment 173 = .ok (.goto 4, 3) := dk_167 0 4 (dk_at dksX6_readSegment_7 7 rfl rfl)
theorem dX6_readSegment_176 : decode cX6_readSegment 176 = .ok (.iconst 0, 1) := dk_3 (dk_at dksX6_readSegment_7 10 rfl rfl)
theorem dX6_readSegment_177 : decode cX6_readSegment 177 = .ok (.bipush 10, 2) := dk_16 10 (dk_at dksX6_readSegment_7 11 rfl rfl)
theorem dX6_readSegment_179 : decode cX6_readSegment 179 = .ok (.iload_n 1, 1) := dk_27 (dk_at dksX6_readSegment_7 13 rfl rfl)
theorem dX6_readSegment_180 : decode cX6_readSegment 180 = .ok (.invokevirtual 237, 3) := dk_182 0 237 (dk_at dksX6_readSegment_7 14 rfl rfl)
theorem dX6_readSegment_183 : decode cX6_readSegment 183 = .ok (.istore 4, 2) := dk_54 4 (dk_at dksX6_readSegment_7 17 rfl rfl)
theorem dX6_readSegment_185 : decode cX6_readSegment 185 = .ok (.iload 4, 2) := dk_21 4 (dk_at dksX6_readSegment_7 19 rfl rfl)
theorem dX6_readSegment_187 : decode cX6_readSegment 187 = .ok (.ifCond .ne 5, 3) := dk_154 0 5 (dk_at dksX6_readSegment_7 21 rfl rfl)
theorem dX6_readSegment_190 : decode cX6_readSegment 190 = .ok (.iconst 0, 1) := dk_3 (dk_at dksX6_readSegment_8 0 rfl rfl)
theorem dX6_readSegment_191 : decode cX6_readSegment 191 = .ok (.ireturn, 1) := dk_172 (dk_at dksX6_readSegment_8 1 rfl rfl)
theorem dX6_readSegment_192 : decode cX6_readSegment 192 = .ok (.aload_n 0, 1) := dk_42 (dk_at dksX6_readSegment_8 2 rfl rfl)
theorem dX6_readSegment_193 : decode cX6_readSegment 193 = .ok (.getfield 74, 3) := dk_180 0 74 (dk_at dksX6_readSegment_8 3 rfl rfl)
theorem dX6_readSegment_196 : decode cX6_readSegment 196 = .ok (.iload_n 1, 1) := dk_27 (dk_at dksX6_readSegment_8 6 rfl rfl)
theorem dX6_readSegment_197 : decode cX6_readSegment 197 = .ok (.iload_n 3, 1) := dk_29 (dk_at dksX6_readSegment_8 7 rfl rfl)
theorem dX6_readSegment_198 : decode cX6_readSegment 198 = .ok (.aload_n 0, 1) := dk_42 (dk_at dksX6_readSegment_8 8 rfl rfl)
theorem dX6_readSegment_199 : decode cX6_readSegment 199 = .ok (.getfield 206, 3) := dk_180 0 206 (dk_at dksX6_readSegment_8 9 rfl rfl)
theorem dX6_readSegment_202 : decode cX6_readSegment 202 = .ok (.isub, 1) := dk_100 (dk_at dksX6_readSegment_8 12 rfl rfl)
theorem dX6_readSegment_203 : decode cX6_readSegment 203 = .ok (.iastore, 1) := dk_79 (dk_at dksX6_readSegment_8 13 rfl rfl)
theorem dX6_readSegment_204 : decode cX6_readSegment 204 = .ok (.aload_n 0, 1) := dk_42 (dk_at dksX6_readSegment_8 14 rfl rfl)
theorem dX6_readSegment_205 : decode cX6_readSegment 205 = .ok (.iload_n 3, 1) := dk_29 (dk_at dksX6_readSegment_8 15 rfl rfl)
theorem dX6_readSegment_206 : decode cX6_readSegment 206 = .ok (.putfield 206, 3) := dk_181 0 206 (dk_at dksX6_readSegment_8 16 rfl rfl)
theorem dX6_readSegment_209 : decode cX6_readSegment 209 = .ok (.aload_n 0, 1) := dk_42 (dk_at dksX6_readSegment_8 19 rfl rfl)
theorem dX6_readSegment_210 : decode cX6_readSegment 210 = .ok (.iload_n 1, 1) := dk_27 (dk_at dksX6_readSegment_8 20 rfl rfl)
theorem dX6_readSegment_211 : decode cX6_readSegment 211 = .ok (.invokevirtual 292, 3) := dk_182 1 36 (dk_at dksX6_readSegment_8 21 rfl rfl)
theorem dX6_readSegment_214 : decode cX6_readSegment 214 = .ok (.aload_n 0, 1) := dk_42 (dk_at dksX6_readSegment_9 0 rfl rfl)
theorem dX6_readSegment_215 : decode cX6_readSegment 215 = .ok (.iload_n 1, 1) := dk_27 (dk_at dksX6_readSegment_9 1 rfl rfl)
theorem dX6_readSegment_216 : decode cX6_readSegment 216 = .ok (.iconst 1, 1) := dk_4 (dk_at dksX6_readSegment_9 2 rfl rfl)
theorem dX6_readSegment_217 : decode cX6_readSegment 217 = .ok (.iadd, 1) := dk_96 (dk_at dksX6_readSegment_9 3 rfl rfl)
theorem dX6_readSegment_218 : decode cX6_readSegment 218 = .ok (.putfield 295, 3) := dk_181 1 39 (dk_at dksX6_readSegment_9 4 rfl rfl)
theorem dX6_readSegment_221 : decode cX6_readSegment 221 = .ok (.iconst 1, 1) := dk_4 (dk_at dksX6_readSegment_9 7 rfl rfl)
theorem dX6_readSegment_222 : decode cX6_readSegment 222 = .ok (.ireturn, 1) := dk_172 (dk_at dksX6_readSegment_9 8 rfl rfl)
abbrev cX6_checkRefs : ByteArray := prog_8_method_41_code
def yX6_checkRefs : MethodName := ⟨RX6, "checkRefs", "(I)Z"⟩
def dkwX6_checkRefs_8 : List UInt8 := [172]
abbrev dktX6_checkRefs_8 : List UInt8 := dkwX6_checkRefs_8 ++ []
def dkwX6_checkRefs_7 : List UInt8 := [42, 180, 0, 55, 21, 4, 46, 7, 160, 0, 7, 4, 167, 0, 4, 3, 61, 132, 3, 1, 167, 255, 74, 4]
abbrev dktX6_checkRefs_7 : List UInt8 := dkwX6_checkRefs_7 ++ dktX6_checkRefs_8
def dkwX6_checkRefs_6 : List UInt8 := [167, 255, 209, 21, 5, 154, 0, 15, 42, 8, 42, 180, 0, 49, 27, 46, 182, 0, 200, 172, 28, 154, 0, 14]
abbrev dktX6_checkRefs_6 : List UInt8 := dkwX6_checkRefs_6 ++ dktX6_checkRefs_7
def dkwX6_checkRefs_5 : List UInt8 := [180, 0, 64, 16, 10, 27, 104, 29, 96, 46, 159, 0, 7, 4, 167, 0, 4, 3, 54, 5, 132, 6, 1]
abbrev dktX6_checkRefs_5 : List UInt8 := dkwX6_checkRefs_5 ++ dktX6_checkRefs_6
def dkwX6_checkRefs_4 : List UInt8 := [21, 6, 29, 162, 0, 47, 21, 5, 153, 0, 33, 42, 180, 0, 64, 16, 10, 27, 104, 21, 6, 96, 46, 42]
abbrev dktX6_checkRefs_4 : List UInt8 := dkwX6_checkRefs_4 ++ dktX6_checkRefs_5
def dkwX6_checkRefs_3 : List UInt8 := [160, 0, 18, 42, 27, 21, 4, 28, 182, 0, 230, 153, 0, 7, 4, 167, 0, 4, 3, 54, 5, 3, 54, 6]
abbrev dktX6_checkRefs_3 : List UInt8 := dkwX6_checkRefs_3 ++ dktX6_checkRefs_4
def dkwX6_checkRefs_2 : List UInt8 := [42, 180, 0, 58, 21, 4, 46, 153, 0, 19, 42, 180, 0, 58, 21, 4, 46, 42, 180, 0, 58, 27, 46]
abbrev dktX6_checkRefs_2 : List UInt8 := dkwX6_checkRefs_2 ++ dktX6_checkRefs_3
def dkwX6_checkRefs_1 : List UInt8 := [96, 46, 27, 182, 0, 227, 54, 4, 21, 4, 155, 0, 55, 42, 180, 0, 77, 21, 4, 46, 2, 160, 0, 44]
abbrev dktX6_checkRefs_1 : List UInt8 := dkwX6_checkRefs_1 ++ dktX6_checkRefs_2
def dkwX6_checkRefs_0 : List UInt8 := [3, 61, 3, 62, 29, 42, 180, 0, 61, 27, 46, 162, 0, 178, 42, 42, 180, 0, 64, 16, 10, 27, 104, 29]
abbrev dktX6_checkRefs_0 : List UInt8 := dkwX6_checkRefs_0 ++ dktX6_checkRefs_1
theorem dksX6_checkRefs_0 : cX6_checkRefs.data.toList.drop 0 = dktX6_checkRefs_0 := by decide +kernel
theorem dksX6_checkRefs_1 : cX6_checkRefs.data.toList.drop 24 = dktX6_checkRefs_1 := dk_seg dksX6_checkRefs_0 24 rfl rfl
theorem dksX6_checkRefs_2 : cX6_checkRefs.data.toList.drop 48 = dktX6_checkRefs_2 := dk_seg dksX6_checkRefs_1 24 rfl rfl
theorem dksX6_checkRefs_3 : cX6_checkRefs.data.toList.drop 71 = dktX6_checkRefs_3 := dk_seg dksX6_checkRefs_2 23 rfl rfl
theorem dksX6_checkRefs_4 : cX6_checkRefs.data.toList.drop 95 = dktX6_checkRefs_4 := dk_seg dksX6_checkRefs_3 24 rfl rfl
theorem dksX6_checkRefs_5 : cX6_checkRefs.data.toList.drop 119 = dktX6_checkRefs_5 := dk_seg dksX6_checkRefs_4 24 rfl rfl
theorem dksX6_checkRefs_6 : cX6_checkRefs.data.toList.drop 142 = dktX6_checkRefs_6 := dk_seg dksX6_checkRefs_5 23 rfl rfl
theorem dksX6_checkRefs_7 : cX6_checkRefs.data.toList.drop 166 = dktX6_checkRefs_7 := dk_seg dksX6_checkRefs_6 24 rfl rfl
theorem dksX6_checkRefs_8 : cX6_checkRefs.data.toList.drop 190 = dktX6_checkRefs_8 := dk_seg dksX6_checkRefs_7 24 rfl rfl
theorem dX6_checkRefs_0 : decode cX6_checkRefs 0 = .ok (.iconst 0, 1) := dk_3 (dk_at dksX6_checkRefs_0 0 rfl rfl)
theorem dX6_checkRefs_1 : decode cX6_checkRefs 1 = .ok (.istore_n 2, 1) := dk_61 (dk_at dksX6_checkRefs_0 1 rfl rfl)
theorem dX6_checkRefs_2 : decode cX6_checkRefs 2 = .ok (.iconst 0, 1) := dk_3 (dk_at dksX6_checkRefs_0 2 rfl rfl)
theorem dX6_checkRefs_3 : decode cX6_checkRefs 3 = .ok (.istore_n 3, 1) := dk_62 (dk_at dksX6_checkRefs_0 3 rfl rfl)
theorem dX6_checkRefs_4 : decode cX6_checkRefs 4 = .ok (.iload_n 3, 1) := dk_29 (dk_at dksX6_checkRefs_0 4 rfl rfl)
theorem dX6_checkRefs_5 : decode cX6_checkRefs 5 = .ok (.aload_n 0, 1) := dk_42 (dk_at dksX6_checkRefs_0 5 rfl rfl)
theorem dX6_checkRefs_6 : decode cX6_checkRefs 6 = .ok (.getfield 61, 3) := dk_180 0 61 (dk_at dksX6_checkRefs_0 6 rfl rfl)
theorem dX6_checkRefs_9 : decode cX6_checkRefs 9 = .ok (.iload_n 1, 1) := dk_27 (dk_at dksX6_checkRefs_0 9 rfl rfl)
theorem dX6_checkRefs_10 : decode cX6_checkRefs 10 = .ok (.iaload, 1) := dk_46 (dk_at dksX6_checkRefs_0 10 rfl rfl)
theorem dX6_checkRefs_11 : decode cX6_checkRefs 11 = .ok (.if_icmp .ge 178, 3) := dk_162 0 178 (dk_at dksX6_checkRefs_0 11 rfl rfl)
theorem dX6_checkRefs_14 : decode cX6_checkRefs 14 = .ok (.aload_n 0, 1) := dk_42 (dk_at dksX6_checkRefs_0 14 rfl rfl)
theorem dX6_checkRefs_15 : decode cX6_checkRefs 15 = .ok (.aload_n 0, 1) := dk_42 (dk_at dksX6_checkRefs_0 15 rfl rfl)
theorem dX6_checkRefs_16 : decode cX6_checkRefs 16 = .ok (.getfield 64, 3) := dk_180 0 64 (dk_at dksX6_checkRefs_0 16 rfl rfl)
theorem dX6_checkRefs_19 : decode cX6_checkRefs 19 = .ok (.bipush 10, 2) := dk_16 10 (dk_at dksX6_checkRefs_0 19 rfl rfl)
theorem dX6_checkRefs_21 : decode cX6_checkRefs 21 = .ok (.iload_n 1, 1) := dk_27 (dk_at dksX6_checkRefs_0 21 rfl rfl)
theorem dX6_checkRefs_22 : decode cX6_checkRefs 22 = .ok (.imul, 1) := dk_104 (dk_at dksX6_checkRefs_0 22 rfl rfl)
theorem dX6_checkRefs_23 : decode cX6_checkRefs 23 = .ok (.iload_n 3, 1) := dk_29 (dk_at dksX6_checkRefs_0 23 rfl rfl)
theorem dX6_checkRefs_24 : decode cX6_checkRefs 24 = .ok (.iadd, 1) := dk_96 (dk_at dksX6_checkRefs_1 0 rfl rfl)
theorem dX6_checkRefs_25 : decode cX6_checkRefs 25 = .ok (.iaload, 1) := dk_46 (dk_at dksX6_checkRefs_1 1 rfl rfl)
theorem dX6_checkRefs_26 : decode cX6_checkRefs 26 = .ok (.iload_n 1, 1) := dk_27 (dk_at dksX6_checkRefs_1 2 rfl rfl)
theorem dX6_checkRefs_27 : decode cX6_checkRefs 27 = .ok (.invokevirtual 227, 3) := dk_182 0 227 (dk_at dksX6_checkRefs_1 3 rfl rfl)
theorem dX6_checkRefs_30 : decode cX6_checkRefs 30 = .ok (.istore 4, 2) := dk_54 4 (dk_at dksX6_checkRefs_1 6 rfl rfl)
theorem dX6_checkRefs_32 : decode cX6_checkRefs 32 = .ok (.iload 4, 2) := dk_21 4 (dk_at dksX6_checkRefs_1 8 rfl rfl)
theorem dX6_checkRefs_34 : decode cX6_checkRefs 34 = .ok (.ifCond .lt 55, 3) := dk_155 0 55 (dk_at dksX6_checkRefs_1 10 rfl rfl)
theorem dX6_checkRefs_37 : decode cX6_checkRefs 37 = .ok (.aload_n 0, 1) := dk_42 (dk_at dksX6_checkRefs_1 13 rfl rfl)
theorem dX6_checkRefs_38 : decode cX6_checkRefs 38 = .ok (.getfield 77, 3) := dk_180 0 77 (dk_at dksX6_checkRefs_1 14 rfl rfl)
theorem dX6_checkRefs_41 : decode cX6_checkRefs 41 = .ok (.iload 4, 2) := dk_21 4 (dk_at dksX6_checkRefs_1 17 rfl rfl)
theorem dX6_checkRefs_43 : decode cX6_checkRefs 43 = .ok (.iaload, 1) := dk_46 (dk_at dksX6_checkRefs_1 19 rfl rfl)
theorem dX6_checkRefs_44 : decode cX6_checkRefs 44 = .ok (.iconst (-1), 1) := dk_2 (dk_at dksX6_checkRefs_1 20 rfl rfl)
theorem dX6_checkRefs_45 : decode cX6_checkRefs 45 = .ok (.if_icmp .ne 44, 3) := dk_160 0 44 (dk_at dksX6_checkRefs_1 21 rfl rfl)
theorem dX6_checkRefs_48 : decode cX6_checkRefs 48 = .ok (.aload_n 0, 1) := dk_42 (dk_at dksX6_checkRefs_2 0 rfl rfl)
theorem dX6_checkRefs_49 : decode cX6_checkRefs 49 = .ok (.getfield 58, 3) := dk_180 0 58 (dk_at dksX6_checkRefs_2 1 rfl rfl)
theorem dX6_checkRefs_52 : decode cX6_checkRefs 52 = .ok (.iload 4, 2) := dk_21 4 (dk_at dksX6_checkRefs_2 4 rfl rfl)
theorem dX6_checkRefs_54 : decode cX6_checkRefs 54 = .ok (.iaload, 1) := dk_46 (dk_at dksX6_checkRefs_2 6 rfl rfl)
theorem dX6_checkRefs_55 : decode cX6_checkRefs 55 = .ok (.ifCond .eq 19, 3) := dk_153 0 19 (dk_at dksX6_checkRefs_2 7 rfl rfl)
theorem dX6_checkRefs_58 : decode cX6_checkRefs 58 = .ok (.aload_n 0, 1) := dk_42 (dk_at dksX6_checkRefs_2 10 rfl rfl)
theorem dX6_checkRefs_59 : decode cX6_checkRefs 59 = .ok (.getfield 58, 3) := dk_180 0 58 (dk_at dksX6_checkRefs_2 11 rfl rfl)
theorem dX6_checkRefs_62 : decode cX6_checkRefs 62 = .ok (.iload 4, 2) := dk_21 4 (dk_at dksX6_checkRefs_2 14 rfl rfl)
theorem dX6_checkRefs_64 : decode cX6_checkRefs 64 = .ok (.iaload, 1) := dk_46 (dk_at dksX6_checkRefs_2 16 rfl rfl)
theorem dX6_checkRefs_65 : decode cX6_checkRefs 65 = .ok (.aload_n 0, 1) := dk_42 (dk_at dksX6_checkRefs_2 17 rfl rfl)
theorem dX6_checkRefs_66 : decode cX6_checkRefs 66 = .ok (.getfield 58, 3) := dk_180 0 58 (dk_at dksX6_checkRefs_2 18 rfl rfl)
theorem dX6_checkRefs_69 : decode cX6_checkRefs 69 = .ok (.iload_n 1, 1) := dk_27 (dk_at dksX6_checkRefs_2 21 rfl rfl)
theorem dX6_checkRefs_70 : decode cX6_checkRefs 70 = .ok (.iaload, 1) := dk_46 (dk_at dksX6_checkRefs_2 22 rfl rfl)
theorem dX6_checkRefs_71 : decode cX6_checkRefs 71 = .ok (.if_icmp .ne 18, 3) := dk_160 0 18 (dk_at dksX6_checkRefs_3 0 rfl rfl)
theorem dX6_checkRefs_74 : decode cX6_checkRefs 74 = .ok (.aload_n 0, 1) := dk_42 (dk_at dksX6_checkRefs_3 3 rfl rfl)
theorem dX6_checkRefs_75 : decode cX6_checkRefs 75 = .ok (.iload_n 1, 1) := dk_27 (dk_at dksX6_checkRefs_3 4 rfl rfl)
theorem dX6_checkRefs_76 : decode cX6_checkRefs 76 = .ok (.iload 4, 2) := dk_21 4 (dk_at dksX6_checkRefs_3 5 rfl rfl)
theorem dX6_checkRefs_78 : decode cX6_checkRefs 78 = .ok (.iload_n 2, 1) := dk_28 (dk_at dksX6_checkRefs_3 7 rfl rfl)
theorem dX6_checkRefs_79 : decode cX6_checkRefs 79 = .ok (.invokevirtual 230, 3) := dk_182 0 230 (dk_at dksX6_checkRefs_3 8 rfl rfl)
theorem dX6_checkRefs_82 : decode cX6_checkRefs 82 = .ok (.ifCond .eq 7, 3) := dk_153 0 7 (dk_at dksX6_checkRefs_3 11 rfl rfl)
theorem dX6_checkRefs_85 : decode cX6_checkRefs 85 = .ok (.iconst 1, 1) := dk_4 (dk_at dksX6_checkRefs_3 14 rfl rfl)
theorem dX6_checkRefs_86 : decode cX6_checkRefs 86 = .ok (.goto 4, 3) := dk_167 0 4 (dk_at dksX6_checkRefs_3 15 rfl rfl)
theorem dX6_checkRefs_89 : decode cX6_checkRefs 89 = .ok (.iconst 0, 1) := dk_3 (dk_at dksX6_checkRefs_3 18 rfl rfl)
theorem dX6_checkRefs_90 : decode cX6_checkRefs 90 = .ok (.istore 5, 2) := dk_54 5 (dk_at dksX6_checkRefs_3 19 rfl rfl)
theorem dX6_checkRefs_92 : decode cX6_checkRefs 92 = .ok (.iconst 0, 1) := dk_3 (dk_at dksX6_checkRefs_3 21 rfl rfl)
theorem dX6_checkRefs_93 : decode cX6_checkRefs 93 = .ok (.istore 6, 2) := dk_54 6 (dk_at dksX6_checkRefs_3 22 rfl rfl)
theorem dX6_checkRefs_95 : decode cX6_checkRefs 95 = .ok (.iload 6, 2) := dk_21 6 (dk_at dksX6_checkRefs_4 0 rfl rfl)
theorem dX6_checkRefs_97 : decode cX6_checkRefs 97 = .ok (.iload_n 3, 1) := dk_29 (dk_at dksX6_checkRefs_4 2 rfl rfl)
theorem dX6_checkRefs_98 : decode cX6_checkRefs 98 = .ok (.if_icmp .ge 47, 3) := dk_162 0 47 (dk_at dksX6_checkRefs_4 3 rfl rfl)
theorem dX6_checkRefs_101 : decode cX6_checkRefs 101 = .ok (.iload 5, 2) := dk_21 5 (dk_at dksX6_checkRefs_4 6 rfl rfl)
theorem dX6_checkRefs_103 : decode cX6_checkRefs 103 = .ok (.ifCond .eq 33, 3) := dk_153 0 33 (dk_at dksX6_checkRefs_4 8 rfl rfl)
theorem dX6_checkRefs_106 : decode cX6_checkRefs 106 = .ok (.aload_n 0, 1) := dk_42 (dk_at dksX6_checkRefs_4 11 rfl rfl)
theorem dX6_checkRefs_107 : decode cX6_checkRefs 107 = .ok (.getfield 64, 3) := dk_180 0 64 (dk_at dksX6_checkRefs_4 12 rfl rfl)
theorem dX6_checkRefs_110 : decode cX6_checkRefs 110 = .ok (.bipush 10, 2) := dk_16 10 (dk_at dksX6_checkRefs_4 15 rfl rfl)
theorem dX6_checkRefs_112 : decode cX6_checkRefs 112 = .ok (.iload_n 1, 1) := dk_27 (dk_at dksX6_checkRefs_4 17 rfl rfl)
theorem dX6_checkRefs_113 : decode cX6_checkRefs 113 = .ok (.imul, 1) := dk_104 (dk_at dksX6_checkRefs_4 18 rfl rfl)
theorem dX6_checkRefs_114 : decode cX6_checkRefs 114 = .ok (.iload 6, 2) := dk_21 6 (dk_at dksX6_checkRefs_4 19 rfl rfl)
theorem dX6_checkRefs_116 : decode cX6_checkRefs 116 = .ok (.iadd, 1) := dk_96 (dk_at dksX6_checkRefs_4 21 rfl rfl)
theorem dX6_checkRefs_117 : decode cX6_checkRefs 117 = .ok (.iaload, 1) := dk_46 (dk_at dksX6_checkRefs_4 22 rfl rfl)
theorem dX6_checkRefs_118 : decode cX6_checkRefs 118 = .ok (.aload_n 0, 1) := dk_42 (dk_at dksX6_checkRefs_4 23 rfl rfl)
theorem dX6_checkRefs_119 : decode cX6_checkRefs 119 = .ok (.getfield 64, 3) := dk_180 0 64 (dk_at dksX6_checkRefs_5 0 rfl rfl)
theorem dX6_checkRefs_122 : decode cX6_checkRefs 122 = .ok (.bipush 10, 2) := dk_16 10 (dk_at dksX6_checkRefs_5 3 rfl rfl)
theorem dX6_checkRefs_124 : decode cX6_checkRefs 124 = .ok (.iload_n 1, 1) := dk_27 (dk_at dksX6_checkRefs_5 5 rfl rfl)
theorem dX6_checkRefs_125 : decode cX6_checkRefs 125 = .ok (.imul, 1) := dk_104 (dk_at dksX6_checkRefs_5 6 rfl rfl)
theorem dX6_checkRefs_126 : decode cX6_checkRefs 126 = .ok (.iload_n 3, 1) := dk_29 (dk_at dksX6_checkRefs_5 7 rfl rfl)
theorem dX6_checkRefs_127 : decode cX6_checkRefs 127 = .ok (.iadd, 1) := dk_96 (dk_at dksX6_checkRefs_5 8 rfl rfl)
theorem dX6_checkRefs_128 : decode cX6_checkRefs 128 = .ok (.iaload, 1) := dk_46 (dk_at dksX6_checkRefs_5 9 rfl rfl)
theorem dX6_checkRefs_129 : decode cX6_checkRefs 129 = .ok (.if_icmp .eq 7, 3) := dk_159 0 7 (dk_at dksX6_checkRefs_5 10 rfl rfl)
theorem dX6_checkRefs_132 : decode cX6_checkRefs 132 = .ok (.iconst 1, 1) := dk_4 (dk_at dksX6_checkRefs_5 13 rfl rfl)
theorem dX6_checkRefs_133 : decode cX6_checkRefs 133 = .ok (.goto 4, 3) := dk_167 0 4 (dk_at dksX6_checkRefs_5 14 rfl rfl)
theorem dX6_checkRefs_136 : decode cX6_checkRefs 136 = .ok (.iconst 0, 1) := dk_3 (dk_at dksX6_checkRefs_5 17 rfl rfl)
theorem dX6_checkRefs_137 : decode cX6_checkRefs 137 = .ok (.istore 5, 2) := dk_54 5 (dk_at dksX6_checkRefs_5 18 rfl rfl)
theorem dX6_checkRefs_139 : decode cX6_checkRefs 139 = .ok (.iinc 6 1, 3) := dk_132 6 1 (dk_at dksX6_checkRefs_5 20 rfl rfl)
theorem dX6_checkRefs_142 : decode cX6_checkRefs 142 = .ok (.goto (-47), 3) := dk_167 255 209 (dk_at dksX6_checkRefs_6 0 rfl rfl)
theorem dX6_checkRefs_145 : decode cX6_checkRefs 145 = .ok (.iload 5, 2) := dk_21 5 (dk_at dksX6_checkRefs_6 3 rfl rfl)
theorem dX6_checkRefs_147 : decode cX6_checkRefs 147 = .ok (.ifCond .ne 15, 3) := dk_154 0 15 (dk_at dksX6_checkRefs_6 5 rfl rfl)
theorem dX6_checkRefs_150 : decode cX6_checkRefs 150 = .ok (.aload_n 0, 1) := dk_42 (dk_at dksX6_checkRefs_6 8 rfl rfl)
theorem dX6_checkRefs_151 : decode cX6_checkRefs 151 = .ok (.iconst 5, 1) := dk_8 (dk_at dksX6_checkRefs_6 9 rfl rfl)
theorem dX6_checkRefs_152 : decode cX6_checkRefs 152 = .ok (.aload_n 0, 1) := dk_42 (dk_at dksX6_checkRefs_6 10 rfl rfl)
theorem dX6_checkRefs_153 : decode cX6_checkRefs 153 = .ok (.getfield 49, 3) := dk_180 0 49 (dk_at dksX6_checkRefs_6 11 rfl rfl)
theorem dX6_checkRefs_156 : decode cX6_checkRefs 156 = .ok (.iload_n 1, 1) := dk_27 (dk_at dksX6_checkRefs_6 14 rfl rfl)
theorem dX6_checkRefs_157 : decode cX6_checkRefs 157 = .ok (.iaload, 1) := dk_46 (dk_at dksX6_checkRefs_6 15 rfl rfl)
theorem dX6_checkRefs_158 : decode cX6_checkRefs 158 = .ok (.invokevirtual 200, 3) := dk_182 0 200 (dk_at dksX6_checkRefs_6 16 rfl rfl)
theorem dX6_checkRefs_161 : decode cX6_checkRefs 161 = .ok (.ireturn, 1) := dk_172 (dk_at dksX6_checkRefs_6 19 rfl rfl)
theorem dX6_checkRefs_162 : decode cX6_checkRefs 162 = .ok (.iload_n 2, 1) := dk_28 (dk_at dksX6_checkRefs_6 20 rfl rfl)
theorem dX6_checkRefs_163 : decode cX6_checkRefs 163 = .ok (.ifCond .ne 14, 3) := dk_154 0 14 (dk_at dksX6_checkRefs_6 21 rfl rfl)
theorem dX6_checkRefs_166 : decode cX6_checkRefs 166 = .ok (.aload_n 0, 1) := dk_42 (dk_at dksX6_checkRefs_7 0 rfl rfl)
theorem dX6_checkRefs_167 : decode cX6_checkRefs 167 = .ok (.getfield 55, 3) := dk_180 0 55 (dk_at dksX6_checkRefs_7 1 rfl rfl)
theorem dX6_checkRefs_170 : decode cX6_checkRefs 170 = .ok (.iload 4, 2) := dk_21 4 (dk_at dksX6_checkRefs_7 4 rfl rfl)
theorem dX6_checkRefs_172 : decode cX6_checkRefs 172 = .ok (.iaload, 1) := dk_46 (dk_at dksX6_checkRefs_7 6 rfl rfl)
theorem dX6_checkRefs_173 : decode cX6_checkRefs 173 = .ok (.iconst 4, 1) := dk_7 (dk_at dksX6_checkRefs_7 7 rfl rfl)
theorem dX6_checkRefs_174 : decode cX6_checkRefs 174 = .ok (.if_icmp .ne 7, 3) := dk_160 0 7 (dk_at dksX6_checkRefs_7 8 rfl rfl)
theorem dX6_checkRefs_177 : decode cX6_checkRefs 177 = .ok (.iconst 1, 1) := dk_4 (dk_at dksX6_checkRefs_7 11 rfl rfl)
theorem dX6_checkRefs_178 : decode cX6_checkRefs 178 = .ok (.goto 4, 3) := dk_167 0 4 (dk_at dksX6_checkRefs_7 12 rfl rfl)
theorem dX6_checkRefs_181 : decode cX6_checkRefs 181 = .ok (.iconst 0, 1) := dk_3 (dk_at dksX6_checkRefs_7 15 rfl rfl)
theorem dX6_checkRefs_182 : decode cX6_checkRefs 182 = .ok (.istore_n 2, 1) := dk_61 (dk_at dksX6_checkRefs_7 16 rfl rfl)
theorem dX6_checkRefs_183 : decode cX6_checkRefs 183 = .ok (.iinc 3 1, 3) := dk_132 3 1 (dk_at dksX6_checkRefs_7 17 rfl rfl)
theorem dX6_checkRefs_186 : decode cX6_checkRefs 186 = .ok (.goto (-182), 3) := dk_167 255 74 (dk_at dksX6_checkRefs_7 20 rfl rfl)
theorem dX6_checkRefs_189 : decode cX6_checkRefs 189 = .ok (.iconst 1, 1) := dk_4 (dk_at dksX6_checkRefs_7 23 rfl rfl)
theorem dX6_checkRefs_190 : decode cX6_checkRefs 190 = .ok (.ireturn, 1) := dk_172 (dk_at dksX6_checkRefs_8 0 rfl rfl)
abbrev cX6_segmentOf : ByteArray := prog_8_method_38_code
def yX6_segmentOf : MethodName := ⟨RX6, "segmentOf", "(II)I"⟩
def dkwX6_segmentOf_1 : List UInt8 := [167, 255, 236, 2, 172]
abbrev dktX6_segmentOf_1 : List UInt8 := dkwX6_segmentOf_1 ++ []
def dkwX6_segmentOf_0 : List UInt8 := [3, 62, 29, 28, 162, 0, 21, 42, 180, 0, 52, 29, 46, 27, 160, 0, 5, 29, 172, 132, 3, 1]
abbrev dktX6_segmentOf_0 : List UInt8 := dkwX6_segmentOf_0 ++ dktX6_segmentOf_1
theorem dksX6_segmentOf_0 : cX6_segmentOf.data.toList.drop 0 = dktX6_segmentOf_0 := by decide +kernel
theorem dksX6_segmentOf_1 : cX6_segmentOf.data.toList.drop 22 = dktX6_segmentOf_1 := dk_seg dksX6_segmentOf_0 22 rfl rfl
theorem dX6_segmentOf_0 : decode cX6_segmentOf 0 = .ok (.iconst 0, 1) := dk_3 (dk_at dksX6_segmentOf_0 0 rfl rfl)
theorem dX6_segmentOf_1 : decode cX6_segmentOf 1 = .ok (.istore_n 3, 1) := dk_62 (dk_at dksX6_segmentOf_0 1 rfl rfl)
theorem dX6_segmentOf_2 : decode cX6_segmentOf 2 = .ok (.iload_n 3, 1) := dk_29 (dk_at dksX6_segmentOf_0 2 rfl rfl)
theorem dX6_segmentOf_3 : decode cX6_segmentOf 3 = .ok (.iload_n 2, 1) := dk_28 (dk_at dksX6_segmentOf_0 3 rfl rfl)
theorem dX6_segmentOf_4 : decode cX6_segmentOf 4 = .ok (.if_icmp .ge 21, 3) := dk_162 0 21 (dk_at dksX6_segmentOf_0 4 rfl rfl)
theorem dX6_segmentOf_7 : decode cX6_segmentOf 7 = .ok (.aload_n 0, 1) := dk_42 (dk_at dksX6_segmentOf_0 7 rfl rfl)
theorem dX6_segmentOf_8 : decode cX6_segmentOf 8 = .ok (.getfield 52, 3) := dk_180 0 52 (dk_at dksX6_segmentOf_0 8 rfl rfl)
theorem dX6_segmentOf_11 : decode cX6_segmentOf 11 = .ok (.iload_n 3, 1) := dk_29 (dk_at dksX6_segmentOf_0 11 rfl rfl)
theorem dX6_segmentOf_12 : decode cX6_segmentOf 12 = .ok (.iaload, 1) := dk_46 (dk_at dksX6_segmentOf_0 12 rfl rfl)
theorem dX6_segmentOf_13 : decode cX6_segmentOf 13 = .ok (.iload_n 1, 1) := dk_27 (dk_at dksX6_segmentOf_0 13 rfl rfl)
theorem dX6_segmentOf_14 : decode cX6_segmentOf 14 = .ok (.if_icmp .ne 5, 3) := dk_160 0 5 (dk_at dksX6_segmentOf_0 14 rfl rfl)
theorem dX6_segmentOf_17 : decode cX6_segmentOf 17 = .ok (.iload_n 3, 1) := dk_29 (dk_at dksX6_segmentOf_0 17 rfl rfl)
theorem dX6_segmentOf_18 : decode cX6_segmentOf 18 = .ok (.ireturn, 1) := dk_172 (dk_at dksX6_segmentOf_0 18 rfl rfl)
theorem dX6_segmentOf_19 : decode cX6_segmentOf 19 = .ok (.iinc 3 1, 3) := dk_132 3 1 (dk_at dksX6_segmentOf_0 19 rfl rfl)
theorem dX6_segmentOf_22 : decode cX6_segmentOf 22 = .ok (.goto (-20), 3) := dk_167 255 236 (dk_at dksX6_segmentOf_1 0 rfl rfl)
theorem dX6_segmentOf_25 : decode cX6_segmentOf 25 = .ok (.iconst (-1), 1) := dk_2 (dk_at dksX6_segmentOf_1 3 rfl rfl)
theorem dX6_segmentOf_26 : decode cX6_segmentOf 26 = .ok (.ireturn, 1) := dk_172 (dk_at dksX6_segmentOf_1 4 rfl rfl)
abbrev cX6_mayRefer : ByteArray := prog_8_method_39_code
def yX6_mayRefer : MethodName := ⟨RX6, "mayRefer", "(IIZ)Z"⟩
def dkwX6_mayRefer_3 : List UInt8 := [21, 6, 16, 6, 160, 0, 17, 21, 4, 154, 0, 8, 21, 5, 153, 0, 7, 4, 167, 0, 4, 3, 172]
abbrev dktX6_mayRefer_3 : List UInt8 := dkwX6_mayRefer_3 ++ []
def dkwX6_mayRefer_2 : List UInt8 := [42, 180, 0, 55, 27, 46, 54, 6, 21, 6, 153, 0, 9, 21, 6, 7, 160, 0, 8, 21, 4, 167, 0, 25]
abbrev dktX6_mayRefer_2 : List UInt8 := dkwX6_mayRefer_2 ++ dktX6_mayRefer_3
def dkwX6_mayRefer_1 : List UInt8 := [3, 54, 4, 42, 180, 0, 55, 28, 46, 7, 160, 0, 11, 29, 154, 0, 7, 4, 167, 0, 4, 3, 54, 5]
abbrev dktX6_mayRefer_1 : List UInt8 := dkwX6_mayRefer_1 ++ dktX6_mayRefer_2
def dkwX6_mayRefer_0 : List UInt8 := [42, 180, 0, 55, 28, 46, 153, 0, 14, 42, 180, 0, 55, 28, 46, 16, 53, 160, 0, 7, 4, 167, 0, 4]
abbrev dktX6_mayRefer_0 : List UInt8 := dkwX6_mayRefer_0 ++ dktX6_mayRefer_1
theorem dksX6_mayRefer_0 : cX6_mayRefer.data.toList.drop 0 = dktX6_mayRefer_0 := by decide +kernel
theorem dksX6_mayRefer_1 : cX6_mayRefer.data.toList.drop 24 = dktX6_mayRefer_1 := dk_seg dksX6_mayRefer_0 24 rfl rfl
theorem dksX6_mayRefer_2 : cX6_mayRefer.data.toList.drop 48 = dktX6_mayRefer_2 := dk_seg dksX6_mayRefer_1 24 rfl rfl
theorem dksX6_mayRefer_3 : cX6_mayRefer.data.toList.drop 72 = dktX6_mayRefer_3 := dk_seg dksX6_mayRefer_2 24 rfl rfl
theorem dX6_mayRefer_0 : decode cX6_mayRefer 0 = .ok (.aload_n 0, 1) := dk_42 (dk_at dksX6_mayRefer_0 0 rfl rfl)
theorem dX6_mayRefer_1 : decode cX6_mayRefer 1 = .ok (.getfield 55, 3) := dk_180 0 55 (dk_at dksX6_mayRefer_0 1 rfl rfl)
theorem dX6_mayRefer_4 : decode cX6_mayRefer 4 = .ok (.iload_n 2, 1) := dk_28 (dk_at dksX6_mayRefer_0 4 rfl rfl)
theorem dX6_mayRefer_5 : decode cX6_mayRefer 5 = .ok (.iaload, 1) := dk_46 (dk_at dksX6_mayRefer_0 5 rfl rfl)
theorem dX6_mayRefer_6 : decode cX6_mayRefer 6 = .ok (.ifCond .eq 14, 3) := dk_153 0 14 (dk_at dksX6_mayRefer_0 6 rfl rfl)
theorem dX6_mayRefer_9 : decode cX6_mayRefer 9 = .ok (.aload_n 0, 1) := dk_42 (dk_at dksX6_mayRefer_0 9 rfl rfl)
theorem dX6_mayRefer_10 : decode cX6_mayRefer 10 = .ok (.getfield 55, 3) := dk_180 0 55 (dk_at dksX6_mayRefer_0 10 rfl rfl)
theorem dX6_mayRefer_13 : decode cX6_mayRefer 13 = .ok (.iload_n 2, 1) := dk_28 (dk_at dksX6_mayRefer_0 13 rfl rfl)
theorem dX6_mayRefer_14 : decode cX6_mayRefer 14 = .ok (.iaload, 1) := dk_46 (dk_at dksX6_mayRefer_0 14 rfl rfl)
theorem dX6_mayRefer_15 : decode cX6_mayRefer 15 = .ok (.bipush 53, 2) := dk_16 53 (dk_at dksX6_mayRefer_0 15 rfl rfl)
theorem dX6_mayRefer_17 : decode cX6_mayRefer 17 = .ok (.if_icmp .ne 7, 3) := dk_160 0 7 (dk_at dksX6_mayRefer_0 17 rfl rfl)
theorem dX6_mayRefer_20 : decode cX6_mayRefer 20 = .ok (.iconst 1, 1) := dk_4 (dk_at dksX6_mayRefer_0 20 rfl rfl)
theorem dX6_mayRefer_21 : decode cX6_mayRefer 21 = .ok (.goto 4, 3) := dk_167 0 4 (dk_at dksX6_mayRefer_0 21 rfl rfl)
theorem dX6_mayRefer_24 : decode cX6_mayRefer 24 = .ok (.iconst 0, 1) := dk_3 (dk_at dksX6_mayRefer_1 0 rfl rfl)
theorem dX6_mayRefer_25 : decode cX6_mayRefer 25 = .ok (.istore 4, 2) := dk_54 4 (dk_at dksX6_mayRefer_1 1 rfl rfl)
theorem dX6_mayRefer_27 : decode cX6_mayRefer 27 = .ok (.aload_n 0, 1) := dk_42 (dk_at dksX6_mayRefer_1 3 rfl rfl)
theorem dX6_mayRefer_28 : decode cX6_mayRefer 28 = .ok (.getfield 55, 3) := dk_180 0 55 (dk_at dksX6_mayRefer_1 4 rfl rfl)
theorem dX6_mayRefer_31 : decode cX6_mayRefer 31 = .ok (.iload_n 2, 1) := dk_28 (dk_at dksX6_mayRefer_1 7 rfl rfl)
theorem dX6_mayRefer_32 : decode cX6_mayRefer 32 = .ok (.iaload, 1) := dk_46 (dk_at dksX6_mayRefer_1 8 rfl rfl)
theorem dX6_mayRefer_33 : decode cX6_mayRefer 33 = .ok (.iconst 4, 1) := dk_7 (dk_at dksX6_mayRefer_1 9 rfl rfl)
theorem dX6_mayRefer_34 : decode cX6_mayRefer 34 = .ok (.if_icmp .ne 11, 3) := dk_160 0 11 (dk_at dksX6_mayRefer_1 10 rfl rfl)
theorem dX6_mayRefer_37 : decode cX6_mayRefer 37 = .ok (.iload_n 3, 1) := dk_29 (dk_at dksX6_mayRefer_1 13 rfl rfl)
theorem dX6_mayRefer_38 : decode cX6_mayRefer 38 = .ok (.ifCond .ne 7, 3) := dk_154 0 7 (dk_at dksX6_mayRefer_1 14 rfl rfl)
theorem dX6_mayRefer_41 : decode cX6_mayRefer 41 = .ok (.iconst 1, 1) := dk_4 (dk_at dksX6_mayRefer_1 17 rfl rfl)
theorem dX6_mayRefer_42 : decode cX6_mayRefer 42 = .ok (.goto 4, 3) := dk_167 0 4 (dk_at dksX6_mayRefer_1 18 rfl rfl)
theorem dX6_mayRefer_45 : decode cX6_mayRefer 45 = .ok (.iconst 0, 1) := dk_3 (dk_at dksX6_mayRefer_1 21 rfl rfl)
theorem dX6_mayRefer_46 : decode cX6_mayRefer 46 = .ok (.istore 5, 2) := dk_54 5 (dk_at dksX6_mayRefer_1 22 rfl rfl)
theorem dX6_mayRefer_48 : decode cX6_mayRefer 48 = .ok (.aload_n 0, 1) := dk_42 (dk_at dksX6_mayRefer_2 0 rfl rfl)
theorem dX6_mayRefer_49 : decode cX6_mayRefer 49 = .ok (.getfield 55, 3) := dk_180 0 55 (dk_at dksX6_mayRefer_2 1 rfl rfl)
theorem dX6_mayRefer_52 : decode cX6_mayRefer 52 = .ok (.iload_n 1, 1) := dk_27 (dk_at dksX6_mayRefer_2 4 rfl rfl)
theorem dX6_mayRefer_53 : decode cX6_mayRefer 53 = .ok (.iaload, 1) := dk_46 (dk_at dksX6_mayRefer_2 5 rfl rfl)
theorem dX6_mayRefer_54 : decode cX6_mayRefer 54 = .ok (.istore 6, 2) := dk_54 6 (dk_at dksX6_mayRefer_2 6 rfl rfl)
theorem dX6_mayRefer_56 : decode cX6_mayRefer 56 = .ok (.iload 6, 2) := dk_21 6 (dk_at dksX6_mayRefer_2 8 rfl rfl)
theorem dX6_mayRefer_58 : decode cX6_mayRefer 58 = .ok (.ifCond .eq 9, 3) := dk_153 0 9 (dk_at dksX6_mayRefer_2 10 rfl rfl)
theorem dX6_mayRefer_61 : decode cX6_mayRefer 61 = .ok (.iload 6, 2) := dk_21 6 (dk_at dksX6_mayRefer_2 13 rfl rfl)
theorem dX6_mayRefer_63 : decode cX6_mayRefer 63 = .ok (.iconst 4, 1) := dk_7 (dk_at dksX6_mayRefer_2 15 rfl rfl)
theorem dX6_mayRefer_64 : decode cX6_mayRefer 64 = .ok (.if_icmp .ne 8, 3) := dk_160 0 8 (dk_at dksX6_mayRefer_2 16 rfl rfl)
theorem dX6_mayRefer_67 : decode cX6_mayRefer 67 = .ok (.iload 4, 2) := dk_21 4 (dk_at dksX6_mayRefer_2 19 rfl rfl)
theorem dX6_mayRefer_69 : decode cX6_mayRefer 69 = .ok (.goto 25, 3) := dk_167 0 25 (dk_at dksX6_mayRefer_2 21 rfl rfl)
theorem dX6_mayRefer_72 : decode cX6_mayRefer 72 = .ok (.iload 6, 2) := dk_21 6 (dk_at dksX6_mayRefer_3 0 rfl rfl)
theorem dX6_mayRefer_74 : decode cX6_mayRefer 74 = .ok (.bipush 6, 2) := dk_16 6 (dk_at dksX6_mayRefer_3 2 rfl rfl)
theorem dX6_mayRefer_76 : decode cX6_mayRefer 76 = .ok (.if_icmp .ne 17, 3) := dk_160 0 17 (dk_at dksX6_mayRefer_3 4 rfl rfl)
theorem dX6_mayRefer_79 : decode cX6_mayRefer 79 = .ok (.iload 4, 2) := dk_21 4 (dk_at dksX6_mayRefer_3 7 rfl rfl)
theorem dX6_mayRefer_81 : decode cX6_mayRefer 81 = .ok (.ifCond .ne 8, 3) := dk_154 0 8 (dk_at dksX6_mayRefer_3 9 rfl rfl)
theorem dX6_mayRefer_84 : decode cX6_mayRefer 84 = .ok (.iload 5, 2) := dk_21 5 (dk_at dksX6_mayRefer_3 12 rfl rfl)
theorem dX6_mayRefer_86 : decode cX6_mayRefer 86 = .ok (.ifCond .eq 7, 3) := dk_153 0 7 (dk_at dksX6_mayRefer_3 14 rfl rfl)
theorem dX6_mayRefer_89 : decode cX6_mayRefer 89 = .ok (.iconst 1, 1) := dk_4 (dk_at dksX6_mayRefer_3 17 rfl rfl)
theorem dX6_mayRefer_90 : decode cX6_mayRefer 90 = .ok (.goto 4, 3) := dk_167 0 4 (dk_at dksX6_mayRefer_3 18 rfl rfl)
theorem dX6_mayRefer_93 : decode cX6_mayRefer 93 = .ok (.iconst 0, 1) := dk_3 (dk_at dksX6_mayRefer_3 21 rfl rfl)
theorem dX6_mayRefer_94 : decode cX6_mayRefer 94 = .ok (.ireturn, 1) := dk_172 (dk_at dksX6_mayRefer_3 22 rfl rfl)
abbrev cX6_checkPage : ByteArray := prog_8_method_42_code
def yX6_checkPage : MethodName := ⟨RX6, "checkPage", "(I)Z"⟩
def dkwX6_checkPage_9 : List UInt8 := [182, 0, 237, 172]
abbrev dktX6_checkPage_9 : List UInt8 := dkwX6_checkPage_9 ++ []
def dkwX6_checkPage_8 : List UInt8 := [42, 21, 5, 153, 0, 16, 21, 4, 153, 0, 7, 28, 154, 0, 7, 4, 167, 0, 4, 3, 16, 6, 27]
abbrev dktX6_checkPage_8 : List UInt8 := dkwX6_checkPage_8 ++ dktX6_checkPage_9
def dkwX6_checkPage_7 : List UInt8 := [21, 5, 153, 0, 19, 28, 153, 0, 11, 28, 42, 180, 0, 234, 160, 0, 7, 4, 167, 0, 4, 3, 54, 5]
abbrev dktX6_checkPage_7 : List UInt8 := dkwX6_checkPage_7 ++ dktX6_checkPage_8
def dkwX6_checkPage_6 : List UInt8 := [167, 0, 47, 29, 16, 51, 160, 0, 17, 28, 154, 0, 7, 4, 167, 0, 4, 3, 54, 5, 167, 0, 27]
abbrev dktX6_checkPage_6 : List UInt8 := dkwX6_checkPage_6 ++ dktX6_checkPage_7
def dkwX6_checkPage_5 : List UInt8 := [21, 5, 153, 0, 19, 28, 158, 0, 15, 28, 42, 180, 0, 234, 160, 0, 7, 4, 167, 0, 4, 3, 54, 5]
abbrev dktX6_checkPage_5 : List UInt8 := dkwX6_checkPage_5 ++ dktX6_checkPage_6
def dkwX6_checkPage_4 : List UInt8 := [54, 5, 167, 0, 93, 29, 184, 0, 137, 154, 0, 15, 29, 16, 49, 159, 0, 9, 29, 16, 50, 160, 0, 30]
abbrev dktX6_checkPage_4 : List UInt8 := dkwX6_checkPage_4 ++ dktX6_checkPage_5
def dkwX6_checkPage_3 : List UInt8 := [158, 0, 23, 42, 180, 0, 89, 28, 51, 154, 0, 14, 42, 180, 0, 234, 154, 0, 7, 4, 167, 0, 4, 3]
abbrev dktX6_checkPage_3 : List UInt8 := dkwX6_checkPage_3 ++ dktX6_checkPage_4
def dkwX6_checkPage_2 : List UInt8 := [163, 0, 7, 4, 167, 0, 4, 3, 54, 5, 29, 16, 48, 160, 0, 38, 21, 5, 153, 0, 27, 28]
abbrev dktX6_checkPage_2 : List UInt8 := dkwX6_checkPage_2 ++ dktX6_checkPage_3
def dkwX6_checkPage_1 : List UInt8 := [180, 0, 49, 27, 46, 42, 180, 0, 188, 162, 0, 7, 4, 167, 0, 4, 3, 54, 4, 28, 16, 9]
abbrev dktX6_checkPage_1 : List UInt8 := dkwX6_checkPage_1 ++ dktX6_checkPage_2
def dkwX6_checkPage_0 : List UInt8 := [42, 180, 0, 58, 27, 46, 61, 42, 180, 0, 55, 27, 46, 62, 42, 180, 0, 111, 5, 160, 0, 20, 42]
abbrev dktX6_checkPage_0 : List UInt8 := dkwX6_checkPage_0 ++ dktX6_checkPage_1
theorem dksX6_checkPage_0 : cX6_checkPage.data.toList.drop 0 = dktX6_checkPage_0 := by decide +kernel
theorem dksX6_checkPage_1 : cX6_checkPage.data.toList.drop 23 = dktX6_checkPage_1 := dk_seg dksX6_checkPage_0 23 rfl rfl
theorem dksX6_checkPage_2 : cX6_checkPage.data.toList.drop 45 = dktX6_checkPage_2 := dk_seg dksX6_checkPage_1 22 rfl rfl
theorem dksX6_checkPage_3 : cX6_checkPage.data.toList.drop 67 = dktX6_checkPage_3 := dk_seg dksX6_checkPage_2 22 rfl rfl
theorem dksX6_checkPage_4 : cX6_checkPage.data.toList.drop 91 = dktX6_checkPage_4 := dk_seg dksX6_checkPage_3 24 rfl rfl
theorem dksX6_checkPage_5 : cX6_checkPage.data.toList.drop 115 = dktX6_checkPage_5 := dk_seg dksX6_checkPage_4 24 rfl rfl
theorem dksX6_checkPage_6 : cX6_checkPage.data.toList.drop 139 = dktX6_checkPage_6 := dk_seg dksX6_checkPage_5 24 rfl rfl
theorem dksX6_checkPage_7 : cX6_checkPage.data.toList.drop 162 = dktX6_checkPage_7 := dk_seg dksX6_checkPage_6 23 rfl rfl
theorem dksX6_checkPage_8 : cX6_checkPage.data.toList.drop 186 = dktX6_checkPage_8 := dk_seg dksX6_checkPage_7 24 rfl rfl
theorem dksX6_checkPage_9 : cX6_checkPage.data.toList.drop 209 = dktX6_checkPage_9 := dk_seg dksX6_checkPage_8 23 rfl rfl
theorem dX6_checkPage_0 : decode cX6_checkPage 0 = .ok (.aload_n 0, 1) := dk_42 (dk_at dksX6_checkPage_0 0 rfl rfl)
theorem dX6_checkPage_1 : decode cX6_checkPage 1 = .ok (.getfield 58, 3) := dk_180 0 58 (dk_at dksX6_checkPage_0 1 rfl rfl)
theorem dX6_checkPage_4 : decode cX6_checkPage 4 = .ok (.iload_n 1, 1) := dk_27 (dk_at dksX6_checkPage_0 4 rfl rfl)
theorem dX6_checkPage_5 : decode cX6_checkPage 5 = .ok (.iaload, 1) := dk_46 (dk_at dksX6_checkPage_0 5 rfl rfl)
theorem dX6_checkPage_6 : decode cX6_checkPage 6 = .ok (.istore_n 2, 1) := dk_61 (dk_at dksX6_checkPage_0 6 rfl rfl)
theorem dX6_checkPage_7 : decode cX6_checkPage 7 = .ok (.aload_n 0, 1) := dk_42 (dk_at dksX6_checkPage_0 7 rfl rfl)
theorem dX6_checkPage_8 : decode cX6_checkPage 8 = .ok (.getfield 55, 3) := dk_180 0 55 (dk_at dksX6_checkPage_0 8 rfl rfl)
theorem dX6_checkPage_11 : decode cX6_checkPage 11 = .ok (.iload_n 1, 1) := dk_27 (dk_at dksX6_checkPage_0 11 rfl rfl)
theorem dX6_checkPage_12 : decode cX6_checkPage 12 = .ok (.iaload, 1) := dk_46 (dk_at dksX6_checkPage_0 12 rfl rfl)
theorem dX6_checkPage_13 : decode cX6_checkPage 13 = .ok (.istore_n 3, 1) := dk_62 (dk_at dksX6_checkPage_0 13 rfl rfl)
theorem dX6_checkPage_14 : decode cX6_checkPage 14 = .ok (.aload_n 0, 1) := dk_42 (dk_at dksX6_checkPage_0 14 rfl rfl)
theorem dX6_checkPage_15 : decode cX6_checkPage 15 = .ok (.getfield 111, 3) := dk_180 0 111 (dk_at dksX6_checkPage_0 15 rfl rfl)
theorem dX6_checkPage_18 : decode cX6_checkPage 18 = .ok (.iconst 2, 1) := dk_5 (dk_at dksX6_checkPage_0 18 rfl rfl)
theorem dX6_checkPage_19 : decode cX6_checkPage 19 = .ok (.if_icmp .ne 20, 3) := dk_160 0 20 (dk_at dksX6_checkPage_0 19 rfl rfl)
theorem dX6_checkPage_22 : decode cX6_checkPage 22 = .ok (.aload_n 0, 1) := dk_42 (dk_at dksX6_checkPage_0 22 rfl rfl)
theorem dX6_checkPage_23 : decode cX6_checkPage 23 = .ok (.getfield 49, 3) := dk_180 0 49 (dk_at dksX6_checkPage_1 0 rfl rfl)
theorem dX6_checkPage_26 : decode cX6_checkPage 26 = .ok (.iload_n 1, 1) := dk_27 (dk_at dksX6_checkPage_1 3 rfl rfl)
theorem dX6_checkPage_27 : decode cX6_checkPage 27 = .ok (.iaload, 1) := dk_46 (dk_at dksX6_checkPage_1 4 rfl rfl)
theorem dX6_checkPage_28 : decode cX6_checkPage 28 = .ok (.aload_n 0, 1) := dk_42 (dk_at dksX6_checkPage_1 5 rfl rfl)
theorem dX6_checkPage_29 : decode cX6_checkPage 29 = .ok (.getfield 188, 3) := dk_180 0 188 (dk_at dksX6_checkPage_1 6 rfl rfl)
theorem dX6_checkPage_32 : decode cX6_checkPage 32 = .ok (.if_icmp .ge 7, 3) := dk_162 0 7 (dk_at dksX6_checkPage_1 9 rfl rfl)
theorem dX6_checkPage_35 : decode cX6_checkPage 35 = .ok (.iconst 1, 1) := dk_4 (dk_at dksX6_checkPage_1 12 rfl rfl)
theorem dX6_checkPage_36 : decode cX6_checkPage 36 = .ok (.goto 4, 3) := dk_167 0 4 (dk_at dksX6_checkPage_1 13 rfl rfl)
theorem dX6_checkPage_39 : decode cX6_checkPage 39 = .ok (.iconst 0, 1) := dk_3 (dk_at dksX6_checkPage_1 16 rfl rfl)
theorem dX6_checkPage_40 : decode cX6_checkPage 40 = .ok (.istore 4, 2) := dk_54 4 (dk_at dksX6_checkPage_1 17 rfl rfl)
theorem dX6_checkPage_42 : decode cX6_checkPage 42 = .ok (.iload_n 2, 1) := dk_28 (dk_at dksX6_checkPage_1 19 rfl rfl)
theorem dX6_checkPage_43 : decode cX6_checkPage 43 = .ok (.bipush 9, 2) := dk_16 9 (dk_at dksX6_checkPage_1 20 rfl rfl)
theorem dX6_checkPage_45 : decode cX6_checkPage 45 = .ok (.if_icmp .gt 7, 3) := dk_163 0 7 (dk_at dksX6_checkPage_2 0 rfl rfl)
theorem dX6_checkPage_48 : decode cX6_checkPage 48 = .ok (.iconst 1, 1) := dk_4 (dk_at dksX6_checkPage_2 3 rfl rfl)
theorem dX6_checkPage_49 : decode cX6_checkPage 49 = .ok (.goto 4, 3) := dk_167 0 4 (dk_at dksX6_checkPage_2 4 rfl rfl)
theorem dX6_checkPage_52 : decode cX6_checkPage 52 = .ok (.iconst 0, 1) := dk_3 (dk_at dksX6_checkPage_2 7 rfl rfl)
theorem dX6_checkPage_53 : decode cX6_checkPage 53 = .ok (.istore 5, 2) := dk_54 5 (dk_at dksX6_checkPage_2 8 rfl rfl)
theorem dX6_checkPage_55 : decode cX6_checkPage 55 = .ok (.iload_n 3, 1) := dk_29 (dk_at dksX6_checkPage_2 10 rfl rfl)
theorem dX6_checkPage_56 : decode cX6_checkPage 56 = .ok (.bipush 48, 2) := dk_16 48 (dk_at dksX6_checkPage_2 11 rfl rfl)
theorem dX6_checkPage_58 : decode cX6_checkPage 58 = .ok (.if_icmp .ne 38, 3) := dk_160 0 38 (dk_at dksX6_checkPage_2 13 rfl rfl)
theorem dX6_checkPage_61 : decode cX6_checkPage 61 = .ok (.iload 5, 2) := dk_21 5 (dk_at dksX6_checkPage_2 16 rfl rfl)
theorem dX6_checkPage_63 : decode cX6_checkPage 63 = .ok (.ifCond .eq 27, 3) := dk_153 0 27 (dk_at dksX6_checkPage_2 18 rfl rfl)
theorem dX6_checkPage_66 : decode cX6_checkPage 66 = .ok (.iload_n 2, 1) := dk_28 (dk_at dksX6_checkPage_2 21 rfl rfl)
theorem dX6_checkPage_67 : decode cX6_checkPage 67 = .ok (.ifCond .le 23, 3) := dk_158 0 23 (dk_at dksX6_checkPage_3 0 rfl rfl)
theorem dX6_checkPage_70 : decode cX6_checkPage 70 = .ok (.aload_n 0, 1) := dk_42 (dk_at dksX6_checkPage_3 3 rfl rfl)
theorem dX6_checkPage_71 : decode cX6_checkPage 71 = .ok (.getfield 89, 3) := dk_180 0 89 (dk_at dksX6_checkPage_3 4 rfl rfl)
theorem dX6_checkPage_74 : decode cX6_checkPage 74 = .ok (.iload_n 2, 1) := dk_28 (dk_at dksX6_checkPage_3 7 rfl rfl)
theorem dX6_checkPage_75 : decode cX6_checkPage 75 = .ok (.baload, 1) := dk_51 (dk_at dksX6_checkPage_3 8 rfl rfl)
theorem dX6_checkPage_76 : decode cX6_checkPage 76 = .ok (.ifCond .ne 14, 3) := dk_154 0 14 (dk_at dksX6_checkPage_3 9 rfl rfl)
theorem dX6_checkPage_79 : decode cX6_checkPage 79 = .ok (.aload_n 0, 1) := dk_42 (dk_at dksX6_checkPage_3 12 rfl rfl)
theorem dX6_checkPage_80 : decode cX6_checkPage 80 = .ok (.getfield 234, 3) := dk_180 0 234 (dk_at dksX6_checkPage_3 13 rfl rfl)
theorem dX6_checkPage_83 : decode cX6_checkPage 83 = .ok (.ifCond .ne 7, 3) := dk_154 0 7 (dk_at dksX6_checkPage_3 16 rfl rfl)
theorem dX6_checkPage_86 : decode cX6_checkPage 86 = .ok (.iconst 1, 1) := dk_4 (dk_at dksX6_checkPage_3 19 rfl rfl)
theorem dX6_checkPage_87 : decode cX6_checkPage 87 = .ok (.goto 4, 3) := dk_167 0 4 (dk_at dksX6_checkPage_3 20 rfl rfl)
theorem dX6_checkPage_90 : decode cX6_checkPage 90 = .ok (.iconst 0, 1) := dk_3 (dk_at dksX6_checkPage_3 23 rfl rfl)
theorem dX6_checkPage_91 : decode cX6_checkPage 91 = .ok (.istore 5, 2) := dk_54 5 (dk_at dksX6_checkPage_4 0 rfl rfl)
theorem dX6_checkPage_93 : decode cX6_checkPage 93 = .ok (.goto 93, 3) := dk_167 0 93 (dk_at dksX6_checkPage_4 2 rfl rfl)
theorem dX6_checkPage_96 : decode cX6_checkPage 96 = .ok (.iload_n 3, 1) := dk_29 (dk_at dksX6_checkPage_4 5 rfl rfl)
theorem dX6_checkPage_97 : decode cX6_checkPage 97 = .ok (.invokestatic 137, 3) := dk_184 0 137 (dk_at dksX6_checkPage_4 6 rfl rfl)
theorem dX6_checkPage_100 : decode cX6_checkPage 100 = .ok (.ifCond .ne 15, 3) := dk_154 0 15 (dk_at dksX6_checkPage_4 9 rfl rfl)
theorem dX6_checkPage_103 : decode cX6_checkPage 103 = .ok (.iload_n 3, 1) := dk_29 (dk_at dksX6_checkPage_4 12 rfl rfl)
theorem dX6_checkPage_104 : decode cX6_checkPage 104 = .ok (.bipush 49, 2) := dk_16 49 (dk_at dksX6_checkPage_4 13 rfl rfl)
theorem dX6_checkPage_106 : decode cX6_checkPage 106 = .ok (.if_icmp .eq 9, 3) := dk_159 0 9 (dk_at dksX6_checkPage_4 15 rfl rfl)
theorem dX6_checkPage_109 : decode cX6_checkPage 109 = .ok (.iload_n 3, 1) := dk_29 (dk_at dksX6_checkPage_4 18 rfl rfl)
theorem dX6_checkPage_110 : decode cX6_checkPage 110 = .ok (.bipush 50, 2) := dk_16 50 (dk_at dksX6_checkPage_4 19 rfl rfl)
theorem dX6_checkPage_112 : decode cX6_checkPage 112 = .ok (.if_icmp .ne 30, 3) := dk_160 0 30 (dk_at dksX6_checkPage_4 21 rfl rfl)
theorem dX6_checkPage_115 : decode cX6_checkPage 115 = .ok (.iload 5, 2) := dk_21 5 (dk_at dksX6_checkPage_5 0 rfl rfl)
theorem dX6_checkPage_117 : decode cX6_checkPage 117 = .ok (.ifCond .eq 19, 3) := dk_153 0 19 (dk_at dksX6_checkPage_5 2 rfl rfl)
theorem dX6_checkPage_120 : decode cX6_checkPage 120 = .ok (.iload_n 2, 1) := dk_28 (dk_at dksX6_checkPage_5 5 rfl rfl)
theorem dX6_checkPage_121 : decode cX6_checkPage 121 = .ok (.ifCond .le 15, 3) := dk_158 0 15 (dk_at dksX6_checkPage_5 6 rfl rfl)
theorem dX6_checkPage_124 : decode cX6_checkPage 124 = .ok (.iload_n 2, 1) := dk_28 (dk_at dksX6_checkPage_5 9 rfl rfl)
theorem dX6_checkPage_125 : decode cX6_checkPage 125 = .ok (.aload_n 0, 1) := dk_42 (dk_at dksX6_checkPage_5 10 rfl rfl)
theorem dX6_checkPage_126 : decode cX6_checkPage 126 = .ok (.getfield 234, 3) := dk_180 0 234 (dk_at dksX6_checkPage_5 11 rfl rfl)
theorem dX6_checkPage_129 : decode cX6_checkPage 129 = .ok (.if_icmp .ne 7, 3) := dk_160 0 7 (dk_at dksX6_checkPage_5 14 rfl rfl)
theorem dX6_checkPage_132 : decode cX6_checkPage 132 = .ok (.iconst 1, 1) := dk_4 (dk_at dksX6_checkPage_5 17 rfl rfl)
theorem dX6_checkPage_133 : decode cX6_checkPage 133 = .ok (.goto 4, 3) := dk_167 0 4 (dk_at dksX6_checkPage_5 18 rfl rfl)
theorem dX6_checkPage_136 : decode cX6_checkPage 136 = .ok (.iconst 0, 1) := dk_3 (dk_at dksX6_checkPage_5 21 rfl rfl)
theorem dX6_checkPage_137 : decode cX6_checkPage 137 = .ok (.istore 5, 2) := dk_54 5 (dk_at dksX6_checkPage_5 22 rfl rfl)
theorem dX6_checkPage_139 : decode cX6_checkPage 139 = .ok (.goto 47, 3) := dk_167 0 47 (dk_at dksX6_checkPage_6 0 rfl rfl)
theorem dX6_checkPage_142 : decode cX6_checkPage 142 = .ok (.iload_n 3, 1) := dk_29 (dk_at dksX6_checkPage_6 3 rfl rfl)
theorem dX6_checkPage_143 : decode cX6_checkPage 143 = .ok (.bipush 51, 2) := dk_16 51 (dk_at dksX6_checkPage_6 4 rfl rfl)
theorem dX6_checkPage_145 : decode cX6_checkPage 145 = .ok (.if_icmp .ne 17, 3) := dk_160 0 17 (dk_at dksX6_checkPage_6 6 rfl rfl)
theorem dX6_checkPage_148 : decode cX6_checkPage 148 = .ok (.iload_n 2, 1) := dk_28 (dk_at dksX6_checkPage_6 9 rfl rfl)
theorem dX6_checkPage_149 : decode cX6_checkPage 149 = .ok (.ifCond .ne 7, 3) := dk_154 0 7 (dk_at dksX6_checkPage_6 10 rfl rfl)
theorem dX6_checkPage_152 : decode cX6_checkPage 152 = .ok (.iconst 1, 1) := dk_4 (dk_at dksX6_checkPage_6 13 rfl rfl)
theorem dX6_checkPage_153 : decode cX6_checkPage 153 = .ok (.goto 4, 3) := dk_167 0 4 (dk_at dksX6_checkPage_6 14 rfl rfl)
theorem dX6_checkPage_156 : decode cX6_checkPage 156 = .ok (.iconst 0, 1) := dk_3 (dk_at dksX6_checkPage_6 17 rfl rfl)
theorem dX6_checkPage_157 : decode cX6_checkPage 157 = .ok (.istore 5, 2) := dk_54 5 (dk_at dksX6_checkPage_6 18 rfl rfl)
theorem dX6_checkPage_159 : decode cX6_checkPage 159 = .ok (.goto 27, 3) := dk_167 0 27 (dk_at dksX6_checkPage_6 20 rfl rfl)
theorem dX6_checkPage_162 : decode cX6_checkPage 162 = .ok (.iload 5, 2) := dk_21 5 (dk_at dksX6_checkPage_7 0 rfl rfl)
theorem dX6_checkPage_164 : decode cX6_checkPage 164 = .ok (.ifCond .eq 19, 3) := dk_153 0 19 (dk_at dksX6_checkPage_7 2 rfl rfl)
theorem dX6_checkPage_167 : decode cX6_checkPage 167 = .ok (.iload_n 2, 1) := dk_28 (dk_at dksX6_checkPage_7 5 rfl rfl)
theorem dX6_checkPage_168 : decode cX6_checkPage 168 = .ok (.ifCond .eq 11, 3) := dk_153 0 11 (dk_at dksX6_checkPage_7 6 rfl rfl)
theorem dX6_checkPage_171 : decode cX6_checkPage 171 = .ok (.iload_n 2, 1) := dk_28 (dk_at dksX6_checkPage_7 9 rfl rfl)
theorem dX6_checkPage_172 : decode cX6_checkPage 172 = .ok (.aload_n 0, 1) := dk_42 (dk_at dksX6_checkPage_7 10 rfl rfl)
theorem dX6_checkPage_173 : decode cX6_checkPage 173 = .ok (.getfield 234, 3) := dk_180 0 234 (dk_at dksX6_checkPage_7 11 rfl rfl)
theorem dX6_checkPage_176 : decode cX6_checkPage 176 = .ok (.if_icmp .ne 7, 3) := dk_160 0 7 (dk_at dksX6_checkPage_7 14 rfl rfl)
theorem dX6_checkPage_179 : decode cX6_checkPage 179 = .ok (.iconst 1, 1) := dk_4 (dk_at dksX6_checkPage_7 17 rfl rfl)
theorem dX6_checkPage_180 : decode cX6_checkPage 180 = .ok (.goto 4, 3) := dk_167 0 4 (dk_at dksX6_checkPage_7 18 rfl rfl)
theorem dX6_checkPage_183 : decode cX6_checkPage 183 = .ok (.iconst 0, 1) := dk_3 (dk_at dksX6_checkPage_7 21 rfl rfl)
theorem dX6_checkPage_184 : decode cX6_checkPage 184 = .ok (.istore 5, 2) := dk_54 5 (dk_at dksX6_checkPage_7 22 rfl rfl)
theorem dX6_checkPage_186 : decode cX6_checkPage 186 = .ok (.aload_n 0, 1) := dk_42 (dk_at dksX6_checkPage_8 0 rfl rfl)
theorem dX6_checkPage_187 : decode cX6_checkPage 187 = .ok (.iload 5, 2) := dk_21 5 (dk_at dksX6_checkPage_8 1 rfl rfl)
theorem dX6_checkPage_189 : decode cX6_checkPage 189 = .ok (.ifCond .eq 16, 3) := dk_153 0 16 (dk_at dksX6_checkPage_8 3 rfl rfl)
theorem dX6_checkPage_192 : decode cX6_checkPage 192 = .ok (.iload 4, 2) := dk_21 4 (dk_at dksX6_checkPage_8 6 rfl rfl)
theorem dX6_checkPage_194 : decode cX6_checkPage 194 = .ok (.ifCond .eq 7, 3) := dk_153 0 7 (dk_at dksX6_checkPage_8 8 rfl rfl)
theorem dX6_checkPage_197 : decode cX6_checkPage 197 = .ok (.iload_n 2, 1) := dk_28 (dk_at dksX6_checkPage_8 11 rfl rfl)
theorem dX6_checkPage_198 : decode cX6_checkPage 198 = .ok (.ifCond .ne 7, 3) := dk_154 0 7 (dk_at dksX6_checkPage_8 12 rfl rfl)
theorem dX6_checkPage_201 : decode cX6_checkPage 201 = .ok (.iconst 1, 1) := dk_4 (dk_at dksX6_checkPage_8 15 rfl rfl)
theorem dX6_checkPage_202 : decode cX6_checkPage 202 = .ok (.goto 4, 3) := dk_167 0 4 (dk_at dksX6_checkPage_8 16 rfl rfl)
theorem dX6_checkPage_205 : decode cX6_checkPage 205 = .ok (.iconst 0, 1) := dk_3 (dk_at dksX6_checkPage_8 19 rfl rfl)
theorem dX6_checkPage_206 : decode cX6_checkPage 206 = .ok (.bipush 6, 2) := dk_16 6 (dk_at dksX6_checkPage_8 20 rfl rfl)
theorem dX6_checkPage_208 : decode cX6_checkPage 208 = .ok (.iload_n 1, 1) := dk_27 (dk_at dksX6_checkPage_8 22 rfl rfl)
theorem dX6_checkPage_209 : decode cX6_checkPage 209 = .ok (.invokevirtual 237, 3) := dk_182 0 237 (dk_at dksX6_checkPage_9 0 rfl rfl)
theorem dX6_checkPage_212 : decode cX6_checkPage 212 = .ok (.ireturn, 1) := dk_172 (dk_at dksX6_checkPage_9 3 rfl rfl)
abbrev cX6_needs : ByteArray := prog_8_method_34_code
def yX6_needs : MethodName := ⟨RX6, "needs", "(ZII)Z"⟩
def dkwX6_needs_0 : List UInt8 := [27, 154, 0, 17, 42, 28, 42, 180, 0, 49, 29, 46, 182, 0, 200, 153, 0, 7, 4, 167, 0, 4, 3, 172]
abbrev dktX6_needs_0 : List UInt8 := dkwX6_needs_0 ++ []
theorem dksX6_needs_0 : cX6_needs.data.toList.drop 0 = dktX6_needs_0 := by decide +kernel
theorem dX6_needs_0 : decode cX6_needs 0 = .ok (.iload_n 1, 1) := dk_27 (dk_at dksX6_needs_0 0 rfl rfl)
theorem dX6_needs_1 : decode cX6_needs 1 = .ok (.ifCond .ne 17, 3) := dk_154 0 17 (dk_at dksX6_needs_0 1 rfl rfl)
theorem dX6_needs_4 : decode cX6_needs 4 = .ok (.aload_n 0, 1) := dk_42 (dk_at dksX6_needs_0 4 rfl rfl)
theorem dX6_needs_5 : decode cX6_needs 5 = .ok (.iload_n 2, 1) := dk_28 (dk_at dksX6_needs_0 5 rfl rfl)
theorem dX6_needs_6 : decode cX6_needs 6 = .ok (.aload_n 0, 1) := dk_42 (dk_at dksX6_needs_0 6 rfl rfl)
theorem dX6_needs_7 : decode cX6_needs 7 = .ok (.getfield 49, 3) := dk_180 0 49 (dk_at dksX6_needs_0 7 rfl rfl)
theorem dX6_needs_10 : decode cX6_needs 10 = .ok (.iload_n 3, 1) := dk_29 (dk_at dksX6_needs_0 10 rfl rfl)
theorem dX6_needs_11 : decode cX6_needs 11 = .ok (.iaload, 1) := dk_46 (dk_at dksX6_needs_0 11 rfl rfl)
theorem dX6_needs_12 : decode cX6_needs 12 = .ok (.invokevirtual 200, 3) := dk_182 0 200 (dk_at dksX6_needs_0 12 rfl rfl)
theorem dX6_needs_15 : decode cX6_needs 15 = .ok (.ifCond .eq 7, 3) := dk_153 0 7 (dk_at dksX6_needs_0 15 rfl rfl)
theorem dX6_needs_18 : decode cX6_needs 18 = .ok (.iconst 1, 1) := dk_4 (dk_at dksX6_needs_0 18 rfl rfl)
theorem dX6_needs_19 : decode cX6_needs 19 = .ok (.goto 4, 3) := dk_167 0 4 (dk_at dksX6_needs_0 19 rfl rfl)
theorem dX6_needs_22 : decode cX6_needs 22 = .ok (.iconst 0, 1) := dk_3 (dk_at dksX6_needs_0 22 rfl rfl)
theorem dX6_needs_23 : decode cX6_needs 23 = .ok (.ireturn, 1) := dk_172 (dk_at dksX6_needs_0 23 rfl rfl)
abbrev cX6_checkLength : ByteArray := prog_8_method_43_code
def yX6_checkLength : MethodName := ⟨RX6, "checkLength", "(I)Z"⟩
def dkwX6_checkLength_9 : List UInt8 := [182, 0, 214, 153, 0, 7, 4, 167, 0, 4, 3, 172]
abbrev dktX6_checkLength_9 : List UInt8 := dkwX6_checkLength_9 ++ []
def dkwX6_checkLength_8 : List UInt8 := [16, 7, 27, 182, 0, 237, 153, 0, 26, 42, 21, 5, 153, 0, 9, 20, 0, 249, 167, 0, 4, 32]
abbrev dktX6_checkLength_8 : List UInt8 := dkwX6_checkLength_8 ++ dktX6_checkLength_9
def dkwX6_checkLength_7 : List UInt8 := [167, 0, 18, 3, 167, 0, 14, 32, 9, 148, 154, 0, 7, 4, 167, 0, 4, 3, 54, 6, 42, 21, 6]
abbrev dktX6_checkLength_7 : List UInt8 := dkwX6_checkLength_7 ++ dktX6_checkLength_8
def dkwX6_checkLength_6 : List UInt8 := [153, 0, 31, 32, 20, 0, 249, 148, 155, 0, 19, 21, 5, 153, 0, 10, 21, 4, 16, 38, 160, 0, 7, 4]
abbrev dktX6_checkLength_6 : List UInt8 := dkwX6_checkLength_6 ++ dktX6_checkLength_7
def dkwX6_checkLength_5 : List UInt8 := [160, 0, 19, 32, 20, 0, 243, 148, 154, 0, 7, 4, 167, 0, 54, 3, 167, 0, 50, 21, 4, 184, 0, 137]
abbrev dktX6_checkLength_5 : List UInt8 := dkwX6_checkLength_5 ++ dktX6_checkLength_6
def dkwX6_checkLength_4 : List UInt8 := [160, 0, 19, 32, 20, 0, 247, 148, 154, 0, 7, 4, 167, 0, 77, 3, 167, 0, 73, 21, 4, 16, 50]
abbrev dktX6_checkLength_4 : List UInt8 := dkwX6_checkLength_4 ++ dktX6_checkLength_5
def dkwX6_checkLength_3 : List UInt8 := [155, 0, 15, 32, 20, 0, 245, 148, 157, 0, 7, 4, 167, 0, 100, 3, 167, 0, 96, 21, 4, 16, 48]
abbrev dktX6_checkLength_3 : List UInt8 := dkwX6_checkLength_3 ++ dktX6_checkLength_4
def dkwX6_checkLength_2 : List UInt8 := [157, 0, 7, 4, 167, 0, 131, 3, 167, 0, 127, 21, 4, 16, 62, 160, 0, 27, 32, 20, 0, 243, 148]
abbrev dktX6_checkLength_2 : List UInt8 := dkwX6_checkLength_2 ++ dktX6_checkLength_3
def dkwX6_checkLength_1 : List UInt8 := [167, 0, 4, 3, 54, 5, 21, 4, 153, 0, 10, 21, 4, 16, 53, 160, 0, 19, 32, 20, 0, 241, 148]
abbrev dktX6_checkLength_1 : List UInt8 := dkwX6_checkLength_1 ++ dktX6_checkLength_2
def dkwX6_checkLength_0 : List UInt8 := [42, 180, 0, 70, 27, 47, 65, 42, 180, 0, 55, 27, 46, 54, 4, 32, 20, 0, 225, 148, 154, 0, 7, 4]
abbrev dktX6_checkLength_0 : List UInt8 := dkwX6_checkLength_0 ++ dktX6_checkLength_1
theorem dksX6_checkLength_0 : cX6_checkLength.data.toList.drop 0 = dktX6_checkLength_0 := by decide +kernel
theorem dksX6_checkLength_1 : cX6_checkLength.data.toList.drop 24 = dktX6_checkLength_1 := dk_seg dksX6_checkLength_0 24 rfl rfl
theorem dksX6_checkLength_2 : cX6_checkLength.data.toList.drop 47 = dktX6_checkLength_2 := dk_seg dksX6_checkLength_1 23 rfl rfl
theorem dksX6_checkLength_3 : cX6_checkLength.data.toList.drop 70 = dktX6_checkLength_3 := dk_seg dksX6_checkLength_2 23 rfl rfl
theorem dksX6_checkLength_4 : cX6_checkLength.data.toList.drop 93 = dktX6_checkLength_4 := dk_seg dksX6_checkLength_3 23 rfl rfl
theorem dksX6_checkLength_5 : cX6_checkLength.data.toList.drop 116 = dktX6_checkLength_5 := dk_seg dksX6_checkLength_4 23 rfl rfl
theorem dksX6_checkLength_6 : cX6_checkLength.data.toList.drop 140 = dktX6_checkLength_6 := dk_seg dksX6_checkLength_5 24 rfl rfl
theorem dksX6_checkLength_7 : cX6_checkLength.data.toList.drop 164 = dktX6_checkLength_7 := dk_seg dksX6_checkLength_6 24 rfl rfl
theorem dksX6_checkLength_8 : cX6_checkLength.data.toList.drop 187 = dktX6_checkLength_8 := dk_seg dksX6_checkLength_7 23 rfl rfl
theorem dksX6_checkLength_9 : cX6_checkLength.data.toList.drop 209 = dktX6_checkLength_9 := dk_seg dksX6_checkLength_8 22 rfl rfl
theorem dX6_checkLength_0 : decode cX6_checkLength 0 = .ok (.aload_n 0, 1) := dk_42 (dk_at dksX6_checkLength_0 0 rfl rfl)
theorem dX6_checkLength_1 : decode cX6_checkLength 1 = .ok (.getfield 70, 3) := dk_180 0 70 (dk_at dksX6_checkLength_0 1 rfl rfl)
theorem dX6_checkLength_4 : decode cX6_checkLength 4 = .ok (.iload_n 1, 1) := dk_27 (dk_at dksX6_checkLength_0 4 rfl rfl)
theorem dX6_checkLength_5 : decode cX6_checkLength 5 = .ok (.laload, 1) := dk_47 (dk_at dksX6_checkLength_0 5 rfl rfl)
theorem dX6_checkLength_6 : decode cX6_checkLength 6 = .ok (.lstore_n 2, 1) := dk_65 (dk_at dksX6_checkLength_0 6 rfl rfl)
theorem dX6_checkLength_7 : decode cX6_checkLength 7 = .ok (.aload_n 0, 1) := dk_42 (dk_at dksX6_checkLength_0 7 rfl rfl)
theorem dX6_checkLength_8 : decode cX6_checkLength 8 = .ok (.getfield 55, 3) := dk_180 0 55 (dk_at dksX6_checkLength_0 8 rfl rfl)
theorem dX6_checkLength_11 : decode cX6_checkLength 11 = .ok (.iload_n 1, 1) := dk_27 (dk_at dksX6_checkLength_0 11 rfl rfl)
theorem dX6_checkLength_12 : decode cX6_checkLength 12 = .ok (.iaload, 1) := dk_46 (dk_at dksX6_checkLength_0 12 rfl rfl)
theorem dX6_checkLength_13 : decode cX6_checkLength 13 = .ok (.istore 4, 2) := dk_54 4 (dk_at dksX6_checkLength_0 13 rfl rfl)
theorem dX6_checkLength_15 : decode cX6_checkLength 15 = .ok (.lload_n 2, 1) := dk_32 (dk_at dksX6_checkLength_0 15 rfl rfl)
theorem dX6_checkLength_16 : decode cX6_checkLength 16 = .ok (.ldc2_w 225, 3) := dk_20 0 225 (dk_at dksX6_checkLength_0 16 rfl rfl)
theorem dX6_checkLength_19 : decode cX6_checkLength 19 = .ok (.lcmp, 1) := dk_148 (dk_at dksX6_checkLength_0 19 rfl rfl)
theorem dX6_checkLength_20 : decode cX6_checkLength 20 = .ok (.ifCond .ne 7, 3) := dk_154 0 7 (dk_at dksX6_checkLength_0 20 rfl rfl)
theorem dX6_checkLength_23 : decode cX6_checkLength 23 = .ok (.iconst 1, 1) := dk_4 (dk_at dksX6_checkLength_0 23 rfl rfl)
theorem dX6_checkLength_24 : decode cX6_checkLength 24 = .ok (.goto 4, 3) := dk_167 0 4 (dk_at dksX6_checkLength_1 0 rfl rfl)
theorem dX6_checkLength_27 : decode cX6_checkLength 27 = .ok (.iconst 0, 1) := dk_3 (dk_at dksX6_checkLength_1 3 rfl rfl)
theorem dX6_checkLength_28 : decode cX6_checkLength 28 = .ok (.istore 5, 2) := dk_54 5 (dk_at dksX6_checkLength_1 4 rfl rfl)
theorem dX6_checkLength_30 : decode cX6_checkLength 30 = .ok (.iload 4, 2) := dk_21 4 (dk_at dksX6_checkLength_1 6 rfl rfl)
theorem dX6_checkLength_32 : decode cX6_checkLength 32 = .ok (.ifCond .eq 10, 3) := dk_153 0 10 (dk_at dksX6_checkLength_1 8 rfl rfl)
theorem dX6_checkLength_35 : decode cX6_checkLength 35 = .ok (.iload 4, 2) := dk_21 4 (dk_at dksX6_checkLength_1 11 rfl rfl)
theorem dX6_checkLength_37 : decode cX6_checkLength 37 = .ok (.bipush 53, 2) := dk_16 53 (dk_at dksX6_checkLength_1 13 rfl rfl)
theorem dX6_checkLength_39 : decode cX6_checkLength 39 = .ok (.if_icmp .ne 19, 3) := dk_160 0 19 (dk_at dksX6_checkLength_1 15 rfl rfl)
theorem dX6_checkLength_42 : decode cX6_checkLength 42 = .ok (.lload_n 2, 1) := dk_32 (dk_at dksX6_checkLength_1 18 rfl rfl)
theorem dX6_checkLength_43 : decode cX6_checkLength 43 = .ok (.ldc2_w 241, 3) := dk_20 0 241 (dk_at dksX6_checkLength_1 19 rfl rfl)
theorem dX6_checkLength_46 : decode cX6_checkLength 46 = .ok (.lcmp, 1) := dk_148 (dk_at dksX6_checkLength_1 22 rfl rfl)
theorem dX6_checkLength_47 : decode cX6_checkLength 47 = .ok (.ifCond .gt 7, 3) := dk_157 0 7 (dk_at dksX6_checkLength_2 0 rfl rfl)
theorem dX6_checkLength_50 : decode cX6_checkLength 50 = .ok (.iconst 1, 1) := dk_4 (dk_at dksX6_checkLength_2 3 rfl rfl)
theorem dX6_checkLength_51 : decode cX6_checkLength 51 = .ok (.goto 131, 3) := dk_167 0 131 (dk_at dksX6_checkLength_2 4 rfl rfl)
theorem dX6_checkLength_54 : decode cX6_checkLength 54 = .ok (.iconst 0, 1) := dk_3 (dk_at dksX6_checkLength_2 7 rfl rfl)
theorem dX6_checkLength_55 : decode cX6_checkLength 55 = .ok (.goto 127, 3) := dk_167 0 127 (dk_at dksX6_checkLength_2 8 rfl rfl)
theorem dX6_checkLength_58 : decode cX6_checkLength 58 = .ok (.iload 4, 2) := dk_21 4 (dk_at dksX6_checkLength_2 11 rfl rfl)
theorem dX6_checkLength_60 : decode cX6_checkLength 60 = .ok (.bipush 62, 2) := dk_16 62 (dk_at dksX6_checkLength_2 13 rfl rfl)
theorem dX6_checkLength_62 : decode cX6_checkLength 62 = .ok (.if_icmp .ne 27, 3) := dk_160 0 27 (dk_at dksX6_checkLength_2 15 rfl rfl)
theorem dX6_checkLength_65 : decode cX6_checkLength 65 = .ok (.lload_n 2, 1) := dk_32 (dk_at dksX6_checkLength_2 18 rfl rfl)
theorem dX6_checkLength_66 : decode cX6_checkLength 66 = .ok (.ldc2_w 243, 3) := dk_20 0 243 (dk_at dksX6_checkLength_2 19 rfl rfl)
theorem dX6_checkLength_69 : decode cX6_checkLength 69 = .ok (.lcmp, 1) := dk_148 (dk_at dksX6_checkLength_2 22 rfl rfl)
theorem dX6_checkLength_70 : decode cX6_checkLength 70 = .ok (.ifCond .lt 15, 3) := dk_155 0 15 (dk_at dksX6_checkLength_3 0 rfl rfl)
theorem dX6_checkLength_73 : decode cX6_checkLength 73 = .ok (.lload_n 2, 1) := dk_32 (dk_at dksX6_checkLength_3 3 rfl rfl)
theorem dX6_checkLength_74 : decode cX6_checkLength 74 = .ok (.ldc2_w 245, 3) := dk_20 0 245 (dk_at dksX6_checkLength_3 4 rfl rfl)
theorem dX6_checkLength_77 : decode cX6_checkLength 77 = .ok (.lcmp, 1) := dk_148 (dk_at dksX6_checkLength_3 7 rfl rfl)
theorem dX6_checkLength_78 : decode cX6_checkLength 78 = .ok (.ifCond .gt 7, 3) := dk_157 0 7 (dk_at dksX6_checkLength_3 8 rfl rfl)
theorem dX6_checkLength_81 : decode cX6_checkLength 81 = .ok (.iconst 1, 1) := dk_4 (dk_at dksX6_checkLength_3 11 rfl rfl)
theorem dX6_checkLength_82 : decode cX6_checkLength 82 = .ok (.goto 100, 3) := dk_167 0 100 (dk_at dksX6_checkLength_3 12 rfl rfl)
theorem dX6_checkLength_85 : decode cX6_checkLength 85 = .ok (.iconst 0, 1) := dk_3 (dk_at dksX6_checkLength_3 15 rfl rfl)
theorem dX6_checkLength_86 : decode cX6_checkLength 86 = .ok (.goto 96, 3) := dk_167 0 96 (dk_at dksX6_checkLength_3 16 rfl rfl)
theorem dX6_checkLength_89 : decode cX6_checkLength 89 = .ok (.iload 4, 2) := dk_21 4 (dk_at dksX6_checkLength_3 19 rfl rfl)
theorem dX6_checkLength_91 : decode cX6_checkLength 91 = .ok (.bipush 48, 2) := dk_16 48 (dk_at dksX6_checkLength_3 21 rfl rfl)
theorem dX6_checkLength_93 : decode cX6_checkLength 93 = .ok (.if_icmp .ne 19, 3) := dk_160 0 19 (dk_at dksX6_checkLength_4 0 rfl rfl)
theorem dX6_checkLength_96 : decode cX6_checkLength 96 = .ok (.lload_n 2, 1) := dk_32 (dk_at dksX6_checkLength_4 3 rfl rfl)
theorem dX6_checkLength_97 : decode cX6_checkLength 97 = .ok (.ldc2_w 247, 3) := dk_20 0 247 (dk_at dksX6_checkLength_4 4 rfl rfl)
theorem dX6_checkLength_100 : decode cX6_checkLength 100 = .ok (.lcmp, 1) := dk_148 (dk_at dksX6_checkLength_4 7 rfl rfl)
theorem dX6_checkLength_101 : decode cX6_checkLength 101 = .ok (.ifCond .ne 7, 3) := dk_154 0 7 (dk_at dksX6_checkLength_4 8 rfl rfl)
theorem dX6_checkLength_104 : decode cX6_checkLength 104 = .ok (.iconst 1, 1) := dk_4 (dk_at dksX6_checkLength_4 11 rfl rfl)
theorem dX6_checkLength_105 : decode cX6_checkLength 105 = .ok (.goto 77, 3) := dk_167 0 77 (dk_at dksX6_checkLength_4 12 rfl rfl)
theorem dX6_checkLength_108 : decode cX6_checkLength 108 = .ok (.iconst 0, 1) := dk_3 (dk_at dksX6_checkLength_4 15 rfl rfl)
theorem dX6_checkLength_109 : decode cX6_checkLength 109 = .ok (.goto 73, 3) := dk_167 0 73 (dk_at dksX6_checkLength_4 16 rfl rfl)
theorem dX6_checkLength_112 : decode cX6_checkLength 112 = .ok (.iload 4, 2) := dk_21 4 (dk_at dksX6_checkLength_4 19 rfl rfl)
theorem dX6_checkLength_114 : decode cX6_checkLength 114 = .ok (.bipush 50, 2) := dk_16 50 (dk_at dksX6_checkLength_4 21 rfl rfl)
theorem dX6_checkLength_116 : decode cX6_checkLength 116 = .ok (.if_icmp .ne 19, 3) := dk_160 0 19 (dk_at dksX6_checkLength_5 0 rfl rfl)
theorem dX6_checkLength_119 : decode cX6_checkLength 119 = .ok (.lload_n 2, 1) := dk_32 (dk_at dksX6_checkLength_5 3 rfl rfl)
theorem dX6_checkLength_120 : decode cX6_checkLength 120 = .ok (.ldc2_w 243, 3) := dk_20 0 243 (dk_at dksX6_checkLength_5 4 rfl rfl)
theorem dX6_checkLength_123 : decode cX6_checkLength 123 = .ok (.lcmp, 1) := dk_148 (dk_at dksX6_checkLength_5 7 rfl rfl)
theorem dX6_checkLength_124 : decode cX6_checkLength 124 = .ok (.ifCond .ne 7, 3) := dk_154 0 7 (dk_at dksX6_checkLength_5 8 rfl rfl)
theorem dX6_checkLength_127 : decode cX6_checkLength 127 = .ok (.iconst 1, 1) := dk_4 (dk_at dksX6_checkLength_5 11 rfl rfl)
theorem dX6_checkLength_128 : decode cX6_checkLength 128 = .ok (.goto 54, 3) := dk_167 0 54 (dk_at dksX6_checkLength_5 12 rfl rfl)
theorem dX6_checkLength_131 : decode cX6_checkLength 131 = .ok (.iconst 0, 1) := dk_3 (dk_at dksX6_checkLength_5 15 rfl rfl)
theorem dX6_checkLength_132 : decode cX6_checkLength 132 = .ok (.goto 50, 3) := dk_167 0 50 (dk_at dksX6_checkLength_5 16 rfl rfl)
theorem dX6_checkLength_135 : decode cX6_checkLength 135 = .ok (.iload 4, 2) := dk_21 4 (dk_at dksX6_checkLength_5 19 rfl rfl)
theorem dX6_checkLength_137 : decode cX6_checkLength 137 = .ok (.invokestatic 137, 3) := dk_184 0 137 (dk_at dksX6_checkLength_5 21 rfl rfl)
theorem dX6_checkLength_140 : decode cX6_checkLength 140 = .ok (.ifCond .eq 31, 3) := dk_153 0 31 (dk_at dksX6_checkLength_6 0 rfl rfl)
theorem dX6_checkLength_143 : decode cX6_checkLength 143 = .ok (.lload_n 2, 1) := dk_32 (dk_at dksX6_checkLength_6 3 rfl rfl)
theorem dX6_checkLength_144 : decode cX6_checkLength 144 = .ok (.ldc2_w 249, 3) := dk_20 0 249 (dk_at dksX6_checkLength_6 4 rfl rfl)
theorem dX6_checkLength_147 : decode cX6_checkLength 147 = .ok (.lcmp, 1) := dk_148 (dk_at dksX6_checkLength_6 7 rfl rfl)
theorem dX6_checkLength_148 : decode cX6_checkLength 148 = .ok (.ifCond .lt 19, 3) := dk_155 0 19 (dk_at dksX6_checkLength_6 8 rfl rfl)
theorem dX6_checkLength_151 : decode cX6_checkLength 151 = .ok (.iload 5, 2) := dk_21 5 (dk_at dksX6_checkLength_6 11 rfl rfl)
theorem dX6_checkLength_153 : decode cX6_checkLength 153 = .ok (.ifCond .eq 10, 3) := dk_153 0 10 (dk_at dksX6_checkLength_6 13 rfl rfl)
theorem dX6_checkLength_156 : decode cX6_checkLength 156 = .ok (.iload 4, 2) := dk_21 4 (dk_at dksX6_checkLength_6 16 rfl rfl)
theorem dX6_checkLength_158 : decode cX6_checkLength 158 = .ok (.bipush 38, 2) := dk_16 38 (dk_at dksX6_checkLength_6 18 rfl rfl)
theorem dX6_checkLength_160 : decode cX6_checkLength 160 = .ok (.if_icmp .ne 7, 3) := dk_160 0 7 (dk_at dksX6_checkLength_6 20 rfl rfl)
theorem dX6_checkLength_163 : decode cX6_checkLength 163 = .ok (.iconst 1, 1) := dk_4 (dk_at dksX6_checkLength_6 23 rfl rfl)
theorem dX6_checkLength_164 : decode cX6_checkLength 164 = .ok (.goto 18, 3) := dk_167 0 18 (dk_at dksX6_checkLength_7 0 rfl rfl)
theorem dX6_checkLength_167 : decode cX6_checkLength 167 = .ok (.iconst 0, 1) := dk_3 (dk_at dksX6_checkLength_7 3 rfl rfl)
theorem dX6_checkLength_168 : decode cX6_checkLength 168 = .ok (.goto 14, 3) := dk_167 0 14 (dk_at dksX6_checkLength_7 4 rfl rfl)
theorem dX6_checkLength_171 : decode cX6_checkLength 171 = .ok (.lload_n 2, 1) := dk_32 (dk_at dksX6_checkLength_7 7 rfl rfl)
theorem dX6_checkLength_172 : decode cX6_checkLength 172 = .ok (.lconst 0, 1) := dk_9 (dk_at dksX6_checkLength_7 8 rfl rfl)
theorem dX6_checkLength_173 : decode cX6_checkLength 173 = .ok (.lcmp, 1) := dk_148 (dk_at dksX6_checkLength_7 9 rfl rfl)
theorem dX6_checkLength_174 : decode cX6_checkLength 174 = .ok (.ifCond .ne 7, 3) := dk_154 0 7 (dk_at dksX6_checkLength_7 10 rfl rfl)
theorem dX6_checkLength_177 : decode cX6_checkLength 177 = .ok (.iconst 1, 1) := dk_4 (dk_at dksX6_checkLength_7 13 rfl rfl)
theorem dX6_checkLength_178 : decode cX6_checkLength 178 = .ok (.goto 4, 3) := dk_167 0 4 (dk_at dksX6_checkLength_7 14 rfl rfl)
theorem dX6_checkLength_181 : decode cX6_checkLength 181 = .ok (.iconst 0, 1) := dk_3 (dk_at dksX6_checkLength_7 17 rfl rfl)
theorem dX6_checkLength_182 : decode cX6_checkLength 182 = .ok (.istore 6, 2) := dk_54 6 (dk_at dksX6_checkLength_7 18 rfl rfl)
theorem dX6_checkLength_184 : decode cX6_checkLength 184 = .ok (.aload_n 0, 1) := dk_42 (dk_at dksX6_checkLength_7 20 rfl rfl)
theorem dX6_checkLength_185 : decode cX6_checkLength 185 = .ok (.iload 6, 2) := dk_21 6 (dk_at dksX6_checkLength_7 21 rfl rfl)
theorem dX6_checkLength_187 : decode cX6_checkLength 187 = .ok (.bipush 7, 2) := dk_16 7 (dk_at dksX6_checkLength_8 0 rfl rfl)
theorem dX6_checkLength_189 : decode cX6_checkLength 189 = .ok (.iload_n 1, 1) := dk_27 (dk_at dksX6_checkLength_8 2 rfl rfl)
theorem dX6_checkLength_190 : decode cX6_checkLength 190 = .ok (.invokevirtual 237, 3) := dk_182 0 237 (dk_at dksX6_checkLength_8 3 rfl rfl)
theorem dX6_checkLength_193 : decode cX6_checkLength 193 = .ok (.ifCond .eq 26, 3) := dk_153 0 26 (dk_at dksX6_checkLength_8 6 rfl rfl)
theorem dX6_checkLength_196 : decode cX6_checkLength 196 = .ok (.aload_n 0, 1) := dk_42 (dk_at dksX6_checkLength_8 9 rfl rfl)
theorem dX6_checkLength_197 : decode cX6_checkLength 197 = .ok (.iload 5, 2) := dk_21 5 (dk_at dksX6_checkLength_8 10 rfl rfl)
theorem dX6_checkLength_199 : decode cX6_checkLength 199 = .ok (.ifCond .eq 9, 3) := dk_153 0 9 (dk_at dksX6_checkLength_8 12 rfl rfl)
theorem dX6_checkLength_202 : decode cX6_checkLength 202 = .ok (.ldc2_w 249, 3) := dk_20 0 249 (dk_at dksX6_checkLength_8 15 rfl rfl)
theorem dX6_checkLength_205 : decode cX6_checkLength 205 = .ok (.goto 4, 3) := dk_167 0 4 (dk_at dksX6_checkLength_8 18 rfl rfl)
theorem dX6_checkLength_208 : decode cX6_checkLength 208 = .ok (.lload_n 2, 1) := dk_32 (dk_at dksX6_checkLength_8 21 rfl rfl)
theorem dX6_checkLength_209 : decode cX6_checkLength 209 = .ok (.invokevirtual 214, 3) := dk_182 0 214 (dk_at dksX6_checkLength_9 0 rfl rfl)
theorem dX6_checkLength_212 : decode cX6_checkLength 212 = .ok (.ifCond .eq 7, 3) := dk_153 0 7 (dk_at dksX6_checkLength_9 3 rfl rfl)
theorem dX6_checkLength_215 : decode cX6_checkLength 215 = .ok (.iconst 1, 1) := dk_4 (dk_at dksX6_checkLength_9 6 rfl rfl)
theorem dX6_checkLength_216 : decode cX6_checkLength 216 = .ok (.goto 4, 3) := dk_167 0 4 (dk_at dksX6_checkLength_9 7 rfl rfl)
theorem dX6_checkLength_219 : decode cX6_checkLength 219 = .ok (.iconst 0, 1) := dk_3 (dk_at dksX6_checkLength_9 10 rfl rfl)
theorem dX6_checkLength_220 : decode cX6_checkLength 220 = .ok (.ireturn, 1) := dk_172 (dk_at dksX6_checkLength_9 11 rfl rfl)
abbrev cX6_readPage : ByteArray := prog_8_method_44_code
def yX6_readPage : MethodName := ⟨RX6, "readPage", "(I)Z"⟩
def dkwX6_readPage_9 : List UInt8 := [167, 255, 210, 4, 172]
abbrev dktX6_readPage_9 : List UInt8 := dkwX6_readPage_9 ++ []
def dkwX6_readPage_8 : List UInt8 := [180, 0, 46, 42, 180, 0, 206, 16, 8, 96, 46, 4, 160, 0, 7, 4, 167, 0, 4, 3, 84, 132, 6, 1]
abbrev dktX6_readPage_8 : List UInt8 := dkwX6_readPage_8 ++ dktX6_readPage_9
def dkwX6_readPage_7 : List UInt8 := [54, 6, 21, 6, 17, 4, 0, 162, 0, 44, 42, 180, 0, 108, 17, 4, 0, 21, 5, 104, 21, 6, 96, 42]
abbrev dktX6_readPage_7 : List UInt8 := dkwX6_readPage_7 ++ dktX6_readPage_8
def dkwX6_readPage_6 : List UInt8 := [21, 5, 42, 180, 0, 46, 42, 180, 0, 206, 16, 9, 96, 46, 79, 42, 180, 0, 102, 21, 5, 3, 79, 3]
abbrev dktX6_readPage_6 : List UInt8 := dkwX6_readPage_6 ++ dktX6_readPage_7
def dkwX6_readPage_5 : List UInt8 := [181, 0, 234, 42, 180, 0, 93, 21, 5, 28, 79, 42, 180, 0, 96, 21, 5, 29, 79, 42, 180, 0, 99]
abbrev dktX6_readPage_5 : List UInt8 := dkwX6_readPage_5 ++ dktX6_readPage_6
def dkwX6_readPage_4 : List UInt8 := [154, 0, 5, 3, 172, 42, 180, 0, 58, 27, 46, 54, 5, 42, 180, 0, 89, 21, 5, 4, 84, 42, 21, 5]
abbrev dktX6_readPage_4 : List UInt8 := dkwX6_readPage_4 ++ dktX6_readPage_5
def dkwX6_readPage_3 : List UInt8 := [16, 9, 96, 46, 8, 162, 0, 7, 4, 167, 0, 4, 3, 54, 4, 42, 21, 4, 16, 8, 27, 182, 0, 237]
abbrev dktX6_readPage_3 : List UInt8 := dkwX6_readPage_3 ++ dktX6_readPage_4
def dkwX6_readPage_2 : List UInt8 := [180, 0, 46, 42, 180, 0, 206, 16, 8, 96, 46, 5, 162, 0, 23, 42, 180, 0, 46, 42, 180, 0, 206]
abbrev dktX6_readPage_2 : List UInt8 := dkwX6_readPage_2 ++ dktX6_readPage_3
def dkwX6_readPage_1 : List UInt8 := [184, 0, 121, 153, 0, 54, 29, 2, 159, 0, 13, 29, 4, 16, 32, 184, 0, 121, 153, 0, 39, 42]
abbrev dktX6_readPage_1 : List UInt8 := dkwX6_readPage_1 ++ dktX6_readPage_2
def dkwX6_readPage_0 : List UInt8 := [42, 42, 180, 0, 206, 182, 0, 220, 61, 42, 42, 180, 0, 206, 7, 96, 182, 0, 220, 62, 28, 4, 16, 32]
abbrev dktX6_readPage_0 : List UInt8 := dkwX6_readPage_0 ++ dktX6_readPage_1
theorem dksX6_readPage_0 : cX6_readPage.data.toList.drop 0 = dktX6_readPage_0 := by decide +kernel
theorem dksX6_readPage_1 : cX6_readPage.data.toList.drop 24 = dktX6_readPage_1 := dk_seg dksX6_readPage_0 24 rfl rfl
theorem dksX6_readPage_2 : cX6_readPage.data.toList.drop 46 = dktX6_readPage_2 := dk_seg dksX6_readPage_1 22 rfl rfl
theorem dksX6_readPage_3 : cX6_readPage.data.toList.drop 69 = dktX6_readPage_3 := dk_seg dksX6_readPage_2 23 rfl rfl
theorem dksX6_readPage_4 : cX6_readPage.data.toList.drop 93 = dktX6_readPage_4 := dk_seg dksX6_readPage_3 24 rfl rfl
theorem dksX6_readPage_5 : cX6_readPage.data.toList.drop 117 = dktX6_readPage_5 := dk_seg dksX6_readPage_4 24 rfl rfl
theorem dksX6_readPage_6 : cX6_readPage.data.toList.drop 140 = dktX6_readPage_6 := dk_seg dksX6_readPage_5 23 rfl rfl
theorem dksX6_readPage_7 : cX6_readPage.data.toList.drop 164 = dktX6_readPage_7 := dk_seg dksX6_readPage_6 24 rfl rfl
theorem dksX6_readPage_8 : cX6_readPage.data.toList.drop 188 = dktX6_readPage_8 := dk_seg dksX6_readPage_7 24 rfl rfl
theorem dksX6_readPage_9 : cX6_readPage.data.toList.drop 212 = dktX6_readPage_9 := dk_seg dksX6_readPage_8 24 rfl rfl
theorem dX6_readPage_0 : decode cX6_readPage 0 = .ok (.aload_n 0, 1) := dk_42 (dk_at dksX6_readPage_0 0 rfl rfl)
theorem dX6_readPage_1 : decode cX6_readPage 1 = .ok (.aload_n 0, 1) := dk_42 (dk_at dksX6_readPage_0 1 rfl rfl)
theorem dX6_readPage_2 : decode cX6_readPage 2 = .ok (.getfield 206, 3) := dk_180 0 206 (dk_at dksX6_readPage_0 2 rfl rfl)
theorem dX6_readPage_5 : decode cX6_readPage 5 = .ok (.invokevirtual 220, 3) := dk_182 0 220 (dk_at dksX6_readPage_0 5 rfl rfl)
theorem dX6_readPage_8 : decode cX6_readPage 8 = .ok (.istore_n 2, 1) := dk_61 (dk_at dksX6_readPage_0 8 rfl rfl)
theorem dX6_readPage_9 : decode cX6_readPage 9 = .ok (.aload_n 0, 1) := dk_42 (dk_at dksX6_readPage_0 9 rfl rfl)
theorem dX6_readPage_10 : decode cX6_readPage 10 = .ok (.aload_n 0, 1) := dk_42 (dk_at dksX6_readPage_0 10 rfl rfl)
theorem dX6_readPage_11 : decode cX6_readPage 11 = .ok (.getfield 206, 3) := dk_180 0 206 (dk_at dksX6_readPage_0 11 rfl rfl)
theorem dX6_readPage_14 : decode cX6_readPage 14 = .ok (.iconst 4, 1) := dk_7 (dk_at dksX6_readPage_0 14 rfl rfl)
theorem dX6_readPage_15 : decode cX6_readPage 15 = .ok (.iadd, 1) := dk_96 (dk_at dksX6_readPage_0 15 rfl rfl)
theorem dX6_readPage_16 : decode cX6_readPage 16 = .ok (.invokevirtual 220, 3) := dk_182 0 220 (dk_at dksX6_readPage_0 16 rfl rfl)
theorem dX6_readPage_19 : decode cX6_readPage 19 = .ok (.istore_n 3, 1) := dk_62 (dk_at dksX6_readPage_0 19 rfl rfl)
theorem dX6_readPage_20 : decode cX6_readPage 20 = .ok (.iload_n 2, 1) := dk_28 (dk_at dksX6_readPage_0 20 rfl rfl)
theorem dX6_readPage_21 : decode cX6_readPage 21 = .ok (.iconst 1, 1) := dk_4 (dk_at dksX6_readPage_0 21 rfl rfl)
theorem dX6_readPage_22 : decode cX6_readPage 22 = .ok (.bipush 32, 2) := dk_16 32 (dk_at dksX6_readPage_0 22 rfl rfl)
theorem dX6_readPage_24 : decode cX6_readPage 24 = .ok (.invokestatic 121, 3) := dk_184 0 121 (dk_at dksX6_readPage_1 0 rfl rfl)
theorem dX6_readPage_27 : decode cX6_readPage 27 = .ok (.ifCond .eq 54, 3) := dk_153 0 54 (dk_at dksX6_readPage_1 3 rfl rfl)
theorem dX6_readPage_30 : decode cX6_readPage 30 = .ok (.iload_n 3, 1) := dk_29 (dk_at dksX6_readPage_1 6 rfl rfl)
theorem dX6_readPage_31 : decode cX6_readPage 31 = .ok (.iconst (-1), 1) := dk_2 (dk_at dksX6_readPage_1 7 rfl rfl)
theorem dX6_readPage_32 : decode cX6_readPage 32 = .ok (.if_icmp .eq 13, 3) := dk_159 0 13 (dk_at dksX6_readPage_1 8 rfl rfl)
theorem dX6_readPage_35 : decode cX6_readPage 35 = .ok (.iload_n 3, 1) := dk_29 (dk_at dksX6_readPage_1 11 rfl rfl)
theorem dX6_readPage_36 : decode cX6_readPage 36 = .ok (.iconst 1, 1) := dk_4 (dk_at dksX6_readPage_1 12 rfl rfl)
theorem dX6_readPage_37 : decode cX6_readPage 37 = .ok (.bipush 32, 2) := dk_16 32 (dk_at dksX6_readPage_1 13 rfl rfl)
theorem dX6_readPage_39 : decode cX6_readPage 39 = .ok (.invokestatic 121, 3) := dk_184 0 121 (dk_at dksX6_readPage_1 15 rfl rfl)
theorem dX6_readPage_42 : decode cX6_readPage 42 = .ok (.ifCond .eq 39, 3) := dk_153 0 39 (dk_at dksX6_readPage_1 18 rfl rfl)
theorem dX6_readPage_45 : decode cX6_readPage 45 = .ok (.aload_n 0, 1) := dk_42 (dk_at dksX6_readPage_1 21 rfl rfl)
theorem dX6_readPage_46 : decode cX6_readPage 46 = .ok (.getfield 46, 3) := dk_180 0 46 (dk_at dksX6_readPage_2 0 rfl rfl)
theorem dX6_readPage_49 : decode cX6_readPage 49 = .ok (.aload_n 0, 1) := dk_42 (dk_at dksX6_readPage_2 3 rfl rfl)
theorem dX6_readPage_50 : decode cX6_readPage 50 = .ok (.getfield 206, 3) := dk_180 0 206 (dk_at dksX6_readPage_2 4 rfl rfl)
theorem dX6_readPage_53 : decode cX6_readPage 53 = .ok (.bipush 8, 2) := dk_16 8 (dk_at dksX6_readPage_2 7 rfl rfl)
theorem dX6_readPage_55 : decode cX6_readPage 55 = .ok (.iadd, 1) := dk_96 (dk_at dksX6_readPage_2 9 rfl rfl)
theorem dX6_readPage_56 : decode cX6_readPage 56 = .ok (.iaload, 1) := dk_46 (dk_at dksX6_readPage_2 10 rfl rfl)
theorem dX6_readPage_57 : decode cX6_readPage 57 = .ok (.iconst 2, 1) := dk_5 (dk_at dksX6_readPage_2 11 rfl rfl)
theorem dX6_readPage_58 : decode cX6_readPage 58 = .ok (.if_icmp .ge 23, 3) := dk_162 0 23 (dk_at dksX6_readPage_2 12 rfl rfl)
theorem dX6_readPage_61 : decode cX6_readPage 61 = .ok (.aload_n 0, 1) := dk_42 (dk_at dksX6_readPage_2 15 rfl rfl)
theorem dX6_readPage_62 : decode cX6_readPage 62 = .ok (.getfield 46, 3) := dk_180 0 46 (dk_at dksX6_readPage_2 16 rfl rfl)
theorem dX6_readPage_65 : decode cX6_readPage 65 = .ok (.aload_n 0, 1) := dk_42 (dk_at dksX6_readPage_2 19 rfl rfl)
theorem dX6_readPage_66 : decode cX6_readPage 66 = .ok (.getfield 206, 3) := dk_180 0 206 (dk_at dksX6_readPage_2 20 rfl rfl)
theorem dX6_readPage_69 : decode cX6_readPage 69 = .ok (.bipush 9, 2) := dk_16 9 (dk_at dksX6_readPage_3 0 rfl rfl)
theorem dX6_readPage_71 : decode cX6_readPage 71 = .ok (.iadd, 1) := dk_96 (dk_at dksX6_readPage_3 2 rfl rfl)
theorem dX6_readPage_72 : decode cX6_readPage 72 = .ok (.iaload, 1) := dk_46 (dk_at dksX6_readPage_3 3 rfl rfl)
theorem dX6_readPage_73 : decode cX6_readPage 73 = .ok (.iconst 5, 1) := dk_8 (dk_at dksX6_readPage_3 4 rfl rfl)
theorem dX6_readPage_74 : decode cX6_readPage 74 = .ok (.if_icmp .ge 7, 3) := dk_162 0 7 (dk_at dksX6_readPage_3 5 rfl rfl)
theorem dX6_readPage_77 : decode cX6_readPage 77 = .ok (.iconst 1, 1) := dk_4 (dk_at dksX6_readPage_3 8 rfl rfl)
theorem dX6_readPage_78 : decode cX6_readPage 78 = .ok (.goto 4, 3) := dk_167 0 4 (dk_at dksX6_readPage_3 9 rfl rfl)
theorem dX6_readPage_81 : decode cX6_readPage 81 = .ok (.iconst 0, 1) := dk_3 (dk_at dksX6_readPage_3 12 rfl rfl)
theorem dX6_readPage_82 : decode cX6_readPage 82 = .ok (.istore 4, 2) := dk_54 4 (dk_at dksX6_readPage_3 13 rfl rfl)
theorem dX6_readPage_84 : decode cX6_readPage 84 = .ok (.aload_n 0, 1) := dk_42 (dk_at dksX6_readPage_3 15 rfl rfl)
theorem dX6_readPage_85 : decode cX6_readPage 85 = .ok (.iload 4, 2) := dk_21 4 (dk_at dksX6_readPage_3 16 rfl rfl)
theorem dX6_readPage_87 : decode cX6_readPage 87 = .ok (.bipush 8, 2) := dk_16 8 (dk_at dksX6_readPage_3 18 rfl rfl)
theorem dX6_readPage_89 : decode cX6_readPage 89 = .ok (.iload_n 1, 1) := dk_27 (dk_at dksX6_readPage_3 20 rfl rfl)
theorem dX6_readPage_90 : decode cX6_readPage 90 = .ok (.invokevirtual 237, 3) := dk_182 0 237 (dk_at dksX6_readPage_3 21 rfl rfl)
theorem dX6_readPage_93 : decode cX6_readPage 93 = .ok (.ifCond .ne 5, 3) := dk_154 0 5 (dk_at dksX6_readPage_4 0 rfl rfl)
theorem dX6_readPage_96 : decode cX6_readPage 96 = .ok (.iconst 0, 1) := dk_3 (dk_at dksX6_readPage_4 3 rfl rfl)
theorem dX6_readPage_97 : decode cX6_readPage 97 = .ok (.ireturn, 1) := dk_172 (dk_at dksX6_readPage_4 4 rfl rfl)
theorem dX6_readPage_98 : decode cX6_readPage 98 = .ok (.aload_n 0, 1) := dk_42 (dk_at dksX6_readPage_4 5 rfl rfl)
theorem dX6_readPage_99 : decode cX6_readPage 99 = .ok (.getfield 58, 3) := dk_180 0 58 (dk_at dksX6_readPage_4 6 rfl rfl)
theorem dX6_readPage_102 : decode cX6_readPage 102 = .ok (.iload_n 1, 1) := dk_27 (dk_at dksX6_readPage_4 9 rfl rfl)
theorem dX6_readPage_103 : decode cX6_readPage 103 = .ok (.iaload, 1) := dk_46 (dk_at dksX6_readPage_4 10 rfl rfl)
theorem dX6_readPage_104 : decode cX6_readPage 104 = .ok (.istore 5, 2) := dk_54 5 (dk_at dksX6_readPage_4 11 rfl rfl)
theorem dX6_readPage_106 : decode cX6_readPage 106 = .ok (.aload_n 0, 1) := dk_42 (dk_at dksX6_readPage_4 13 rfl rfl)
theorem dX6_readPage_107 : decode cX6_readPage 107 = .ok (.getfield 89, 3) := dk_180 0 89 (dk_at dksX6_readPage_4 14 rfl rfl)
theorem dX6_readPage_110 : decode cX6_readPage 110 = .ok (.iload 5, 2) := dk_21 5 (dk_at dksX6_readPage_4 17 rfl rfl)
theorem dX6_readPage_112 : decode cX6_readPage 112 = .ok (.iconst 1, 1) := dk_4 (dk_at dksX6_readPage_4 19 rfl rfl)
theorem dX6_readPage_113 : decode cX6_readPage 113 = .ok (.bastore, 1) := dk_84 (dk_at dksX6_readPage_4 20 rfl rfl)
theorem dX6_readPage_114 : decode cX6_readPage 114 = .ok (.aload_n 0, 1) := dk_42 (dk_at dksX6_readPage_4 21 rfl rfl)
theorem dX6_readPage_115 : decode cX6_readPage 115 = .ok (.iload 5, 2) := dk_21 5 (dk_at dksX6_readPage_4 22 rfl rfl)
theorem dX6_readPage_117 : decode cX6_readPage 117 = .ok (.putfield 234, 3) := dk_181 0 234 (dk_at dksX6_readPage_5 0 rfl rfl)
theorem dX6_readPage_120 : decode cX6_readPage 120 = .ok (.aload_n 0, 1) := dk_42 (dk_at dksX6_readPage_5 3 rfl rfl)
theorem dX6_readPage_121 : decode cX6_readPage 121 = .ok (.getfield 93, 3) := dk_180 0 93 (dk_at dksX6_readPage_5 4 rfl rfl)
theorem dX6_readPage_124 : decode cX6_readPage 124 = .ok (.iload 5, 2) := dk_21 5 (dk_at dksX6_readPage_5 7 rfl rfl)
theorem dX6_readPage_126 : decode cX6_readPage 126 = .ok (.iload_n 2, 1) := dk_28 (dk_at dksX6_readPage_5 9 rfl rfl)
theorem dX6_readPage_127 : decode cX6_readPage 127 = .ok (.iastore, 1) := dk_79 (dk_at dksX6_readPage_5 10 rfl rfl)
theorem dX6_readPage_128 : decode cX6_readPage 128 = .ok (.aload_n 0, 1) := dk_42 (dk_at dksX6_readPage_5 11 rfl rfl)
theorem dX6_readPage_129 : decode cX6_readPage 129 = .ok (.getfield 96, 3) := dk_180 0 96 (dk_at dksX6_readPage_5 12 rfl rfl)
theorem dX6_readPage_132 : decode cX6_readPage 132 = .ok (.iload 5, 2) := dk_21 5 (dk_at dksX6_readPage_5 15 rfl rfl)
theorem dX6_readPage_134 : decode cX6_readPage 134 = .ok (.iload_n 3, 1) := dk_29 (dk_at dksX6_readPage_5 17 rfl rfl)
theorem dX6_readPage_135 : decode cX6_readPage 135 = .ok (.iastore, 1) := dk_79 (dk_at dksX6_readPage_5 18 rfl rfl)
theorem dX6_readPage_136 : decode cX6_readPage 136 = .ok (.aload_n 0, 1) := dk_42 (dk_at dksX6_readPage_5 19 rfl rfl)
theorem dX6_readPage_137 : decode cX6_readPage 137 = .ok (.getfield 99, 3) := dk_180 0 99 (dk_at dksX6_readPage_5 20 rfl rfl)
theorem dX6_readPage_140 : decode cX6_readPage 140 = .ok (.iload 5, 2) := dk_21 5 (dk_at dksX6_readPage_6 0 rfl rfl)
theorem dX6_readPage_142 : decode cX6_readPage 142 = .ok (.aload_n 0, 1) := dk_42 (dk_at dksX6_readPage_6 2 rfl rfl)
theorem dX6_readPage_143 : decode cX6_readPage 143 = .ok (.getfield 46, 3) := dk_180 0 46 (dk_at dksX6_readPage_6 3 rfl rfl)
theorem dX6_readPage_146 : decode cX6_readPage 146 = .ok (.aload_n 0, 1) := dk_42 (dk_at dksX6_readPage_6 6 rfl rfl)
theorem dX6_readPage_147 : decode cX6_readPage 147 = .ok (.getfield 206, 3) := dk_180 0 206 (dk_at dksX6_readPage_6 7 rfl rfl)
theorem dX6_readPage_150 : decode cX6_readPage 150 = .ok (.bipush 9, 2) := dk_16 9 (dk_at dksX6_readPage_6 10 rfl rfl)
theorem dX6_readPage_152 : decode cX6_readPage 152 = .ok (.iadd, 1) := dk_96 (dk_at dksX6_readPage_6 12 rfl rfl)
theorem dX6_readPage_153 : decode cX6_readPage 153 = .ok (.iaload, 1) := dk_46 (dk_at dksX6_readPage_6 13 rfl rfl)
theorem dX6_readPage_154 : decode cX6_readPage 154 = .ok (.iastore, 1) := dk_79 (dk_at dksX6_readPage_6 14 rfl rfl)
theorem dX6_readPage_155 : decode cX6_readPage 155 = .ok (.aload_n 0, 1) := dk_42 (dk_at dksX6_readPage_6 15 rfl rfl)
theorem dX6_readPage_156 : decode cX6_readPage 156 = .ok (.getfield 102, 3) := dk_180 0 102 (dk_at dksX6_readPage_6 16 rfl rfl)
theorem dX6_readPage_159 : decode cX6_readPage 159 = .ok (.iload 5, 2) := dk_21 5 (dk_at dksX6_readPage_6 19 rfl rfl)
theorem dX6_readPage_161 : decode cX6_readPage 161 = .ok (.iconst 0, 1) := dk_3 (dk_at dksX6_readPage_6 21 rfl rfl)
theorem dX6_readPage_162 : decode cX6_readPage 162 = .ok (.iastore, 1) := dk_79 (dk_at dksX6_readPage_6 22 rfl rfl)
theorem dX6_readPage_163 : decode cX6_readPage 163 = .ok (.iconst 0, 1) := dk_3 (dk_at dksX6_readPage_6 23 rfl rfl)
theorem dX6_readPage_164 : decode cX6_readPage 164 = .ok (.istore 6, 2) := dk_54 6 (dk_at dksX6_readPage_7 0 rfl rfl)
theorem dX6_readPage_166 : decode cX6_readPage 166 = .ok (.iload 6, 2) := dk_21 6 (dk_at dksX6_readPage_7 2 rfl rfl)
theorem dX6_readPage_168 : decode cX6_readPage 168 = .ok (.sipush 1024, 3) := dk_17 4 0 (dk_at dksX6_readPage_7 4 rfl rfl)
theorem dX6_readPage_171 : decode cX6_readPage 171 = .ok (.if_icmp .ge 44, 3) := dk_162 0 44 (dk_at dksX6_readPage_7 7 rfl rfl)
theorem dX6_readPage_174 : decode cX6_readPage 174 = .ok (.aload_n 0, 1) := dk_42 (dk_at dksX6_readPage_7 10 rfl rfl)
theorem dX6_readPage_175 : decode cX6_readPage 175 = .ok (.getfield 108, 3) := dk_180 0 108 (dk_at dksX6_readPage_7 11 rfl rfl)
theorem dX6_readPage_178 : decode cX6_readPage 178 = .ok (.sipush 1024, 3) := dk_17 4 0 (dk_at dksX6_readPage_7 14 rfl rfl)
theorem dX6_readPage_181 : decode cX6_readPage 181 = .ok (.iload 5, 2) := dk_21 5 (dk_at dksX6_readPage_7 17 rfl rfl)
theorem dX6_readPage_183 : decode cX6_readPage 183 = .ok (.imul, 1) := dk_104 (dk_at dksX6_readPage_7 19 rfl rfl)
theorem dX6_readPage_184 : decode cX6_readPage 184 = .ok (.iload 6, 2) := dk_21 6 (dk_at dksX6_readPage_7 20 rfl rfl)
theorem dX6_readPage_186 : decode cX6_readPage 186 = .ok (.iadd, 1) := dk_96 (dk_at dksX6_readPage_7 22 rfl rfl)
theorem dX6_readPage_187 : decode cX6_readPage 187 = .ok (.aload_n 0, 1) := dk_42 (dk_at dksX6_readPage_7 23 rfl rfl)
theorem dX6_readPage_188 : decode cX6_readPage 188 = .ok (.getfield 46, 3) := dk_180 0 46 (dk_at dksX6_readPage_8 0 rfl rfl)
theorem dX6_readPage_191 : decode cX6_readPage 191 = .ok (.aload_n 0, 1) := dk_42 (dk_at dksX6_readPage_8 3 rfl rfl)
theorem dX6_readPage_192 : decode cX6_readPage 192 = .ok (.getfield 206, 3) := dk_180 0 206 (dk_at dksX6_readPage_8 4 rfl rfl)
theorem dX6_readPage_195 : decode cX6_readPage 195 = .ok (.bipush 8, 2) := dk_16 8 (dk_at dksX6_readPage_8 7 rfl rfl)
theorem dX6_readPage_197 : decode cX6_readPage 197 = .ok (.iadd, 1) := dk_96 (dk_at dksX6_readPage_8 9 rfl rfl)
theorem dX6_readPage_198 : decode cX6_readPage 198 = .ok (.iaload, 1) := dk_46 (dk_at dksX6_readPage_8 10 rfl rfl)
theorem dX6_readPage_199 : decode cX6_readPage 199 = .ok (.iconst 1, 1) := dk_4 (dk_at dksX6_readPage_8 11 rfl rfl)
theorem dX6_readPage_200 : decode cX6_readPage 200 = .ok (.if_icmp .ne 7, 3) := dk_160 0 7 (dk_at dksX6_readPage_8 12 rfl rfl)
theorem dX6_readPage_203 : decode cX6_readPage 203 = .ok (.iconst 1, 1) := dk_4 (dk_at dksX6_readPage_8 15 rfl rfl)
theorem dX6_readPage_204 : decode cX6_readPage 204 = .ok (.goto 4, 3) := dk_167 0 4 (dk_at dksX6_readPage_8 16 rfl rfl)
theorem dX6_readPage_207 : decode cX6_readPage 207 = .ok (.iconst 0, 1) := dk_3 (dk_at dksX6_readPage_8 19 rfl rfl)
theorem dX6_readPage_208 : decode cX6_readPage 208 = .ok (.bastore, 1) := dk_84 (dk_at dksX6_readPage_8 20 rfl rfl)
theorem dX6_readPage_209 : decode cX6_readPage 209 = .ok (.iinc 6 1, 3) := dk_132 6 1 (dk_at dksX6_readPage_8 21 rfl rfl)
theorem dX6_readPage_212 : decode cX6_readPage 212 = .ok (.goto (-46), 3) := dk_167 255 210 (dk_at dksX6_readPage_9 0 rfl rfl)
theorem dX6_readPage_215 : decode cX6_readPage 215 = .ok (.iconst 1, 1) := dk_4 (dk_at dksX6_readPage_9 3 rfl rfl)
theorem dX6_readPage_216 : decode cX6_readPage 216 = .ok (.ireturn, 1) := dk_172 (dk_at dksX6_readPage_9 4 rfl rfl)
abbrev cX6_readStripe : ByteArray := prog_8_method_45_code
def yX6_readStripe : MethodName := ⟨RX6, "readStripe", "(I)Z"⟩
def dkwX6_readStripe_6 : List UInt8 := [4, 96, 79, 4, 172]
abbrev dktX6_readStripe_6 : List UInt8 := dkwX6_readStripe_6 ++ []
def dkwX6_readStripe_5 : List UInt8 := [42, 180, 0, 105, 16, 32, 28, 104, 42, 180, 0, 102, 28, 46, 96, 29, 79, 42, 180, 0, 102, 28, 92, 46]
abbrev dktX6_readStripe_5 : List UInt8 := dkwX6_readStripe_5 ++ dktX6_readStripe_6
def dkwX6_readStripe_4 : List UInt8 := [153, 0, 12, 21, 5, 153, 0, 7, 4, 167, 0, 4, 3, 16, 8, 27, 182, 0, 237, 154, 0, 5, 3, 172]
abbrev dktX6_readStripe_4 : List UInt8 := dkwX6_readStripe_4 ++ dktX6_readStripe_5
def dkwX6_readStripe_3 : List UInt8 := [164, 0, 7, 4, 167, 0, 4, 3, 54, 5, 42, 29, 3, 16, 31, 184, 0, 121, 153, 0, 17, 21, 4]
abbrev dktX6_readStripe_3 : List UInt8 := dkwX6_readStripe_3 ++ dktX6_readStripe_4
def dkwX6_readStripe_2 : List UInt8 := [28, 46, 153, 0, 25, 29, 42, 180, 0, 105, 16, 32, 28, 104, 42, 180, 0, 102, 28, 46, 96, 4, 100, 46]
abbrev dktX6_readStripe_2 : List UInt8 := dkwX6_readStripe_2 ++ dktX6_readStripe_3
def dkwX6_readStripe_1 : List UInt8 := [155, 0, 13, 29, 42, 180, 0, 96, 28, 46, 162, 0, 7, 4, 167, 0, 4, 3, 54, 4, 42, 180, 0, 102]
abbrev dktX6_readStripe_1 : List UInt8 := dkwX6_readStripe_1 ++ dktX6_readStripe_2
def dkwX6_readStripe_0 : List UInt8 := [42, 180, 0, 58, 27, 46, 61, 42, 42, 180, 0, 206, 182, 0, 220, 62, 42, 180, 0, 96, 28, 46]
abbrev dktX6_readStripe_0 : List UInt8 := dkwX6_readStripe_0 ++ dktX6_readStripe_1
theorem dksX6_readStripe_0 : cX6_readStripe.data.toList.drop 0 = dktX6_readStripe_0 := by decide +kernel
theorem dksX6_readStripe_1 : cX6_readStripe.data.toList.drop 22 = dktX6_readStripe_1 := dk_seg dksX6_readStripe_0 22 rfl rfl
theorem dksX6_readStripe_2 : cX6_readStripe.data.toList.drop 46 = dktX6_readStripe_2 := dk_seg dksX6_readStripe_1 24 rfl rfl
theorem dksX6_readStripe_3 : cX6_readStripe.data.toList.drop 70 = dktX6_readStripe_3 := dk_seg dksX6_readStripe_2 24 rfl rfl
theorem dksX6_readStripe_4 : cX6_readStripe.data.toList.drop 93 = dktX6_readStripe_4 := dk_seg dksX6_readStripe_3 23 rfl rfl
theorem dksX6_readStripe_5 : cX6_readStripe.data.toList.drop 117 = dktX6_readStripe_5 := dk_seg dksX6_readStripe_4 24 rfl rfl
theorem dksX6_readStripe_6 : cX6_readStripe.data.toList.drop 141 = dktX6_readStripe_6 := dk_seg dksX6_readStripe_5 24 rfl rfl
theorem dX6_readStripe_0 : decode cX6_readStripe 0 = .ok (.aload_n 0, 1) := dk_42 (dk_at dksX6_readStripe_0 0 rfl rfl)
theorem dX6_readStripe_1 : decode cX6_readStripe 1 = .ok (.getfield 58, 3) := dk_180 0 58 (dk_at dksX6_readStripe_0 1 rfl rfl)
theorem dX6_readStripe_4 : decode cX6_readStripe 4 = .ok (.iload_n 1, 1) := dk_27 (dk_at dksX6_readStripe_0 4 rfl rfl)
theorem dX6_readStripe_5 : decode cX6_readStripe 5 = .ok (.iaload, 1) := dk_46 (dk_at dksX6_readStripe_0 5 rfl rfl)
theorem dX6_readStripe_6 : decode cX6_readStripe 6 = .ok (.istore_n 2, 1) := dk_61 (dk_at dksX6_readStripe_0 6 rfl rfl)
theorem dX6_readStripe_7 : decode cX6_readStripe 7 = .ok (.aload_n 0, 1) := dk_42 (dk_at dksX6_readStripe_0 7 rfl rfl)
theorem dX6_readStripe_8 : decode cX6_readStripe 8 = .ok (.aload_n 0, 1) := dk_42 (dk_at dksX6_readStripe_0 8 rfl rfl)
theorem dX6_readStripe_9 : decode cX6_readStripe 9 = .ok (.getfield 206, 3) := dk_180 0 206 (dk_at dksX6_readStripe_0 9 rfl rfl)
theorem dX6_readStripe_12 : decode cX6_readStripe 12 = .ok (.invokevirtual 220, 3) := dk_182 0 220 (dk_at dksX6_readStripe_0 12 rfl rfl)
theorem dX6_readStripe_15 : decode cX6_readStripe 15 = .ok (.istore_n 3, 1) := dk_62 (dk_at dksX6_readStripe_0 15 rfl rfl)
theorem dX6_readStripe_16 : decode cX6_readStripe 16 = .ok (.aload_n 0, 1) := dk_42 (dk_at dksX6_readStripe_0 16 rfl rfl)
theorem dX6_readStripe_17 : decode cX6_readStripe 17 = .ok (.getfield 96, 3) := dk_180 0 96 (dk_at dksX6_readStripe_0 17 rfl rfl)
theorem dX6_readStripe_20 : decode cX6_readStripe 20 = .ok (.iload_n 2, 1) := dk_28 (dk_at dksX6_readStripe_0 20 rfl rfl)
theorem dX6_readStripe_21 : decode cX6_readStripe 21 = .ok (.iaload, 1) := dk_46 (dk_at dksX6_readStripe_0 21 rfl rfl)
theorem dX6_readStripe_22 : decode cX6_readStripe 22 = .ok (.ifCond .lt 13, 3) := dk_155 0 13 (dk_at dksX6_readStripe_1 0 rfl rfl)
theorem dX6_readStripe_25 : decode cX6_readStripe 25 = .ok (.iload_n 3, 1) := dk_29 (dk_at dksX6_readStripe_1 3 rfl rfl)
theorem dX6_readStripe_26 : decode cX6_readStripe 26 = .ok (.aload_n 0, 1) := dk_42 (dk_at dksX6_readStripe_1 4 rfl rfl)
theorem dX6_readStripe_27 : decode cX6_readStripe 27 = .ok (.getfield 96, 3) := dk_180 0 96 (dk_at dksX6_readStripe_1 5 rfl rfl)
theorem dX6_readStripe_30 : decode cX6_readStripe 30 = .ok (.iload_n 2, 1) := dk_28 (dk_at dksX6_readStripe_1 8 rfl rfl)
theorem dX6_readStripe_31 : decode cX6_readStripe 31 = .ok (.iaload, 1) := dk_46 (dk_at dksX6_readStripe_1 9 rfl rfl)
theorem dX6_readStripe_32 : decode cX6_readStripe 32 = .ok (.if_icmp .ge 7, 3) := dk_162 0 7 (dk_at dksX6_readStripe_1 10 rfl rfl)
theorem dX6_readStripe_35 : decode cX6_readStripe 35 = .ok (.iconst 1, 1) := dk_4 (dk_at dksX6_readStripe_1 13 rfl rfl)
theorem dX6_readStripe_36 : decode cX6_readStripe 36 = .ok (.goto 4, 3) := dk_167 0 4 (dk_at dksX6_readStripe_1 14 rfl rfl)
theorem dX6_readStripe_39 : decode cX6_readStripe 39 = .ok (.iconst 0, 1) := dk_3 (dk_at dksX6_readStripe_1 17 rfl rfl)
theorem dX6_readStripe_40 : decode cX6_readStripe 40 = .ok (.istore 4, 2) := dk_54 4 (dk_at dksX6_readStripe_1 18 rfl rfl)
theorem dX6_readStripe_42 : decode cX6_readStripe 42 = .ok (.aload_n 0, 1) := dk_42 (dk_at dksX6_readStripe_1 20 rfl rfl)
theorem dX6_readStripe_43 : decode cX6_readStripe 43 = .ok (.getfield 102, 3) := dk_180 0 102 (dk_at dksX6_readStripe_1 21 rfl rfl)
theorem dX6_readStripe_46 : decode cX6_readStripe 46 = .ok (.iload_n 2, 1) := dk_28 (dk_at dksX6_readStripe_2 0 rfl rfl)
theorem dX6_readStripe_47 : decode cX6_readStripe 47 = .ok (.iaload, 1) := dk_46 (dk_at dksX6_readStripe_2 1 rfl rfl)
theorem dX6_readStripe_48 : decode cX6_readStripe 48 = .ok (.ifCond .eq 25, 3) := dk_153 0 25 (dk_at dksX6_readStripe_2 2 rfl rfl)
theorem dX6_readStripe_51 : decode cX6_readStripe 51 = .ok (.iload_n 3, 1) := dk_29 (dk_at dksX6_readStripe_2 5 rfl rfl)
theorem dX6_readStripe_52 : decode cX6_readStripe 52 = .ok (.aload_n 0, 1) := dk_42 (dk_at dksX6_readStripe_2 6 rfl rfl)
theorem dX6_readStripe_53 : decode cX6_readStripe 53 = .ok (.getfield 105, 3) := dk_180 0 105 (dk_at dksX6_readStripe_2 7 rfl rfl)
theorem dX6_readStripe_56 : decode cX6_readStripe 56 = .ok (.bipush 32, 2) := dk_16 32 (dk_at dksX6_readStripe_2 10 rfl rfl)
theorem dX6_readStripe_58 : decode cX6_readStripe 58 = .ok (.iload_n 2, 1) := dk_28 (dk_at dksX6_readStripe_2 12 rfl rfl)
theorem dX6_readStripe_59 : decode cX6_readStripe 59 = .ok (.imul, 1) := dk_104 (dk_at dksX6_readStripe_2 13 rfl rfl)
theorem dX6_readStripe_60 : decode cX6_readStripe 60 = .ok (.aload_n 0, 1) := dk_42 (dk_at dksX6_readStripe_2 14 rfl rfl)
theorem dX6_readStripe_61 : decode cX6_readStripe 61 = .ok (.getfield 102, 3) := dk_180 0 102 (dk_at dksX6_readStripe_2 15 rfl rfl)
theorem dX6_readStripe_64 : decode cX6_readStripe 64 = .ok (.iload_n 2, 1) := dk_28 (dk_at dksX6_readStripe_2 18 rfl rfl)
theorem dX6_readStripe_65 : decode cX6_readStripe 65 = .ok (.iaload, 1) := dk_46 (dk_at dksX6_readStripe_2 19 rfl rfl)
theorem dX6_readStripe_66 : decode cX6_readStripe 66 = .ok (.iadd, 1) := dk_96 (dk_at dksX6_readStripe_2 20 rfl rfl)
theorem dX6_readStripe_67 : decode cX6_readStripe 67 = .ok (.iconst 1, 1) := dk_4 (dk_at dksX6_readStripe_2 21 rfl rfl)
theorem dX6_readStripe_68 : decode cX6_readStripe 68 = .ok (.isub, 1) := dk_100 (dk_at dksX6_readStripe_2 22 rfl rfl)
theorem dX6_readStripe_69 : decode cX6_readStripe 69 = .ok (.iaload, 1) := dk_46 (dk_at dksX6_readStripe_2 23 rfl rfl)
theorem dX6_readStripe_70 : decode cX6_readStripe 70 = .ok (.if_icmp .le 7, 3) := dk_164 0 7 (dk_at dksX6_readStripe_3 0 rfl rfl)
theorem dX6_readStripe_73 : decode cX6_readStripe 73 = .ok (.iconst 1, 1) := dk_4 (dk_at dksX6_readStripe_3 3 rfl rfl)
theorem dX6_readStripe_74 : decode cX6_readStripe 74 = .ok (.goto 4, 3) := dk_167 0 4 (dk_at dksX6_readStripe_3 4 rfl rfl)
theorem dX6_readStripe_77 : decode cX6_readStripe 77 = .ok (.iconst 0, 1) := dk_3 (dk_at dksX6_readStripe_3 7 rfl rfl)
theorem dX6_readStripe_78 : decode cX6_readStripe 78 = .ok (.istore 5, 2) := dk_54 5 (dk_at dksX6_readStripe_3 8 rfl rfl)
theorem dX6_readStripe_80 : decode cX6_readStripe 80 = .ok (.aload_n 0, 1) := dk_42 (dk_at dksX6_readStripe_3 10 rfl rfl)
theorem dX6_readStripe_81 : decode cX6_readStripe 81 = .ok (.iload_n 3, 1) := dk_29 (dk_at dksX6_readStripe_3 11 rfl rfl)
theorem dX6_readStripe_82 : decode cX6_readStripe 82 = .ok (.iconst 0, 1) := dk_3 (dk_at dksX6_readStripe_3 12 rfl rfl)
theorem dX6_readStripe_83 : decode cX6_readStripe 83 = .ok (.bipush 31, 2) := dk_16 31 (dk_at dksX6_readStripe_3 13 rfl rfl)
theorem dX6_readStripe_85 : decode cX6_readStripe 85 = .ok (.invokestatic 121, 3) := dk_184 0 121 (dk_at dksX6_readStripe_3 15 rfl rfl)
theorem dX6_readStripe_88 : decode cX6_readStripe 88 = .ok (.ifCond .eq 17, 3) := dk_153 0 17 (dk_at dksX6_readStripe_3 18 rfl rfl)
theorem dX6_readStripe_91 : decode cX6_readStripe 91 = .ok (.iload 4, 2) := dk_21 4 (dk_at dksX6_readStripe_3 21 rfl rfl)
theorem dX6_readStripe_93 : decode cX6_readStripe 93 = .ok (.ifCond .eq 12, 3) := dk_153 0 12 (dk_at dksX6_readStripe_4 0 rfl rfl)
theorem dX6_readStripe_96 : decode cX6_readStripe 96 = .ok (.iload 5, 2) := dk_21 5 (dk_at dksX6_readStripe_4 3 rfl rfl)
theorem dX6_readStripe_98 : decode cX6_readStripe 98 = .ok (.ifCond .eq 7, 3) := dk_153 0 7 (dk_at dksX6_readStripe_4 5 rfl rfl)
theorem dX6_readStripe_101 : decode cX6_readStripe 101 = .ok (.iconst 1, 1) := dk_4 (dk_at dksX6_readStripe_4 8 rfl rfl)
theorem dX6_readStripe_102 : decode cX6_readStripe 102 = .ok (.goto 4, 3) := dk_167 0 4 (dk_at dksX6_readStripe_4 9 rfl rfl)
theorem dX6_readStripe_105 : decode cX6_readStripe 105 = .ok (.iconst 0, 1) := dk_3 (dk_at dksX6_readStripe_4 12 rfl rfl)
theorem dX6_readStripe_106 : decode cX6_readStripe 106 = .ok (.bipush 8, 2) := dk_16 8 (dk_at dksX6_readStripe_4 13 rfl rfl)
theorem dX6_readStripe_108 : decode cX6_readStripe 108 = .ok (.iload_n 1, 1) := dk_27 (dk_at dksX6_readStripe_4 15 rfl rfl)
theorem dX6_readStripe_109 : decode cX6_readStripe 109 = .ok (.invokevirtual 237, 3) := dk_182 0 237 (dk_at dksX6_readStripe_4 16 rfl rfl)
theorem dX6_readStripe_112 : decode cX6_readStripe 112 = .ok (.ifCond .ne 5, 3) := dk_154 0 5 (dk_at dksX6_readStripe_4 19 rfl rfl)
theorem dX6_readStripe_115 : decode cX6_readStripe 115 = .ok (.iconst 0, 1) := dk_3 (dk_at dksX6_readStripe_4 22 rfl rfl)
theorem dX6_readStripe_116 : decode cX6_readStripe 116 = .ok (.ireturn, 1) := dk_172 (dk_at dksX6_readStripe_4 23 rfl rfl)
theorem dX6_readStripe_117 : decode cX6_readStripe 117 = .ok (.aload_n 0, 1) := dk_42 (dk_at dksX6_readStripe_5 0 rfl rfl)
theorem dX6_readStripe_118 : decode cX6_readStripe 118 = .ok (.getfield 105, 3) := dk_180 0 105 (dk_at dksX6_readStripe_5 1 rfl rfl)
theorem dX6_readStripe_121 : decode cX6_readStripe 121 = .ok (.bipush 32, 2) := dk_16 32 (dk_at dksX6_readStripe_5 4 rfl rfl)
theorem dX6_readStripe_123 : decode cX6_readStripe 123 = .ok (.iload_n 2, 1) := dk_28 (dk_at dksX6_readStripe_5 6 rfl rfl)
theorem dX6_readStripe_124 : decode cX6_readStripe 124 = .ok (.imul, 1) := dk_104 (dk_at dksX6_readStripe_5 7 rfl rfl)
theorem dX6_readStripe_125 : decode cX6_readStripe 125 = .ok (.aload_n 0, 1) := dk_42 (dk_at dksX6_readStripe_5 8 rfl rfl)
theorem dX6_readStripe_126 : decode cX6_readStripe 126 = .ok (.getfield 102, 3) := dk_180 0 102 (dk_at dksX6_readStripe_5 9 rfl rfl)
theorem dX6_readStripe_129 : decode cX6_readStripe 129 = .ok (.iload_n 2, 1) := dk_28 (dk_at dksX6_readStripe_5 12 rfl rfl)
theorem dX6_readStripe_130 : decode cX6_readStripe 130 = .ok (.iaload, 1) := dk_46 (dk_at dksX6_readStripe_5 13 rfl rfl)
theorem dX6_readStripe_131 : decode cX6_readStripe 131 = .ok (.iadd, 1) := dk_96 (dk_at dksX6_readStripe_5 14 rfl rfl)
theorem dX6_readStripe_132 : decode cX6_readStripe 132 = .ok (.iload_n 3, 1) := dk_29 (dk_at dksX6_readStripe_5 15 rfl rfl)
theorem dX6_readStripe_133 : decode cX6_readStripe 133 = .ok (.iastore, 1) := dk_79 (dk_at dksX6_readStripe_5 16 rfl rfl)
theorem dX6_readStripe_134 : decode cX6_readStripe 134 = .ok (.aload_n 0, 1) := dk_42 (dk_at dksX6_readStripe_5 17 rfl rfl)
theorem dX6_readStripe_135 : decode cX6_readStripe 135 = .ok (.getfield 102, 3) := dk_180 0 102 (dk_at dksX6_readStripe_5 18 rfl rfl)
theorem dX6_readStripe_138 : decode cX6_readStripe 138 = .ok (.iload_n 2, 1) := dk_28 (dk_at dksX6_readStripe_5 21 rfl rfl)
theorem dX6_readStripe_139 : decode cX6_readStripe 139 = .ok (.dup2, 1) := dk_92 (dk_at dksX6_readStripe_5 22 rfl rfl)
theorem dX6_readStripe_140 : decode cX6_readStripe 140 = .ok (.iaload, 1) := dk_46 (dk_at dksX6_readStripe_5 23 rfl rfl)
theorem dX6_readStripe_141 : decode cX6_readStripe 141 = .ok (.iconst 1, 1) := dk_4 (dk_at dksX6_readStripe_6 0 rfl rfl)
theorem dX6_readStripe_142 : decode cX6_readStripe 142 = .ok (.iadd, 1) := dk_96 (dk_at dksX6_readStripe_6 1 rfl rfl)
theorem dX6_readStripe_143 : decode cX6_readStripe 143 = .ok (.iastore, 1) := dk_79 (dk_at dksX6_readStripe_6 2 rfl rfl)
theorem dX6_readStripe_144 : decode cX6_readStripe 144 = .ok (.iconst 1, 1) := dk_4 (dk_at dksX6_readStripe_6 3 rfl rfl)
theorem dX6_readStripe_145 : decode cX6_readStripe 145 = .ok (.ireturn, 1) := dk_172 (dk_at dksX6_readStripe_6 4 rfl rfl)
abbrev cX6_endPage : ByteArray := prog_8_method_52_code
def yX6_endPage : MethodName := ⟨RX6, "endPage", "(I)Z"⟩
def dkwX6_endPage_3 : List UInt8 := [4, 100, 46, 4, 96, 167, 0, 9, 42, 180, 0, 96, 28, 46, 79, 42, 3, 181, 0, 234, 4, 172]
abbrev dktX6_endPage_3 : List UInt8 := dkwX6_endPage_3 ++ []
def dkwX6_endPage_2 : List UInt8 := [42, 180, 0, 96, 28, 46, 156, 0, 26, 42, 180, 0, 105, 16, 32, 28, 104, 42, 180, 0, 102, 28, 46, 96]
abbrev dktX6_endPage_2 : List UInt8 := dkwX6_endPage_2 ++ dktX6_endPage_3
def dkwX6_endPage_1 : List UInt8 := [158, 0, 7, 4, 167, 0, 4, 3, 16, 8, 27, 182, 0, 237, 154, 0, 5, 3, 172, 42, 180, 0, 96, 28]
abbrev dktX6_endPage_1 : List UInt8 := dkwX6_endPage_1 ++ dktX6_endPage_2
def dkwX6_endPage_0 : List UInt8 := [42, 180, 0, 58, 27, 46, 61, 42, 42, 180, 0, 96, 28, 46, 156, 0, 12, 42, 180, 0, 102, 28, 46]
abbrev dktX6_endPage_0 : List UInt8 := dkwX6_endPage_0 ++ dktX6_endPage_1
theorem dksX6_endPage_0 : cX6_endPage.data.toList.drop 0 = dktX6_endPage_0 := by decide +kernel
theorem dksX6_endPage_1 : cX6_endPage.data.toList.drop 23 = dktX6_endPage_1 := dk_seg dksX6_endPage_0 23 rfl rfl
theorem dksX6_endPage_2 : cX6_endPage.data.toList.drop 47 = dktX6_endPage_2 := dk_seg dksX6_endPage_1 24 rfl rfl
theorem dksX6_endPage_3 : cX6_endPage.data.toList.drop 71 = dktX6_endPage_3 := dk_seg dksX6_endPage_2 24 rfl rfl
theorem dX6_endPage_0 : decode cX6_endPage 0 = .ok (.aload_n 0, 1) := dk_42 (dk_at dksX6_endPage_0 0 rfl rfl)
theorem dX6_endPage_1 : decode cX6_endPage 1 = .ok (.getfield 58, 3) := dk_180 0 58 (dk_at dksX6_endPage_0 1 rfl rfl)
theorem dX6_endPage_4 : decode cX6_endPage 4 = .ok (.iload_n 1, 1) := dk_27 (dk_at dksX6_endPage_0 4 rfl rfl)
theorem dX6_endPage_5 : decode cX6_endPage 5 = .ok (.iaload, 1) := dk_46 (dk_at dksX6_endPage_0 5 rfl rfl)
theorem dX6_endPage_6 : decode cX6_endPage 6 = .ok (.istore_n 2, 1) := dk_61 (dk_at dksX6_endPage_0 6 rfl rfl)
theorem dX6_endPage_7 : decode cX6_endPage 7 = .ok (.aload_n 0, 1) := dk_42 (dk_at dksX6_endPage_0 7 rfl rfl)
theorem dX6_endPage_8 : decode cX6_endPage 8 = .ok (.aload_n 0, 1) := dk_42 (dk_at dksX6_endPage_0 8 rfl rfl)
theorem dX6_endPage_9 : decode cX6_endPage 9 = .ok (.getfield 96, 3) := dk_180 0 96 (dk_at dksX6_endPage_0 9 rfl rfl)
theorem dX6_endPage_12 : decode cX6_endPage 12 = .ok (.iload_n 2, 1) := dk_28 (dk_at dksX6_endPage_0 12 rfl rfl)
theorem dX6_endPage_13 : decode cX6_endPage 13 = .ok (.iaload, 1) := dk_46 (dk_at dksX6_endPage_0 13 rfl rfl)
theorem dX6_endPage_14 : decode cX6_endPage 14 = .ok (.ifCond .ge 12, 3) := dk_156 0 12 (dk_at dksX6_endPage_0 14 rfl rfl)
theorem dX6_endPage_17 : decode cX6_endPage 17 = .ok (.aload_n 0, 1) := dk_42 (dk_at dksX6_endPage_0 17 rfl rfl)
theorem dX6_endPage_18 : decode cX6_endPage 18 = .ok (.getfield 102, 3) := dk_180 0 102 (dk_at dksX6_endPage_0 18 rfl rfl)
theorem dX6_endPage_21 : decode cX6_endPage 21 = .ok (.iload_n 2, 1) := dk_28 (dk_at dksX6_endPage_0 21 rfl rfl)
theorem dX6_endPage_22 : decode cX6_endPage 22 = .ok (.iaload, 1) := dk_46 (dk_at dksX6_endPage_0 22 rfl rfl)
theorem dX6_endPage_23 : decode cX6_endPage 23 = .ok (.ifCond .le 7, 3) := dk_158 0 7 (dk_at dksX6_endPage_1 0 rfl rfl)
theorem dX6_endPage_26 : decode cX6_endPage 26 = .ok (.iconst 1, 1) := dk_4 (dk_at dksX6_endPage_1 3 rfl rfl)
theorem dX6_endPage_27 : decode cX6_endPage 27 = .ok (.goto 4, 3) := dk_167 0 4 (dk_at dksX6_endPage_1 4 rfl rfl)
theorem dX6_endPage_30 : decode cX6_endPage 30 = .ok (.iconst 0, 1) := dk_3 (dk_at dksX6_endPage_1 7 rfl rfl)
theorem dX6_endPage_31 : decode cX6_endPage 31 = .ok (.bipush 8, 2) := dk_16 8 (dk_at dksX6_endPage_1 8 rfl rfl)
theorem dX6_endPage_33 : decode cX6_endPage 33 = .ok (.iload_n 1, 1) := dk_27 (dk_at dksX6_endPage_1 10 rfl rfl)
theorem dX6_endPage_34 : decode cX6_endPage 34 = .ok (.invokevirtual 237, 3) := dk_182 0 237 (dk_at dksX6_endPage_1 11 rfl rfl)
theorem dX6_endPage_37 : decode cX6_endPage 37 = .ok (.ifCond .ne 5, 3) := dk_154 0 5 (dk_at dksX6_endPage_1 14 rfl rfl)
theorem dX6_endPage_40 : decode cX6_endPage 40 = .ok (.iconst 0, 1) := dk_3 (dk_at dksX6_endPage_1 17 rfl rfl)
theorem dX6_endPage_41 : decode cX6_endPage 41 = .ok (.ireturn, 1) := dk_172 (dk_at dksX6_endPage_1 18 rfl rfl)
theorem dX6_endPage_42 : decode cX6_endPage 42 = .ok (.aload_n 0, 1) := dk_42 (dk_at dksX6_endPage_1 19 rfl rfl)
theorem dX6_endPage_43 : decode cX6_endPage 43 = .ok (.getfield 96, 3) := dk_180 0 96 (dk_at dksX6_endPage_1 20 rfl rfl)
theorem dX6_endPage_46 : decode cX6_endPage 46 = .ok (.iload_n 2, 1) := dk_28 (dk_at dksX6_endPage_1 23 rfl rfl)
theorem dX6_endPage_47 : decode cX6_endPage 47 = .ok (.aload_n 0, 1) := dk_42 (dk_at dksX6_endPage_2 0 rfl rfl)
theorem dX6_endPage_48 : decode cX6_endPage 48 = .ok (.getfield 96, 3) := dk_180 0 96 (dk_at dksX6_endPage_2 1 rfl rfl)
theorem dX6_endPage_51 : decode cX6_endPage 51 = .ok (.iload_n 2, 1) := dk_28 (dk_at dksX6_endPage_2 4 rfl rfl)
theorem dX6_endPage_52 : decode cX6_endPage 52 = .ok (.iaload, 1) := dk_46 (dk_at dksX6_endPage_2 5 rfl rfl)
theorem dX6_endPage_53 : decode cX6_endPage 53 = .ok (.ifCond .ge 26, 3) := dk_156 0 26 (dk_at dksX6_endPage_2 6 rfl rfl)
theorem dX6_endPage_56 : decode cX6_endPage 56 = .ok (.aload_n 0, 1) := dk_42 (dk_at dksX6_endPage_2 9 rfl rfl)
theorem dX6_endPage_57 : decode cX6_endPage 57 = .ok (.getfield 105, 3) := dk_180 0 105 (dk_at dksX6_endPage_2 10 rfl rfl)
theorem dX6_endPage_60 : decode cX6_endPage 60 = .ok (.bipush 32, 2) := dk_16 32 (dk_at dksX6_endPage_2 13 rfl rfl)
theorem dX6_endPage_62 : decode cX6_endPage 62 = .ok (.iload_n 2, 1) := dk_28 (dk_at dksX6_endPage_2 15 rfl rfl)
theorem dX6_endPage_63 : decode cX6_endPage 63 = .ok (.imul, 1) := dk_104 (dk_at dksX6_endPage_2 16 rfl rfl)
theorem dX6_endPage_64 : decode cX6_endPage 64 = .ok (.aload_n 0, 1) := dk_42 (dk_at dksX6_endPage_2 17 rfl rfl)
theorem dX6_endPage_65 : decode cX6_endPage 65 = .ok (.getfield 102, 3) := dk_180 0 102 (dk_at dksX6_endPage_2 18 rfl rfl)
theorem dX6_endPage_68 : decode cX6_endPage 68 = .ok (.iload_n 2, 1) := dk_28 (dk_at dksX6_endPage_2 21 rfl rfl)
theorem dX6_endPage_69 : decode cX6_endPage 69 = .ok (.iaload, 1) := dk_46 (dk_at dksX6_endPage_2 22 rfl rfl)
theorem dX6_endPage_70 : decode cX6_endPage 70 = .ok (.iadd, 1) := dk_96 (dk_at dksX6_endPage_2 23 rfl rfl)
theorem dX6_endPage_71 : decode cX6_endPage 71 = .ok (.iconst 1, 1) := dk_4 (dk_at dksX6_endPage_3 0 rfl rfl)
theorem dX6_endPage_72 : decode cX6_endPage 72 = .ok (.isub, 1) := dk_100 (dk_at dksX6_endPage_3 1 rfl rfl)
theorem dX6_endPage_73 : decode cX6_endPage 73 = .ok (.iaload, 1) := dk_46 (dk_at dksX6_endPage_3 2 rfl rfl)
theorem dX6_endPage_74 : decode cX6_endPage 74 = .ok (.iconst 1, 1) := dk_4 (dk_at dksX6_endPage_3 3 rfl rfl)
theorem dX6_endPage_75 : decode cX6_endPage 75 = .ok (.iadd, 1) := dk_96 (dk_at dksX6_endPage_3 4 rfl rfl)
theorem dX6_endPage_76 : decode cX6_endPage 76 = .ok (.goto 9, 3) := dk_167 0 9 (dk_at dksX6_endPage_3 5 rfl rfl)
theorem dX6_endPage_79 : decode cX6_endPage 79 = .ok (.aload_n 0, 1) := dk_42 (dk_at dksX6_endPage_3 8 rfl rfl)
theorem dX6_endPage_80 : decode cX6_endPage 80 = .ok (.getfield 96, 3) := dk_180 0 96 (dk_at dksX6_endPage_3 9 rfl rfl)
theorem dX6_endPage_83 : decode cX6_endPage 83 = .ok (.iload_n 2, 1) := dk_28 (dk_at dksX6_endPage_3 12 rfl rfl)
theorem dX6_endPage_84 : decode cX6_endPage 84 = .ok (.iaload, 1) := dk_46 (dk_at dksX6_endPage_3 13 rfl rfl)
theorem dX6_endPage_85 : decode cX6_endPage 85 = .ok (.iastore, 1) := dk_79 (dk_at dksX6_endPage_3 14 rfl rfl)
theorem dX6_endPage_86 : decode cX6_endPage 86 = .ok (.aload_n 0, 1) := dk_42 (dk_at dksX6_endPage_3 15 rfl rfl)
theorem dX6_endPage_87 : decode cX6_endPage 87 = .ok (.iconst 0, 1) := dk_3 (dk_at dksX6_endPage_3 16 rfl rfl)
theorem dX6_endPage_88 : decode cX6_endPage 88 = .ok (.putfield 234, 3) := dk_181 0 234 (dk_at dksX6_endPage_3 17 rfl rfl)
theorem dX6_endPage_91 : decode cX6_endPage 91 = .ok (.iconst 1, 1) := dk_4 (dk_at dksX6_endPage_3 20 rfl rfl)
theorem dX6_endPage_92 : decode cX6_endPage 92 = .ok (.ireturn, 1) := dk_172 (dk_at dksX6_endPage_3 21 rfl rfl)
abbrev cX6_readRegion : ByteArray := prog_8_method_51_code
def yX6_readRegion : MethodName := ⟨RX6, "readRegion", "(I)I"⟩
def dkwX6_readRegion_15 : List UInt8 := [182, 1, 11, 21, 8, 172]
abbrev dktX6_readRegion_15 : List UInt8 := dkwX6_readRegion_15 ++ []
def dkwX6_readRegion_14 : List UInt8 := [132, 10, 1, 167, 255, 199, 42, 180, 0, 55, 27, 46, 7, 159, 0, 14, 42, 27, 21, 4, 21, 5, 21, 6]
abbrev dktX6_readRegion_14 : List UInt8 := dkwX6_readRegion_14 ++ dktX6_readRegion_15
def dkwX6_readRegion_13 : List UInt8 := [16, 16, 27, 104, 21, 10, 96, 46, 42, 180, 0, 86, 16, 16, 21, 9, 104, 21, 10, 96, 46, 130, 79]
abbrev dktX6_readRegion_13 : List UInt8 := dkwX6_readRegion_13 ++ dktX6_readRegion_14
def dkwX6_readRegion_12 : List UInt8 := [46, 162, 0, 52, 21, 9, 155, 0, 47, 42, 180, 0, 86, 16, 16, 27, 104, 21, 10, 96, 42, 180, 0, 86]
abbrev dktX6_readRegion_12 : List UInt8 := dkwX6_readRegion_12 ++ dktX6_readRegion_13
def dkwX6_readRegion_11 : List UInt8 := [167, 0, 4, 3, 8, 27, 182, 0, 237, 154, 0, 5, 2, 172, 3, 54, 10, 21, 10, 42, 180, 0, 83, 27]
abbrev dktX6_readRegion_11 : List UInt8 := dkwX6_readRegion_11 ++ dktX6_readRegion_12
def dkwX6_readRegion_10 : List UInt8 := [46, 28, 160, 0, 23, 42, 180, 0, 83, 21, 9, 46, 42, 180, 0, 83, 27, 46, 160, 0, 7, 4]
abbrev dktX6_readRegion_10 : List UInt8 := dkwX6_readRegion_10 ++ dktX6_readRegion_11
def dkwX6_readRegion_9 : List UInt8 := [42, 27, 182, 1, 8, 54, 9, 21, 8, 155, 0, 49, 21, 9, 155, 0, 46, 42, 42, 180, 0, 80, 21, 9]
abbrev dktX6_readRegion_9 : List UInt8 := dkwX6_readRegion_9 ++ dktX6_readRegion_10
def dkwX6_readRegion_8 : List UInt8 := [182, 1, 5, 153, 0, 18, 42, 180, 0, 206, 42, 180, 0, 70, 27, 47, 136, 96, 167, 0, 4, 2, 54, 8]
abbrev dktX6_readRegion_8 : List UInt8 := dkwX6_readRegion_8 ++ dktX6_readRegion_9
def dkwX6_readRegion_7 : List UInt8 := [154, 0, 20, 42, 27, 42, 180, 0, 206, 16, 17, 96, 182, 1, 2, 54, 8, 167, 0, 29, 42, 27]
abbrev dktX6_readRegion_7 : List UInt8 := dkwX6_readRegion_7 ++ dktX6_readRegion_8
def dkwX6_readRegion_6 : List UInt8 := [27, 29, 79, 42, 180, 0, 206, 16, 17, 96, 54, 8, 42, 180, 0, 70, 27, 47, 20, 0, 225, 148]
abbrev dktX6_readRegion_6 : List UInt8 := dkwX6_readRegion_6 ++ dktX6_readRegion_7
def dkwX6_readRegion_5 : List UInt8 := [21, 7, 16, 8, 27, 182, 0, 237, 154, 0, 5, 2, 172, 42, 180, 0, 80, 27, 28, 79, 42, 180, 0, 83]
abbrev dktX6_readRegion_5 : List UInt8 := dkwX6_readRegion_5 ++ dktX6_readRegion_6
def dkwX6_readRegion_4 : List UInt8 := [16, 31, 184, 0, 121, 153, 0, 14, 21, 6, 16, 6, 162, 0, 7, 4, 167, 0, 4, 3, 54, 7, 42]
abbrev dktX6_readRegion_4 : List UInt8 := dkwX6_readRegion_4 ++ dktX6_readRegion_5
def dkwX6_readRegion_3 : List UInt8 := [29, 4, 16, 16, 184, 0, 121, 153, 0, 36, 21, 4, 3, 16, 31, 184, 0, 121, 153, 0, 25, 21, 5, 3]
abbrev dktX6_readRegion_3 : List UInt8 := dkwX6_readRegion_3 ++ dktX6_readRegion_4
def dkwX6_readRegion_2 : List UInt8 := [42, 180, 0, 46, 42, 180, 0, 206, 16, 16, 96, 46, 54, 6, 28, 4, 16, 16, 184, 0, 121, 153, 0, 46]
abbrev dktX6_readRegion_2 : List UInt8 := dkwX6_readRegion_2 ++ dktX6_readRegion_3
def dkwX6_readRegion_1 : List UInt8 := [180, 0, 206, 16, 8, 96, 182, 0, 220, 54, 4, 42, 42, 180, 0, 206, 16, 12, 96, 182, 0, 220, 54, 5]
abbrev dktX6_readRegion_1 : List UInt8 := dkwX6_readRegion_1 ++ dktX6_readRegion_2
def dkwX6_readRegion_0 : List UInt8 := [42, 42, 180, 0, 206, 182, 0, 220, 61, 42, 42, 180, 0, 206, 7, 96, 182, 0, 220, 62, 42, 42]
abbrev dktX6_readRegion_0 : List UInt8 := dkwX6_readRegion_0 ++ dktX6_readRegion_1
theorem dksX6_readRegion_0 : cX6_readRegion.data.toList.drop 0 = dktX6_readRegion_0 := by decide +kernel
theorem dksX6_readRegion_1 : cX6_readRegion.data.toList.drop 22 = dktX6_readRegion_1 := dk_seg dksX6_readRegion_0 22 rfl rfl
theorem dksX6_readRegion_2 : cX6_readRegion.data.toList.drop 46 = dktX6_readRegion_2 := dk_seg dksX6_readRegion_1 24 rfl rfl
theorem dksX6_readRegion_3 : cX6_readRegion.data.toList.drop 70 = dktX6_readRegion_3 := dk_seg dksX6_readRegion_2 24 rfl rfl
theorem dksX6_readRegion_4 : cX6_readRegion.data.toList.drop 94 = dktX6_readRegion_4 := dk_seg dksX6_readRegion_3 24 rfl rfl
theorem dksX6_readRegion_5 : cX6_readRegion.data.toList.drop 117 = dktX6_readRegion_5 := dk_seg dksX6_readRegion_4 23 rfl rfl
theorem dksX6_readRegion_6 : cX6_readRegion.data.toList.drop 141 = dktX6_readRegion_6 := dk_seg dksX6_readRegion_5 24 rfl rfl
theorem dksX6_readRegion_7 : cX6_readRegion.data.toList.drop 163 = dktX6_readRegion_7 := dk_seg dksX6_readRegion_6 22 rfl rfl
theorem dksX6_readRegion_8 : cX6_readRegion.data.toList.drop 185 = dktX6_readRegion_8 := dk_seg dksX6_readRegion_7 22 rfl rfl
theorem dksX6_readRegion_9 : cX6_readRegion.data.toList.drop 209 = dktX6_readRegion_9 := dk_seg dksX6_readRegion_8 24 rfl rfl
theorem dksX6_readRegion_10 : cX6_readRegion.data.toList.drop 233 = dktX6_readRegion_10 := dk_seg dksX6_readRegion_9 24 rfl rfl
theorem dksX6_readRegion_11 : cX6_readRegion.data.toList.drop 255 = dktX6_readRegion_11 := dk_seg dksX6_readRegion_10 22 rfl rfl
theorem dksX6_readRegion_12 : cX6_readRegion.data.toList.drop 279 = dktX6_readRegion_12 := dk_seg dksX6_readRegion_11 24 rfl rfl
theorem dksX6_readRegion_13 : cX6_readRegion.data.toList.drop 303 = dktX6_readRegion_13 := dk_seg dksX6_readRegion_12 24 rfl rfl
theorem dksX6_readRegion_14 : cX6_readRegion.data.toList.drop 326 = dktX6_readRegion_14 := dk_seg dksX6_readRegion_13 23 rfl rfl
theorem dksX6_readRegion_15 : cX6_readRegion.data.toList.drop 350 = dktX6_readRegion_15 := dk_seg dksX6_readRegion_14 24 rfl rfl
theorem dX6_readRegion_0 : decode cX6_readRegion 0 = .ok (.aload_n 0, 1) := dk_42 (dk_at dksX6_readRegion_0 0 rfl rfl)
theorem dX6_readRegion_1 : decode cX6_readRegion 1 = .ok (.aload_n 0, 1) := dk_42 (dk_at dksX6_readRegion_0 1 rfl rfl)
theorem dX6_readRegion_2 : decode cX6_readRegion 2 = .ok (.getfield 206, 3) := dk_180 0 206 (dk_at dksX6_readRegion_0 2 rfl rfl)
theorem dX6_readRegion_5 : decode cX6_readRegion 5 = .ok (.invokevirtual 220, 3) := dk_182 0 220 (dk_at dksX6_readRegion_0 5 rfl rfl)
theorem dX6_readRegion_8 : decode cX6_readRegion 8 = .ok (.istore_n 2, 1) := dk_61 (dk_at dksX6_readRegion_0 8 rfl rfl)
theorem dX6_readRegion_9 : decode cX6_readRegion 9 = .ok (.aload_n 0, 1) := dk_42 (dk_at dksX6_readRegion_0 9 rfl rfl)
theorem dX6_readRegion_10 : decode cX6_readRegion 10 = .ok (.aload_n 0, 1) := dk_42 (dk_at dksX6_readRegion_0 10 rfl rfl)
theorem dX6_readRegion_11 : decode cX6_readRegion 11 = .ok (.getfield 206, 3) := dk_180 0 206 (dk_at dksX6_readRegion_0 11 rfl rfl)
theorem dX6_readRegion_14 : decode cX6_readRegion 14 = .ok (.iconst 4, 1) := dk_7 (dk_at dksX6_readRegion_0 14 rfl rfl)
theorem dX6_readRegion_15 : decode cX6_readRegion 15 = .ok (.iadd, 1) := dk_96 (dk_at dksX6_readRegion_0 15 rfl rfl)
theorem dX6_readRegion_16 : decode cX6_readRegion 16 = .ok (.invokevirtual 220, 3) := dk_182 0 220 (dk_at dksX6_readRegion_0 16 rfl rfl)
theorem dX6_readRegion_19 : decode cX6_readRegion 19 = .ok (.istore_n 3, 1) := dk_62 (dk_at dksX6_readRegion_0 19 rfl rfl)
theorem dX6_readRegion_20 : decode cX6_readRegion 20 = .ok (.aload_n 0, 1) := dk_42 (dk_at dksX6_readRegion_0 20 rfl rfl)
theorem dX6_readRegion_21 : decode cX6_readRegion 21 = .ok (.aload_n 0, 1) := dk_42 (dk_at dksX6_readRegion_0 21 rfl rfl)
theorem dX6_readRegion_22 : decode cX6_readRegion 22 = .ok (.getfield 206, 3) := dk_180 0 206 (dk_at dksX6_readRegion_1 0 rfl rfl)
theorem dX6_readRegion_25 : decode cX6_readRegion 25 = .ok (.bipush 8, 2) := dk_16 8 (dk_at dksX6_readRegion_1 3 rfl rfl)
theorem dX6_readRegion_27 : decode cX6_readRegion 27 = .ok (.iadd, 1) := dk_96 (dk_at dksX6_readRegion_1 5 rfl rfl)
theorem dX6_readRegion_28 : decode cX6_readRegion 28 = .ok (.invokevirtual 220, 3) := dk_182 0 220 (dk_at dksX6_readRegion_1 6 rfl rfl)
theorem dX6_readRegion_31 : decode cX6_readRegion 31 = .ok (.istore 4, 2) := dk_54 4 (dk_at dksX6_readRegion_1 9 rfl rfl)
theorem dX6_readRegion_33 : decode cX6_readRegion 33 = .ok (.aload_n 0, 1) := dk_42 (dk_at dksX6_readRegion_1 11 rfl rfl)
theorem dX6_readRegion_34 : decode cX6_readRegion 34 = .ok (.aload_n 0, 1) := dk_42 (dk_at dksX6_readRegion_1 12 rfl rfl)
theorem dX6_readRegion_35 : decode cX6_readRegion 35 = .ok (.getfield 206, 3) := dk_180 0 206 (dk_at dksX6_readRegion_1 13 rfl rfl)
theorem dX6_readRegion_38 : decode cX6_readRegion 38 = .ok (.bipush 12, 2) := dk_16 12 (dk_at dksX6_readRegion_1 16 rfl rfl)
theorem dX6_readRegion_40 : decode cX6_readRegion 40 = .ok (.iadd, 1) := dk_96 (dk_at dksX6_readRegion_1 18 rfl rfl)
theorem dX6_readRegion_41 : decode cX6_readRegion 41 = .ok (.invokevirtual 220, 3) := dk_182 0 220 (dk_at dksX6_readRegion_1 19 rfl rfl)
theorem dX6_readRegion_44 : decode cX6_readRegion 44 = .ok (.istore 5, 2) := dk_54 5 (dk_at dksX6_readRegion_1 22 rfl rfl)
theorem dX6_readRegion_46 : decode cX6_readRegion 46 = .ok (.aload_n 0, 1) := dk_42 (dk_at dksX6_readRegion_2 0 rfl rfl)
theorem dX6_readRegion_47 : decode cX6_readRegion 47 = .ok (.getfield 46, 3) := dk_180 0 46 (dk_at dksX6_readRegion_2 1 rfl rfl)
theorem dX6_readRegion_50 : decode cX6_readRegion 50 = .ok (.aload_n 0, 1) := dk_42 (dk_at dksX6_readRegion_2 4 rfl rfl)
theorem dX6_readRegion_51 : decode cX6_readRegion 51 = .ok (.getfield 206, 3) := dk_180 0 206 (dk_at dksX6_readRegion_2 5 rfl rfl)
theorem dX6_readRegion_54 : decode cX6_readRegion 54 = .ok (.bipush 16, 2) := dk_16 16 (dk_at dksX6_readRegion_2 8 rfl rfl)
theorem dX6_readRegion_56 : decode cX6_readRegion 56 = .ok (.iadd, 1) := dk_96 (dk_at dksX6_readRegion_2 10 rfl rfl)
theorem dX6_readRegion_57 : decode cX6_readRegion 57 = .ok (.iaload, 1) := dk_46 (dk_at dksX6_readRegion_2 11 rfl rfl)
theorem dX6_readRegion_58 : decode cX6_readRegion 58 = .ok (.istore 6, 2) := dk_54 6 (dk_at dksX6_readRegion_2 12 rfl rfl)
theorem dX6_readRegion_60 : decode cX6_readRegion 60 = .ok (.iload_n 2, 1) := dk_28 (dk_at dksX6_readRegion_2 14 rfl rfl)
theorem dX6_readRegion_61 : decode cX6_readRegion 61 = .ok (.iconst 1, 1) := dk_4 (dk_at dksX6_readRegion_2 15 rfl rfl)
theorem dX6_readRegion_62 : decode cX6_readRegion 62 = .ok (.bipush 16, 2) := dk_16 16 (dk_at dksX6_readRegion_2 16 rfl rfl)
theorem dX6_readRegion_64 : decode cX6_readRegion 64 = .ok (.invokestatic 121, 3) := dk_184 0 121 (dk_at dksX6_readRegion_2 18 rfl rfl)
theorem dX6_readRegion_67 : decode cX6_readRegion 67 = .ok (.ifCond .eq 46, 3) := dk_153 0 46 (dk_at dksX6_readRegion_2 21 rfl rfl)
theorem dX6_readRegion_70 : decode cX6_readRegion 70 = .ok (.iload_n 3, 1) := dk_29 (dk_at dksX6_readRegion_3 0 rfl rfl)
theorem dX6_readRegion_71 : decode cX6_readRegion 71 = .ok (.iconst 1, 1) := dk_4 (dk_at dksX6_readRegion_3 1 rfl rfl)
theorem dX6_readRegion_72 : decode cX6_readRegion 72 = .ok (.bipush 16, 2) := dk_16 16 (dk_at dksX6_readRegion_3 2 rfl rfl)
theorem dX6_readRegion_74 : decode cX6_readRegion 74 = .ok (.invokestatic 121, 3) := dk_184 0 121 (dk_at dksX6_readRegion_3 4 rfl rfl)
theorem dX6_readRegion_77 : decode cX6_readRegion 77 = .ok (.ifCond .eq 36, 3) := dk_153 0 36 (dk_at dksX6_readRegion_3 7 rfl rfl)
theorem dX6_readRegion_80 : decode cX6_readRegion 80 = .ok (.iload 4, 2) := dk_21 4 (dk_at dksX6_readRegion_3 10 rfl rfl)
theorem dX6_readRegion_82 : decode cX6_readRegion 82 = .ok (.iconst 0, 1) := dk_3 (dk_at dksX6_readRegion_3 12 rfl rfl)
theorem dX6_readRegion_83 : decode cX6_readRegion 83 = .ok (.bipush 31, 2) := dk_16 31 (dk_at dksX6_readRegion_3 13 rfl rfl)
theorem dX6_readRegion_85 : decode cX6_readRegion 85 = .ok (.invokestatic 121, 3) := dk_184 0 121 (dk_at dksX6_readRegion_3 15 rfl rfl)
theorem dX6_readRegion_88 : decode cX6_readRegion 88 = .ok (.ifCond .eq 25, 3) := dk_153 0 25 (dk_at dksX6_readRegion_3 18 rfl rfl)
theorem dX6_readRegion_91 : decode cX6_readRegion 91 = .ok (.iload 5, 2) := dk_21 5 (dk_at dksX6_readRegion_3 21 rfl rfl)
theorem dX6_readRegion_93 : decode cX6_readRegion 93 = .ok (.iconst 0, 1) := dk_3 (dk_at dksX6_readRegion_3 23 rfl rfl)
theorem dX6_readRegion_94 : decode cX6_readRegion 94 = .ok (.bipush 31, 2) := dk_16 31 (dk_at dksX6_readRegion_4 0 rfl rfl)
theorem dX6_readRegion_96 : decode cX6_readRegion 96 = .ok (.invokestatic 121, 3) := dk_184 0 121 (dk_at dksX6_readRegion_4 2 rfl rfl)
theorem dX6_readRegion_99 : decode cX6_readRegion 99 = .ok (.ifCond .eq 14, 3) := dk_153 0 14 (dk_at dksX6_readRegion_4 5 rfl rfl)
theorem dX6_readRegion_102 : decode cX6_readRegion 102 = .ok (.iload 6, 2) := dk_21 6 (dk_at dksX6_readRegion_4 8 rfl rfl)
theorem dX6_readRegion_104 : decode cX6_readRegion 104 = .ok (.bipush 6, 2) := dk_16 6 (dk_at dksX6_readRegion_4 10 rfl rfl)
theorem dX6_readRegion_106 : decode cX6_readRegion 106 = .ok (.if_icmp .ge 7, 3) := dk_162 0 7 (dk_at dksX6_readRegion_4 12 rfl rfl)
theorem dX6_readRegion_109 : decode cX6_readRegion 109 = .ok (.iconst 1, 1) := dk_4 (dk_at dksX6_readRegion_4 15 rfl rfl)
theorem dX6_readRegion_110 : decode cX6_readRegion 110 = .ok (.goto 4, 3) := dk_167 0 4 (dk_at dksX6_readRegion_4 16 rfl rfl)
theorem dX6_readRegion_113 : decode cX6_readRegion 113 = .ok (.iconst 0, 1) := dk_3 (dk_at dksX6_readRegion_4 19 rfl rfl)
theorem dX6_readRegion_114 : decode cX6_readRegion 114 = .ok (.istore 7, 2) := dk_54 7 (dk_at dksX6_readRegion_4 20 rfl rfl)
theorem dX6_readRegion_116 : decode cX6_readRegion 116 = .ok (.aload_n 0, 1) := dk_42 (dk_at dksX6_readRegion_4 22 rfl rfl)
theorem dX6_readRegion_117 : decode cX6_readRegion 117 = .ok (.iload 7, 2) := dk_21 7 (dk_at dksX6_readRegion_5 0 rfl rfl)
theorem dX6_readRegion_119 : decode cX6_readRegion 119 = .ok (.bipush 8, 2) := dk_16 8 (dk_at dksX6_readRegion_5 2 rfl rfl)
theorem dX6_readRegion_121 : decode cX6_readRegion 121 = .ok (.iload_n 1, 1) := dk_27 (dk_at dksX6_readRegion_5 4 rfl rfl)
theorem dX6_readRegion_122 : decode cX6_readRegion 122 = .ok (.invokevirtual 237, 3) := dk_182 0 237 (dk_at dksX6_readRegion_5 5 rfl rfl)
theorem dX6_readRegion_125 : decode cX6_readRegion 125 = .ok (.ifCond .ne 5, 3) := dk_154 0 5 (dk_at dksX6_readRegion_5 8 rfl rfl)
theorem dX6_readRegion_128 : decode cX6_readRegion 128 = .ok (.iconst (-1), 1) := dk_2 (dk_at dksX6_readRegion_5 11 rfl rfl)
theorem dX6_readRegion_129 : decode cX6_readRegion 129 = .ok (.ireturn, 1) := dk_172 (dk_at dksX6_readRegion_5 12 rfl rfl)
theorem dX6_readRegion_130 : decode cX6_readRegion 130 = .ok (.aload_n 0, 1) := dk_42 (dk_at dksX6_readRegion_5 13 rfl rfl)
theorem dX6_readRegion_131 : decode cX6_readRegion 131 = .ok (.getfield 80, 3) := dk_180 0 80 (dk_at dksX6_readRegion_5 14 rfl rfl)
theorem dX6_readRegion_134 : decode cX6_readRegion 134 = .ok (.iload_n 1, 1) := dk_27 (dk_at dksX6_readRegion_5 17 rfl rfl)
theorem dX6_readRegion_135 : decode cX6_readRegion 135 = .ok (.iload_n 2, 1) := dk_28 (dk_at dksX6_readRegion_5 18 rfl rfl)
theorem dX6_readRegion_136 : decode cX6_readRegion 136 = .ok (.iastore, 1) := dk_79 (dk_at dksX6_readRegion_5 19 rfl rfl)
theorem dX6_readRegion_137 : decode cX6_readRegion 137 = .ok (.aload_n 0, 1) := dk_42 (dk_at dksX6_readRegion_5 20 rfl rfl)
theorem dX6_readRegion_138 : decode cX6_readRegion 138 = .ok (.getfield 83, 3) := dk_180 0 83 (dk_at dksX6_readRegion_5 21 rfl rfl)
theorem dX6_readRegion_141 : decode cX6_readRegion 141 = .ok (.iload_n 1, 1) := dk_27 (dk_at dksX6_readRegion_6 0 rfl rfl)
theorem dX6_readRegion_142 : decode cX6_readRegion 142 = .ok (.iload_n 3, 1) := dk_29 (dk_at dksX6_readRegion_6 1 rfl rfl)
theorem dX6_readRegion_143 : decode cX6_readRegion 143 = .ok (.iastore, 1) := dk_79 (dk_at dksX6_readRegion_6 2 rfl rfl)
theorem dX6_readRegion_144 : decode cX6_readRegion 144 = .ok (.aload_n 0, 1) := dk_42 (dk_at dksX6_readRegion_6 3 rfl rfl)
theorem dX6_readRegion_145 : decode cX6_readRegion 145 = .ok (.getfield 206, 3) := dk_180 0 206 (dk_at dksX6_readRegion_6 4 rfl rfl)
theorem dX6_readRegion_148 : decode cX6_readRegion 148 = .ok (.bipush 17, 2) := dk_16 17 (dk_at dksX6_readRegion_6 7 rfl rfl)
theorem dX6_readRegion_150 : decode cX6_readRegion 150 = .ok (.iadd, 1) := dk_96 (dk_at dksX6_readRegion_6 9 rfl rfl)
theorem dX6_readRegion_151 : decode cX6_readRegion 151 = .ok (.istore 8, 2) := dk_54 8 (dk_at dksX6_readRegion_6 10 rfl rfl)
theorem dX6_readRegion_153 : decode cX6_readRegion 153 = .ok (.aload_n 0, 1) := dk_42 (dk_at dksX6_readRegion_6 12 rfl rfl)
theorem dX6_readRegion_154 : decode cX6_readRegion 154 = .ok (.getfield 70, 3) := dk_180 0 70 (dk_at dksX6_readRegion_6 13 rfl rfl)
theorem dX6_readRegion_157 : decode cX6_readRegion 157 = .ok (.iload_n 1, 1) := dk_27 (dk_at dksX6_readRegion_6 16 rfl rfl)
theorem dX6_readRegion_158 : decode cX6_readRegion 158 = .ok (.laload, 1) := dk_47 (dk_at dksX6_readRegion_6 17 rfl rfl)
theorem dX6_readRegion_159 : decode cX6_readRegion 159 = .ok (.ldc2_w 225, 3) := dk_20 0 225 (dk_at dksX6_readRegion_6 18 rfl rfl)
theorem dX6_readRegion_162 : decode cX6_readRegion 162 = .ok (.lcmp, 1) := dk_148 (dk_at dksX6_readRegion_6 21 rfl rfl)
theorem dX6_readRegion_163 : decode cX6_readRegion 163 = .ok (.ifCond .ne 20, 3) := dk_154 0 20 (dk_at dksX6_readRegion_7 0 rfl rfl)
theorem dX6_readRegion_166 : decode cX6_readRegion 166 = .ok (.aload_n 0, 1) := dk_42 (dk_at dksX6_readRegion_7 3 rfl rfl)
theorem dX6_readRegion_167 : decode cX6_readRegion 167 = .ok (.iload_n 1, 1) := dk_27 (dk_at dksX6_readRegion_7 4 rfl rfl)
theorem dX6_readRegion_168 : decode cX6_readRegion 168 = .ok (.aload_n 0, 1) := dk_42 (dk_at dksX6_readRegion_7 5 rfl rfl)
theorem dX6_readRegion_169 : decode cX6_readRegion 169 = .ok (.getfield 206, 3) := dk_180 0 206 (dk_at dksX6_readRegion_7 6 rfl rfl)
theorem dX6_readRegion_172 : decode cX6_readRegion 172 = .ok (.bipush 17, 2) := dk_16 17 (dk_at dksX6_readRegion_7 9 rfl rfl)
theorem dX6_readRegion_174 : decode cX6_readRegion 174 = .ok (.iadd, 1) := dk_96 (dk_at dksX6_readRegion_7 11 rfl rfl)
theorem dX6_readRegion_175 : decode cX6_readRegion 175 = .ok (.invokevirtual 258, 3) := dk_182 1 2 (dk_at dksX6_readRegion_7 12 rfl rfl)
theorem dX6_readRegion_178 : decode cX6_readRegion 178 = .ok (.istore 8, 2) := dk_54 8 (dk_at dksX6_readRegion_7 15 rfl rfl)
theorem dX6_readRegion_180 : decode cX6_readRegion 180 = .ok (.goto 29, 3) := dk_167 0 29 (dk_at dksX6_readRegion_7 17 rfl rfl)
theorem dX6_readRegion_183 : decode cX6_readRegion 183 = .ok (.aload_n 0, 1) := dk_42 (dk_at dksX6_readRegion_7 20 rfl rfl)
theorem dX6_readRegion_184 : decode cX6_readRegion 184 = .ok (.iload_n 1, 1) := dk_27 (dk_at dksX6_readRegion_7 21 rfl rfl)
theorem dX6_readRegion_185 : decode cX6_readRegion 185 = .ok (.invokevirtual 261, 3) := dk_182 1 5 (dk_at dksX6_readRegion_8 0 rfl rfl)
theorem dX6_readRegion_188 : decode cX6_readRegion 188 = .ok (.ifCond .eq 18, 3) := dk_153 0 18 (dk_at dksX6_readRegion_8 3 rfl rfl)
theorem dX6_readRegion_191 : decode cX6_readRegion 191 = .ok (.aload_n 0, 1) := dk_42 (dk_at dksX6_readRegion_8 6 rfl rfl)
theorem dX6_readRegion_192 : decode cX6_readRegion 192 = .ok (.getfield 206, 3) := dk_180 0 206 (dk_at dksX6_readRegion_8 7 rfl rfl)
theorem dX6_readRegion_195 : decode cX6_readRegion 195 = .ok (.aload_n 0, 1) := dk_42 (dk_at dksX6_readRegion_8 10 rfl rfl)
theorem dX6_readRegion_196 : decode cX6_readRegion 196 = .ok (.getfield 70, 3) := dk_180 0 70 (dk_at dksX6_readRegion_8 11 rfl rfl)
theorem dX6_readRegion_199 : decode cX6_readRegion 199 = .ok (.iload_n 1, 1) := dk_27 (dk_at dksX6_readRegion_8 14 rfl rfl)
theorem dX6_readRegion_200 : decode cX6_readRegion 200 = .ok (.laload, 1) := dk_47 (dk_at dksX6_readRegion_8 15 rfl rfl)
theorem dX6_readRegion_201 : decode cX6_readRegion 201 = .ok (.l2i, 1) := dk_136 (dk_at dksX6_readRegion_8 16 rfl rfl)
theorem dX6_readRegion_202 : decode cX6_readRegion 202 = .ok (.iadd, 1) := dk_96 (dk_at dksX6_readRegion_8 17 rfl rfl)
theorem dX6_readRegion_203 : decode cX6_readRegion 203 = .ok (.goto 4, 3) := dk_167 0 4 (dk_at dksX6_readRegion_8 18 rfl rfl)
theorem dX6_readRegion_206 : decode cX6_readRegion 206 = .ok (.iconst (-1), 1) := dk_2 (dk_at dksX6_readRegion_8 21 rfl rfl)
theorem dX6_readRegion_207 : decode cX6_readRegion 207 = .ok (.istore 8, 2) := dk_54 8 (dk_at dksX6_readRegion_8 22 rfl rfl)
theorem dX6_readRegion_209 : decode cX6_readRegion 209 = .ok (.aload_n 0, 1) := dk_42 (dk_at dksX6_readRegion_9 0 rfl rfl)
theorem dX6_readRegion_210 : decode cX6_readRegion 210 = .ok (.iload_n 1, 1) := dk_27 (dk_at dksX6_readRegion_9 1 rfl rfl)
theorem dX6_readRegion_211 : decode cX6_readRegion 211 = .ok (.invokevirtual 264, 3) := dk_182 1 8 (dk_at dksX6_readRegion_9 2 rfl rfl)
theorem dX6_readRegion_214 : decode cX6_readRegion 214 = .ok (.istore 9, 2) := dk_54 9 (dk_at dksX6_readRegion_9 5 rfl rfl)
theorem dX6_readRegion_216 : decode cX6_readRegion 216 = .ok (.iload 8, 2) := dk_21 8 (dk_at dksX6_readRegion_9 7 rfl rfl)
theorem dX6_readRegion_218 : decode cX6_readRegion 218 = .ok (.ifCond .lt 49, 3) := dk_155 0 49 (dk_at dksX6_readRegion_9 9 rfl rfl)
theorem dX6_readRegion_221 : decode cX6_readRegion 221 = .ok (.iload 9, 2) := dk_21 9 (dk_at dksX6_readRegion_9 12 rfl rfl)
theorem dX6_readRegion_223 : decode cX6_readRegion 223 = .ok (.ifCond .lt 46, 3) := dk_155 0 46 (dk_at dksX6_readRegion_9 14 rfl rfl)
theorem dX6_readRegion_226 : decode cX6_readRegion 226 = .ok (.aload_n 0, 1) := dk_42 (dk_at dksX6_readRegion_9 17 rfl rfl)
theorem dX6_readRegion_227 : decode cX6_readRegion 227 = .ok (.aload_n 0, 1) := dk_42 (dk_at dksX6_readRegion_9 18 rfl rfl)
theorem dX6_readRegion_228 : decode cX6_readRegion 228 = .ok (.getfield 80, 3) := dk_180 0 80 (dk_at dksX6_readRegion_9 19 rfl rfl)
theorem dX6_readRegion_231 : decode cX6_readRegion 231 = .ok (.iload 9, 2) := dk_21 9 (dk_at dksX6_readRegion_9 22 rfl rfl)
theorem dX6_readRegion_233 : decode cX6_readRegion 233 = .ok (.iaload, 1) := dk_46 (dk_at dksX6_readRegion_10 0 rfl rfl)
theorem dX6_readRegion_234 : decode cX6_readRegion 234 = .ok (.iload_n 2, 1) := dk_28 (dk_at dksX6_readRegion_10 1 rfl rfl)
theorem dX6_readRegion_235 : decode cX6_readRegion 235 = .ok (.if_icmp .ne 23, 3) := dk_160 0 23 (dk_at dksX6_readRegion_10 2 rfl rfl)
theorem dX6_readRegion_238 : decode cX6_readRegion 238 = .ok (.aload_n 0, 1) := dk_42 (dk_at dksX6_readRegion_10 5 rfl rfl)
theorem dX6_readRegion_239 : decode cX6_readRegion 239 = .ok (.getfield 83, 3) := dk_180 0 83 (dk_at dksX6_readRegion_10 6 rfl rfl)
theorem dX6_readRegion_242 : decode cX6_readRegion 242 = .ok (.iload 9, 2) := dk_21 9 (dk_at dksX6_readRegion_10 9 rfl rfl)
theorem dX6_readRegion_244 : decode cX6_readRegion 244 = .ok (.iaload, 1) := dk_46 (dk_at dksX6_readRegion_10 11 rfl rfl)
theorem dX6_readRegion_245 : decode cX6_readRegion 245 = .ok (.aload_n 0, 1) := dk_42 (dk_at dksX6_readRegion_10 12 rfl rfl)
theorem dX6_readRegion_246 : decode cX6_readRegion 246 = .ok (.getfield 83, 3) := dk_180 0 83 (dk_at dksX6_readRegion_10 13 rfl rfl)
theorem dX6_readRegion_249 : decode cX6_readRegion 249 = .ok (.iload_n 1, 1) := dk_27 (dk_at dksX6_readRegion_10 16 rfl rfl)
theorem dX6_readRegion_250 : decode cX6_readRegion 250 = .ok (.iaload, 1) := dk_46 (dk_at dksX6_readRegion_10 17 rfl rfl)
theorem dX6_readRegion_251 : decode cX6_readRegion 251 = .ok (.if_icmp .ne 7, 3) := dk_160 0 7 (dk_at dksX6_readRegion_10 18 rfl rfl)
theorem dX6_readRegion_254 : decode cX6_readRegion 254 = .ok (.iconst 1, 1) := dk_4 (dk_at dksX6_readRegion_10 21 rfl rfl)
theorem dX6_readRegion_255 : decode cX6_readRegion 255 = .ok (.goto 4, 3) := dk_167 0 4 (dk_at dksX6_readRegion_11 0 rfl rfl)
theorem dX6_readRegion_258 : decode cX6_readRegion 258 = .ok (.iconst 0, 1) := dk_3 (dk_at dksX6_readRegion_11 3 rfl rfl)
theorem dX6_readRegion_259 : decode cX6_readRegion 259 = .ok (.iconst 5, 1) := dk_8 (dk_at dksX6_readRegion_11 4 rfl rfl)
theorem dX6_readRegion_260 : decode cX6_readRegion 260 = .ok (.iload_n 1, 1) := dk_27 (dk_at dksX6_readRegion_11 5 rfl rfl)
theorem dX6_readRegion_261 : decode cX6_readRegion 261 = .ok (.invokevirtual 237, 3) := dk_182 0 237 (dk_at dksX6_readRegion_11 6 rfl rfl)
theorem dX6_readRegion_264 : decode cX6_readRegion 264 = .ok (.ifCond .ne 5, 3) := dk_154 0 5 (dk_at dksX6_readRegion_11 9 rfl rfl)
theorem dX6_readRegion_267 : decode cX6_readRegion 267 = .ok (.iconst (-1), 1) := dk_2 (dk_at dksX6_readRegion_11 12 rfl rfl)
theorem dX6_readRegion_268 : decode cX6_readRegion 268 = .ok (.ireturn, 1) := dk_172 (dk_at dksX6_readRegion_11 13 rfl rfl)
theorem dX6_readRegion_269 : decode cX6_readRegion 269 = .ok (.iconst 0, 1) := dk_3 (dk_at dksX6_readRegion_11 14 rfl rfl)
theorem dX6_readRegion_270 : decode cX6_readRegion 270 = .ok (.istore 10, 2) := dk_54 10 (dk_at dksX6_readRegion_11 15 rfl rfl)
theorem dX6_readRegion_272 : decode cX6_readRegion 272 = .ok (.iload 10, 2) := dk_21 10 (dk_at dksX6_readRegion_11 17 rfl rfl)
theorem dX6_readRegion_274 : decode cX6_readRegion 274 = .ok (.aload_n 0, 1) := dk_42 (dk_at dksX6_readRegion_11 19 rfl rfl)
theorem dX6_readRegion_275 : decode cX6_readRegion 275 = .ok (.getfield 83, 3) := dk_180 0 83 (dk_at dksX6_readRegion_11 20 rfl rfl)
theorem dX6_readRegion_278 : decode cX6_readRegion 278 = .ok (.iload_n 1, 1) := dk_27 (dk_at dksX6_readRegion_11 23 rfl rfl)
theorem dX6_readRegion_279 : decode cX6_readRegion 279 = .ok (.iaload, 1) := dk_46 (dk_at dksX6_readRegion_12 0 rfl rfl)
theorem dX6_readRegion_280 : decode cX6_readRegion 280 = .ok (.if_icmp .ge 52, 3) := dk_162 0 52 (dk_at dksX6_readRegion_12 1 rfl rfl)
theorem dX6_readRegion_283 : decode cX6_readRegion 283 = .ok (.iload 9, 2) := dk_21 9 (dk_at dksX6_readRegion_12 4 rfl rfl)
theorem dX6_readRegion_285 : decode cX6_readRegion 285 = .ok (.ifCond .lt 47, 3) := dk_155 0 47 (dk_at dksX6_readRegion_12 6 rfl rfl)
theorem dX6_readRegion_288 : decode cX6_readRegion 288 = .ok (.aload_n 0, 1) := dk_42 (dk_at dksX6_readRegion_12 9 rfl rfl)
theorem dX6_readRegion_289 : decode cX6_readRegion 289 = .ok (.getfield 86, 3) := dk_180 0 86 (dk_at dksX6_readRegion_12 10 rfl rfl)
theorem dX6_readRegion_292 : decode cX6_readRegion 292 = .ok (.bipush 16, 2) := dk_16 16 (dk_at dksX6_readRegion_12 13 rfl rfl)
theorem dX6_readRegion_294 : decode cX6_readRegion 294 = .ok (.iload_n 1, 1) := dk_27 (dk_at dksX6_readRegion_12 15 rfl rfl)
theorem dX6_readRegion_295 : decode cX6_readRegion 295 = .ok (.imul, 1) := dk_104 (dk_at dksX6_readRegion_12 16 rfl rfl)
theorem dX6_readRegion_296 : decode cX6_readRegion 296 = .ok (.iload 10, 2) := dk_21 10 (dk_at dksX6_readRegion_12 17 rfl rfl)
theorem dX6_readRegion_298 : decode cX6_readRegion 298 = .ok (.iadd, 1) := dk_96 (dk_at dksX6_readRegion_12 19 rfl rfl)
theorem dX6_readRegion_299 : decode cX6_readRegion 299 = .ok (.aload_n 0, 1) := dk_42 (dk_at dksX6_readRegion_12 20 rfl rfl)
theorem dX6_readRegion_300 : decode cX6_readRegion 300 = .ok (.getfield 86, 3) := dk_180 0 86 (dk_at dksX6_readRegion_12 21 rfl rfl)
theorem dX6_readRegion_303 : decode cX6_readRegion 303 = .ok (.bipush 16, 2) := dk_16 16 (dk_at dksX6_readRegion_13 0 rfl rfl)
theorem dX6_readRegion_305 : decode cX6_readRegion 305 = .ok (.iload_n 1, 1) := dk_27 (dk_at dksX6_readRegion_13 2 rfl rfl)
theorem dX6_readRegion_306 : decode cX6_readRegion 306 = .ok (.imul, 1) := dk_104 (dk_at dksX6_readRegion_13 3 rfl rfl)
theorem dX6_readRegion_307 : decode cX6_readRegion 307 = .ok (.iload 10, 2) := dk_21 10 (dk_at dksX6_readRegion_13 4 rfl rfl)
theorem dX6_readRegion_309 : decode cX6_readRegion 309 = .ok (.iadd, 1) := dk_96 (dk_at dksX6_readRegion_13 6 rfl rfl)
theorem dX6_readRegion_310 : decode cX6_readRegion 310 = .ok (.iaload, 1) := dk_46 (dk_at dksX6_readRegion_13 7 rfl rfl)
theorem dX6_readRegion_311 : decode cX6_readRegion 311 = .ok (.aload_n 0, 1) := dk_42 (dk_at dksX6_readRegion_13 8 rfl rfl)
theorem dX6_readRegion_312 : decode cX6_readRegion 312 = .ok (.getfield 86, 3) := dk_180 0 86 (dk_at dksX6_readRegion_13 9 rfl rfl)
theorem dX6_readRegion_315 : decode cX6_readRegion 315 = .ok (.bipush 16, 2) := dk_16 16 (dk_at dksX6_readRegion_13 12 rfl rfl)
theorem dX6_readRegion_317 : decode cX6_readRegion 317 = .ok (.iload 9, 2) := dk_21 9 (dk_at dksX6_readRegion_13 14 rfl rfl)
theorem dX6_readRegion_319 : decode cX6_readRegion 319 = .ok (.imul, 1) := dk_104 (dk_at dksX6_readRegion_13 16 rfl rfl)
theorem dX6_readRegion_320 : decode cX6_readRegion 320 = .ok (.iload 10, 2) := dk_21 10 (dk_at dksX6_readRegion_13 17 rfl rfl)
theorem dX6_readRegion_322 : decode cX6_readRegion 322 = .ok (.iadd, 1) := dk_96 (dk_at dksX6_readRegion_13 19 rfl rfl)
theorem dX6_readRegion_323 : decode cX6_readRegion 323 = .ok (.iaload, 1) := dk_46 (dk_at dksX6_readRegion_13 20 rfl rfl)
theorem dX6_readRegion_324 : decode cX6_readRegion 324 = .ok (.ixor, 1) := dk_130 (dk_at dksX6_readRegion_13 21 rfl rfl)
theorem dX6_readRegion_325 : decode cX6_readRegion 325 = .ok (.iastore, 1) := dk_79 (dk_at dksX6_readRegion_13 22 rfl rfl)
theorem dX6_readRegion_326 : decode cX6_readRegion 326 = .ok (.iinc 10 1, 3) := dk_132 10 1 (dk_at dksX6_readRegion_14 0 rfl rfl)
theorem dX6_readRegion_329 : decode cX6_readRegion 329 = .ok (.goto (-57), 3) := dk_167 255 199 (dk_at dksX6_readRegion_14 3 rfl rfl)
theorem dX6_readRegion_332 : decode cX6_readRegion 332 = .ok (.aload_n 0, 1) := dk_42 (dk_at dksX6_readRegion_14 6 rfl rfl)
theorem dX6_readRegion_333 : decode cX6_readRegion 333 = .ok (.getfield 55, 3) := dk_180 0 55 (dk_at dksX6_readRegion_14 7 rfl rfl)
theorem dX6_readRegion_336 : decode cX6_readRegion 336 = .ok (.iload_n 1, 1) := dk_27 (dk_at dksX6_readRegion_14 10 rfl rfl)
theorem dX6_readRegion_337 : decode cX6_readRegion 337 = .ok (.iaload, 1) := dk_46 (dk_at dksX6_readRegion_14 11 rfl rfl)
theorem dX6_readRegion_338 : decode cX6_readRegion 338 = .ok (.iconst 4, 1) := dk_7 (dk_at dksX6_readRegion_14 12 rfl rfl)
theorem dX6_readRegion_339 : decode cX6_readRegion 339 = .ok (.if_icmp .eq 14, 3) := dk_159 0 14 (dk_at dksX6_readRegion_14 13 rfl rfl)
theorem dX6_readRegion_342 : decode cX6_readRegion 342 = .ok (.aload_n 0, 1) := dk_42 (dk_at dksX6_readRegion_14 16 rfl rfl)
theorem dX6_readRegion_343 : decode cX6_readRegion 343 = .ok (.iload_n 1, 1) := dk_27 (dk_at dksX6_readRegion_14 17 rfl rfl)
theorem dX6_readRegion_344 : decode cX6_readRegion 344 = .ok (.iload 4, 2) := dk_21 4 (dk_at dksX6_readRegion_14 18 rfl rfl)
theorem dX6_readRegion_346 : decode cX6_readRegion 346 = .ok (.iload 5, 2) := dk_21 5 (dk_at dksX6_readRegion_14 20 rfl rfl)
theorem dX6_readRegion_348 : decode cX6_readRegion 348 = .ok (.iload 6, 2) := dk_21 6 (dk_at dksX6_readRegion_14 22 rfl rfl)
theorem dX6_readRegion_350 : decode cX6_readRegion 350 = .ok (.invokevirtual 267, 3) := dk_182 1 11 (dk_at dksX6_readRegion_15 0 rfl rfl)
theorem dX6_readRegion_353 : decode cX6_readRegion 353 = .ok (.iload 8, 2) := dk_21 8 (dk_at dksX6_readRegion_15 3 rfl rfl)
theorem dX6_readRegion_355 : decode cX6_readRegion 355 = .ok (.ireturn, 1) := dk_172 (dk_at dksX6_readRegion_15 5 rfl rfl)
abbrev cX6_readOpen : ByteArray := prog_8_method_48_code
def yX6_readOpen : MethodName := ⟨RX6, "readOpen", "(II)I"⟩
def dkwX6_readOpen_12 : List UInt8 := [87, 2, 172, 42, 180, 0, 83, 27, 21, 5, 79, 21, 4, 16, 6, 96, 172]
abbrev dktX6_readOpen_12 : List UInt8 := dkwX6_readOpen_12 ++ []
def dkwX6_readOpen_11 : List UInt8 := [21, 4, 5, 96, 182, 0, 220, 21, 5, 159, 0, 18, 42, 16, 8, 42, 180, 0, 49, 27, 46, 182, 0, 200]
abbrev dktX6_readOpen_11 : List UInt8 := dkwX6_readOpen_11 ++ dktX6_readOpen_12
def dkwX6_readOpen_10 : List UInt8 := [180, 0, 203, 164, 0, 15, 42, 4, 42, 180, 0, 203, 182, 0, 200, 87, 2, 172, 21, 5, 153, 0, 16, 42]
abbrev dktX6_readOpen_10 : List UInt8 := dkwX6_readOpen_10 ++ dktX6_readOpen_11
def dkwX6_readOpen_9 : List UInt8 := [154, 0, 18, 42, 16, 8, 42, 180, 0, 49, 27, 46, 182, 0, 200, 87, 2, 172, 21, 4, 16, 6, 96, 42]
abbrev dktX6_readOpen_9 : List UInt8 := dkwX6_readOpen_9 ++ dktX6_readOpen_10
def dkwX6_readOpen_8 : List UInt8 := [167, 0, 4, 3, 54, 7, 21, 6, 153, 0, 17, 21, 4, 42, 180, 0, 203, 162, 0, 23, 21, 7]
abbrev dktX6_readOpen_8 : List UInt8 := dkwX6_readOpen_8 ++ dktX6_readOpen_9
def dkwX6_readOpen_7 : List UInt8 := [42, 180, 0, 203, 162, 0, 18, 42, 180, 0, 46, 21, 4, 4, 96, 46, 17, 0, 172, 160, 0, 7, 4]
abbrev dktX6_readOpen_7 : List UInt8 := dkwX6_readOpen_7 ++ dktX6_readOpen_8
def dkwX6_readOpen_6 : List UInt8 := [42, 180, 0, 46, 21, 4, 46, 17, 0, 255, 160, 0, 7, 4, 167, 0, 4, 3, 54, 6, 21, 4, 4, 96]
abbrev dktX6_readOpen_6 : List UInt8 := dkwX6_readOpen_6 ++ dktX6_readOpen_7
def dkwX6_readOpen_5 : List UInt8 := [172, 132, 5, 1, 21, 4, 4, 29, 96, 96, 54, 4, 167, 255, 145, 21, 4, 42, 180, 0, 203, 162, 0, 16]
abbrev dktX6_readOpen_5 : List UInt8 := dkwX6_readOpen_5 ++ dktX6_readOpen_6
def dkwX6_readOpen_4 : List UInt8 := [21, 4, 4, 96, 182, 0, 251, 154, 0, 18, 42, 16, 8, 42, 180, 0, 49, 27, 46, 182, 0, 200, 87, 2]
abbrev dktX6_readOpen_4 : List UInt8 := dkwX6_readOpen_4 ++ dktX6_readOpen_5
def dkwX6_readOpen_3 : List UInt8 := [96, 42, 180, 0, 203, 164, 0, 15, 42, 4, 42, 180, 0, 203, 182, 0, 200, 87, 2, 172, 42, 27, 21, 5]
abbrev dktX6_readOpen_3 : List UInt8 := dkwX6_readOpen_3 ++ dktX6_readOpen_4
def dkwX6_readOpen_2 : List UInt8 := [46, 160, 0, 18, 42, 16, 8, 42, 180, 0, 49, 27, 46, 182, 0, 200, 87, 2, 172, 21, 4, 4, 96, 29]
abbrev dktX6_readOpen_2 : List UInt8 := dkwX6_readOpen_2 ++ dktX6_readOpen_3
def dkwX6_readOpen_1 : List UInt8 := [180, 0, 203, 162, 0, 108, 42, 180, 0, 46, 21, 4, 46, 4, 160, 0, 97, 21, 5, 42, 180, 0, 83, 27]
abbrev dktX6_readOpen_1 : List UInt8 := dkwX6_readOpen_1 ++ dktX6_readOpen_2
def dkwX6_readOpen_0 : List UInt8 := [42, 180, 0, 80, 27, 46, 16, 7, 96, 16, 8, 108, 62, 28, 54, 4, 3, 54, 5, 21, 4, 42]
abbrev dktX6_readOpen_0 : List UInt8 := dkwX6_readOpen_0 ++ dktX6_readOpen_1
theorem dksX6_readOpen_0 : cX6_readOpen.data.toList.drop 0 = dktX6_readOpen_0 := by decide +kernel
theorem dksX6_readOpen_1 : cX6_readOpen.data.toList.drop 22 = dktX6_readOpen_1 := dk_seg dksX6_readOpen_0 22 rfl rfl
theorem dksX6_readOpen_2 : cX6_readOpen.data.toList.drop 46 = dktX6_readOpen_2 := dk_seg dksX6_readOpen_1 24 rfl rfl
theorem dksX6_readOpen_3 : cX6_readOpen.data.toList.drop 70 = dktX6_readOpen_3 := dk_seg dksX6_readOpen_2 24 rfl rfl
theorem dksX6_readOpen_4 : cX6_readOpen.data.toList.drop 94 = dktX6_readOpen_4 := dk_seg dksX6_readOpen_3 24 rfl rfl
theorem dksX6_readOpen_5 : cX6_readOpen.data.toList.drop 118 = dktX6_readOpen_5 := dk_seg dksX6_readOpen_4 24 rfl rfl
theorem dksX6_readOpen_6 : cX6_readOpen.data.toList.drop 142 = dktX6_readOpen_6 := dk_seg dksX6_readOpen_5 24 rfl rfl
theorem dksX6_readOpen_7 : cX6_readOpen.data.toList.drop 166 = dktX6_readOpen_7 := dk_seg dksX6_readOpen_6 24 rfl rfl
theorem dksX6_readOpen_8 : cX6_readOpen.data.toList.drop 189 = dktX6_readOpen_8 := dk_seg dksX6_readOpen_7 23 rfl rfl
theorem dksX6_readOpen_9 : cX6_readOpen.data.toList.drop 211 = dktX6_readOpen_9 := dk_seg dksX6_readOpen_8 22 rfl rfl
theorem dksX6_readOpen_10 : cX6_readOpen.data.toList.drop 235 = dktX6_readOpen_10 := dk_seg dksX6_readOpen_9 24 rfl rfl
theorem dksX6_readOpen_11 : cX6_readOpen.data.toList.drop 259 = dktX6_readOpen_11 := dk_seg dksX6_readOpen_10 24 rfl rfl
theorem dksX6_readOpen_12 : cX6_readOpen.data.toList.drop 283 = dktX6_readOpen_12 := dk_seg dksX6_readOpen_11 24 rfl rfl
theorem dX6_readOpen_0 : decode cX6_readOpen 0 = .ok (.aload_n 0, 1) := dk_42 (dk_at dksX6_readOpen_0 0 rfl rfl)
theorem dX6_readOpen_1 : decode cX6_readOpen 1 = .ok (.getfield 80, 3) := dk_180 0 80 (dk_at dksX6_readOpen_0 1 rfl rfl)
theorem dX6_readOpen_4 : decode cX6_readOpen 4 = .ok (.iload_n 1, 1) := dk_27 (dk_at dksX6_readOpen_0 4 rfl rfl)
theorem dX6_readOpen_5 : decode cX6_readOpen 5 = .ok (.iaload, 1) := dk_46 (dk_at dksX6_readOpen_0 5 rfl rfl)
theorem dX6_readOpen_6 : decode cX6_readOpen 6 = .ok (.bipush 7, 2) := dk_16 7 (dk_at dksX6_readOpen_0 6 rfl rfl)
theorem dX6_readOpen_8 : decode cX6_readOpen 8 = .ok (.iadd, 1) := dk_96 (dk_at dksX6_readOpen_0 8 rfl rfl)
theorem dX6_readOpen_9 : decode cX6_readOpen 9 = .ok (.bipush 8, 2) := dk_16 8 (dk_at dksX6_readOpen_0 9 rfl rfl)
theorem dX6_readOpen_11 : decode cX6_readOpen 11 = .ok (.idiv, 1) := dk_108 (dk_at dksX6_readOpen_0 11 rfl rfl)
theorem dX6_readOpen_12 : decode cX6_readOpen 12 = .ok (.istore_n 3, 1) := dk_62 (dk_at dksX6_readOpen_0 12 rfl rfl)
theorem dX6_readOpen_13 : decode cX6_readOpen 13 = .ok (.iload_n 2, 1) := dk_28 (dk_at dksX6_readOpen_0 13 rfl rfl)
theorem dX6_readOpen_14 : decode cX6_readOpen 14 = .ok (.istore 4, 2) := dk_54 4 (dk_at dksX6_readOpen_0 14 rfl rfl)
theorem dX6_readOpen_16 : decode cX6_readOpen 16 = .ok (.iconst 0, 1) := dk_3 (dk_at dksX6_readOpen_0 16 rfl rfl)
theorem dX6_readOpen_17 : decode cX6_readOpen 17 = .ok (.istore 5, 2) := dk_54 5 (dk_at dksX6_readOpen_0 17 rfl rfl)
theorem dX6_readOpen_19 : decode cX6_readOpen 19 = .ok (.iload 4, 2) := dk_21 4 (dk_at dksX6_readOpen_0 19 rfl rfl)
theorem dX6_readOpen_21 : decode cX6_readOpen 21 = .ok (.aload_n 0, 1) := dk_42 (dk_at dksX6_readOpen_0 21 rfl rfl)
theorem dX6_readOpen_22 : decode cX6_readOpen 22 = .ok (.getfield 203, 3) := dk_180 0 203 (dk_at dksX6_readOpen_1 0 rfl rfl)
theorem dX6_readOpen_25 : decode cX6_readOpen 25 = .ok (.if_icmp .ge 108, 3) := dk_162 0 108 (dk_at dksX6_readOpen_1 3 rfl rfl)
theorem dX6_readOpen_28 : decode cX6_readOpen 28 = .ok (.aload_n 0, 1) := dk_42 (dk_at dksX6_readOpen_1 6 rfl rfl)
theorem dX6_readOpen_29 : decode cX6_readOpen 29 = .ok (.getfield 46, 3) := dk_180 0 46 (dk_at dksX6_readOpen_1 7 rfl rfl)
theorem dX6_readOpen_32 : decode cX6_readOpen 32 = .ok (.iload 4, 2) := dk_21 4 (dk_at dksX6_readOpen_1 10 rfl rfl)
theorem dX6_readOpen_34 : decode cX6_readOpen 34 = .ok (.iaload, 1) := dk_46 (dk_at dksX6_readOpen_1 12 rfl rfl)
theorem dX6_readOpen_35 : decode cX6_readOpen 35 = .ok (.iconst 1, 1) := dk_4 (dk_at dksX6_readOpen_1 13 rfl rfl)
theorem dX6_readOpen_36 : decode cX6_readOpen 36 = .ok (.if_icmp .ne 97, 3) := dk_160 0 97 (dk_at dksX6_readOpen_1 14 rfl rfl)
theorem dX6_readOpen_39 : decode cX6_readOpen 39 = .ok (.iload 5, 2) := dk_21 5 (dk_at dksX6_readOpen_1 17 rfl rfl)
theorem dX6_readOpen_41 : decode cX6_readOpen 41 = .ok (.aload_n 0, 1) := dk_42 (dk_at dksX6_readOpen_1 19 rfl rfl)
theorem dX6_readOpen_42 : decode cX6_readOpen 42 = .ok (.getfield 83, 3) := dk_180 0 83 (dk_at dksX6_readOpen_1 20 rfl rfl)
theorem dX6_readOpen_45 : decode cX6_readOpen 45 = .ok (.iload_n 1, 1) := dk_27 (dk_at dksX6_readOpen_1 23 rfl rfl)
theorem dX6_readOpen_46 : decode cX6_readOpen 46 = .ok (.iaload, 1) := dk_46 (dk_at dksX6_readOpen_2 0 rfl rfl)
theorem dX6_readOpen_47 : decode cX6_readOpen 47 = .ok (.if_icmp .ne 18, 3) := dk_160 0 18 (dk_at dksX6_readOpen_2 1 rfl rfl)
theorem dX6_readOpen_50 : decode cX6_readOpen 50 = .ok (.aload_n 0, 1) := dk_42 (dk_at dksX6_readOpen_2 4 rfl rfl)
theorem dX6_readOpen_51 : decode cX6_readOpen 51 = .ok (.bipush 8, 2) := dk_16 8 (dk_at dksX6_readOpen_2 5 rfl rfl)
theorem dX6_readOpen_53 : decode cX6_readOpen 53 = .ok (.aload_n 0, 1) := dk_42 (dk_at dksX6_readOpen_2 7 rfl rfl)
theorem dX6_readOpen_54 : decode cX6_readOpen 54 = .ok (.getfield 49, 3) := dk_180 0 49 (dk_at dksX6_readOpen_2 8 rfl rfl)
theorem dX6_readOpen_57 : decode cX6_readOpen 57 = .ok (.iload_n 1, 1) := dk_27 (dk_at dksX6_readOpen_2 11 rfl rfl)
theorem dX6_readOpen_58 : decode cX6_readOpen 58 = .ok (.iaload, 1) := dk_46 (dk_at dksX6_readOpen_2 12 rfl rfl)
theorem dX6_readOpen_59 : decode cX6_readOpen 59 = .ok (.invokevirtual 200, 3) := dk_182 0 200 (dk_at dksX6_readOpen_2 13 rfl rfl)
theorem dX6_readOpen_62 : decode cX6_readOpen 62 = .ok (.pop, 1) := dk_87 (dk_at dksX6_readOpen_2 16 rfl rfl)
theorem dX6_readOpen_63 : decode cX6_readOpen 63 = .ok (.iconst (-1), 1) := dk_2 (dk_at dksX6_readOpen_2 17 rfl rfl)
theorem dX6_readOpen_64 : decode cX6_readOpen 64 = .ok (.ireturn, 1) := dk_172 (dk_at dksX6_readOpen_2 18 rfl rfl)
theorem dX6_readOpen_65 : decode cX6_readOpen 65 = .ok (.iload 4, 2) := dk_21 4 (dk_at dksX6_readOpen_2 19 rfl rfl)
theorem dX6_readOpen_67 : decode cX6_readOpen 67 = .ok (.iconst 1, 1) := dk_4 (dk_at dksX6_readOpen_2 21 rfl rfl)
theorem dX6_readOpen_68 : decode cX6_readOpen 68 = .ok (.iadd, 1) := dk_96 (dk_at dksX6_readOpen_2 22 rfl rfl)
theorem dX6_readOpen_69 : decode cX6_readOpen 69 = .ok (.iload_n 3, 1) := dk_29 (dk_at dksX6_readOpen_2 23 rfl rfl)
theorem dX6_readOpen_70 : decode cX6_readOpen 70 = .ok (.iadd, 1) := dk_96 (dk_at dksX6_readOpen_3 0 rfl rfl)
theorem dX6_readOpen_71 : decode cX6_readOpen 71 = .ok (.aload_n 0, 1) := dk_42 (dk_at dksX6_readOpen_3 1 rfl rfl)
theorem dX6_readOpen_72 : decode cX6_readOpen 72 = .ok (.getfield 203, 3) := dk_180 0 203 (dk_at dksX6_readOpen_3 2 rfl rfl)
theorem dX6_readOpen_75 : decode cX6_readOpen 75 = .ok (.if_icmp .le 15, 3) := dk_164 0 15 (dk_at dksX6_readOpen_3 5 rfl rfl)
theorem dX6_readOpen_78 : decode cX6_readOpen 78 = .ok (.aload_n 0, 1) := dk_42 (dk_at dksX6_readOpen_3 8 rfl rfl)
theorem dX6_readOpen_79 : decode cX6_readOpen 79 = .ok (.iconst 1, 1) := dk_4 (dk_at dksX6_readOpen_3 9 rfl rfl)
theorem dX6_readOpen_80 : decode cX6_readOpen 80 = .ok (.aload_n 0, 1) := dk_42 (dk_at dksX6_readOpen_3 10 rfl rfl)
theorem dX6_readOpen_81 : decode cX6_readOpen 81 = .ok (.getfield 203, 3) := dk_180 0 203 (dk_at dksX6_readOpen_3 11 rfl rfl)
theorem dX6_readOpen_84 : decode cX6_readOpen 84 = .ok (.invokevirtual 200, 3) := dk_182 0 200 (dk_at dksX6_readOpen_3 14 rfl rfl)
theorem dX6_readOpen_87 : decode cX6_readOpen 87 = .ok (.pop, 1) := dk_87 (dk_at dksX6_readOpen_3 17 rfl rfl)
theorem dX6_readOpen_88 : decode cX6_readOpen 88 = .ok (.iconst (-1), 1) := dk_2 (dk_at dksX6_readOpen_3 18 rfl rfl)
theorem dX6_readOpen_89 : decode cX6_readOpen 89 = .ok (.ireturn, 1) := dk_172 (dk_at dksX6_readOpen_3 19 rfl rfl)
theorem dX6_readOpen_90 : decode cX6_readOpen 90 = .ok (.aload_n 0, 1) := dk_42 (dk_at dksX6_readOpen_3 20 rfl rfl)
theorem dX6_readOpen_91 : decode cX6_readOpen 91 = .ok (.iload_n 1, 1) := dk_27 (dk_at dksX6_readOpen_3 21 rfl rfl)
theorem dX6_readOpen_92 : decode cX6_readOpen 92 = .ok (.iload 5, 2) := dk_21 5 (dk_at dksX6_readOpen_3 22 rfl rfl)
theorem dX6_readOpen_94 : decode cX6_readOpen 94 = .ok (.iload 4, 2) := dk_21 4 (dk_at dksX6_readOpen_4 0 rfl rfl)
theorem dX6_readOpen_96 : decode cX6_readOpen 96 = .ok (.iconst 1, 1) := dk_4 (dk_at dksX6_readOpen_4 2 rfl rfl)
theorem dX6_readOpen_97 : decode cX6_readOpen 97 = .ok (.iadd, 1) := dk_96 (dk_at dksX6_readOpen_4 3 rfl rfl)
theorem dX6_readOpen_98 : decode cX6_readOpen 98 = .ok (.invokevirtual 251, 3) := dk_182 0 251 (dk_at dksX6_readOpen_4 4 rfl rfl)
theorem dX6_readOpen_101 : decode cX6_readOpen 101 = .ok (.ifCond .ne 18, 3) := dk_154 0 18 (dk_at dksX6_readOpen_4 7 rfl rfl)
theorem dX6_readOpen_104 : decode cX6_readOpen 104 = .ok (.aload_n 0, 1) := dk_42 (dk_at dksX6_readOpen_4 10 rfl rfl)
theorem dX6_readOpen_105 : decode cX6_readOpen 105 = .ok (.bipush 8, 2) := dk_16 8 (dk_at dksX6_readOpen_4 11 rfl rfl)
theorem dX6_readOpen_107 : decode cX6_readOpen 107 = .ok (.aload_n 0, 1) := dk_42 (dk_at dksX6_readOpen_4 13 rfl rfl)
theorem dX6_readOpen_108 : decode cX6_readOpen 108 = .ok (.getfield 49, 3) := dk_180 0 49 (dk_at dksX6_readOpen_4 14 rfl rfl)
theorem dX6_readOpen_111 : decode cX6_readOpen 111 = .ok (.iload_n 1, 1) := dk_27 (dk_at dksX6_readOpen_4 17 rfl rfl)
theorem dX6_readOpen_112 : decode cX6_readOpen 112 = .ok (.iaload, 1) := dk_46 (dk_at dksX6_readOpen_4 18 rfl rfl)
theorem dX6_readOpen_113 : decode cX6_readOpen 113 = .ok (.invokevirtual 200, 3) := dk_182 0 200 (dk_at dksX6_readOpen_4 19 rfl rfl)
theorem dX6_readOpen_116 : decode cX6_readOpen 116 = .ok (.pop, 1) := dk_87 (dk_at dksX6_readOpen_4 22 rfl rfl)
theorem dX6_readOpen_117 : decode cX6_readOpen 117 = .ok (.iconst (-1), 1) := dk_2 (dk_at dksX6_readOpen_4 23 rfl rfl)
theorem dX6_readOpen_118 : decode cX6_readOpen 118 = .ok (.ireturn, 1) := dk_172 (dk_at dksX6_readOpen_5 0 rfl rfl)
theorem dX6_readOpen_119 : decode cX6_readOpen 119 = .ok (.iinc 5 1, 3) := dk_132 5 1 (dk_at dksX6_readOpen_5 1 rfl rfl)
theorem dX6_readOpen_122 : decode cX6_readOpen 122 = .ok (.iload 4, 2) := dk_21 4 (dk_at dksX6_readOpen_5 4 rfl rfl)
theorem dX6_readOpen_124 : decode cX6_readOpen 124 = .ok (.iconst 1, 1) := dk_4 (dk_at dksX6_readOpen_5 6 rfl rfl)
theorem dX6_readOpen_125 : decode cX6_readOpen 125 = .ok (.iload_n 3, 1) := dk_29 (dk_at dksX6_readOpen_5 7 rfl rfl)
theorem dX6_readOpen_126 : decode cX6_readOpen 126 = .ok (.iadd, 1) := dk_96 (dk_at dksX6_readOpen_5 8 rfl rfl)
theorem dX6_readOpen_127 : decode cX6_readOpen 127 = .ok (.iadd, 1) := dk_96 (dk_at dksX6_readOpen_5 9 rfl rfl)
theorem dX6_readOpen_128 : decode cX6_readOpen 128 = .ok (.istore 4, 2) := dk_54 4 (dk_at dksX6_readOpen_5 10 rfl rfl)
theorem dX6_readOpen_130 : decode cX6_readOpen 130 = .ok (.goto (-111), 3) := dk_167 255 145 (dk_at dksX6_readOpen_5 12 rfl rfl)
theorem dX6_readOpen_133 : decode cX6_readOpen 133 = .ok (.iload 4, 2) := dk_21 4 (dk_at dksX6_readOpen_5 15 rfl rfl)
theorem dX6_readOpen_135 : decode cX6_readOpen 135 = .ok (.aload_n 0, 1) := dk_42 (dk_at dksX6_readOpen_5 17 rfl rfl)
theorem dX6_readOpen_136 : decode cX6_readOpen 136 = .ok (.getfield 203, 3) := dk_180 0 203 (dk_at dksX6_readOpen_5 18 rfl rfl)
theorem dX6_readOpen_139 : decode cX6_readOpen 139 = .ok (.if_icmp .ge 16, 3) := dk_162 0 16 (dk_at dksX6_readOpen_5 21 rfl rfl)
theorem dX6_readOpen_142 : decode cX6_readOpen 142 = .ok (.aload_n 0, 1) := dk_42 (dk_at dksX6_readOpen_6 0 rfl rfl)
theorem dX6_readOpen_143 : decode cX6_readOpen 143 = .ok (.getfield 46, 3) := dk_180 0 46 (dk_at dksX6_readOpen_6 1 rfl rfl)
theorem dX6_readOpen_146 : decode cX6_readOpen 146 = .ok (.iload 4, 2) := dk_21 4 (dk_at dksX6_readOpen_6 4 rfl rfl)
theorem dX6_readOpen_148 : decode cX6_readOpen 148 = .ok (.iaload, 1) := dk_46 (dk_at dksX6_readOpen_6 6 rfl rfl)
theorem dX6_readOpen_149 : decode cX6_readOpen 149 = .ok (.sipush 255, 3) := dk_17 0 255 (dk_at dksX6_readOpen_6 7 rfl rfl)
theorem dX6_readOpen_152 : decode cX6_readOpen 152 = .ok (.if_icmp .ne 7, 3) := dk_160 0 7 (dk_at dksX6_readOpen_6 10 rfl rfl)
theorem dX6_readOpen_155 : decode cX6_readOpen 155 = .ok (.iconst 1, 1) := dk_4 (dk_at dksX6_readOpen_6 13 rfl rfl)
theorem dX6_readOpen_156 : decode cX6_readOpen 156 = .ok (.goto 4, 3) := dk_167 0 4 (dk_at dksX6_readOpen_6 14 rfl rfl)
theorem dX6_readOpen_159 : decode cX6_readOpen 159 = .ok (.iconst 0, 1) := dk_3 (dk_at dksX6_readOpen_6 17 rfl rfl)
theorem dX6_readOpen_160 : decode cX6_readOpen 160 = .ok (.istore 6, 2) := dk_54 6 (dk_at dksX6_readOpen_6 18 rfl rfl)
theorem dX6_readOpen_162 : decode cX6_readOpen 162 = .ok (.iload 4, 2) := dk_21 4 (dk_at dksX6_readOpen_6 20 rfl rfl)
theorem dX6_readOpen_164 : decode cX6_readOpen 164 = .ok (.iconst 1, 1) := dk_4 (dk_at dksX6_readOpen_6 22 rfl rfl)
theorem dX6_readOpen_165 : decode cX6_readOpen 165 = .ok (.iadd, 1) := dk_96 (dk_at dksX6_readOpen_6 23 rfl rfl)
theorem dX6_readOpen_166 : decode cX6_readOpen 166 = .ok (.aload_n 0, 1) := dk_42 (dk_at dksX6_readOpen_7 0 rfl rfl)
theorem dX6_readOpen_167 : decode cX6_readOpen 167 = .ok (.getfield 203, 3) := dk_180 0 203 (dk_at dksX6_readOpen_7 1 rfl rfl)
theorem dX6_readOpen_170 : decode cX6_readOpen 170 = .ok (.if_icmp .ge 18, 3) := dk_162 0 18 (dk_at dksX6_readOpen_7 4 rfl rfl)
theorem dX6_readOpen_173 : decode cX6_readOpen 173 = .ok (.aload_n 0, 1) := dk_42 (dk_at dksX6_readOpen_7 7 rfl rfl)
theorem dX6_readOpen_174 : decode cX6_readOpen 174 = .ok (.getfield 46, 3) := dk_180 0 46 (dk_at dksX6_readOpen_7 8 rfl rfl)
theorem dX6_readOpen_177 : decode cX6_readOpen 177 = .ok (.iload 4, 2) := dk_21 4 (dk_at dksX6_readOpen_7 11 rfl rfl)
theorem dX6_readOpen_179 : decode cX6_readOpen 179 = .ok (.iconst 1, 1) := dk_4 (dk_at dksX6_readOpen_7 13 rfl rfl)
theorem dX6_readOpen_180 : decode cX6_readOpen 180 = .ok (.iadd, 1) := dk_96 (dk_at dksX6_readOpen_7 14 rfl rfl)
theorem dX6_readOpen_181 : decode cX6_readOpen 181 = .ok (.iaload, 1) := dk_46 (dk_at dksX6_readOpen_7 15 rfl rfl)
theorem dX6_readOpen_182 : decode cX6_readOpen 182 = .ok (.sipush 172, 3) := dk_17 0 172 (dk_at dksX6_readOpen_7 16 rfl rfl)
theorem dX6_readOpen_185 : decode cX6_readOpen 185 = .ok (.if_icmp .ne 7, 3) := dk_160 0 7 (dk_at dksX6_readOpen_7 19 rfl rfl)
theorem dX6_readOpen_188 : decode cX6_readOpen 188 = .ok (.iconst 1, 1) := dk_4 (dk_at dksX6_readOpen_7 22 rfl rfl)
theorem dX6_readOpen_189 : decode cX6_readOpen 189 = .ok (.goto 4, 3) := dk_167 0 4 (dk_at dksX6_readOpen_8 0 rfl rfl)
theorem dX6_readOpen_192 : decode cX6_readOpen 192 = .ok (.iconst 0, 1) := dk_3 (dk_at dksX6_readOpen_8 3 rfl rfl)
theorem dX6_readOpen_193 : decode cX6_readOpen 193 = .ok (.istore 7, 2) := dk_54 7 (dk_at dksX6_readOpen_8 4 rfl rfl)
theorem dX6_readOpen_195 : decode cX6_readOpen 195 = .ok (.iload 6, 2) := dk_21 6 (dk_at dksX6_readOpen_8 6 rfl rfl)
theorem dX6_readOpen_197 : decode cX6_readOpen 197 = .ok (.ifCond .eq 17, 3) := dk_153 0 17 (dk_at dksX6_readOpen_8 8 rfl rfl)
theorem dX6_readOpen_200 : decode cX6_readOpen 200 = .ok (.iload 4, 2) := dk_21 4 (dk_at dksX6_readOpen_8 11 rfl rfl)
theorem dX6_readOpen_202 : decode cX6_readOpen 202 = .ok (.aload_n 0, 1) := dk_42 (dk_at dksX6_readOpen_8 13 rfl rfl)
theorem dX6_readOpen_203 : decode cX6_readOpen 203 = .ok (.getfield 203, 3) := dk_180 0 203 (dk_at dksX6_readOpen_8 14 rfl rfl)
theorem dX6_readOpen_206 : decode cX6_readOpen 206 = .ok (.if_icmp .ge 23, 3) := dk_162 0 23 (dk_at dksX6_readOpen_8 17 rfl rfl)
theorem dX6_readOpen_209 : decode cX6_readOpen 209 = .ok (.iload 7, 2) := dk_21 7 (dk_at dksX6_readOpen_8 20 rfl rfl)
theorem dX6_readOpen_211 : decode cX6_readOpen 211 = .ok (.ifCond .ne 18, 3) := dk_154 0 18 (dk_at dksX6_readOpen_9 0 rfl rfl)
theorem dX6_readOpen_214 : decode cX6_readOpen 214 = .ok (.aload_n 0, 1) := dk_42 (dk_at dksX6_readOpen_9 3 rfl rfl)
theorem dX6_readOpen_215 : decode cX6_readOpen 215 = .ok (.bipush 8, 2) := dk_16 8 (dk_at dksX6_readOpen_9 4 rfl rfl)
theorem dX6_readOpen_217 : decode cX6_readOpen 217 = .ok (.aload_n 0, 1) := dk_42 (dk_at dksX6_readOpen_9 6 rfl rfl)
theorem dX6_readOpen_218 : decode cX6_readOpen 218 = .ok (.getfield 49, 3) := dk_180 0 49 (dk_at dksX6_readOpen_9 7 rfl rfl)
theorem dX6_readOpen_221 : decode cX6_readOpen 221 = .ok (.iload_n 1, 1) := dk_27 (dk_at dksX6_readOpen_9 10 rfl rfl)
theorem dX6_readOpen_222 : decode cX6_readOpen 222 = .ok (.iaload, 1) := dk_46 (dk_at dksX6_readOpen_9 11 rfl rfl)
theorem dX6_readOpen_223 : decode cX6_readOpen 223 = .ok (.invokevirtual 200, 3) := dk_182 0 200 (dk_at dksX6_readOpen_9 12 rfl rfl)
theorem dX6_readOpen_226 : decode cX6_readOpen 226 = .ok (.pop, 1) := dk_87 (dk_at dksX6_readOpen_9 15 rfl rfl)
theorem dX6_readOpen_227 : decode cX6_readOpen 227 = .ok (.iconst (-1), 1) := dk_2 (dk_at dksX6_readOpen_9 16 rfl rfl)
theorem dX6_readOpen_228 : decode cX6_readOpen 228 = .ok (.ireturn, 1) := dk_172 (dk_at dksX6_readOpen_9 17 rfl rfl)
theorem dX6_readOpen_229 : decode cX6_readOpen 229 = .ok (.iload 4, 2) := dk_21 4 (dk_at dksX6_readOpen_9 18 rfl rfl)
theorem dX6_readOpen_231 : decode cX6_readOpen 231 = .ok (.bipush 6, 2) := dk_16 6 (dk_at dksX6_readOpen_9 20 rfl rfl)
theorem dX6_readOpen_233 : decode cX6_readOpen 233 = .ok (.iadd, 1) := dk_96 (dk_at dksX6_readOpen_9 22 rfl rfl)
theorem dX6_readOpen_234 : decode cX6_readOpen 234 = .ok (.aload_n 0, 1) := dk_42 (dk_at dksX6_readOpen_9 23 rfl rfl)
theorem dX6_readOpen_235 : decode cX6_readOpen 235 = .ok (.getfield 203, 3) := dk_180 0 203 (dk_at dksX6_readOpen_10 0 rfl rfl)
theorem dX6_readOpen_238 : decode cX6_readOpen 238 = .ok (.if_icmp .le 15, 3) := dk_164 0 15 (dk_at dksX6_readOpen_10 3 rfl rfl)
theorem dX6_readOpen_241 : decode cX6_readOpen 241 = .ok (.aload_n 0, 1) := dk_42 (dk_at dksX6_readOpen_10 6 rfl rfl)
theorem dX6_readOpen_242 : decode cX6_readOpen 242 = .ok (.iconst 1, 1) := dk_4 (dk_at dksX6_readOpen_10 7 rfl rfl)
theorem dX6_readOpen_243 : decode cX6_readOpen 243 = .ok (.aload_n 0, 1) := dk_42 (dk_at dksX6_readOpen_10 8 rfl rfl)
theorem dX6_readOpen_244 : decode cX6_readOpen 244 = .ok (.getfield 203, 3) := dk_180 0 203 (dk_at dksX6_readOpen_10 9 rfl rfl)
theorem dX6_readOpen_247 : decode cX6_readOpen 247 = .ok (.invokevirtual 200, 3) := dk_182 0 200 (dk_at dksX6_readOpen_10 12 rfl rfl)
theorem dX6_readOpen_250 : decode cX6_readOpen 250 = .ok (.pop, 1) := dk_87 (dk_at dksX6_readOpen_10 15 rfl rfl)
theorem dX6_readOpen_251 : decode cX6_readOpen 251 = .ok (.iconst (-1), 1) := dk_2 (dk_at dksX6_readOpen_10 16 rfl rfl)
theorem dX6_readOpen_252 : decode cX6_readOpen 252 = .ok (.ireturn, 1) := dk_172 (dk_at dksX6_readOpen_10 17 rfl rfl)
theorem dX6_readOpen_253 : decode cX6_readOpen 253 = .ok (.iload 5, 2) := dk_21 5 (dk_at dksX6_readOpen_10 18 rfl rfl)
theorem dX6_readOpen_255 : decode cX6_readOpen 255 = .ok (.ifCond .eq 16, 3) := dk_153 0 16 (dk_at dksX6_readOpen_10 20 rfl rfl)
theorem dX6_readOpen_258 : decode cX6_readOpen 258 = .ok (.aload_n 0, 1) := dk_42 (dk_at dksX6_readOpen_10 23 rfl rfl)
theorem dX6_readOpen_259 : decode cX6_readOpen 259 = .ok (.iload 4, 2) := dk_21 4 (dk_at dksX6_readOpen_11 0 rfl rfl)
theorem dX6_readOpen_261 : decode cX6_readOpen 261 = .ok (.iconst 2, 1) := dk_5 (dk_at dksX6_readOpen_11 2 rfl rfl)
theorem dX6_readOpen_262 : decode cX6_readOpen 262 = .ok (.iadd, 1) := dk_96 (dk_at dksX6_readOpen_11 3 rfl rfl)
theorem dX6_readOpen_263 : decode cX6_readOpen 263 = .ok (.invokevirtual 220, 3) := dk_182 0 220 (dk_at dksX6_readOpen_11 4 rfl rfl)
theorem dX6_readOpen_266 : decode cX6_readOpen 266 = .ok (.iload 5, 2) := dk_21 5 (dk_at dksX6_readOpen_11 7 rfl rfl)
theorem dX6_readOpen_268 : decode cX6_readOpen 268 = .ok (.if_icmp .eq 18, 3) := dk_159 0 18 (dk_at dksX6_readOpen_11 9 rfl rfl)
theorem dX6_readOpen_271 : decode cX6_readOpen 271 = .ok (.aload_n 0, 1) := dk_42 (dk_at dksX6_readOpen_11 12 rfl rfl)
theorem dX6_readOpen_272 : decode cX6_readOpen 272 = .ok (.bipush 8, 2) := dk_16 8 (dk_at dksX6_readOpen_11 13 rfl rfl)
theorem dX6_readOpen_274 : decode cX6_readOpen 274 = .ok (.aload_n 0, 1) := dk_42 (dk_at dksX6_readOpen_11 15 rfl rfl)
theorem dX6_readOpen_275 : decode cX6_readOpen 275 = .ok (.getfield 49, 3) := dk_180 0 49 (dk_at dksX6_readOpen_11 16 rfl rfl)
theorem dX6_readOpen_278 : decode cX6_readOpen 278 = .ok (.iload_n 1, 1) := dk_27 (dk_at dksX6_readOpen_11 19 rfl rfl)
theorem dX6_readOpen_279 : decode cX6_readOpen 279 = .ok (.iaload, 1) := dk_46 (dk_at dksX6_readOpen_11 20 rfl rfl)
theorem dX6_readOpen_280 : decode cX6_readOpen 280 = .ok (.invokevirtual 200, 3) := dk_182 0 200 (dk_at dksX6_readOpen_11 21 rfl rfl)
theorem dX6_readOpen_283 : decode cX6_readOpen 283 = .ok (.pop, 1) := dk_87 (dk_at dksX6_readOpen_12 0 rfl rfl)
theorem dX6_readOpen_284 : decode cX6_readOpen 284 = .ok (.iconst (-1), 1) := dk_2 (dk_at dksX6_readOpen_12 1 rfl rfl)
theorem dX6_readOpen_285 : decode cX6_readOpen 285 = .ok (.ireturn, 1) := dk_172 (dk_at dksX6_readOpen_12 2 rfl rfl)
theorem dX6_readOpen_286 : decode cX6_readOpen 286 = .ok (.aload_n 0, 1) := dk_42 (dk_at dksX6_readOpen_12 3 rfl rfl)
theorem dX6_readOpen_287 : decode cX6_readOpen 287 = .ok (.getfield 83, 3) := dk_180 0 83 (dk_at dksX6_readOpen_12 4 rfl rfl)
theorem dX6_readOpen_290 : decode cX6_readOpen 290 = .ok (.iload_n 1, 1) := dk_27 (dk_at dksX6_readOpen_12 7 rfl rfl)
theorem dX6_readOpen_291 : decode cX6_readOpen 291 = .ok (.iload 5, 2) := dk_21 5 (dk_at dksX6_readOpen_12 8 rfl rfl)
theorem dX6_readOpen_293 : decode cX6_readOpen 293 = .ok (.iastore, 1) := dk_79 (dk_at dksX6_readOpen_12 10 rfl rfl)
theorem dX6_readOpen_294 : decode cX6_readOpen 294 = .ok (.iload 4, 2) := dk_21 4 (dk_at dksX6_readOpen_12 11 rfl rfl)
theorem dX6_readOpen_296 : decode cX6_readOpen 296 = .ok (.bipush 6, 2) := dk_16 6 (dk_at dksX6_readOpen_12 13 rfl rfl)
theorem dX6_readOpen_298 : decode cX6_readOpen 298 = .ok (.iadd, 1) := dk_96 (dk_at dksX6_readOpen_12 15 rfl rfl)
theorem dX6_readOpen_299 : decode cX6_readOpen 299 = .ok (.ireturn, 1) := dk_172 (dk_at dksX6_readOpen_12 16 rfl rfl)
abbrev cX6_takeRow : ByteArray := prog_8_method_46_code
def yX6_takeRow : MethodName := ⟨RX6, "takeRow", "(III)Z"⟩
def dkwX6_takeRow_5 : List UInt8 := [104, 28, 96, 21, 4, 79, 21, 6, 172]
abbrev dktX6_takeRow_5 : List UInt8 := dkwX6_takeRow_5 ++ []
def dkwX6_takeRow_4 : List UInt8 := [21, 7, 120, 128, 167, 0, 5, 21, 4, 54, 4, 132, 7, 1, 167, 255, 166, 42, 180, 0, 86, 16, 16, 27]
abbrev dktX6_takeRow_4 : List UInt8 := dkwX6_takeRow_4 ++ dktX6_takeRow_5
def dkwX6_takeRow_3 : List UInt8 := [21, 8, 154, 0, 7, 4, 167, 0, 4, 3, 54, 6, 21, 7, 21, 5, 162, 0, 14, 21, 4, 21, 8]
abbrev dktX6_takeRow_3 : List UInt8 := dkwX6_takeRow_3 ++ dktX6_takeRow_4
def dkwX6_takeRow_2 : List UInt8 := [21, 7, 16, 8, 112, 100, 122, 4, 126, 54, 8, 21, 6, 153, 0, 19, 21, 7, 21, 5, 161, 0, 8]
abbrev dktX6_takeRow_2 : List UInt8 := dkwX6_takeRow_2 ++ dktX6_takeRow_3
def dkwX6_takeRow_1 : List UInt8 := [16, 8, 108, 16, 8, 104, 162, 0, 80, 42, 180, 0, 46, 29, 21, 7, 16, 8, 108, 96, 46, 16, 7]
abbrev dktX6_takeRow_1 : List UInt8 := dkwX6_takeRow_1 ++ dktX6_takeRow_2
def dkwX6_takeRow_0 : List UInt8 := [3, 54, 4, 42, 180, 0, 80, 27, 46, 54, 5, 4, 54, 6, 3, 54, 7, 21, 7, 21, 5, 16, 7, 96]
abbrev dktX6_takeRow_0 : List UInt8 := dkwX6_takeRow_0 ++ dktX6_takeRow_1
theorem dksX6_takeRow_0 : cX6_takeRow.data.toList.drop 0 = dktX6_takeRow_0 := by decide +kernel
theorem dksX6_takeRow_1 : cX6_takeRow.data.toList.drop 24 = dktX6_takeRow_1 := dk_seg dksX6_takeRow_0 24 rfl rfl
theorem dksX6_takeRow_2 : cX6_takeRow.data.toList.drop 47 = dktX6_takeRow_2 := dk_seg dksX6_takeRow_1 23 rfl rfl
theorem dksX6_takeRow_3 : cX6_takeRow.data.toList.drop 70 = dktX6_takeRow_3 := dk_seg dksX6_takeRow_2 23 rfl rfl
theorem dksX6_takeRow_4 : cX6_takeRow.data.toList.drop 93 = dktX6_takeRow_4 := dk_seg dksX6_takeRow_3 23 rfl rfl
theorem dksX6_takeRow_5 : cX6_takeRow.data.toList.drop 117 = dktX6_takeRow_5 := dk_seg dksX6_takeRow_4 24 rfl rfl
theorem dX6_takeRow_0 : decode cX6_takeRow 0 = .ok (.iconst 0, 1) := dk_3 (dk_at dksX6_takeRow_0 0 rfl rfl)
theorem dX6_takeRow_1 : decode cX6_takeRow 1 = .ok (.istore 4, 2) := dk_54 4 (dk_at dksX6_takeRow_0 1 rfl rfl)
theorem dX6_takeRow_3 : decode cX6_takeRow 3 = .ok (.aload_n 0, 1) := dk_42 (dk_at dksX6_takeRow_0 3 rfl rfl)
theorem dX6_takeRow_4 : decode cX6_takeRow 4 = .ok (.getfield 80, 3) := dk_180 0 80 (dk_at dksX6_takeRow_0 4 rfl rfl)
theorem dX6_takeRow_7 : decode cX6_takeRow 7 = .ok (.iload_n 1, 1) := dk_27 (dk_at dksX6_takeRow_0 7 rfl rfl)
theorem dX6_takeRow_8 : decode cX6_takeRow 8 = .ok (.iaload, 1) := dk_46 (dk_at dksX6_takeRow_0 8 rfl rfl)
theorem dX6_takeRow_9 : decode cX6_takeRow 9 = .ok (.istore 5, 2) := dk_54 5 (dk_at dksX6_takeRow_0 9 rfl rfl)
theorem dX6_takeRow_11 : decode cX6_takeRow 11 = .ok (.iconst 1, 1) := dk_4 (dk_at dksX6_takeRow_0 11 rfl rfl)
theorem dX6_takeRow_12 : decode cX6_takeRow 12 = .ok (.istore 6, 2) := dk_54 6 (dk_at dksX6_takeRow_0 12 rfl rfl)
theorem dX6_takeRow_14 : decode cX6_takeRow 14 = .ok (.iconst 0, 1) := dk_3 (dk_at dksX6_takeRow_0 14 rfl rfl)
theorem dX6_takeRow_15 : decode cX6_takeRow 15 = .ok (.istore 7, 2) := dk_54 7 (dk_at dksX6_takeRow_0 15 rfl rfl)
theorem dX6_takeRow_17 : decode cX6_takeRow 17 = .ok (.iload 7, 2) := dk_21 7 (dk_at dksX6_takeRow_0 17 rfl rfl)
theorem dX6_takeRow_19 : decode cX6_takeRow 19 = .ok (.iload 5, 2) := dk_21 5 (dk_at dksX6_takeRow_0 19 rfl rfl)
theorem dX6_takeRow_21 : decode cX6_takeRow 21 = .ok (.bipush 7, 2) := dk_16 7 (dk_at dksX6_takeRow_0 21 rfl rfl)
theorem dX6_takeRow_23 : decode cX6_takeRow 23 = .ok (.iadd, 1) := dk_96 (dk_at dksX6_takeRow_0 23 rfl rfl)
theorem dX6_takeRow_24 : decode cX6_takeRow 24 = .ok (.bipush 8, 2) := dk_16 8 (dk_at dksX6_takeRow_1 0 rfl rfl)
theorem dX6_takeRow_26 : decode cX6_takeRow 26 = .ok (.idiv, 1) := dk_108 (dk_at dksX6_takeRow_1 2 rfl rfl)
theorem dX6_takeRow_27 : decode cX6_takeRow 27 = .ok (.bipush 8, 2) := dk_16 8 (dk_at dksX6_takeRow_1 3 rfl rfl)
theorem dX6_takeRow_29 : decode cX6_takeRow 29 = .ok (.imul, 1) := dk_104 (dk_at dksX6_takeRow_1 5 rfl rfl)
theorem dX6_takeRow_30 : decode cX6_takeRow 30 = .ok (.if_icmp .ge 80, 3) := dk_162 0 80 (dk_at dksX6_takeRow_1 6 rfl rfl)
theorem dX6_takeRow_33 : decode cX6_takeRow 33 = .ok (.aload_n 0, 1) := dk_42 (dk_at dksX6_takeRow_1 9 rfl rfl)
theorem dX6_takeRow_34 : decode cX6_takeRow 34 = .ok (.getfield 46, 3) := dk_180 0 46 (dk_at dksX6_takeRow_1 10 rfl rfl)
theorem dX6_takeRow_37 : decode cX6_takeRow 37 = .ok (.iload_n 3, 1) := dk_29 (dk_at dksX6_takeRow_1 13 rfl rfl)
theorem dX6_takeRow_38 : decode cX6_takeRow 38 = .ok (.iload 7, 2) := dk_21 7 (dk_at dksX6_takeRow_1 14 rfl rfl)
theorem dX6_takeRow_40 : decode cX6_takeRow 40 = .ok (.bipush 8, 2) := dk_16 8 (dk_at dksX6_takeRow_1 16 rfl rfl)
theorem dX6_takeRow_42 : decode cX6_takeRow 42 = .ok (.idiv, 1) := dk_108 (dk_at dksX6_takeRow_1 18 rfl rfl)
theorem dX6_takeRow_43 : decode cX6_takeRow 43 = .ok (.iadd, 1) := dk_96 (dk_at dksX6_takeRow_1 19 rfl rfl)
theorem dX6_takeRow_44 : decode cX6_takeRow 44 = .ok (.iaload, 1) := dk_46 (dk_at dksX6_takeRow_1 20 rfl rfl)
theorem dX6_takeRow_45 : decode cX6_takeRow 45 = .ok (.bipush 7, 2) := dk_16 7 (dk_at dksX6_takeRow_1 21 rfl rfl)
theorem dX6_takeRow_47 : decode cX6_takeRow 47 = .ok (.iload 7, 2) := dk_21 7 (dk_at dksX6_takeRow_2 0 rfl rfl)
theorem dX6_takeRow_49 : decode cX6_takeRow 49 = .ok (.bipush 8, 2) := dk_16 8 (dk_at dksX6_takeRow_2 2 rfl rfl)
theorem dX6_takeRow_51 : decode cX6_takeRow 51 = .ok (.irem, 1) := dk_112 (dk_at dksX6_takeRow_2 4 rfl rfl)
theorem dX6_takeRow_52 : decode cX6_takeRow 52 = .ok (.isub, 1) := dk_100 (dk_at dksX6_takeRow_2 5 rfl rfl)
theorem dX6_takeRow_53 : decode cX6_takeRow 53 = .ok (.ishr, 1) := dk_122 (dk_at dksX6_takeRow_2 6 rfl rfl)
theorem dX6_takeRow_54 : decode cX6_takeRow 54 = .ok (.iconst 1, 1) := dk_4 (dk_at dksX6_takeRow_2 7 rfl rfl)
theorem dX6_takeRow_55 : decode cX6_takeRow 55 = .ok (.iand, 1) := dk_126 (dk_at dksX6_takeRow_2 8 rfl rfl)
theorem dX6_takeRow_56 : decode cX6_takeRow 56 = .ok (.istore 8, 2) := dk_54 8 (dk_at dksX6_takeRow_2 9 rfl rfl)
theorem dX6_takeRow_58 : decode cX6_takeRow 58 = .ok (.iload 6, 2) := dk_21 6 (dk_at dksX6_takeRow_2 11 rfl rfl)
theorem dX6_takeRow_60 : decode cX6_takeRow 60 = .ok (.ifCond .eq 19, 3) := dk_153 0 19 (dk_at dksX6_takeRow_2 13 rfl rfl)
theorem dX6_takeRow_63 : decode cX6_takeRow 63 = .ok (.iload 7, 2) := dk_21 7 (dk_at dksX6_takeRow_2 16 rfl rfl)
theorem dX6_takeRow_65 : decode cX6_takeRow 65 = .ok (.iload 5, 2) := dk_21 5 (dk_at dksX6_takeRow_2 18 rfl rfl)
theorem dX6_takeRow_67 : decode cX6_takeRow 67 = .ok (.if_icmp .lt 8, 3) := dk_161 0 8 (dk_at dksX6_takeRow_2 20 rfl rfl)
theorem dX6_takeRow_70 : decode cX6_takeRow 70 = .ok (.iload 8, 2) := dk_21 8 (dk_at dksX6_takeRow_3 0 rfl rfl)
theorem dX6_takeRow_72 : decode cX6_takeRow 72 = .ok (.ifCond .ne 7, 3) := dk_154 0 7 (dk_at dksX6_takeRow_3 2 rfl rfl)
theorem dX6_takeRow_75 : decode cX6_takeRow 75 = .ok (.iconst 1, 1) := dk_4 (dk_at dksX6_takeRow_3 5 rfl rfl)
theorem dX6_takeRow_76 : decode cX6_takeRow 76 = .ok (.goto 4, 3) := dk_167 0 4 (dk_at dksX6_takeRow_3 6 rfl rfl)
theorem dX6_takeRow_79 : decode cX6_takeRow 79 = .ok (.iconst 0, 1) := dk_3 (dk_at dksX6_takeRow_3 9 rfl rfl)
theorem dX6_takeRow_80 : decode cX6_takeRow 80 = .ok (.istore 6, 2) := dk_54 6 (dk_at dksX6_takeRow_3 10 rfl rfl)
theorem dX6_takeRow_82 : decode cX6_takeRow 82 = .ok (.iload 7, 2) := dk_21 7 (dk_at dksX6_takeRow_3 12 rfl rfl)
theorem dX6_takeRow_84 : decode cX6_takeRow 84 = .ok (.iload 5, 2) := dk_21 5 (dk_at dksX6_takeRow_3 14 rfl rfl)
theorem dX6_takeRow_86 : decode cX6_takeRow 86 = .ok (.if_icmp .ge 14, 3) := dk_162 0 14 (dk_at dksX6_takeRow_3 16 rfl rfl)
theorem dX6_takeRow_89 : decode cX6_takeRow 89 = .ok (.iload 4, 2) := dk_21 4 (dk_at dksX6_takeRow_3 19 rfl rfl)
theorem dX6_takeRow_91 : decode cX6_takeRow 91 = .ok (.iload 8, 2) := dk_21 8 (dk_at dksX6_takeRow_3 21 rfl rfl)
theorem dX6_takeRow_93 : decode cX6_takeRow 93 = .ok (.iload 7, 2) := dk_21 7 (dk_at dksX6_takeRow_4 0 rfl rfl)
theorem dX6_takeRow_95 : decode cX6_takeRow 95 = .ok (.ishl, 1) := dk_120 (dk_at dksX6_takeRow_4 2 rfl rfl)
theorem dX6_takeRow_96 : decode cX6_takeRow 96 = .ok (.ior, 1) := dk_128 (dk_at dksX6_takeRow_4 3 rfl rfl)
theorem dX6_takeRow_97 : decode cX6_takeRow 97 = .ok (.goto 5, 3) := dk_167 0 5 (dk_at dksX6_takeRow_4 4 rfl rfl)
theorem dX6_takeRow_100 : decode cX6_takeRow 100 = .ok (.iload 4, 2) := dk_21 4 (dk_at dksX6_takeRow_4 7 rfl rfl)
theorem dX6_takeRow_102 : decode cX6_takeRow 102 = .ok (.istore 4, 2) := dk_54 4 (dk_at dksX6_takeRow_4 9 rfl rfl)
theorem dX6_takeRow_104 : decode cX6_takeRow 104 = .ok (.iinc 7 1, 3) := dk_132 7 1 (dk_at dksX6_takeRow_4 11 rfl rfl)
theorem dX6_takeRow_107 : decode cX6_takeRow 107 = .ok (.goto (-90), 3) := dk_167 255 166 (dk_at dksX6_takeRow_4 14 rfl rfl)
theorem dX6_takeRow_110 : decode cX6_takeRow 110 = .ok (.aload_n 0, 1) := dk_42 (dk_at dksX6_takeRow_4 17 rfl rfl)
theorem dX6_takeRow_111 : decode cX6_takeRow 111 = .ok (.getfield 86, 3) := dk_180 0 86 (dk_at dksX6_takeRow_4 18 rfl rfl)
theorem dX6_takeRow_114 : decode cX6_takeRow 114 = .ok (.bipush 16, 2) := dk_16 16 (dk_at dksX6_takeRow_4 21 rfl rfl)
theorem dX6_takeRow_116 : decode cX6_takeRow 116 = .ok (.iload_n 1, 1) := dk_27 (dk_at dksX6_takeRow_4 23 rfl rfl)
theorem dX6_takeRow_117 : decode cX6_takeRow 117 = .ok (.imul, 1) := dk_104 (dk_at dksX6_takeRow_5 0 rfl rfl)
theorem dX6_takeRow_118 : decode cX6_takeRow 118 = .ok (.iload_n 2, 1) := dk_28 (dk_at dksX6_takeRow_5 1 rfl rfl)
theorem dX6_takeRow_119 : decode cX6_takeRow 119 = .ok (.iadd, 1) := dk_96 (dk_at dksX6_takeRow_5 2 rfl rfl)
theorem dX6_takeRow_120 : decode cX6_takeRow 120 = .ok (.iload 4, 2) := dk_21 4 (dk_at dksX6_takeRow_5 3 rfl rfl)
theorem dX6_takeRow_122 : decode cX6_takeRow 122 = .ok (.iastore, 1) := dk_79 (dk_at dksX6_takeRow_5 5 rfl rfl)
theorem dX6_takeRow_123 : decode cX6_takeRow 123 = .ok (.iload 6, 2) := dk_21 6 (dk_at dksX6_takeRow_5 6 rfl rfl)
theorem dX6_takeRow_125 : decode cX6_takeRow 125 = .ok (.ireturn, 1) := dk_172 (dk_at dksX6_takeRow_5 8 rfl rfl)
abbrev cX6_readRows : ByteArray := prog_8_method_47_code
def yX6_readRows : MethodName := ⟨RX6, "readRows", "(I)Z"⟩
def dkwX6_readRows_4 : List UInt8 := [153, 0, 7, 4, 167, 0, 4, 3, 62, 132, 4, 1, 167, 255, 210, 42, 29, 16, 8, 27, 182, 0, 237, 172]
abbrev dktX6_readRows_4 : List UInt8 := dkwX6_readRows_4 ++ []
def dkwX6_readRows_3 : List UInt8 := [29, 153, 0, 29, 42, 27, 21, 4, 42, 180, 0, 206, 16, 17, 96, 28, 21, 4, 104, 96, 182, 0, 251]
abbrev dktX6_readRows_3 : List UInt8 := dkwX6_readRows_3 ++ dktX6_readRows_4
def dkwX6_readRows_2 : List UInt8 := [182, 0, 237, 154, 0, 5, 3, 172, 4, 62, 3, 54, 4, 21, 4, 42, 180, 0, 83, 27, 46, 162, 0, 41]
abbrev dktX6_readRows_2 : List UInt8 := dkwX6_readRows_2 ++ dktX6_readRows_3
def dkwX6_readRows_1 : List UInt8 := [133, 42, 180, 0, 83, 27, 46, 133, 105, 97, 148, 154, 0, 7, 4, 167, 0, 4, 3, 16, 7, 27]
abbrev dktX6_readRows_1 : List UInt8 := dkwX6_readRows_1 ++ dktX6_readRows_2
def dkwX6_readRows_0 : List UInt8 := [42, 180, 0, 80, 27, 46, 16, 7, 96, 16, 8, 108, 61, 42, 42, 180, 0, 70, 27, 47, 20, 0, 249, 28]
abbrev dktX6_readRows_0 : List UInt8 := dkwX6_readRows_0 ++ dktX6_readRows_1
theorem dksX6_readRows_0 : cX6_readRows.data.toList.drop 0 = dktX6_readRows_0 := by decide +kernel
theorem dksX6_readRows_1 : cX6_readRows.data.toList.drop 24 = dktX6_readRows_1 := dk_seg dksX6_readRows_0 24 rfl rfl
theorem dksX6_readRows_2 : cX6_readRows.data.toList.drop 46 = dktX6_readRows_2 := dk_seg dksX6_readRows_1 22 rfl rfl
theorem dksX6_readRows_3 : cX6_readRows.data.toList.drop 70 = dktX6_readRows_3 := dk_seg dksX6_readRows_2 24 rfl rfl
theorem dksX6_readRows_4 : cX6_readRows.data.toList.drop 93 = dktX6_readRows_4 := dk_seg dksX6_readRows_3 23 rfl rfl
theorem dX6_readRows_0 : decode cX6_readRows 0 = .ok (.aload_n 0, 1) := dk_42 (dk_at dksX6_readRows_0 0 rfl rfl)
theorem dX6_readRows_1 : decode cX6_readRows 1 = .ok (.getfield 80, 3) := dk_180 0 80 (dk_at dksX6_readRows_0 1 rfl rfl)
theorem dX6_readRows_4 : decode cX6_readRows 4 = .ok (.iload_n 1, 1) := dk_27 (dk_at dksX6_readRows_0 4 rfl rfl)
theorem dX6_readRows_5 : decode cX6_readRows 5 = .ok (.iaload, 1) := dk_46 (dk_at dksX6_readRows_0 5 rfl rfl)
theorem dX6_readRows_6 : decode cX6_readRows 6 = .ok (.bipush 7, 2) := dk_16 7 (dk_at dksX6_readRows_0 6 rfl rfl)
theorem dX6_readRows_8 : decode cX6_readRows 8 = .ok (.iadd, 1) := dk_96 (dk_at dksX6_readRows_0 8 rfl rfl)
theorem dX6_readRows_9 : decode cX6_readRows 9 = .ok (.bipush 8, 2) := dk_16 8 (dk_at dksX6_readRows_0 9 rfl rfl)
theorem dX6_readRows_11 : decode cX6_readRows 11 = .ok (.idiv, 1) := dk_108 (dk_at dksX6_readRows_0 11 rfl rfl)
theorem dX6_readRows_12 : decode cX6_readRows 12 = .ok (.istore_n 2, 1) := dk_61 (dk_at dksX6_readRows_0 12 rfl rfl)
theorem dX6_readRows_13 : decode cX6_readRows 13 = .ok (.aload_n 0, 1) := dk_42 (dk_at dksX6_readRows_0 13 rfl rfl)
theorem dX6_readRows_14 : decode cX6_readRows 14 = .ok (.aload_n 0, 1) := dk_42 (dk_at dksX6_readRows_0 14 rfl rfl)
theorem dX6_readRows_15 : decode cX6_readRows 15 = .ok (.getfield 70, 3) := dk_180 0 70 (dk_at dksX6_readRows_0 15 rfl rfl)
theorem dX6_readRows_18 : decode cX6_readRows 18 = .ok (.iload_n 1, 1) := dk_27 (dk_at dksX6_readRows_0 18 rfl rfl)
theorem dX6_readRows_19 : decode cX6_readRows 19 = .ok (.laload, 1) := dk_47 (dk_at dksX6_readRows_0 19 rfl rfl)
theorem dX6_readRows_20 : decode cX6_readRows 20 = .ok (.ldc2_w 249, 3) := dk_20 0 249 (dk_at dksX6_readRows_0 20 rfl rfl)
theorem dX6_readRows_23 : decode cX6_readRows 23 = .ok (.iload_n 2, 1) := dk_28 (dk_at dksX6_readRows_0 23 rfl rfl)
theorem dX6_readRows_24 : decode cX6_readRows 24 = .ok (.i2l, 1) := dk_133 (dk_at dksX6_readRows_1 0 rfl rfl)
theorem dX6_readRows_25 : decode cX6_readRows 25 = .ok (.aload_n 0, 1) := dk_42 (dk_at dksX6_readRows_1 1 rfl rfl)
theorem dX6_readRows_26 : decode cX6_readRows 26 = .ok (.getfield 83, 3) := dk_180 0 83 (dk_at dksX6_readRows_1 2 rfl rfl)
theorem dX6_readRows_29 : decode cX6_readRows 29 = .ok (.iload_n 1, 1) := dk_27 (dk_at dksX6_readRows_1 5 rfl rfl)
theorem dX6_readRows_30 : decode cX6_readRows 30 = .ok (.iaload, 1) := dk_46 (dk_at dksX6_readRows_1 6 rfl rfl)
theorem dX6_readRows_31 : decode cX6_readRows 31 = .ok (.i2l, 1) := dk_133 (dk_at dksX6_readRows_1 7 rfl rfl)
theorem dX6_readRows_32 : decode cX6_readRows 32 = .ok (.lmul, 1) := dk_105 (dk_at dksX6_readRows_1 8 rfl rfl)
theorem dX6_readRows_33 : decode cX6_readRows 33 = .ok (.ladd, 1) := dk_97 (dk_at dksX6_readRows_1 9 rfl rfl)
theorem dX6_readRows_34 : decode cX6_readRows 34 = .ok (.lcmp, 1) := dk_148 (dk_at dksX6_readRows_1 10 rfl rfl)
theorem dX6_readRows_35 : decode cX6_readRows 35 = .ok (.ifCond .ne 7, 3) := dk_154 0 7 (dk_at dksX6_readRows_1 11 rfl rfl)
theorem dX6_readRows_38 : decode cX6_readRows 38 = .ok (.iconst 1, 1) := dk_4 (dk_at dksX6_readRows_1 14 rfl rfl)
theorem dX6_readRows_39 : decode cX6_readRows 39 = .ok (.goto 4, 3) := dk_167 0 4 (dk_at dksX6_readRows_1 15 rfl rfl)
theorem dX6_readRows_42 : decode cX6_readRows 42 = .ok (.iconst 0, 1) := dk_3 (dk_at dksX6_readRows_1 18 rfl rfl)
theorem dX6_readRows_43 : decode cX6_readRows 43 = .ok (.bipush 7, 2) := dk_16 7 (dk_at dksX6_readRows_1 19 rfl rfl)
theorem dX6_readRows_45 : decode cX6_readRows 45 = .ok (.iload_n 1, 1) := dk_27 (dk_at dksX6_readRows_1 21 rfl rfl)
theorem dX6_readRows_46 : decode cX6_readRows 46 = .ok (.invokevirtual 237, 3) := dk_182 0 237 (dk_at dksX6_readRows_2 0 rfl rfl)
theorem dX6_readRows_49 : decode cX6_readRows 49 = .ok (.ifCond .ne 5, 3) := dk_154 0 5 (dk_at dksX6_readRows_2 3 rfl rfl)
theorem dX6_readRows_52 : decode cX6_readRows 52 = .ok (.iconst 0, 1) := dk_3 (dk_at dksX6_readRows_2 6 rfl rfl)
theorem dX6_readRows_53 : decode cX6_readRows 53 = .ok (.ireturn, 1) := dk_172 (dk_at dksX6_readRows_2 7 rfl rfl)
theorem dX6_readRows_54 : decode cX6_readRows 54 = .ok (.iconst 1, 1) := dk_4 (dk_at dksX6_readRows_2 8 rfl rfl)
theorem dX6_readRows_55 : decode cX6_readRows 55 = .ok (.istore_n 3, 1) := dk_62 (dk_at dksX6_readRows_2 9 rfl rfl)
theorem dX6_readRows_56 : decode cX6_readRows 56 = .ok (.iconst 0, 1) := dk_3 (dk_at dksX6_readRows_2 10 rfl rfl)
theorem dX6_readRows_57 : decode cX6_readRows 57 = .ok (.istore 4, 2) := dk_54 4 (dk_at dksX6_readRows_2 11 rfl rfl)
theorem dX6_readRows_59 : decode cX6_readRows 59 = .ok (.iload 4, 2) := dk_21 4 (dk_at dksX6_readRows_2 13 rfl rfl)
theorem dX6_readRows_61 : decode cX6_readRows 61 = .ok (.aload_n 0, 1) := dk_42 (dk_at dksX6_readRows_2 15 rfl rfl)
theorem dX6_readRows_62 : decode cX6_readRows 62 = .ok (.getfield 83, 3) := dk_180 0 83 (dk_at dksX6_readRows_2 16 rfl rfl)
theorem dX6_readRows_65 : decode cX6_readRows 65 = .ok (.iload_n 1, 1) := dk_27 (dk_at dksX6_readRows_2 19 rfl rfl)
theorem dX6_readRows_66 : decode cX6_readRows 66 = .ok (.iaload, 1) := dk_46 (dk_at dksX6_readRows_2 20 rfl rfl)
theorem dX6_readRows_67 : decode cX6_readRows 67 = .ok (.if_icmp .ge 41, 3) := dk_162 0 41 (dk_at dksX6_readRows_2 21 rfl rfl)
theorem dX6_readRows_70 : decode cX6_readRows 70 = .ok (.iload_n 3, 1) := dk_29 (dk_at dksX6_readRows_3 0 rfl rfl)
theorem dX6_readRows_71 : decode cX6_readRows 71 = .ok (.ifCond .eq 29, 3) := dk_153 0 29 (dk_at dksX6_readRows_3 1 rfl rfl)
theorem dX6_readRows_74 : decode cX6_readRows 74 = .ok (.aload_n 0, 1) := dk_42 (dk_at dksX6_readRows_3 4 rfl rfl)
theorem dX6_readRows_75 : decode cX6_readRows 75 = .ok (.iload_n 1, 1) := dk_27 (dk_at dksX6_readRows_3 5 rfl rfl)
theorem dX6_readRows_76 : decode cX6_readRows 76 = .ok (.iload 4, 2) := dk_21 4 (dk_at dksX6_readRows_3 6 rfl rfl)
theorem dX6_readRows_78 : decode cX6_readRows 78 = .ok (.aload_n 0, 1) := dk_42 (dk_at dksX6_readRows_3 8 rfl rfl)
theorem dX6_readRows_79 : decode cX6_readRows 79 = .ok (.getfield 206, 3) := dk_180 0 206 (dk_at dksX6_readRows_3 9 rfl rfl)
theorem dX6_readRows_82 : decode cX6_readRows 82 = .ok (.bipush 17, 2) := dk_16 17 (dk_at dksX6_readRows_3 12 rfl rfl)
theorem dX6_readRows_84 : decode cX6_readRows 84 = .ok (.iadd, 1) := dk_96 (dk_at dksX6_readRows_3 14 rfl rfl)
theorem dX6_readRows_85 : decode cX6_readRows 85 = .ok (.iload_n 2, 1) := dk_28 (dk_at dksX6_readRows_3 15 rfl rfl)
theorem dX6_readRows_86 : decode cX6_readRows 86 = .ok (.iload 4, 2) := dk_21 4 (dk_at dksX6_readRows_3 16 rfl rfl)
theorem dX6_readRows_88 : decode cX6_readRows 88 = .ok (.imul, 1) := dk_104 (dk_at dksX6_readRows_3 18 rfl rfl)
theorem dX6_readRows_89 : decode cX6_readRows 89 = .ok (.iadd, 1) := dk_96 (dk_at dksX6_readRows_3 19 rfl rfl)
theorem dX6_readRows_90 : decode cX6_readRows 90 = .ok (.invokevirtual 251, 3) := dk_182 0 251 (dk_at dksX6_readRows_3 20 rfl rfl)
theorem dX6_readRows_93 : decode cX6_readRows 93 = .ok (.ifCond .eq 7, 3) := dk_153 0 7 (dk_at dksX6_readRows_4 0 rfl rfl)
theorem dX6_readRows_96 : decode cX6_readRows 96 = .ok (.iconst 1, 1) := dk_4 (dk_at dksX6_readRows_4 3 rfl rfl)
theorem dX6_readRows_97 : decode cX6_readRows 97 = .ok (.goto 4, 3) := dk_167 0 4 (dk_at dksX6_readRows_4 4 rfl rfl)
theorem dX6_readRows_100 : decode cX6_readRows 100 = .ok (.iconst 0, 1) := dk_3 (dk_at dksX6_readRows_4 7 rfl rfl)
theorem dX6_readRows_101 : decode cX6_readRows 101 = .ok (.istore_n 3, 1) := dk_62 (dk_at dksX6_readRows_4 8 rfl rfl)
theorem dX6_readRows_102 : decode cX6_readRows 102 = .ok (.iinc 4 1, 3) := dk_132 4 1 (dk_at dksX6_readRows_4 9 rfl rfl)
theorem dX6_readRows_105 : decode cX6_readRows 105 = .ok (.goto (-46), 3) := dk_167 255 210 (dk_at dksX6_readRows_4 12 rfl rfl)
theorem dX6_readRows_108 : decode cX6_readRows 108 = .ok (.aload_n 0, 1) := dk_42 (dk_at dksX6_readRows_4 15 rfl rfl)
theorem dX6_readRows_109 : decode cX6_readRows 109 = .ok (.iload_n 3, 1) := dk_29 (dk_at dksX6_readRows_4 16 rfl rfl)
theorem dX6_readRows_110 : decode cX6_readRows 110 = .ok (.bipush 8, 2) := dk_16 8 (dk_at dksX6_readRows_4 17 rfl rfl)
theorem dX6_readRows_112 : decode cX6_readRows 112 = .ok (.iload_n 1, 1) := dk_27 (dk_at dksX6_readRows_4 19 rfl rfl)
theorem dX6_readRows_113 : decode cX6_readRows 113 = .ok (.invokevirtual 237, 3) := dk_182 0 237 (dk_at dksX6_readRows_4 20 rfl rfl)
theorem dX6_readRows_116 : decode cX6_readRows 116 = .ok (.ireturn, 1) := dk_172 (dk_at dksX6_readRows_4 23 rfl rfl)
abbrev cX6_keptOf : ByteArray := prog_8_method_40_code
def yX6_keptOf : MethodName := ⟨RX6, "keptOf", "(I)I"⟩
def dkwX6_keptOf_2 : List UInt8 := [167, 255, 210, 2, 172]
abbrev dktX6_keptOf_2 : List UInt8 := dkwX6_keptOf_2 ++ []
def dkwX6_keptOf_1 : List UInt8 := [27, 182, 0, 227, 62, 29, 155, 0, 15, 42, 180, 0, 55, 29, 46, 7, 160, 0, 5, 29, 172, 132, 2, 1]
abbrev dktX6_keptOf_1 : List UInt8 := dkwX6_keptOf_1 ++ dktX6_keptOf_2
def dkwX6_keptOf_0 : List UInt8 := [3, 61, 28, 42, 180, 0, 61, 27, 46, 162, 0, 42, 42, 42, 180, 0, 64, 16, 10, 27, 104, 28, 96, 46]
abbrev dktX6_keptOf_0 : List UInt8 := dkwX6_keptOf_0 ++ dktX6_keptOf_1
theorem dksX6_keptOf_0 : cX6_keptOf.data.toList.drop 0 = dktX6_keptOf_0 := by decide +kernel
theorem dksX6_keptOf_1 : cX6_keptOf.data.toList.drop 24 = dktX6_keptOf_1 := dk_seg dksX6_keptOf_0 24 rfl rfl
theorem dksX6_keptOf_2 : cX6_keptOf.data.toList.drop 48 = dktX6_keptOf_2 := dk_seg dksX6_keptOf_1 24 rfl rfl
theorem dX6_keptOf_0 : decode cX6_keptOf 0 = .ok (.iconst 0, 1) := dk_3 (dk_at dksX6_keptOf_0 0 rfl rfl)
theorem dX6_keptOf_1 : decode cX6_keptOf 1 = .ok (.istore_n 2, 1) := dk_61 (dk_at dksX6_keptOf_0 1 rfl rfl)
theorem dX6_keptOf_2 : decode cX6_keptOf 2 = .ok (.iload_n 2, 1) := dk_28 (dk_at dksX6_keptOf_0 2 rfl rfl)
theorem dX6_keptOf_3 : decode cX6_keptOf 3 = .ok (.aload_n 0, 1) := dk_42 (dk_at dksX6_keptOf_0 3 rfl rfl)
theorem dX6_keptOf_4 : decode cX6_keptOf 4 = .ok (.getfield 61, 3) := dk_180 0 61 (dk_at dksX6_keptOf_0 4 rfl rfl)
theorem dX6_keptOf_7 : decode cX6_keptOf 7 = .ok (.iload_n 1, 1) := dk_27 (dk_at dksX6_keptOf_0 7 rfl rfl)
theorem dX6_keptOf_8 : decode cX6_keptOf 8 = .ok (.iaload, 1) := dk_46 (dk_at dksX6_keptOf_0 8 rfl rfl)
theorem dX6_keptOf_9 : decode cX6_keptOf 9 = .ok (.if_icmp .ge 42, 3) := dk_162 0 42 (dk_at dksX6_keptOf_0 9 rfl rfl)
theorem dX6_keptOf_12 : decode cX6_keptOf 12 = .ok (.aload_n 0, 1) := dk_42 (dk_at dksX6_keptOf_0 12 rfl rfl)
theorem dX6_keptOf_13 : decode cX6_keptOf 13 = .ok (.aload_n 0, 1) := dk_42 (dk_at dksX6_keptOf_0 13 rfl rfl)
theorem dX6_keptOf_14 : decode cX6_keptOf 14 = .ok (.getfield 64, 3) := dk_180 0 64 (dk_at dksX6_keptOf_0 14 rfl rfl)
theorem dX6_keptOf_17 : decode cX6_keptOf 17 = .ok (.bipush 10, 2) := dk_16 10 (dk_at dksX6_keptOf_0 17 rfl rfl)
theorem dX6_keptOf_19 : decode cX6_keptOf 19 = .ok (.iload_n 1, 1) := dk_27 (dk_at dksX6_keptOf_0 19 rfl rfl)
theorem dX6_keptOf_20 : decode cX6_keptOf 20 = .ok (.imul, 1) := dk_104 (dk_at dksX6_keptOf_0 20 rfl rfl)
theorem dX6_keptOf_21 : decode cX6_keptOf 21 = .ok (.iload_n 2, 1) := dk_28 (dk_at dksX6_keptOf_0 21 rfl rfl)
theorem dX6_keptOf_22 : decode cX6_keptOf 22 = .ok (.iadd, 1) := dk_96 (dk_at dksX6_keptOf_0 22 rfl rfl)
theorem dX6_keptOf_23 : decode cX6_keptOf 23 = .ok (.iaload, 1) := dk_46 (dk_at dksX6_keptOf_0 23 rfl rfl)
theorem dX6_keptOf_24 : decode cX6_keptOf 24 = .ok (.iload_n 1, 1) := dk_27 (dk_at dksX6_keptOf_1 0 rfl rfl)
theorem dX6_keptOf_25 : decode cX6_keptOf 25 = .ok (.invokevirtual 227, 3) := dk_182 0 227 (dk_at dksX6_keptOf_1 1 rfl rfl)
theorem dX6_keptOf_28 : decode cX6_keptOf 28 = .ok (.istore_n 3, 1) := dk_62 (dk_at dksX6_keptOf_1 4 rfl rfl)
theorem dX6_keptOf_29 : decode cX6_keptOf 29 = .ok (.iload_n 3, 1) := dk_29 (dk_at dksX6_keptOf_1 5 rfl rfl)
theorem dX6_keptOf_30 : decode cX6_keptOf 30 = .ok (.ifCond .lt 15, 3) := dk_155 0 15 (dk_at dksX6_keptOf_1 6 rfl rfl)
theorem dX6_keptOf_33 : decode cX6_keptOf 33 = .ok (.aload_n 0, 1) := dk_42 (dk_at dksX6_keptOf_1 9 rfl rfl)
theorem dX6_keptOf_34 : decode cX6_keptOf 34 = .ok (.getfield 55, 3) := dk_180 0 55 (dk_at dksX6_keptOf_1 10 rfl rfl)
theorem dX6_keptOf_37 : decode cX6_keptOf 37 = .ok (.iload_n 3, 1) := dk_29 (dk_at dksX6_keptOf_1 13 rfl rfl)
theorem dX6_keptOf_38 : decode cX6_keptOf 38 = .ok (.iaload, 1) := dk_46 (dk_at dksX6_keptOf_1 14 rfl rfl)
theorem dX6_keptOf_39 : decode cX6_keptOf 39 = .ok (.iconst 4, 1) := dk_7 (dk_at dksX6_keptOf_1 15 rfl rfl)
theorem dX6_keptOf_40 : decode cX6_keptOf 40 = .ok (.if_icmp .ne 5, 3) := dk_160 0 5 (dk_at dksX6_keptOf_1 16 rfl rfl)
theorem dX6_keptOf_43 : decode cX6_keptOf 43 = .ok (.iload_n 3, 1) := dk_29 (dk_at dksX6_keptOf_1 19 rfl rfl)
theorem dX6_keptOf_44 : decode cX6_keptOf 44 = .ok (.ireturn, 1) := dk_172 (dk_at dksX6_keptOf_1 20 rfl rfl)
theorem dX6_keptOf_45 : decode cX6_keptOf 45 = .ok (.iinc 2 1, 3) := dk_132 2 1 (dk_at dksX6_keptOf_1 21 rfl rfl)
theorem dX6_keptOf_48 : decode cX6_keptOf 48 = .ok (.goto (-46), 3) := dk_167 255 210 (dk_at dksX6_keptOf_2 0 rfl rfl)
theorem dX6_keptOf_51 : decode cX6_keptOf 51 = .ok (.iconst (-1), 1) := dk_2 (dk_at dksX6_keptOf_2 3 rfl rfl)
theorem dX6_keptOf_52 : decode cX6_keptOf 52 = .ok (.ireturn, 1) := dk_172 (dk_at dksX6_keptOf_2 4 rfl rfl)
abbrev cX6_putUpon : ByteArray := prog_8_method_50_code
def yX6_putUpon : MethodName := ⟨RX6, "putUpon", "(IIII)V"⟩
def dkwX6_putUpon_7 : List UInt8 := [184, 0, 254, 84, 132, 9, 1, 167, 255, 153, 132, 8, 1, 167, 255, 133, 177]
abbrev dktX6_putUpon_7 : List UInt8 := dkwX6_putUpon_7 ++ []
def dkwX6_putUpon_6 : List UInt8 := [16, 16, 27, 104, 21, 8, 96, 46, 21, 9, 122, 4, 126, 4, 160, 0, 7, 4, 167, 0, 4, 3]
abbrev dktX6_putUpon_6 : List UInt8 := dkwX6_putUpon_6 ++ dktX6_putUpon_7
def dkwX6_putUpon_5 : List UInt8 := [21, 9, 96, 54, 10, 42, 180, 0, 108, 21, 10, 21, 7, 42, 180, 0, 108, 21, 10, 51, 42, 180, 0, 86]
abbrev dktX6_putUpon_5 : List UInt8 := dkwX6_putUpon_5 ++ dktX6_putUpon_6
def dkwX6_putUpon_4 : List UInt8 := [21, 8, 96, 21, 6, 162, 0, 69, 17, 4, 0, 21, 5, 104, 16, 32, 29, 21, 8, 96, 104, 96, 28, 96]
abbrev dktX6_putUpon_4 : List UInt8 := dkwX6_putUpon_4 ++ dktX6_putUpon_5
def dkwX6_putUpon_3 : List UInt8 := [180, 0, 80, 27, 46, 162, 0, 98, 28, 21, 9, 96, 42, 180, 0, 93, 21, 5, 46, 162, 0, 78, 29]
abbrev dktX6_putUpon_3 : List UInt8 := dkwX6_putUpon_3 ++ dktX6_putUpon_4
def dkwX6_putUpon_2 : List UInt8 := [21, 4, 54, 7, 3, 54, 8, 21, 8, 42, 180, 0, 83, 27, 46, 162, 0, 118, 3, 54, 9, 21, 9, 42]
abbrev dktX6_putUpon_2 : List UInt8 := dkwX6_putUpon_2 ++ dktX6_putUpon_3
def dkwX6_putUpon_1 : List UInt8 := [180, 0, 96, 21, 5, 46, 54, 6, 21, 4, 8, 160, 0, 13, 42, 180, 0, 99, 21, 5, 46, 167, 0, 5]
abbrev dktX6_putUpon_1 : List UInt8 := dkwX6_putUpon_1 ++ dktX6_putUpon_2
def dkwX6_putUpon_0 : List UInt8 := [42, 180, 0, 58, 27, 46, 54, 5, 42, 180, 0, 96, 21, 5, 46, 156, 0, 8, 16, 32, 167, 0, 10, 42]
abbrev dktX6_putUpon_0 : List UInt8 := dkwX6_putUpon_0 ++ dktX6_putUpon_1
theorem dksX6_putUpon_0 : cX6_putUpon.data.toList.drop 0 = dktX6_putUpon_0 := by decide +kernel
theorem dksX6_putUpon_1 : cX6_putUpon.data.toList.drop 24 = dktX6_putUpon_1 := dk_seg dksX6_putUpon_0 24 rfl rfl
theorem dksX6_putUpon_2 : cX6_putUpon.data.toList.drop 48 = dktX6_putUpon_2 := dk_seg dksX6_putUpon_1 24 rfl rfl
theorem dksX6_putUpon_3 : cX6_putUpon.data.toList.drop 72 = dktX6_putUpon_3 := dk_seg dksX6_putUpon_2 24 rfl rfl
theorem dksX6_putUpon_4 : cX6_putUpon.data.toList.drop 95 = dktX6_putUpon_4 := dk_seg dksX6_putUpon_3 23 rfl rfl
theorem dksX6_putUpon_5 : cX6_putUpon.data.toList.drop 119 = dktX6_putUpon_5 := dk_seg dksX6_putUpon_4 24 rfl rfl
theorem dksX6_putUpon_6 : cX6_putUpon.data.toList.drop 143 = dktX6_putUpon_6 := dk_seg dksX6_putUpon_5 24 rfl rfl
theorem dksX6_putUpon_7 : cX6_putUpon.data.toList.drop 165 = dktX6_putUpon_7 := dk_seg dksX6_putUpon_6 22 rfl rfl
theorem dX6_putUpon_0 : decode cX6_putUpon 0 = .ok (.aload_n 0, 1) := dk_42 (dk_at dksX6_putUpon_0 0 rfl rfl)
theorem dX6_putUpon_1 : decode cX6_putUpon 1 = .ok (.getfield 58, 3) := dk_180 0 58 (dk_at dksX6_putUpon_0 1 rfl rfl)
theorem dX6_putUpon_4 : decode cX6_putUpon 4 = .ok (.iload_n 1, 1) := dk_27 (dk_at dksX6_putUpon_0 4 rfl rfl)
theorem dX6_putUpon_5 : decode cX6_putUpon 5 = .ok (.iaload, 1) := dk_46 (dk_at dksX6_putUpon_0 5 rfl rfl)
theorem dX6_putUpon_6 : decode cX6_putUpon 6 = .ok (.istore 5, 2) := dk_54 5 (dk_at dksX6_putUpon_0 6 rfl rfl)
theorem dX6_putUpon_8 : decode cX6_putUpon 8 = .ok (.aload_n 0, 1) := dk_42 (dk_at dksX6_putUpon_0 8 rfl rfl)
theorem dX6_putUpon_9 : decode cX6_putUpon 9 = .ok (.getfield 96, 3) := dk_180 0 96 (dk_at dksX6_putUpon_0 9 rfl rfl)
theorem dX6_putUpon_12 : decode cX6_putUpon 12 = .ok (.iload 5, 2) := dk_21 5 (dk_at dksX6_putUpon_0 12 rfl rfl)
theorem dX6_putUpon_14 : decode cX6_putUpon 14 = .ok (.iaload, 1) := dk_46 (dk_at dksX6_putUpon_0 14 rfl rfl)
theorem dX6_putUpon_15 : decode cX6_putUpon 15 = .ok (.ifCond .ge 8, 3) := dk_156 0 8 (dk_at dksX6_putUpon_0 15 rfl rfl)
theorem dX6_putUpon_18 : decode cX6_putUpon 18 = .ok (.bipush 32, 2) := dk_16 32 (dk_at dksX6_putUpon_0 18 rfl rfl)
theorem dX6_putUpon_20 : decode cX6_putUpon 20 = .ok (.goto 10, 3) := dk_167 0 10 (dk_at dksX6_putUpon_0 20 rfl rfl)
theorem dX6_putUpon_23 : decode cX6_putUpon 23 = .ok (.aload_n 0, 1) := dk_42 (dk_at dksX6_putUpon_0 23 rfl rfl)
theorem dX6_putUpon_24 : decode cX6_putUpon 24 = .ok (.getfield 96, 3) := dk_180 0 96 (dk_at dksX6_putUpon_1 0 rfl rfl)
theorem dX6_putUpon_27 : decode cX6_putUpon 27 = .ok (.iload 5, 2) := dk_21 5 (dk_at dksX6_putUpon_1 3 rfl rfl)
theorem dX6_putUpon_29 : decode cX6_putUpon 29 = .ok (.iaload, 1) := dk_46 (dk_at dksX6_putUpon_1 5 rfl rfl)
theorem dX6_putUpon_30 : decode cX6_putUpon 30 = .ok (.istore 6, 2) := dk_54 6 (dk_at dksX6_putUpon_1 6 rfl rfl)
theorem dX6_putUpon_32 : decode cX6_putUpon 32 = .ok (.iload 4, 2) := dk_21 4 (dk_at dksX6_putUpon_1 8 rfl rfl)
theorem dX6_putUpon_34 : decode cX6_putUpon 34 = .ok (.iconst 5, 1) := dk_8 (dk_at dksX6_putUpon_1 10 rfl rfl)
theorem dX6_putUpon_35 : decode cX6_putUpon 35 = .ok (.if_icmp .ne 13, 3) := dk_160 0 13 (dk_at dksX6_putUpon_1 11 rfl rfl)
theorem dX6_putUpon_38 : decode cX6_putUpon 38 = .ok (.aload_n 0, 1) := dk_42 (dk_at dksX6_putUpon_1 14 rfl rfl)
theorem dX6_putUpon_39 : decode cX6_putUpon 39 = .ok (.getfield 99, 3) := dk_180 0 99 (dk_at dksX6_putUpon_1 15 rfl rfl)
theorem dX6_putUpon_42 : decode cX6_putUpon 42 = .ok (.iload 5, 2) := dk_21 5 (dk_at dksX6_putUpon_1 18 rfl rfl)
theorem dX6_putUpon_44 : decode cX6_putUpon 44 = .ok (.iaload, 1) := dk_46 (dk_at dksX6_putUpon_1 20 rfl rfl)
theorem dX6_putUpon_45 : decode cX6_putUpon 45 = .ok (.goto 5, 3) := dk_167 0 5 (dk_at dksX6_putUpon_1 21 rfl rfl)
theorem dX6_putUpon_48 : decode cX6_putUpon 48 = .ok (.iload 4, 2) := dk_21 4 (dk_at dksX6_putUpon_2 0 rfl rfl)
theorem dX6_putUpon_50 : decode cX6_putUpon 50 = .ok (.istore 7, 2) := dk_54 7 (dk_at dksX6_putUpon_2 2 rfl rfl)
theorem dX6_putUpon_52 : decode cX6_putUpon 52 = .ok (.iconst 0, 1) := dk_3 (dk_at dksX6_putUpon_2 4 rfl rfl)
theorem dX6_putUpon_53 : decode cX6_putUpon 53 = .ok (.istore 8, 2) := dk_54 8 (dk_at dksX6_putUpon_2 5 rfl rfl)
theorem dX6_putUpon_55 : decode cX6_putUpon 55 = .ok (.iload 8, 2) := dk_21 8 (dk_at dksX6_putUpon_2 7 rfl rfl)
theorem dX6_putUpon_57 : decode cX6_putUpon 57 = .ok (.aload_n 0, 1) := dk_42 (dk_at dksX6_putUpon_2 9 rfl rfl)
theorem dX6_putUpon_58 : decode cX6_putUpon 58 = .ok (.getfield 83, 3) := dk_180 0 83 (dk_at dksX6_putUpon_2 10 rfl rfl)
theorem dX6_putUpon_61 : decode cX6_putUpon 61 = .ok (.iload_n 1, 1) := dk_27 (dk_at dksX6_putUpon_2 13 rfl rfl)
theorem dX6_putUpon_62 : decode cX6_putUpon 62 = .ok (.iaload, 1) := dk_46 (dk_at dksX6_putUpon_2 14 rfl rfl)
theorem dX6_putUpon_63 : decode cX6_putUpon 63 = .ok (.if_icmp .ge 118, 3) := dk_162 0 118 (dk_at dksX6_putUpon_2 15 rfl rfl)
theorem dX6_putUpon_66 : decode cX6_putUpon 66 = .ok (.iconst 0, 1) := dk_3 (dk_at dksX6_putUpon_2 18 rfl rfl)
theorem dX6_putUpon_67 : decode cX6_putUpon 67 = .ok (.istore 9, 2) := dk_54 9 (dk_at dksX6_putUpon_2 19 rfl rfl)
theorem dX6_putUpon_69 : decode cX6_putUpon 69 = .ok (.iload 9, 2) := dk_21 9 (dk_at dksX6_putUpon_2 21 rfl rfl)
theorem dX6_putUpon_71 : decode cX6_putUpon 71 = .ok (.aload_n 0, 1) := dk_42 (dk_at dksX6_putUpon_2 23 rfl rfl)
theorem dX6_putUpon_72 : decode cX6_putUpon 72 = .ok (.getfield 80, 3) := dk_180 0 80 (dk_at dksX6_putUpon_3 0 rfl rfl)
theorem dX6_putUpon_75 : decode cX6_putUpon 75 = .ok (.iload_n 1, 1) := dk_27 (dk_at dksX6_putUpon_3 3 rfl rfl)
theorem dX6_putUpon_76 : decode cX6_putUpon 76 = .ok (.iaload, 1) := dk_46 (dk_at dksX6_putUpon_3 4 rfl rfl)
theorem dX6_putUpon_77 : decode cX6_putUpon 77 = .ok (.if_icmp .ge 98, 3) := dk_162 0 98 (dk_at dksX6_putUpon_3 5 rfl rfl)
theorem dX6_putUpon_80 : decode cX6_putUpon 80 = .ok (.iload_n 2, 1) := dk_28 (dk_at dksX6_putUpon_3 8 rfl rfl)
theorem dX6_putUpon_81 : decode cX6_putUpon 81 = .ok (.iload 9, 2) := dk_21 9 (dk_at dksX6_putUpon_3 9 rfl rfl)
theorem dX6_putUpon_83 : decode cX6_putUpon 83 = .ok (.iadd, 1) := dk_96 (dk_at dksX6_putUpon_3 11 rfl rfl)
theorem dX6_putUpon_84 : decode cX6_putUpon 84 = .ok (.aload_n 0, 1) := dk_42 (dk_at dksX6_putUpon_3 12 rfl rfl)
theorem dX6_putUpon_85 : decode cX6_putUpon 85 = .ok (.getfield 93, 3) := dk_180 0 93 (dk_at dksX6_putUpon_3 13 rfl rfl)
theorem dX6_putUpon_88 : decode cX6_putUpon 88 = .ok (.iload 5, 2) := dk_21 5 (dk_at dksX6_putUpon_3 16 rfl rfl)
theorem dX6_putUpon_90 : decode cX6_putUpon 90 = .ok (.iaload, 1) := dk_46 (dk_at dksX6_putUpon_3 18 rfl rfl)
theorem dX6_putUpon_91 : decode cX6_putUpon 91 = .ok (.if_icmp .ge 78, 3) := dk_162 0 78 (dk_at dksX6_putUpon_3 19 rfl rfl)
theorem dX6_putUpon_94 : decode cX6_putUpon 94 = .ok (.iload_n 3, 1) := dk_29 (dk_at dksX6_putUpon_3 22 rfl rfl)
theorem dX6_putUpon_95 : decode cX6_putUpon 95 = .ok (.iload 8, 2) := dk_21 8 (dk_at dksX6_putUpon_4 0 rfl rfl)
theorem dX6_putUpon_97 : decode cX6_putUpon 97 = .ok (.iadd, 1) := dk_96 (dk_at dksX6_putUpon_4 2 rfl rfl)
theorem dX6_putUpon_98 : decode cX6_putUpon 98 = .ok (.iload 6, 2) := dk_21 6 (dk_at dksX6_putUpon_4 3 rfl rfl)
theorem dX6_putUpon_100 : decode cX6_putUpon 100 = .ok (.if_icmp .ge 69, 3) := dk_162 0 69 (dk_at dksX6_putUpon_4 5 rfl rfl)
theorem dX6_putUpon_103 : decode cX6_putUpon 103 = .ok (.sipush 1024, 3) := dk_17 4 0 (dk_at dksX6_putUpon_4 8 rfl rfl)
theorem dX6_putUpon_106 : decode cX6_putUpon 106 = .ok (.iload 5, 2) := dk_21 5 (dk_at dksX6_putUpon_4 11 rfl rfl)
theorem dX6_putUpon_108 : decode cX6_putUpon 108 = .ok (.imul, 1) := dk_104 (dk_at dksX6_putUpon_4 13 rfl rfl)
theorem dX6_putUpon_109 : decode cX6_putUpon 109 = .ok (.bipush 32, 2) := dk_16 32 (dk_at dksX6_putUpon_4 14 rfl rfl)
theorem dX6_putUpon_111 : decode cX6_putUpon 111 = .ok (.iload_n 3, 1) := dk_29 (dk_at dksX6_putUpon_4 16 rfl rfl)
theorem dX6_putUpon_112 : decode cX6_putUpon 112 = .ok (.iload 8, 2) := dk_21 8 (dk_at dksX6_putUpon_4 17 rfl rfl)
theorem dX6_putUpon_114 : decode cX6_putUpon 114 = .ok (.iadd, 1) := dk_96 (dk_at dksX6_putUpon_4 19 rfl rfl)
theorem dX6_putUpon_115 : decode cX6_putUpon 115 = .ok (.imul, 1) := dk_104 (dk_at dksX6_putUpon_4 20 rfl rfl)
theorem dX6_putUpon_116 : decode cX6_putUpon 116 = .ok (.iadd, 1) := dk_96 (dk_at dksX6_putUpon_4 21 rfl rfl)
theorem dX6_putUpon_117 : decode cX6_putUpon 117 = .ok (.iload_n 2, 1) := dk_28 (dk_at dksX6_putUpon_4 22 rfl rfl)
theorem dX6_putUpon_118 : decode cX6_putUpon 118 = .ok (.iadd, 1) := dk_96 (dk_at dksX6_putUpon_4 23 rfl rfl)
theorem dX6_putUpon_119 : decode cX6_putUpon 119 = .ok (.iload 9, 2) := dk_21 9 (dk_at dksX6_putUpon_5 0 rfl rfl)
theorem dX6_putUpon_121 : decode cX6_putUpon 121 = .ok (.iadd, 1) := dk_96 (dk_at dksX6_putUpon_5 2 rfl rfl)
theorem dX6_putUpon_122 : decode cX6_putUpon 122 = .ok (.istore 10, 2) := dk_54 10 (dk_at dksX6_putUpon_5 3 rfl rfl)
theorem dX6_putUpon_124 : decode cX6_putUpon 124 = .ok (.aload_n 0, 1) := dk_42 (dk_at dksX6_putUpon_5 5 rfl rfl)
theorem dX6_putUpon_125 : decode cX6_putUpon 125 = .ok (.getfield 108, 3) := dk_180 0 108 (dk_at dksX6_putUpon_5 6 rfl rfl)
theorem dX6_putUpon_128 : decode cX6_putUpon 128 = .ok (.iload 10, 2) := dk_21 10 (dk_at dksX6_putUpon_5 9 rfl rfl)
theorem dX6_putUpon_130 : decode cX6_putUpon 130 = .ok (.iload 7, 2) := dk_21 7 (dk_at dksX6_putUpon_5 11 rfl rfl)
theorem dX6_putUpon_132 : decode cX6_putUpon 132 = .ok (.aload_n 0, 1) := dk_42 (dk_at dksX6_putUpon_5 13 rfl rfl)
theorem dX6_putUpon_133 : decode cX6_putUpon 133 = .ok (.getfield 108, 3) := dk_180 0 108 (dk_at dksX6_putUpon_5 14 rfl rfl)
theorem dX6_putUpon_136 : decode cX6_putUpon 136 = .ok (.iload 10, 2) := dk_21 10 (dk_at dksX6_putUpon_5 17 rfl rfl)
theorem dX6_putUpon_138 : decode cX6_putUpon 138 = .ok (.baload, 1) := dk_51 (dk_at dksX6_putUpon_5 19 rfl rfl)
theorem dX6_putUpon_139 : decode cX6_putUpon 139 = .ok (.aload_n 0, 1) := dk_42 (dk_at dksX6_putUpon_5 20 rfl rfl)
theorem dX6_putUpon_140 : decode cX6_putUpon 140 = .ok (.getfield 86, 3) := dk_180 0 86 (dk_at dksX6_putUpon_5 21 rfl rfl)
theorem dX6_putUpon_143 : decode cX6_putUpon 143 = .ok (.bipush 16, 2) := dk_16 16 (dk_at dksX6_putUpon_6 0 rfl rfl)
theorem dX6_putUpon_145 : decode cX6_putUpon 145 = .ok (.iload_n 1, 1) := dk_27 (dk_at dksX6_putUpon_6 2 rfl rfl)
theorem dX6_putUpon_146 : decode cX6_putUpon 146 = .ok (.imul, 1) := dk_104 (dk_at dksX6_putUpon_6 3 rfl rfl)
theorem dX6_putUpon_147 : decode cX6_putUpon 147 = .ok (.iload 8, 2) := dk_21 8 (dk_at dksX6_putUpon_6 4 rfl rfl)
theorem dX6_putUpon_149 : decode cX6_putUpon 149 = .ok (.iadd, 1) := dk_96 (dk_at dksX6_putUpon_6 6 rfl rfl)
theorem dX6_putUpon_150 : decode cX6_putUpon 150 = .ok (.iaload, 1) := dk_46 (dk_at dksX6_putUpon_6 7 rfl rfl)
theorem dX6_putUpon_151 : decode cX6_putUpon 151 = .ok (.iload 9, 2) := dk_21 9 (dk_at dksX6_putUpon_6 8 rfl rfl)
theorem dX6_putUpon_153 : decode cX6_putUpon 153 = .ok (.ishr, 1) := dk_122 (dk_at dksX6_putUpon_6 10 rfl rfl)
theorem dX6_putUpon_154 : decode cX6_putUpon 154 = .ok (.iconst 1, 1) := dk_4 (dk_at dksX6_putUpon_6 11 rfl rfl)
theorem dX6_putUpon_155 : decode cX6_putUpon 155 = .ok (.iand, 1) := dk_126 (dk_at dksX6_putUpon_6 12 rfl rfl)
theorem dX6_putUpon_156 : decode cX6_putUpon 156 = .ok (.iconst 1, 1) := dk_4 (dk_at dksX6_putUpon_6 13 rfl rfl)
theorem dX6_putUpon_157 : decode cX6_putUpon 157 = .ok (.if_icmp .ne 7, 3) := dk_160 0 7 (dk_at dksX6_putUpon_6 14 rfl rfl)
theorem dX6_putUpon_160 : decode cX6_putUpon 160 = .ok (.iconst 1, 1) := dk_4 (dk_at dksX6_putUpon_6 17 rfl rfl)
theorem dX6_putUpon_161 : decode cX6_putUpon 161 = .ok (.goto 4, 3) := dk_167 0 4 (dk_at dksX6_putUpon_6 18 rfl rfl)
theorem dX6_putUpon_164 : decode cX6_putUpon 164 = .ok (.iconst 0, 1) := dk_3 (dk_at dksX6_putUpon_6 21 rfl rfl)
theorem dX6_putUpon_165 : decode cX6_putUpon 165 = .ok (.invokestatic 254, 3) := dk_184 0 254 (dk_at dksX6_putUpon_7 0 rfl rfl)
theorem dX6_putUpon_168 : decode cX6_putUpon 168 = .ok (.bastore, 1) := dk_84 (dk_at dksX6_putUpon_7 3 rfl rfl)
theorem dX6_putUpon_169 : decode cX6_putUpon 169 = .ok (.iinc 9 1, 3) := dk_132 9 1 (dk_at dksX6_putUpon_7 4 rfl rfl)
theorem dX6_putUpon_172 : decode cX6_putUpon 172 = .ok (.goto (-103), 3) := dk_167 255 153 (dk_at dksX6_putUpon_7 7 rfl rfl)
theorem dX6_putUpon_175 : decode cX6_putUpon 175 = .ok (.iinc 8 1, 3) := dk_132 8 1 (dk_at dksX6_putUpon_7 10 rfl rfl)
theorem dX6_putUpon_178 : decode cX6_putUpon 178 = .ok (.goto (-123), 3) := dk_167 255 133 (dk_at dksX6_putUpon_7 13 rfl rfl)
theorem dX6_putUpon_181 : decode cX6_putUpon 181 = .ok (.return_, 1) := dk_177 (dk_at dksX6_putUpon_7 16 rfl rfl)
abbrev cX6_joined : ByteArray := prog_8_method_49_code
def yX6_joined : MethodName := ⟨RX6, "joined", "(IZZ)Z"⟩
def dkwX6_joined_4 : List UInt8 := [167, 0, 4, 3, 172, 28, 172]
abbrev dktX6_joined_4 : List UInt8 := dkwX6_joined_4 ++ []
def dkwX6_joined_3 : List UInt8 := [167, 0, 4, 3, 172, 27, 28, 159, 0, 7, 4, 167, 0, 4, 3, 172, 27, 28, 160, 0, 7, 4]
abbrev dktX6_joined_3 : List UInt8 := dkwX6_joined_3 ++ dktX6_joined_4
def dkwX6_joined_2 : List UInt8 := [27, 154, 0, 7, 28, 153, 0, 7, 4, 167, 0, 4, 3, 172, 27, 153, 0, 11, 28, 153, 0, 7, 4]
abbrev dktX6_joined_2 : List UInt8 := dkwX6_joined_2 ++ dktX6_joined_3
def dkwX6_joined_1 : List UInt8 := [170, 0, 0, 0, 0, 0, 81, 0, 0, 0, 0, 0, 0, 0, 3, 0, 0, 0, 31, 0, 0, 0, 45, 0, 0, 0, 59, 0, 0, 0, 70]
abbrev dktX6_joined_1 : List UInt8 := dkwX6_joined_1 ++ dktX6_joined_2
def dkwX6_joined_0 : List UInt8 := [26]
abbrev dktX6_joined_0 : List UInt8 := dkwX6_joined_0 ++ dktX6_joined_1
theorem dksX6_joined_0 : cX6_joined.data.toList.drop 0 = dktX6_joined_0 := by decide +kernel
theorem dksX6_joined_1 : cX6_joined.data.toList.drop 1 = dktX6_joined_1 := dk_seg dksX6_joined_0 1 rfl rfl
theorem dksX6_joined_2 : cX6_joined.data.toList.drop 32 = dktX6_joined_2 := dk_seg dksX6_joined_1 31 rfl rfl
theorem dksX6_joined_3 : cX6_joined.data.toList.drop 55 = dktX6_joined_3 := dk_seg dksX6_joined_2 23 rfl rfl
theorem dksX6_joined_4 : cX6_joined.data.toList.drop 77 = dktX6_joined_4 := dk_seg dksX6_joined_3 22 rfl rfl
theorem dX6_joined_0 : decode cX6_joined 0 = .ok (.iload_n 0, 1) := dk_26 (dk_at dksX6_joined_0 0 rfl rfl)
theorem dX6_joined_1 : decode cX6_joined 1 = .ok (.tableswitch 81 0 3 #[31, 45, 59, 70], 31) := by decide +kernel
theorem dX6_joined_32 : decode cX6_joined 32 = .ok (.iload_n 1, 1) := dk_27 (dk_at dksX6_joined_2 0 rfl rfl)
theorem dX6_joined_33 : decode cX6_joined 33 = .ok (.ifCond .ne 7, 3) := dk_154 0 7 (dk_at dksX6_joined_2 1 rfl rfl)
theorem dX6_joined_36 : decode cX6_joined 36 = .ok (.iload_n 2, 1) := dk_28 (dk_at dksX6_joined_2 4 rfl rfl)
theorem dX6_joined_37 : decode cX6_joined 37 = .ok (.ifCond .eq 7, 3) := dk_153 0 7 (dk_at dksX6_joined_2 5 rfl rfl)
theorem dX6_joined_40 : decode cX6_joined 40 = .ok (.iconst 1, 1) := dk_4 (dk_at dksX6_joined_2 8 rfl rfl)
theorem dX6_joined_41 : decode cX6_joined 41 = .ok (.goto 4, 3) := dk_167 0 4 (dk_at dksX6_joined_2 9 rfl rfl)
theorem dX6_joined_44 : decode cX6_joined 44 = .ok (.iconst 0, 1) := dk_3 (dk_at dksX6_joined_2 12 rfl rfl)
theorem dX6_joined_45 : decode cX6_joined 45 = .ok (.ireturn, 1) := dk_172 (dk_at dksX6_joined_2 13 rfl rfl)
theorem dX6_joined_46 : decode cX6_joined 46 = .ok (.iload_n 1, 1) := dk_27 (dk_at dksX6_joined_2 14 rfl rfl)
theorem dX6_joined_47 : decode cX6_joined 47 = .ok (.ifCond .eq 11, 3) := dk_153 0 11 (dk_at dksX6_joined_2 15 rfl rfl)
theorem dX6_joined_50 : decode cX6_joined 50 = .ok (.iload_n 2, 1) := dk_28 (dk_at dksX6_joined_2 18 rfl rfl)
theorem dX6_joined_51 : decode cX6_joined 51 = .ok (.ifCond .eq 7, 3) := dk_153 0 7 (dk_at dksX6_joined_2 19 rfl rfl)
theorem dX6_joined_54 : decode cX6_joined 54 = .ok (.iconst 1, 1) := dk_4 (dk_at dksX6_joined_2 22 rfl rfl)
theorem dX6_joined_55 : decode cX6_joined 55 = .ok (.goto 4, 3) := dk_167 0 4 (dk_at dksX6_joined_3 0 rfl rfl)
theorem dX6_joined_58 : decode cX6_joined 58 = .ok (.iconst 0, 1) := dk_3 (dk_at dksX6_joined_3 3 rfl rfl)
theorem dX6_joined_59 : decode cX6_joined 59 = .ok (.ireturn, 1) := dk_172 (dk_at dksX6_joined_3 4 rfl rfl)
theorem dX6_joined_60 : decode cX6_joined 60 = .ok (.iload_n 1, 1) := dk_27 (dk_at dksX6_joined_3 5 rfl rfl)
theorem dX6_joined_61 : decode cX6_joined 61 = .ok (.iload_n 2, 1) := dk_28 (dk_at dksX6_joined_3 6 rfl rfl)
theorem dX6_joined_62 : decode cX6_joined 62 = .ok (.if_icmp .eq 7, 3) := dk_159 0 7 (dk_at dksX6_joined_3 7 rfl rfl)
theorem dX6_joined_65 : decode cX6_joined 65 = .ok (.iconst 1, 1) := dk_4 (dk_at dksX6_joined_3 10 rfl rfl)
theorem dX6_joined_66 : decode cX6_joined 66 = .ok (.goto 4, 3) := dk_167 0 4 (dk_at dksX6_joined_3 11 rfl rfl)
theorem dX6_joined_69 : decode cX6_joined 69 = .ok (.iconst 0, 1) := dk_3 (dk_at dksX6_joined_3 14 rfl rfl)
theorem dX6_joined_70 : decode cX6_joined 70 = .ok (.ireturn, 1) := dk_172 (dk_at dksX6_joined_3 15 rfl rfl)
theorem dX6_joined_71 : decode cX6_joined 71 = .ok (.iload_n 1, 1) := dk_27 (dk_at dksX6_joined_3 16 rfl rfl)
theorem dX6_joined_72 : decode cX6_joined 72 = .ok (.iload_n 2, 1) := dk_28 (dk_at dksX6_joined_3 17 rfl rfl)
theorem dX6_joined_73 : decode cX6_joined 73 = .ok (.if_icmp .ne 7, 3) := dk_160 0 7 (dk_at dksX6_joined_3 18 rfl rfl)
theorem dX6_joined_76 : decode cX6_joined 76 = .ok (.iconst 1, 1) := dk_4 (dk_at dksX6_joined_3 21 rfl rfl)
theorem dX6_joined_77 : decode cX6_joined 77 = .ok (.goto 4, 3) := dk_167 0 4 (dk_at dksX6_joined_4 0 rfl rfl)
theorem dX6_joined_80 : decode cX6_joined 80 = .ok (.iconst 0, 1) := dk_3 (dk_at dksX6_joined_4 3 rfl rfl)
theorem dX6_joined_81 : decode cX6_joined 81 = .ok (.ireturn, 1) := dk_172 (dk_at dksX6_joined_4 4 rfl rfl)
theorem dX6_joined_82 : decode cX6_joined 82 = .ok (.iload_n 2, 1) := dk_28 (dk_at dksX6_joined_4 5 rfl rfl)
theorem dX6_joined_83 : decode cX6_joined 83 = .ok (.ireturn, 1) := dk_172 (dk_at dksX6_joined_4 6 rfl rfl)
abbrev cX6_letAllGo : ByteArray := prog_8_method_53_code
def yX6_letAllGo : MethodName := ⟨RX6, "letAllGo", "(I)V"⟩
def dkwX6_letAllGo_3 : List UInt8 := [180, 0, 52, 27, 46, 79, 132, 2, 1, 167, 255, 201, 177]
abbrev dktX6_letAllGo_3 : List UInt8 := dkwX6_letAllGo_3 ++ []
def dkwX6_letAllGo_2 : List UInt8 := [154, 0, 30, 42, 180, 0, 77, 42, 42, 180, 0, 64, 16, 10, 27, 104, 28, 96, 46, 27, 182, 0, 227, 42]
abbrev dktX6_letAllGo_2 : List UInt8 := dkwX6_letAllGo_2 ++ dktX6_letAllGo_3
def dkwX6_letAllGo_1 : List UInt8 := [61, 28, 42, 180, 0, 61, 27, 46, 162, 0, 51, 42, 180, 0, 67, 27, 46, 28, 4, 96, 122, 4, 126]
abbrev dktX6_letAllGo_1 : List UInt8 := dkwX6_letAllGo_1 ++ dktX6_letAllGo_2
def dkwX6_letAllGo_0 : List UInt8 := [42, 180, 0, 67, 27, 46, 4, 126, 154, 0, 15, 42, 180, 0, 77, 27, 42, 180, 0, 52, 27, 46, 79, 3]
abbrev dktX6_letAllGo_0 : List UInt8 := dkwX6_letAllGo_0 ++ dktX6_letAllGo_1
theorem dksX6_letAllGo_0 : cX6_letAllGo.data.toList.drop 0 = dktX6_letAllGo_0 := by decide +kernel
theorem dksX6_letAllGo_1 : cX6_letAllGo.data.toList.drop 24 = dktX6_letAllGo_1 := dk_seg dksX6_letAllGo_0 24 rfl rfl
theorem dksX6_letAllGo_2 : cX6_letAllGo.data.toList.drop 47 = dktX6_letAllGo_2 := dk_seg dksX6_letAllGo_1 23 rfl rfl
theorem dksX6_letAllGo_3 : cX6_letAllGo.data.toList.drop 71 = dktX6_letAllGo_3 := dk_seg dksX6_letAllGo_2 24 rfl rfl
theorem dX6_letAllGo_0 : decode cX6_letAllGo 0 = .ok (.aload_n 0, 1) := dk_42 (dk_at dksX6_letAllGo_0 0 rfl rfl)
theorem dX6_letAllGo_1 : decode cX6_letAllGo 1 = .ok (.getfield 67, 3) := dk_180 0 67 (dk_at dksX6_letAllGo_0 1 rfl rfl)
theorem dX6_letAllGo_4 : decode cX6_letAllGo 4 = .ok (.iload_n 1, 1) := dk_27 (dk_at dksX6_letAllGo_0 4 rfl rfl)
theorem dX6_letAllGo_5 : decode cX6_letAllGo 5 = .ok (.iaload, 1) := dk_46 (dk_at dksX6_letAllGo_0 5 rfl rfl)
theorem dX6_letAllGo_6 : decode cX6_letAllGo 6 = .ok (.iconst 1, 1) := dk_4 (dk_at dksX6_letAllGo_0 6 rfl rfl)
theorem dX6_letAllGo_7 : decode cX6_letAllGo 7 = .ok (.iand, 1) := dk_126 (dk_at dksX6_letAllGo_0 7 rfl rfl)
theorem dX6_letAllGo_8 : decode cX6_letAllGo 8 = .ok (.ifCond .ne 15, 3) := dk_154 0 15 (dk_at dksX6_letAllGo_0 8 rfl rfl)
theorem dX6_letAllGo_11 : decode cX6_letAllGo 11 = .ok (.aload_n 0, 1) := dk_42 (dk_at dksX6_letAllGo_0 11 rfl rfl)
theorem dX6_letAllGo_12 : decode cX6_letAllGo 12 = .ok (.getfield 77, 3) := dk_180 0 77 (dk_at dksX6_letAllGo_0 12 rfl rfl)
theorem dX6_letAllGo_15 : decode cX6_letAllGo 15 = .ok (.iload_n 1, 1) := dk_27 (dk_at dksX6_letAllGo_0 15 rfl rfl)
theorem dX6_letAllGo_16 : decode cX6_letAllGo 16 = .ok (.aload_n 0, 1) := dk_42 (dk_at dksX6_letAllGo_0 16 rfl rfl)
theorem dX6_letAllGo_17 : decode cX6_letAllGo 17 = .ok (.getfield 52, 3) := dk_180 0 52 (dk_at dksX6_letAllGo_0 17 rfl rfl)
theorem dX6_letAllGo_20 : decode cX6_letAllGo 20 = .ok (.iload_n 1, 1) := dk_27 (dk_at dksX6_letAllGo_0 20 rfl rfl)
theorem dX6_letAllGo_21 : decode cX6_letAllGo 21 = .ok (.iaload, 1) := dk_46 (dk_at dksX6_letAllGo_0 21 rfl rfl)
theorem dX6_letAllGo_22 : decode cX6_letAllGo 22 = .ok (.iastore, 1) := dk_79 (dk_at dksX6_letAllGo_0 22 rfl rfl)
theorem dX6_letAllGo_23 : decode cX6_letAllGo 23 = .ok (.iconst 0, 1) := dk_3 (dk_at dksX6_letAllGo_0 23 rfl rfl)
theorem dX6_letAllGo_24 : decode cX6_letAllGo 24 = .ok (.istore_n 2, 1) := dk_61 (dk_at dksX6_letAllGo_1 0 rfl rfl)
theorem dX6_letAllGo_25 : decode cX6_letAllGo 25 = .ok (.iload_n 2, 1) := dk_28 (dk_at dksX6_letAllGo_1 1 rfl rfl)
theorem dX6_letAllGo_26 : decode cX6_letAllGo 26 = .ok (.aload_n 0, 1) := dk_42 (dk_at dksX6_letAllGo_1 2 rfl rfl)
theorem dX6_letAllGo_27 : decode cX6_letAllGo 27 = .ok (.getfield 61, 3) := dk_180 0 61 (dk_at dksX6_letAllGo_1 3 rfl rfl)
theorem dX6_letAllGo_30 : decode cX6_letAllGo 30 = .ok (.iload_n 1, 1) := dk_27 (dk_at dksX6_letAllGo_1 6 rfl rfl)
theorem dX6_letAllGo_31 : decode cX6_letAllGo 31 = .ok (.iaload, 1) := dk_46 (dk_at dksX6_letAllGo_1 7 rfl rfl)
theorem dX6_letAllGo_32 : decode cX6_letAllGo 32 = .ok (.if_icmp .ge 51, 3) := dk_162 0 51 (dk_at dksX6_letAllGo_1 8 rfl rfl)
theorem dX6_letAllGo_35 : decode cX6_letAllGo 35 = .ok (.aload_n 0, 1) := dk_42 (dk_at dksX6_letAllGo_1 11 rfl rfl)
theorem dX6_letAllGo_36 : decode cX6_letAllGo 36 = .ok (.getfield 67, 3) := dk_180 0 67 (dk_at dksX6_letAllGo_1 12 rfl rfl)
theorem dX6_letAllGo_39 : decode cX6_letAllGo 39 = .ok (.iload_n 1, 1) := dk_27 (dk_at dksX6_letAllGo_1 15 rfl rfl)
theorem dX6_letAllGo_40 : decode cX6_letAllGo 40 = .ok (.iaload, 1) := dk_46 (dk_at dksX6_letAllGo_1 16 rfl rfl)
theorem dX6_letAllGo_41 : decode cX6_letAllGo 41 = .ok (.iload_n 2, 1) := dk_28 (dk_at dksX6_letAllGo_1 17 rfl rfl)
theorem dX6_letAllGo_42 : decode cX6_letAllGo 42 = .ok (.iconst 1, 1) := dk_4 (dk_at dksX6_letAllGo_1 18 rfl rfl)
theorem dX6_letAllGo_43 : decode cX6_letAllGo 43 = .ok (.iadd, 1) := dk_96 (dk_at dksX6_letAllGo_1 19 rfl rfl)
theorem dX6_letAllGo_44 : decode cX6_letAllGo 44 = .ok (.ishr, 1) := dk_122 (dk_at dksX6_letAllGo_1 20 rfl rfl)
theorem dX6_letAllGo_45 : decode cX6_letAllGo 45 = .ok (.iconst 1, 1) := dk_4 (dk_at dksX6_letAllGo_1 21 rfl rfl)
theorem dX6_letAllGo_46 : decode cX6_letAllGo 46 = .ok (.iand, 1) := dk_126 (dk_at dksX6_letAllGo_1 22 rfl rfl)
theorem dX6_letAllGo_47 : decode cX6_letAllGo 47 = .ok (.ifCond .ne 30, 3) := dk_154 0 30 (dk_at dksX6_letAllGo_2 0 rfl rfl)
theorem dX6_letAllGo_50 : decode cX6_letAllGo 50 = .ok (.aload_n 0, 1) := dk_42 (dk_at dksX6_letAllGo_2 3 rfl rfl)
theorem dX6_letAllGo_51 : decode cX6_letAllGo 51 = .ok (.getfield 77, 3) := dk_180 0 77 (dk_at dksX6_letAllGo_2 4 rfl rfl)
theorem dX6_letAllGo_54 : decode cX6_letAllGo 54 = .ok (.aload_n 0, 1) := dk_42 (dk_at dksX6_letAllGo_2 7 rfl rfl)
theorem dX6_letAllGo_55 : decode cX6_letAllGo 55 = .ok (.aload_n 0, 1) := dk_42 (dk_at dksX6_letAllGo_2 8 rfl rfl)
theorem dX6_letAllGo_56 : decode cX6_letAllGo 56 = .ok (.getfield 64, 3) := dk_180 0 64 (dk_at dksX6_letAllGo_2 9 rfl rfl)
theorem dX6_letAllGo_59 : decode cX6_letAllGo 59 = .ok (.bipush 10, 2) := dk_16 10 (dk_at dksX6_letAllGo_2 12 rfl rfl)
theorem dX6_letAllGo_61 : decode cX6_letAllGo 61 = .ok (.iload_n 1, 1) := dk_27 (dk_at dksX6_letAllGo_2 14 rfl rfl)
theorem dX6_letAllGo_62 : decode cX6_letAllGo 62 = .ok (.imul, 1) := dk_104 (dk_at dksX6_letAllGo_2 15 rfl rfl)
theorem dX6_letAllGo_63 : decode cX6_letAllGo 63 = .ok (.iload_n 2, 1) := dk_28 (dk_at dksX6_letAllGo_2 16 rfl rfl)
theorem dX6_letAllGo_64 : decode cX6_letAllGo 64 = .ok (.iadd, 1) := dk_96 (dk_at dksX6_letAllGo_2 17 rfl rfl)
theorem dX6_letAllGo_65 : decode cX6_letAllGo 65 = .ok (.iaload, 1) := dk_46 (dk_at dksX6_letAllGo_2 18 rfl rfl)
theorem dX6_letAllGo_66 : decode cX6_letAllGo 66 = .ok (.iload_n 1, 1) := dk_27 (dk_at dksX6_letAllGo_2 19 rfl rfl)
theorem dX6_letAllGo_67 : decode cX6_letAllGo 67 = .ok (.invokevirtual 227, 3) := dk_182 0 227 (dk_at dksX6_letAllGo_2 20 rfl rfl)
theorem dX6_letAllGo_70 : decode cX6_letAllGo 70 = .ok (.aload_n 0, 1) := dk_42 (dk_at dksX6_letAllGo_2 23 rfl rfl)
theorem dX6_letAllGo_71 : decode cX6_letAllGo 71 = .ok (.getfield 52, 3) := dk_180 0 52 (dk_at dksX6_letAllGo_3 0 rfl rfl)
theorem dX6_letAllGo_74 : decode cX6_letAllGo 74 = .ok (.iload_n 1, 1) := dk_27 (dk_at dksX6_letAllGo_3 3 rfl rfl)
theorem dX6_letAllGo_75 : decode cX6_letAllGo 75 = .ok (.iaload, 1) := dk_46 (dk_at dksX6_letAllGo_3 4 rfl rfl)
theorem dX6_letAllGo_76 : decode cX6_letAllGo 76 = .ok (.iastore, 1) := dk_79 (dk_at dksX6_letAllGo_3 5 rfl rfl)
theorem dX6_letAllGo_77 : decode cX6_letAllGo 77 = .ok (.iinc 2 1, 3) := dk_132 2 1 (dk_at dksX6_letAllGo_3 6 rfl rfl)
theorem dX6_letAllGo_80 : decode cX6_letAllGo 80 = .ok (.goto (-55), 3) := dk_167 255 201 (dk_at dksX6_letAllGo_3 9 rfl rfl)
theorem dX6_letAllGo_83 : decode cX6_letAllGo 83 = .ok (.return_, 1) := dk_177 (dk_at dksX6_letAllGo_3 12 rfl rfl)
abbrev cX6_readFile : ByteArray := prog_8_method_56_code
def yX6_readFile : MethodName := ⟨RX6, "readFile", "()V"⟩
def dkwX6_readFile_10 : List UInt8 := [180, 0, 206, 42, 180, 1, 42, 162, 0, 14, 42, 16, 10, 42, 180, 0, 206, 182, 0, 200, 87, 177]
abbrev dktX6_readFile_10 : List UInt8 := dkwX6_readFile_10 ++ []
def dkwX6_readFile_9 : List UInt8 := [180, 0, 111, 4, 160, 0, 15, 42, 29, 182, 1, 49, 60, 132, 3, 1, 167, 255, 227, 27, 153, 0, 25, 42]
abbrev dktX6_readFile_9 : List UInt8 := dkwX6_readFile_9 ++ dktX6_readFile_10
def dkwX6_readFile_8 : List UInt8 := [167, 0, 4, 3, 61, 167, 255, 188, 3, 62, 29, 42, 180, 0, 209, 162, 0, 27, 27, 153, 0, 23, 42]
abbrev dktX6_readFile_8 : List UInt8 := dkwX6_readFile_8 ++ dktX6_readFile_9
def dkwX6_readFile_7 : List UInt8 := [3, 60, 27, 153, 0, 23, 42, 180, 0, 55, 42, 180, 0, 209, 4, 100, 46, 16, 51, 160, 0, 7, 4]
abbrev dktX6_readFile_7 : List UInt8 := dkwX6_readFile_7 ++ dktX6_readFile_8
def dkwX6_readFile_6 : List UInt8 := [180, 0, 111, 4, 159, 0, 16, 42, 42, 180, 0, 209, 4, 100, 182, 1, 49, 153, 0, 7, 4, 167, 0, 4]
abbrev dktX6_readFile_6 : List UInt8 := dkwX6_readFile_6 ++ dktX6_readFile_7
def dkwX6_readFile_5 : List UInt8 := [16, 13, 181, 0, 206, 3, 61, 27, 153, 0, 70, 28, 154, 0, 66, 42, 182, 1, 45, 153, 0, 28, 42]
abbrev dktX6_readFile_5 : List UInt8 := dkwX6_readFile_5 ++ dktX6_readFile_6
def dkwX6_readFile_4 : List UInt8 := [180, 0, 111, 100, 159, 0, 12, 42, 5, 3, 182, 0, 200, 153, 0, 7, 4, 167, 0, 4, 3, 60, 42]
abbrev dktX6_readFile_4 : List UInt8 := dkwX6_readFile_4 ++ dktX6_readFile_5
def dkwX6_readFile_3 : List UInt8 := [167, 0, 4, 3, 60, 132, 2, 1, 167, 255, 215, 27, 153, 0, 32, 42, 180, 0, 46, 16, 8, 46, 4, 42]
abbrev dktX6_readFile_3 : List UInt8 := dkwX6_readFile_3 ++ dktX6_readFile_4
def dkwX6_readFile_2 : List UInt8 := [42, 180, 0, 46, 28, 46, 28, 184, 0, 179, 159, 0, 12, 42, 5, 3, 182, 0, 200, 153, 0, 7, 4]
abbrev dktX6_readFile_2 : List UInt8 := dkwX6_readFile_2 ++ dktX6_readFile_3
def dkwX6_readFile_1 : List UInt8 := [182, 0, 200, 153, 0, 7, 4, 167, 0, 4, 3, 60, 3, 61, 28, 16, 8, 162, 0, 41, 27, 153, 0, 37]
abbrev dktX6_readFile_1 : List UInt8 := dkwX6_readFile_1 ++ dktX6_readFile_2
def dkwX6_readFile_0 : List UInt8 := [42, 42, 180, 1, 42, 181, 0, 203, 42, 180, 1, 42, 16, 13, 162, 0, 15, 42, 4, 42, 180, 1, 42]
abbrev dktX6_readFile_0 : List UInt8 := dkwX6_readFile_0 ++ dktX6_readFile_1
theorem dksX6_readFile_0 : cX6_readFile.data.toList.drop 0 = dktX6_readFile_0 := by decide +kernel
theorem dksX6_readFile_1 : cX6_readFile.data.toList.drop 23 = dktX6_readFile_1 := dk_seg dksX6_readFile_0 23 rfl rfl
theorem dksX6_readFile_2 : cX6_readFile.data.toList.drop 47 = dktX6_readFile_2 := dk_seg dksX6_readFile_1 24 rfl rfl
theorem dksX6_readFile_3 : cX6_readFile.data.toList.drop 70 = dktX6_readFile_3 := dk_seg dksX6_readFile_2 23 rfl rfl
theorem dksX6_readFile_4 : cX6_readFile.data.toList.drop 94 = dktX6_readFile_4 := dk_seg dksX6_readFile_3 24 rfl rfl
theorem dksX6_readFile_5 : cX6_readFile.data.toList.drop 117 = dktX6_readFile_5 := dk_seg dksX6_readFile_4 23 rfl rfl
theorem dksX6_readFile_6 : cX6_readFile.data.toList.drop 140 = dktX6_readFile_6 := dk_seg dksX6_readFile_5 23 rfl rfl
theorem dksX6_readFile_7 : cX6_readFile.data.toList.drop 164 = dktX6_readFile_7 := dk_seg dksX6_readFile_6 24 rfl rfl
theorem dksX6_readFile_8 : cX6_readFile.data.toList.drop 187 = dktX6_readFile_8 := dk_seg dksX6_readFile_7 23 rfl rfl
theorem dksX6_readFile_9 : cX6_readFile.data.toList.drop 210 = dktX6_readFile_9 := dk_seg dksX6_readFile_8 23 rfl rfl
theorem dksX6_readFile_10 : cX6_readFile.data.toList.drop 234 = dktX6_readFile_10 := dk_seg dksX6_readFile_9 24 rfl rfl
theorem dX6_readFile_0 : decode cX6_readFile 0 = .ok (.aload_n 0, 1) := dk_42 (dk_at dksX6_readFile_0 0 rfl rfl)
theorem dX6_readFile_1 : decode cX6_readFile 1 = .ok (.aload_n 0, 1) := dk_42 (dk_at dksX6_readFile_0 1 rfl rfl)
theorem dX6_readFile_2 : decode cX6_readFile 2 = .ok (.getfield 298, 3) := dk_180 1 42 (dk_at dksX6_readFile_0 2 rfl rfl)
theorem dX6_readFile_5 : decode cX6_readFile 5 = .ok (.putfield 203, 3) := dk_181 0 203 (dk_at dksX6_readFile_0 5 rfl rfl)
theorem dX6_readFile_8 : decode cX6_readFile 8 = .ok (.aload_n 0, 1) := dk_42 (dk_at dksX6_readFile_0 8 rfl rfl)
theorem dX6_readFile_9 : decode cX6_readFile 9 = .ok (.getfield 298, 3) := dk_180 1 42 (dk_at dksX6_readFile_0 9 rfl rfl)
theorem dX6_readFile_12 : decode cX6_readFile 12 = .ok (.bipush 13, 2) := dk_16 13 (dk_at dksX6_readFile_0 12 rfl rfl)
theorem dX6_readFile_14 : decode cX6_readFile 14 = .ok (.if_icmp .ge 15, 3) := dk_162 0 15 (dk_at dksX6_readFile_0 14 rfl rfl)
theorem dX6_readFile_17 : decode cX6_readFile 17 = .ok (.aload_n 0, 1) := dk_42 (dk_at dksX6_readFile_0 17 rfl rfl)
theorem dX6_readFile_18 : decode cX6_readFile 18 = .ok (.iconst 1, 1) := dk_4 (dk_at dksX6_readFile_0 18 rfl rfl)
theorem dX6_readFile_19 : decode cX6_readFile 19 = .ok (.aload_n 0, 1) := dk_42 (dk_at dksX6_readFile_0 19 rfl rfl)
theorem dX6_readFile_20 : decode cX6_readFile 20 = .ok (.getfield 298, 3) := dk_180 1 42 (dk_at dksX6_readFile_0 20 rfl rfl)
theorem dX6_readFile_23 : decode cX6_readFile 23 = .ok (.invokevirtual 200, 3) := dk_182 0 200 (dk_at dksX6_readFile_1 0 rfl rfl)
theorem dX6_readFile_26 : decode cX6_readFile 26 = .ok (.ifCond .eq 7, 3) := dk_153 0 7 (dk_at dksX6_readFile_1 3 rfl rfl)
theorem dX6_readFile_29 : decode cX6_readFile 29 = .ok (.iconst 1, 1) := dk_4 (dk_at dksX6_readFile_1 6 rfl rfl)
theorem dX6_readFile_30 : decode cX6_readFile 30 = .ok (.goto 4, 3) := dk_167 0 4 (dk_at dksX6_readFile_1 7 rfl rfl)
theorem dX6_readFile_33 : decode cX6_readFile 33 = .ok (.iconst 0, 1) := dk_3 (dk_at dksX6_readFile_1 10 rfl rfl)
theorem dX6_readFile_34 : decode cX6_readFile 34 = .ok (.istore_n 1, 1) := dk_60 (dk_at dksX6_readFile_1 11 rfl rfl)
theorem dX6_readFile_35 : decode cX6_readFile 35 = .ok (.iconst 0, 1) := dk_3 (dk_at dksX6_readFile_1 12 rfl rfl)
theorem dX6_readFile_36 : decode cX6_readFile 36 = .ok (.istore_n 2, 1) := dk_61 (dk_at dksX6_readFile_1 13 rfl rfl)
theorem dX6_readFile_37 : decode cX6_readFile 37 = .ok (.iload_n 2, 1) := dk_28 (dk_at dksX6_readFile_1 14 rfl rfl)
theorem dX6_readFile_38 : decode cX6_readFile 38 = .ok (.bipush 8, 2) := dk_16 8 (dk_at dksX6_readFile_1 15 rfl rfl)
theorem dX6_readFile_40 : decode cX6_readFile 40 = .ok (.if_icmp .ge 41, 3) := dk_162 0 41 (dk_at dksX6_readFile_1 17 rfl rfl)
theorem dX6_readFile_43 : decode cX6_readFile 43 = .ok (.iload_n 1, 1) := dk_27 (dk_at dksX6_readFile_1 20 rfl rfl)
theorem dX6_readFile_44 : decode cX6_readFile 44 = .ok (.ifCond .eq 37, 3) := dk_153 0 37 (dk_at dksX6_readFile_1 21 rfl rfl)
theorem dX6_readFile_47 : decode cX6_readFile 47 = .ok (.aload_n 0, 1) := dk_42 (dk_at dksX6_readFile_2 0 rfl rfl)
theorem dX6_readFile_48 : decode cX6_readFile 48 = .ok (.getfield 46, 3) := dk_180 0 46 (dk_at dksX6_readFile_2 1 rfl rfl)
theorem dX6_readFile_51 : decode cX6_readFile 51 = .ok (.iload_n 2, 1) := dk_28 (dk_at dksX6_readFile_2 4 rfl rfl)
theorem dX6_readFile_52 : decode cX6_readFile 52 = .ok (.iaload, 1) := dk_46 (dk_at dksX6_readFile_2 5 rfl rfl)
theorem dX6_readFile_53 : decode cX6_readFile 53 = .ok (.iload_n 2, 1) := dk_28 (dk_at dksX6_readFile_2 6 rfl rfl)
theorem dX6_readFile_54 : decode cX6_readFile 54 = .ok (.invokestatic 179, 3) := dk_184 0 179 (dk_at dksX6_readFile_2 7 rfl rfl)
theorem dX6_readFile_57 : decode cX6_readFile 57 = .ok (.if_icmp .eq 12, 3) := dk_159 0 12 (dk_at dksX6_readFile_2 10 rfl rfl)
theorem dX6_readFile_60 : decode cX6_readFile 60 = .ok (.aload_n 0, 1) := dk_42 (dk_at dksX6_readFile_2 13 rfl rfl)
theorem dX6_readFile_61 : decode cX6_readFile 61 = .ok (.iconst 2, 1) := dk_5 (dk_at dksX6_readFile_2 14 rfl rfl)
theorem dX6_readFile_62 : decode cX6_readFile 62 = .ok (.iconst 0, 1) := dk_3 (dk_at dksX6_readFile_2 15 rfl rfl)
theorem dX6_readFile_63 : decode cX6_readFile 63 = .ok (.invokevirtual 200, 3) := dk_182 0 200 (dk_at dksX6_readFile_2 16 rfl rfl)
theorem dX6_readFile_66 : decode cX6_readFile 66 = .ok (.ifCond .eq 7, 3) := dk_153 0 7 (dk_at dksX6_readFile_2 19 rfl rfl)
theorem dX6_readFile_69 : decode cX6_readFile 69 = .ok (.iconst 1, 1) := dk_4 (dk_at dksX6_readFile_2 22 rfl rfl)
theorem dX6_readFile_70 : decode cX6_readFile 70 = .ok (.goto 4, 3) := dk_167 0 4 (dk_at dksX6_readFile_3 0 rfl rfl)
theorem dX6_readFile_73 : decode cX6_readFile 73 = .ok (.iconst 0, 1) := dk_3 (dk_at dksX6_readFile_3 3 rfl rfl)
theorem dX6_readFile_74 : decode cX6_readFile 74 = .ok (.istore_n 1, 1) := dk_60 (dk_at dksX6_readFile_3 4 rfl rfl)
theorem dX6_readFile_75 : decode cX6_readFile 75 = .ok (.iinc 2 1, 3) := dk_132 2 1 (dk_at dksX6_readFile_3 5 rfl rfl)
theorem dX6_readFile_78 : decode cX6_readFile 78 = .ok (.goto (-41), 3) := dk_167 255 215 (dk_at dksX6_readFile_3 8 rfl rfl)
theorem dX6_readFile_81 : decode cX6_readFile 81 = .ok (.iload_n 1, 1) := dk_27 (dk_at dksX6_readFile_3 11 rfl rfl)
theorem dX6_readFile_82 : decode cX6_readFile 82 = .ok (.ifCond .eq 32, 3) := dk_153 0 32 (dk_at dksX6_readFile_3 12 rfl rfl)
theorem dX6_readFile_85 : decode cX6_readFile 85 = .ok (.aload_n 0, 1) := dk_42 (dk_at dksX6_readFile_3 15 rfl rfl)
theorem dX6_readFile_86 : decode cX6_readFile 86 = .ok (.getfield 46, 3) := dk_180 0 46 (dk_at dksX6_readFile_3 16 rfl rfl)
theorem dX6_readFile_89 : decode cX6_readFile 89 = .ok (.bipush 8, 2) := dk_16 8 (dk_at dksX6_readFile_3 19 rfl rfl)
theorem dX6_readFile_91 : decode cX6_readFile 91 = .ok (.iaload, 1) := dk_46 (dk_at dksX6_readFile_3 21 rfl rfl)
theorem dX6_readFile_92 : decode cX6_readFile 92 = .ok (.iconst 1, 1) := dk_4 (dk_at dksX6_readFile_3 22 rfl rfl)
theorem dX6_readFile_93 : decode cX6_readFile 93 = .ok (.aload_n 0, 1) := dk_42 (dk_at dksX6_readFile_3 23 rfl rfl)
theorem dX6_readFile_94 : decode cX6_readFile 94 = .ok (.getfield 111, 3) := dk_180 0 111 (dk_at dksX6_readFile_4 0 rfl rfl)
theorem dX6_readFile_97 : decode cX6_readFile 97 = .ok (.isub, 1) := dk_100 (dk_at dksX6_readFile_4 3 rfl rfl)
theorem dX6_readFile_98 : decode cX6_readFile 98 = .ok (.if_icmp .eq 12, 3) := dk_159 0 12 (dk_at dksX6_readFile_4 4 rfl rfl)
theorem dX6_readFile_101 : decode cX6_readFile 101 = .ok (.aload_n 0, 1) := dk_42 (dk_at dksX6_readFile_4 7 rfl rfl)
theorem dX6_readFile_102 : decode cX6_readFile 102 = .ok (.iconst 2, 1) := dk_5 (dk_at dksX6_readFile_4 8 rfl rfl)
theorem dX6_readFile_103 : decode cX6_readFile 103 = .ok (.iconst 0, 1) := dk_3 (dk_at dksX6_readFile_4 9 rfl rfl)
theorem dX6_readFile_104 : decode cX6_readFile 104 = .ok (.invokevirtual 200, 3) := dk_182 0 200 (dk_at dksX6_readFile_4 10 rfl rfl)
theorem dX6_readFile_107 : decode cX6_readFile 107 = .ok (.ifCond .eq 7, 3) := dk_153 0 7 (dk_at dksX6_readFile_4 13 rfl rfl)
theorem dX6_readFile_110 : decode cX6_readFile 110 = .ok (.iconst 1, 1) := dk_4 (dk_at dksX6_readFile_4 16 rfl rfl)
theorem dX6_readFile_111 : decode cX6_readFile 111 = .ok (.goto 4, 3) := dk_167 0 4 (dk_at dksX6_readFile_4 17 rfl rfl)
theorem dX6_readFile_114 : decode cX6_readFile 114 = .ok (.iconst 0, 1) := dk_3 (dk_at dksX6_readFile_4 20 rfl rfl)
theorem dX6_readFile_115 : decode cX6_readFile 115 = .ok (.istore_n 1, 1) := dk_60 (dk_at dksX6_readFile_4 21 rfl rfl)
theorem dX6_readFile_116 : decode cX6_readFile 116 = .ok (.aload_n 0, 1) := dk_42 (dk_at dksX6_readFile_4 22 rfl rfl)
theorem dX6_readFile_117 : decode cX6_readFile 117 = .ok (.bipush 13, 2) := dk_16 13 (dk_at dksX6_readFile_5 0 rfl rfl)
theorem dX6_readFile_119 : decode cX6_readFile 119 = .ok (.putfield 206, 3) := dk_181 0 206 (dk_at dksX6_readFile_5 2 rfl rfl)
theorem dX6_readFile_122 : decode cX6_readFile 122 = .ok (.iconst 0, 1) := dk_3 (dk_at dksX6_readFile_5 5 rfl rfl)
theorem dX6_readFile_123 : decode cX6_readFile 123 = .ok (.istore_n 2, 1) := dk_61 (dk_at dksX6_readFile_5 6 rfl rfl)
theorem dX6_readFile_124 : decode cX6_readFile 124 = .ok (.iload_n 1, 1) := dk_27 (dk_at dksX6_readFile_5 7 rfl rfl)
theorem dX6_readFile_125 : decode cX6_readFile 125 = .ok (.ifCond .eq 70, 3) := dk_153 0 70 (dk_at dksX6_readFile_5 8 rfl rfl)
theorem dX6_readFile_128 : decode cX6_readFile 128 = .ok (.iload_n 2, 1) := dk_28 (dk_at dksX6_readFile_5 11 rfl rfl)
theorem dX6_readFile_129 : decode cX6_readFile 129 = .ok (.ifCond .ne 66, 3) := dk_154 0 66 (dk_at dksX6_readFile_5 12 rfl rfl)
theorem dX6_readFile_132 : decode cX6_readFile 132 = .ok (.aload_n 0, 1) := dk_42 (dk_at dksX6_readFile_5 15 rfl rfl)
theorem dX6_readFile_133 : decode cX6_readFile 133 = .ok (.invokevirtual 301, 3) := dk_182 1 45 (dk_at dksX6_readFile_5 16 rfl rfl)
theorem dX6_readFile_136 : decode cX6_readFile 136 = .ok (.ifCond .eq 28, 3) := dk_153 0 28 (dk_at dksX6_readFile_5 19 rfl rfl)
theorem dX6_readFile_139 : decode cX6_readFile 139 = .ok (.aload_n 0, 1) := dk_42 (dk_at dksX6_readFile_5 22 rfl rfl)
theorem dX6_readFile_140 : decode cX6_readFile 140 = .ok (.getfield 111, 3) := dk_180 0 111 (dk_at dksX6_readFile_6 0 rfl rfl)
theorem dX6_readFile_143 : decode cX6_readFile 143 = .ok (.iconst 1, 1) := dk_4 (dk_at dksX6_readFile_6 3 rfl rfl)
theorem dX6_readFile_144 : decode cX6_readFile 144 = .ok (.if_icmp .eq 16, 3) := dk_159 0 16 (dk_at dksX6_readFile_6 4 rfl rfl)
theorem dX6_readFile_147 : decode cX6_readFile 147 = .ok (.aload_n 0, 1) := dk_42 (dk_at dksX6_readFile_6 7 rfl rfl)
theorem dX6_readFile_148 : decode cX6_readFile 148 = .ok (.aload_n 0, 1) := dk_42 (dk_at dksX6_readFile_6 8 rfl rfl)
theorem dX6_readFile_149 : decode cX6_readFile 149 = .ok (.getfield 209, 3) := dk_180 0 209 (dk_at dksX6_readFile_6 9 rfl rfl)
theorem dX6_readFile_152 : decode cX6_readFile 152 = .ok (.iconst 1, 1) := dk_4 (dk_at dksX6_readFile_6 12 rfl rfl)
theorem dX6_readFile_153 : decode cX6_readFile 153 = .ok (.isub, 1) := dk_100 (dk_at dksX6_readFile_6 13 rfl rfl)
theorem dX6_readFile_154 : decode cX6_readFile 154 = .ok (.invokevirtual 305, 3) := dk_182 1 49 (dk_at dksX6_readFile_6 14 rfl rfl)
theorem dX6_readFile_157 : decode cX6_readFile 157 = .ok (.ifCond .eq 7, 3) := dk_153 0 7 (dk_at dksX6_readFile_6 17 rfl rfl)
theorem dX6_readFile_160 : decode cX6_readFile 160 = .ok (.iconst 1, 1) := dk_4 (dk_at dksX6_readFile_6 20 rfl rfl)
theorem dX6_readFile_161 : decode cX6_readFile 161 = .ok (.goto 4, 3) := dk_167 0 4 (dk_at dksX6_readFile_6 21 rfl rfl)
theorem dX6_readFile_164 : decode cX6_readFile 164 = .ok (.iconst 0, 1) := dk_3 (dk_at dksX6_readFile_7 0 rfl rfl)
theorem dX6_readFile_165 : decode cX6_readFile 165 = .ok (.istore_n 1, 1) := dk_60 (dk_at dksX6_readFile_7 1 rfl rfl)
theorem dX6_readFile_166 : decode cX6_readFile 166 = .ok (.iload_n 1, 1) := dk_27 (dk_at dksX6_readFile_7 2 rfl rfl)
theorem dX6_readFile_167 : decode cX6_readFile 167 = .ok (.ifCond .eq 23, 3) := dk_153 0 23 (dk_at dksX6_readFile_7 3 rfl rfl)
theorem dX6_readFile_170 : decode cX6_readFile 170 = .ok (.aload_n 0, 1) := dk_42 (dk_at dksX6_readFile_7 6 rfl rfl)
theorem dX6_readFile_171 : decode cX6_readFile 171 = .ok (.getfield 55, 3) := dk_180 0 55 (dk_at dksX6_readFile_7 7 rfl rfl)
theorem dX6_readFile_174 : decode cX6_readFile 174 = .ok (.aload_n 0, 1) := dk_42 (dk_at dksX6_readFile_7 10 rfl rfl)
theorem dX6_readFile_175 : decode cX6_readFile 175 = .ok (.getfield 209, 3) := dk_180 0 209 (dk_at dksX6_readFile_7 11 rfl rfl)
theorem dX6_readFile_178 : decode cX6_readFile 178 = .ok (.iconst 1, 1) := dk_4 (dk_at dksX6_readFile_7 14 rfl rfl)
theorem dX6_readFile_179 : decode cX6_readFile 179 = .ok (.isub, 1) := dk_100 (dk_at dksX6_readFile_7 15 rfl rfl)
theorem dX6_readFile_180 : decode cX6_readFile 180 = .ok (.iaload, 1) := dk_46 (dk_at dksX6_readFile_7 16 rfl rfl)
theorem dX6_readFile_181 : decode cX6_readFile 181 = .ok (.bipush 51, 2) := dk_16 51 (dk_at dksX6_readFile_7 17 rfl rfl)
theorem dX6_readFile_183 : decode cX6_readFile 183 = .ok (.if_icmp .ne 7, 3) := dk_160 0 7 (dk_at dksX6_readFile_7 19 rfl rfl)
theorem dX6_readFile_186 : decode cX6_readFile 186 = .ok (.iconst 1, 1) := dk_4 (dk_at dksX6_readFile_7 22 rfl rfl)
theorem dX6_readFile_187 : decode cX6_readFile 187 = .ok (.goto 4, 3) := dk_167 0 4 (dk_at dksX6_readFile_8 0 rfl rfl)
theorem dX6_readFile_190 : decode cX6_readFile 190 = .ok (.iconst 0, 1) := dk_3 (dk_at dksX6_readFile_8 3 rfl rfl)
theorem dX6_readFile_191 : decode cX6_readFile 191 = .ok (.istore_n 2, 1) := dk_61 (dk_at dksX6_readFile_8 4 rfl rfl)
theorem dX6_readFile_192 : decode cX6_readFile 192 = .ok (.goto (-68), 3) := dk_167 255 188 (dk_at dksX6_readFile_8 5 rfl rfl)
theorem dX6_readFile_195 : decode cX6_readFile 195 = .ok (.iconst 0, 1) := dk_3 (dk_at dksX6_readFile_8 8 rfl rfl)
theorem dX6_readFile_196 : decode cX6_readFile 196 = .ok (.istore_n 3, 1) := dk_62 (dk_at dksX6_readFile_8 9 rfl rfl)
theorem dX6_readFile_197 : decode cX6_readFile 197 = .ok (.iload_n 3, 1) := dk_29 (dk_at dksX6_readFile_8 10 rfl rfl)
theorem dX6_readFile_198 : decode cX6_readFile 198 = .ok (.aload_n 0, 1) := dk_42 (dk_at dksX6_readFile_8 11 rfl rfl)
theorem dX6_readFile_199 : decode cX6_readFile 199 = .ok (.getfield 209, 3) := dk_180 0 209 (dk_at dksX6_readFile_8 12 rfl rfl)
theorem dX6_readFile_202 : decode cX6_readFile 202 = .ok (.if_icmp .ge 27, 3) := dk_162 0 27 (dk_at dksX6_readFile_8 15 rfl rfl)
theorem dX6_readFile_205 : decode cX6_readFile 205 = .ok (.iload_n 1, 1) := dk_27 (dk_at dksX6_readFile_8 18 rfl rfl)
theorem dX6_readFile_206 : decode cX6_readFile 206 = .ok (.ifCond .eq 23, 3) := dk_153 0 23 (dk_at dksX6_readFile_8 19 rfl rfl)
theorem dX6_readFile_209 : decode cX6_readFile 209 = .ok (.aload_n 0, 1) := dk_42 (dk_at dksX6_readFile_8 22 rfl rfl)
theorem dX6_readFile_210 : decode cX6_readFile 210 = .ok (.getfield 111, 3) := dk_180 0 111 (dk_at dksX6_readFile_9 0 rfl rfl)
theorem dX6_readFile_213 : decode cX6_readFile 213 = .ok (.iconst 1, 1) := dk_4 (dk_at dksX6_readFile_9 3 rfl rfl)
theorem dX6_readFile_214 : decode cX6_readFile 214 = .ok (.if_icmp .ne 15, 3) := dk_160 0 15 (dk_at dksX6_readFile_9 4 rfl rfl)
theorem dX6_readFile_217 : decode cX6_readFile 217 = .ok (.aload_n 0, 1) := dk_42 (dk_at dksX6_readFile_9 7 rfl rfl)
theorem dX6_readFile_218 : decode cX6_readFile 218 = .ok (.iload_n 3, 1) := dk_29 (dk_at dksX6_readFile_9 8 rfl rfl)
theorem dX6_readFile_219 : decode cX6_readFile 219 = .ok (.invokevirtual 305, 3) := dk_182 1 49 (dk_at dksX6_readFile_9 9 rfl rfl)
theorem dX6_readFile_222 : decode cX6_readFile 222 = .ok (.istore_n 1, 1) := dk_60 (dk_at dksX6_readFile_9 12 rfl rfl)
theorem dX6_readFile_223 : decode cX6_readFile 223 = .ok (.iinc 3 1, 3) := dk_132 3 1 (dk_at dksX6_readFile_9 13 rfl rfl)
theorem dX6_readFile_226 : decode cX6_readFile 226 = .ok (.goto (-29), 3) := dk_167 255 227 (dk_at dksX6_readFile_9 16 rfl rfl)
theorem dX6_readFile_229 : decode cX6_readFile 229 = .ok (.iload_n 1, 1) := dk_27 (dk_at dksX6_readFile_9 19 rfl rfl)
theorem dX6_readFile_230 : decode cX6_readFile 230 = .ok (.ifCond .eq 25, 3) := dk_153 0 25 (dk_at dksX6_readFile_9 20 rfl rfl)
theorem dX6_readFile_233 : decode cX6_readFile 233 = .ok (.aload_n 0, 1) := dk_42 (dk_at dksX6_readFile_9 23 rfl rfl)
theorem dX6_readFile_234 : decode cX6_readFile 234 = .ok (.getfield 206, 3) := dk_180 0 206 (dk_at dksX6_readFile_10 0 rfl rfl)
theorem dX6_readFile_237 : decode cX6_readFile 237 = .ok (.aload_n 0, 1) := dk_42 (dk_at dksX6_readFile_10 3 rfl rfl)
theorem dX6_readFile_238 : decode cX6_readFile 238 = .ok (.getfield 298, 3) := dk_180 1 42 (dk_at dksX6_readFile_10 4 rfl rfl)
theorem dX6_readFile_241 : decode cX6_readFile 241 = .ok (.if_icmp .ge 14, 3) := dk_162 0 14 (dk_at dksX6_readFile_10 7 rfl rfl)
theorem dX6_readFile_244 : decode cX6_readFile 244 = .ok (.aload_n 0, 1) := dk_42 (dk_at dksX6_readFile_10 10 rfl rfl)
theorem dX6_readFile_245 : decode cX6_readFile 245 = .ok (.bipush 10, 2) := dk_16 10 (dk_at dksX6_readFile_10 11 rfl rfl)
theorem dX6_readFile_247 : decode cX6_readFile 247 = .ok (.aload_n 0, 1) := dk_42 (dk_at dksX6_readFile_10 13 rfl rfl)
theorem dX6_readFile_248 : decode cX6_readFile 248 = .ok (.getfield 206, 3) := dk_180 0 206 (dk_at dksX6_readFile_10 14 rfl rfl)
theorem dX6_readFile_251 : decode cX6_readFile 251 = .ok (.invokevirtual 200, 3) := dk_182 0 200 (dk_at dksX6_readFile_10 17 rfl rfl)
theorem dX6_readFile_254 : decode cX6_readFile 254 = .ok (.pop, 1) := dk_87 (dk_at dksX6_readFile_10 20 rfl rfl)
theorem dX6_readFile_255 : decode cX6_readFile 255 = .ok (.return_, 1) := dk_177 (dk_at dksX6_readFile_10 21 rfl rfl)
abbrev cX6_found : ByteArray := prog_8_method_58_code
def yX6_found : MethodName := ⟨RX6, "found", "(II)I"⟩
def dkwX6_found_4 : List UInt8 := [180, 0, 61, 27, 46, 172, 42, 180, 0, 77, 27, 46, 172, 42, 180, 0, 74, 27, 46, 172, 2, 172]
abbrev dktX6_found_4 : List UInt8 := dkwX6_found_4 ++ []
def dkwX6_found_3 : List UInt8 := [42, 180, 0, 52, 27, 46, 172, 42, 180, 0, 55, 27, 46, 172, 42, 180, 0, 58, 27, 46, 172, 42]
abbrev dktX6_found_3 : List UInt8 := dkwX6_found_3 ++ dktX6_found_4
def dkwX6_found_2 : List UInt8 := [170, 0, 0, 0, 79, 0, 0, 0, 0, 0, 0, 0, 5, 0, 0, 0, 37, 0, 0, 0, 44, 0, 0, 0, 51, 0, 0, 0, 58, 0, 0, 0, 65, 0, 0, 0, 72]
abbrev dktX6_found_2 : List UInt8 := dkwX6_found_2 ++ dktX6_found_3
def dkwX6_found_1 : List UInt8 := [172, 27, 3, 42, 180, 1, 65, 4, 100, 184, 0, 121, 154, 0, 10, 42, 5, 181, 0, 115, 3, 172, 28]
abbrev dktX6_found_1 : List UInt8 := dkwX6_found_1 ++ dktX6_found_2
def dkwX6_found_0 : List UInt8 := [42, 4, 4, 4, 4, 182, 0, 129, 153, 0, 10, 42, 180, 1, 61, 154, 0, 10, 42, 4, 181, 0, 115, 3]
abbrev dktX6_found_0 : List UInt8 := dkwX6_found_0 ++ dktX6_found_1
theorem dksX6_found_0 : cX6_found.data.toList.drop 0 = dktX6_found_0 := by decide +kernel
theorem dksX6_found_1 : cX6_found.data.toList.drop 24 = dktX6_found_1 := dk_seg dksX6_found_0 24 rfl rfl
theorem dksX6_found_2 : cX6_found.data.toList.drop 47 = dktX6_found_2 := dk_seg dksX6_found_1 23 rfl rfl
theorem dksX6_found_3 : cX6_found.data.toList.drop 84 = dktX6_found_3 := dk_seg dksX6_found_2 37 rfl rfl
theorem dksX6_found_4 : cX6_found.data.toList.drop 106 = dktX6_found_4 := dk_seg dksX6_found_3 22 rfl rfl
theorem dX6_found_0 : decode cX6_found 0 = .ok (.aload_n 0, 1) := dk_42 (dk_at dksX6_found_0 0 rfl rfl)
theorem dX6_found_1 : decode cX6_found 1 = .ok (.iconst 1, 1) := dk_4 (dk_at dksX6_found_0 1 rfl rfl)
theorem dX6_found_2 : decode cX6_found 2 = .ok (.iconst 1, 1) := dk_4 (dk_at dksX6_found_0 2 rfl rfl)
theorem dX6_found_3 : decode cX6_found 3 = .ok (.iconst 1, 1) := dk_4 (dk_at dksX6_found_0 3 rfl rfl)
theorem dX6_found_4 : decode cX6_found 4 = .ok (.iconst 1, 1) := dk_4 (dk_at dksX6_found_0 4 rfl rfl)
theorem dX6_found_5 : decode cX6_found 5 = .ok (.invokevirtual 129, 3) := dk_182 0 129 (dk_at dksX6_found_0 5 rfl rfl)
theorem dX6_found_8 : decode cX6_found 8 = .ok (.ifCond .eq 10, 3) := dk_153 0 10 (dk_at dksX6_found_0 8 rfl rfl)
theorem dX6_found_11 : decode cX6_found 11 = .ok (.aload_n 0, 1) := dk_42 (dk_at dksX6_found_0 11 rfl rfl)
theorem dX6_found_12 : decode cX6_found 12 = .ok (.getfield 317, 3) := dk_180 1 61 (dk_at dksX6_found_0 12 rfl rfl)
theorem dX6_found_15 : decode cX6_found 15 = .ok (.ifCond .ne 10, 3) := dk_154 0 10 (dk_at dksX6_found_0 15 rfl rfl)
theorem dX6_found_18 : decode cX6_found 18 = .ok (.aload_n 0, 1) := dk_42 (dk_at dksX6_found_0 18 rfl rfl)
theorem dX6_found_19 : decode cX6_found 19 = .ok (.iconst 1, 1) := dk_4 (dk_at dksX6_found_0 19 rfl rfl)
theorem dX6_found_20 : decode cX6_found 20 = .ok (.putfield 115, 3) := dk_181 0 115 (dk_at dksX6_found_0 20 rfl rfl)
theorem dX6_found_23 : decode cX6_found 23 = .ok (.iconst 0, 1) := dk_3 (dk_at dksX6_found_0 23 rfl rfl)
theorem dX6_found_24 : decode cX6_found 24 = .ok (.ireturn, 1) := dk_172 (dk_at dksX6_found_1 0 rfl rfl)
theorem dX6_found_25 : decode cX6_found 25 = .ok (.iload_n 1, 1) := dk_27 (dk_at dksX6_found_1 1 rfl rfl)
theorem dX6_found_26 : decode cX6_found 26 = .ok (.iconst 0, 1) := dk_3 (dk_at dksX6_found_1 2 rfl rfl)
theorem dX6_found_27 : decode cX6_found 27 = .ok (.aload_n 0, 1) := dk_42 (dk_at dksX6_found_1 3 rfl rfl)
theorem dX6_found_28 : decode cX6_found 28 = .ok (.getfield 321, 3) := dk_180 1 65 (dk_at dksX6_found_1 4 rfl rfl)
theorem dX6_found_31 : decode cX6_found 31 = .ok (.iconst 1, 1) := dk_4 (dk_at dksX6_found_1 7 rfl rfl)
theorem dX6_found_32 : decode cX6_found 32 = .ok (.isub, 1) := dk_100 (dk_at dksX6_found_1 8 rfl rfl)
theorem dX6_found_33 : decode cX6_found 33 = .ok (.invokestatic 121, 3) := dk_184 0 121 (dk_at dksX6_found_1 9 rfl rfl)
theorem dX6_found_36 : decode cX6_found 36 = .ok (.ifCond .ne 10, 3) := dk_154 0 10 (dk_at dksX6_found_1 12 rfl rfl)
theorem dX6_found_39 : decode cX6_found 39 = .ok (.aload_n 0, 1) := dk_42 (dk_at dksX6_found_1 15 rfl rfl)
theorem dX6_found_40 : decode cX6_found 40 = .ok (.iconst 2, 1) := dk_5 (dk_at dksX6_found_1 16 rfl rfl)
theorem dX6_found_41 : decode cX6_found 41 = .ok (.putfield 115, 3) := dk_181 0 115 (dk_at dksX6_found_1 17 rfl rfl)
theorem dX6_found_44 : decode cX6_found 44 = .ok (.iconst 0, 1) := dk_3 (dk_at dksX6_found_1 20 rfl rfl)
theorem dX6_found_45 : decode cX6_found 45 = .ok (.ireturn, 1) := dk_172 (dk_at dksX6_found_1 21 rfl rfl)
theorem dX6_found_46 : decode cX6_found 46 = .ok (.iload_n 2, 1) := dk_28 (dk_at dksX6_found_1 22 rfl rfl)
theorem dX6_found_47 : decode cX6_found 47 = .ok (.tableswitch 79 0 5 #[37, 44, 51, 58, 65, 72], 37) := by decide +kernel
theorem dX6_found_84 : decode cX6_found 84 = .ok (.aload_n 0, 1) := dk_42 (dk_at dksX6_found_3 0 rfl rfl)
theorem dX6_found_85 : decode cX6_found 85 = .ok (.getfield 52, 3) := dk_180 0 52 (dk_at dksX6_found_3 1 rfl rfl)
theorem dX6_found_88 : decode cX6_found 88 = .ok (.iload_n 1, 1) := dk_27 (dk_at dksX6_found_3 4 rfl rfl)
theorem dX6_found_89 : decode cX6_found 89 = .ok (.iaload, 1) := dk_46 (dk_at dksX6_found_3 5 rfl rfl)
theorem dX6_found_90 : decode cX6_found 90 = .ok (.ireturn, 1) := dk_172 (dk_at dksX6_found_3 6 rfl rfl)
theorem dX6_found_91 : decode cX6_found 91 = .ok (.aload_n 0, 1) := dk_42 (dk_at dksX6_found_3 7 rfl rfl)
theorem dX6_found_92 : decode cX6_found 92 = .ok (.getfield 55, 3) := dk_180 0 55 (dk_at dksX6_found_3 8 rfl rfl)
theorem dX6_found_95 : decode cX6_found 95 = .ok (.iload_n 1, 1) := dk_27 (dk_at dksX6_found_3 11 rfl rfl)
theorem dX6_found_96 : decode cX6_found 96 = .ok (.iaload, 1) := dk_46 (dk_at dksX6_found_3 12 rfl rfl)
theorem dX6_found_97 : decode cX6_found 97 = .ok (.ireturn, 1) := dk_172 (dk_at dksX6_found_3 13 rfl rfl)
theorem dX6_found_98 : decode cX6_found 98 = .ok (.aload_n 0, 1) := dk_42 (dk_at dksX6_found_3 14 rfl rfl)
theorem dX6_found_99 : decode cX6_found 99 = .ok (.getfield 58, 3) := dk_180 0 58 (dk_at dksX6_found_3 15 rfl rfl)
theorem dX6_found_102 : decode cX6_found 102 = .ok (.iload_n 1, 1) := dk_27 (dk_at dksX6_found_3 18 rfl rfl)
theorem dX6_found_103 : decode cX6_found 103 = .ok (.iaload, 1) := dk_46 (dk_at dksX6_found_3 19 rfl rfl)
theorem dX6_found_104 : decode cX6_found 104 = .ok (.ireturn, 1) := dk_172 (dk_at dksX6_found_3 20 rfl rfl)
theorem dX6_found_105 : decode cX6_found 105 = .ok (.aload_n 0, 1) := dk_42 (dk_at dksX6_found_3 21 rfl rfl)
theorem dX6_found_106 : decode cX6_found 106 = .ok (.getfield 61, 3) := dk_180 0 61 (dk_at dksX6_found_4 0 rfl rfl)
theorem dX6_found_109 : decode cX6_found 109 = .ok (.iload_n 1, 1) := dk_27 (dk_at dksX6_found_4 3 rfl rfl)
theorem dX6_found_110 : decode cX6_found 110 = .ok (.iaload, 1) := dk_46 (dk_at dksX6_found_4 4 rfl rfl)
theorem dX6_found_111 : decode cX6_found 111 = .ok (.ireturn, 1) := dk_172 (dk_at dksX6_found_4 5 rfl rfl)
theorem dX6_found_112 : decode cX6_found 112 = .ok (.aload_n 0, 1) := dk_42 (dk_at dksX6_found_4 6 rfl rfl)
theorem dX6_found_113 : decode cX6_found 113 = .ok (.getfield 77, 3) := dk_180 0 77 (dk_at dksX6_found_4 7 rfl rfl)
theorem dX6_found_116 : decode cX6_found 116 = .ok (.iload_n 1, 1) := dk_27 (dk_at dksX6_found_4 10 rfl rfl)
theorem dX6_found_117 : decode cX6_found 117 = .ok (.iaload, 1) := dk_46 (dk_at dksX6_found_4 11 rfl rfl)
theorem dX6_found_118 : decode cX6_found 118 = .ok (.ireturn, 1) := dk_172 (dk_at dksX6_found_4 12 rfl rfl)
theorem dX6_found_119 : decode cX6_found 119 = .ok (.aload_n 0, 1) := dk_42 (dk_at dksX6_found_4 13 rfl rfl)
theorem dX6_found_120 : decode cX6_found 120 = .ok (.getfield 74, 3) := dk_180 0 74 (dk_at dksX6_found_4 14 rfl rfl)
theorem dX6_found_123 : decode cX6_found 123 = .ok (.iload_n 1, 1) := dk_27 (dk_at dksX6_found_4 17 rfl rfl)
theorem dX6_found_124 : decode cX6_found 124 = .ok (.iaload, 1) := dk_46 (dk_at dksX6_found_4 18 rfl rfl)
theorem dX6_found_125 : decode cX6_found 125 = .ok (.ireturn, 1) := dk_172 (dk_at dksX6_found_4 19 rfl rfl)
theorem dX6_found_126 : decode cX6_found 126 = .ok (.iconst (-1), 1) := dk_2 (dk_at dksX6_found_4 20 rfl rfl)
theorem dX6_found_127 : decode cX6_found 127 = .ok (.ireturn, 1) := dk_172 (dk_at dksX6_found_4 21 rfl rfl)
abbrev cX6_page : ByteArray := prog_8_method_61_code
def yX6_page : MethodName := ⟨RX6, "page", "(II)I"⟩
def dkwX6_page_2 : List UInt8 := [46, 167, 0, 17, 28, 6, 160, 0, 11, 42, 27, 182, 1, 72, 167, 0, 4, 2, 172]
abbrev dktX6_page_2 : List UInt8 := dkwX6_page_2 ++ []
def dkwX6_page_1 : List UInt8 := [28, 4, 160, 0, 12, 42, 180, 0, 96, 27, 46, 167, 0, 31, 28, 5, 160, 0, 12, 42, 180, 0, 102, 27]
abbrev dktX6_page_1 : List UInt8 := dkwX6_page_1 ++ dktX6_page_2
def dkwX6_page_0 : List UInt8 := [42, 27, 4, 182, 1, 68, 154, 0, 5, 3, 172, 28, 154, 0, 12, 42, 180, 0, 93, 27, 46, 167, 0, 45]
abbrev dktX6_page_0 : List UInt8 := dkwX6_page_0 ++ dktX6_page_1
theorem dksX6_page_0 : cX6_page.data.toList.drop 0 = dktX6_page_0 := by decide +kernel
theorem dksX6_page_1 : cX6_page.data.toList.drop 24 = dktX6_page_1 := dk_seg dksX6_page_0 24 rfl rfl
theorem dksX6_page_2 : cX6_page.data.toList.drop 48 = dktX6_page_2 := dk_seg dksX6_page_1 24 rfl rfl
theorem dX6_page_0 : decode cX6_page 0 = .ok (.aload_n 0, 1) := dk_42 (dk_at dksX6_page_0 0 rfl rfl)
theorem dX6_page_1 : decode cX6_page 1 = .ok (.iload_n 1, 1) := dk_27 (dk_at dksX6_page_0 1 rfl rfl)
theorem dX6_page_2 : decode cX6_page 2 = .ok (.iconst 1, 1) := dk_4 (dk_at dksX6_page_0 2 rfl rfl)
theorem dX6_page_3 : decode cX6_page 3 = .ok (.invokevirtual 324, 3) := dk_182 1 68 (dk_at dksX6_page_0 3 rfl rfl)
theorem dX6_page_6 : decode cX6_page 6 = .ok (.ifCond .ne 5, 3) := dk_154 0 5 (dk_at dksX6_page_0 6 rfl rfl)
theorem dX6_page_9 : decode cX6_page 9 = .ok (.iconst 0, 1) := dk_3 (dk_at dksX6_page_0 9 rfl rfl)
theorem dX6_page_10 : decode cX6_page 10 = .ok (.ireturn, 1) := dk_172 (dk_at dksX6_page_0 10 rfl rfl)
theorem dX6_page_11 : decode cX6_page 11 = .ok (.iload_n 2, 1) := dk_28 (dk_at dksX6_page_0 11 rfl rfl)
theorem dX6_page_12 : decode cX6_page 12 = .ok (.ifCond .ne 12, 3) := dk_154 0 12 (dk_at dksX6_page_0 12 rfl rfl)
theorem dX6_page_15 : decode cX6_page 15 = .ok (.aload_n 0, 1) := dk_42 (dk_at dksX6_page_0 15 rfl rfl)
theorem dX6_page_16 : decode cX6_page 16 = .ok (.getfield 93, 3) := dk_180 0 93 (dk_at dksX6_page_0 16 rfl rfl)
theorem dX6_page_19 : decode cX6_page 19 = .ok (.iload_n 1, 1) := dk_27 (dk_at dksX6_page_0 19 rfl rfl)
theorem dX6_page_20 : decode cX6_page 20 = .ok (.iaload, 1) := dk_46 (dk_at dksX6_page_0 20 rfl rfl)
theorem dX6_page_21 : decode cX6_page 21 = .ok (.goto 45, 3) := dk_167 0 45 (dk_at dksX6_page_0 21 rfl rfl)
theorem dX6_page_24 : decode cX6_page 24 = .ok (.iload_n 2, 1) := dk_28 (dk_at dksX6_page_1 0 rfl rfl)
theorem dX6_page_25 : decode cX6_page 25 = .ok (.iconst 1, 1) := dk_4 (dk_at dksX6_page_1 1 rfl rfl)
theorem dX6_page_26 : decode cX6_page 26 = .ok (.if_icmp .ne 12, 3) := dk_160 0 12 (dk_at dksX6_page_1 2 rfl rfl)
theorem dX6_page_29 : decode cX6_page 29 = .ok (.aload_n 0, 1) := dk_42 (dk_at dksX6_page_1 5 rfl rfl)
theorem dX6_page_30 : decode cX6_page 30 = .ok (.getfield 96, 3) := dk_180 0 96 (dk_at dksX6_page_1 6 rfl rfl)
theorem dX6_page_33 : decode cX6_page 33 = .ok (.iload_n 1, 1) := dk_27 (dk_at dksX6_page_1 9 rfl rfl)
theorem dX6_page_34 : decode cX6_page 34 = .ok (.iaload, 1) := dk_46 (dk_at dksX6_page_1 10 rfl rfl)
theorem dX6_page_35 : decode cX6_page 35 = .ok (.goto 31, 3) := dk_167 0 31 (dk_at dksX6_page_1 11 rfl rfl)
theorem dX6_page_38 : decode cX6_page 38 = .ok (.iload_n 2, 1) := dk_28 (dk_at dksX6_page_1 14 rfl rfl)
theorem dX6_page_39 : decode cX6_page 39 = .ok (.iconst 2, 1) := dk_5 (dk_at dksX6_page_1 15 rfl rfl)
theorem dX6_page_40 : decode cX6_page 40 = .ok (.if_icmp .ne 12, 3) := dk_160 0 12 (dk_at dksX6_page_1 16 rfl rfl)
theorem dX6_page_43 : decode cX6_page 43 = .ok (.aload_n 0, 1) := dk_42 (dk_at dksX6_page_1 19 rfl rfl)
theorem dX6_page_44 : decode cX6_page 44 = .ok (.getfield 102, 3) := dk_180 0 102 (dk_at dksX6_page_1 20 rfl rfl)
theorem dX6_page_47 : decode cX6_page 47 = .ok (.iload_n 1, 1) := dk_27 (dk_at dksX6_page_1 23 rfl rfl)
theorem dX6_page_48 : decode cX6_page 48 = .ok (.iaload, 1) := dk_46 (dk_at dksX6_page_2 0 rfl rfl)
theorem dX6_page_49 : decode cX6_page 49 = .ok (.goto 17, 3) := dk_167 0 17 (dk_at dksX6_page_2 1 rfl rfl)
theorem dX6_page_52 : decode cX6_page 52 = .ok (.iload_n 2, 1) := dk_28 (dk_at dksX6_page_2 4 rfl rfl)
theorem dX6_page_53 : decode cX6_page 53 = .ok (.iconst 3, 1) := dk_6 (dk_at dksX6_page_2 5 rfl rfl)
theorem dX6_page_54 : decode cX6_page 54 = .ok (.if_icmp .ne 11, 3) := dk_160 0 11 (dk_at dksX6_page_2 6 rfl rfl)
theorem dX6_page_57 : decode cX6_page 57 = .ok (.aload_n 0, 1) := dk_42 (dk_at dksX6_page_2 9 rfl rfl)
theorem dX6_page_58 : decode cX6_page 58 = .ok (.iload_n 1, 1) := dk_27 (dk_at dksX6_page_2 10 rfl rfl)
theorem dX6_page_59 : decode cX6_page 59 = .ok (.invokevirtual 328, 3) := dk_182 1 72 (dk_at dksX6_page_2 11 rfl rfl)
theorem dX6_page_62 : decode cX6_page 62 = .ok (.goto 4, 3) := dk_167 0 4 (dk_at dksX6_page_2 14 rfl rfl)
theorem dX6_page_65 : decode cX6_page 65 = .ok (.iconst (-1), 1) := dk_2 (dk_at dksX6_page_2 17 rfl rfl)
theorem dX6_page_66 : decode cX6_page 66 = .ok (.ireturn, 1) := dk_172 (dk_at dksX6_page_2 18 rfl rfl)
abbrev cX6_mayPage : ByteArray := prog_8_method_59_code
def yX6_mayPage : MethodName := ⟨RX6, "mayPage", "(IZ)Z"⟩
def dkwX6_mayPage_1 : List UInt8 := [180, 0, 89, 27, 51, 153, 0, 11, 28, 153, 0, 7, 4, 167, 0, 4, 3, 4, 4, 182, 0, 129, 172]
abbrev dktX6_mayPage_1 : List UInt8 := dkwX6_mayPage_1 ++ []
def dkwX6_mayPage_0 : List UInt8 := [42, 42, 180, 1, 61, 42, 180, 1, 61, 153, 0, 30, 27, 3, 16, 9, 184, 0, 121, 153, 0, 20, 42]
abbrev dktX6_mayPage_0 : List UInt8 := dkwX6_mayPage_0 ++ dktX6_mayPage_1
theorem dksX6_mayPage_0 : cX6_mayPage.data.toList.drop 0 = dktX6_mayPage_0 := by decide +kernel
theorem dksX6_mayPage_1 : cX6_mayPage.data.toList.drop 23 = dktX6_mayPage_1 := dk_seg dksX6_mayPage_0 23 rfl rfl
theorem dX6_mayPage_0 : decode cX6_mayPage 0 = .ok (.aload_n 0, 1) := dk_42 (dk_at dksX6_mayPage_0 0 rfl rfl)
theorem dX6_mayPage_1 : decode cX6_mayPage 1 = .ok (.aload_n 0, 1) := dk_42 (dk_at dksX6_mayPage_0 1 rfl rfl)
theorem dX6_mayPage_2 : decode cX6_mayPage 2 = .ok (.getfield 317, 3) := dk_180 1 61 (dk_at dksX6_mayPage_0 2 rfl rfl)
theorem dX6_mayPage_5 : decode cX6_mayPage 5 = .ok (.aload_n 0, 1) := dk_42 (dk_at dksX6_mayPage_0 5 rfl rfl)
theorem dX6_mayPage_6 : decode cX6_mayPage 6 = .ok (.getfield 317, 3) := dk_180 1 61 (dk_at dksX6_mayPage_0 6 rfl rfl)
theorem dX6_mayPage_9 : decode cX6_mayPage 9 = .ok (.ifCond .eq 30, 3) := dk_153 0 30 (dk_at dksX6_mayPage_0 9 rfl rfl)
theorem dX6_mayPage_12 : decode cX6_mayPage 12 = .ok (.iload_n 1, 1) := dk_27 (dk_at dksX6_mayPage_0 12 rfl rfl)
theorem dX6_mayPage_13 : decode cX6_mayPage 13 = .ok (.iconst 0, 1) := dk_3 (dk_at dksX6_mayPage_0 13 rfl rfl)
theorem dX6_mayPage_14 : decode cX6_mayPage 14 = .ok (.bipush 9, 2) := dk_16 9 (dk_at dksX6_mayPage_0 14 rfl rfl)
theorem dX6_mayPage_16 : decode cX6_mayPage 16 = .ok (.invokestatic 121, 3) := dk_184 0 121 (dk_at dksX6_mayPage_0 16 rfl rfl)
theorem dX6_mayPage_19 : decode cX6_mayPage 19 = .ok (.ifCond .eq 20, 3) := dk_153 0 20 (dk_at dksX6_mayPage_0 19 rfl rfl)
theorem dX6_mayPage_22 : decode cX6_mayPage 22 = .ok (.aload_n 0, 1) := dk_42 (dk_at dksX6_mayPage_0 22 rfl rfl)
theorem dX6_mayPage_23 : decode cX6_mayPage 23 = .ok (.getfield 89, 3) := dk_180 0 89 (dk_at dksX6_mayPage_1 0 rfl rfl)
theorem dX6_mayPage_26 : decode cX6_mayPage 26 = .ok (.iload_n 1, 1) := dk_27 (dk_at dksX6_mayPage_1 3 rfl rfl)
theorem dX6_mayPage_27 : decode cX6_mayPage 27 = .ok (.baload, 1) := dk_51 (dk_at dksX6_mayPage_1 4 rfl rfl)
theorem dX6_mayPage_28 : decode cX6_mayPage 28 = .ok (.ifCond .eq 11, 3) := dk_153 0 11 (dk_at dksX6_mayPage_1 5 rfl rfl)
theorem dX6_mayPage_31 : decode cX6_mayPage 31 = .ok (.iload_n 2, 1) := dk_28 (dk_at dksX6_mayPage_1 8 rfl rfl)
theorem dX6_mayPage_32 : decode cX6_mayPage 32 = .ok (.ifCond .eq 7, 3) := dk_153 0 7 (dk_at dksX6_mayPage_1 9 rfl rfl)
theorem dX6_mayPage_35 : decode cX6_mayPage 35 = .ok (.iconst 1, 1) := dk_4 (dk_at dksX6_mayPage_1 12 rfl rfl)
theorem dX6_mayPage_36 : decode cX6_mayPage 36 = .ok (.goto 4, 3) := dk_167 0 4 (dk_at dksX6_mayPage_1 13 rfl rfl)
theorem dX6_mayPage_39 : decode cX6_mayPage 39 = .ok (.iconst 0, 1) := dk_3 (dk_at dksX6_mayPage_1 16 rfl rfl)
theorem dX6_mayPage_40 : decode cX6_mayPage 40 = .ok (.iconst 1, 1) := dk_4 (dk_at dksX6_mayPage_1 17 rfl rfl)
theorem dX6_mayPage_41 : decode cX6_mayPage 41 = .ok (.iconst 1, 1) := dk_4 (dk_at dksX6_mayPage_1 18 rfl rfl)
theorem dX6_mayPage_42 : decode cX6_mayPage 42 = .ok (.invokevirtual 129, 3) := dk_182 0 129 (dk_at dksX6_mayPage_1 19 rfl rfl)
theorem dX6_mayPage_45 : decode cX6_mayPage 45 = .ok (.ireturn, 1) := dk_172 (dk_at dksX6_mayPage_1 22 rfl rfl)
abbrev cX6_darkOf : ByteArray := prog_8_method_60_code
def yX6_darkOf : MethodName := ⟨RX6, "darkOf", "(I)I"⟩
def dkwX6_darkOf_2 : List UInt8 := [167, 0, 4, 3, 96, 61, 132, 3, 1, 167, 255, 204, 28, 172]
abbrev dktX6_darkOf_2 : List UInt8 := dkwX6_darkOf_2 ++ []
def dkwX6_darkOf_1 : List UInt8 := [180, 0, 93, 27, 46, 162, 0, 22, 42, 180, 0, 108, 17, 4, 0, 27, 104, 29, 96, 51, 153, 0, 7, 4]
abbrev dktX6_darkOf_1 : List UInt8 := dkwX6_darkOf_1 ++ dktX6_darkOf_2
def dkwX6_darkOf_0 : List UInt8 := [3, 61, 3, 62, 29, 16, 32, 42, 180, 0, 96, 27, 46, 104, 162, 0, 45, 28, 29, 16, 32, 112, 42]
abbrev dktX6_darkOf_0 : List UInt8 := dkwX6_darkOf_0 ++ dktX6_darkOf_1
theorem dksX6_darkOf_0 : cX6_darkOf.data.toList.drop 0 = dktX6_darkOf_0 := by decide +kernel
theorem dksX6_darkOf_1 : cX6_darkOf.data.toList.drop 23 = dktX6_darkOf_1 := dk_seg dksX6_darkOf_0 23 rfl rfl
theorem dksX6_darkOf_2 : cX6_darkOf.data.toList.drop 47 = dktX6_darkOf_2 := dk_seg dksX6_darkOf_1 24 rfl rfl
theorem dX6_darkOf_0 : decode cX6_darkOf 0 = .ok (.iconst 0, 1) := dk_3 (dk_at dksX6_darkOf_0 0 rfl rfl)
theorem dX6_darkOf_1 : decode cX6_darkOf 1 = .ok (.istore_n 2, 1) := dk_61 (dk_at dksX6_darkOf_0 1 rfl rfl)
theorem dX6_darkOf_2 : decode cX6_darkOf 2 = .ok (.iconst 0, 1) := dk_3 (dk_at dksX6_darkOf_0 2 rfl rfl)
theorem dX6_darkOf_3 : decode cX6_darkOf 3 = .ok (.istore_n 3, 1) := dk_62 (dk_at dksX6_darkOf_0 3 rfl rfl)
theorem dX6_darkOf_4 : decode cX6_darkOf 4 = .ok (.iload_n 3, 1) := dk_29 (dk_at dksX6_darkOf_0 4 rfl rfl)
theorem dX6_darkOf_5 : decode cX6_darkOf 5 = .ok (.bipush 32, 2) := dk_16 32 (dk_at dksX6_darkOf_0 5 rfl rfl)
theorem dX6_darkOf_7 : decode cX6_darkOf 7 = .ok (.aload_n 0, 1) := dk_42 (dk_at dksX6_darkOf_0 7 rfl rfl)
theorem dX6_darkOf_8 : decode cX6_darkOf 8 = .ok (.getfield 96, 3) := dk_180 0 96 (dk_at dksX6_darkOf_0 8 rfl rfl)
theorem dX6_darkOf_11 : decode cX6_darkOf 11 = .ok (.iload_n 1, 1) := dk_27 (dk_at dksX6_darkOf_0 11 rfl rfl)
theorem dX6_darkOf_12 : decode cX6_darkOf 12 = .ok (.iaload, 1) := dk_46 (dk_at dksX6_darkOf_0 12 rfl rfl)
theorem dX6_darkOf_13 : decode cX6_darkOf 13 = .ok (.imul, 1) := dk_104 (dk_at dksX6_darkOf_0 13 rfl rfl)
theorem dX6_darkOf_14 : decode cX6_darkOf 14 = .ok (.if_icmp .ge 45, 3) := dk_162 0 45 (dk_at dksX6_darkOf_0 14 rfl rfl)
theorem dX6_darkOf_17 : decode cX6_darkOf 17 = .ok (.iload_n 2, 1) := dk_28 (dk_at dksX6_darkOf_0 17 rfl rfl)
theorem dX6_darkOf_18 : decode cX6_darkOf 18 = .ok (.iload_n 3, 1) := dk_29 (dk_at dksX6_darkOf_0 18 rfl rfl)
theorem dX6_darkOf_19 : decode cX6_darkOf 19 = .ok (.bipush 32, 2) := dk_16 32 (dk_at dksX6_darkOf_0 19 rfl rfl)
theorem dX6_darkOf_21 : decode cX6_darkOf 21 = .ok (.irem, 1) := dk_112 (dk_at dksX6_darkOf_0 21 rfl rfl)
theorem dX6_darkOf_22 : decode cX6_darkOf 22 = .ok (.aload_n 0, 1) := dk_42 (dk_at dksX6_darkOf_0 22 rfl rfl)
theorem dX6_darkOf_23 : decode cX6_darkOf 23 = .ok (.getfield 93, 3) := dk_180 0 93 (dk_at dksX6_darkOf_1 0 rfl rfl)
theorem dX6_darkOf_26 : decode cX6_darkOf 26 = .ok (.iload_n 1, 1) := dk_27 (dk_at dksX6_darkOf_1 3 rfl rfl)
theorem dX6_darkOf_27 : decode cX6_darkOf 27 = .ok (.iaload, 1) := dk_46 (dk_at dksX6_darkOf_1 4 rfl rfl)
theorem dX6_darkOf_28 : decode cX6_darkOf 28 = .ok (.if_icmp .ge 22, 3) := dk_162 0 22 (dk_at dksX6_darkOf_1 5 rfl rfl)
theorem dX6_darkOf_31 : decode cX6_darkOf 31 = .ok (.aload_n 0, 1) := dk_42 (dk_at dksX6_darkOf_1 8 rfl rfl)
theorem dX6_darkOf_32 : decode cX6_darkOf 32 = .ok (.getfield 108, 3) := dk_180 0 108 (dk_at dksX6_darkOf_1 9 rfl rfl)
theorem dX6_darkOf_35 : decode cX6_darkOf 35 = .ok (.sipush 1024, 3) := dk_17 4 0 (dk_at dksX6_darkOf_1 12 rfl rfl)
theorem dX6_darkOf_38 : decode cX6_darkOf 38 = .ok (.iload_n 1, 1) := dk_27 (dk_at dksX6_darkOf_1 15 rfl rfl)
theorem dX6_darkOf_39 : decode cX6_darkOf 39 = .ok (.imul, 1) := dk_104 (dk_at dksX6_darkOf_1 16 rfl rfl)
theorem dX6_darkOf_40 : decode cX6_darkOf 40 = .ok (.iload_n 3, 1) := dk_29 (dk_at dksX6_darkOf_1 17 rfl rfl)
theorem dX6_darkOf_41 : decode cX6_darkOf 41 = .ok (.iadd, 1) := dk_96 (dk_at dksX6_darkOf_1 18 rfl rfl)
theorem dX6_darkOf_42 : decode cX6_darkOf 42 = .ok (.baload, 1) := dk_51 (dk_at dksX6_darkOf_1 19 rfl rfl)
theorem dX6_darkOf_43 : decode cX6_darkOf 43 = .ok (.ifCond .eq 7, 3) := dk_153 0 7 (dk_at dksX6_darkOf_1 20 rfl rfl)
theorem dX6_darkOf_46 : decode cX6_darkOf 46 = .ok (.iconst 1, 1) := dk_4 (dk_at dksX6_darkOf_1 23 rfl rfl)
theorem dX6_darkOf_47 : decode cX6_darkOf 47 = .ok (.goto 4, 3) := dk_167 0 4 (dk_at dksX6_darkOf_2 0 rfl rfl)
theorem dX6_darkOf_50 : decode cX6_darkOf 50 = .ok (.iconst 0, 1) := dk_3 (dk_at dksX6_darkOf_2 3 rfl rfl)
theorem dX6_darkOf_51 : decode cX6_darkOf 51 = .ok (.iadd, 1) := dk_96 (dk_at dksX6_darkOf_2 4 rfl rfl)
theorem dX6_darkOf_52 : decode cX6_darkOf 52 = .ok (.istore_n 2, 1) := dk_61 (dk_at dksX6_darkOf_2 5 rfl rfl)
theorem dX6_darkOf_53 : decode cX6_darkOf 53 = .ok (.iinc 3 1, 3) := dk_132 3 1 (dk_at dksX6_darkOf_2 6 rfl rfl)
theorem dX6_darkOf_56 : decode cX6_darkOf 56 = .ok (.goto (-52), 3) := dk_167 255 204 (dk_at dksX6_darkOf_2 9 rfl rfl)
theorem dX6_darkOf_59 : decode cX6_darkOf 59 = .ok (.iload_n 2, 1) := dk_28 (dk_at dksX6_darkOf_2 12 rfl rfl)
theorem dX6_darkOf_60 : decode cX6_darkOf 60 = .ok (.ireturn, 1) := dk_172 (dk_at dksX6_darkOf_2 13 rfl rfl)
abbrev cX6_at : ByteArray := prog_8_method_62_code
def yX6_at : MethodName := ⟨RX6, "at", "(III)Z"⟩
def dkwX6_at_3 : List UInt8 := [51, 172]
abbrev dktX6_at_3 : List UInt8 := dkwX6_at_3 ++ []
def dkwX6_at_2 : List UInt8 := [182, 1, 68, 154, 0, 5, 3, 172, 42, 180, 0, 108, 17, 4, 0, 27, 104, 16, 32, 29, 104, 96, 28, 96]
abbrev dktX6_at_2 : List UInt8 := dkwX6_at_2 ++ dktX6_at_3
def dkwX6_at_1 : List UInt8 := [153, 0, 23, 29, 3, 42, 180, 0, 96, 27, 46, 4, 100, 184, 0, 121, 153, 0, 7, 4, 167, 0, 4, 3]
abbrev dktX6_at_1 : List UInt8 := dkwX6_at_1 ++ dktX6_at_2
def dkwX6_at_0 : List UInt8 := [42, 27, 4, 182, 1, 68, 153, 0, 48, 42, 27, 28, 3, 42, 180, 0, 93, 27, 46, 4, 100, 184, 0, 121]
abbrev dktX6_at_0 : List UInt8 := dkwX6_at_0 ++ dktX6_at_1
theorem dksX6_at_0 : cX6_at.data.toList.drop 0 = dktX6_at_0 := by decide +kernel
theorem dksX6_at_1 : cX6_at.data.toList.drop 24 = dktX6_at_1 := dk_seg dksX6_at_0 24 rfl rfl
theorem dksX6_at_2 : cX6_at.data.toList.drop 48 = dktX6_at_2 := dk_seg dksX6_at_1 24 rfl rfl
theorem dksX6_at_3 : cX6_at.data.toList.drop 72 = dktX6_at_3 := dk_seg dksX6_at_2 24 rfl rfl
theorem dX6_at_0 : decode cX6_at 0 = .ok (.aload_n 0, 1) := dk_42 (dk_at dksX6_at_0 0 rfl rfl)
theorem dX6_at_1 : decode cX6_at 1 = .ok (.iload_n 1, 1) := dk_27 (dk_at dksX6_at_0 1 rfl rfl)
theorem dX6_at_2 : decode cX6_at 2 = .ok (.iconst 1, 1) := dk_4 (dk_at dksX6_at_0 2 rfl rfl)
theorem dX6_at_3 : decode cX6_at 3 = .ok (.invokevirtual 324, 3) := dk_182 1 68 (dk_at dksX6_at_0 3 rfl rfl)
theorem dX6_at_6 : decode cX6_at 6 = .ok (.ifCond .eq 48, 3) := dk_153 0 48 (dk_at dksX6_at_0 6 rfl rfl)
theorem dX6_at_9 : decode cX6_at 9 = .ok (.aload_n 0, 1) := dk_42 (dk_at dksX6_at_0 9 rfl rfl)
theorem dX6_at_10 : decode cX6_at 10 = .ok (.iload_n 1, 1) := dk_27 (dk_at dksX6_at_0 10 rfl rfl)
theorem dX6_at_11 : decode cX6_at 11 = .ok (.iload_n 2, 1) := dk_28 (dk_at dksX6_at_0 11 rfl rfl)
theorem dX6_at_12 : decode cX6_at 12 = .ok (.iconst 0, 1) := dk_3 (dk_at dksX6_at_0 12 rfl rfl)
theorem dX6_at_13 : decode cX6_at 13 = .ok (.aload_n 0, 1) := dk_42 (dk_at dksX6_at_0 13 rfl rfl)
theorem dX6_at_14 : decode cX6_at 14 = .ok (.getfield 93, 3) := dk_180 0 93 (dk_at dksX6_at_0 14 rfl rfl)
theorem dX6_at_17 : decode cX6_at 17 = .ok (.iload_n 1, 1) := dk_27 (dk_at dksX6_at_0 17 rfl rfl)
theorem dX6_at_18 : decode cX6_at 18 = .ok (.iaload, 1) := dk_46 (dk_at dksX6_at_0 18 rfl rfl)
theorem dX6_at_19 : decode cX6_at 19 = .ok (.iconst 1, 1) := dk_4 (dk_at dksX6_at_0 19 rfl rfl)
theorem dX6_at_20 : decode cX6_at 20 = .ok (.isub, 1) := dk_100 (dk_at dksX6_at_0 20 rfl rfl)
theorem dX6_at_21 : decode cX6_at 21 = .ok (.invokestatic 121, 3) := dk_184 0 121 (dk_at dksX6_at_0 21 rfl rfl)
theorem dX6_at_24 : decode cX6_at 24 = .ok (.ifCond .eq 23, 3) := dk_153 0 23 (dk_at dksX6_at_1 0 rfl rfl)
theorem dX6_at_27 : decode cX6_at 27 = .ok (.iload_n 3, 1) := dk_29 (dk_at dksX6_at_1 3 rfl rfl)
theorem dX6_at_28 : decode cX6_at 28 = .ok (.iconst 0, 1) := dk_3 (dk_at dksX6_at_1 4 rfl rfl)
theorem dX6_at_29 : decode cX6_at 29 = .ok (.aload_n 0, 1) := dk_42 (dk_at dksX6_at_1 5 rfl rfl)
theorem dX6_at_30 : decode cX6_at 30 = .ok (.getfield 96, 3) := dk_180 0 96 (dk_at dksX6_at_1 6 rfl rfl)
theorem dX6_at_33 : decode cX6_at 33 = .ok (.iload_n 1, 1) := dk_27 (dk_at dksX6_at_1 9 rfl rfl)
theorem dX6_at_34 : decode cX6_at 34 = .ok (.iaload, 1) := dk_46 (dk_at dksX6_at_1 10 rfl rfl)
theorem dX6_at_35 : decode cX6_at 35 = .ok (.iconst 1, 1) := dk_4 (dk_at dksX6_at_1 11 rfl rfl)
theorem dX6_at_36 : decode cX6_at 36 = .ok (.isub, 1) := dk_100 (dk_at dksX6_at_1 12 rfl rfl)
theorem dX6_at_37 : decode cX6_at 37 = .ok (.invokestatic 121, 3) := dk_184 0 121 (dk_at dksX6_at_1 13 rfl rfl)
theorem dX6_at_40 : decode cX6_at 40 = .ok (.ifCond .eq 7, 3) := dk_153 0 7 (dk_at dksX6_at_1 16 rfl rfl)
theorem dX6_at_43 : decode cX6_at 43 = .ok (.iconst 1, 1) := dk_4 (dk_at dksX6_at_1 19 rfl rfl)
theorem dX6_at_44 : decode cX6_at 44 = .ok (.goto 4, 3) := dk_167 0 4 (dk_at dksX6_at_1 20 rfl rfl)
theorem dX6_at_47 : decode cX6_at 47 = .ok (.iconst 0, 1) := dk_3 (dk_at dksX6_at_1 23 rfl rfl)
theorem dX6_at_48 : decode cX6_at 48 = .ok (.invokevirtual 324, 3) := dk_182 1 68 (dk_at dksX6_at_2 0 rfl rfl)
theorem dX6_at_51 : decode cX6_at 51 = .ok (.ifCond .ne 5, 3) := dk_154 0 5 (dk_at dksX6_at_2 3 rfl rfl)
theorem dX6_at_54 : decode cX6_at 54 = .ok (.iconst 0, 1) := dk_3 (dk_at dksX6_at_2 6 rfl rfl)
theorem dX6_at_55 : decode cX6_at 55 = .ok (.ireturn, 1) := dk_172 (dk_at dksX6_at_2 7 rfl rfl)
theorem dX6_at_56 : decode cX6_at 56 = .ok (.aload_n 0, 1) := dk_42 (dk_at dksX6_at_2 8 rfl rfl)
theorem dX6_at_57 : decode cX6_at 57 = .ok (.getfield 108, 3) := dk_180 0 108 (dk_at dksX6_at_2 9 rfl rfl)
theorem dX6_at_60 : decode cX6_at 60 = .ok (.sipush 1024, 3) := dk_17 4 0 (dk_at dksX6_at_2 12 rfl rfl)
theorem dX6_at_63 : decode cX6_at 63 = .ok (.iload_n 1, 1) := dk_27 (dk_at dksX6_at_2 15 rfl rfl)
theorem dX6_at_64 : decode cX6_at 64 = .ok (.imul, 1) := dk_104 (dk_at dksX6_at_2 16 rfl rfl)
theorem dX6_at_65 : decode cX6_at 65 = .ok (.bipush 32, 2) := dk_16 32 (dk_at dksX6_at_2 17 rfl rfl)
theorem dX6_at_67 : decode cX6_at 67 = .ok (.iload_n 3, 1) := dk_29 (dk_at dksX6_at_2 19 rfl rfl)
theorem dX6_at_68 : decode cX6_at 68 = .ok (.imul, 1) := dk_104 (dk_at dksX6_at_2 20 rfl rfl)
theorem dX6_at_69 : decode cX6_at 69 = .ok (.iadd, 1) := dk_96 (dk_at dksX6_at_2 21 rfl rfl)
theorem dX6_at_70 : decode cX6_at 70 = .ok (.iload_n 2, 1) := dk_28 (dk_at dksX6_at_2 22 rfl rfl)
theorem dX6_at_71 : decode cX6_at 71 = .ok (.iadd, 1) := dk_96 (dk_at dksX6_at_2 23 rfl rfl)
theorem dX6_at_72 : decode cX6_at 72 = .ok (.baload, 1) := dk_51 (dk_at dksX6_at_3 0 rfl rfl)
theorem dX6_at_73 : decode cX6_at 73 = .ok (.ireturn, 1) := dk_172 (dk_at dksX6_at_3 1 rfl rfl)
abbrev cX6_stripe : ByteArray := prog_8_method_63_code
def yX6_stripe : MethodName := ⟨RX6, "stripe", "(II)I"⟩
def dkwX6_stripe_1 : List UInt8 := [182, 1, 68, 154, 0, 5, 3, 172, 42, 180, 0, 105, 16, 32, 27, 104, 28, 96, 46, 172]
abbrev dktX6_stripe_1 : List UInt8 := dkwX6_stripe_1 ++ []
def dkwX6_stripe_0 : List UInt8 := [42, 27, 4, 182, 1, 68, 153, 0, 24, 42, 27, 28, 3, 42, 180, 0, 102, 27, 46, 4, 100, 184, 0, 121]
abbrev dktX6_stripe_0 : List UInt8 := dkwX6_stripe_0 ++ dktX6_stripe_1
theorem dksX6_stripe_0 : cX6_stripe.data.toList.drop 0 = dktX6_stripe_0 := by decide +kernel
theorem dksX6_stripe_1 : cX6_stripe.data.toList.drop 24 = dktX6_stripe_1 := dk_seg dksX6_stripe_0 24 rfl rfl
theorem dX6_stripe_0 : decode cX6_stripe 0 = .ok (.aload_n 0, 1) := dk_42 (dk_at dksX6_stripe_0 0 rfl rfl)
theorem dX6_stripe_1 : decode cX6_stripe 1 = .ok (.iload_n 1, 1) := dk_27 (dk_at dksX6_stripe_0 1 rfl rfl)
theorem dX6_stripe_2 : decode cX6_stripe 2 = .ok (.iconst 1, 1) := dk_4 (dk_at dksX6_stripe_0 2 rfl rfl)
theorem dX6_stripe_3 : decode cX6_stripe 3 = .ok (.invokevirtual 324, 3) := dk_182 1 68 (dk_at dksX6_stripe_0 3 rfl rfl)
theorem dX6_stripe_6 : decode cX6_stripe 6 = .ok (.ifCond .eq 24, 3) := dk_153 0 24 (dk_at dksX6_stripe_0 6 rfl rfl)
theorem dX6_stripe_9 : decode cX6_stripe 9 = .ok (.aload_n 0, 1) := dk_42 (dk_at dksX6_stripe_0 9 rfl rfl)
theorem dX6_stripe_10 : decode cX6_stripe 10 = .ok (.iload_n 1, 1) := dk_27 (dk_at dksX6_stripe_0 10 rfl rfl)
theorem dX6_stripe_11 : decode cX6_stripe 11 = .ok (.iload_n 2, 1) := dk_28 (dk_at dksX6_stripe_0 11 rfl rfl)
theorem dX6_stripe_12 : decode cX6_stripe 12 = .ok (.iconst 0, 1) := dk_3 (dk_at dksX6_stripe_0 12 rfl rfl)
theorem dX6_stripe_13 : decode cX6_stripe 13 = .ok (.aload_n 0, 1) := dk_42 (dk_at dksX6_stripe_0 13 rfl rfl)
theorem dX6_stripe_14 : decode cX6_stripe 14 = .ok (.getfield 102, 3) := dk_180 0 102 (dk_at dksX6_stripe_0 14 rfl rfl)
theorem dX6_stripe_17 : decode cX6_stripe 17 = .ok (.iload_n 1, 1) := dk_27 (dk_at dksX6_stripe_0 17 rfl rfl)
theorem dX6_stripe_18 : decode cX6_stripe 18 = .ok (.iaload, 1) := dk_46 (dk_at dksX6_stripe_0 18 rfl rfl)
theorem dX6_stripe_19 : decode cX6_stripe 19 = .ok (.iconst 1, 1) := dk_4 (dk_at dksX6_stripe_0 19 rfl rfl)
theorem dX6_stripe_20 : decode cX6_stripe 20 = .ok (.isub, 1) := dk_100 (dk_at dksX6_stripe_0 20 rfl rfl)
theorem dX6_stripe_21 : decode cX6_stripe 21 = .ok (.invokestatic 121, 3) := dk_184 0 121 (dk_at dksX6_stripe_0 21 rfl rfl)
theorem dX6_stripe_24 : decode cX6_stripe 24 = .ok (.invokevirtual 324, 3) := dk_182 1 68 (dk_at dksX6_stripe_1 0 rfl rfl)
theorem dX6_stripe_27 : decode cX6_stripe 27 = .ok (.ifCond .ne 5, 3) := dk_154 0 5 (dk_at dksX6_stripe_1 3 rfl rfl)
theorem dX6_stripe_30 : decode cX6_stripe 30 = .ok (.iconst 0, 1) := dk_3 (dk_at dksX6_stripe_1 6 rfl rfl)
theorem dX6_stripe_31 : decode cX6_stripe 31 = .ok (.ireturn, 1) := dk_172 (dk_at dksX6_stripe_1 7 rfl rfl)
theorem dX6_stripe_32 : decode cX6_stripe 32 = .ok (.aload_n 0, 1) := dk_42 (dk_at dksX6_stripe_1 8 rfl rfl)
theorem dX6_stripe_33 : decode cX6_stripe 33 = .ok (.getfield 105, 3) := dk_180 0 105 (dk_at dksX6_stripe_1 9 rfl rfl)
theorem dX6_stripe_36 : decode cX6_stripe 36 = .ok (.bipush 32, 2) := dk_16 32 (dk_at dksX6_stripe_1 12 rfl rfl)
theorem dX6_stripe_38 : decode cX6_stripe 38 = .ok (.iload_n 1, 1) := dk_27 (dk_at dksX6_stripe_1 14 rfl rfl)
theorem dX6_stripe_39 : decode cX6_stripe 39 = .ok (.imul, 1) := dk_104 (dk_at dksX6_stripe_1 15 rfl rfl)
theorem dX6_stripe_40 : decode cX6_stripe 40 = .ok (.iload_n 2, 1) := dk_28 (dk_at dksX6_stripe_1 16 rfl rfl)
theorem dX6_stripe_41 : decode cX6_stripe 41 = .ok (.iadd, 1) := dk_96 (dk_at dksX6_stripe_1 17 rfl rfl)
theorem dX6_stripe_42 : decode cX6_stripe 42 = .ok (.iaload, 1) := dk_46 (dk_at dksX6_stripe_1 18 rfl rfl)
theorem dX6_stripe_43 : decode cX6_stripe 43 = .ok (.ireturn, 1) := dk_172 (dk_at dksX6_stripe_1 19 rfl rfl)
abbrev cX6_told : ByteArray := prog_8_method_64_code
def yX6_told : MethodName := ⟨RX6, "told", "(I)I"⟩
def dkwX6_told_5 : List UInt8 := [132, 3, 1, 167, 255, 223, 28, 172, 2, 172]
abbrev dktX6_told_5 : List UInt8 := dkwX6_told_5 ++ []
def dkwX6_told_4 : List UInt8 := [180, 1, 61, 153, 0, 26, 28, 42, 180, 0, 89, 29, 51, 153, 0, 7, 4, 167, 0, 4, 3, 96, 61]
abbrev dktX6_told_4 : List UInt8 := dkwX6_told_4 ++ dktX6_told_5
def dkwX6_told_3 : List UInt8 := [172, 42, 180, 1, 58, 172, 42, 180, 1, 65, 172, 3, 61, 3, 62, 29, 16, 10, 162, 0, 33, 42]
abbrev dktX6_told_3 : List UInt8 := dkwX6_told_3 ++ dktX6_told_4
def dkwX6_told_2 : List UInt8 := [42, 180, 0, 111, 172, 42, 180, 0, 118, 172, 42, 180, 0, 159, 172, 42, 180, 0, 191, 172, 42, 180, 0, 188]
abbrev dktX6_told_2 : List UInt8 := dkwX6_told_2 ++ dktX6_told_3
def dkwX6_told_1 : List UInt8 := [170, 0, 0, 0, 0, 123, 0, 0, 0, 0, 0, 0, 0, 7, 0, 0, 0, 46, 0, 0, 0, 51, 0, 0, 0, 56, 0, 0, 0, 61, 0, 0, 0, 66, 0, 0, 0, 71, 0, 0, 0, 76, 0, 0, 0, 81]
abbrev dktX6_told_1 : List UInt8 := dkwX6_told_1 ++ dktX6_told_2
def dkwX6_told_0 : List UInt8 := [42, 3, 181, 0, 115, 27]
abbrev dktX6_told_0 : List UInt8 := dkwX6_told_0 ++ dktX6_told_1
theorem dksX6_told_0 : cX6_told.data.toList.drop 0 = dktX6_told_0 := by decide +kernel
theorem dksX6_told_1 : cX6_told.data.toList.drop 6 = dktX6_told_1 := dk_seg dksX6_told_0 6 rfl rfl
theorem dksX6_told_2 : cX6_told.data.toList.drop 52 = dktX6_told_2 := dk_seg dksX6_told_1 46 rfl rfl
theorem dksX6_told_3 : cX6_told.data.toList.drop 76 = dktX6_told_3 := dk_seg dksX6_told_2 24 rfl rfl
theorem dksX6_told_4 : cX6_told.data.toList.drop 98 = dktX6_told_4 := dk_seg dksX6_told_3 22 rfl rfl
theorem dksX6_told_5 : cX6_told.data.toList.drop 121 = dktX6_told_5 := dk_seg dksX6_told_4 23 rfl rfl
theorem dX6_told_0 : decode cX6_told 0 = .ok (.aload_n 0, 1) := dk_42 (dk_at dksX6_told_0 0 rfl rfl)
theorem dX6_told_1 : decode cX6_told 1 = .ok (.iconst 0, 1) := dk_3 (dk_at dksX6_told_0 1 rfl rfl)
theorem dX6_told_2 : decode cX6_told 2 = .ok (.putfield 115, 3) := dk_181 0 115 (dk_at dksX6_told_0 2 rfl rfl)
theorem dX6_told_5 : decode cX6_told 5 = .ok (.iload_n 1, 1) := dk_27 (dk_at dksX6_told_0 5 rfl rfl)
theorem dX6_told_6 : decode cX6_told 6 = .ok (.tableswitch 123 0 7 #[46, 51, 56, 61, 66, 71, 76, 81], 46) := by decide +kernel
theorem dX6_told_52 : decode cX6_told 52 = .ok (.aload_n 0, 1) := dk_42 (dk_at dksX6_told_2 0 rfl rfl)
theorem dX6_told_53 : decode cX6_told 53 = .ok (.getfield 111, 3) := dk_180 0 111 (dk_at dksX6_told_2 1 rfl rfl)
theorem dX6_told_56 : decode cX6_told 56 = .ok (.ireturn, 1) := dk_172 (dk_at dksX6_told_2 4 rfl rfl)
theorem dX6_told_57 : decode cX6_told 57 = .ok (.aload_n 0, 1) := dk_42 (dk_at dksX6_told_2 5 rfl rfl)
theorem dX6_told_58 : decode cX6_told 58 = .ok (.getfield 118, 3) := dk_180 0 118 (dk_at dksX6_told_2 6 rfl rfl)
theorem dX6_told_61 : decode cX6_told 61 = .ok (.ireturn, 1) := dk_172 (dk_at dksX6_told_2 9 rfl rfl)
theorem dX6_told_62 : decode cX6_told 62 = .ok (.aload_n 0, 1) := dk_42 (dk_at dksX6_told_2 10 rfl rfl)
theorem dX6_told_63 : decode cX6_told 63 = .ok (.getfield 159, 3) := dk_180 0 159 (dk_at dksX6_told_2 11 rfl rfl)
theorem dX6_told_66 : decode cX6_told 66 = .ok (.ireturn, 1) := dk_172 (dk_at dksX6_told_2 14 rfl rfl)
theorem dX6_told_67 : decode cX6_told 67 = .ok (.aload_n 0, 1) := dk_42 (dk_at dksX6_told_2 15 rfl rfl)
theorem dX6_told_68 : decode cX6_told 68 = .ok (.getfield 191, 3) := dk_180 0 191 (dk_at dksX6_told_2 16 rfl rfl)
theorem dX6_told_71 : decode cX6_told 71 = .ok (.ireturn, 1) := dk_172 (dk_at dksX6_told_2 19 rfl rfl)
theorem dX6_told_72 : decode cX6_told 72 = .ok (.aload_n 0, 1) := dk_42 (dk_at dksX6_told_2 20 rfl rfl)
theorem dX6_told_73 : decode cX6_told 73 = .ok (.getfield 188, 3) := dk_180 0 188 (dk_at dksX6_told_2 21 rfl rfl)
theorem dX6_told_76 : decode cX6_told 76 = .ok (.ireturn, 1) := dk_172 (dk_at dksX6_told_3 0 rfl rfl)
theorem dX6_told_77 : decode cX6_told 77 = .ok (.aload_n 0, 1) := dk_42 (dk_at dksX6_told_3 1 rfl rfl)
theorem dX6_told_78 : decode cX6_told 78 = .ok (.getfield 314, 3) := dk_180 1 58 (dk_at dksX6_told_3 2 rfl rfl)
theorem dX6_told_81 : decode cX6_told 81 = .ok (.ireturn, 1) := dk_172 (dk_at dksX6_told_3 5 rfl rfl)
theorem dX6_told_82 : decode cX6_told 82 = .ok (.aload_n 0, 1) := dk_42 (dk_at dksX6_told_3 6 rfl rfl)
theorem dX6_told_83 : decode cX6_told 83 = .ok (.getfield 321, 3) := dk_180 1 65 (dk_at dksX6_told_3 7 rfl rfl)
theorem dX6_told_86 : decode cX6_told 86 = .ok (.ireturn, 1) := dk_172 (dk_at dksX6_told_3 10 rfl rfl)
theorem dX6_told_87 : decode cX6_told 87 = .ok (.iconst 0, 1) := dk_3 (dk_at dksX6_told_3 11 rfl rfl)
theorem dX6_told_88 : decode cX6_told 88 = .ok (.istore_n 2, 1) := dk_61 (dk_at dksX6_told_3 12 rfl rfl)
theorem dX6_told_89 : decode cX6_told 89 = .ok (.iconst 0, 1) := dk_3 (dk_at dksX6_told_3 13 rfl rfl)
theorem dX6_told_90 : decode cX6_told 90 = .ok (.istore_n 3, 1) := dk_62 (dk_at dksX6_told_3 14 rfl rfl)
theorem dX6_told_91 : decode cX6_told 91 = .ok (.iload_n 3, 1) := dk_29 (dk_at dksX6_told_3 15 rfl rfl)
theorem dX6_told_92 : decode cX6_told 92 = .ok (.bipush 10, 2) := dk_16 10 (dk_at dksX6_told_3 16 rfl rfl)
theorem dX6_told_94 : decode cX6_told 94 = .ok (.if_icmp .ge 33, 3) := dk_162 0 33 (dk_at dksX6_told_3 18 rfl rfl)
theorem dX6_told_97 : decode cX6_told 97 = .ok (.aload_n 0, 1) := dk_42 (dk_at dksX6_told_3 21 rfl rfl)
theorem dX6_told_98 : decode cX6_told 98 = .ok (.getfield 317, 3) := dk_180 1 61 (dk_at dksX6_told_4 0 rfl rfl)
theorem dX6_told_101 : decode cX6_told 101 = .ok (.ifCond .eq 26, 3) := dk_153 0 26 (dk_at dksX6_told_4 3 rfl rfl)
theorem dX6_told_104 : decode cX6_told 104 = .ok (.iload_n 2, 1) := dk_28 (dk_at dksX6_told_4 6 rfl rfl)
theorem dX6_told_105 : decode cX6_told 105 = .ok (.aload_n 0, 1) := dk_42 (dk_at dksX6_told_4 7 rfl rfl)
theorem dX6_told_106 : decode cX6_told 106 = .ok (.getfield 89, 3) := dk_180 0 89 (dk_at dksX6_told_4 8 rfl rfl)
theorem dX6_told_109 : decode cX6_told 109 = .ok (.iload_n 3, 1) := dk_29 (dk_at dksX6_told_4 11 rfl rfl)
theorem dX6_told_110 : decode cX6_told 110 = .ok (.baload, 1) := dk_51 (dk_at dksX6_told_4 12 rfl rfl)
theorem dX6_told_111 : decode cX6_told 111 = .ok (.ifCond .eq 7, 3) := dk_153 0 7 (dk_at dksX6_told_4 13 rfl rfl)
theorem dX6_told_114 : decode cX6_told 114 = .ok (.iconst 1, 1) := dk_4 (dk_at dksX6_told_4 16 rfl rfl)
theorem dX6_told_115 : decode cX6_told 115 = .ok (.goto 4, 3) := dk_167 0 4 (dk_at dksX6_told_4 17 rfl rfl)
theorem dX6_told_118 : decode cX6_told 118 = .ok (.iconst 0, 1) := dk_3 (dk_at dksX6_told_4 20 rfl rfl)
theorem dX6_told_119 : decode cX6_told 119 = .ok (.iadd, 1) := dk_96 (dk_at dksX6_told_4 21 rfl rfl)
theorem dX6_told_120 : decode cX6_told 120 = .ok (.istore_n 2, 1) := dk_61 (dk_at dksX6_told_4 22 rfl rfl)
theorem dX6_told_121 : decode cX6_told 121 = .ok (.iinc 3 1, 3) := dk_132 3 1 (dk_at dksX6_told_5 0 rfl rfl)
theorem dX6_told_124 : decode cX6_told 124 = .ok (.goto (-33), 3) := dk_167 255 223 (dk_at dksX6_told_5 3 rfl rfl)
theorem dX6_told_127 : decode cX6_told 127 = .ok (.iload_n 2, 1) := dk_28 (dk_at dksX6_told_5 6 rfl rfl)
theorem dX6_told_128 : decode cX6_told 128 = .ok (.ireturn, 1) := dk_172 (dk_at dksX6_told_5 7 rfl rfl)
theorem dX6_told_129 : decode cX6_told 129 = .ok (.iconst (-1), 1) := dk_2 (dk_at dksX6_told_5 8 rfl rfl)
theorem dX6_told_130 : decode cX6_told 130 = .ok (.ireturn, 1) := dk_172 (dk_at dksX6_told_5 9 rfl rfl)
abbrev cX6_drop : ByteArray := prog_8_method_65_code
def yX6_drop : MethodName := ⟨RX6, "drop", "()V"⟩
def dkwX6_drop_0 : List UInt8 := [42, 3, 181, 0, 115, 42, 3, 181, 0, 188, 42, 3, 181, 0, 191, 177]
abbrev dktX6_drop_0 : List UInt8 := dkwX6_drop_0 ++ []
theorem dksX6_drop_0 : cX6_drop.data.toList.drop 0 = dktX6_drop_0 := by decide +kernel
theorem dX6_drop_0 : decode cX6_drop 0 = .ok (.aload_n 0, 1) := dk_42 (dk_at dksX6_drop_0 0 rfl rfl)
theorem dX6_drop_1 : decode cX6_drop 1 = .ok (.iconst 0, 1) := dk_3 (dk_at dksX6_drop_0 1 rfl rfl)
theorem dX6_drop_2 : decode cX6_drop 2 = .ok (.putfield 115, 3) := dk_181 0 115 (dk_at dksX6_drop_0 2 rfl rfl)
theorem dX6_drop_5 : decode cX6_drop 5 = .ok (.aload_n 0, 1) := dk_42 (dk_at dksX6_drop_0 5 rfl rfl)
theorem dX6_drop_6 : decode cX6_drop 6 = .ok (.iconst 0, 1) := dk_3 (dk_at dksX6_drop_0 6 rfl rfl)
theorem dX6_drop_7 : decode cX6_drop 7 = .ok (.putfield 188, 3) := dk_181 0 188 (dk_at dksX6_drop_0 7 rfl rfl)
theorem dX6_drop_10 : decode cX6_drop 10 = .ok (.aload_n 0, 1) := dk_42 (dk_at dksX6_drop_0 10 rfl rfl)
theorem dX6_drop_11 : decode cX6_drop 11 = .ok (.iconst 0, 1) := dk_3 (dk_at dksX6_drop_0 11 rfl rfl)
theorem dX6_drop_12 : decode cX6_drop 12 = .ok (.putfield 191, 3) := dk_181 0 191 (dk_at dksX6_drop_0 12 rfl rfl)
theorem dX6_drop_15 : decode cX6_drop 15 = .ok (.return_, 1) := dk_177 (dk_at dksX6_drop_0 15 rfl rfl)
abbrev cX6_clear : ByteArray := prog_8_method_66_code
def yX6_clear : MethodName := ⟨RX6, "clear", "()V"⟩
def dkwX6_clear_0 : List UInt8 := [42, 3, 181, 0, 115, 42, 3, 181, 0, 118, 177]
abbrev dktX6_clear_0 : List UInt8 := dkwX6_clear_0 ++ []
theorem dksX6_clear_0 : cX6_clear.data.toList.drop 0 = dktX6_clear_0 := by decide +kernel
theorem dX6_clear_0 : decode cX6_clear 0 = .ok (.aload_n 0, 1) := dk_42 (dk_at dksX6_clear_0 0 rfl rfl)
theorem dX6_clear_1 : decode cX6_clear 1 = .ok (.iconst 0, 1) := dk_3 (dk_at dksX6_clear_0 1 rfl rfl)
theorem dX6_clear_2 : decode cX6_clear 2 = .ok (.putfield 115, 3) := dk_181 0 115 (dk_at dksX6_clear_0 2 rfl rfl)
theorem dX6_clear_5 : decode cX6_clear 5 = .ok (.aload_n 0, 1) := dk_42 (dk_at dksX6_clear_0 5 rfl rfl)
theorem dX6_clear_6 : decode cX6_clear 6 = .ok (.iconst 0, 1) := dk_3 (dk_at dksX6_clear_0 6 rfl rfl)
theorem dX6_clear_7 : decode cX6_clear 7 = .ok (.putfield 118, 3) := dk_181 0 118 (dk_at dksX6_clear_0 7 rfl rfl)
theorem dX6_clear_10 : decode cX6_clear 10 = .ok (.return_, 1) := dk_177 (dk_at dksX6_clear_0 10 rfl rfl)
theorem q82 : (Jvm.Cond.initialized "BilevelPagesModel") ∈ lw_all := lw_g (lw_at lw_m1 11 rfl) rfl
theorem q544 : (Jvm.Cond.selects "BilevelPagesModel" ({ cls := "java/lang/Object", name := "getClass", desc := "()Ljava/lang/Class;" } : Jvm.MethodName) ({ cls := "java/lang/Object", name := "getClass", desc := "()Ljava/lang/Class;" } : Jvm.MethodName)) ∈ lw_all := lw_g (lw_at lw_m2 233 rfl) rfl
theorem q1075 : (Jvm.Cond.instantiable "BilevelPagesModel" (50 : Nat)) ∈ lw_all := lw_g (lw_at lw_m5 44 rfl) rfl
theorem q1077 : (Jvm.Cond.instanceMethod ({ cls := "BilevelPagesModel", name := "<init>", desc := "(I)V" } : Jvm.MethodName)) ∈ lw_all := lw_g (lw_at lw_m5 46 rfl) rfl
theorem q1078 : (Jvm.Cond.code ({ cls := "BilevelPagesModel", name := "<init>", desc := "(I)V" } : Jvm.MethodName) prog_8_method_1_code (2 : Nat) (Option.none : Option Jvm.ClassFile.FieldType)) ∈ lw_all := lw_g (lw_at lw_m5 47 rfl) rfl
theorem q1079 : (Jvm.Cond.methodLink "BilevelPagesModel" (1 : Nat) ({ cls := "java/lang/Object", name := "<init>", desc := "()V" } : Jvm.MethodName)) ∈ lw_all := lw_g (lw_at lw_m5 48 rfl) rfl
theorem q1080 : (Jvm.Cond.fieldLink "BilevelPagesModel" (115 : Nat) "BilevelPagesModel" "code" "I") ∈ lw_all := lw_g (lw_at lw_m5 49 rfl) rfl
theorem q1081 : (Jvm.Cond.fieldLink "BilevelPagesModel" (111 : Nat) "BilevelPagesModel" "order" "I") ∈ lw_all := lw_g (lw_at lw_m5 50 rfl) rfl
theorem q1082 : (Jvm.Cond.fieldLink "BilevelPagesModel" (118 : Nat) "BilevelPagesModel" "segments" "I") ∈ lw_all := lw_g (lw_at lw_m5 51 rfl) rfl
theorem q1083 : (Jvm.Cond.fieldLink "BilevelPagesModel" (7 : Nat) "BilevelPagesModel" "kinds" "[I") ∈ lw_all := lw_g (lw_at lw_m5 52 rfl) rfl
theorem q1084 : (Jvm.Cond.fieldLink "BilevelPagesModel" (13 : Nat) "BilevelPagesModel" "pages" "[I") ∈ lw_all := lw_g (lw_at lw_m5 53 rfl) rfl
theorem q1085 : (Jvm.Cond.fieldLink "BilevelPagesModel" (16 : Nat) "BilevelPagesModel" "refCounts" "[I") ∈ lw_all := lw_g (lw_at lw_m5 54 rfl) rfl
theorem q1086 : (Jvm.Cond.fieldLink "BilevelPagesModel" (19 : Nat) "BilevelPagesModel" "refs" "[I") ∈ lw_all := lw_g (lw_at lw_m5 55 rfl) rfl
theorem q1087 : (Jvm.Cond.fieldLink "BilevelPagesModel" (22 : Nat) "BilevelPagesModel" "lets" "[I") ∈ lw_all := lw_g (lw_at lw_m5 56 rfl) rfl
theorem q1088 : (Jvm.Cond.fieldLink "BilevelPagesModel" (25 : Nat) "BilevelPagesModel" "byteCounts" "[I") ∈ lw_all := lw_g (lw_at lw_m5 57 rfl) rfl
theorem q1089 : (Jvm.Cond.fieldLink "BilevelPagesModel" (28 : Nat) "BilevelPagesModel" "bytes" "[I") ∈ lw_all := lw_g (lw_at lw_m5 58 rfl) rfl
theorem q1090 : (Jvm.Cond.fieldLink "BilevelPagesModel" (31 : Nat) "BilevelPagesModel" "numbers" "[I") ∈ lw_all := lw_g (lw_at lw_m5 59 rfl) rfl
theorem q1091 : (Jvm.Cond.fieldLink "BilevelPagesModel" (34 : Nat) "BilevelPagesModel" "rows" "[I") ∈ lw_all := lw_g (lw_at lw_m5 60 rfl) rfl
theorem q1092 : (Jvm.Cond.fieldLink "BilevelPagesModel" (37 : Nat) "BilevelPagesModel" "out" "[I") ∈ lw_all := lw_g (lw_at lw_m5 61 rfl) rfl
theorem q1093 : (Jvm.Cond.fieldLink "BilevelPagesModel" (159 : Nat) "BilevelPagesModel" "outSize" "I") ∈ lw_all := lw_g (lw_at lw_m5 62 rfl) rfl
theorem q1094 : (Jvm.Cond.fieldLink "BilevelPagesModel" (40 : Nat) "BilevelPagesModel" "globals" "[I") ∈ lw_all := lw_g (lw_at lw_m5 63 rfl) rfl
theorem q1095 : (Jvm.Cond.fieldLink "BilevelPagesModel" (188 : Nat) "BilevelPagesModel" "globalCount" "I") ∈ lw_all := lw_g (lw_at lw_m5 64 rfl) rfl
theorem q1096 : (Jvm.Cond.fieldLink "BilevelPagesModel" (43 : Nat) "BilevelPagesModel" "others" "[I") ∈ lw_all := lw_g (lw_at lw_m5 65 rfl) rfl
theorem q1097 : (Jvm.Cond.fieldLink "BilevelPagesModel" (191 : Nat) "BilevelPagesModel" "otherCount" "I") ∈ lw_all := lw_g (lw_at lw_m5 66 rfl) rfl
theorem q1098 : (Jvm.Cond.fieldLink "BilevelPagesModel" (46 : Nat) "BilevelPagesModel" "all" "[I") ∈ lw_all := lw_g (lw_at lw_m5 67 rfl) rfl
theorem q1099 : (Jvm.Cond.fieldLink "BilevelPagesModel" (298 : Nat) "BilevelPagesModel" "total" "I") ∈ lw_all := lw_g (lw_at lw_m5 68 rfl) rfl
theorem q1100 : (Jvm.Cond.fieldLink "BilevelPagesModel" (203 : Nat) "BilevelPagesModel" "limit" "I") ∈ lw_all := lw_g (lw_at lw_m5 69 rfl) rfl
theorem q1101 : (Jvm.Cond.fieldLink "BilevelPagesModel" (206 : Nat) "BilevelPagesModel" "at" "I") ∈ lw_all := lw_g (lw_at lw_m5 70 rfl) rfl
theorem q1102 : (Jvm.Cond.fieldLink "BilevelPagesModel" (194 : Nat) "BilevelPagesModel" "fault" "I") ∈ lw_all := lw_g (lw_at lw_m5 71 rfl) rfl
theorem q1103 : (Jvm.Cond.fieldLink "BilevelPagesModel" (197 : Nat) "BilevelPagesModel" "place" "I") ∈ lw_all := lw_g (lw_at lw_m5 72 rfl) rfl
theorem q1104 : (Jvm.Cond.fieldLink "BilevelPagesModel" (209 : Nat) "BilevelPagesModel" "heads" "I") ∈ lw_all := lw_g (lw_at lw_m5 73 rfl) rfl
theorem q1105 : (Jvm.Cond.fieldLink "BilevelPagesModel" (295 : Nat) "BilevelPagesModel" "done" "I") ∈ lw_all := lw_g (lw_at lw_m5 74 rfl) rfl
theorem q1106 : (Jvm.Cond.fieldLink "BilevelPagesModel" (49 : Nat) "BilevelPagesModel" "headAt" "[I") ∈ lw_all := lw_g (lw_at lw_m5 75 rfl) rfl
theorem q1107 : (Jvm.Cond.fieldLink "BilevelPagesModel" (52 : Nat) "BilevelPagesModel" "numberOf" "[I") ∈ lw_all := lw_g (lw_at lw_m5 76 rfl) rfl
theorem q1108 : (Jvm.Cond.fieldLink "BilevelPagesModel" (55 : Nat) "BilevelPagesModel" "kindOf" "[I") ∈ lw_all := lw_g (lw_at lw_m5 77 rfl) rfl
theorem q1109 : (Jvm.Cond.fieldLink "BilevelPagesModel" (58 : Nat) "BilevelPagesModel" "pageOf" "[I") ∈ lw_all := lw_g (lw_at lw_m5 78 rfl) rfl
theorem q1110 : (Jvm.Cond.fieldLink "BilevelPagesModel" (61 : Nat) "BilevelPagesModel" "refsOf" "[I") ∈ lw_all := lw_g (lw_at lw_m5 79 rfl) rfl
theorem q1111 : (Jvm.Cond.fieldLink "BilevelPagesModel" (64 : Nat) "BilevelPagesModel" "refOf" "[I") ∈ lw_all := lw_g (lw_at lw_m5 80 rfl) rfl
theorem q1112 : (Jvm.Cond.fieldLink "BilevelPagesModel" (67 : Nat) "BilevelPagesModel" "flagsOf" "[I") ∈ lw_all := lw_g (lw_at lw_m5 81 rfl) rfl
theorem q1113 : (Jvm.Cond.fieldLink "BilevelPagesModel" (70 : Nat) "BilevelPagesModel" "lengthOf" "[J") ∈ lw_all := lw_g (lw_at lw_m5 82 rfl) rfl
theorem q1114 : (Jvm.Cond.fieldLink "BilevelPagesModel" (74 : Nat) "BilevelPagesModel" "dataOf" "[I") ∈ lw_all := lw_g (lw_at lw_m5 83 rfl) rfl
theorem q1115 : (Jvm.Cond.fieldLink "BilevelPagesModel" (77 : Nat) "BilevelPagesModel" "goneBy" "[I") ∈ lw_all := lw_g (lw_at lw_m5 84 rfl) rfl
theorem q1116 : (Jvm.Cond.fieldLink "BilevelPagesModel" (80 : Nat) "BilevelPagesModel" "widthOf" "[I") ∈ lw_all := lw_g (lw_at lw_m5 85 rfl) rfl
theorem q1117 : (Jvm.Cond.fieldLink "BilevelPagesModel" (83 : Nat) "BilevelPagesModel" "heightOf" "[I") ∈ lw_all := lw_g (lw_at lw_m5 86 rfl) rfl
theorem q1118 : (Jvm.Cond.fieldLink "BilevelPagesModel" (86 : Nat) "BilevelPagesModel" "rowsOf" "[I") ∈ lw_all := lw_g (lw_at lw_m5 87 rfl) rfl
theorem q1119 : (Jvm.Cond.fieldLink "BilevelPagesModel" (234 : Nat) "BilevelPagesModel" "openPage" "I") ∈ lw_all := lw_g (lw_at lw_m5 88 rfl) rfl
theorem q1120 : (Jvm.Cond.fieldLink "BilevelPagesModel" (89 : Nat) "BilevelPagesModel" "isThere" "[Z") ∈ lw_all := lw_g (lw_at lw_m5 89 rfl) rfl
theorem q1121 : (Jvm.Cond.fieldLink "BilevelPagesModel" (93 : Nat) "BilevelPagesModel" "pageWidth" "[I") ∈ lw_all := lw_g (lw_at lw_m5 90 rfl) rfl
theorem q1122 : (Jvm.Cond.fieldLink "BilevelPagesModel" (96 : Nat) "BilevelPagesModel" "pageHeight" "[I") ∈ lw_all := lw_g (lw_at lw_m5 91 rfl) rfl
theorem q1123 : (Jvm.Cond.fieldLink "BilevelPagesModel" (99 : Nat) "BilevelPagesModel" "pageOperator" "[I") ∈ lw_all := lw_g (lw_at lw_m5 92 rfl) rfl
theorem q1124 : (Jvm.Cond.fieldLink "BilevelPagesModel" (102 : Nat) "BilevelPagesModel" "stripes" "[I") ∈ lw_all := lw_g (lw_at lw_m5 93 rfl) rfl
theorem q1125 : (Jvm.Cond.fieldLink "BilevelPagesModel" (105 : Nat) "BilevelPagesModel" "stripeRows" "[I") ∈ lw_all := lw_g (lw_at lw_m5 94 rfl) rfl
theorem q1126 : (Jvm.Cond.fieldLink "BilevelPagesModel" (108 : Nat) "BilevelPagesModel" "dark" "[Z") ∈ lw_all := lw_g (lw_at lw_m5 95 rfl) rfl
theorem q1127 : (Jvm.Cond.fieldLink "BilevelPagesModel" (317 : Nat) "BilevelPagesModel" "isRead" "Z") ∈ lw_all := lw_g (lw_at lw_m5 96 rfl) rfl
theorem q1128 : (Jvm.Cond.fieldLink "BilevelPagesModel" (321 : Nat) "BilevelPagesModel" "readCount" "I") ∈ lw_all := lw_g (lw_at lw_m5 97 rfl) rfl
theorem q1129 : (Jvm.Cond.fieldLink "BilevelPagesModel" (314 : Nat) "BilevelPagesModel" "lastFault" "I") ∈ lw_all := lw_g (lw_at lw_m5 98 rfl) rfl
theorem q1130 : (Jvm.Cond.lays "BilevelPagesModel" "BilevelPagesModel" "code" "I") ∈ lw_all := lw_g (lw_at lw_m5 99 rfl) rfl
theorem q1131 : (Jvm.Cond.soleField "BilevelPagesModel" "code") ∈ lw_all := lw_g (lw_at lw_m5 100 rfl) rfl
theorem q1132 : (Jvm.Cond.laysFinal "BilevelPagesModel" "BilevelPagesModel" "order" "I") ∈ lw_all := lw_g (lw_at lw_m5 101 rfl) rfl
theorem q1133 : (Jvm.Cond.soleField "BilevelPagesModel" "order") ∈ lw_all := lw_g (lw_at lw_m5 102 rfl) rfl
theorem q1134 : (Jvm.Cond.lays "BilevelPagesModel" "BilevelPagesModel" "segments" "I") ∈ lw_all := lw_g (lw_at lw_m5 103 rfl) rfl
theorem q1135 : (Jvm.Cond.soleField "BilevelPagesModel" "segments") ∈ lw_all := lw_g (lw_at lw_m5 104 rfl) rfl
theorem q1136 : (Jvm.Cond.laysFinal "BilevelPagesModel" "BilevelPagesModel" "kinds" "[I") ∈ lw_all := lw_g (lw_at lw_m5 105 rfl) rfl
theorem q1137 : (Jvm.Cond.soleField "BilevelPagesModel" "kinds") ∈ lw_all := lw_g (lw_at lw_m5 106 rfl) rfl
theorem q1138 : (Jvm.Cond.laysFinal "BilevelPagesModel" "BilevelPagesModel" "pages" "[I") ∈ lw_all := lw_g (lw_at lw_m5 107 rfl) rfl
theorem q1139 : (Jvm.Cond.soleField "BilevelPagesModel" "pages") ∈ lw_all := lw_g (lw_at lw_m5 108 rfl) rfl
theorem q1140 : (Jvm.Cond.laysFinal "BilevelPagesModel" "BilevelPagesModel" "refCounts" "[I") ∈ lw_all := lw_g (lw_at lw_m5 109 rfl) rfl
theorem q1141 : (Jvm.Cond.soleField "BilevelPagesModel" "refCounts") ∈ lw_all := lw_g (lw_at lw_m5 110 rfl) rfl
theorem q1142 : (Jvm.Cond.laysFinal "BilevelPagesModel" "BilevelPagesModel" "refs" "[I") ∈ lw_all := lw_g (lw_at lw_m5 111 rfl) rfl
theorem q1143 : (Jvm.Cond.soleField "BilevelPagesModel" "refs") ∈ lw_all := lw_g (lw_at lw_m5 112 rfl) rfl
theorem q1144 : (Jvm.Cond.laysFinal "BilevelPagesModel" "BilevelPagesModel" "lets" "[I") ∈ lw_all := lw_g (lw_at lw_m5 113 rfl) rfl
theorem q1145 : (Jvm.Cond.soleField "BilevelPagesModel" "lets") ∈ lw_all := lw_g (lw_at lw_m5 114 rfl) rfl
theorem q1146 : (Jvm.Cond.laysFinal "BilevelPagesModel" "BilevelPagesModel" "byteCounts" "[I") ∈ lw_all := lw_g (lw_at lw_m5 115 rfl) rfl
theorem q1147 : (Jvm.Cond.soleField "BilevelPagesModel" "byteCounts") ∈ lw_all := lw_g (lw_at lw_m5 116 rfl) rfl
theorem q1148 : (Jvm.Cond.laysFinal "BilevelPagesModel" "BilevelPagesModel" "bytes" "[I") ∈ lw_all := lw_g (lw_at lw_m5 117 rfl) rfl
theorem q1149 : (Jvm.Cond.soleField "BilevelPagesModel" "bytes") ∈ lw_all := lw_g (lw_at lw_m5 118 rfl) rfl
theorem q1150 : (Jvm.Cond.laysFinal "BilevelPagesModel" "BilevelPagesModel" "numbers" "[I") ∈ lw_all := lw_g (lw_at lw_m5 119 rfl) rfl
theorem q1151 : (Jvm.Cond.soleField "BilevelPagesModel" "numbers") ∈ lw_all := lw_g (lw_at lw_m5 120 rfl) rfl
theorem q1152 : (Jvm.Cond.laysFinal "BilevelPagesModel" "BilevelPagesModel" "rows" "[I") ∈ lw_all := lw_g (lw_at lw_m5 121 rfl) rfl
theorem q1153 : (Jvm.Cond.soleField "BilevelPagesModel" "rows") ∈ lw_all := lw_g (lw_at lw_m5 122 rfl) rfl
theorem q1154 : (Jvm.Cond.laysFinal "BilevelPagesModel" "BilevelPagesModel" "out" "[I") ∈ lw_all := lw_g (lw_at lw_m5 123 rfl) rfl
theorem q1155 : (Jvm.Cond.soleField "BilevelPagesModel" "out") ∈ lw_all := lw_g (lw_at lw_m5 124 rfl) rfl
theorem q1156 : (Jvm.Cond.lays "BilevelPagesModel" "BilevelPagesModel" "outSize" "I") ∈ lw_all := lw_g (lw_at lw_m5 125 rfl) rfl
theorem q1157 : (Jvm.Cond.soleField "BilevelPagesModel" "outSize") ∈ lw_all := lw_g (lw_at lw_m5 126 rfl) rfl
theorem q1158 : (Jvm.Cond.laysFinal "BilevelPagesModel" "BilevelPagesModel" "globals" "[I") ∈ lw_all := lw_g (lw_at lw_m5 127 rfl) rfl
theorem q1159 : (Jvm.Cond.soleField "BilevelPagesModel" "globals") ∈ lw_all := lw_g (lw_at lw_m5 128 rfl) rfl
theorem q1160 : (Jvm.Cond.lays "BilevelPagesModel" "BilevelPagesModel" "globalCount" "I") ∈ lw_all := lw_g (lw_at lw_m5 129 rfl) rfl
theorem q1161 : (Jvm.Cond.soleField "BilevelPagesModel" "globalCount") ∈ lw_all := lw_g (lw_at lw_m5 130 rfl) rfl
theorem q1162 : (Jvm.Cond.laysFinal "BilevelPagesModel" "BilevelPagesModel" "others" "[I") ∈ lw_all := lw_g (lw_at lw_m5 131 rfl) rfl
theorem q1163 : (Jvm.Cond.soleField "BilevelPagesModel" "others") ∈ lw_all := lw_g (lw_at lw_m5 132 rfl) rfl
theorem q1164 : (Jvm.Cond.lays "BilevelPagesModel" "BilevelPagesModel" "otherCount" "I") ∈ lw_all := lw_g (lw_at lw_m5 133 rfl) rfl
theorem q1165 : (Jvm.Cond.soleField "BilevelPagesModel" "otherCount") ∈ lw_all := lw_g (lw_at lw_m5 134 rfl) rfl
theorem q1166 : (Jvm.Cond.laysFinal "BilevelPagesModel" "BilevelPagesModel" "all" "[I") ∈ lw_all := lw_g (lw_at lw_m5 135 rfl) rfl
theorem q1167 : (Jvm.Cond.soleField "BilevelPagesModel" "all") ∈ lw_all := lw_g (lw_at lw_m5 136 rfl) rfl
theorem q1168 : (Jvm.Cond.lays "BilevelPagesModel" "BilevelPagesModel" "total" "I") ∈ lw_all := lw_g (lw_at lw_m5 137 rfl) rfl
theorem q1169 : (Jvm.Cond.soleField "BilevelPagesModel" "total") ∈ lw_all := lw_g (lw_at lw_m5 138 rfl) rfl
theorem q1170 : (Jvm.Cond.lays "BilevelPagesModel" "BilevelPagesModel" "limit" "I") ∈ lw_all := lw_g (lw_at lw_m5 139 rfl) rfl
theorem q1171 : (Jvm.Cond.soleField "BilevelPagesModel" "limit") ∈ lw_all := lw_g (lw_at lw_m5 140 rfl) rfl
theorem q1172 : (Jvm.Cond.lays "BilevelPagesModel" "BilevelPagesModel" "at" "I") ∈ lw_all := lw_g (lw_at lw_m5 141 rfl) rfl
theorem q1173 : (Jvm.Cond.soleField "BilevelPagesModel" "at") ∈ lw_all := lw_g (lw_at lw_m5 142 rfl) rfl
theorem q1174 : (Jvm.Cond.lays "BilevelPagesModel" "BilevelPagesModel" "fault" "I") ∈ lw_all := lw_g (lw_at lw_m5 143 rfl) rfl
theorem q1175 : (Jvm.Cond.soleField "BilevelPagesModel" "fault") ∈ lw_all := lw_g (lw_at lw_m5 144 rfl) rfl
theorem q1176 : (Jvm.Cond.lays "BilevelPagesModel" "BilevelPagesModel" "place" "I") ∈ lw_all := lw_g (lw_at lw_m5 145 rfl) rfl
theorem q1177 : (Jvm.Cond.soleField "BilevelPagesModel" "place") ∈ lw_all := lw_g (lw_at lw_m5 146 rfl) rfl
theorem q1178 : (Jvm.Cond.lays "BilevelPagesModel" "BilevelPagesModel" "heads" "I") ∈ lw_all := lw_g (lw_at lw_m5 147 rfl) rfl
theorem q1179 : (Jvm.Cond.soleField "BilevelPagesModel" "heads") ∈ lw_all := lw_g (lw_at lw_m5 148 rfl) rfl
theorem q1180 : (Jvm.Cond.lays "BilevelPagesModel" "BilevelPagesModel" "done" "I") ∈ lw_all := lw_g (lw_at lw_m5 149 rfl) rfl
theorem q1181 : (Jvm.Cond.soleField "BilevelPagesModel" "done") ∈ lw_all := lw_g (lw_at lw_m5 150 rfl) rfl
theorem q1182 : (Jvm.Cond.laysFinal "BilevelPagesModel" "BilevelPagesModel" "headAt" "[I") ∈ lw_all := lw_g (lw_at lw_m5 151 rfl) rfl
theorem q1183 : (Jvm.Cond.soleField "BilevelPagesModel" "headAt") ∈ lw_all := lw_g (lw_at lw_m5 152 rfl) rfl
theorem q1184 : (Jvm.Cond.laysFinal "BilevelPagesModel" "BilevelPagesModel" "numberOf" "[I") ∈ lw_all := lw_g (lw_at lw_m5 153 rfl) rfl
theorem q1185 : (Jvm.Cond.soleField "BilevelPagesModel" "numberOf") ∈ lw_all := lw_g (lw_at lw_m5 154 rfl) rfl
theorem q1186 : (Jvm.Cond.laysFinal "BilevelPagesModel" "BilevelPagesModel" "kindOf" "[I") ∈ lw_all := lw_g (lw_at lw_m5 155 rfl) rfl
theorem q1187 : (Jvm.Cond.soleField "BilevelPagesModel" "kindOf") ∈ lw_all := lw_g (lw_at lw_m5 156 rfl) rfl
theorem q1188 : (Jvm.Cond.laysFinal "BilevelPagesModel" "BilevelPagesModel" "pageOf" "[I") ∈ lw_all := lw_g (lw_at lw_m5 157 rfl) rfl
theorem q1189 : (Jvm.Cond.soleField "BilevelPagesModel" "pageOf") ∈ lw_all := lw_g (lw_at lw_m5 158 rfl) rfl
theorem q1190 : (Jvm.Cond.laysFinal "BilevelPagesModel" "BilevelPagesModel" "refsOf" "[I") ∈ lw_all := lw_g (lw_at lw_m5 159 rfl) rfl
theorem q1191 : (Jvm.Cond.soleField "BilevelPagesModel" "refsOf") ∈ lw_all := lw_g (lw_at lw_m5 160 rfl) rfl
theorem q1192 : (Jvm.Cond.laysFinal "BilevelPagesModel" "BilevelPagesModel" "refOf" "[I") ∈ lw_all := lw_g (lw_at lw_m5 161 rfl) rfl
theorem q1193 : (Jvm.Cond.soleField "BilevelPagesModel" "refOf") ∈ lw_all := lw_g (lw_at lw_m5 162 rfl) rfl
theorem q1194 : (Jvm.Cond.laysFinal "BilevelPagesModel" "BilevelPagesModel" "flagsOf" "[I") ∈ lw_all := lw_g (lw_at lw_m5 163 rfl) rfl
theorem q1195 : (Jvm.Cond.soleField "BilevelPagesModel" "flagsOf") ∈ lw_all := lw_g (lw_at lw_m5 164 rfl) rfl
theorem q1196 : (Jvm.Cond.laysFinal "BilevelPagesModel" "BilevelPagesModel" "lengthOf" "[J") ∈ lw_all := lw_g (lw_at lw_m5 165 rfl) rfl
theorem q1197 : (Jvm.Cond.soleField "BilevelPagesModel" "lengthOf") ∈ lw_all := lw_g (lw_at lw_m5 166 rfl) rfl
theorem q1198 : (Jvm.Cond.laysFinal "BilevelPagesModel" "BilevelPagesModel" "dataOf" "[I") ∈ lw_all := lw_g (lw_at lw_m5 167 rfl) rfl
theorem q1199 : (Jvm.Cond.soleField "BilevelPagesModel" "dataOf") ∈ lw_all := lw_g (lw_at lw_m5 168 rfl) rfl
theorem q1200 : (Jvm.Cond.laysFinal "BilevelPagesModel" "BilevelPagesModel" "goneBy" "[I") ∈ lw_all := lw_g (lw_at lw_m5 169 rfl) rfl
theorem q1201 : (Jvm.Cond.soleField "BilevelPagesModel" "goneBy") ∈ lw_all := lw_g (lw_at lw_m5 170 rfl) rfl
theorem q1202 : (Jvm.Cond.laysFinal "BilevelPagesModel" "BilevelPagesModel" "widthOf" "[I") ∈ lw_all := lw_g (lw_at lw_m5 171 rfl) rfl
theorem q1203 : (Jvm.Cond.soleField "BilevelPagesModel" "widthOf") ∈ lw_all := lw_g (lw_at lw_m5 172 rfl) rfl
theorem q1204 : (Jvm.Cond.laysFinal "BilevelPagesModel" "BilevelPagesModel" "heightOf" "[I") ∈ lw_all := lw_g (lw_at lw_m5 173 rfl) rfl
theorem q1205 : (Jvm.Cond.soleField "BilevelPagesModel" "heightOf") ∈ lw_all := lw_g (lw_at lw_m5 174 rfl) rfl
theorem q1206 : (Jvm.Cond.laysFinal "BilevelPagesModel" "BilevelPagesModel" "rowsOf" "[I") ∈ lw_all := lw_g (lw_at lw_m5 175 rfl) rfl
theorem q1207 : (Jvm.Cond.soleField "BilevelPagesModel" "rowsOf") ∈ lw_all := lw_g (lw_at lw_m5 176 rfl) rfl
theorem q1208 : (Jvm.Cond.lays "BilevelPagesModel" "BilevelPagesModel" "openPage" "I") ∈ lw_all := lw_g (lw_at lw_m5 177 rfl) rfl
theorem q1209 : (Jvm.Cond.soleField "BilevelPagesModel" "openPage") ∈ lw_all := lw_g (lw_at lw_m5 178 rfl) rfl
theorem q1210 : (Jvm.Cond.laysFinal "BilevelPagesModel" "BilevelPagesModel" "isThere" "[Z") ∈ lw_all := lw_g (lw_at lw_m5 179 rfl) rfl
theorem q1211 : (Jvm.Cond.soleField "BilevelPagesModel" "isThere") ∈ lw_all := lw_g (lw_at lw_m5 180 rfl) rfl
theorem q1212 : (Jvm.Cond.laysFinal "BilevelPagesModel" "BilevelPagesModel" "pageWidth" "[I") ∈ lw_all := lw_g (lw_at lw_m5 181 rfl) rfl
theorem q1213 : (Jvm.Cond.soleField "BilevelPagesModel" "pageWidth") ∈ lw_all := lw_g (lw_at lw_m5 182 rfl) rfl
theorem q1214 : (Jvm.Cond.laysFinal "BilevelPagesModel" "BilevelPagesModel" "pageHeight" "[I") ∈ lw_all := lw_g (lw_at lw_m5 183 rfl) rfl
theorem q1215 : (Jvm.Cond.soleField "BilevelPagesModel" "pageHeight") ∈ lw_all := lw_g (lw_at lw_m5 184 rfl) rfl
theorem q1216 : (Jvm.Cond.laysFinal "BilevelPagesModel" "BilevelPagesModel" "pageOperator" "[I") ∈ lw_all := lw_g (lw_at lw_m5 185 rfl) rfl
theorem q1217 : (Jvm.Cond.soleField "BilevelPagesModel" "pageOperator") ∈ lw_all := lw_g (lw_at lw_m5 186 rfl) rfl
theorem q1218 : (Jvm.Cond.laysFinal "BilevelPagesModel" "BilevelPagesModel" "stripes" "[I") ∈ lw_all := lw_g (lw_at lw_m5 187 rfl) rfl
theorem q1219 : (Jvm.Cond.soleField "BilevelPagesModel" "stripes") ∈ lw_all := lw_g (lw_at lw_m5 188 rfl) rfl
theorem q1220 : (Jvm.Cond.laysFinal "BilevelPagesModel" "BilevelPagesModel" "stripeRows" "[I") ∈ lw_all := lw_g (lw_at lw_m5 189 rfl) rfl
theorem q1221 : (Jvm.Cond.soleField "BilevelPagesModel" "stripeRows") ∈ lw_all := lw_g (lw_at lw_m5 190 rfl) rfl
theorem q1222 : (Jvm.Cond.laysFinal "BilevelPagesModel" "BilevelPagesModel" "dark" "[Z") ∈ lw_all := lw_g (lw_at lw_m5 191 rfl) rfl
theorem q1223 : (Jvm.Cond.soleField "BilevelPagesModel" "dark") ∈ lw_all := lw_g (lw_at lw_m5 192 rfl) rfl
theorem q1224 : (Jvm.Cond.lays "BilevelPagesModel" "BilevelPagesModel" "isRead" "Z") ∈ lw_all := lw_g (lw_at lw_m5 193 rfl) rfl
theorem q1225 : (Jvm.Cond.soleField "BilevelPagesModel" "isRead") ∈ lw_all := lw_g (lw_at lw_m5 194 rfl) rfl
theorem q1226 : (Jvm.Cond.lays "BilevelPagesModel" "BilevelPagesModel" "readCount" "I") ∈ lw_all := lw_g (lw_at lw_m5 195 rfl) rfl
theorem q1227 : (Jvm.Cond.soleField "BilevelPagesModel" "readCount") ∈ lw_all := lw_g (lw_at lw_m5 196 rfl) rfl
theorem q1228 : (Jvm.Cond.lays "BilevelPagesModel" "BilevelPagesModel" "lastFault" "I") ∈ lw_all := lw_g (lw_at lw_m5 197 rfl) rfl
theorem q1229 : (Jvm.Cond.soleField "BilevelPagesModel" "lastFault") ∈ lw_all := lw_g (lw_at lw_m5 198 rfl) rfl
theorem q1230 : (Jvm.Cond.superclass "BilevelPagesModel" "java/lang/Object") ∈ lw_all := lw_g (lw_at lw_m5 199 rfl) rfl
theorem q1234 : (Jvm.Cond.instanceMethod ({ cls := "BilevelPagesModel", name := "thrown", desc := "()I" } : Jvm.MethodName)) ∈ lw_all := lw_g (lw_at lw_m5 203 rfl) rfl
theorem q1235 : (Jvm.Cond.selects "BilevelPagesModel" ({ cls := "BilevelPagesModel", name := "thrown", desc := "()I" } : Jvm.MethodName) ({ cls := "BilevelPagesModel", name := "thrown", desc := "()I" } : Jvm.MethodName)) ∈ lw_all := lw_g (lw_at lw_m5 204 rfl) rfl
theorem q1236 : (Jvm.Cond.code ({ cls := "BilevelPagesModel", name := "thrown", desc := "()I" } : Jvm.MethodName) prog_8_method_2_code (1 : Nat) (Option.some Jvm.ClassFile.FieldType.int)) ∈ lw_all := lw_g (lw_at lw_m5 205 rfl) rfl
theorem q1238 : (Jvm.Cond.instanceMethod ({ cls := "BilevelPagesModel", name := "segment", desc := "(II)I" } : Jvm.MethodName)) ∈ lw_all := lw_g (lw_at lw_m5 207 rfl) rfl
theorem q1239 : (Jvm.Cond.selects "BilevelPagesModel" ({ cls := "BilevelPagesModel", name := "segment", desc := "(II)I" } : Jvm.MethodName) ({ cls := "BilevelPagesModel", name := "segment", desc := "(II)I" } : Jvm.MethodName)) ∈ lw_all := lw_g (lw_at lw_m5 208 rfl) rfl
theorem q1240 : (Jvm.Cond.code ({ cls := "BilevelPagesModel", name := "segment", desc := "(II)I" } : Jvm.MethodName) prog_8_method_8_code (5 : Nat) (Option.some Jvm.ClassFile.FieldType.int)) ∈ lw_all := lw_g (lw_at lw_m5 209 rfl) rfl
theorem q1241 : (Jvm.Cond.methodLink "BilevelPagesModel" (125 : Nat) ({ cls := "BilevelPagesModel", name := "isKind", desc := "(I)Z" } : Jvm.MethodName)) ∈ lw_all := lw_g (lw_at lw_m5 210 rfl) rfl
theorem q1242 : (Jvm.Cond.static ({ cls := "BilevelPagesModel", name := "isKind", desc := "(I)Z" } : Jvm.MethodName)) ∈ lw_all := lw_g (lw_at lw_m5 211 rfl) rfl
theorem q1243 : (Jvm.Cond.code ({ cls := "BilevelPagesModel", name := "isKind", desc := "(I)Z" } : Jvm.MethodName) prog_8_method_5_code (1 : Nat) (Option.some Jvm.ClassFile.FieldType.boolean)) ∈ lw_all := lw_g (lw_at lw_m5 212 rfl) rfl
theorem q1244 : (Jvm.Cond.methodLink "BilevelPagesModel" (121 : Nat) ({ cls := "BilevelPagesModel", name := "isIn", desc := "(III)Z" } : Jvm.MethodName)) ∈ lw_all := lw_g (lw_at lw_m5 213 rfl) rfl
theorem q1245 : (Jvm.Cond.static ({ cls := "BilevelPagesModel", name := "isIn", desc := "(III)Z" } : Jvm.MethodName)) ∈ lw_all := lw_g (lw_at lw_m5 214 rfl) rfl
theorem q1246 : (Jvm.Cond.code ({ cls := "BilevelPagesModel", name := "isIn", desc := "(III)Z" } : Jvm.MethodName) prog_8_method_3_code (3 : Nat) (Option.some Jvm.ClassFile.FieldType.boolean)) ∈ lw_all := lw_g (lw_at lw_m5 215 rfl) rfl
theorem q1247 : (Jvm.Cond.methodLink "BilevelPagesModel" (129 : Nat) ({ cls := "BilevelPagesModel", name := "may", desc := "(ZZZZ)Z" } : Jvm.MethodName)) ∈ lw_all := lw_g (lw_at lw_m5 216 rfl) rfl
theorem q1248 : (Jvm.Cond.privateMethod ({ cls := "BilevelPagesModel", name := "may", desc := "(ZZZZ)Z" } : Jvm.MethodName)) ∈ lw_tbl := lw_at lw_m5 217 rfl
theorem q1249 : (Jvm.Cond.instanceMethod ({ cls := "BilevelPagesModel", name := "may", desc := "(ZZZZ)Z" } : Jvm.MethodName)) ∈ lw_all := lw_g (lw_at lw_m5 218 rfl) rfl
theorem q1250 : (Jvm.Cond.code ({ cls := "BilevelPagesModel", name := "may", desc := "(ZZZZ)Z" } : Jvm.MethodName) prog_8_method_4_code (5 : Nat) (Option.some Jvm.ClassFile.FieldType.boolean)) ∈ lw_all := lw_g (lw_at lw_m5 219 rfl) rfl
theorem q1251 : (Jvm.Cond.methodLink "BilevelPagesModel" (133 : Nat) ({ cls := "BilevelPagesModel", name := "least", desc := "(II)I" } : Jvm.MethodName)) ∈ lw_all := lw_g (lw_at lw_m5 220 rfl) rfl
theorem q1252 : (Jvm.Cond.static ({ cls := "BilevelPagesModel", name := "least", desc := "(II)I" } : Jvm.MethodName)) ∈ lw_all := lw_g (lw_at lw_m5 221 rfl) rfl
theorem q1253 : (Jvm.Cond.code ({ cls := "BilevelPagesModel", name := "least", desc := "(II)I" } : Jvm.MethodName) prog_8_method_9_code (2 : Nat) (Option.some Jvm.ClassFile.FieldType.int)) ∈ lw_all := lw_g (lw_at lw_m5 222 rfl) rfl
theorem q1254 : (Jvm.Cond.methodLink "BilevelPagesModel" (137 : Nat) ({ cls := "BilevelPagesModel", name := "isRegion", desc := "(I)Z" } : Jvm.MethodName)) ∈ lw_all := lw_g (lw_at lw_m5 223 rfl) rfl
theorem q1255 : (Jvm.Cond.static ({ cls := "BilevelPagesModel", name := "isRegion", desc := "(I)Z" } : Jvm.MethodName)) ∈ lw_all := lw_g (lw_at lw_m5 224 rfl) rfl
theorem q1256 : (Jvm.Cond.code ({ cls := "BilevelPagesModel", name := "isRegion", desc := "(I)Z" } : Jvm.MethodName) prog_8_method_6_code (1 : Nat) (Option.some Jvm.ClassFile.FieldType.boolean)) ∈ lw_all := lw_g (lw_at lw_m5 225 rfl) rfl
theorem q1258 : (Jvm.Cond.instanceMethod ({ cls := "BilevelPagesModel", name := "refers", desc := "(II)Z" } : Jvm.MethodName)) ∈ lw_all := lw_g (lw_at lw_m5 227 rfl) rfl
theorem q1259 : (Jvm.Cond.selects "BilevelPagesModel" ({ cls := "BilevelPagesModel", name := "refers", desc := "(II)Z" } : Jvm.MethodName) ({ cls := "BilevelPagesModel", name := "refers", desc := "(II)Z" } : Jvm.MethodName)) ∈ lw_all := lw_g (lw_at lw_m5 228 rfl) rfl
theorem q1260 : (Jvm.Cond.code ({ cls := "BilevelPagesModel", name := "refers", desc := "(II)Z" } : Jvm.MethodName) prog_8_method_13_code (3 : Nat) (Option.some Jvm.ClassFile.FieldType.boolean)) ∈ lw_all := lw_g (lw_at lw_m5 229 rfl) rfl
theorem q1261 : (Jvm.Cond.methodLink "BilevelPagesModel" (146 : Nat) ({ cls := "BilevelPagesModel", name := "isSegment", desc := "(I)Z" } : Jvm.MethodName)) ∈ lw_all := lw_g (lw_at lw_m5 230 rfl) rfl
theorem q1262 : (Jvm.Cond.privateMethod ({ cls := "BilevelPagesModel", name := "isSegment", desc := "(I)Z" } : Jvm.MethodName)) ∈ lw_tbl := lw_at lw_m5 231 rfl
theorem q1263 : (Jvm.Cond.instanceMethod ({ cls := "BilevelPagesModel", name := "isSegment", desc := "(I)Z" } : Jvm.MethodName)) ∈ lw_all := lw_g (lw_at lw_m5 232 rfl) rfl
theorem q1264 : (Jvm.Cond.code ({ cls := "BilevelPagesModel", name := "isSegment", desc := "(I)Z" } : Jvm.MethodName) prog_8_method_7_code (2 : Nat) (Option.some Jvm.ClassFile.FieldType.boolean)) ∈ lw_all := lw_g (lw_at lw_m5 233 rfl) rfl
theorem q1265 : (Jvm.Cond.methodLink "BilevelPagesModel" (149 : Nat) ({ cls := "BilevelPagesModel", name := "isLetGo", desc := "(II)Z" } : Jvm.MethodName)) ∈ lw_all := lw_g (lw_at lw_m5 234 rfl) rfl
theorem q1266 : (Jvm.Cond.privateMethod ({ cls := "BilevelPagesModel", name := "isLetGo", desc := "(II)Z" } : Jvm.MethodName)) ∈ lw_tbl := lw_at lw_m5 235 rfl
theorem q1267 : (Jvm.Cond.instanceMethod ({ cls := "BilevelPagesModel", name := "isLetGo", desc := "(II)Z" } : Jvm.MethodName)) ∈ lw_all := lw_g (lw_at lw_m5 236 rfl) rfl
theorem q1268 : (Jvm.Cond.code ({ cls := "BilevelPagesModel", name := "isLetGo", desc := "(II)Z" } : Jvm.MethodName) prog_8_method_12_code (5 : Nat) (Option.some Jvm.ClassFile.FieldType.boolean)) ∈ lw_all := lw_g (lw_at lw_m5 237 rfl) rfl
theorem q1269 : (Jvm.Cond.methodLink "BilevelPagesModel" (143 : Nat) ({ cls := "BilevelPagesModel", name := "bitOf", desc := "(II)I" } : Jvm.MethodName)) ∈ lw_all := lw_g (lw_at lw_m5 238 rfl) rfl
theorem q1270 : (Jvm.Cond.privateMethod ({ cls := "BilevelPagesModel", name := "bitOf", desc := "(II)I" } : Jvm.MethodName)) ∈ lw_tbl := lw_at lw_m5 239 rfl
theorem q1271 : (Jvm.Cond.instanceMethod ({ cls := "BilevelPagesModel", name := "bitOf", desc := "(II)I" } : Jvm.MethodName)) ∈ lw_all := lw_g (lw_at lw_m6 0 rfl) rfl
theorem q1272 : (Jvm.Cond.code ({ cls := "BilevelPagesModel", name := "bitOf", desc := "(II)I" } : Jvm.MethodName) prog_8_method_11_code (4 : Nat) (Option.some Jvm.ClassFile.FieldType.int)) ∈ lw_all := lw_g (lw_at lw_m6 1 rfl) rfl
theorem q1273 : (Jvm.Cond.methodLink "BilevelPagesModel" (140 : Nat) ({ cls := "BilevelPagesModel", name := "refPlace", desc := "(II)I" } : Jvm.MethodName)) ∈ lw_all := lw_g (lw_at lw_m6 2 rfl) rfl
theorem q1274 : (Jvm.Cond.privateMethod ({ cls := "BilevelPagesModel", name := "refPlace", desc := "(II)I" } : Jvm.MethodName)) ∈ lw_tbl := lw_at lw_m6 3 rfl
theorem q1275 : (Jvm.Cond.instanceMethod ({ cls := "BilevelPagesModel", name := "refPlace", desc := "(II)I" } : Jvm.MethodName)) ∈ lw_all := lw_g (lw_at lw_m6 4 rfl) rfl
theorem q1276 : (Jvm.Cond.code ({ cls := "BilevelPagesModel", name := "refPlace", desc := "(II)I" } : Jvm.MethodName) prog_8_method_10_code (4 : Nat) (Option.some Jvm.ClassFile.FieldType.int)) ∈ lw_all := lw_g (lw_at lw_m6 5 rfl) rfl
theorem q1278 : (Jvm.Cond.instanceMethod ({ cls := "BilevelPagesModel", name := "letGo", desc := "(II)Z" } : Jvm.MethodName)) ∈ lw_all := lw_g (lw_at lw_m6 7 rfl) rfl
theorem q1279 : (Jvm.Cond.selects "BilevelPagesModel" ({ cls := "BilevelPagesModel", name := "letGo", desc := "(II)Z" } : Jvm.MethodName) ({ cls := "BilevelPagesModel", name := "letGo", desc := "(II)Z" } : Jvm.MethodName)) ∈ lw_all := lw_g (lw_at lw_m6 8 rfl) rfl
theorem q1280 : (Jvm.Cond.code ({ cls := "BilevelPagesModel", name := "letGo", desc := "(II)Z" } : Jvm.MethodName) prog_8_method_14_code (5 : Nat) (Option.some Jvm.ClassFile.FieldType.boolean)) ∈ lw_all := lw_g (lw_at lw_m6 9 rfl) rfl
theorem q1282 : (Jvm.Cond.instanceMethod ({ cls := "BilevelPagesModel", name := "byteOf", desc := "(II)I" } : Jvm.MethodName)) ∈ lw_all := lw_g (lw_at lw_m6 11 rfl) rfl
theorem q1283 : (Jvm.Cond.selects "BilevelPagesModel" ({ cls := "BilevelPagesModel", name := "byteOf", desc := "(II)I" } : Jvm.MethodName) ({ cls := "BilevelPagesModel", name := "byteOf", desc := "(II)I" } : Jvm.MethodName)) ∈ lw_all := lw_g (lw_at lw_m6 12 rfl) rfl
theorem q1284 : (Jvm.Cond.code ({ cls := "BilevelPagesModel", name := "byteOf", desc := "(II)I" } : Jvm.MethodName) prog_8_method_16_code (4 : Nat) (Option.some Jvm.ClassFile.FieldType.int)) ∈ lw_all := lw_g (lw_at lw_m6 13 rfl) rfl
theorem q1285 : (Jvm.Cond.methodLink "BilevelPagesModel" (153 : Nat) ({ cls := "BilevelPagesModel", name := "hasBytes", desc := "(I)Z" } : Jvm.MethodName)) ∈ lw_all := lw_g (lw_at lw_m6 14 rfl) rfl
theorem q1286 : (Jvm.Cond.static ({ cls := "BilevelPagesModel", name := "hasBytes", desc := "(I)Z" } : Jvm.MethodName)) ∈ lw_all := lw_g (lw_at lw_m6 15 rfl) rfl
theorem q1287 : (Jvm.Cond.code ({ cls := "BilevelPagesModel", name := "hasBytes", desc := "(I)Z" } : Jvm.MethodName) prog_8_method_15_code (1 : Nat) (Option.some Jvm.ClassFile.FieldType.boolean)) ∈ lw_all := lw_g (lw_at lw_m6 16 rfl) rfl
theorem q1289 : (Jvm.Cond.instanceMethod ({ cls := "BilevelPagesModel", name := "number", desc := "(III)I" } : Jvm.MethodName)) ∈ lw_all := lw_g (lw_at lw_m6 18 rfl) rfl
theorem q1290 : (Jvm.Cond.selects "BilevelPagesModel" ({ cls := "BilevelPagesModel", name := "number", desc := "(III)I" } : Jvm.MethodName) ({ cls := "BilevelPagesModel", name := "number", desc := "(III)I" } : Jvm.MethodName)) ∈ lw_all := lw_g (lw_at lw_m6 19 rfl) rfl
theorem q1291 : (Jvm.Cond.code ({ cls := "BilevelPagesModel", name := "number", desc := "(III)I" } : Jvm.MethodName) prog_8_method_18_code (6 : Nat) (Option.some Jvm.ClassFile.FieldType.int)) ∈ lw_all := lw_g (lw_at lw_m6 20 rfl) rfl
theorem q1292 : (Jvm.Cond.methodLink "BilevelPagesModel" (156 : Nat) ({ cls := "BilevelPagesModel", name := "isNumber", desc := "(III)Z" } : Jvm.MethodName)) ∈ lw_all := lw_g (lw_at lw_m6 21 rfl) rfl
theorem q1293 : (Jvm.Cond.static ({ cls := "BilevelPagesModel", name := "isNumber", desc := "(III)Z" } : Jvm.MethodName)) ∈ lw_all := lw_g (lw_at lw_m6 22 rfl) rfl
theorem q1294 : (Jvm.Cond.code ({ cls := "BilevelPagesModel", name := "isNumber", desc := "(III)Z" } : Jvm.MethodName) prog_8_method_17_code (3 : Nat) (Option.some Jvm.ClassFile.FieldType.boolean)) ∈ lw_all := lw_g (lw_at lw_m6 23 rfl) rfl
theorem q1296 : (Jvm.Cond.instanceMethod ({ cls := "BilevelPagesModel", name := "pixel", desc := "(IIIZ)Z" } : Jvm.MethodName)) ∈ lw_all := lw_g (lw_at lw_m6 25 rfl) rfl
theorem q1297 : (Jvm.Cond.selects "BilevelPagesModel" ({ cls := "BilevelPagesModel", name := "pixel", desc := "(IIIZ)Z" } : Jvm.MethodName) ({ cls := "BilevelPagesModel", name := "pixel", desc := "(IIIZ)Z" } : Jvm.MethodName)) ∈ lw_all := lw_g (lw_at lw_m6 26 rfl) rfl
theorem q1298 : (Jvm.Cond.code ({ cls := "BilevelPagesModel", name := "pixel", desc := "(IIIZ)Z" } : Jvm.MethodName) prog_8_method_19_code (8 : Nat) (Option.some Jvm.ClassFile.FieldType.boolean)) ∈ lw_all := lw_g (lw_at lw_m6 27 rfl) rfl
theorem q1300 : (Jvm.Cond.instanceMethod ({ cls := "BilevelPagesModel", name := "write", desc := "(I)I" } : Jvm.MethodName)) ∈ lw_all := lw_g (lw_at lw_m6 29 rfl) rfl
theorem q1301 : (Jvm.Cond.selects "BilevelPagesModel" ({ cls := "BilevelPagesModel", name := "write", desc := "(I)I" } : Jvm.MethodName) ({ cls := "BilevelPagesModel", name := "write", desc := "(I)I" } : Jvm.MethodName)) ∈ lw_all := lw_g (lw_at lw_m6 30 rfl) rfl
theorem q1302 : (Jvm.Cond.code ({ cls := "BilevelPagesModel", name := "write", desc := "(I)I" } : Jvm.MethodName) prog_8_method_28_code (6 : Nat) (Option.some Jvm.ClassFile.FieldType.int)) ∈ lw_all := lw_g (lw_at lw_m6 31 rfl) rfl
theorem q1303 : (Jvm.Cond.methodLink "BilevelPagesModel" (179 : Nat) ({ cls := "BilevelPagesModel", name := "magic", desc := "(I)I" } : Jvm.MethodName)) ∈ lw_all := lw_g (lw_at lw_m6 32 rfl) rfl
theorem q1304 : (Jvm.Cond.static ({ cls := "BilevelPagesModel", name := "magic", desc := "(I)I" } : Jvm.MethodName)) ∈ lw_all := lw_g (lw_at lw_m6 33 rfl) rfl
theorem q1305 : (Jvm.Cond.code ({ cls := "BilevelPagesModel", name := "magic", desc := "(I)I" } : Jvm.MethodName) prog_8_method_27_code (1 : Nat) (Option.some Jvm.ClassFile.FieldType.int)) ∈ lw_all := lw_g (lw_at lw_m6 34 rfl) rfl
theorem q1306 : (Jvm.Cond.methodLink "BilevelPagesModel" (162 : Nat) ({ cls := "BilevelPagesModel", name := "put", desc := "(I)V" } : Jvm.MethodName)) ∈ lw_all := lw_g (lw_at lw_m6 35 rfl) rfl
theorem q1307 : (Jvm.Cond.privateMethod ({ cls := "BilevelPagesModel", name := "put", desc := "(I)V" } : Jvm.MethodName)) ∈ lw_tbl := lw_at lw_m6 36 rfl
theorem q1308 : (Jvm.Cond.instanceMethod ({ cls := "BilevelPagesModel", name := "put", desc := "(I)V" } : Jvm.MethodName)) ∈ lw_all := lw_g (lw_at lw_m6 37 rfl) rfl
theorem q1309 : (Jvm.Cond.code ({ cls := "BilevelPagesModel", name := "put", desc := "(I)V" } : Jvm.MethodName) prog_8_method_20_code (2 : Nat) (Option.none : Option Jvm.ClassFile.FieldType)) ∈ lw_all := lw_g (lw_at lw_m6 38 rfl) rfl
theorem q1310 : (Jvm.Cond.methodLink "BilevelPagesModel" (166 : Nat) ({ cls := "BilevelPagesModel", name := "putFour", desc := "(I)V" } : Jvm.MethodName)) ∈ lw_all := lw_g (lw_at lw_m6 39 rfl) rfl
theorem q1311 : (Jvm.Cond.privateMethod ({ cls := "BilevelPagesModel", name := "putFour", desc := "(I)V" } : Jvm.MethodName)) ∈ lw_tbl := lw_at lw_m6 40 rfl
theorem q1312 : (Jvm.Cond.instanceMethod ({ cls := "BilevelPagesModel", name := "putFour", desc := "(I)V" } : Jvm.MethodName)) ∈ lw_all := lw_g (lw_at lw_m6 41 rfl) rfl
theorem q1313 : (Jvm.Cond.code ({ cls := "BilevelPagesModel", name := "putFour", desc := "(I)V" } : Jvm.MethodName) prog_8_method_21_code (3 : Nat) (Option.none : Option Jvm.ClassFile.FieldType)) ∈ lw_all := lw_g (lw_at lw_m6 42 rfl) rfl
theorem q1314 : (Jvm.Cond.methodLink "BilevelPagesModel" (182 : Nat) ({ cls := "BilevelPagesModel", name := "writeHead", desc := "(I)V" } : Jvm.MethodName)) ∈ lw_all := lw_g (lw_at lw_m6 43 rfl) rfl
theorem q1315 : (Jvm.Cond.privateMethod ({ cls := "BilevelPagesModel", name := "writeHead", desc := "(I)V" } : Jvm.MethodName)) ∈ lw_tbl := lw_at lw_m6 44 rfl
theorem q1316 : (Jvm.Cond.instanceMethod ({ cls := "BilevelPagesModel", name := "writeHead", desc := "(I)V" } : Jvm.MethodName)) ∈ lw_all := lw_g (lw_at lw_m6 45 rfl) rfl
theorem q1317 : (Jvm.Cond.code ({ cls := "BilevelPagesModel", name := "writeHead", desc := "(I)V" } : Jvm.MethodName) prog_8_method_24_code (5 : Nat) (Option.none : Option Jvm.ClassFile.FieldType)) ∈ lw_all := lw_g (lw_at lw_m6 46 rfl) rfl
theorem q1318 : (Jvm.Cond.methodLink "BilevelPagesModel" (169 : Nat) ({ cls := "BilevelPagesModel", name := "isOpen", desc := "(I)Z" } : Jvm.MethodName)) ∈ lw_all := lw_g (lw_at lw_m6 47 rfl) rfl
theorem q1319 : (Jvm.Cond.privateMethod ({ cls := "BilevelPagesModel", name := "isOpen", desc := "(I)Z" } : Jvm.MethodName)) ∈ lw_tbl := lw_at lw_m6 48 rfl
theorem q1320 : (Jvm.Cond.instanceMethod ({ cls := "BilevelPagesModel", name := "isOpen", desc := "(I)Z" } : Jvm.MethodName)) ∈ lw_all := lw_g (lw_at lw_m6 49 rfl) rfl
theorem q1321 : (Jvm.Cond.code ({ cls := "BilevelPagesModel", name := "isOpen", desc := "(I)Z" } : Jvm.MethodName) prog_8_method_22_code (2 : Nat) (Option.some Jvm.ClassFile.FieldType.boolean)) ∈ lw_all := lw_g (lw_at lw_m6 50 rfl) rfl
theorem q1322 : (Jvm.Cond.methodLink "BilevelPagesModel" (172 : Nat) ({ cls := "BilevelPagesModel", name := "dataSize", desc := "(I)I" } : Jvm.MethodName)) ∈ lw_all := lw_g (lw_at lw_m6 51 rfl) rfl
theorem q1323 : (Jvm.Cond.privateMethod ({ cls := "BilevelPagesModel", name := "dataSize", desc := "(I)I" } : Jvm.MethodName)) ∈ lw_tbl := lw_at lw_m6 52 rfl
theorem q1324 : (Jvm.Cond.instanceMethod ({ cls := "BilevelPagesModel", name := "dataSize", desc := "(I)I" } : Jvm.MethodName)) ∈ lw_all := lw_g (lw_at lw_m6 53 rfl) rfl
theorem q1325 : (Jvm.Cond.code ({ cls := "BilevelPagesModel", name := "dataSize", desc := "(I)I" } : Jvm.MethodName) prog_8_method_23_code (4 : Nat) (Option.some Jvm.ClassFile.FieldType.int)) ∈ lw_all := lw_g (lw_at lw_m6 54 rfl) rfl
theorem q1326 : (Jvm.Cond.methodLink "BilevelPagesModel" (185 : Nat) ({ cls := "BilevelPagesModel", name := "writeData", desc := "(I)V" } : Jvm.MethodName)) ∈ lw_all := lw_g (lw_at lw_m6 55 rfl) rfl
theorem q1327 : (Jvm.Cond.privateMethod ({ cls := "BilevelPagesModel", name := "writeData", desc := "(I)V" } : Jvm.MethodName)) ∈ lw_tbl := lw_at lw_m6 56 rfl
theorem q1328 : (Jvm.Cond.instanceMethod ({ cls := "BilevelPagesModel", name := "writeData", desc := "(I)V" } : Jvm.MethodName)) ∈ lw_all := lw_g (lw_at lw_m6 57 rfl) rfl
theorem q1329 : (Jvm.Cond.code ({ cls := "BilevelPagesModel", name := "writeData", desc := "(I)V" } : Jvm.MethodName) prog_8_method_26_code (4 : Nat) (Option.none : Option Jvm.ClassFile.FieldType)) ∈ lw_all := lw_g (lw_at lw_m6 58 rfl) rfl
theorem q1330 : (Jvm.Cond.methodLink "BilevelPagesModel" (176 : Nat) ({ cls := "BilevelPagesModel", name := "writeRegion", desc := "(I)V" } : Jvm.MethodName)) ∈ lw_all := lw_g (lw_at lw_m6 59 rfl) rfl
theorem q1331 : (Jvm.Cond.privateMethod ({ cls := "BilevelPagesModel", name := "writeRegion", desc := "(I)V" } : Jvm.MethodName)) ∈ lw_tbl := lw_at lw_m6 60 rfl
theorem q1332 : (Jvm.Cond.instanceMethod ({ cls := "BilevelPagesModel", name := "writeRegion", desc := "(I)V" } : Jvm.MethodName)) ∈ lw_all := lw_g (lw_at lw_m6 61 rfl) rfl
theorem q1333 : (Jvm.Cond.code ({ cls := "BilevelPagesModel", name := "writeRegion", desc := "(I)V" } : Jvm.MethodName) prog_8_method_25_code (8 : Nat) (Option.none : Option Jvm.ClassFile.FieldType)) ∈ lw_all := lw_g (lw_at lw_m6 62 rfl) rfl
theorem q1335 : (Jvm.Cond.instanceMethod ({ cls := "BilevelPagesModel", name := "byteAt", desc := "(I)I" } : Jvm.MethodName)) ∈ lw_all := lw_g (lw_at lw_m6 64 rfl) rfl
theorem q1336 : (Jvm.Cond.selects "BilevelPagesModel" ({ cls := "BilevelPagesModel", name := "byteAt", desc := "(I)I" } : Jvm.MethodName) ({ cls := "BilevelPagesModel", name := "byteAt", desc := "(I)I" } : Jvm.MethodName)) ∈ lw_all := lw_g (lw_at lw_m6 65 rfl) rfl
theorem q1337 : (Jvm.Cond.code ({ cls := "BilevelPagesModel", name := "byteAt", desc := "(I)I" } : Jvm.MethodName) prog_8_method_29_code (2 : Nat) (Option.some Jvm.ClassFile.FieldType.int)) ∈ lw_all := lw_g (lw_at lw_m6 66 rfl) rfl
theorem q1339 : (Jvm.Cond.instanceMethod ({ cls := "BilevelPagesModel", name := "feed", desc := "(IZ)I" } : Jvm.MethodName)) ∈ lw_all := lw_g (lw_at lw_m6 68 rfl) rfl
theorem q1340 : (Jvm.Cond.selects "BilevelPagesModel" ({ cls := "BilevelPagesModel", name := "feed", desc := "(IZ)I" } : Jvm.MethodName) ({ cls := "BilevelPagesModel", name := "feed", desc := "(IZ)I" } : Jvm.MethodName)) ∈ lw_all := lw_g (lw_at lw_m6 69 rfl) rfl
theorem q1341 : (Jvm.Cond.code ({ cls := "BilevelPagesModel", name := "feed", desc := "(IZ)I" } : Jvm.MethodName) prog_8_method_30_code (3 : Nat) (Option.some Jvm.ClassFile.FieldType.int)) ∈ lw_all := lw_g (lw_at lw_m6 70 rfl) rfl
theorem q1343 : (Jvm.Cond.instanceMethod ({ cls := "BilevelPagesModel", name := "pass", desc := "(Z)I" } : Jvm.MethodName)) ∈ lw_all := lw_g (lw_at lw_m6 72 rfl) rfl
theorem q1344 : (Jvm.Cond.selects "BilevelPagesModel" ({ cls := "BilevelPagesModel", name := "pass", desc := "(Z)I" } : Jvm.MethodName) ({ cls := "BilevelPagesModel", name := "pass", desc := "(Z)I" } : Jvm.MethodName)) ∈ lw_all := lw_g (lw_at lw_m6 73 rfl) rfl
theorem q1345 : (Jvm.Cond.code ({ cls := "BilevelPagesModel", name := "pass", desc := "(Z)I" } : Jvm.MethodName) prog_8_method_31_code (3 : Nat) (Option.some Jvm.ClassFile.FieldType.int)) ∈ lw_all := lw_g (lw_at lw_m6 74 rfl) rfl
theorem q1347 : (Jvm.Cond.instanceMethod ({ cls := "BilevelPagesModel", name := "alter", desc := "(II)I" } : Jvm.MethodName)) ∈ lw_all := lw_g (lw_at lw_m6 76 rfl) rfl
theorem q1348 : (Jvm.Cond.selects "BilevelPagesModel" ({ cls := "BilevelPagesModel", name := "alter", desc := "(II)I" } : Jvm.MethodName) ({ cls := "BilevelPagesModel", name := "alter", desc := "(II)I" } : Jvm.MethodName)) ∈ lw_all := lw_g (lw_at lw_m6 77 rfl) rfl
theorem q1349 : (Jvm.Cond.code ({ cls := "BilevelPagesModel", name := "alter", desc := "(II)I" } : Jvm.MethodName) prog_8_method_32_code (4 : Nat) (Option.some Jvm.ClassFile.FieldType.int)) ∈ lw_all := lw_g (lw_at lw_m6 78 rfl) rfl
theorem q1351 : (Jvm.Cond.instanceMethod ({ cls := "BilevelPagesModel", name := "read", desc := "()I" } : Jvm.MethodName)) ∈ lw_all := lw_g (lw_at lw_m6 80 rfl) rfl
theorem q1352 : (Jvm.Cond.selects "BilevelPagesModel" ({ cls := "BilevelPagesModel", name := "read", desc := "()I" } : Jvm.MethodName) ({ cls := "BilevelPagesModel", name := "read", desc := "()I" } : Jvm.MethodName)) ∈ lw_all := lw_g (lw_at lw_m6 81 rfl) rfl
theorem q1353 : (Jvm.Cond.code ({ cls := "BilevelPagesModel", name := "read", desc := "()I" } : Jvm.MethodName) prog_8_method_57_code (2 : Nat) (Option.some Jvm.ClassFile.FieldType.int)) ∈ lw_all := lw_g (lw_at lw_m6 82 rfl) rfl
theorem q1354 : (Jvm.Cond.methodLink "BilevelPagesModel" (308 : Nat) ({ cls := "BilevelPagesModel", name := "readEmbedded", desc := "()V" } : Jvm.MethodName)) ∈ lw_all := lw_g (lw_at lw_m6 83 rfl) rfl
theorem q1355 : (Jvm.Cond.privateMethod ({ cls := "BilevelPagesModel", name := "readEmbedded", desc := "()V" } : Jvm.MethodName)) ∈ lw_tbl := lw_at lw_m6 84 rfl
theorem q1356 : (Jvm.Cond.instanceMethod ({ cls := "BilevelPagesModel", name := "readEmbedded", desc := "()V" } : Jvm.MethodName)) ∈ lw_all := lw_g (lw_at lw_m6 85 rfl) rfl
theorem q1357 : (Jvm.Cond.code ({ cls := "BilevelPagesModel", name := "readEmbedded", desc := "()V" } : Jvm.MethodName) prog_8_method_55_code (2 : Nat) (Option.none : Option Jvm.ClassFile.FieldType)) ∈ lw_all := lw_g (lw_at lw_m6 86 rfl) rfl
theorem q1358 : (Jvm.Cond.methodLink "BilevelPagesModel" (301 : Nat) ({ cls := "BilevelPagesModel", name := "readHead", desc := "()Z" } : Jvm.MethodName)) ∈ lw_all := lw_g (lw_at lw_m6 87 rfl) rfl
theorem q1359 : (Jvm.Cond.privateMethod ({ cls := "BilevelPagesModel", name := "readHead", desc := "()Z" } : Jvm.MethodName)) ∈ lw_tbl := lw_at lw_m6 88 rfl
theorem q1360 : (Jvm.Cond.instanceMethod ({ cls := "BilevelPagesModel", name := "readHead", desc := "()Z" } : Jvm.MethodName)) ∈ lw_all := lw_g (lw_at lw_m6 89 rfl) rfl
theorem q1361 : (Jvm.Cond.code ({ cls := "BilevelPagesModel", name := "readHead", desc := "()Z" } : Jvm.MethodName) prog_8_method_37_code (12 : Nat) (Option.some Jvm.ClassFile.FieldType.boolean)) ∈ lw_all := lw_g (lw_at lw_m6 90 rfl) rfl
theorem q1362 : (Jvm.Cond.constantLong "BilevelPagesModel" (212 : Nat) (6 : Int64)) ∈ lw_all := lw_g (lw_at lw_m6 91 rfl) rfl
theorem q1363 : (Jvm.Cond.methodLink "BilevelPagesModel" (214 : Nat) ({ cls := "BilevelPagesModel", name := "hasLeft", desc := "(J)Z" } : Jvm.MethodName)) ∈ lw_all := lw_g (lw_at lw_m6 92 rfl) rfl
theorem q1364 : (Jvm.Cond.privateMethod ({ cls := "BilevelPagesModel", name := "hasLeft", desc := "(J)Z" } : Jvm.MethodName)) ∈ lw_tbl := lw_at lw_m6 93 rfl
theorem q1365 : (Jvm.Cond.instanceMethod ({ cls := "BilevelPagesModel", name := "hasLeft", desc := "(J)Z" } : Jvm.MethodName)) ∈ lw_all := lw_g (lw_at lw_m6 94 rfl) rfl
theorem q1366 : (Jvm.Cond.code ({ cls := "BilevelPagesModel", name := "hasLeft", desc := "(J)Z" } : Jvm.MethodName) prog_8_method_35_code (3 : Nat) (Option.some Jvm.ClassFile.FieldType.boolean)) ∈ lw_all := lw_g (lw_at lw_m6 95 rfl) rfl
theorem q1367 : (Jvm.Cond.methodLink "BilevelPagesModel" (200 : Nat) ({ cls := "BilevelPagesModel", name := "fail", desc := "(II)Z" } : Jvm.MethodName)) ∈ lw_all := lw_g (lw_at lw_m6 96 rfl) rfl
theorem q1368 : (Jvm.Cond.privateMethod ({ cls := "BilevelPagesModel", name := "fail", desc := "(II)Z" } : Jvm.MethodName)) ∈ lw_tbl := lw_at lw_m6 97 rfl
theorem q1369 : (Jvm.Cond.instanceMethod ({ cls := "BilevelPagesModel", name := "fail", desc := "(II)Z" } : Jvm.MethodName)) ∈ lw_all := lw_g (lw_at lw_m6 98 rfl) rfl
theorem q1370 : (Jvm.Cond.code ({ cls := "BilevelPagesModel", name := "fail", desc := "(II)Z" } : Jvm.MethodName) prog_8_method_33_code (3 : Nat) (Option.some Jvm.ClassFile.FieldType.boolean)) ∈ lw_all := lw_g (lw_at lw_m6 99 rfl) rfl
theorem q1371 : (Jvm.Cond.constantLong "BilevelPagesModel" (218 : Nat) (9 : Int64)) ∈ lw_all := lw_g (lw_at lw_m6 100 rfl) rfl
theorem q1372 : (Jvm.Cond.methodLink "BilevelPagesModel" (220 : Nat) ({ cls := "BilevelPagesModel", name := "four", desc := "(I)I" } : Jvm.MethodName)) ∈ lw_all := lw_g (lw_at lw_m6 101 rfl) rfl
theorem q1373 : (Jvm.Cond.privateMethod ({ cls := "BilevelPagesModel", name := "four", desc := "(I)I" } : Jvm.MethodName)) ∈ lw_tbl := lw_at lw_m6 102 rfl
theorem q1374 : (Jvm.Cond.instanceMethod ({ cls := "BilevelPagesModel", name := "four", desc := "(I)I" } : Jvm.MethodName)) ∈ lw_all := lw_g (lw_at lw_m6 103 rfl) rfl
theorem q1375 : (Jvm.Cond.code ({ cls := "BilevelPagesModel", name := "four", desc := "(I)I" } : Jvm.MethodName) prog_8_method_36_code (2 : Nat) (Option.some Jvm.ClassFile.FieldType.int)) ∈ lw_all := lw_g (lw_at lw_m6 104 rfl) rfl
theorem q1376 : (Jvm.Cond.constantLong "BilevelPagesModel" (223 : Nat) (5 : Int64)) ∈ lw_all := lw_g (lw_at lw_m6 105 rfl) rfl
theorem q1377 : (Jvm.Cond.constantLong "BilevelPagesModel" (225 : Nat) (4294967295 : Int64)) ∈ lw_all := lw_g (lw_at lw_m6 106 rfl) rfl
theorem q1378 : (Jvm.Cond.methodLink "BilevelPagesModel" (305 : Nat) ({ cls := "BilevelPagesModel", name := "readSegment", desc := "(I)Z" } : Jvm.MethodName)) ∈ lw_all := lw_g (lw_at lw_m6 107 rfl) rfl
theorem q1379 : (Jvm.Cond.privateMethod ({ cls := "BilevelPagesModel", name := "readSegment", desc := "(I)Z" } : Jvm.MethodName)) ∈ lw_tbl := lw_at lw_m6 108 rfl
theorem q1380 : (Jvm.Cond.instanceMethod ({ cls := "BilevelPagesModel", name := "readSegment", desc := "(I)Z" } : Jvm.MethodName)) ∈ lw_all := lw_g (lw_at lw_m6 109 rfl) rfl
theorem q1381 : (Jvm.Cond.code ({ cls := "BilevelPagesModel", name := "readSegment", desc := "(I)Z" } : Jvm.MethodName) prog_8_method_54_code (5 : Nat) (Option.some Jvm.ClassFile.FieldType.boolean)) ∈ lw_all := lw_g (lw_at lw_m6 110 rfl) rfl
theorem q1382 : (Jvm.Cond.methodLink "BilevelPagesModel" (271 : Nat) ({ cls := "BilevelPagesModel", name := "checkRefs", desc := "(I)Z" } : Jvm.MethodName)) ∈ lw_all := lw_g (lw_at lw_m6 111 rfl) rfl
theorem q1383 : (Jvm.Cond.privateMethod ({ cls := "BilevelPagesModel", name := "checkRefs", desc := "(I)Z" } : Jvm.MethodName)) ∈ lw_tbl := lw_at lw_m6 112 rfl
theorem q1384 : (Jvm.Cond.instanceMethod ({ cls := "BilevelPagesModel", name := "checkRefs", desc := "(I)Z" } : Jvm.MethodName)) ∈ lw_all := lw_g (lw_at lw_m6 113 rfl) rfl
theorem q1385 : (Jvm.Cond.code ({ cls := "BilevelPagesModel", name := "checkRefs", desc := "(I)Z" } : Jvm.MethodName) prog_8_method_41_code (7 : Nat) (Option.some Jvm.ClassFile.FieldType.boolean)) ∈ lw_all := lw_g (lw_at lw_m6 114 rfl) rfl
theorem q1386 : (Jvm.Cond.methodLink "BilevelPagesModel" (227 : Nat) ({ cls := "BilevelPagesModel", name := "segmentOf", desc := "(II)I" } : Jvm.MethodName)) ∈ lw_all := lw_g (lw_at lw_m6 115 rfl) rfl
theorem q1387 : (Jvm.Cond.privateMethod ({ cls := "BilevelPagesModel", name := "segmentOf", desc := "(II)I" } : Jvm.MethodName)) ∈ lw_tbl := lw_at lw_m6 116 rfl
theorem q1388 : (Jvm.Cond.instanceMethod ({ cls := "BilevelPagesModel", name := "segmentOf", desc := "(II)I" } : Jvm.MethodName)) ∈ lw_all := lw_g (lw_at lw_m6 117 rfl) rfl
theorem q1389 : (Jvm.Cond.code ({ cls := "BilevelPagesModel", name := "segmentOf", desc := "(II)I" } : Jvm.MethodName) prog_8_method_38_code (4 : Nat) (Option.some Jvm.ClassFile.FieldType.int)) ∈ lw_all := lw_g (lw_at lw_m6 118 rfl) rfl
theorem q1390 : (Jvm.Cond.methodLink "BilevelPagesModel" (230 : Nat) ({ cls := "BilevelPagesModel", name := "mayRefer", desc := "(IIZ)Z" } : Jvm.MethodName)) ∈ lw_all := lw_g (lw_at lw_m6 119 rfl) rfl
theorem q1391 : (Jvm.Cond.privateMethod ({ cls := "BilevelPagesModel", name := "mayRefer", desc := "(IIZ)Z" } : Jvm.MethodName)) ∈ lw_tbl := lw_at lw_m6 120 rfl
theorem q1392 : (Jvm.Cond.instanceMethod ({ cls := "BilevelPagesModel", name := "mayRefer", desc := "(IIZ)Z" } : Jvm.MethodName)) ∈ lw_all := lw_g (lw_at lw_m6 121 rfl) rfl
theorem q1393 : (Jvm.Cond.code ({ cls := "BilevelPagesModel", name := "mayRefer", desc := "(IIZ)Z" } : Jvm.MethodName) prog_8_method_39_code (7 : Nat) (Option.some Jvm.ClassFile.FieldType.boolean)) ∈ lw_all := lw_g (lw_at lw_m6 122 rfl) rfl
theorem q1394 : (Jvm.Cond.methodLink "BilevelPagesModel" (274 : Nat) ({ cls := "BilevelPagesModel", name := "checkPage", desc := "(I)Z" } : Jvm.MethodName)) ∈ lw_all := lw_g (lw_at lw_m6 123 rfl) rfl
theorem q1395 : (Jvm.Cond.privateMethod ({ cls := "BilevelPagesModel", name := "checkPage", desc := "(I)Z" } : Jvm.MethodName)) ∈ lw_tbl := lw_at lw_m6 124 rfl
theorem q1396 : (Jvm.Cond.instanceMethod ({ cls := "BilevelPagesModel", name := "checkPage", desc := "(I)Z" } : Jvm.MethodName)) ∈ lw_all := lw_g (lw_at lw_m6 125 rfl) rfl
theorem q1397 : (Jvm.Cond.code ({ cls := "BilevelPagesModel", name := "checkPage", desc := "(I)Z" } : Jvm.MethodName) prog_8_method_42_code (6 : Nat) (Option.some Jvm.ClassFile.FieldType.boolean)) ∈ lw_all := lw_g (lw_at lw_m6 126 rfl) rfl
theorem q1398 : (Jvm.Cond.methodLink "BilevelPagesModel" (237 : Nat) ({ cls := "BilevelPagesModel", name := "needs", desc := "(ZII)Z" } : Jvm.MethodName)) ∈ lw_all := lw_g (lw_at lw_m6 127 rfl) rfl
theorem q1399 : (Jvm.Cond.privateMethod ({ cls := "BilevelPagesModel", name := "needs", desc := "(ZII)Z" } : Jvm.MethodName)) ∈ lw_tbl := lw_at lw_m6 128 rfl
theorem q1400 : (Jvm.Cond.instanceMethod ({ cls := "BilevelPagesModel", name := "needs", desc := "(ZII)Z" } : Jvm.MethodName)) ∈ lw_all := lw_g (lw_at lw_m6 129 rfl) rfl
theorem q1401 : (Jvm.Cond.code ({ cls := "BilevelPagesModel", name := "needs", desc := "(ZII)Z" } : Jvm.MethodName) prog_8_method_34_code (4 : Nat) (Option.some Jvm.ClassFile.FieldType.boolean)) ∈ lw_all := lw_g (lw_at lw_m6 130 rfl) rfl
theorem q1402 : (Jvm.Cond.methodLink "BilevelPagesModel" (277 : Nat) ({ cls := "BilevelPagesModel", name := "checkLength", desc := "(I)Z" } : Jvm.MethodName)) ∈ lw_all := lw_g (lw_at lw_m6 131 rfl) rfl
theorem q1403 : (Jvm.Cond.privateMethod ({ cls := "BilevelPagesModel", name := "checkLength", desc := "(I)Z" } : Jvm.MethodName)) ∈ lw_tbl := lw_at lw_m6 132 rfl
theorem q1404 : (Jvm.Cond.instanceMethod ({ cls := "BilevelPagesModel", name := "checkLength", desc := "(I)Z" } : Jvm.MethodName)) ∈ lw_all := lw_g (lw_at lw_m6 133 rfl) rfl
theorem q1405 : (Jvm.Cond.code ({ cls := "BilevelPagesModel", name := "checkLength", desc := "(I)Z" } : Jvm.MethodName) prog_8_method_43_code (7 : Nat) (Option.some Jvm.ClassFile.FieldType.boolean)) ∈ lw_all := lw_g (lw_at lw_m6 134 rfl) rfl
theorem q1406 : (Jvm.Cond.constantLong "BilevelPagesModel" (241 : Nat) (20 : Int64)) ∈ lw_all := lw_g (lw_at lw_m6 135 rfl) rfl
theorem q1407 : (Jvm.Cond.constantLong "BilevelPagesModel" (243 : Nat) (4 : Int64)) ∈ lw_all := lw_g (lw_at lw_m6 136 rfl) rfl
theorem q1408 : (Jvm.Cond.constantLong "BilevelPagesModel" (245 : Nat) (24 : Int64)) ∈ lw_all := lw_g (lw_at lw_m6 137 rfl) rfl
theorem q1409 : (Jvm.Cond.constantLong "BilevelPagesModel" (247 : Nat) (10 : Int64)) ∈ lw_all := lw_g (lw_at lw_m6 138 rfl) rfl
theorem q1410 : (Jvm.Cond.constantLong "BilevelPagesModel" (249 : Nat) (17 : Int64)) ∈ lw_all := lw_g (lw_at lw_m6 139 rfl) rfl
theorem q1411 : (Jvm.Cond.methodLink "BilevelPagesModel" (280 : Nat) ({ cls := "BilevelPagesModel", name := "readPage", desc := "(I)Z" } : Jvm.MethodName)) ∈ lw_all := lw_g (lw_at lw_m6 140 rfl) rfl
theorem q1412 : (Jvm.Cond.privateMethod ({ cls := "BilevelPagesModel", name := "readPage", desc := "(I)Z" } : Jvm.MethodName)) ∈ lw_tbl := lw_at lw_m6 141 rfl
theorem q1413 : (Jvm.Cond.instanceMethod ({ cls := "BilevelPagesModel", name := "readPage", desc := "(I)Z" } : Jvm.MethodName)) ∈ lw_all := lw_g (lw_at lw_m6 142 rfl) rfl
theorem q1414 : (Jvm.Cond.code ({ cls := "BilevelPagesModel", name := "readPage", desc := "(I)Z" } : Jvm.MethodName) prog_8_method_44_code (7 : Nat) (Option.some Jvm.ClassFile.FieldType.boolean)) ∈ lw_all := lw_g (lw_at lw_m6 143 rfl) rfl
theorem q1415 : (Jvm.Cond.methodLink "BilevelPagesModel" (283 : Nat) ({ cls := "BilevelPagesModel", name := "readStripe", desc := "(I)Z" } : Jvm.MethodName)) ∈ lw_all := lw_g (lw_at lw_m6 144 rfl) rfl
theorem q1416 : (Jvm.Cond.privateMethod ({ cls := "BilevelPagesModel", name := "readStripe", desc := "(I)Z" } : Jvm.MethodName)) ∈ lw_tbl := lw_at lw_m6 145 rfl
theorem q1417 : (Jvm.Cond.instanceMethod ({ cls := "BilevelPagesModel", name := "readStripe", desc := "(I)Z" } : Jvm.MethodName)) ∈ lw_all := lw_g (lw_at lw_m6 146 rfl) rfl
theorem q1418 : (Jvm.Cond.code ({ cls := "BilevelPagesModel", name := "readStripe", desc := "(I)Z" } : Jvm.MethodName) prog_8_method_45_code (6 : Nat) (Option.some Jvm.ClassFile.FieldType.boolean)) ∈ lw_all := lw_g (lw_at lw_m6 147 rfl) rfl
theorem q1419 : (Jvm.Cond.methodLink "BilevelPagesModel" (286 : Nat) ({ cls := "BilevelPagesModel", name := "endPage", desc := "(I)Z" } : Jvm.MethodName)) ∈ lw_all := lw_g (lw_at lw_m6 148 rfl) rfl
theorem q1420 : (Jvm.Cond.privateMethod ({ cls := "BilevelPagesModel", name := "endPage", desc := "(I)Z" } : Jvm.MethodName)) ∈ lw_tbl := lw_at lw_m6 149 rfl
theorem q1421 : (Jvm.Cond.instanceMethod ({ cls := "BilevelPagesModel", name := "endPage", desc := "(I)Z" } : Jvm.MethodName)) ∈ lw_all := lw_g (lw_at lw_m6 150 rfl) rfl
theorem q1422 : (Jvm.Cond.code ({ cls := "BilevelPagesModel", name := "endPage", desc := "(I)Z" } : Jvm.MethodName) prog_8_method_52_code (3 : Nat) (Option.some Jvm.ClassFile.FieldType.boolean)) ∈ lw_all := lw_g (lw_at lw_m6 151 rfl) rfl
theorem q1423 : (Jvm.Cond.methodLink "BilevelPagesModel" (289 : Nat) ({ cls := "BilevelPagesModel", name := "readRegion", desc := "(I)I" } : Jvm.MethodName)) ∈ lw_all := lw_g (lw_at lw_m6 152 rfl) rfl
theorem q1424 : (Jvm.Cond.privateMethod ({ cls := "BilevelPagesModel", name := "readRegion", desc := "(I)I" } : Jvm.MethodName)) ∈ lw_tbl := lw_at lw_m6 153 rfl
theorem q1425 : (Jvm.Cond.instanceMethod ({ cls := "BilevelPagesModel", name := "readRegion", desc := "(I)I" } : Jvm.MethodName)) ∈ lw_all := lw_g (lw_at lw_m6 154 rfl) rfl
theorem q1426 : (Jvm.Cond.code ({ cls := "BilevelPagesModel", name := "readRegion", desc := "(I)I" } : Jvm.MethodName) prog_8_method_51_code (11 : Nat) (Option.some Jvm.ClassFile.FieldType.int)) ∈ lw_all := lw_g (lw_at lw_m6 155 rfl) rfl
theorem q1427 : (Jvm.Cond.methodLink "BilevelPagesModel" (258 : Nat) ({ cls := "BilevelPagesModel", name := "readOpen", desc := "(II)I" } : Jvm.MethodName)) ∈ lw_all := lw_g (lw_at lw_m6 156 rfl) rfl
theorem q1428 : (Jvm.Cond.privateMethod ({ cls := "BilevelPagesModel", name := "readOpen", desc := "(II)I" } : Jvm.MethodName)) ∈ lw_tbl := lw_at lw_m6 157 rfl
theorem q1429 : (Jvm.Cond.instanceMethod ({ cls := "BilevelPagesModel", name := "readOpen", desc := "(II)I" } : Jvm.MethodName)) ∈ lw_all := lw_g (lw_at lw_m6 158 rfl) rfl
theorem q1430 : (Jvm.Cond.code ({ cls := "BilevelPagesModel", name := "readOpen", desc := "(II)I" } : Jvm.MethodName) prog_8_method_48_code (8 : Nat) (Option.some Jvm.ClassFile.FieldType.int)) ∈ lw_all := lw_g (lw_at lw_m6 159 rfl) rfl
theorem q1431 : (Jvm.Cond.methodLink "BilevelPagesModel" (251 : Nat) ({ cls := "BilevelPagesModel", name := "takeRow", desc := "(III)Z" } : Jvm.MethodName)) ∈ lw_all := lw_g (lw_at lw_m6 160 rfl) rfl
theorem q1432 : (Jvm.Cond.privateMethod ({ cls := "BilevelPagesModel", name := "takeRow", desc := "(III)Z" } : Jvm.MethodName)) ∈ lw_tbl := lw_at lw_m6 161 rfl
theorem q1433 : (Jvm.Cond.instanceMethod ({ cls := "BilevelPagesModel", name := "takeRow", desc := "(III)Z" } : Jvm.MethodName)) ∈ lw_all := lw_g (lw_at lw_m6 162 rfl) rfl
theorem q1434 : (Jvm.Cond.code ({ cls := "BilevelPagesModel", name := "takeRow", desc := "(III)Z" } : Jvm.MethodName) prog_8_method_46_code (9 : Nat) (Option.some Jvm.ClassFile.FieldType.boolean)) ∈ lw_all := lw_g (lw_at lw_m6 163 rfl) rfl
theorem q1435 : (Jvm.Cond.methodLink "BilevelPagesModel" (261 : Nat) ({ cls := "BilevelPagesModel", name := "readRows", desc := "(I)Z" } : Jvm.MethodName)) ∈ lw_all := lw_g (lw_at lw_m6 164 rfl) rfl
theorem q1436 : (Jvm.Cond.privateMethod ({ cls := "BilevelPagesModel", name := "readRows", desc := "(I)Z" } : Jvm.MethodName)) ∈ lw_tbl := lw_at lw_m6 165 rfl
theorem q1437 : (Jvm.Cond.instanceMethod ({ cls := "BilevelPagesModel", name := "readRows", desc := "(I)Z" } : Jvm.MethodName)) ∈ lw_all := lw_g (lw_at lw_m6 166 rfl) rfl
theorem q1438 : (Jvm.Cond.code ({ cls := "BilevelPagesModel", name := "readRows", desc := "(I)Z" } : Jvm.MethodName) prog_8_method_47_code (5 : Nat) (Option.some Jvm.ClassFile.FieldType.boolean)) ∈ lw_all := lw_g (lw_at lw_m6 167 rfl) rfl
theorem q1439 : (Jvm.Cond.methodLink "BilevelPagesModel" (264 : Nat) ({ cls := "BilevelPagesModel", name := "keptOf", desc := "(I)I" } : Jvm.MethodName)) ∈ lw_all := lw_g (lw_at lw_m6 168 rfl) rfl
theorem q1440 : (Jvm.Cond.privateMethod ({ cls := "BilevelPagesModel", name := "keptOf", desc := "(I)I" } : Jvm.MethodName)) ∈ lw_tbl := lw_at lw_m6 169 rfl
theorem q1441 : (Jvm.Cond.instanceMethod ({ cls := "BilevelPagesModel", name := "keptOf", desc := "(I)I" } : Jvm.MethodName)) ∈ lw_all := lw_g (lw_at lw_m6 170 rfl) rfl
theorem q1442 : (Jvm.Cond.code ({ cls := "BilevelPagesModel", name := "keptOf", desc := "(I)I" } : Jvm.MethodName) prog_8_method_40_code (4 : Nat) (Option.some Jvm.ClassFile.FieldType.int)) ∈ lw_all := lw_g (lw_at lw_m6 171 rfl) rfl
theorem q1443 : (Jvm.Cond.methodLink "BilevelPagesModel" (267 : Nat) ({ cls := "BilevelPagesModel", name := "putUpon", desc := "(IIII)V" } : Jvm.MethodName)) ∈ lw_all := lw_g (lw_at lw_m6 172 rfl) rfl
theorem q1444 : (Jvm.Cond.privateMethod ({ cls := "BilevelPagesModel", name := "putUpon", desc := "(IIII)V" } : Jvm.MethodName)) ∈ lw_tbl := lw_at lw_m6 173 rfl
theorem q1445 : (Jvm.Cond.instanceMethod ({ cls := "BilevelPagesModel", name := "putUpon", desc := "(IIII)V" } : Jvm.MethodName)) ∈ lw_all := lw_g (lw_at lw_m6 174 rfl) rfl
theorem q1446 : (Jvm.Cond.code ({ cls := "BilevelPagesModel", name := "putUpon", desc := "(IIII)V" } : Jvm.MethodName) prog_8_method_50_code (11 : Nat) (Option.none : Option Jvm.ClassFile.FieldType)) ∈ lw_all := lw_g (lw_at lw_m6 175 rfl) rfl
theorem q1447 : (Jvm.Cond.methodLink "BilevelPagesModel" (254 : Nat) ({ cls := "BilevelPagesModel", name := "joined", desc := "(IZZ)Z" } : Jvm.MethodName)) ∈ lw_all := lw_g (lw_at lw_m6 176 rfl) rfl
theorem q1448 : (Jvm.Cond.static ({ cls := "BilevelPagesModel", name := "joined", desc := "(IZZ)Z" } : Jvm.MethodName)) ∈ lw_all := lw_g (lw_at lw_m6 177 rfl) rfl
theorem q1449 : (Jvm.Cond.code ({ cls := "BilevelPagesModel", name := "joined", desc := "(IZZ)Z" } : Jvm.MethodName) prog_8_method_49_code (3 : Nat) (Option.some Jvm.ClassFile.FieldType.boolean)) ∈ lw_all := lw_g (lw_at lw_m6 178 rfl) rfl
theorem q1450 : (Jvm.Cond.methodLink "BilevelPagesModel" (292 : Nat) ({ cls := "BilevelPagesModel", name := "letAllGo", desc := "(I)V" } : Jvm.MethodName)) ∈ lw_all := lw_g (lw_at lw_m6 179 rfl) rfl
theorem q1451 : (Jvm.Cond.privateMethod ({ cls := "BilevelPagesModel", name := "letAllGo", desc := "(I)V" } : Jvm.MethodName)) ∈ lw_tbl := lw_at lw_m6 180 rfl
theorem q1452 : (Jvm.Cond.instanceMethod ({ cls := "BilevelPagesModel", name := "letAllGo", desc := "(I)V" } : Jvm.MethodName)) ∈ lw_all := lw_g (lw_at lw_m6 181 rfl) rfl
theorem q1453 : (Jvm.Cond.code ({ cls := "BilevelPagesModel", name := "letAllGo", desc := "(I)V" } : Jvm.MethodName) prog_8_method_53_code (3 : Nat) (Option.none : Option Jvm.ClassFile.FieldType)) ∈ lw_all := lw_g (lw_at lw_m6 182 rfl) rfl
theorem q1454 : (Jvm.Cond.methodLink "BilevelPagesModel" (311 : Nat) ({ cls := "BilevelPagesModel", name := "readFile", desc := "()V" } : Jvm.MethodName)) ∈ lw_all := lw_g (lw_at lw_m6 183 rfl) rfl
theorem q1455 : (Jvm.Cond.privateMethod ({ cls := "BilevelPagesModel", name := "readFile", desc := "()V" } : Jvm.MethodName)) ∈ lw_tbl := lw_at lw_m6 184 rfl
theorem q1456 : (Jvm.Cond.instanceMethod ({ cls := "BilevelPagesModel", name := "readFile", desc := "()V" } : Jvm.MethodName)) ∈ lw_all := lw_g (lw_at lw_m6 185 rfl) rfl
theorem q1457 : (Jvm.Cond.code ({ cls := "BilevelPagesModel", name := "readFile", desc := "()V" } : Jvm.MethodName) prog_8_method_56_code (4 : Nat) (Option.none : Option Jvm.ClassFile.FieldType)) ∈ lw_all := lw_g (lw_at lw_m6 186 rfl) rfl
theorem q1459 : (Jvm.Cond.instanceMethod ({ cls := "BilevelPagesModel", name := "found", desc := "(II)I" } : Jvm.MethodName)) ∈ lw_all := lw_g (lw_at lw_m6 188 rfl) rfl
theorem q1460 : (Jvm.Cond.selects "BilevelPagesModel" ({ cls := "BilevelPagesModel", name := "found", desc := "(II)I" } : Jvm.MethodName) ({ cls := "BilevelPagesModel", name := "found", desc := "(II)I" } : Jvm.MethodName)) ∈ lw_all := lw_g (lw_at lw_m6 189 rfl) rfl
theorem q1461 : (Jvm.Cond.code ({ cls := "BilevelPagesModel", name := "found", desc := "(II)I" } : Jvm.MethodName) prog_8_method_58_code (3 : Nat) (Option.some Jvm.ClassFile.FieldType.int)) ∈ lw_all := lw_g (lw_at lw_m6 190 rfl) rfl
theorem q1463 : (Jvm.Cond.instanceMethod ({ cls := "BilevelPagesModel", name := "page", desc := "(II)I" } : Jvm.MethodName)) ∈ lw_all := lw_g (lw_at lw_m6 192 rfl) rfl
theorem q1464 : (Jvm.Cond.selects "BilevelPagesModel" ({ cls := "BilevelPagesModel", name := "page", desc := "(II)I" } : Jvm.MethodName) ({ cls := "BilevelPagesModel", name := "page", desc := "(II)I" } : Jvm.MethodName)) ∈ lw_all := lw_g (lw_at lw_m6 193 rfl) rfl
theorem q1465 : (Jvm.Cond.code ({ cls := "BilevelPagesModel", name := "page", desc := "(II)I" } : Jvm.MethodName) prog_8_method_61_code (3 : Nat) (Option.some Jvm.ClassFile.FieldType.int)) ∈ lw_all := lw_g (lw_at lw_m6 194 rfl) rfl
theorem q1466 : (Jvm.Cond.methodLink "BilevelPagesModel" (324 : Nat) ({ cls := "BilevelPagesModel", name := "mayPage", desc := "(IZ)Z" } : Jvm.MethodName)) ∈ lw_all := lw_g (lw_at lw_m6 195 rfl) rfl
theorem q1467 : (Jvm.Cond.privateMethod ({ cls := "BilevelPagesModel", name := "mayPage", desc := "(IZ)Z" } : Jvm.MethodName)) ∈ lw_tbl := lw_at lw_m6 196 rfl
theorem q1468 : (Jvm.Cond.instanceMethod ({ cls := "BilevelPagesModel", name := "mayPage", desc := "(IZ)Z" } : Jvm.MethodName)) ∈ lw_all := lw_g (lw_at lw_m6 197 rfl) rfl
theorem q1469 : (Jvm.Cond.code ({ cls := "BilevelPagesModel", name := "mayPage", desc := "(IZ)Z" } : Jvm.MethodName) prog_8_method_59_code (3 : Nat) (Option.some Jvm.ClassFile.FieldType.boolean)) ∈ lw_all := lw_g (lw_at lw_m6 198 rfl) rfl
theorem q1470 : (Jvm.Cond.methodLink "BilevelPagesModel" (328 : Nat) ({ cls := "BilevelPagesModel", name := "darkOf", desc := "(I)I" } : Jvm.MethodName)) ∈ lw_all := lw_g (lw_at lw_m6 199 rfl) rfl
theorem q1471 : (Jvm.Cond.privateMethod ({ cls := "BilevelPagesModel", name := "darkOf", desc := "(I)I" } : Jvm.MethodName)) ∈ lw_tbl := lw_at lw_m6 200 rfl
theorem q1472 : (Jvm.Cond.instanceMethod ({ cls := "BilevelPagesModel", name := "darkOf", desc := "(I)I" } : Jvm.MethodName)) ∈ lw_all := lw_g (lw_at lw_m6 201 rfl) rfl
theorem q1473 : (Jvm.Cond.code ({ cls := "BilevelPagesModel", name := "darkOf", desc := "(I)I" } : Jvm.MethodName) prog_8_method_60_code (4 : Nat) (Option.some Jvm.ClassFile.FieldType.int)) ∈ lw_all := lw_g (lw_at lw_m6 202 rfl) rfl
theorem q1475 : (Jvm.Cond.instanceMethod ({ cls := "BilevelPagesModel", name := "at", desc := "(III)Z" } : Jvm.MethodName)) ∈ lw_all := lw_g (lw_at lw_m6 204 rfl) rfl
theorem q1476 : (Jvm.Cond.selects "BilevelPagesModel" ({ cls := "BilevelPagesModel", name := "at", desc := "(III)Z" } : Jvm.MethodName) ({ cls := "BilevelPagesModel", name := "at", desc := "(III)Z" } : Jvm.MethodName)) ∈ lw_all := lw_g (lw_at lw_m6 205 rfl) rfl
theorem q1477 : (Jvm.Cond.code ({ cls := "BilevelPagesModel", name := "at", desc := "(III)Z" } : Jvm.MethodName) prog_8_method_62_code (4 : Nat) (Option.some Jvm.ClassFile.FieldType.boolean)) ∈ lw_all := lw_g (lw_at lw_m6 206 rfl) rfl
theorem q1479 : (Jvm.Cond.instanceMethod ({ cls := "BilevelPagesModel", name := "stripe", desc := "(II)I" } : Jvm.MethodName)) ∈ lw_all := lw_g (lw_at lw_m6 208 rfl) rfl
theorem q1480 : (Jvm.Cond.selects "BilevelPagesModel" ({ cls := "BilevelPagesModel", name := "stripe", desc := "(II)I" } : Jvm.MethodName) ({ cls := "BilevelPagesModel", name := "stripe", desc := "(II)I" } : Jvm.MethodName)) ∈ lw_all := lw_g (lw_at lw_m6 209 rfl) rfl
theorem q1481 : (Jvm.Cond.code ({ cls := "BilevelPagesModel", name := "stripe", desc := "(II)I" } : Jvm.MethodName) prog_8_method_63_code (3 : Nat) (Option.some Jvm.ClassFile.FieldType.int)) ∈ lw_all := lw_g (lw_at lw_m6 210 rfl) rfl
theorem q1483 : (Jvm.Cond.instanceMethod ({ cls := "BilevelPagesModel", name := "told", desc := "(I)I" } : Jvm.MethodName)) ∈ lw_all := lw_g (lw_at lw_m6 212 rfl) rfl
theorem q1484 : (Jvm.Cond.selects "BilevelPagesModel" ({ cls := "BilevelPagesModel", name := "told", desc := "(I)I" } : Jvm.MethodName) ({ cls := "BilevelPagesModel", name := "told", desc := "(I)I" } : Jvm.MethodName)) ∈ lw_all := lw_g (lw_at lw_m6 213 rfl) rfl
theorem q1485 : (Jvm.Cond.code ({ cls := "BilevelPagesModel", name := "told", desc := "(I)I" } : Jvm.MethodName) prog_8_method_64_code (4 : Nat) (Option.some Jvm.ClassFile.FieldType.int)) ∈ lw_all := lw_g (lw_at lw_m6 214 rfl) rfl
theorem q1487 : (Jvm.Cond.instanceMethod ({ cls := "BilevelPagesModel", name := "drop", desc := "()V" } : Jvm.MethodName)) ∈ lw_all := lw_g (lw_at lw_m6 216 rfl) rfl
theorem q1488 : (Jvm.Cond.selects "BilevelPagesModel" ({ cls := "BilevelPagesModel", name := "drop", desc := "()V" } : Jvm.MethodName) ({ cls := "BilevelPagesModel", name := "drop", desc := "()V" } : Jvm.MethodName)) ∈ lw_all := lw_g (lw_at lw_m6 217 rfl) rfl
theorem q1489 : (Jvm.Cond.code ({ cls := "BilevelPagesModel", name := "drop", desc := "()V" } : Jvm.MethodName) prog_8_method_65_code (1 : Nat) (Option.none : Option Jvm.ClassFile.FieldType)) ∈ lw_all := lw_g (lw_at lw_m6 218 rfl) rfl
theorem q1491 : (Jvm.Cond.instanceMethod ({ cls := "BilevelPagesModel", name := "clear", desc := "()V" } : Jvm.MethodName)) ∈ lw_all := lw_g (lw_at lw_m6 220 rfl) rfl
theorem q1492 : (Jvm.Cond.selects "BilevelPagesModel" ({ cls := "BilevelPagesModel", name := "clear", desc := "()V" } : Jvm.MethodName) ({ cls := "BilevelPagesModel", name := "clear", desc := "()V" } : Jvm.MethodName)) ∈ lw_all := lw_g (lw_at lw_m6 221 rfl) rfl
theorem q1493 : (Jvm.Cond.code ({ cls := "BilevelPagesModel", name := "clear", desc := "()V" } : Jvm.MethodName) prog_8_method_66_code (1 : Nat) (Option.none : Option Jvm.ClassFile.FieldType)) ∈ lw_all := lw_g (lw_at lw_m6 222 rfl) rfl
theorem q1503 : (Jvm.Cond.castable "BilevelPagesModel" "java/lang/Object") ∈ lw_tbl := lw_at lw_m6 232 rfl
theorem in_X6 : ∀ w ∈ wsX60, w ∈ lw_all := lw_in wsX60 [1130, 1132, 1134, 1136, 1138, 1140, 1142, 1144, 1146, 1148, 1150, 1152, 1154, 1156, 1158, 1160, 1162, 1164, 1166, 1168, 1170, 1172, 1174, 1176, 1178, 1180, 1182, 1184, 1186, 1188, 1190, 1192, 1194, 1196, 1198, 1200, 1202, 1204, 1206, 1208, 1210, 1212, 1214, 1216, 1218, 1220, 1222, 1224, 1226, 1228] (by decide +kernel) (by decide +kernel)
/-! the law's own entry -/
set_option maxRecDepth 100000
abbrev cL_law : ByteArray := code
def dkwL_law_54 : List UInt8 := [167, 0, 3, 132, 4, 5, 167, 251, 2, 4, 172]
abbrev dktL_law_54 : List UInt8 := dkwL_law_54 ++ []
def dkwL_law_53 : List UInt8 := [159, 0, 27, 3, 172, 43, 182, 0, 145, 44, 182, 0, 148, 167, 0, 14, 43, 182, 0, 149, 44, 182, 0, 152]
abbrev dktL_law_53 : List UInt8 := dkwL_law_53 ++ dktL_law_54
def dkwL_law_52 : List UInt8 := [167, 0, 50, 43, 42, 21, 4, 4, 96, 46, 182, 0, 141, 44, 42, 21, 4, 4, 96, 46, 182, 0, 144]
abbrev dktL_law_52 : List UInt8 := dkwL_law_52 ++ dktL_law_53
def dkwL_law_51 : List UInt8 := [159, 0, 5, 3, 172, 21, 5, 154, 0, 15, 45, 3, 47, 21, 6, 133, 148, 153, 0, 5, 3, 172]
abbrev dktL_law_51 : List UInt8 := dkwL_law_51 ++ dktL_law_52
def dkwL_law_50 : List UInt8 := [21, 4, 4, 96, 46, 42, 21, 4, 5, 96, 46, 182, 0, 140, 54, 6, 44, 182, 0, 86, 21, 5]
abbrev dktL_law_50 : List UInt8 := dkwL_law_50 ++ dktL_law_51
def dkwL_law_49 : List UInt8 := [167, 0, 118, 43, 42, 21, 4, 4, 96, 46, 42, 21, 4, 5, 96, 46, 45, 184, 0, 138, 54, 5, 44, 42]
abbrev dktL_law_49 : List UInt8 := dkwL_law_49 ++ dktL_law_50
def dkwL_law_48 : List UInt8 := [154, 0, 22, 45, 3, 47, 21, 6, 153, 0, 7, 10, 167, 0, 4, 9, 148, 153, 0, 5, 3, 172]
abbrev dktL_law_48 : List UInt8 := dkwL_law_48 ++ dktL_law_49
def dkwL_law_47 : List UInt8 := [42, 21, 4, 6, 96, 46, 182, 0, 137, 54, 6, 44, 182, 0, 86, 21, 5, 159, 0, 5, 3, 172, 21, 5]
abbrev dktL_law_47 : List UInt8 := dkwL_law_47 ++ dktL_law_48
def dkwL_law_46 : List UInt8 := [21, 4, 6, 96, 46, 45, 184, 0, 135, 54, 5, 44, 42, 21, 4, 4, 96, 46, 42, 21, 4, 5, 96, 46]
abbrev dktL_law_46 : List UInt8 := dkwL_law_46 ++ dktL_law_47
def dkwL_law_45 : List UInt8 := [148, 153, 0, 5, 3, 172, 167, 0, 205, 43, 42, 21, 4, 4, 96, 46, 42, 21, 4, 5, 96, 46, 42]
abbrev dktL_law_45 : List UInt8 := dkwL_law_45 ++ dktL_law_46
def dkwL_law_44 : List UInt8 := [54, 6, 44, 182, 0, 86, 21, 5, 159, 0, 5, 3, 172, 21, 5, 154, 0, 15, 45, 3, 47, 21, 6, 133]
abbrev dktL_law_44 : List UInt8 := dkwL_law_44 ++ dktL_law_45
def dkwL_law_43 : List UInt8 := [46, 45, 184, 0, 132, 54, 5, 44, 42, 21, 4, 4, 96, 46, 42, 21, 4, 5, 96, 46, 182, 0, 134]
abbrev dktL_law_43 : List UInt8 := dkwL_law_43 ++ dktL_law_44
def dkwL_law_42 : List UInt8 := [21, 6, 133, 148, 153, 0, 5, 3, 172, 167, 1, 17, 43, 42, 21, 4, 4, 96, 46, 42, 21, 4, 5, 96]
abbrev dktL_law_42 : List UInt8 := dkwL_law_42 ++ dktL_law_43
def dkwL_law_41 : List UInt8 := [182, 0, 131, 54, 6, 44, 182, 0, 86, 21, 5, 159, 0, 5, 3, 172, 21, 5, 154, 0, 15, 45, 3, 47]
abbrev dktL_law_41 : List UInt8 := dkwL_law_41 ++ dktL_law_42
def dkwL_law_40 : List UInt8 := [21, 4, 5, 96, 46, 45, 184, 0, 129, 54, 5, 44, 42, 21, 4, 4, 96, 46, 42, 21, 4, 5, 96, 46]
abbrev dktL_law_40 : List UInt8 := dkwL_law_40 ++ dktL_law_41
def dkwL_law_39 : List UInt8 := [167, 1, 98, 43, 182, 0, 125, 44, 182, 0, 128, 159, 1, 87, 3, 172, 43, 42, 21, 4, 4, 96, 46, 42]
abbrev dktL_law_39 : List UInt8 := dkwL_law_39 ++ dktL_law_40
def dkwL_law_38 : List UInt8 := [159, 0, 5, 3, 172, 21, 5, 154, 0, 15, 45, 3, 47, 21, 6, 133, 148, 153, 0, 5, 3, 172]
abbrev dktL_law_38 : List UInt8 := dkwL_law_38 ++ dktL_law_39
def dkwL_law_37 : List UInt8 := [21, 4, 4, 96, 46, 42, 21, 4, 5, 96, 46, 182, 0, 124, 54, 6, 44, 182, 0, 86, 21, 5]
abbrev dktL_law_37 : List UInt8 := dkwL_law_37 ++ dktL_law_38
def dkwL_law_36 : List UInt8 := [167, 1, 166, 43, 42, 21, 4, 4, 96, 46, 42, 21, 4, 5, 96, 46, 45, 184, 0, 122, 54, 5, 44, 42]
abbrev dktL_law_36 : List UInt8 := dkwL_law_36 ++ dktL_law_37
def dkwL_law_35 : List UInt8 := [21, 5, 159, 0, 5, 3, 172, 21, 5, 154, 0, 15, 45, 3, 47, 21, 6, 133, 148, 153, 0, 5, 3, 172]
abbrev dktL_law_35 : List UInt8 := dkwL_law_35 ++ dktL_law_36
def dkwL_law_34 : List UInt8 := [44, 42, 21, 4, 4, 96, 46, 153, 0, 7, 4, 167, 0, 4, 3, 182, 0, 121, 54, 6, 44, 182, 0, 86]
abbrev dktL_law_34 : List UInt8 := dkwL_law_34 ++ dktL_law_35
def dkwL_law_33 : List UInt8 := [167, 1, 238, 43, 42, 21, 4, 4, 96, 46, 153, 0, 7, 4, 167, 0, 4, 3, 45, 184, 0, 118, 54, 5]
abbrev dktL_law_33 : List UInt8 := dkwL_law_33 ++ dktL_law_34
def dkwL_law_32 : List UInt8 := [159, 0, 5, 3, 172, 21, 5, 154, 0, 15, 45, 3, 47, 21, 6, 133, 148, 153, 0, 5, 3, 172]
abbrev dktL_law_32 : List UInt8 := dkwL_law_32 ++ dktL_law_33
def dkwL_law_31 : List UInt8 := [21, 4, 5, 96, 46, 153, 0, 7, 4, 167, 0, 4, 3, 182, 0, 117, 54, 6, 44, 182, 0, 86, 21, 5]
abbrev dktL_law_31 : List UInt8 := dkwL_law_31 ++ dktL_law_32
def dkwL_law_30 : List UInt8 := [46, 153, 0, 7, 4, 167, 0, 4, 3, 45, 184, 0, 114, 54, 5, 44, 42, 21, 4, 4, 96, 46, 42]
abbrev dktL_law_30 : List UInt8 := dkwL_law_30 ++ dktL_law_31
def dkwL_law_29 : List UInt8 := [21, 6, 133, 148, 153, 0, 5, 3, 172, 167, 2, 66, 43, 42, 21, 4, 4, 96, 46, 42, 21, 4, 5, 96]
abbrev dktL_law_29 : List UInt8 := dkwL_law_29 ++ dktL_law_30
def dkwL_law_28 : List UInt8 := [182, 0, 113, 54, 6, 44, 182, 0, 86, 21, 5, 159, 0, 5, 3, 172, 21, 5, 154, 0, 15, 45, 3, 47]
abbrev dktL_law_28 : List UInt8 := dkwL_law_28 ++ dktL_law_29
def dkwL_law_27 : List UInt8 := [167, 2, 122, 43, 42, 21, 4, 4, 96, 46, 45, 184, 0, 111, 54, 5, 44, 42, 21, 4, 4, 96, 46]
abbrev dktL_law_27 : List UInt8 := dkwL_law_27 ++ dktL_law_28
def dkwL_law_26 : List UInt8 := [159, 0, 5, 3, 172, 21, 5, 154, 0, 15, 45, 3, 47, 21, 6, 133, 148, 153, 0, 5, 3, 172]
abbrev dktL_law_26 : List UInt8 := dkwL_law_26 ++ dktL_law_27
def dkwL_law_25 : List UInt8 := [184, 0, 107, 54, 5, 44, 42, 21, 4, 4, 96, 46, 182, 0, 110, 54, 6, 44, 182, 0, 86, 21, 5]
abbrev dktL_law_25 : List UInt8 := dkwL_law_25 ++ dktL_law_26
def dkwL_law_24 : List UInt8 := [10, 167, 0, 4, 9, 148, 153, 0, 5, 3, 172, 167, 2, 178, 43, 42, 21, 4, 4, 96, 46, 45]
abbrev dktL_law_24 : List UInt8 := dkwL_law_24 ++ dktL_law_25
def dkwL_law_23 : List UInt8 := [44, 182, 0, 86, 21, 5, 159, 0, 5, 3, 172, 21, 5, 154, 0, 22, 45, 3, 47, 21, 6, 153, 0, 7]
abbrev dktL_law_23 : List UInt8 := dkwL_law_23 ++ dktL_law_24
def dkwL_law_22 : List UInt8 := [21, 4, 6, 96, 46, 42, 21, 4, 7, 96, 46, 153, 0, 7, 4, 167, 0, 4, 3, 182, 0, 106, 54, 6]
abbrev dktL_law_22 : List UInt8 := dkwL_law_22 ++ dktL_law_23
def dkwL_law_21 : List UInt8 := [167, 0, 4, 3, 45, 184, 0, 103, 54, 5, 44, 42, 21, 4, 4, 96, 46, 42, 21, 4, 5, 96, 46, 42]
abbrev dktL_law_21 : List UInt8 := dkwL_law_21 ++ dktL_law_22
def dkwL_law_20 : List UInt8 := [46, 42, 21, 4, 5, 96, 46, 42, 21, 4, 6, 96, 46, 42, 21, 4, 7, 96, 46, 153, 0, 7, 4]
abbrev dktL_law_20 : List UInt8 := dkwL_law_20 ++ dktL_law_21
def dkwL_law_19 : List UInt8 := [154, 0, 15, 45, 3, 47, 21, 6, 133, 148, 153, 0, 5, 3, 172, 167, 3, 37, 43, 42, 21, 4, 4, 96]
abbrev dktL_law_19 : List UInt8 := dkwL_law_19 ++ dktL_law_20
def dkwL_law_18 : List UInt8 := [21, 4, 6, 96, 46, 182, 0, 102, 54, 6, 44, 182, 0, 86, 21, 5, 159, 0, 5, 3, 172, 21, 5]
abbrev dktL_law_18 : List UInt8 := dkwL_law_18 ++ dktL_law_19
def dkwL_law_17 : List UInt8 := [6, 96, 46, 45, 184, 0, 99, 54, 5, 44, 42, 21, 4, 4, 96, 46, 42, 21, 4, 5, 96, 46, 42]
abbrev dktL_law_17 : List UInt8 := dkwL_law_17 ++ dktL_law_18
def dkwL_law_16 : List UInt8 := [153, 0, 5, 3, 172, 167, 3, 117, 43, 42, 21, 4, 4, 96, 46, 42, 21, 4, 5, 96, 46, 42, 21, 4]
abbrev dktL_law_16 : List UInt8 := dkwL_law_16 ++ dktL_law_17
def dkwL_law_15 : List UInt8 := [182, 0, 86, 21, 5, 159, 0, 5, 3, 172, 21, 5, 154, 0, 15, 45, 3, 47, 21, 6, 133, 148]
abbrev dktL_law_15 : List UInt8 := dkwL_law_15 ++ dktL_law_16
def dkwL_law_14 : List UInt8 := [184, 0, 96, 54, 5, 44, 42, 21, 4, 4, 96, 46, 42, 21, 4, 5, 96, 46, 182, 0, 98, 54, 6, 44]
abbrev dktL_law_14 : List UInt8 := dkwL_law_14 ++ dktL_law_15
def dkwL_law_13 : List UInt8 := [153, 0, 5, 3, 172, 167, 3, 185, 43, 42, 21, 4, 4, 96, 46, 42, 21, 4, 5, 96, 46, 45]
abbrev dktL_law_13 : List UInt8 := dkwL_law_13 ++ dktL_law_14
def dkwL_law_12 : List UInt8 := [159, 0, 5, 3, 172, 21, 5, 154, 0, 22, 45, 3, 47, 21, 6, 153, 0, 7, 10, 167, 0, 4, 9, 148]
abbrev dktL_law_12 : List UInt8 := dkwL_law_12 ++ dktL_law_13
def dkwL_law_11 : List UInt8 := [21, 4, 4, 96, 46, 42, 21, 4, 5, 96, 46, 182, 0, 95, 54, 6, 44, 182, 0, 86, 21, 5]
abbrev dktL_law_11 : List UInt8 := dkwL_law_11 ++ dktL_law_12
def dkwL_law_10 : List UInt8 := [167, 4, 4, 43, 42, 21, 4, 4, 96, 46, 42, 21, 4, 5, 96, 46, 45, 184, 0, 93, 54, 5, 44, 42]
abbrev dktL_law_10 : List UInt8 := dkwL_law_10 ++ dktL_law_11
def dkwL_law_9 : List UInt8 := [154, 0, 22, 45, 3, 47, 21, 6, 153, 0, 7, 10, 167, 0, 4, 9, 148, 153, 0, 5, 3, 172]
abbrev dktL_law_9 : List UInt8 := dkwL_law_9 ++ dktL_law_10
def dkwL_law_8 : List UInt8 := [21, 4, 5, 96, 46, 182, 0, 92, 54, 6, 44, 182, 0, 86, 21, 5, 159, 0, 5, 3, 172, 21, 5]
abbrev dktL_law_8 : List UInt8 := dkwL_law_8 ++ dktL_law_9
def dkwL_law_7 : List UInt8 := [4, 96, 46, 42, 21, 4, 5, 96, 46, 45, 184, 0, 90, 54, 5, 44, 42, 21, 4, 4, 96, 46, 42]
abbrev dktL_law_7 : List UInt8 := dkwL_law_7 ++ dktL_law_8
def dkwL_law_6 : List UInt8 := [21, 5, 154, 0, 15, 45, 3, 47, 21, 6, 133, 148, 153, 0, 5, 3, 172, 167, 4, 79, 43, 42, 21, 4]
abbrev dktL_law_6 : List UInt8 := dkwL_law_6 ++ dktL_law_7
def dkwL_law_5 : List UInt8 := [96, 46, 42, 21, 4, 5, 96, 46, 182, 0, 85, 54, 6, 44, 182, 0, 86, 21, 5, 159, 0, 5, 3, 172]
abbrev dktL_law_5 : List UInt8 := dkwL_law_5 ++ dktL_law_6
def dkwL_law_4 : List UInt8 := [43, 42, 21, 4, 4, 96, 46, 42, 21, 4, 5, 96, 46, 45, 184, 0, 82, 54, 5, 44, 42, 21, 4, 4]
abbrev dktL_law_4 : List UInt8 := dkwL_law_4 ++ dktL_law_5
def dkwL_law_3 : List UInt8 := [170, 0, 0, 0, 0, 4, 235, 0, 0, 0, 0, 0, 0, 0, 18, 0, 0, 0, 91, 0, 0, 0, 159, 0, 0, 0, 234, 0, 0, 1, 53, 0, 0, 1, 121, 0, 0, 1, 201, 0, 0, 2, 60, 0, 0, 2, 116, 0, 0, 2, 172, 0, 0, 3, 0, 0, 0, 3, 72, 0, 0, 3, 140, 0, 0, 3, 153, 0, 0, 3, 221, 0, 0, 4, 33, 0, 0, 4, 120, 0, 0, 4, 188, 0, 0, 4, 213, 0, 0, 4, 224]
abbrev dktL_law_3 : List UInt8 := dkwL_law_3 ++ dktL_law_4
def dkwL_law_2 : List UInt8 := [16, 31, 126]
abbrev dktL_law_2 : List UInt8 := dkwL_law_2 ++ dktL_law_3
def dkwL_law_1 : List UInt8 := [183, 0, 81, 77, 4, 188, 11, 78, 4, 54, 4, 21, 4, 42, 190, 8, 100, 163, 4, 251, 42, 21, 4, 46]
abbrev dktL_law_1 : List UInt8 := dkwL_law_1 ++ dktL_law_2
def dkwL_law_0 : List UInt8 := [187, 0, 8, 89, 42, 3, 184, 0, 70, 183, 0, 76, 76, 187, 0, 79, 89, 42, 3, 184, 0, 70]
abbrev dktL_law_0 : List UInt8 := dkwL_law_0 ++ dktL_law_1
theorem dksL_law_0 : cL_law.data.toList.drop 0 = dktL_law_0 := by decide +kernel
theorem dksL_law_1 : cL_law.data.toList.drop 22 = dktL_law_1 := dk_seg dksL_law_0 22 rfl rfl
theorem dksL_law_2 : cL_law.data.toList.drop 46 = dktL_law_2 := dk_seg dksL_law_1 24 rfl rfl
theorem dksL_law_3 : cL_law.data.toList.drop 49 = dktL_law_3 := dk_seg dksL_law_2 3 rfl rfl
theorem dksL_law_4 : cL_law.data.toList.drop 140 = dktL_law_4 := dk_seg dksL_law_3 91 rfl rfl
theorem dksL_law_5 : cL_law.data.toList.drop 164 = dktL_law_5 := dk_seg dksL_law_4 24 rfl rfl
theorem dksL_law_6 : cL_law.data.toList.drop 188 = dktL_law_6 := dk_seg dksL_law_5 24 rfl rfl
theorem dksL_law_7 : cL_law.data.toList.drop 212 = dktL_law_7 := dk_seg dksL_law_6 24 rfl rfl
theorem dksL_law_8 : cL_law.data.toList.drop 235 = dktL_law_8 := dk_seg dksL_law_7 23 rfl rfl
theorem dksL_law_9 : cL_law.data.toList.drop 258 = dktL_law_9 := dk_seg dksL_law_8 23 rfl rfl
theorem dksL_law_10 : cL_law.data.toList.drop 280 = dktL_law_10 := dk_seg dksL_law_9 22 rfl rfl
theorem dksL_law_11 : cL_law.data.toList.drop 304 = dktL_law_11 := dk_seg dksL_law_10 24 rfl rfl
theorem dksL_law_12 : cL_law.data.toList.drop 326 = dktL_law_12 := dk_seg dksL_law_11 22 rfl rfl
theorem dksL_law_13 : cL_law.data.toList.drop 350 = dktL_law_13 := dk_seg dksL_law_12 24 rfl rfl
theorem dksL_law_14 : cL_law.data.toList.drop 372 = dktL_law_14 := dk_seg dksL_law_13 22 rfl rfl
theorem dksL_law_15 : cL_law.data.toList.drop 396 = dktL_law_15 := dk_seg dksL_law_14 24 rfl rfl
theorem dksL_law_16 : cL_law.data.toList.drop 418 = dktL_law_16 := dk_seg dksL_law_15 22 rfl rfl
theorem dksL_law_17 : cL_law.data.toList.drop 442 = dktL_law_17 := dk_seg dksL_law_16 24 rfl rfl
theorem dksL_law_18 : cL_law.data.toList.drop 465 = dktL_law_18 := dk_seg dksL_law_17 23 rfl rfl
theorem dksL_law_19 : cL_law.data.toList.drop 488 = dktL_law_19 := dk_seg dksL_law_18 23 rfl rfl
theorem dksL_law_20 : cL_law.data.toList.drop 512 = dktL_law_20 := dk_seg dksL_law_19 24 rfl rfl
theorem dksL_law_21 : cL_law.data.toList.drop 535 = dktL_law_21 := dk_seg dksL_law_20 23 rfl rfl
theorem dksL_law_22 : cL_law.data.toList.drop 559 = dktL_law_22 := dk_seg dksL_law_21 24 rfl rfl
theorem dksL_law_23 : cL_law.data.toList.drop 583 = dktL_law_23 := dk_seg dksL_law_22 24 rfl rfl
theorem dksL_law_24 : cL_law.data.toList.drop 607 = dktL_law_24 := dk_seg dksL_law_23 24 rfl rfl
theorem dksL_law_25 : cL_law.data.toList.drop 629 = dktL_law_25 := dk_seg dksL_law_24 22 rfl rfl
theorem dksL_law_26 : cL_law.data.toList.drop 652 = dktL_law_26 := dk_seg dksL_law_25 23 rfl rfl
theorem dksL_law_27 : cL_law.data.toList.drop 674 = dktL_law_27 := dk_seg dksL_law_26 22 rfl rfl
theorem dksL_law_28 : cL_law.data.toList.drop 697 = dktL_law_28 := dk_seg dksL_law_27 23 rfl rfl
theorem dksL_law_29 : cL_law.data.toList.drop 721 = dktL_law_29 := dk_seg dksL_law_28 24 rfl rfl
theorem dksL_law_30 : cL_law.data.toList.drop 745 = dktL_law_30 := dk_seg dksL_law_29 24 rfl rfl
theorem dksL_law_31 : cL_law.data.toList.drop 768 = dktL_law_31 := dk_seg dksL_law_30 23 rfl rfl
theorem dksL_law_32 : cL_law.data.toList.drop 792 = dktL_law_32 := dk_seg dksL_law_31 24 rfl rfl
theorem dksL_law_33 : cL_law.data.toList.drop 814 = dktL_law_33 := dk_seg dksL_law_32 22 rfl rfl
theorem dksL_law_34 : cL_law.data.toList.drop 838 = dktL_law_34 := dk_seg dksL_law_33 24 rfl rfl
theorem dksL_law_35 : cL_law.data.toList.drop 862 = dktL_law_35 := dk_seg dksL_law_34 24 rfl rfl
theorem dksL_law_36 : cL_law.data.toList.drop 886 = dktL_law_36 := dk_seg dksL_law_35 24 rfl rfl
theorem dksL_law_37 : cL_law.data.toList.drop 910 = dktL_law_37 := dk_seg dksL_law_36 24 rfl rfl
theorem dksL_law_38 : cL_law.data.toList.drop 932 = dktL_law_38 := dk_seg dksL_law_37 22 rfl rfl
theorem dksL_law_39 : cL_law.data.toList.drop 954 = dktL_law_39 := dk_seg dksL_law_38 22 rfl rfl
theorem dksL_law_40 : cL_law.data.toList.drop 978 = dktL_law_40 := dk_seg dksL_law_39 24 rfl rfl
theorem dksL_law_41 : cL_law.data.toList.drop 1002 = dktL_law_41 := dk_seg dksL_law_40 24 rfl rfl
theorem dksL_law_42 : cL_law.data.toList.drop 1026 = dktL_law_42 := dk_seg dksL_law_41 24 rfl rfl
theorem dksL_law_43 : cL_law.data.toList.drop 1050 = dktL_law_43 := dk_seg dksL_law_42 24 rfl rfl
theorem dksL_law_44 : cL_law.data.toList.drop 1073 = dktL_law_44 := dk_seg dksL_law_43 23 rfl rfl
theorem dksL_law_45 : cL_law.data.toList.drop 1097 = dktL_law_45 := dk_seg dksL_law_44 24 rfl rfl
theorem dksL_law_46 : cL_law.data.toList.drop 1120 = dktL_law_46 := dk_seg dksL_law_45 23 rfl rfl
theorem dksL_law_47 : cL_law.data.toList.drop 1144 = dktL_law_47 := dk_seg dksL_law_46 24 rfl rfl
theorem dksL_law_48 : cL_law.data.toList.drop 1168 = dktL_law_48 := dk_seg dksL_law_47 24 rfl rfl
theorem dksL_law_49 : cL_law.data.toList.drop 1190 = dktL_law_49 := dk_seg dksL_law_48 22 rfl rfl
theorem dksL_law_50 : cL_law.data.toList.drop 1214 = dktL_law_50 := dk_seg dksL_law_49 24 rfl rfl
theorem dksL_law_51 : cL_law.data.toList.drop 1236 = dktL_law_51 := dk_seg dksL_law_50 22 rfl rfl
theorem dksL_law_52 : cL_law.data.toList.drop 1258 = dktL_law_52 := dk_seg dksL_law_51 22 rfl rfl
theorem dksL_law_53 : cL_law.data.toList.drop 1281 = dktL_law_53 := dk_seg dksL_law_52 23 rfl rfl
theorem dksL_law_54 : cL_law.data.toList.drop 1305 = dktL_law_54 := dk_seg dksL_law_53 24 rfl rfl
theorem dL_law_0 : decode cL_law 0 = .ok (.new 8, 3) := dk_187 0 8 (dk_at dksL_law_0 0 rfl rfl)
theorem dL_law_3 : decode cL_law 3 = .ok (.dup, 1) := dk_89 (dk_at dksL_law_0 3 rfl rfl)
theorem dL_law_4 : decode cL_law 4 = .ok (.aload_n 0, 1) := dk_42 (dk_at dksL_law_0 4 rfl rfl)
theorem dL_law_5 : decode cL_law 5 = .ok (.iconst 0, 1) := dk_3 (dk_at dksL_law_0 5 rfl rfl)
theorem dL_law_6 : decode cL_law 6 = .ok (.invokestatic 70, 3) := dk_184 0 70 (dk_at dksL_law_0 6 rfl rfl)
theorem dL_law_9 : decode cL_law 9 = .ok (.invokespecial 76, 3) := dk_183 0 76 (dk_at dksL_law_0 9 rfl rfl)
theorem dL_law_12 : decode cL_law 12 = .ok (.astore_n 1, 1) := dk_76 (dk_at dksL_law_0 12 rfl rfl)
theorem dL_law_13 : decode cL_law 13 = .ok (.new 79, 3) := dk_187 0 79 (dk_at dksL_law_0 13 rfl rfl)
theorem dL_law_16 : decode cL_law 16 = .ok (.dup, 1) := dk_89 (dk_at dksL_law_0 16 rfl rfl)
theorem dL_law_17 : decode cL_law 17 = .ok (.aload_n 0, 1) := dk_42 (dk_at dksL_law_0 17 rfl rfl)
theorem dL_law_18 : decode cL_law 18 = .ok (.iconst 0, 1) := dk_3 (dk_at dksL_law_0 18 rfl rfl)
theorem dL_law_19 : decode cL_law 19 = .ok (.invokestatic 70, 3) := dk_184 0 70 (dk_at dksL_law_0 19 rfl rfl)
theorem dL_law_22 : decode cL_law 22 = .ok (.invokespecial 81, 3) := dk_183 0 81 (dk_at dksL_law_1 0 rfl rfl)
theorem dL_law_25 : decode cL_law 25 = .ok (.astore_n 2, 1) := dk_77 (dk_at dksL_law_1 3 rfl rfl)
theorem dL_law_26 : decode cL_law 26 = .ok (.iconst 1, 1) := dk_4 (dk_at dksL_law_1 4 rfl rfl)
theorem dL_law_27 : decode cL_law 27 = .ok (.newarray .long, 2) := dk_188_11 (dk_at dksL_law_1 5 rfl rfl)
theorem dL_law_29 : decode cL_law 29 = .ok (.astore_n 3, 1) := dk_78 (dk_at dksL_law_1 7 rfl rfl)
theorem dL_law_30 : decode cL_law 30 = .ok (.iconst 1, 1) := dk_4 (dk_at dksL_law_1 8 rfl rfl)
theorem dL_law_31 : decode cL_law 31 = .ok (.istore 4, 2) := dk_54 4 (dk_at dksL_law_1 9 rfl rfl)
theorem dL_law_33 : decode cL_law 33 = .ok (.iload 4, 2) := dk_21 4 (dk_at dksL_law_1 11 rfl rfl)
theorem dL_law_35 : decode cL_law 35 = .ok (.aload_n 0, 1) := dk_42 (dk_at dksL_law_1 13 rfl rfl)
theorem dL_law_36 : decode cL_law 36 = .ok (.arraylength, 1) := dk_190 (dk_at dksL_law_1 14 rfl rfl)
theorem dL_law_37 : decode cL_law 37 = .ok (.iconst 5, 1) := dk_8 (dk_at dksL_law_1 15 rfl rfl)
theorem dL_law_38 : decode cL_law 38 = .ok (.isub, 1) := dk_100 (dk_at dksL_law_1 16 rfl rfl)
theorem dL_law_39 : decode cL_law 39 = .ok (.if_icmp .gt 1275, 3) := dk_163 4 251 (dk_at dksL_law_1 17 rfl rfl)
theorem dL_law_42 : decode cL_law 42 = .ok (.aload_n 0, 1) := dk_42 (dk_at dksL_law_1 20 rfl rfl)
theorem dL_law_43 : decode cL_law 43 = .ok (.iload 4, 2) := dk_21 4 (dk_at dksL_law_1 21 rfl rfl)
theorem dL_law_45 : decode cL_law 45 = .ok (.iaload, 1) := dk_46 (dk_at dksL_law_1 23 rfl rfl)
theorem dL_law_46 : decode cL_law 46 = .ok (.bipush 31, 2) := dk_16 31 (dk_at dksL_law_2 0 rfl rfl)
theorem dL_law_48 : decode cL_law 48 = .ok (.iand, 1) := dk_126 (dk_at dksL_law_2 2 rfl rfl)
theorem dL_law_49 : decode cL_law 49 = .ok (.tableswitch 1259 0 18 #[91, 159, 234, 309, 377, 457, 572, 628, 684, 768, 840, 908, 921, 989, 1057, 1144, 1212, 1237, 1248], 91) := by decide +kernel
theorem dL_law_140 : decode cL_law 140 = .ok (.aload_n 1, 1) := dk_43 (dk_at dksL_law_4 0 rfl rfl)
theorem dL_law_141 : decode cL_law 141 = .ok (.aload_n 0, 1) := dk_42 (dk_at dksL_law_4 1 rfl rfl)
theorem dL_law_142 : decode cL_law 142 = .ok (.iload 4, 2) := dk_21 4 (dk_at dksL_law_4 2 rfl rfl)
theorem dL_law_144 : decode cL_law 144 = .ok (.iconst 1, 1) := dk_4 (dk_at dksL_law_4 4 rfl rfl)
theorem dL_law_145 : decode cL_law 145 = .ok (.iadd, 1) := dk_96 (dk_at dksL_law_4 5 rfl rfl)
theorem dL_law_146 : decode cL_law 146 = .ok (.iaload, 1) := dk_46 (dk_at dksL_law_4 6 rfl rfl)
theorem dL_law_147 : decode cL_law 147 = .ok (.aload_n 0, 1) := dk_42 (dk_at dksL_law_4 7 rfl rfl)
theorem dL_law_148 : decode cL_law 148 = .ok (.iload 4, 2) := dk_21 4 (dk_at dksL_law_4 8 rfl rfl)
theorem dL_law_150 : decode cL_law 150 = .ok (.iconst 2, 1) := dk_5 (dk_at dksL_law_4 10 rfl rfl)
theorem dL_law_151 : decode cL_law 151 = .ok (.iadd, 1) := dk_96 (dk_at dksL_law_4 11 rfl rfl)
theorem dL_law_152 : decode cL_law 152 = .ok (.iaload, 1) := dk_46 (dk_at dksL_law_4 12 rfl rfl)
theorem dL_law_153 : decode cL_law 153 = .ok (.aload_n 3, 1) := dk_45 (dk_at dksL_law_4 13 rfl rfl)
theorem dL_law_154 : decode cL_law 154 = .ok (.invokestatic 82, 3) := dk_184 0 82 (dk_at dksL_law_4 14 rfl rfl)
theorem dL_law_157 : decode cL_law 157 = .ok (.istore 5, 2) := dk_54 5 (dk_at dksL_law_4 17 rfl rfl)
theorem dL_law_159 : decode cL_law 159 = .ok (.aload_n 2, 1) := dk_44 (dk_at dksL_law_4 19 rfl rfl)
theorem dL_law_160 : decode cL_law 160 = .ok (.aload_n 0, 1) := dk_42 (dk_at dksL_law_4 20 rfl rfl)
theorem dL_law_161 : decode cL_law 161 = .ok (.iload 4, 2) := dk_21 4 (dk_at dksL_law_4 21 rfl rfl)
theorem dL_law_163 : decode cL_law 163 = .ok (.iconst 1, 1) := dk_4 (dk_at dksL_law_4 23 rfl rfl)
theorem dL_law_164 : decode cL_law 164 = .ok (.iadd, 1) := dk_96 (dk_at dksL_law_5 0 rfl rfl)
theorem dL_law_165 : decode cL_law 165 = .ok (.iaload, 1) := dk_46 (dk_at dksL_law_5 1 rfl rfl)
theorem dL_law_166 : decode cL_law 166 = .ok (.aload_n 0, 1) := dk_42 (dk_at dksL_law_5 2 rfl rfl)
theorem dL_law_167 : decode cL_law 167 = .ok (.iload 4, 2) := dk_21 4 (dk_at dksL_law_5 3 rfl rfl)
theorem dL_law_169 : decode cL_law 169 = .ok (.iconst 2, 1) := dk_5 (dk_at dksL_law_5 5 rfl rfl)
theorem dL_law_170 : decode cL_law 170 = .ok (.iadd, 1) := dk_96 (dk_at dksL_law_5 6 rfl rfl)
theorem dL_law_171 : decode cL_law 171 = .ok (.iaload, 1) := dk_46 (dk_at dksL_law_5 7 rfl rfl)
theorem dL_law_172 : decode cL_law 172 = .ok (.invokevirtual 85, 3) := dk_182 0 85 (dk_at dksL_law_5 8 rfl rfl)
theorem dL_law_175 : decode cL_law 175 = .ok (.istore 6, 2) := dk_54 6 (dk_at dksL_law_5 11 rfl rfl)
theorem dL_law_177 : decode cL_law 177 = .ok (.aload_n 2, 1) := dk_44 (dk_at dksL_law_5 13 rfl rfl)
theorem dL_law_178 : decode cL_law 178 = .ok (.invokevirtual 86, 3) := dk_182 0 86 (dk_at dksL_law_5 14 rfl rfl)
theorem dL_law_181 : decode cL_law 181 = .ok (.iload 5, 2) := dk_21 5 (dk_at dksL_law_5 17 rfl rfl)
theorem dL_law_183 : decode cL_law 183 = .ok (.if_icmp .eq 5, 3) := dk_159 0 5 (dk_at dksL_law_5 19 rfl rfl)
theorem dL_law_186 : decode cL_law 186 = .ok (.iconst 0, 1) := dk_3 (dk_at dksL_law_5 22 rfl rfl)
theorem dL_law_187 : decode cL_law 187 = .ok (.ireturn, 1) := dk_172 (dk_at dksL_law_5 23 rfl rfl)
theorem dL_law_188 : decode cL_law 188 = .ok (.iload 5, 2) := dk_21 5 (dk_at dksL_law_6 0 rfl rfl)
theorem dL_law_190 : decode cL_law 190 = .ok (.ifCond .ne 15, 3) := dk_154 0 15 (dk_at dksL_law_6 2 rfl rfl)
theorem dL_law_193 : decode cL_law 193 = .ok (.aload_n 3, 1) := dk_45 (dk_at dksL_law_6 5 rfl rfl)
theorem dL_law_194 : decode cL_law 194 = .ok (.iconst 0, 1) := dk_3 (dk_at dksL_law_6 6 rfl rfl)
theorem dL_law_195 : decode cL_law 195 = .ok (.laload, 1) := dk_47 (dk_at dksL_law_6 7 rfl rfl)
theorem dL_law_196 : decode cL_law 196 = .ok (.iload 6, 2) := dk_21 6 (dk_at dksL_law_6 8 rfl rfl)
theorem dL_law_198 : decode cL_law 198 = .ok (.i2l, 1) := dk_133 (dk_at dksL_law_6 10 rfl rfl)
theorem dL_law_199 : decode cL_law 199 = .ok (.lcmp, 1) := dk_148 (dk_at dksL_law_6 11 rfl rfl)
theorem dL_law_200 : decode cL_law 200 = .ok (.ifCond .eq 5, 3) := dk_153 0 5 (dk_at dksL_law_6 12 rfl rfl)
theorem dL_law_203 : decode cL_law 203 = .ok (.iconst 0, 1) := dk_3 (dk_at dksL_law_6 15 rfl rfl)
theorem dL_law_204 : decode cL_law 204 = .ok (.ireturn, 1) := dk_172 (dk_at dksL_law_6 16 rfl rfl)
theorem dL_law_205 : decode cL_law 205 = .ok (.goto 1103, 3) := dk_167 4 79 (dk_at dksL_law_6 17 rfl rfl)
theorem dL_law_208 : decode cL_law 208 = .ok (.aload_n 1, 1) := dk_43 (dk_at dksL_law_6 20 rfl rfl)
theorem dL_law_209 : decode cL_law 209 = .ok (.aload_n 0, 1) := dk_42 (dk_at dksL_law_6 21 rfl rfl)
theorem dL_law_210 : decode cL_law 210 = .ok (.iload 4, 2) := dk_21 4 (dk_at dksL_law_6 22 rfl rfl)
theorem dL_law_212 : decode cL_law 212 = .ok (.iconst 1, 1) := dk_4 (dk_at dksL_law_7 0 rfl rfl)
theorem dL_law_213 : decode cL_law 213 = .ok (.iadd, 1) := dk_96 (dk_at dksL_law_7 1 rfl rfl)
theorem dL_law_214 : decode cL_law 214 = .ok (.iaload, 1) := dk_46 (dk_at dksL_law_7 2 rfl rfl)
theorem dL_law_215 : decode cL_law 215 = .ok (.aload_n 0, 1) := dk_42 (dk_at dksL_law_7 3 rfl rfl)
theorem dL_law_216 : decode cL_law 216 = .ok (.iload 4, 2) := dk_21 4 (dk_at dksL_law_7 4 rfl rfl)
theorem dL_law_218 : decode cL_law 218 = .ok (.iconst 2, 1) := dk_5 (dk_at dksL_law_7 6 rfl rfl)
theorem dL_law_219 : decode cL_law 219 = .ok (.iadd, 1) := dk_96 (dk_at dksL_law_7 7 rfl rfl)
theorem dL_law_220 : decode cL_law 220 = .ok (.iaload, 1) := dk_46 (dk_at dksL_law_7 8 rfl rfl)
theorem dL_law_221 : decode cL_law 221 = .ok (.aload_n 3, 1) := dk_45 (dk_at dksL_law_7 9 rfl rfl)
theorem dL_law_222 : decode cL_law 222 = .ok (.invokestatic 90, 3) := dk_184 0 90 (dk_at dksL_law_7 10 rfl rfl)
theorem dL_law_225 : decode cL_law 225 = .ok (.istore 5, 2) := dk_54 5 (dk_at dksL_law_7 13 rfl rfl)
theorem dL_law_227 : decode cL_law 227 = .ok (.aload_n 2, 1) := dk_44 (dk_at dksL_law_7 15 rfl rfl)
theorem dL_law_228 : decode cL_law 228 = .ok (.aload_n 0, 1) := dk_42 (dk_at dksL_law_7 16 rfl rfl)
theorem dL_law_229 : decode cL_law 229 = .ok (.iload 4, 2) := dk_21 4 (dk_at dksL_law_7 17 rfl rfl)
theorem dL_law_231 : decode cL_law 231 = .ok (.iconst 1, 1) := dk_4 (dk_at dksL_law_7 19 rfl rfl)
theorem dL_law_232 : decode cL_law 232 = .ok (.iadd, 1) := dk_96 (dk_at dksL_law_7 20 rfl rfl)
theorem dL_law_233 : decode cL_law 233 = .ok (.iaload, 1) := dk_46 (dk_at dksL_law_7 21 rfl rfl)
theorem dL_law_234 : decode cL_law 234 = .ok (.aload_n 0, 1) := dk_42 (dk_at dksL_law_7 22 rfl rfl)
theorem dL_law_235 : decode cL_law 235 = .ok (.iload 4, 2) := dk_21 4 (dk_at dksL_law_8 0 rfl rfl)
theorem dL_law_237 : decode cL_law 237 = .ok (.iconst 2, 1) := dk_5 (dk_at dksL_law_8 2 rfl rfl)
theorem dL_law_238 : decode cL_law 238 = .ok (.iadd, 1) := dk_96 (dk_at dksL_law_8 3 rfl rfl)
theorem dL_law_239 : decode cL_law 239 = .ok (.iaload, 1) := dk_46 (dk_at dksL_law_8 4 rfl rfl)
theorem dL_law_240 : decode cL_law 240 = .ok (.invokevirtual 92, 3) := dk_182 0 92 (dk_at dksL_law_8 5 rfl rfl)
theorem dL_law_243 : decode cL_law 243 = .ok (.istore 6, 2) := dk_54 6 (dk_at dksL_law_8 8 rfl rfl)
theorem dL_law_245 : decode cL_law 245 = .ok (.aload_n 2, 1) := dk_44 (dk_at dksL_law_8 10 rfl rfl)
theorem dL_law_246 : decode cL_law 246 = .ok (.invokevirtual 86, 3) := dk_182 0 86 (dk_at dksL_law_8 11 rfl rfl)
theorem dL_law_249 : decode cL_law 249 = .ok (.iload 5, 2) := dk_21 5 (dk_at dksL_law_8 14 rfl rfl)
theorem dL_law_251 : decode cL_law 251 = .ok (.if_icmp .eq 5, 3) := dk_159 0 5 (dk_at dksL_law_8 16 rfl rfl)
theorem dL_law_254 : decode cL_law 254 = .ok (.iconst 0, 1) := dk_3 (dk_at dksL_law_8 19 rfl rfl)
theorem dL_law_255 : decode cL_law 255 = .ok (.ireturn, 1) := dk_172 (dk_at dksL_law_8 20 rfl rfl)
theorem dL_law_256 : decode cL_law 256 = .ok (.iload 5, 2) := dk_21 5 (dk_at dksL_law_8 21 rfl rfl)
theorem dL_law_258 : decode cL_law 258 = .ok (.ifCond .ne 22, 3) := dk_154 0 22 (dk_at dksL_law_9 0 rfl rfl)
theorem dL_law_261 : decode cL_law 261 = .ok (.aload_n 3, 1) := dk_45 (dk_at dksL_law_9 3 rfl rfl)
theorem dL_law_262 : decode cL_law 262 = .ok (.iconst 0, 1) := dk_3 (dk_at dksL_law_9 4 rfl rfl)
theorem dL_law_263 : decode cL_law 263 = .ok (.laload, 1) := dk_47 (dk_at dksL_law_9 5 rfl rfl)
theorem dL_law_264 : decode cL_law 264 = .ok (.iload 6, 2) := dk_21 6 (dk_at dksL_law_9 6 rfl rfl)
theorem dL_law_266 : decode cL_law 266 = .ok (.ifCond .eq 7, 3) := dk_153 0 7 (dk_at dksL_law_9 8 rfl rfl)
theorem dL_law_269 : decode cL_law 269 = .ok (.lconst 1, 1) := dk_10 (dk_at dksL_law_9 11 rfl rfl)
theorem dL_law_270 : decode cL_law 270 = .ok (.goto 4, 3) := dk_167 0 4 (dk_at dksL_law_9 12 rfl rfl)
theorem dL_law_273 : decode cL_law 273 = .ok (.lconst 0, 1) := dk_9 (dk_at dksL_law_9 15 rfl rfl)
theorem dL_law_274 : decode cL_law 274 = .ok (.lcmp, 1) := dk_148 (dk_at dksL_law_9 16 rfl rfl)
theorem dL_law_275 : decode cL_law 275 = .ok (.ifCond .eq 5, 3) := dk_153 0 5 (dk_at dksL_law_9 17 rfl rfl)
theorem dL_law_278 : decode cL_law 278 = .ok (.iconst 0, 1) := dk_3 (dk_at dksL_law_9 20 rfl rfl)
theorem dL_law_279 : decode cL_law 279 = .ok (.ireturn, 1) := dk_172 (dk_at dksL_law_9 21 rfl rfl)
theorem dL_law_280 : decode cL_law 280 = .ok (.goto 1028, 3) := dk_167 4 4 (dk_at dksL_law_10 0 rfl rfl)
theorem dL_law_283 : decode cL_law 283 = .ok (.aload_n 1, 1) := dk_43 (dk_at dksL_law_10 3 rfl rfl)
theorem dL_law_284 : decode cL_law 284 = .ok (.aload_n 0, 1) := dk_42 (dk_at dksL_law_10 4 rfl rfl)
theorem dL_law_285 : decode cL_law 285 = .ok (.iload 4, 2) := dk_21 4 (dk_at dksL_law_10 5 rfl rfl)
theorem dL_law_287 : decode cL_law 287 = .ok (.iconst 1, 1) := dk_4 (dk_at dksL_law_10 7 rfl rfl)
theorem dL_law_288 : decode cL_law 288 = .ok (.iadd, 1) := dk_96 (dk_at dksL_law_10 8 rfl rfl)
theorem dL_law_289 : decode cL_law 289 = .ok (.iaload, 1) := dk_46 (dk_at dksL_law_10 9 rfl rfl)
theorem dL_law_290 : decode cL_law 290 = .ok (.aload_n 0, 1) := dk_42 (dk_at dksL_law_10 10 rfl rfl)
theorem dL_law_291 : decode cL_law 291 = .ok (.iload 4, 2) := dk_21 4 (dk_at dksL_law_10 11 rfl rfl)
theorem dL_law_293 : decode cL_law 293 = .ok (.iconst 2, 1) := dk_5 (dk_at dksL_law_10 13 rfl rfl)
theorem dL_law_294 : decode cL_law 294 = .ok (.iadd, 1) := dk_96 (dk_at dksL_law_10 14 rfl rfl)
theorem dL_law_295 : decode cL_law 295 = .ok (.iaload, 1) := dk_46 (dk_at dksL_law_10 15 rfl rfl)
theorem dL_law_296 : decode cL_law 296 = .ok (.aload_n 3, 1) := dk_45 (dk_at dksL_law_10 16 rfl rfl)
theorem dL_law_297 : decode cL_law 297 = .ok (.invokestatic 93, 3) := dk_184 0 93 (dk_at dksL_law_10 17 rfl rfl)
theorem dL_law_300 : decode cL_law 300 = .ok (.istore 5, 2) := dk_54 5 (dk_at dksL_law_10 20 rfl rfl)
theorem dL_law_302 : decode cL_law 302 = .ok (.aload_n 2, 1) := dk_44 (dk_at dksL_law_10 22 rfl rfl)
theorem dL_law_303 : decode cL_law 303 = .ok (.aload_n 0, 1) := dk_42 (dk_at dksL_law_10 23 rfl rfl)
theorem dL_law_304 : decode cL_law 304 = .ok (.iload 4, 2) := dk_21 4 (dk_at dksL_law_11 0 rfl rfl)
theorem dL_law_306 : decode cL_law 306 = .ok (.iconst 1, 1) := dk_4 (dk_at dksL_law_11 2 rfl rfl)
theorem dL_law_307 : decode cL_law 307 = .ok (.iadd, 1) := dk_96 (dk_at dksL_law_11 3 rfl rfl)
theorem dL_law_308 : decode cL_law 308 = .ok (.iaload, 1) := dk_46 (dk_at dksL_law_11 4 rfl rfl)
theorem dL_law_309 : decode cL_law 309 = .ok (.aload_n 0, 1) := dk_42 (dk_at dksL_law_11 5 rfl rfl)
theorem dL_law_310 : decode cL_law 310 = .ok (.iload 4, 2) := dk_21 4 (dk_at dksL_law_11 6 rfl rfl)
theorem dL_law_312 : decode cL_law 312 = .ok (.iconst 2, 1) := dk_5 (dk_at dksL_law_11 8 rfl rfl)
theorem dL_law_313 : decode cL_law 313 = .ok (.iadd, 1) := dk_96 (dk_at dksL_law_11 9 rfl rfl)
theorem dL_law_314 : decode cL_law 314 = .ok (.iaload, 1) := dk_46 (dk_at dksL_law_11 10 rfl rfl)
theorem dL_law_315 : decode cL_law 315 = .ok (.invokevirtual 95, 3) := dk_182 0 95 (dk_at dksL_law_11 11 rfl rfl)
theorem dL_law_318 : decode cL_law 318 = .ok (.istore 6, 2) := dk_54 6 (dk_at dksL_law_11 14 rfl rfl)
theorem dL_law_320 : decode cL_law 320 = .ok (.aload_n 2, 1) := dk_44 (dk_at dksL_law_11 16 rfl rfl)
theorem dL_law_321 : decode cL_law 321 = .ok (.invokevirtual 86, 3) := dk_182 0 86 (dk_at dksL_law_11 17 rfl rfl)
theorem dL_law_324 : decode cL_law 324 = .ok (.iload 5, 2) := dk_21 5 (dk_at dksL_law_11 20 rfl rfl)
theorem dL_law_326 : decode cL_law 326 = .ok (.if_icmp .eq 5, 3) := dk_159 0 5 (dk_at dksL_law_12 0 rfl rfl)
theorem dL_law_329 : decode cL_law 329 = .ok (.iconst 0, 1) := dk_3 (dk_at dksL_law_12 3 rfl rfl)
theorem dL_law_330 : decode cL_law 330 = .ok (.ireturn, 1) := dk_172 (dk_at dksL_law_12 4 rfl rfl)
theorem dL_law_331 : decode cL_law 331 = .ok (.iload 5, 2) := dk_21 5 (dk_at dksL_law_12 5 rfl rfl)
theorem dL_law_333 : decode cL_law 333 = .ok (.ifCond .ne 22, 3) := dk_154 0 22 (dk_at dksL_law_12 7 rfl rfl)
theorem dL_law_336 : decode cL_law 336 = .ok (.aload_n 3, 1) := dk_45 (dk_at dksL_law_12 10 rfl rfl)
theorem dL_law_337 : decode cL_law 337 = .ok (.iconst 0, 1) := dk_3 (dk_at dksL_law_12 11 rfl rfl)
theorem dL_law_338 : decode cL_law 338 = .ok (.laload, 1) := dk_47 (dk_at dksL_law_12 12 rfl rfl)
theorem dL_law_339 : decode cL_law 339 = .ok (.iload 6, 2) := dk_21 6 (dk_at dksL_law_12 13 rfl rfl)
theorem dL_law_341 : decode cL_law 341 = .ok (.ifCond .eq 7, 3) := dk_153 0 7 (dk_at dksL_law_12 15 rfl rfl)
theorem dL_law_344 : decode cL_law 344 = .ok (.lconst 1, 1) := dk_10 (dk_at dksL_law_12 18 rfl rfl)
theorem dL_law_345 : decode cL_law 345 = .ok (.goto 4, 3) := dk_167 0 4 (dk_at dksL_law_12 19 rfl rfl)
theorem dL_law_348 : decode cL_law 348 = .ok (.lconst 0, 1) := dk_9 (dk_at dksL_law_12 22 rfl rfl)
theorem dL_law_349 : decode cL_law 349 = .ok (.lcmp, 1) := dk_148 (dk_at dksL_law_12 23 rfl rfl)
theorem dL_law_350 : decode cL_law 350 = .ok (.ifCond .eq 5, 3) := dk_153 0 5 (dk_at dksL_law_13 0 rfl rfl)
theorem dL_law_353 : decode cL_law 353 = .ok (.iconst 0, 1) := dk_3 (dk_at dksL_law_13 3 rfl rfl)
theorem dL_law_354 : decode cL_law 354 = .ok (.ireturn, 1) := dk_172 (dk_at dksL_law_13 4 rfl rfl)
theorem dL_law_355 : decode cL_law 355 = .ok (.goto 953, 3) := dk_167 3 185 (dk_at dksL_law_13 5 rfl rfl)
theorem dL_law_358 : decode cL_law 358 = .ok (.aload_n 1, 1) := dk_43 (dk_at dksL_law_13 8 rfl rfl)
theorem dL_law_359 : decode cL_law 359 = .ok (.aload_n 0, 1) := dk_42 (dk_at dksL_law_13 9 rfl rfl)
theorem dL_law_360 : decode cL_law 360 = .ok (.iload 4, 2) := dk_21 4 (dk_at dksL_law_13 10 rfl rfl)
theorem dL_law_362 : decode cL_law 362 = .ok (.iconst 1, 1) := dk_4 (dk_at dksL_law_13 12 rfl rfl)
theorem dL_law_363 : decode cL_law 363 = .ok (.iadd, 1) := dk_96 (dk_at dksL_law_13 13 rfl rfl)
theorem dL_law_364 : decode cL_law 364 = .ok (.iaload, 1) := dk_46 (dk_at dksL_law_13 14 rfl rfl)
theorem dL_law_365 : decode cL_law 365 = .ok (.aload_n 0, 1) := dk_42 (dk_at dksL_law_13 15 rfl rfl)
theorem dL_law_366 : decode cL_law 366 = .ok (.iload 4, 2) := dk_21 4 (dk_at dksL_law_13 16 rfl rfl)
theorem dL_law_368 : decode cL_law 368 = .ok (.iconst 2, 1) := dk_5 (dk_at dksL_law_13 18 rfl rfl)
theorem dL_law_369 : decode cL_law 369 = .ok (.iadd, 1) := dk_96 (dk_at dksL_law_13 19 rfl rfl)
theorem dL_law_370 : decode cL_law 370 = .ok (.iaload, 1) := dk_46 (dk_at dksL_law_13 20 rfl rfl)
theorem dL_law_371 : decode cL_law 371 = .ok (.aload_n 3, 1) := dk_45 (dk_at dksL_law_13 21 rfl rfl)
theorem dL_law_372 : decode cL_law 372 = .ok (.invokestatic 96, 3) := dk_184 0 96 (dk_at dksL_law_14 0 rfl rfl)
theorem dL_law_375 : decode cL_law 375 = .ok (.istore 5, 2) := dk_54 5 (dk_at dksL_law_14 3 rfl rfl)
theorem dL_law_377 : decode cL_law 377 = .ok (.aload_n 2, 1) := dk_44 (dk_at dksL_law_14 5 rfl rfl)
theorem dL_law_378 : decode cL_law 378 = .ok (.aload_n 0, 1) := dk_42 (dk_at dksL_law_14 6 rfl rfl)
theorem dL_law_379 : decode cL_law 379 = .ok (.iload 4, 2) := dk_21 4 (dk_at dksL_law_14 7 rfl rfl)
theorem dL_law_381 : decode cL_law 381 = .ok (.iconst 1, 1) := dk_4 (dk_at dksL_law_14 9 rfl rfl)
theorem dL_law_382 : decode cL_law 382 = .ok (.iadd, 1) := dk_96 (dk_at dksL_law_14 10 rfl rfl)
theorem dL_law_383 : decode cL_law 383 = .ok (.iaload, 1) := dk_46 (dk_at dksL_law_14 11 rfl rfl)
theorem dL_law_384 : decode cL_law 384 = .ok (.aload_n 0, 1) := dk_42 (dk_at dksL_law_14 12 rfl rfl)
theorem dL_law_385 : decode cL_law 385 = .ok (.iload 4, 2) := dk_21 4 (dk_at dksL_law_14 13 rfl rfl)
theorem dL_law_387 : decode cL_law 387 = .ok (.iconst 2, 1) := dk_5 (dk_at dksL_law_14 15 rfl rfl)
theorem dL_law_388 : decode cL_law 388 = .ok (.iadd, 1) := dk_96 (dk_at dksL_law_14 16 rfl rfl)
theorem dL_law_389 : decode cL_law 389 = .ok (.iaload, 1) := dk_46 (dk_at dksL_law_14 17 rfl rfl)
theorem dL_law_390 : decode cL_law 390 = .ok (.invokevirtual 98, 3) := dk_182 0 98 (dk_at dksL_law_14 18 rfl rfl)
theorem dL_law_393 : decode cL_law 393 = .ok (.istore 6, 2) := dk_54 6 (dk_at dksL_law_14 21 rfl rfl)
theorem dL_law_395 : decode cL_law 395 = .ok (.aload_n 2, 1) := dk_44 (dk_at dksL_law_14 23 rfl rfl)
theorem dL_law_396 : decode cL_law 396 = .ok (.invokevirtual 86, 3) := dk_182 0 86 (dk_at dksL_law_15 0 rfl rfl)
theorem dL_law_399 : decode cL_law 399 = .ok (.iload 5, 2) := dk_21 5 (dk_at dksL_law_15 3 rfl rfl)
theorem dL_law_401 : decode cL_law 401 = .ok (.if_icmp .eq 5, 3) := dk_159 0 5 (dk_at dksL_law_15 5 rfl rfl)
theorem dL_law_404 : decode cL_law 404 = .ok (.iconst 0, 1) := dk_3 (dk_at dksL_law_15 8 rfl rfl)
theorem dL_law_405 : decode cL_law 405 = .ok (.ireturn, 1) := dk_172 (dk_at dksL_law_15 9 rfl rfl)
theorem dL_law_406 : decode cL_law 406 = .ok (.iload 5, 2) := dk_21 5 (dk_at dksL_law_15 10 rfl rfl)
theorem dL_law_408 : decode cL_law 408 = .ok (.ifCond .ne 15, 3) := dk_154 0 15 (dk_at dksL_law_15 12 rfl rfl)
theorem dL_law_411 : decode cL_law 411 = .ok (.aload_n 3, 1) := dk_45 (dk_at dksL_law_15 15 rfl rfl)
theorem dL_law_412 : decode cL_law 412 = .ok (.iconst 0, 1) := dk_3 (dk_at dksL_law_15 16 rfl rfl)
theorem dL_law_413 : decode cL_law 413 = .ok (.laload, 1) := dk_47 (dk_at dksL_law_15 17 rfl rfl)
theorem dL_law_414 : decode cL_law 414 = .ok (.iload 6, 2) := dk_21 6 (dk_at dksL_law_15 18 rfl rfl)
theorem dL_law_416 : decode cL_law 416 = .ok (.i2l, 1) := dk_133 (dk_at dksL_law_15 20 rfl rfl)
theorem dL_law_417 : decode cL_law 417 = .ok (.lcmp, 1) := dk_148 (dk_at dksL_law_15 21 rfl rfl)
theorem dL_law_418 : decode cL_law 418 = .ok (.ifCond .eq 5, 3) := dk_153 0 5 (dk_at dksL_law_16 0 rfl rfl)
theorem dL_law_421 : decode cL_law 421 = .ok (.iconst 0, 1) := dk_3 (dk_at dksL_law_16 3 rfl rfl)
theorem dL_law_422 : decode cL_law 422 = .ok (.ireturn, 1) := dk_172 (dk_at dksL_law_16 4 rfl rfl)
theorem dL_law_423 : decode cL_law 423 = .ok (.goto 885, 3) := dk_167 3 117 (dk_at dksL_law_16 5 rfl rfl)
theorem dL_law_426 : decode cL_law 426 = .ok (.aload_n 1, 1) := dk_43 (dk_at dksL_law_16 8 rfl rfl)
theorem dL_law_427 : decode cL_law 427 = .ok (.aload_n 0, 1) := dk_42 (dk_at dksL_law_16 9 rfl rfl)
theorem dL_law_428 : decode cL_law 428 = .ok (.iload 4, 2) := dk_21 4 (dk_at dksL_law_16 10 rfl rfl)
theorem dL_law_430 : decode cL_law 430 = .ok (.iconst 1, 1) := dk_4 (dk_at dksL_law_16 12 rfl rfl)
theorem dL_law_431 : decode cL_law 431 = .ok (.iadd, 1) := dk_96 (dk_at dksL_law_16 13 rfl rfl)
theorem dL_law_432 : decode cL_law 432 = .ok (.iaload, 1) := dk_46 (dk_at dksL_law_16 14 rfl rfl)
theorem dL_law_433 : decode cL_law 433 = .ok (.aload_n 0, 1) := dk_42 (dk_at dksL_law_16 15 rfl rfl)
theorem dL_law_434 : decode cL_law 434 = .ok (.iload 4, 2) := dk_21 4 (dk_at dksL_law_16 16 rfl rfl)
theorem dL_law_436 : decode cL_law 436 = .ok (.iconst 2, 1) := dk_5 (dk_at dksL_law_16 18 rfl rfl)
theorem dL_law_437 : decode cL_law 437 = .ok (.iadd, 1) := dk_96 (dk_at dksL_law_16 19 rfl rfl)
theorem dL_law_438 : decode cL_law 438 = .ok (.iaload, 1) := dk_46 (dk_at dksL_law_16 20 rfl rfl)
theorem dL_law_439 : decode cL_law 439 = .ok (.aload_n 0, 1) := dk_42 (dk_at dksL_law_16 21 rfl rfl)
theorem dL_law_440 : decode cL_law 440 = .ok (.iload 4, 2) := dk_21 4 (dk_at dksL_law_16 22 rfl rfl)
theorem dL_law_442 : decode cL_law 442 = .ok (.iconst 3, 1) := dk_6 (dk_at dksL_law_17 0 rfl rfl)
theorem dL_law_443 : decode cL_law 443 = .ok (.iadd, 1) := dk_96 (dk_at dksL_law_17 1 rfl rfl)
theorem dL_law_444 : decode cL_law 444 = .ok (.iaload, 1) := dk_46 (dk_at dksL_law_17 2 rfl rfl)
theorem dL_law_445 : decode cL_law 445 = .ok (.aload_n 3, 1) := dk_45 (dk_at dksL_law_17 3 rfl rfl)
theorem dL_law_446 : decode cL_law 446 = .ok (.invokestatic 99, 3) := dk_184 0 99 (dk_at dksL_law_17 4 rfl rfl)
theorem dL_law_449 : decode cL_law 449 = .ok (.istore 5, 2) := dk_54 5 (dk_at dksL_law_17 7 rfl rfl)
theorem dL_law_451 : decode cL_law 451 = .ok (.aload_n 2, 1) := dk_44 (dk_at dksL_law_17 9 rfl rfl)
theorem dL_law_452 : decode cL_law 452 = .ok (.aload_n 0, 1) := dk_42 (dk_at dksL_law_17 10 rfl rfl)
theorem dL_law_453 : decode cL_law 453 = .ok (.iload 4, 2) := dk_21 4 (dk_at dksL_law_17 11 rfl rfl)
theorem dL_law_455 : decode cL_law 455 = .ok (.iconst 1, 1) := dk_4 (dk_at dksL_law_17 13 rfl rfl)
theorem dL_law_456 : decode cL_law 456 = .ok (.iadd, 1) := dk_96 (dk_at dksL_law_17 14 rfl rfl)
theorem dL_law_457 : decode cL_law 457 = .ok (.iaload, 1) := dk_46 (dk_at dksL_law_17 15 rfl rfl)
theorem dL_law_458 : decode cL_law 458 = .ok (.aload_n 0, 1) := dk_42 (dk_at dksL_law_17 16 rfl rfl)
theorem dL_law_459 : decode cL_law 459 = .ok (.iload 4, 2) := dk_21 4 (dk_at dksL_law_17 17 rfl rfl)
theorem dL_law_461 : decode cL_law 461 = .ok (.iconst 2, 1) := dk_5 (dk_at dksL_law_17 19 rfl rfl)
theorem dL_law_462 : decode cL_law 462 = .ok (.iadd, 1) := dk_96 (dk_at dksL_law_17 20 rfl rfl)
theorem dL_law_463 : decode cL_law 463 = .ok (.iaload, 1) := dk_46 (dk_at dksL_law_17 21 rfl rfl)
theorem dL_law_464 : decode cL_law 464 = .ok (.aload_n 0, 1) := dk_42 (dk_at dksL_law_17 22 rfl rfl)
theorem dL_law_465 : decode cL_law 465 = .ok (.iload 4, 2) := dk_21 4 (dk_at dksL_law_18 0 rfl rfl)
theorem dL_law_467 : decode cL_law 467 = .ok (.iconst 3, 1) := dk_6 (dk_at dksL_law_18 2 rfl rfl)
theorem dL_law_468 : decode cL_law 468 = .ok (.iadd, 1) := dk_96 (dk_at dksL_law_18 3 rfl rfl)
theorem dL_law_469 : decode cL_law 469 = .ok (.iaload, 1) := dk_46 (dk_at dksL_law_18 4 rfl rfl)
theorem dL_law_470 : decode cL_law 470 = .ok (.invokevirtual 102, 3) := dk_182 0 102 (dk_at dksL_law_18 5 rfl rfl)
theorem dL_law_473 : decode cL_law 473 = .ok (.istore 6, 2) := dk_54 6 (dk_at dksL_law_18 8 rfl rfl)
theorem dL_law_475 : decode cL_law 475 = .ok (.aload_n 2, 1) := dk_44 (dk_at dksL_law_18 10 rfl rfl)
theorem dL_law_476 : decode cL_law 476 = .ok (.invokevirtual 86, 3) := dk_182 0 86 (dk_at dksL_law_18 11 rfl rfl)
theorem dL_law_479 : decode cL_law 479 = .ok (.iload 5, 2) := dk_21 5 (dk_at dksL_law_18 14 rfl rfl)
theorem dL_law_481 : decode cL_law 481 = .ok (.if_icmp .eq 5, 3) := dk_159 0 5 (dk_at dksL_law_18 16 rfl rfl)
theorem dL_law_484 : decode cL_law 484 = .ok (.iconst 0, 1) := dk_3 (dk_at dksL_law_18 19 rfl rfl)
theorem dL_law_485 : decode cL_law 485 = .ok (.ireturn, 1) := dk_172 (dk_at dksL_law_18 20 rfl rfl)
theorem dL_law_486 : decode cL_law 486 = .ok (.iload 5, 2) := dk_21 5 (dk_at dksL_law_18 21 rfl rfl)
theorem dL_law_488 : decode cL_law 488 = .ok (.ifCond .ne 15, 3) := dk_154 0 15 (dk_at dksL_law_19 0 rfl rfl)
theorem dL_law_491 : decode cL_law 491 = .ok (.aload_n 3, 1) := dk_45 (dk_at dksL_law_19 3 rfl rfl)
theorem dL_law_492 : decode cL_law 492 = .ok (.iconst 0, 1) := dk_3 (dk_at dksL_law_19 4 rfl rfl)
theorem dL_law_493 : decode cL_law 493 = .ok (.laload, 1) := dk_47 (dk_at dksL_law_19 5 rfl rfl)
theorem dL_law_494 : decode cL_law 494 = .ok (.iload 6, 2) := dk_21 6 (dk_at dksL_law_19 6 rfl rfl)
theorem dL_law_496 : decode cL_law 496 = .ok (.i2l, 1) := dk_133 (dk_at dksL_law_19 8 rfl rfl)
theorem dL_law_497 : decode cL_law 497 = .ok (.lcmp, 1) := dk_148 (dk_at dksL_law_19 9 rfl rfl)
theorem dL_law_498 : decode cL_law 498 = .ok (.ifCond .eq 5, 3) := dk_153 0 5 (dk_at dksL_law_19 10 rfl rfl)
theorem dL_law_501 : decode cL_law 501 = .ok (.iconst 0, 1) := dk_3 (dk_at dksL_law_19 13 rfl rfl)
theorem dL_law_502 : decode cL_law 502 = .ok (.ireturn, 1) := dk_172 (dk_at dksL_law_19 14 rfl rfl)
theorem dL_law_503 : decode cL_law 503 = .ok (.goto 805, 3) := dk_167 3 37 (dk_at dksL_law_19 15 rfl rfl)
theorem dL_law_506 : decode cL_law 506 = .ok (.aload_n 1, 1) := dk_43 (dk_at dksL_law_19 18 rfl rfl)
theorem dL_law_507 : decode cL_law 507 = .ok (.aload_n 0, 1) := dk_42 (dk_at dksL_law_19 19 rfl rfl)
theorem dL_law_508 : decode cL_law 508 = .ok (.iload 4, 2) := dk_21 4 (dk_at dksL_law_19 20 rfl rfl)
theorem dL_law_510 : decode cL_law 510 = .ok (.iconst 1, 1) := dk_4 (dk_at dksL_law_19 22 rfl rfl)
theorem dL_law_511 : decode cL_law 511 = .ok (.iadd, 1) := dk_96 (dk_at dksL_law_19 23 rfl rfl)
theorem dL_law_512 : decode cL_law 512 = .ok (.iaload, 1) := dk_46 (dk_at dksL_law_20 0 rfl rfl)
theorem dL_law_513 : decode cL_law 513 = .ok (.aload_n 0, 1) := dk_42 (dk_at dksL_law_20 1 rfl rfl)
theorem dL_law_514 : decode cL_law 514 = .ok (.iload 4, 2) := dk_21 4 (dk_at dksL_law_20 2 rfl rfl)
theorem dL_law_516 : decode cL_law 516 = .ok (.iconst 2, 1) := dk_5 (dk_at dksL_law_20 4 rfl rfl)
theorem dL_law_517 : decode cL_law 517 = .ok (.iadd, 1) := dk_96 (dk_at dksL_law_20 5 rfl rfl)
theorem dL_law_518 : decode cL_law 518 = .ok (.iaload, 1) := dk_46 (dk_at dksL_law_20 6 rfl rfl)
theorem dL_law_519 : decode cL_law 519 = .ok (.aload_n 0, 1) := dk_42 (dk_at dksL_law_20 7 rfl rfl)
theorem dL_law_520 : decode cL_law 520 = .ok (.iload 4, 2) := dk_21 4 (dk_at dksL_law_20 8 rfl rfl)
theorem dL_law_522 : decode cL_law 522 = .ok (.iconst 3, 1) := dk_6 (dk_at dksL_law_20 10 rfl rfl)
theorem dL_law_523 : decode cL_law 523 = .ok (.iadd, 1) := dk_96 (dk_at dksL_law_20 11 rfl rfl)
theorem dL_law_524 : decode cL_law 524 = .ok (.iaload, 1) := dk_46 (dk_at dksL_law_20 12 rfl rfl)
theorem dL_law_525 : decode cL_law 525 = .ok (.aload_n 0, 1) := dk_42 (dk_at dksL_law_20 13 rfl rfl)
theorem dL_law_526 : decode cL_law 526 = .ok (.iload 4, 2) := dk_21 4 (dk_at dksL_law_20 14 rfl rfl)
theorem dL_law_528 : decode cL_law 528 = .ok (.iconst 4, 1) := dk_7 (dk_at dksL_law_20 16 rfl rfl)
theorem dL_law_529 : decode cL_law 529 = .ok (.iadd, 1) := dk_96 (dk_at dksL_law_20 17 rfl rfl)
theorem dL_law_530 : decode cL_law 530 = .ok (.iaload, 1) := dk_46 (dk_at dksL_law_20 18 rfl rfl)
theorem dL_law_531 : decode cL_law 531 = .ok (.ifCond .eq 7, 3) := dk_153 0 7 (dk_at dksL_law_20 19 rfl rfl)
theorem dL_law_534 : decode cL_law 534 = .ok (.iconst 1, 1) := dk_4 (dk_at dksL_law_20 22 rfl rfl)
theorem dL_law_535 : decode cL_law 535 = .ok (.goto 4, 3) := dk_167 0 4 (dk_at dksL_law_21 0 rfl rfl)
theorem dL_law_538 : decode cL_law 538 = .ok (.iconst 0, 1) := dk_3 (dk_at dksL_law_21 3 rfl rfl)
theorem dL_law_539 : decode cL_law 539 = .ok (.aload_n 3, 1) := dk_45 (dk_at dksL_law_21 4 rfl rfl)
theorem dL_law_540 : decode cL_law 540 = .ok (.invokestatic 103, 3) := dk_184 0 103 (dk_at dksL_law_21 5 rfl rfl)
theorem dL_law_543 : decode cL_law 543 = .ok (.istore 5, 2) := dk_54 5 (dk_at dksL_law_21 8 rfl rfl)
theorem dL_law_545 : decode cL_law 545 = .ok (.aload_n 2, 1) := dk_44 (dk_at dksL_law_21 10 rfl rfl)
theorem dL_law_546 : decode cL_law 546 = .ok (.aload_n 0, 1) := dk_42 (dk_at dksL_law_21 11 rfl rfl)
theorem dL_law_547 : decode cL_law 547 = .ok (.iload 4, 2) := dk_21 4 (dk_at dksL_law_21 12 rfl rfl)
theorem dL_law_549 : decode cL_law 549 = .ok (.iconst 1, 1) := dk_4 (dk_at dksL_law_21 14 rfl rfl)
theorem dL_law_550 : decode cL_law 550 = .ok (.iadd, 1) := dk_96 (dk_at dksL_law_21 15 rfl rfl)
theorem dL_law_551 : decode cL_law 551 = .ok (.iaload, 1) := dk_46 (dk_at dksL_law_21 16 rfl rfl)
theorem dL_law_552 : decode cL_law 552 = .ok (.aload_n 0, 1) := dk_42 (dk_at dksL_law_21 17 rfl rfl)
theorem dL_law_553 : decode cL_law 553 = .ok (.iload 4, 2) := dk_21 4 (dk_at dksL_law_21 18 rfl rfl)
theorem dL_law_555 : decode cL_law 555 = .ok (.iconst 2, 1) := dk_5 (dk_at dksL_law_21 20 rfl rfl)
theorem dL_law_556 : decode cL_law 556 = .ok (.iadd, 1) := dk_96 (dk_at dksL_law_21 21 rfl rfl)
theorem dL_law_557 : decode cL_law 557 = .ok (.iaload, 1) := dk_46 (dk_at dksL_law_21 22 rfl rfl)
theorem dL_law_558 : decode cL_law 558 = .ok (.aload_n 0, 1) := dk_42 (dk_at dksL_law_21 23 rfl rfl)
theorem dL_law_559 : decode cL_law 559 = .ok (.iload 4, 2) := dk_21 4 (dk_at dksL_law_22 0 rfl rfl)
theorem dL_law_561 : decode cL_law 561 = .ok (.iconst 3, 1) := dk_6 (dk_at dksL_law_22 2 rfl rfl)
theorem dL_law_562 : decode cL_law 562 = .ok (.iadd, 1) := dk_96 (dk_at dksL_law_22 3 rfl rfl)
theorem dL_law_563 : decode cL_law 563 = .ok (.iaload, 1) := dk_46 (dk_at dksL_law_22 4 rfl rfl)
theorem dL_law_564 : decode cL_law 564 = .ok (.aload_n 0, 1) := dk_42 (dk_at dksL_law_22 5 rfl rfl)
theorem dL_law_565 : decode cL_law 565 = .ok (.iload 4, 2) := dk_21 4 (dk_at dksL_law_22 6 rfl rfl)
theorem dL_law_567 : decode cL_law 567 = .ok (.iconst 4, 1) := dk_7 (dk_at dksL_law_22 8 rfl rfl)
theorem dL_law_568 : decode cL_law 568 = .ok (.iadd, 1) := dk_96 (dk_at dksL_law_22 9 rfl rfl)
theorem dL_law_569 : decode cL_law 569 = .ok (.iaload, 1) := dk_46 (dk_at dksL_law_22 10 rfl rfl)
theorem dL_law_570 : decode cL_law 570 = .ok (.ifCond .eq 7, 3) := dk_153 0 7 (dk_at dksL_law_22 11 rfl rfl)
theorem dL_law_573 : decode cL_law 573 = .ok (.iconst 1, 1) := dk_4 (dk_at dksL_law_22 14 rfl rfl)
theorem dL_law_574 : decode cL_law 574 = .ok (.goto 4, 3) := dk_167 0 4 (dk_at dksL_law_22 15 rfl rfl)
theorem dL_law_577 : decode cL_law 577 = .ok (.iconst 0, 1) := dk_3 (dk_at dksL_law_22 18 rfl rfl)
theorem dL_law_578 : decode cL_law 578 = .ok (.invokevirtual 106, 3) := dk_182 0 106 (dk_at dksL_law_22 19 rfl rfl)
theorem dL_law_581 : decode cL_law 581 = .ok (.istore 6, 2) := dk_54 6 (dk_at dksL_law_22 22 rfl rfl)
theorem dL_law_583 : decode cL_law 583 = .ok (.aload_n 2, 1) := dk_44 (dk_at dksL_law_23 0 rfl rfl)
theorem dL_law_584 : decode cL_law 584 = .ok (.invokevirtual 86, 3) := dk_182 0 86 (dk_at dksL_law_23 1 rfl rfl)
theorem dL_law_587 : decode cL_law 587 = .ok (.iload 5, 2) := dk_21 5 (dk_at dksL_law_23 4 rfl rfl)
theorem dL_law_589 : decode cL_law 589 = .ok (.if_icmp .eq 5, 3) := dk_159 0 5 (dk_at dksL_law_23 6 rfl rfl)
theorem dL_law_592 : decode cL_law 592 = .ok (.iconst 0, 1) := dk_3 (dk_at dksL_law_23 9 rfl rfl)
theorem dL_law_593 : decode cL_law 593 = .ok (.ireturn, 1) := dk_172 (dk_at dksL_law_23 10 rfl rfl)
theorem dL_law_594 : decode cL_law 594 = .ok (.iload 5, 2) := dk_21 5 (dk_at dksL_law_23 11 rfl rfl)
theorem dL_law_596 : decode cL_law 596 = .ok (.ifCond .ne 22, 3) := dk_154 0 22 (dk_at dksL_law_23 13 rfl rfl)
theorem dL_law_599 : decode cL_law 599 = .ok (.aload_n 3, 1) := dk_45 (dk_at dksL_law_23 16 rfl rfl)
theorem dL_law_600 : decode cL_law 600 = .ok (.iconst 0, 1) := dk_3 (dk_at dksL_law_23 17 rfl rfl)
theorem dL_law_601 : decode cL_law 601 = .ok (.laload, 1) := dk_47 (dk_at dksL_law_23 18 rfl rfl)
theorem dL_law_602 : decode cL_law 602 = .ok (.iload 6, 2) := dk_21 6 (dk_at dksL_law_23 19 rfl rfl)
theorem dL_law_604 : decode cL_law 604 = .ok (.ifCond .eq 7, 3) := dk_153 0 7 (dk_at dksL_law_23 21 rfl rfl)
theorem dL_law_607 : decode cL_law 607 = .ok (.lconst 1, 1) := dk_10 (dk_at dksL_law_24 0 rfl rfl)
theorem dL_law_608 : decode cL_law 608 = .ok (.goto 4, 3) := dk_167 0 4 (dk_at dksL_law_24 1 rfl rfl)
theorem dL_law_611 : decode cL_law 611 = .ok (.lconst 0, 1) := dk_9 (dk_at dksL_law_24 4 rfl rfl)
theorem dL_law_612 : decode cL_law 612 = .ok (.lcmp, 1) := dk_148 (dk_at dksL_law_24 5 rfl rfl)
theorem dL_law_613 : decode cL_law 613 = .ok (.ifCond .eq 5, 3) := dk_153 0 5 (dk_at dksL_law_24 6 rfl rfl)
theorem dL_law_616 : decode cL_law 616 = .ok (.iconst 0, 1) := dk_3 (dk_at dksL_law_24 9 rfl rfl)
theorem dL_law_617 : decode cL_law 617 = .ok (.ireturn, 1) := dk_172 (dk_at dksL_law_24 10 rfl rfl)
theorem dL_law_618 : decode cL_law 618 = .ok (.goto 690, 3) := dk_167 2 178 (dk_at dksL_law_24 11 rfl rfl)
theorem dL_law_621 : decode cL_law 621 = .ok (.aload_n 1, 1) := dk_43 (dk_at dksL_law_24 14 rfl rfl)
theorem dL_law_622 : decode cL_law 622 = .ok (.aload_n 0, 1) := dk_42 (dk_at dksL_law_24 15 rfl rfl)
theorem dL_law_623 : decode cL_law 623 = .ok (.iload 4, 2) := dk_21 4 (dk_at dksL_law_24 16 rfl rfl)
theorem dL_law_625 : decode cL_law 625 = .ok (.iconst 1, 1) := dk_4 (dk_at dksL_law_24 18 rfl rfl)
theorem dL_law_626 : decode cL_law 626 = .ok (.iadd, 1) := dk_96 (dk_at dksL_law_24 19 rfl rfl)
theorem dL_law_627 : decode cL_law 627 = .ok (.iaload, 1) := dk_46 (dk_at dksL_law_24 20 rfl rfl)
theorem dL_law_628 : decode cL_law 628 = .ok (.aload_n 3, 1) := dk_45 (dk_at dksL_law_24 21 rfl rfl)
theorem dL_law_629 : decode cL_law 629 = .ok (.invokestatic 107, 3) := dk_184 0 107 (dk_at dksL_law_25 0 rfl rfl)
theorem dL_law_632 : decode cL_law 632 = .ok (.istore 5, 2) := dk_54 5 (dk_at dksL_law_25 3 rfl rfl)
theorem dL_law_634 : decode cL_law 634 = .ok (.aload_n 2, 1) := dk_44 (dk_at dksL_law_25 5 rfl rfl)
theorem dL_law_635 : decode cL_law 635 = .ok (.aload_n 0, 1) := dk_42 (dk_at dksL_law_25 6 rfl rfl)
theorem dL_law_636 : decode cL_law 636 = .ok (.iload 4, 2) := dk_21 4 (dk_at dksL_law_25 7 rfl rfl)
theorem dL_law_638 : decode cL_law 638 = .ok (.iconst 1, 1) := dk_4 (dk_at dksL_law_25 9 rfl rfl)
theorem dL_law_639 : decode cL_law 639 = .ok (.iadd, 1) := dk_96 (dk_at dksL_law_25 10 rfl rfl)
theorem dL_law_640 : decode cL_law 640 = .ok (.iaload, 1) := dk_46 (dk_at dksL_law_25 11 rfl rfl)
theorem dL_law_641 : decode cL_law 641 = .ok (.invokevirtual 110, 3) := dk_182 0 110 (dk_at dksL_law_25 12 rfl rfl)
theorem dL_law_644 : decode cL_law 644 = .ok (.istore 6, 2) := dk_54 6 (dk_at dksL_law_25 15 rfl rfl)
theorem dL_law_646 : decode cL_law 646 = .ok (.aload_n 2, 1) := dk_44 (dk_at dksL_law_25 17 rfl rfl)
theorem dL_law_647 : decode cL_law 647 = .ok (.invokevirtual 86, 3) := dk_182 0 86 (dk_at dksL_law_25 18 rfl rfl)
theorem dL_law_650 : decode cL_law 650 = .ok (.iload 5, 2) := dk_21 5 (dk_at dksL_law_25 21 rfl rfl)
theorem dL_law_652 : decode cL_law 652 = .ok (.if_icmp .eq 5, 3) := dk_159 0 5 (dk_at dksL_law_26 0 rfl rfl)
theorem dL_law_655 : decode cL_law 655 = .ok (.iconst 0, 1) := dk_3 (dk_at dksL_law_26 3 rfl rfl)
theorem dL_law_656 : decode cL_law 656 = .ok (.ireturn, 1) := dk_172 (dk_at dksL_law_26 4 rfl rfl)
theorem dL_law_657 : decode cL_law 657 = .ok (.iload 5, 2) := dk_21 5 (dk_at dksL_law_26 5 rfl rfl)
theorem dL_law_659 : decode cL_law 659 = .ok (.ifCond .ne 15, 3) := dk_154 0 15 (dk_at dksL_law_26 7 rfl rfl)
theorem dL_law_662 : decode cL_law 662 = .ok (.aload_n 3, 1) := dk_45 (dk_at dksL_law_26 10 rfl rfl)
theorem dL_law_663 : decode cL_law 663 = .ok (.iconst 0, 1) := dk_3 (dk_at dksL_law_26 11 rfl rfl)
theorem dL_law_664 : decode cL_law 664 = .ok (.laload, 1) := dk_47 (dk_at dksL_law_26 12 rfl rfl)
theorem dL_law_665 : decode cL_law 665 = .ok (.iload 6, 2) := dk_21 6 (dk_at dksL_law_26 13 rfl rfl)
theorem dL_law_667 : decode cL_law 667 = .ok (.i2l, 1) := dk_133 (dk_at dksL_law_26 15 rfl rfl)
theorem dL_law_668 : decode cL_law 668 = .ok (.lcmp, 1) := dk_148 (dk_at dksL_law_26 16 rfl rfl)
theorem dL_law_669 : decode cL_law 669 = .ok (.ifCond .eq 5, 3) := dk_153 0 5 (dk_at dksL_law_26 17 rfl rfl)
theorem dL_law_672 : decode cL_law 672 = .ok (.iconst 0, 1) := dk_3 (dk_at dksL_law_26 20 rfl rfl)
theorem dL_law_673 : decode cL_law 673 = .ok (.ireturn, 1) := dk_172 (dk_at dksL_law_26 21 rfl rfl)
theorem dL_law_674 : decode cL_law 674 = .ok (.goto 634, 3) := dk_167 2 122 (dk_at dksL_law_27 0 rfl rfl)
theorem dL_law_677 : decode cL_law 677 = .ok (.aload_n 1, 1) := dk_43 (dk_at dksL_law_27 3 rfl rfl)
theorem dL_law_678 : decode cL_law 678 = .ok (.aload_n 0, 1) := dk_42 (dk_at dksL_law_27 4 rfl rfl)
theorem dL_law_679 : decode cL_law 679 = .ok (.iload 4, 2) := dk_21 4 (dk_at dksL_law_27 5 rfl rfl)
theorem dL_law_681 : decode cL_law 681 = .ok (.iconst 1, 1) := dk_4 (dk_at dksL_law_27 7 rfl rfl)
theorem dL_law_682 : decode cL_law 682 = .ok (.iadd, 1) := dk_96 (dk_at dksL_law_27 8 rfl rfl)
theorem dL_law_683 : decode cL_law 683 = .ok (.iaload, 1) := dk_46 (dk_at dksL_law_27 9 rfl rfl)
theorem dL_law_684 : decode cL_law 684 = .ok (.aload_n 3, 1) := dk_45 (dk_at dksL_law_27 10 rfl rfl)
theorem dL_law_685 : decode cL_law 685 = .ok (.invokestatic 111, 3) := dk_184 0 111 (dk_at dksL_law_27 11 rfl rfl)
theorem dL_law_688 : decode cL_law 688 = .ok (.istore 5, 2) := dk_54 5 (dk_at dksL_law_27 14 rfl rfl)
theorem dL_law_690 : decode cL_law 690 = .ok (.aload_n 2, 1) := dk_44 (dk_at dksL_law_27 16 rfl rfl)
theorem dL_law_691 : decode cL_law 691 = .ok (.aload_n 0, 1) := dk_42 (dk_at dksL_law_27 17 rfl rfl)
theorem dL_law_692 : decode cL_law 692 = .ok (.iload 4, 2) := dk_21 4 (dk_at dksL_law_27 18 rfl rfl)
theorem dL_law_694 : decode cL_law 694 = .ok (.iconst 1, 1) := dk_4 (dk_at dksL_law_27 20 rfl rfl)
theorem dL_law_695 : decode cL_law 695 = .ok (.iadd, 1) := dk_96 (dk_at dksL_law_27 21 rfl rfl)
theorem dL_law_696 : decode cL_law 696 = .ok (.iaload, 1) := dk_46 (dk_at dksL_law_27 22 rfl rfl)
theorem dL_law_697 : decode cL_law 697 = .ok (.invokevirtual 113, 3) := dk_182 0 113 (dk_at dksL_law_28 0 rfl rfl)
theorem dL_law_700 : decode cL_law 700 = .ok (.istore 6, 2) := dk_54 6 (dk_at dksL_law_28 3 rfl rfl)
theorem dL_law_702 : decode cL_law 702 = .ok (.aload_n 2, 1) := dk_44 (dk_at dksL_law_28 5 rfl rfl)
theorem dL_law_703 : decode cL_law 703 = .ok (.invokevirtual 86, 3) := dk_182 0 86 (dk_at dksL_law_28 6 rfl rfl)
theorem dL_law_706 : decode cL_law 706 = .ok (.iload 5, 2) := dk_21 5 (dk_at dksL_law_28 9 rfl rfl)
theorem dL_law_708 : decode cL_law 708 = .ok (.if_icmp .eq 5, 3) := dk_159 0 5 (dk_at dksL_law_28 11 rfl rfl)
theorem dL_law_711 : decode cL_law 711 = .ok (.iconst 0, 1) := dk_3 (dk_at dksL_law_28 14 rfl rfl)
theorem dL_law_712 : decode cL_law 712 = .ok (.ireturn, 1) := dk_172 (dk_at dksL_law_28 15 rfl rfl)
theorem dL_law_713 : decode cL_law 713 = .ok (.iload 5, 2) := dk_21 5 (dk_at dksL_law_28 16 rfl rfl)
theorem dL_law_715 : decode cL_law 715 = .ok (.ifCond .ne 15, 3) := dk_154 0 15 (dk_at dksL_law_28 18 rfl rfl)
theorem dL_law_718 : decode cL_law 718 = .ok (.aload_n 3, 1) := dk_45 (dk_at dksL_law_28 21 rfl rfl)
theorem dL_law_719 : decode cL_law 719 = .ok (.iconst 0, 1) := dk_3 (dk_at dksL_law_28 22 rfl rfl)
theorem dL_law_720 : decode cL_law 720 = .ok (.laload, 1) := dk_47 (dk_at dksL_law_28 23 rfl rfl)
theorem dL_law_721 : decode cL_law 721 = .ok (.iload 6, 2) := dk_21 6 (dk_at dksL_law_29 0 rfl rfl)
theorem dL_law_723 : decode cL_law 723 = .ok (.i2l, 1) := dk_133 (dk_at dksL_law_29 2 rfl rfl)
theorem dL_law_724 : decode cL_law 724 = .ok (.lcmp, 1) := dk_148 (dk_at dksL_law_29 3 rfl rfl)
theorem dL_law_725 : decode cL_law 725 = .ok (.ifCond .eq 5, 3) := dk_153 0 5 (dk_at dksL_law_29 4 rfl rfl)
theorem dL_law_728 : decode cL_law 728 = .ok (.iconst 0, 1) := dk_3 (dk_at dksL_law_29 7 rfl rfl)
theorem dL_law_729 : decode cL_law 729 = .ok (.ireturn, 1) := dk_172 (dk_at dksL_law_29 8 rfl rfl)
theorem dL_law_730 : decode cL_law 730 = .ok (.goto 578, 3) := dk_167 2 66 (dk_at dksL_law_29 9 rfl rfl)
theorem dL_law_733 : decode cL_law 733 = .ok (.aload_n 1, 1) := dk_43 (dk_at dksL_law_29 12 rfl rfl)
theorem dL_law_734 : decode cL_law 734 = .ok (.aload_n 0, 1) := dk_42 (dk_at dksL_law_29 13 rfl rfl)
theorem dL_law_735 : decode cL_law 735 = .ok (.iload 4, 2) := dk_21 4 (dk_at dksL_law_29 14 rfl rfl)
theorem dL_law_737 : decode cL_law 737 = .ok (.iconst 1, 1) := dk_4 (dk_at dksL_law_29 16 rfl rfl)
theorem dL_law_738 : decode cL_law 738 = .ok (.iadd, 1) := dk_96 (dk_at dksL_law_29 17 rfl rfl)
theorem dL_law_739 : decode cL_law 739 = .ok (.iaload, 1) := dk_46 (dk_at dksL_law_29 18 rfl rfl)
theorem dL_law_740 : decode cL_law 740 = .ok (.aload_n 0, 1) := dk_42 (dk_at dksL_law_29 19 rfl rfl)
theorem dL_law_741 : decode cL_law 741 = .ok (.iload 4, 2) := dk_21 4 (dk_at dksL_law_29 20 rfl rfl)
theorem dL_law_743 : decode cL_law 743 = .ok (.iconst 2, 1) := dk_5 (dk_at dksL_law_29 22 rfl rfl)
theorem dL_law_744 : decode cL_law 744 = .ok (.iadd, 1) := dk_96 (dk_at dksL_law_29 23 rfl rfl)
theorem dL_law_745 : decode cL_law 745 = .ok (.iaload, 1) := dk_46 (dk_at dksL_law_30 0 rfl rfl)
theorem dL_law_746 : decode cL_law 746 = .ok (.ifCond .eq 7, 3) := dk_153 0 7 (dk_at dksL_law_30 1 rfl rfl)
theorem dL_law_749 : decode cL_law 749 = .ok (.iconst 1, 1) := dk_4 (dk_at dksL_law_30 4 rfl rfl)
theorem dL_law_750 : decode cL_law 750 = .ok (.goto 4, 3) := dk_167 0 4 (dk_at dksL_law_30 5 rfl rfl)
theorem dL_law_753 : decode cL_law 753 = .ok (.iconst 0, 1) := dk_3 (dk_at dksL_law_30 8 rfl rfl)
theorem dL_law_754 : decode cL_law 754 = .ok (.aload_n 3, 1) := dk_45 (dk_at dksL_law_30 9 rfl rfl)
theorem dL_law_755 : decode cL_law 755 = .ok (.invokestatic 114, 3) := dk_184 0 114 (dk_at dksL_law_30 10 rfl rfl)
theorem dL_law_758 : decode cL_law 758 = .ok (.istore 5, 2) := dk_54 5 (dk_at dksL_law_30 13 rfl rfl)
theorem dL_law_760 : decode cL_law 760 = .ok (.aload_n 2, 1) := dk_44 (dk_at dksL_law_30 15 rfl rfl)
theorem dL_law_761 : decode cL_law 761 = .ok (.aload_n 0, 1) := dk_42 (dk_at dksL_law_30 16 rfl rfl)
theorem dL_law_762 : decode cL_law 762 = .ok (.iload 4, 2) := dk_21 4 (dk_at dksL_law_30 17 rfl rfl)
theorem dL_law_764 : decode cL_law 764 = .ok (.iconst 1, 1) := dk_4 (dk_at dksL_law_30 19 rfl rfl)
theorem dL_law_765 : decode cL_law 765 = .ok (.iadd, 1) := dk_96 (dk_at dksL_law_30 20 rfl rfl)
theorem dL_law_766 : decode cL_law 766 = .ok (.iaload, 1) := dk_46 (dk_at dksL_law_30 21 rfl rfl)
theorem dL_law_767 : decode cL_law 767 = .ok (.aload_n 0, 1) := dk_42 (dk_at dksL_law_30 22 rfl rfl)
theorem dL_law_768 : decode cL_law 768 = .ok (.iload 4, 2) := dk_21 4 (dk_at dksL_law_31 0 rfl rfl)
theorem dL_law_770 : decode cL_law 770 = .ok (.iconst 2, 1) := dk_5 (dk_at dksL_law_31 2 rfl rfl)
theorem dL_law_771 : decode cL_law 771 = .ok (.iadd, 1) := dk_96 (dk_at dksL_law_31 3 rfl rfl)
theorem dL_law_772 : decode cL_law 772 = .ok (.iaload, 1) := dk_46 (dk_at dksL_law_31 4 rfl rfl)
theorem dL_law_773 : decode cL_law 773 = .ok (.ifCond .eq 7, 3) := dk_153 0 7 (dk_at dksL_law_31 5 rfl rfl)
theorem dL_law_776 : decode cL_law 776 = .ok (.iconst 1, 1) := dk_4 (dk_at dksL_law_31 8 rfl rfl)
theorem dL_law_777 : decode cL_law 777 = .ok (.goto 4, 3) := dk_167 0 4 (dk_at dksL_law_31 9 rfl rfl)
theorem dL_law_780 : decode cL_law 780 = .ok (.iconst 0, 1) := dk_3 (dk_at dksL_law_31 12 rfl rfl)
theorem dL_law_781 : decode cL_law 781 = .ok (.invokevirtual 117, 3) := dk_182 0 117 (dk_at dksL_law_31 13 rfl rfl)
theorem dL_law_784 : decode cL_law 784 = .ok (.istore 6, 2) := dk_54 6 (dk_at dksL_law_31 16 rfl rfl)
theorem dL_law_786 : decode cL_law 786 = .ok (.aload_n 2, 1) := dk_44 (dk_at dksL_law_31 18 rfl rfl)
theorem dL_law_787 : decode cL_law 787 = .ok (.invokevirtual 86, 3) := dk_182 0 86 (dk_at dksL_law_31 19 rfl rfl)
theorem dL_law_790 : decode cL_law 790 = .ok (.iload 5, 2) := dk_21 5 (dk_at dksL_law_31 22 rfl rfl)
theorem dL_law_792 : decode cL_law 792 = .ok (.if_icmp .eq 5, 3) := dk_159 0 5 (dk_at dksL_law_32 0 rfl rfl)
theorem dL_law_795 : decode cL_law 795 = .ok (.iconst 0, 1) := dk_3 (dk_at dksL_law_32 3 rfl rfl)
theorem dL_law_796 : decode cL_law 796 = .ok (.ireturn, 1) := dk_172 (dk_at dksL_law_32 4 rfl rfl)
theorem dL_law_797 : decode cL_law 797 = .ok (.iload 5, 2) := dk_21 5 (dk_at dksL_law_32 5 rfl rfl)
theorem dL_law_799 : decode cL_law 799 = .ok (.ifCond .ne 15, 3) := dk_154 0 15 (dk_at dksL_law_32 7 rfl rfl)
theorem dL_law_802 : decode cL_law 802 = .ok (.aload_n 3, 1) := dk_45 (dk_at dksL_law_32 10 rfl rfl)
theorem dL_law_803 : decode cL_law 803 = .ok (.iconst 0, 1) := dk_3 (dk_at dksL_law_32 11 rfl rfl)
theorem dL_law_804 : decode cL_law 804 = .ok (.laload, 1) := dk_47 (dk_at dksL_law_32 12 rfl rfl)
theorem dL_law_805 : decode cL_law 805 = .ok (.iload 6, 2) := dk_21 6 (dk_at dksL_law_32 13 rfl rfl)
theorem dL_law_807 : decode cL_law 807 = .ok (.i2l, 1) := dk_133 (dk_at dksL_law_32 15 rfl rfl)
theorem dL_law_808 : decode cL_law 808 = .ok (.lcmp, 1) := dk_148 (dk_at dksL_law_32 16 rfl rfl)
theorem dL_law_809 : decode cL_law 809 = .ok (.ifCond .eq 5, 3) := dk_153 0 5 (dk_at dksL_law_32 17 rfl rfl)
theorem dL_law_812 : decode cL_law 812 = .ok (.iconst 0, 1) := dk_3 (dk_at dksL_law_32 20 rfl rfl)
theorem dL_law_813 : decode cL_law 813 = .ok (.ireturn, 1) := dk_172 (dk_at dksL_law_32 21 rfl rfl)
theorem dL_law_814 : decode cL_law 814 = .ok (.goto 494, 3) := dk_167 1 238 (dk_at dksL_law_33 0 rfl rfl)
theorem dL_law_817 : decode cL_law 817 = .ok (.aload_n 1, 1) := dk_43 (dk_at dksL_law_33 3 rfl rfl)
theorem dL_law_818 : decode cL_law 818 = .ok (.aload_n 0, 1) := dk_42 (dk_at dksL_law_33 4 rfl rfl)
theorem dL_law_819 : decode cL_law 819 = .ok (.iload 4, 2) := dk_21 4 (dk_at dksL_law_33 5 rfl rfl)
theorem dL_law_821 : decode cL_law 821 = .ok (.iconst 1, 1) := dk_4 (dk_at dksL_law_33 7 rfl rfl)
theorem dL_law_822 : decode cL_law 822 = .ok (.iadd, 1) := dk_96 (dk_at dksL_law_33 8 rfl rfl)
theorem dL_law_823 : decode cL_law 823 = .ok (.iaload, 1) := dk_46 (dk_at dksL_law_33 9 rfl rfl)
theorem dL_law_824 : decode cL_law 824 = .ok (.ifCond .eq 7, 3) := dk_153 0 7 (dk_at dksL_law_33 10 rfl rfl)
theorem dL_law_827 : decode cL_law 827 = .ok (.iconst 1, 1) := dk_4 (dk_at dksL_law_33 13 rfl rfl)
theorem dL_law_828 : decode cL_law 828 = .ok (.goto 4, 3) := dk_167 0 4 (dk_at dksL_law_33 14 rfl rfl)
theorem dL_law_831 : decode cL_law 831 = .ok (.iconst 0, 1) := dk_3 (dk_at dksL_law_33 17 rfl rfl)
theorem dL_law_832 : decode cL_law 832 = .ok (.aload_n 3, 1) := dk_45 (dk_at dksL_law_33 18 rfl rfl)
theorem dL_law_833 : decode cL_law 833 = .ok (.invokestatic 118, 3) := dk_184 0 118 (dk_at dksL_law_33 19 rfl rfl)
theorem dL_law_836 : decode cL_law 836 = .ok (.istore 5, 2) := dk_54 5 (dk_at dksL_law_33 22 rfl rfl)
theorem dL_law_838 : decode cL_law 838 = .ok (.aload_n 2, 1) := dk_44 (dk_at dksL_law_34 0 rfl rfl)
theorem dL_law_839 : decode cL_law 839 = .ok (.aload_n 0, 1) := dk_42 (dk_at dksL_law_34 1 rfl rfl)
theorem dL_law_840 : decode cL_law 840 = .ok (.iload 4, 2) := dk_21 4 (dk_at dksL_law_34 2 rfl rfl)
theorem dL_law_842 : decode cL_law 842 = .ok (.iconst 1, 1) := dk_4 (dk_at dksL_law_34 4 rfl rfl)
theorem dL_law_843 : decode cL_law 843 = .ok (.iadd, 1) := dk_96 (dk_at dksL_law_34 5 rfl rfl)
theorem dL_law_844 : decode cL_law 844 = .ok (.iaload, 1) := dk_46 (dk_at dksL_law_34 6 rfl rfl)
theorem dL_law_845 : decode cL_law 845 = .ok (.ifCond .eq 7, 3) := dk_153 0 7 (dk_at dksL_law_34 7 rfl rfl)
theorem dL_law_848 : decode cL_law 848 = .ok (.iconst 1, 1) := dk_4 (dk_at dksL_law_34 10 rfl rfl)
theorem dL_law_849 : decode cL_law 849 = .ok (.goto 4, 3) := dk_167 0 4 (dk_at dksL_law_34 11 rfl rfl)
theorem dL_law_852 : decode cL_law 852 = .ok (.iconst 0, 1) := dk_3 (dk_at dksL_law_34 14 rfl rfl)
theorem dL_law_853 : decode cL_law 853 = .ok (.invokevirtual 121, 3) := dk_182 0 121 (dk_at dksL_law_34 15 rfl rfl)
theorem dL_law_856 : decode cL_law 856 = .ok (.istore 6, 2) := dk_54 6 (dk_at dksL_law_34 18 rfl rfl)
theorem dL_law_858 : decode cL_law 858 = .ok (.aload_n 2, 1) := dk_44 (dk_at dksL_law_34 20 rfl rfl)
theorem dL_law_859 : decode cL_law 859 = .ok (.invokevirtual 86, 3) := dk_182 0 86 (dk_at dksL_law_34 21 rfl rfl)
theorem dL_law_862 : decode cL_law 862 = .ok (.iload 5, 2) := dk_21 5 (dk_at dksL_law_35 0 rfl rfl)
theorem dL_law_864 : decode cL_law 864 = .ok (.if_icmp .eq 5, 3) := dk_159 0 5 (dk_at dksL_law_35 2 rfl rfl)
theorem dL_law_867 : decode cL_law 867 = .ok (.iconst 0, 1) := dk_3 (dk_at dksL_law_35 5 rfl rfl)
theorem dL_law_868 : decode cL_law 868 = .ok (.ireturn, 1) := dk_172 (dk_at dksL_law_35 6 rfl rfl)
theorem dL_law_869 : decode cL_law 869 = .ok (.iload 5, 2) := dk_21 5 (dk_at dksL_law_35 7 rfl rfl)
theorem dL_law_871 : decode cL_law 871 = .ok (.ifCond .ne 15, 3) := dk_154 0 15 (dk_at dksL_law_35 9 rfl rfl)
theorem dL_law_874 : decode cL_law 874 = .ok (.aload_n 3, 1) := dk_45 (dk_at dksL_law_35 12 rfl rfl)
theorem dL_law_875 : decode cL_law 875 = .ok (.iconst 0, 1) := dk_3 (dk_at dksL_law_35 13 rfl rfl)
theorem dL_law_876 : decode cL_law 876 = .ok (.laload, 1) := dk_47 (dk_at dksL_law_35 14 rfl rfl)
theorem dL_law_877 : decode cL_law 877 = .ok (.iload 6, 2) := dk_21 6 (dk_at dksL_law_35 15 rfl rfl)
theorem dL_law_879 : decode cL_law 879 = .ok (.i2l, 1) := dk_133 (dk_at dksL_law_35 17 rfl rfl)
theorem dL_law_880 : decode cL_law 880 = .ok (.lcmp, 1) := dk_148 (dk_at dksL_law_35 18 rfl rfl)
theorem dL_law_881 : decode cL_law 881 = .ok (.ifCond .eq 5, 3) := dk_153 0 5 (dk_at dksL_law_35 19 rfl rfl)
theorem dL_law_884 : decode cL_law 884 = .ok (.iconst 0, 1) := dk_3 (dk_at dksL_law_35 22 rfl rfl)
theorem dL_law_885 : decode cL_law 885 = .ok (.ireturn, 1) := dk_172 (dk_at dksL_law_35 23 rfl rfl)
theorem dL_law_886 : decode cL_law 886 = .ok (.goto 422, 3) := dk_167 1 166 (dk_at dksL_law_36 0 rfl rfl)
theorem dL_law_889 : decode cL_law 889 = .ok (.aload_n 1, 1) := dk_43 (dk_at dksL_law_36 3 rfl rfl)
theorem dL_law_890 : decode cL_law 890 = .ok (.aload_n 0, 1) := dk_42 (dk_at dksL_law_36 4 rfl rfl)
theorem dL_law_891 : decode cL_law 891 = .ok (.iload 4, 2) := dk_21 4 (dk_at dksL_law_36 5 rfl rfl)
theorem dL_law_893 : decode cL_law 893 = .ok (.iconst 1, 1) := dk_4 (dk_at dksL_law_36 7 rfl rfl)
theorem dL_law_894 : decode cL_law 894 = .ok (.iadd, 1) := dk_96 (dk_at dksL_law_36 8 rfl rfl)
theorem dL_law_895 : decode cL_law 895 = .ok (.iaload, 1) := dk_46 (dk_at dksL_law_36 9 rfl rfl)
theorem dL_law_896 : decode cL_law 896 = .ok (.aload_n 0, 1) := dk_42 (dk_at dksL_law_36 10 rfl rfl)
theorem dL_law_897 : decode cL_law 897 = .ok (.iload 4, 2) := dk_21 4 (dk_at dksL_law_36 11 rfl rfl)
theorem dL_law_899 : decode cL_law 899 = .ok (.iconst 2, 1) := dk_5 (dk_at dksL_law_36 13 rfl rfl)
theorem dL_law_900 : decode cL_law 900 = .ok (.iadd, 1) := dk_96 (dk_at dksL_law_36 14 rfl rfl)
theorem dL_law_901 : decode cL_law 901 = .ok (.iaload, 1) := dk_46 (dk_at dksL_law_36 15 rfl rfl)
theorem dL_law_902 : decode cL_law 902 = .ok (.aload_n 3, 1) := dk_45 (dk_at dksL_law_36 16 rfl rfl)
theorem dL_law_903 : decode cL_law 903 = .ok (.invokestatic 122, 3) := dk_184 0 122 (dk_at dksL_law_36 17 rfl rfl)
theorem dL_law_906 : decode cL_law 906 = .ok (.istore 5, 2) := dk_54 5 (dk_at dksL_law_36 20 rfl rfl)
theorem dL_law_908 : decode cL_law 908 = .ok (.aload_n 2, 1) := dk_44 (dk_at dksL_law_36 22 rfl rfl)
theorem dL_law_909 : decode cL_law 909 = .ok (.aload_n 0, 1) := dk_42 (dk_at dksL_law_36 23 rfl rfl)
theorem dL_law_910 : decode cL_law 910 = .ok (.iload 4, 2) := dk_21 4 (dk_at dksL_law_37 0 rfl rfl)
theorem dL_law_912 : decode cL_law 912 = .ok (.iconst 1, 1) := dk_4 (dk_at dksL_law_37 2 rfl rfl)
theorem dL_law_913 : decode cL_law 913 = .ok (.iadd, 1) := dk_96 (dk_at dksL_law_37 3 rfl rfl)
theorem dL_law_914 : decode cL_law 914 = .ok (.iaload, 1) := dk_46 (dk_at dksL_law_37 4 rfl rfl)
theorem dL_law_915 : decode cL_law 915 = .ok (.aload_n 0, 1) := dk_42 (dk_at dksL_law_37 5 rfl rfl)
theorem dL_law_916 : decode cL_law 916 = .ok (.iload 4, 2) := dk_21 4 (dk_at dksL_law_37 6 rfl rfl)
theorem dL_law_918 : decode cL_law 918 = .ok (.iconst 2, 1) := dk_5 (dk_at dksL_law_37 8 rfl rfl)
theorem dL_law_919 : decode cL_law 919 = .ok (.iadd, 1) := dk_96 (dk_at dksL_law_37 9 rfl rfl)
theorem dL_law_920 : decode cL_law 920 = .ok (.iaload, 1) := dk_46 (dk_at dksL_law_37 10 rfl rfl)
theorem dL_law_921 : decode cL_law 921 = .ok (.invokevirtual 124, 3) := dk_182 0 124 (dk_at dksL_law_37 11 rfl rfl)
theorem dL_law_924 : decode cL_law 924 = .ok (.istore 6, 2) := dk_54 6 (dk_at dksL_law_37 14 rfl rfl)
theorem dL_law_926 : decode cL_law 926 = .ok (.aload_n 2, 1) := dk_44 (dk_at dksL_law_37 16 rfl rfl)
theorem dL_law_927 : decode cL_law 927 = .ok (.invokevirtual 86, 3) := dk_182 0 86 (dk_at dksL_law_37 17 rfl rfl)
theorem dL_law_930 : decode cL_law 930 = .ok (.iload 5, 2) := dk_21 5 (dk_at dksL_law_37 20 rfl rfl)
theorem dL_law_932 : decode cL_law 932 = .ok (.if_icmp .eq 5, 3) := dk_159 0 5 (dk_at dksL_law_38 0 rfl rfl)
theorem dL_law_935 : decode cL_law 935 = .ok (.iconst 0, 1) := dk_3 (dk_at dksL_law_38 3 rfl rfl)
theorem dL_law_936 : decode cL_law 936 = .ok (.ireturn, 1) := dk_172 (dk_at dksL_law_38 4 rfl rfl)
theorem dL_law_937 : decode cL_law 937 = .ok (.iload 5, 2) := dk_21 5 (dk_at dksL_law_38 5 rfl rfl)
theorem dL_law_939 : decode cL_law 939 = .ok (.ifCond .ne 15, 3) := dk_154 0 15 (dk_at dksL_law_38 7 rfl rfl)
theorem dL_law_942 : decode cL_law 942 = .ok (.aload_n 3, 1) := dk_45 (dk_at dksL_law_38 10 rfl rfl)
theorem dL_law_943 : decode cL_law 943 = .ok (.iconst 0, 1) := dk_3 (dk_at dksL_law_38 11 rfl rfl)
theorem dL_law_944 : decode cL_law 944 = .ok (.laload, 1) := dk_47 (dk_at dksL_law_38 12 rfl rfl)
theorem dL_law_945 : decode cL_law 945 = .ok (.iload 6, 2) := dk_21 6 (dk_at dksL_law_38 13 rfl rfl)
theorem dL_law_947 : decode cL_law 947 = .ok (.i2l, 1) := dk_133 (dk_at dksL_law_38 15 rfl rfl)
theorem dL_law_948 : decode cL_law 948 = .ok (.lcmp, 1) := dk_148 (dk_at dksL_law_38 16 rfl rfl)
theorem dL_law_949 : decode cL_law 949 = .ok (.ifCond .eq 5, 3) := dk_153 0 5 (dk_at dksL_law_38 17 rfl rfl)
theorem dL_law_952 : decode cL_law 952 = .ok (.iconst 0, 1) := dk_3 (dk_at dksL_law_38 20 rfl rfl)
theorem dL_law_953 : decode cL_law 953 = .ok (.ireturn, 1) := dk_172 (dk_at dksL_law_38 21 rfl rfl)
theorem dL_law_954 : decode cL_law 954 = .ok (.goto 354, 3) := dk_167 1 98 (dk_at dksL_law_39 0 rfl rfl)
theorem dL_law_957 : decode cL_law 957 = .ok (.aload_n 1, 1) := dk_43 (dk_at dksL_law_39 3 rfl rfl)
theorem dL_law_958 : decode cL_law 958 = .ok (.invokevirtual 125, 3) := dk_182 0 125 (dk_at dksL_law_39 4 rfl rfl)
theorem dL_law_961 : decode cL_law 961 = .ok (.aload_n 2, 1) := dk_44 (dk_at dksL_law_39 7 rfl rfl)
theorem dL_law_962 : decode cL_law 962 = .ok (.invokevirtual 128, 3) := dk_182 0 128 (dk_at dksL_law_39 8 rfl rfl)
theorem dL_law_965 : decode cL_law 965 = .ok (.if_icmp .eq 343, 3) := dk_159 1 87 (dk_at dksL_law_39 11 rfl rfl)
theorem dL_law_968 : decode cL_law 968 = .ok (.iconst 0, 1) := dk_3 (dk_at dksL_law_39 14 rfl rfl)
theorem dL_law_969 : decode cL_law 969 = .ok (.ireturn, 1) := dk_172 (dk_at dksL_law_39 15 rfl rfl)
theorem dL_law_970 : decode cL_law 970 = .ok (.aload_n 1, 1) := dk_43 (dk_at dksL_law_39 16 rfl rfl)
theorem dL_law_971 : decode cL_law 971 = .ok (.aload_n 0, 1) := dk_42 (dk_at dksL_law_39 17 rfl rfl)
theorem dL_law_972 : decode cL_law 972 = .ok (.iload 4, 2) := dk_21 4 (dk_at dksL_law_39 18 rfl rfl)
theorem dL_law_974 : decode cL_law 974 = .ok (.iconst 1, 1) := dk_4 (dk_at dksL_law_39 20 rfl rfl)
theorem dL_law_975 : decode cL_law 975 = .ok (.iadd, 1) := dk_96 (dk_at dksL_law_39 21 rfl rfl)
theorem dL_law_976 : decode cL_law 976 = .ok (.iaload, 1) := dk_46 (dk_at dksL_law_39 22 rfl rfl)
theorem dL_law_977 : decode cL_law 977 = .ok (.aload_n 0, 1) := dk_42 (dk_at dksL_law_39 23 rfl rfl)
theorem dL_law_978 : decode cL_law 978 = .ok (.iload 4, 2) := dk_21 4 (dk_at dksL_law_40 0 rfl rfl)
theorem dL_law_980 : decode cL_law 980 = .ok (.iconst 2, 1) := dk_5 (dk_at dksL_law_40 2 rfl rfl)
theorem dL_law_981 : decode cL_law 981 = .ok (.iadd, 1) := dk_96 (dk_at dksL_law_40 3 rfl rfl)
theorem dL_law_982 : decode cL_law 982 = .ok (.iaload, 1) := dk_46 (dk_at dksL_law_40 4 rfl rfl)
theorem dL_law_983 : decode cL_law 983 = .ok (.aload_n 3, 1) := dk_45 (dk_at dksL_law_40 5 rfl rfl)
theorem dL_law_984 : decode cL_law 984 = .ok (.invokestatic 129, 3) := dk_184 0 129 (dk_at dksL_law_40 6 rfl rfl)
theorem dL_law_987 : decode cL_law 987 = .ok (.istore 5, 2) := dk_54 5 (dk_at dksL_law_40 9 rfl rfl)
theorem dL_law_989 : decode cL_law 989 = .ok (.aload_n 2, 1) := dk_44 (dk_at dksL_law_40 11 rfl rfl)
theorem dL_law_990 : decode cL_law 990 = .ok (.aload_n 0, 1) := dk_42 (dk_at dksL_law_40 12 rfl rfl)
theorem dL_law_991 : decode cL_law 991 = .ok (.iload 4, 2) := dk_21 4 (dk_at dksL_law_40 13 rfl rfl)
theorem dL_law_993 : decode cL_law 993 = .ok (.iconst 1, 1) := dk_4 (dk_at dksL_law_40 15 rfl rfl)
theorem dL_law_994 : decode cL_law 994 = .ok (.iadd, 1) := dk_96 (dk_at dksL_law_40 16 rfl rfl)
theorem dL_law_995 : decode cL_law 995 = .ok (.iaload, 1) := dk_46 (dk_at dksL_law_40 17 rfl rfl)
theorem dL_law_996 : decode cL_law 996 = .ok (.aload_n 0, 1) := dk_42 (dk_at dksL_law_40 18 rfl rfl)
theorem dL_law_997 : decode cL_law 997 = .ok (.iload 4, 2) := dk_21 4 (dk_at dksL_law_40 19 rfl rfl)
theorem dL_law_999 : decode cL_law 999 = .ok (.iconst 2, 1) := dk_5 (dk_at dksL_law_40 21 rfl rfl)
theorem dL_law_1000 : decode cL_law 1000 = .ok (.iadd, 1) := dk_96 (dk_at dksL_law_40 22 rfl rfl)
theorem dL_law_1001 : decode cL_law 1001 = .ok (.iaload, 1) := dk_46 (dk_at dksL_law_40 23 rfl rfl)
theorem dL_law_1002 : decode cL_law 1002 = .ok (.invokevirtual 131, 3) := dk_182 0 131 (dk_at dksL_law_41 0 rfl rfl)
theorem dL_law_1005 : decode cL_law 1005 = .ok (.istore 6, 2) := dk_54 6 (dk_at dksL_law_41 3 rfl rfl)
theorem dL_law_1007 : decode cL_law 1007 = .ok (.aload_n 2, 1) := dk_44 (dk_at dksL_law_41 5 rfl rfl)
theorem dL_law_1008 : decode cL_law 1008 = .ok (.invokevirtual 86, 3) := dk_182 0 86 (dk_at dksL_law_41 6 rfl rfl)
theorem dL_law_1011 : decode cL_law 1011 = .ok (.iload 5, 2) := dk_21 5 (dk_at dksL_law_41 9 rfl rfl)
theorem dL_law_1013 : decode cL_law 1013 = .ok (.if_icmp .eq 5, 3) := dk_159 0 5 (dk_at dksL_law_41 11 rfl rfl)
theorem dL_law_1016 : decode cL_law 1016 = .ok (.iconst 0, 1) := dk_3 (dk_at dksL_law_41 14 rfl rfl)
theorem dL_law_1017 : decode cL_law 1017 = .ok (.ireturn, 1) := dk_172 (dk_at dksL_law_41 15 rfl rfl)
theorem dL_law_1018 : decode cL_law 1018 = .ok (.iload 5, 2) := dk_21 5 (dk_at dksL_law_41 16 rfl rfl)
theorem dL_law_1020 : decode cL_law 1020 = .ok (.ifCond .ne 15, 3) := dk_154 0 15 (dk_at dksL_law_41 18 rfl rfl)
theorem dL_law_1023 : decode cL_law 1023 = .ok (.aload_n 3, 1) := dk_45 (dk_at dksL_law_41 21 rfl rfl)
theorem dL_law_1024 : decode cL_law 1024 = .ok (.iconst 0, 1) := dk_3 (dk_at dksL_law_41 22 rfl rfl)
theorem dL_law_1025 : decode cL_law 1025 = .ok (.laload, 1) := dk_47 (dk_at dksL_law_41 23 rfl rfl)
theorem dL_law_1026 : decode cL_law 1026 = .ok (.iload 6, 2) := dk_21 6 (dk_at dksL_law_42 0 rfl rfl)
theorem dL_law_1028 : decode cL_law 1028 = .ok (.i2l, 1) := dk_133 (dk_at dksL_law_42 2 rfl rfl)
theorem dL_law_1029 : decode cL_law 1029 = .ok (.lcmp, 1) := dk_148 (dk_at dksL_law_42 3 rfl rfl)
theorem dL_law_1030 : decode cL_law 1030 = .ok (.ifCond .eq 5, 3) := dk_153 0 5 (dk_at dksL_law_42 4 rfl rfl)
theorem dL_law_1033 : decode cL_law 1033 = .ok (.iconst 0, 1) := dk_3 (dk_at dksL_law_42 7 rfl rfl)
theorem dL_law_1034 : decode cL_law 1034 = .ok (.ireturn, 1) := dk_172 (dk_at dksL_law_42 8 rfl rfl)
theorem dL_law_1035 : decode cL_law 1035 = .ok (.goto 273, 3) := dk_167 1 17 (dk_at dksL_law_42 9 rfl rfl)
theorem dL_law_1038 : decode cL_law 1038 = .ok (.aload_n 1, 1) := dk_43 (dk_at dksL_law_42 12 rfl rfl)
theorem dL_law_1039 : decode cL_law 1039 = .ok (.aload_n 0, 1) := dk_42 (dk_at dksL_law_42 13 rfl rfl)
theorem dL_law_1040 : decode cL_law 1040 = .ok (.iload 4, 2) := dk_21 4 (dk_at dksL_law_42 14 rfl rfl)
theorem dL_law_1042 : decode cL_law 1042 = .ok (.iconst 1, 1) := dk_4 (dk_at dksL_law_42 16 rfl rfl)
theorem dL_law_1043 : decode cL_law 1043 = .ok (.iadd, 1) := dk_96 (dk_at dksL_law_42 17 rfl rfl)
theorem dL_law_1044 : decode cL_law 1044 = .ok (.iaload, 1) := dk_46 (dk_at dksL_law_42 18 rfl rfl)
theorem dL_law_1045 : decode cL_law 1045 = .ok (.aload_n 0, 1) := dk_42 (dk_at dksL_law_42 19 rfl rfl)
theorem dL_law_1046 : decode cL_law 1046 = .ok (.iload 4, 2) := dk_21 4 (dk_at dksL_law_42 20 rfl rfl)
theorem dL_law_1048 : decode cL_law 1048 = .ok (.iconst 2, 1) := dk_5 (dk_at dksL_law_42 22 rfl rfl)
theorem dL_law_1049 : decode cL_law 1049 = .ok (.iadd, 1) := dk_96 (dk_at dksL_law_42 23 rfl rfl)
theorem dL_law_1050 : decode cL_law 1050 = .ok (.iaload, 1) := dk_46 (dk_at dksL_law_43 0 rfl rfl)
theorem dL_law_1051 : decode cL_law 1051 = .ok (.aload_n 3, 1) := dk_45 (dk_at dksL_law_43 1 rfl rfl)
theorem dL_law_1052 : decode cL_law 1052 = .ok (.invokestatic 132, 3) := dk_184 0 132 (dk_at dksL_law_43 2 rfl rfl)
theorem dL_law_1055 : decode cL_law 1055 = .ok (.istore 5, 2) := dk_54 5 (dk_at dksL_law_43 5 rfl rfl)
theorem dL_law_1057 : decode cL_law 1057 = .ok (.aload_n 2, 1) := dk_44 (dk_at dksL_law_43 7 rfl rfl)
theorem dL_law_1058 : decode cL_law 1058 = .ok (.aload_n 0, 1) := dk_42 (dk_at dksL_law_43 8 rfl rfl)
theorem dL_law_1059 : decode cL_law 1059 = .ok (.iload 4, 2) := dk_21 4 (dk_at dksL_law_43 9 rfl rfl)
theorem dL_law_1061 : decode cL_law 1061 = .ok (.iconst 1, 1) := dk_4 (dk_at dksL_law_43 11 rfl rfl)
theorem dL_law_1062 : decode cL_law 1062 = .ok (.iadd, 1) := dk_96 (dk_at dksL_law_43 12 rfl rfl)
theorem dL_law_1063 : decode cL_law 1063 = .ok (.iaload, 1) := dk_46 (dk_at dksL_law_43 13 rfl rfl)
theorem dL_law_1064 : decode cL_law 1064 = .ok (.aload_n 0, 1) := dk_42 (dk_at dksL_law_43 14 rfl rfl)
theorem dL_law_1065 : decode cL_law 1065 = .ok (.iload 4, 2) := dk_21 4 (dk_at dksL_law_43 15 rfl rfl)
theorem dL_law_1067 : decode cL_law 1067 = .ok (.iconst 2, 1) := dk_5 (dk_at dksL_law_43 17 rfl rfl)
theorem dL_law_1068 : decode cL_law 1068 = .ok (.iadd, 1) := dk_96 (dk_at dksL_law_43 18 rfl rfl)
theorem dL_law_1069 : decode cL_law 1069 = .ok (.iaload, 1) := dk_46 (dk_at dksL_law_43 19 rfl rfl)
theorem dL_law_1070 : decode cL_law 1070 = .ok (.invokevirtual 134, 3) := dk_182 0 134 (dk_at dksL_law_43 20 rfl rfl)
theorem dL_law_1073 : decode cL_law 1073 = .ok (.istore 6, 2) := dk_54 6 (dk_at dksL_law_44 0 rfl rfl)
theorem dL_law_1075 : decode cL_law 1075 = .ok (.aload_n 2, 1) := dk_44 (dk_at dksL_law_44 2 rfl rfl)
theorem dL_law_1076 : decode cL_law 1076 = .ok (.invokevirtual 86, 3) := dk_182 0 86 (dk_at dksL_law_44 3 rfl rfl)
theorem dL_law_1079 : decode cL_law 1079 = .ok (.iload 5, 2) := dk_21 5 (dk_at dksL_law_44 6 rfl rfl)
theorem dL_law_1081 : decode cL_law 1081 = .ok (.if_icmp .eq 5, 3) := dk_159 0 5 (dk_at dksL_law_44 8 rfl rfl)
theorem dL_law_1084 : decode cL_law 1084 = .ok (.iconst 0, 1) := dk_3 (dk_at dksL_law_44 11 rfl rfl)
theorem dL_law_1085 : decode cL_law 1085 = .ok (.ireturn, 1) := dk_172 (dk_at dksL_law_44 12 rfl rfl)
theorem dL_law_1086 : decode cL_law 1086 = .ok (.iload 5, 2) := dk_21 5 (dk_at dksL_law_44 13 rfl rfl)
theorem dL_law_1088 : decode cL_law 1088 = .ok (.ifCond .ne 15, 3) := dk_154 0 15 (dk_at dksL_law_44 15 rfl rfl)
theorem dL_law_1091 : decode cL_law 1091 = .ok (.aload_n 3, 1) := dk_45 (dk_at dksL_law_44 18 rfl rfl)
theorem dL_law_1092 : decode cL_law 1092 = .ok (.iconst 0, 1) := dk_3 (dk_at dksL_law_44 19 rfl rfl)
theorem dL_law_1093 : decode cL_law 1093 = .ok (.laload, 1) := dk_47 (dk_at dksL_law_44 20 rfl rfl)
theorem dL_law_1094 : decode cL_law 1094 = .ok (.iload 6, 2) := dk_21 6 (dk_at dksL_law_44 21 rfl rfl)
theorem dL_law_1096 : decode cL_law 1096 = .ok (.i2l, 1) := dk_133 (dk_at dksL_law_44 23 rfl rfl)
theorem dL_law_1097 : decode cL_law 1097 = .ok (.lcmp, 1) := dk_148 (dk_at dksL_law_45 0 rfl rfl)
theorem dL_law_1098 : decode cL_law 1098 = .ok (.ifCond .eq 5, 3) := dk_153 0 5 (dk_at dksL_law_45 1 rfl rfl)
theorem dL_law_1101 : decode cL_law 1101 = .ok (.iconst 0, 1) := dk_3 (dk_at dksL_law_45 4 rfl rfl)
theorem dL_law_1102 : decode cL_law 1102 = .ok (.ireturn, 1) := dk_172 (dk_at dksL_law_45 5 rfl rfl)
theorem dL_law_1103 : decode cL_law 1103 = .ok (.goto 205, 3) := dk_167 0 205 (dk_at dksL_law_45 6 rfl rfl)
theorem dL_law_1106 : decode cL_law 1106 = .ok (.aload_n 1, 1) := dk_43 (dk_at dksL_law_45 9 rfl rfl)
theorem dL_law_1107 : decode cL_law 1107 = .ok (.aload_n 0, 1) := dk_42 (dk_at dksL_law_45 10 rfl rfl)
theorem dL_law_1108 : decode cL_law 1108 = .ok (.iload 4, 2) := dk_21 4 (dk_at dksL_law_45 11 rfl rfl)
theorem dL_law_1110 : decode cL_law 1110 = .ok (.iconst 1, 1) := dk_4 (dk_at dksL_law_45 13 rfl rfl)
theorem dL_law_1111 : decode cL_law 1111 = .ok (.iadd, 1) := dk_96 (dk_at dksL_law_45 14 rfl rfl)
theorem dL_law_1112 : decode cL_law 1112 = .ok (.iaload, 1) := dk_46 (dk_at dksL_law_45 15 rfl rfl)
theorem dL_law_1113 : decode cL_law 1113 = .ok (.aload_n 0, 1) := dk_42 (dk_at dksL_law_45 16 rfl rfl)
theorem dL_law_1114 : decode cL_law 1114 = .ok (.iload 4, 2) := dk_21 4 (dk_at dksL_law_45 17 rfl rfl)
theorem dL_law_1116 : decode cL_law 1116 = .ok (.iconst 2, 1) := dk_5 (dk_at dksL_law_45 19 rfl rfl)
theorem dL_law_1117 : decode cL_law 1117 = .ok (.iadd, 1) := dk_96 (dk_at dksL_law_45 20 rfl rfl)
theorem dL_law_1118 : decode cL_law 1118 = .ok (.iaload, 1) := dk_46 (dk_at dksL_law_45 21 rfl rfl)
theorem dL_law_1119 : decode cL_law 1119 = .ok (.aload_n 0, 1) := dk_42 (dk_at dksL_law_45 22 rfl rfl)
theorem dL_law_1120 : decode cL_law 1120 = .ok (.iload 4, 2) := dk_21 4 (dk_at dksL_law_46 0 rfl rfl)
theorem dL_law_1122 : decode cL_law 1122 = .ok (.iconst 3, 1) := dk_6 (dk_at dksL_law_46 2 rfl rfl)
theorem dL_law_1123 : decode cL_law 1123 = .ok (.iadd, 1) := dk_96 (dk_at dksL_law_46 3 rfl rfl)
theorem dL_law_1124 : decode cL_law 1124 = .ok (.iaload, 1) := dk_46 (dk_at dksL_law_46 4 rfl rfl)
theorem dL_law_1125 : decode cL_law 1125 = .ok (.aload_n 3, 1) := dk_45 (dk_at dksL_law_46 5 rfl rfl)
theorem dL_law_1126 : decode cL_law 1126 = .ok (.invokestatic 135, 3) := dk_184 0 135 (dk_at dksL_law_46 6 rfl rfl)
theorem dL_law_1129 : decode cL_law 1129 = .ok (.istore 5, 2) := dk_54 5 (dk_at dksL_law_46 9 rfl rfl)
theorem dL_law_1131 : decode cL_law 1131 = .ok (.aload_n 2, 1) := dk_44 (dk_at dksL_law_46 11 rfl rfl)
theorem dL_law_1132 : decode cL_law 1132 = .ok (.aload_n 0, 1) := dk_42 (dk_at dksL_law_46 12 rfl rfl)
theorem dL_law_1133 : decode cL_law 1133 = .ok (.iload 4, 2) := dk_21 4 (dk_at dksL_law_46 13 rfl rfl)
theorem dL_law_1135 : decode cL_law 1135 = .ok (.iconst 1, 1) := dk_4 (dk_at dksL_law_46 15 rfl rfl)
theorem dL_law_1136 : decode cL_law 1136 = .ok (.iadd, 1) := dk_96 (dk_at dksL_law_46 16 rfl rfl)
theorem dL_law_1137 : decode cL_law 1137 = .ok (.iaload, 1) := dk_46 (dk_at dksL_law_46 17 rfl rfl)
theorem dL_law_1138 : decode cL_law 1138 = .ok (.aload_n 0, 1) := dk_42 (dk_at dksL_law_46 18 rfl rfl)
theorem dL_law_1139 : decode cL_law 1139 = .ok (.iload 4, 2) := dk_21 4 (dk_at dksL_law_46 19 rfl rfl)
theorem dL_law_1141 : decode cL_law 1141 = .ok (.iconst 2, 1) := dk_5 (dk_at dksL_law_46 21 rfl rfl)
theorem dL_law_1142 : decode cL_law 1142 = .ok (.iadd, 1) := dk_96 (dk_at dksL_law_46 22 rfl rfl)
theorem dL_law_1143 : decode cL_law 1143 = .ok (.iaload, 1) := dk_46 (dk_at dksL_law_46 23 rfl rfl)
theorem dL_law_1144 : decode cL_law 1144 = .ok (.aload_n 0, 1) := dk_42 (dk_at dksL_law_47 0 rfl rfl)
theorem dL_law_1145 : decode cL_law 1145 = .ok (.iload 4, 2) := dk_21 4 (dk_at dksL_law_47 1 rfl rfl)
theorem dL_law_1147 : decode cL_law 1147 = .ok (.iconst 3, 1) := dk_6 (dk_at dksL_law_47 3 rfl rfl)
theorem dL_law_1148 : decode cL_law 1148 = .ok (.iadd, 1) := dk_96 (dk_at dksL_law_47 4 rfl rfl)
theorem dL_law_1149 : decode cL_law 1149 = .ok (.iaload, 1) := dk_46 (dk_at dksL_law_47 5 rfl rfl)
theorem dL_law_1150 : decode cL_law 1150 = .ok (.invokevirtual 137, 3) := dk_182 0 137 (dk_at dksL_law_47 6 rfl rfl)
theorem dL_law_1153 : decode cL_law 1153 = .ok (.istore 6, 2) := dk_54 6 (dk_at dksL_law_47 9 rfl rfl)
theorem dL_law_1155 : decode cL_law 1155 = .ok (.aload_n 2, 1) := dk_44 (dk_at dksL_law_47 11 rfl rfl)
theorem dL_law_1156 : decode cL_law 1156 = .ok (.invokevirtual 86, 3) := dk_182 0 86 (dk_at dksL_law_47 12 rfl rfl)
theorem dL_law_1159 : decode cL_law 1159 = .ok (.iload 5, 2) := dk_21 5 (dk_at dksL_law_47 15 rfl rfl)
theorem dL_law_1161 : decode cL_law 1161 = .ok (.if_icmp .eq 5, 3) := dk_159 0 5 (dk_at dksL_law_47 17 rfl rfl)
theorem dL_law_1164 : decode cL_law 1164 = .ok (.iconst 0, 1) := dk_3 (dk_at dksL_law_47 20 rfl rfl)
theorem dL_law_1165 : decode cL_law 1165 = .ok (.ireturn, 1) := dk_172 (dk_at dksL_law_47 21 rfl rfl)
theorem dL_law_1166 : decode cL_law 1166 = .ok (.iload 5, 2) := dk_21 5 (dk_at dksL_law_47 22 rfl rfl)
theorem dL_law_1168 : decode cL_law 1168 = .ok (.ifCond .ne 22, 3) := dk_154 0 22 (dk_at dksL_law_48 0 rfl rfl)
theorem dL_law_1171 : decode cL_law 1171 = .ok (.aload_n 3, 1) := dk_45 (dk_at dksL_law_48 3 rfl rfl)
theorem dL_law_1172 : decode cL_law 1172 = .ok (.iconst 0, 1) := dk_3 (dk_at dksL_law_48 4 rfl rfl)
theorem dL_law_1173 : decode cL_law 1173 = .ok (.laload, 1) := dk_47 (dk_at dksL_law_48 5 rfl rfl)
theorem dL_law_1174 : decode cL_law 1174 = .ok (.iload 6, 2) := dk_21 6 (dk_at dksL_law_48 6 rfl rfl)
theorem dL_law_1176 : decode cL_law 1176 = .ok (.ifCond .eq 7, 3) := dk_153 0 7 (dk_at dksL_law_48 8 rfl rfl)
theorem dL_law_1179 : decode cL_law 1179 = .ok (.lconst 1, 1) := dk_10 (dk_at dksL_law_48 11 rfl rfl)
theorem dL_law_1180 : decode cL_law 1180 = .ok (.goto 4, 3) := dk_167 0 4 (dk_at dksL_law_48 12 rfl rfl)
theorem dL_law_1183 : decode cL_law 1183 = .ok (.lconst 0, 1) := dk_9 (dk_at dksL_law_48 15 rfl rfl)
theorem dL_law_1184 : decode cL_law 1184 = .ok (.lcmp, 1) := dk_148 (dk_at dksL_law_48 16 rfl rfl)
theorem dL_law_1185 : decode cL_law 1185 = .ok (.ifCond .eq 5, 3) := dk_153 0 5 (dk_at dksL_law_48 17 rfl rfl)
theorem dL_law_1188 : decode cL_law 1188 = .ok (.iconst 0, 1) := dk_3 (dk_at dksL_law_48 20 rfl rfl)
theorem dL_law_1189 : decode cL_law 1189 = .ok (.ireturn, 1) := dk_172 (dk_at dksL_law_48 21 rfl rfl)
theorem dL_law_1190 : decode cL_law 1190 = .ok (.goto 118, 3) := dk_167 0 118 (dk_at dksL_law_49 0 rfl rfl)
theorem dL_law_1193 : decode cL_law 1193 = .ok (.aload_n 1, 1) := dk_43 (dk_at dksL_law_49 3 rfl rfl)
theorem dL_law_1194 : decode cL_law 1194 = .ok (.aload_n 0, 1) := dk_42 (dk_at dksL_law_49 4 rfl rfl)
theorem dL_law_1195 : decode cL_law 1195 = .ok (.iload 4, 2) := dk_21 4 (dk_at dksL_law_49 5 rfl rfl)
theorem dL_law_1197 : decode cL_law 1197 = .ok (.iconst 1, 1) := dk_4 (dk_at dksL_law_49 7 rfl rfl)
theorem dL_law_1198 : decode cL_law 1198 = .ok (.iadd, 1) := dk_96 (dk_at dksL_law_49 8 rfl rfl)
theorem dL_law_1199 : decode cL_law 1199 = .ok (.iaload, 1) := dk_46 (dk_at dksL_law_49 9 rfl rfl)
theorem dL_law_1200 : decode cL_law 1200 = .ok (.aload_n 0, 1) := dk_42 (dk_at dksL_law_49 10 rfl rfl)
theorem dL_law_1201 : decode cL_law 1201 = .ok (.iload 4, 2) := dk_21 4 (dk_at dksL_law_49 11 rfl rfl)
theorem dL_law_1203 : decode cL_law 1203 = .ok (.iconst 2, 1) := dk_5 (dk_at dksL_law_49 13 rfl rfl)
theorem dL_law_1204 : decode cL_law 1204 = .ok (.iadd, 1) := dk_96 (dk_at dksL_law_49 14 rfl rfl)
theorem dL_law_1205 : decode cL_law 1205 = .ok (.iaload, 1) := dk_46 (dk_at dksL_law_49 15 rfl rfl)
theorem dL_law_1206 : decode cL_law 1206 = .ok (.aload_n 3, 1) := dk_45 (dk_at dksL_law_49 16 rfl rfl)
theorem dL_law_1207 : decode cL_law 1207 = .ok (.invokestatic 138, 3) := dk_184 0 138 (dk_at dksL_law_49 17 rfl rfl)
theorem dL_law_1210 : decode cL_law 1210 = .ok (.istore 5, 2) := dk_54 5 (dk_at dksL_law_49 20 rfl rfl)
theorem dL_law_1212 : decode cL_law 1212 = .ok (.aload_n 2, 1) := dk_44 (dk_at dksL_law_49 22 rfl rfl)
theorem dL_law_1213 : decode cL_law 1213 = .ok (.aload_n 0, 1) := dk_42 (dk_at dksL_law_49 23 rfl rfl)
theorem dL_law_1214 : decode cL_law 1214 = .ok (.iload 4, 2) := dk_21 4 (dk_at dksL_law_50 0 rfl rfl)
theorem dL_law_1216 : decode cL_law 1216 = .ok (.iconst 1, 1) := dk_4 (dk_at dksL_law_50 2 rfl rfl)
theorem dL_law_1217 : decode cL_law 1217 = .ok (.iadd, 1) := dk_96 (dk_at dksL_law_50 3 rfl rfl)
theorem dL_law_1218 : decode cL_law 1218 = .ok (.iaload, 1) := dk_46 (dk_at dksL_law_50 4 rfl rfl)
theorem dL_law_1219 : decode cL_law 1219 = .ok (.aload_n 0, 1) := dk_42 (dk_at dksL_law_50 5 rfl rfl)
theorem dL_law_1220 : decode cL_law 1220 = .ok (.iload 4, 2) := dk_21 4 (dk_at dksL_law_50 6 rfl rfl)
theorem dL_law_1222 : decode cL_law 1222 = .ok (.iconst 2, 1) := dk_5 (dk_at dksL_law_50 8 rfl rfl)
theorem dL_law_1223 : decode cL_law 1223 = .ok (.iadd, 1) := dk_96 (dk_at dksL_law_50 9 rfl rfl)
theorem dL_law_1224 : decode cL_law 1224 = .ok (.iaload, 1) := dk_46 (dk_at dksL_law_50 10 rfl rfl)
theorem dL_law_1225 : decode cL_law 1225 = .ok (.invokevirtual 140, 3) := dk_182 0 140 (dk_at dksL_law_50 11 rfl rfl)
theorem dL_law_1228 : decode cL_law 1228 = .ok (.istore 6, 2) := dk_54 6 (dk_at dksL_law_50 14 rfl rfl)
theorem dL_law_1230 : decode cL_law 1230 = .ok (.aload_n 2, 1) := dk_44 (dk_at dksL_law_50 16 rfl rfl)
theorem dL_law_1231 : decode cL_law 1231 = .ok (.invokevirtual 86, 3) := dk_182 0 86 (dk_at dksL_law_50 17 rfl rfl)
theorem dL_law_1234 : decode cL_law 1234 = .ok (.iload 5, 2) := dk_21 5 (dk_at dksL_law_50 20 rfl rfl)
theorem dL_law_1236 : decode cL_law 1236 = .ok (.if_icmp .eq 5, 3) := dk_159 0 5 (dk_at dksL_law_51 0 rfl rfl)
theorem dL_law_1239 : decode cL_law 1239 = .ok (.iconst 0, 1) := dk_3 (dk_at dksL_law_51 3 rfl rfl)
theorem dL_law_1240 : decode cL_law 1240 = .ok (.ireturn, 1) := dk_172 (dk_at dksL_law_51 4 rfl rfl)
theorem dL_law_1241 : decode cL_law 1241 = .ok (.iload 5, 2) := dk_21 5 (dk_at dksL_law_51 5 rfl rfl)
theorem dL_law_1243 : decode cL_law 1243 = .ok (.ifCond .ne 15, 3) := dk_154 0 15 (dk_at dksL_law_51 7 rfl rfl)
theorem dL_law_1246 : decode cL_law 1246 = .ok (.aload_n 3, 1) := dk_45 (dk_at dksL_law_51 10 rfl rfl)
theorem dL_law_1247 : decode cL_law 1247 = .ok (.iconst 0, 1) := dk_3 (dk_at dksL_law_51 11 rfl rfl)
theorem dL_law_1248 : decode cL_law 1248 = .ok (.laload, 1) := dk_47 (dk_at dksL_law_51 12 rfl rfl)
theorem dL_law_1249 : decode cL_law 1249 = .ok (.iload 6, 2) := dk_21 6 (dk_at dksL_law_51 13 rfl rfl)
theorem dL_law_1251 : decode cL_law 1251 = .ok (.i2l, 1) := dk_133 (dk_at dksL_law_51 15 rfl rfl)
theorem dL_law_1252 : decode cL_law 1252 = .ok (.lcmp, 1) := dk_148 (dk_at dksL_law_51 16 rfl rfl)
theorem dL_law_1253 : decode cL_law 1253 = .ok (.ifCond .eq 5, 3) := dk_153 0 5 (dk_at dksL_law_51 17 rfl rfl)
theorem dL_law_1256 : decode cL_law 1256 = .ok (.iconst 0, 1) := dk_3 (dk_at dksL_law_51 20 rfl rfl)
theorem dL_law_1257 : decode cL_law 1257 = .ok (.ireturn, 1) := dk_172 (dk_at dksL_law_51 21 rfl rfl)
theorem dL_law_1258 : decode cL_law 1258 = .ok (.goto 50, 3) := dk_167 0 50 (dk_at dksL_law_52 0 rfl rfl)
theorem dL_law_1261 : decode cL_law 1261 = .ok (.aload_n 1, 1) := dk_43 (dk_at dksL_law_52 3 rfl rfl)
theorem dL_law_1262 : decode cL_law 1262 = .ok (.aload_n 0, 1) := dk_42 (dk_at dksL_law_52 4 rfl rfl)
theorem dL_law_1263 : decode cL_law 1263 = .ok (.iload 4, 2) := dk_21 4 (dk_at dksL_law_52 5 rfl rfl)
theorem dL_law_1265 : decode cL_law 1265 = .ok (.iconst 1, 1) := dk_4 (dk_at dksL_law_52 7 rfl rfl)
theorem dL_law_1266 : decode cL_law 1266 = .ok (.iadd, 1) := dk_96 (dk_at dksL_law_52 8 rfl rfl)
theorem dL_law_1267 : decode cL_law 1267 = .ok (.iaload, 1) := dk_46 (dk_at dksL_law_52 9 rfl rfl)
theorem dL_law_1268 : decode cL_law 1268 = .ok (.invokevirtual 141, 3) := dk_182 0 141 (dk_at dksL_law_52 10 rfl rfl)
theorem dL_law_1271 : decode cL_law 1271 = .ok (.aload_n 2, 1) := dk_44 (dk_at dksL_law_52 13 rfl rfl)
theorem dL_law_1272 : decode cL_law 1272 = .ok (.aload_n 0, 1) := dk_42 (dk_at dksL_law_52 14 rfl rfl)
theorem dL_law_1273 : decode cL_law 1273 = .ok (.iload 4, 2) := dk_21 4 (dk_at dksL_law_52 15 rfl rfl)
theorem dL_law_1275 : decode cL_law 1275 = .ok (.iconst 1, 1) := dk_4 (dk_at dksL_law_52 17 rfl rfl)
theorem dL_law_1276 : decode cL_law 1276 = .ok (.iadd, 1) := dk_96 (dk_at dksL_law_52 18 rfl rfl)
theorem dL_law_1277 : decode cL_law 1277 = .ok (.iaload, 1) := dk_46 (dk_at dksL_law_52 19 rfl rfl)
theorem dL_law_1278 : decode cL_law 1278 = .ok (.invokevirtual 144, 3) := dk_182 0 144 (dk_at dksL_law_52 20 rfl rfl)
theorem dL_law_1281 : decode cL_law 1281 = .ok (.if_icmp .eq 27, 3) := dk_159 0 27 (dk_at dksL_law_53 0 rfl rfl)
theorem dL_law_1284 : decode cL_law 1284 = .ok (.iconst 0, 1) := dk_3 (dk_at dksL_law_53 3 rfl rfl)
theorem dL_law_1285 : decode cL_law 1285 = .ok (.ireturn, 1) := dk_172 (dk_at dksL_law_53 4 rfl rfl)
theorem dL_law_1286 : decode cL_law 1286 = .ok (.aload_n 1, 1) := dk_43 (dk_at dksL_law_53 5 rfl rfl)
theorem dL_law_1287 : decode cL_law 1287 = .ok (.invokevirtual 145, 3) := dk_182 0 145 (dk_at dksL_law_53 6 rfl rfl)
theorem dL_law_1290 : decode cL_law 1290 = .ok (.aload_n 2, 1) := dk_44 (dk_at dksL_law_53 9 rfl rfl)
theorem dL_law_1291 : decode cL_law 1291 = .ok (.invokevirtual 148, 3) := dk_182 0 148 (dk_at dksL_law_53 10 rfl rfl)
theorem dL_law_1294 : decode cL_law 1294 = .ok (.goto 14, 3) := dk_167 0 14 (dk_at dksL_law_53 13 rfl rfl)
theorem dL_law_1297 : decode cL_law 1297 = .ok (.aload_n 1, 1) := dk_43 (dk_at dksL_law_53 16 rfl rfl)
theorem dL_law_1298 : decode cL_law 1298 = .ok (.invokevirtual 149, 3) := dk_182 0 149 (dk_at dksL_law_53 17 rfl rfl)
theorem dL_law_1301 : decode cL_law 1301 = .ok (.aload_n 2, 1) := dk_44 (dk_at dksL_law_53 20 rfl rfl)
theorem dL_law_1302 : decode cL_law 1302 = .ok (.invokevirtual 152, 3) := dk_182 0 152 (dk_at dksL_law_53 21 rfl rfl)
theorem dL_law_1305 : decode cL_law 1305 = .ok (.goto 3, 3) := dk_167 0 3 (dk_at dksL_law_54 0 rfl rfl)
theorem dL_law_1308 : decode cL_law 1308 = .ok (.iinc 4 5, 3) := dk_132 4 5 (dk_at dksL_law_54 3 rfl rfl)
theorem dL_law_1311 : decode cL_law 1311 = .ok (.goto (-1278), 3) := dk_167 251 2 (dk_at dksL_law_54 6 rfl rfl)
theorem dL_law_1314 : decode cL_law 1314 = .ok (.iconst 1, 1) := dk_4 (dk_at dksL_law_54 9 rfl rfl)
theorem dL_law_1315 : decode cL_law 1315 = .ok (.ireturn, 1) := dk_172 (dk_at dksL_law_54 10 rfl rfl)
