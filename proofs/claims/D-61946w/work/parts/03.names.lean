/-! BilevelPages$Reader -/
set_option maxRecDepth 100000
def RX2 : String := "BilevelPages$Reader"
def TX2 : u_T := fun k => match k with
  | 0 => ("BilevelPages$Reader", "all", "[B", true)
  | 1 => ("BilevelPages$Reader", "limit", "I", false)
  | 2 => ("BilevelPages$Reader", "at", "I", false)
  | 3 => ("BilevelPages$Reader", "last", "I", false)
  | 4 => ("BilevelPages$Reader", "open", "I", false)
  | 5 => ("BilevelPages$Reader", "sheetMany", "I", false)
  | 6 => ("BilevelPages$Reader", "global", "Z", false)
  | _ => ("BilevelPages$Reader", "this$0", "LBilevelPages;", true)
def tyX2 : Nat → FieldType := fun k => match k with
  | 0 => .array .byte
  | 1 => .int
  | 2 => .int
  | 3 => .int
  | 4 => .int
  | 5 => .int
  | 6 => .boolean
  | _ => .object "BilevelPages"
abbrev wsX20 : List Cond := u_ws RX2 TX2 8
theorem nmX2 : ∀ a, a < 8 → ∀ b, b < 8 → a ≠ b → (TX2 a).2.1 ≠ (TX2 b).2.1 := by decide +kernel
theorem tyX2_ok : ∀ k, k < 8 → parseFieldDescriptor (TX2 k).2.2.1 = some (tyX2 k) := by decide +kernel
abbrev cX2_init : ByteArray := prog_3_method_1_code
def yX2_init : MethodName := ⟨RX2, "<init>", "(LBilevelPages;)V"⟩
def dkwX2_init_0 : List UInt8 := [42, 43, 181, 0, 3, 42, 183, 0, 9, 42, 17, 11, 184, 188, 8, 181, 0, 15, 177]
abbrev dktX2_init_0 : List UInt8 := dkwX2_init_0 ++ []
theorem dksX2_init_0 : cX2_init.data.toList.drop 0 = dktX2_init_0 := by decide +kernel
theorem dX2_init_0 : decode cX2_init 0 = .ok (.aload_n 0, 1) := dk_42 (dk_at dksX2_init_0 0 rfl rfl)
theorem dX2_init_1 : decode cX2_init 1 = .ok (.aload_n 1, 1) := dk_43 (dk_at dksX2_init_0 1 rfl rfl)
theorem dX2_init_2 : decode cX2_init 2 = .ok (.putfield 3, 3) := dk_181 0 3 (dk_at dksX2_init_0 2 rfl rfl)
theorem dX2_init_5 : decode cX2_init 5 = .ok (.aload_n 0, 1) := dk_42 (dk_at dksX2_init_0 5 rfl rfl)
theorem dX2_init_6 : decode cX2_init 6 = .ok (.invokespecial 9, 3) := dk_183 0 9 (dk_at dksX2_init_0 6 rfl rfl)
theorem dX2_init_9 : decode cX2_init 9 = .ok (.aload_n 0, 1) := dk_42 (dk_at dksX2_init_0 9 rfl rfl)
theorem dX2_init_10 : decode cX2_init 10 = .ok (.sipush 3000, 3) := dk_17 11 184 (dk_at dksX2_init_0 10 rfl rfl)
theorem dX2_init_13 : decode cX2_init 13 = .ok (.newarray .byte, 2) := dk_188_8 (dk_at dksX2_init_0 13 rfl rfl)
theorem dX2_init_15 : decode cX2_init 15 = .ok (.putfield 15, 3) := dk_181 0 15 (dk_at dksX2_init_0 15 rfl rfl)
theorem dX2_init_18 : decode cX2_init 18 = .ok (.return_, 1) := dk_177 (dk_at dksX2_init_0 18 rfl rfl)
abbrev cX2_begin : ByteArray := prog_3_method_2_code
def yX2_begin : MethodName := ⟨RX2, "begin", "()V"⟩
def dkwX2_begin_5 : List UInt8 := [50, 58, 4, 25, 4, 3, 181, 0, 61, 132, 3, 1, 167, 255, 237, 177]
abbrev dktX2_begin_5 : List UInt8 := dkwX2_begin_5 ++ []
def dkwX2_begin_4 : List UInt8 := [96, 181, 0, 54, 42, 180, 0, 3, 180, 0, 57, 76, 43, 190, 61, 3, 62, 29, 28, 162, 0, 20, 43, 29]
abbrev dktX2_begin_4 : List UInt8 := dkwX2_begin_4 ++ dktX2_begin_5
def dkwX2_begin_3 : List UInt8 := [180, 0, 3, 180, 0, 51, 184, 0, 42, 42, 42, 180, 0, 3, 180, 0, 39, 42, 180, 0, 3, 180, 0, 51]
abbrev dktX2_begin_3 : List UInt8 := dkwX2_begin_3 ++ dktX2_begin_4
def dkwX2_begin_2 : List UInt8 := [184, 0, 42, 42, 180, 0, 3, 180, 0, 48, 3, 42, 180, 0, 15, 42, 180, 0, 3, 180, 0, 39, 42]
abbrev dktX2_begin_2 : List UInt8 := dkwX2_begin_2 ++ dktX2_begin_3
def dkwX2_begin_1 : List UInt8 := [181, 0, 32, 42, 180, 0, 3, 180, 0, 36, 3, 42, 180, 0, 15, 3, 42, 180, 0, 3, 180, 0, 39]
abbrev dktX2_begin_1 : List UInt8 := dkwX2_begin_1 ++ dktX2_begin_2
def dkwX2_begin_0 : List UInt8 := [42, 3, 181, 0, 19, 42, 2, 181, 0, 23, 42, 2, 181, 0, 26, 42, 3, 181, 0, 29, 42, 3]
abbrev dktX2_begin_0 : List UInt8 := dkwX2_begin_0 ++ dktX2_begin_1
theorem dksX2_begin_0 : cX2_begin.data.toList.drop 0 = dktX2_begin_0 := by decide +kernel
theorem dksX2_begin_1 : cX2_begin.data.toList.drop 22 = dktX2_begin_1 := dk_seg dksX2_begin_0 22 rfl rfl
theorem dksX2_begin_2 : cX2_begin.data.toList.drop 45 = dktX2_begin_2 := dk_seg dksX2_begin_1 23 rfl rfl
theorem dksX2_begin_3 : cX2_begin.data.toList.drop 68 = dktX2_begin_3 := dk_seg dksX2_begin_2 23 rfl rfl
theorem dksX2_begin_4 : cX2_begin.data.toList.drop 92 = dktX2_begin_4 := dk_seg dksX2_begin_3 24 rfl rfl
theorem dksX2_begin_5 : cX2_begin.data.toList.drop 116 = dktX2_begin_5 := dk_seg dksX2_begin_4 24 rfl rfl
theorem dX2_begin_0 : decode cX2_begin 0 = .ok (.aload_n 0, 1) := dk_42 (dk_at dksX2_begin_0 0 rfl rfl)
theorem dX2_begin_1 : decode cX2_begin 1 = .ok (.iconst 0, 1) := dk_3 (dk_at dksX2_begin_0 1 rfl rfl)
theorem dX2_begin_2 : decode cX2_begin 2 = .ok (.putfield 19, 3) := dk_181 0 19 (dk_at dksX2_begin_0 2 rfl rfl)
theorem dX2_begin_5 : decode cX2_begin 5 = .ok (.aload_n 0, 1) := dk_42 (dk_at dksX2_begin_0 5 rfl rfl)
theorem dX2_begin_6 : decode cX2_begin 6 = .ok (.iconst (-1), 1) := dk_2 (dk_at dksX2_begin_0 6 rfl rfl)
theorem dX2_begin_7 : decode cX2_begin 7 = .ok (.putfield 23, 3) := dk_181 0 23 (dk_at dksX2_begin_0 7 rfl rfl)
theorem dX2_begin_10 : decode cX2_begin 10 = .ok (.aload_n 0, 1) := dk_42 (dk_at dksX2_begin_0 10 rfl rfl)
theorem dX2_begin_11 : decode cX2_begin 11 = .ok (.iconst (-1), 1) := dk_2 (dk_at dksX2_begin_0 11 rfl rfl)
theorem dX2_begin_12 : decode cX2_begin 12 = .ok (.putfield 26, 3) := dk_181 0 26 (dk_at dksX2_begin_0 12 rfl rfl)
theorem dX2_begin_15 : decode cX2_begin 15 = .ok (.aload_n 0, 1) := dk_42 (dk_at dksX2_begin_0 15 rfl rfl)
theorem dX2_begin_16 : decode cX2_begin 16 = .ok (.iconst 0, 1) := dk_3 (dk_at dksX2_begin_0 16 rfl rfl)
theorem dX2_begin_17 : decode cX2_begin 17 = .ok (.putfield 29, 3) := dk_181 0 29 (dk_at dksX2_begin_0 17 rfl rfl)
theorem dX2_begin_20 : decode cX2_begin 20 = .ok (.aload_n 0, 1) := dk_42 (dk_at dksX2_begin_0 20 rfl rfl)
theorem dX2_begin_21 : decode cX2_begin 21 = .ok (.iconst 0, 1) := dk_3 (dk_at dksX2_begin_0 21 rfl rfl)
theorem dX2_begin_22 : decode cX2_begin 22 = .ok (.putfield 32, 3) := dk_181 0 32 (dk_at dksX2_begin_1 0 rfl rfl)
theorem dX2_begin_25 : decode cX2_begin 25 = .ok (.aload_n 0, 1) := dk_42 (dk_at dksX2_begin_1 3 rfl rfl)
theorem dX2_begin_26 : decode cX2_begin 26 = .ok (.getfield 3, 3) := dk_180 0 3 (dk_at dksX2_begin_1 4 rfl rfl)
theorem dX2_begin_29 : decode cX2_begin 29 = .ok (.getfield 36, 3) := dk_180 0 36 (dk_at dksX2_begin_1 7 rfl rfl)
theorem dX2_begin_32 : decode cX2_begin 32 = .ok (.iconst 0, 1) := dk_3 (dk_at dksX2_begin_1 10 rfl rfl)
theorem dX2_begin_33 : decode cX2_begin 33 = .ok (.aload_n 0, 1) := dk_42 (dk_at dksX2_begin_1 11 rfl rfl)
theorem dX2_begin_34 : decode cX2_begin 34 = .ok (.getfield 15, 3) := dk_180 0 15 (dk_at dksX2_begin_1 12 rfl rfl)
theorem dX2_begin_37 : decode cX2_begin 37 = .ok (.iconst 0, 1) := dk_3 (dk_at dksX2_begin_1 15 rfl rfl)
theorem dX2_begin_38 : decode cX2_begin 38 = .ok (.aload_n 0, 1) := dk_42 (dk_at dksX2_begin_1 16 rfl rfl)
theorem dX2_begin_39 : decode cX2_begin 39 = .ok (.getfield 3, 3) := dk_180 0 3 (dk_at dksX2_begin_1 17 rfl rfl)
theorem dX2_begin_42 : decode cX2_begin 42 = .ok (.getfield 39, 3) := dk_180 0 39 (dk_at dksX2_begin_1 20 rfl rfl)
theorem dX2_begin_45 : decode cX2_begin 45 = .ok (.invokestatic 42, 3) := dk_184 0 42 (dk_at dksX2_begin_2 0 rfl rfl)
theorem dX2_begin_48 : decode cX2_begin 48 = .ok (.aload_n 0, 1) := dk_42 (dk_at dksX2_begin_2 3 rfl rfl)
theorem dX2_begin_49 : decode cX2_begin 49 = .ok (.getfield 3, 3) := dk_180 0 3 (dk_at dksX2_begin_2 4 rfl rfl)
theorem dX2_begin_52 : decode cX2_begin 52 = .ok (.getfield 48, 3) := dk_180 0 48 (dk_at dksX2_begin_2 7 rfl rfl)
theorem dX2_begin_55 : decode cX2_begin 55 = .ok (.iconst 0, 1) := dk_3 (dk_at dksX2_begin_2 10 rfl rfl)
theorem dX2_begin_56 : decode cX2_begin 56 = .ok (.aload_n 0, 1) := dk_42 (dk_at dksX2_begin_2 11 rfl rfl)
theorem dX2_begin_57 : decode cX2_begin 57 = .ok (.getfield 15, 3) := dk_180 0 15 (dk_at dksX2_begin_2 12 rfl rfl)
theorem dX2_begin_60 : decode cX2_begin 60 = .ok (.aload_n 0, 1) := dk_42 (dk_at dksX2_begin_2 15 rfl rfl)
theorem dX2_begin_61 : decode cX2_begin 61 = .ok (.getfield 3, 3) := dk_180 0 3 (dk_at dksX2_begin_2 16 rfl rfl)
theorem dX2_begin_64 : decode cX2_begin 64 = .ok (.getfield 39, 3) := dk_180 0 39 (dk_at dksX2_begin_2 19 rfl rfl)
theorem dX2_begin_67 : decode cX2_begin 67 = .ok (.aload_n 0, 1) := dk_42 (dk_at dksX2_begin_2 22 rfl rfl)
theorem dX2_begin_68 : decode cX2_begin 68 = .ok (.getfield 3, 3) := dk_180 0 3 (dk_at dksX2_begin_3 0 rfl rfl)
theorem dX2_begin_71 : decode cX2_begin 71 = .ok (.getfield 51, 3) := dk_180 0 51 (dk_at dksX2_begin_3 3 rfl rfl)
theorem dX2_begin_74 : decode cX2_begin 74 = .ok (.invokestatic 42, 3) := dk_184 0 42 (dk_at dksX2_begin_3 6 rfl rfl)
theorem dX2_begin_77 : decode cX2_begin 77 = .ok (.aload_n 0, 1) := dk_42 (dk_at dksX2_begin_3 9 rfl rfl)
theorem dX2_begin_78 : decode cX2_begin 78 = .ok (.aload_n 0, 1) := dk_42 (dk_at dksX2_begin_3 10 rfl rfl)
theorem dX2_begin_79 : decode cX2_begin 79 = .ok (.getfield 3, 3) := dk_180 0 3 (dk_at dksX2_begin_3 11 rfl rfl)
theorem dX2_begin_82 : decode cX2_begin 82 = .ok (.getfield 39, 3) := dk_180 0 39 (dk_at dksX2_begin_3 14 rfl rfl)
theorem dX2_begin_85 : decode cX2_begin 85 = .ok (.aload_n 0, 1) := dk_42 (dk_at dksX2_begin_3 17 rfl rfl)
theorem dX2_begin_86 : decode cX2_begin 86 = .ok (.getfield 3, 3) := dk_180 0 3 (dk_at dksX2_begin_3 18 rfl rfl)
theorem dX2_begin_89 : decode cX2_begin 89 = .ok (.getfield 51, 3) := dk_180 0 51 (dk_at dksX2_begin_3 21 rfl rfl)
theorem dX2_begin_92 : decode cX2_begin 92 = .ok (.iadd, 1) := dk_96 (dk_at dksX2_begin_4 0 rfl rfl)
theorem dX2_begin_93 : decode cX2_begin 93 = .ok (.putfield 54, 3) := dk_181 0 54 (dk_at dksX2_begin_4 1 rfl rfl)
theorem dX2_begin_96 : decode cX2_begin 96 = .ok (.aload_n 0, 1) := dk_42 (dk_at dksX2_begin_4 4 rfl rfl)
theorem dX2_begin_97 : decode cX2_begin 97 = .ok (.getfield 3, 3) := dk_180 0 3 (dk_at dksX2_begin_4 5 rfl rfl)
theorem dX2_begin_100 : decode cX2_begin 100 = .ok (.getfield 57, 3) := dk_180 0 57 (dk_at dksX2_begin_4 8 rfl rfl)
theorem dX2_begin_103 : decode cX2_begin 103 = .ok (.astore_n 1, 1) := dk_76 (dk_at dksX2_begin_4 11 rfl rfl)
theorem dX2_begin_104 : decode cX2_begin 104 = .ok (.aload_n 1, 1) := dk_43 (dk_at dksX2_begin_4 12 rfl rfl)
theorem dX2_begin_105 : decode cX2_begin 105 = .ok (.arraylength, 1) := dk_190 (dk_at dksX2_begin_4 13 rfl rfl)
theorem dX2_begin_106 : decode cX2_begin 106 = .ok (.istore_n 2, 1) := dk_61 (dk_at dksX2_begin_4 14 rfl rfl)
theorem dX2_begin_107 : decode cX2_begin 107 = .ok (.iconst 0, 1) := dk_3 (dk_at dksX2_begin_4 15 rfl rfl)
theorem dX2_begin_108 : decode cX2_begin 108 = .ok (.istore_n 3, 1) := dk_62 (dk_at dksX2_begin_4 16 rfl rfl)
theorem dX2_begin_109 : decode cX2_begin 109 = .ok (.iload_n 3, 1) := dk_29 (dk_at dksX2_begin_4 17 rfl rfl)
theorem dX2_begin_110 : decode cX2_begin 110 = .ok (.iload_n 2, 1) := dk_28 (dk_at dksX2_begin_4 18 rfl rfl)
theorem dX2_begin_111 : decode cX2_begin 111 = .ok (.if_icmp .ge 20, 3) := dk_162 0 20 (dk_at dksX2_begin_4 19 rfl rfl)
theorem dX2_begin_114 : decode cX2_begin 114 = .ok (.aload_n 1, 1) := dk_43 (dk_at dksX2_begin_4 22 rfl rfl)
theorem dX2_begin_115 : decode cX2_begin 115 = .ok (.iload_n 3, 1) := dk_29 (dk_at dksX2_begin_4 23 rfl rfl)
theorem dX2_begin_116 : decode cX2_begin 116 = .ok (.aaload, 1) := dk_50 (dk_at dksX2_begin_5 0 rfl rfl)
theorem dX2_begin_117 : decode cX2_begin 117 = .ok (.astore 4, 2) := dk_58 4 (dk_at dksX2_begin_5 1 rfl rfl)
theorem dX2_begin_119 : decode cX2_begin 119 = .ok (.aload 4, 2) := dk_25 4 (dk_at dksX2_begin_5 3 rfl rfl)
theorem dX2_begin_121 : decode cX2_begin 121 = .ok (.iconst 0, 1) := dk_3 (dk_at dksX2_begin_5 5 rfl rfl)
theorem dX2_begin_122 : decode cX2_begin 122 = .ok (.putfield 61, 3) := dk_181 0 61 (dk_at dksX2_begin_5 6 rfl rfl)
theorem dX2_begin_125 : decode cX2_begin 125 = .ok (.iinc 3 1, 3) := dk_132 3 1 (dk_at dksX2_begin_5 9 rfl rfl)
theorem dX2_begin_128 : decode cX2_begin 128 = .ok (.goto (-19), 3) := dk_167 255 237 (dk_at dksX2_begin_5 12 rfl rfl)
theorem dX2_begin_131 : decode cX2_begin 131 = .ok (.return_, 1) := dk_177 (dk_at dksX2_begin_5 15 rfl rfl)
abbrev cX2_readAll : ByteArray := prog_3_method_6_code
def yX2_readAll : MethodName := ⟨RX2, "readAll", "()V"⟩
def dkwX2_readAll_8 : List UInt8 := [16, 10, 42, 180, 0, 19, 184, 0, 70, 177]
abbrev dktX2_readAll_8 : List UInt8 := dkwX2_readAll_8 ++ []
def dkwX2_readAll_7 : List UInt8 := [167, 0, 7, 42, 182, 0, 90, 42, 180, 0, 19, 42, 180, 0, 54, 160, 0, 7, 4, 167, 0, 4, 3]
abbrev dktX2_readAll_7 : List UInt8 := dkwX2_readAll_7 ++ dktX2_readAll_8
def dkwX2_readAll_6 : List UInt8 := [3, 184, 0, 70, 42, 16, 13, 181, 0, 19, 42, 180, 0, 3, 180, 0, 74, 154, 0, 10, 42, 182, 0, 77]
abbrev dktX2_readAll_6 : List UInt8 := dkwX2_readAll_6 ++ dktX2_readAll_7
def dkwX2_readAll_5 : List UInt8 := [42, 16, 8, 182, 0, 66, 4, 42, 180, 0, 3, 180, 0, 74, 100, 160, 0, 7, 4, 167, 0, 4, 3, 5]
abbrev dktX2_readAll_5 : List UInt8 := dkwX2_readAll_5 ++ dktX2_readAll_6
def dkwX2_readAll_4 : List UInt8 := [178, 0, 86, 27, 46, 160, 0, 7, 4, 167, 0, 4, 3, 5, 3, 184, 0, 70, 132, 1, 1, 167, 255, 224]
abbrev dktX2_readAll_4 : List UInt8 := dkwX2_readAll_4 ++ dktX2_readAll_5
def dkwX2_readAll_3 : List UInt8 := [184, 0, 70, 177, 42, 20, 0, 80, 182, 0, 82, 3, 60, 27, 16, 8, 162, 0, 32, 42, 27, 182, 0, 66]
abbrev dktX2_readAll_3 : List UInt8 := dkwX2_readAll_3 ++ dktX2_readAll_4
def dkwX2_readAll_2 : List UInt8 := [182, 0, 77, 42, 180, 0, 26, 2, 160, 0, 7, 4, 167, 0, 4, 3, 16, 10, 42, 180, 0, 54]
abbrev dktX2_readAll_2 : List UInt8 := dkwX2_readAll_2 ++ dktX2_readAll_3
def dkwX2_readAll_1 : List UInt8 := [181, 0, 54, 42, 4, 181, 0, 32, 42, 182, 0, 77, 42, 27, 181, 0, 54, 42, 3, 181, 0, 32, 42]
abbrev dktX2_readAll_1 : List UInt8 := dkwX2_readAll_1 ++ dktX2_readAll_2
def dkwX2_readAll_0 : List UInt8 := [42, 180, 0, 3, 180, 0, 74, 5, 160, 0, 65, 42, 180, 0, 54, 60, 42, 42, 180, 0, 3, 180, 0, 39]
abbrev dktX2_readAll_0 : List UInt8 := dkwX2_readAll_0 ++ dktX2_readAll_1
theorem dksX2_readAll_0 : cX2_readAll.data.toList.drop 0 = dktX2_readAll_0 := by decide +kernel
theorem dksX2_readAll_1 : cX2_readAll.data.toList.drop 24 = dktX2_readAll_1 := dk_seg dksX2_readAll_0 24 rfl rfl
theorem dksX2_readAll_2 : cX2_readAll.data.toList.drop 47 = dktX2_readAll_2 := dk_seg dksX2_readAll_1 23 rfl rfl
theorem dksX2_readAll_3 : cX2_readAll.data.toList.drop 69 = dktX2_readAll_3 := dk_seg dksX2_readAll_2 22 rfl rfl
theorem dksX2_readAll_4 : cX2_readAll.data.toList.drop 93 = dktX2_readAll_4 := dk_seg dksX2_readAll_3 24 rfl rfl
theorem dksX2_readAll_5 : cX2_readAll.data.toList.drop 117 = dktX2_readAll_5 := dk_seg dksX2_readAll_4 24 rfl rfl
theorem dksX2_readAll_6 : cX2_readAll.data.toList.drop 141 = dktX2_readAll_6 := dk_seg dksX2_readAll_5 24 rfl rfl
theorem dksX2_readAll_7 : cX2_readAll.data.toList.drop 165 = dktX2_readAll_7 := dk_seg dksX2_readAll_6 24 rfl rfl
theorem dksX2_readAll_8 : cX2_readAll.data.toList.drop 188 = dktX2_readAll_8 := dk_seg dksX2_readAll_7 23 rfl rfl
theorem dX2_readAll_0 : decode cX2_readAll 0 = .ok (.aload_n 0, 1) := dk_42 (dk_at dksX2_readAll_0 0 rfl rfl)
theorem dX2_readAll_1 : decode cX2_readAll 1 = .ok (.getfield 3, 3) := dk_180 0 3 (dk_at dksX2_readAll_0 1 rfl rfl)
theorem dX2_readAll_4 : decode cX2_readAll 4 = .ok (.getfield 74, 3) := dk_180 0 74 (dk_at dksX2_readAll_0 4 rfl rfl)
theorem dX2_readAll_7 : decode cX2_readAll 7 = .ok (.iconst 2, 1) := dk_5 (dk_at dksX2_readAll_0 7 rfl rfl)
theorem dX2_readAll_8 : decode cX2_readAll 8 = .ok (.if_icmp .ne 65, 3) := dk_160 0 65 (dk_at dksX2_readAll_0 8 rfl rfl)
theorem dX2_readAll_11 : decode cX2_readAll 11 = .ok (.aload_n 0, 1) := dk_42 (dk_at dksX2_readAll_0 11 rfl rfl)
theorem dX2_readAll_12 : decode cX2_readAll 12 = .ok (.getfield 54, 3) := dk_180 0 54 (dk_at dksX2_readAll_0 12 rfl rfl)
theorem dX2_readAll_15 : decode cX2_readAll 15 = .ok (.istore_n 1, 1) := dk_60 (dk_at dksX2_readAll_0 15 rfl rfl)
theorem dX2_readAll_16 : decode cX2_readAll 16 = .ok (.aload_n 0, 1) := dk_42 (dk_at dksX2_readAll_0 16 rfl rfl)
theorem dX2_readAll_17 : decode cX2_readAll 17 = .ok (.aload_n 0, 1) := dk_42 (dk_at dksX2_readAll_0 17 rfl rfl)
theorem dX2_readAll_18 : decode cX2_readAll 18 = .ok (.getfield 3, 3) := dk_180 0 3 (dk_at dksX2_readAll_0 18 rfl rfl)
theorem dX2_readAll_21 : decode cX2_readAll 21 = .ok (.getfield 39, 3) := dk_180 0 39 (dk_at dksX2_readAll_0 21 rfl rfl)
theorem dX2_readAll_24 : decode cX2_readAll 24 = .ok (.putfield 54, 3) := dk_181 0 54 (dk_at dksX2_readAll_1 0 rfl rfl)
theorem dX2_readAll_27 : decode cX2_readAll 27 = .ok (.aload_n 0, 1) := dk_42 (dk_at dksX2_readAll_1 3 rfl rfl)
theorem dX2_readAll_28 : decode cX2_readAll 28 = .ok (.iconst 1, 1) := dk_4 (dk_at dksX2_readAll_1 4 rfl rfl)
theorem dX2_readAll_29 : decode cX2_readAll 29 = .ok (.putfield 32, 3) := dk_181 0 32 (dk_at dksX2_readAll_1 5 rfl rfl)
theorem dX2_readAll_32 : decode cX2_readAll 32 = .ok (.aload_n 0, 1) := dk_42 (dk_at dksX2_readAll_1 8 rfl rfl)
theorem dX2_readAll_33 : decode cX2_readAll 33 = .ok (.invokevirtual 77, 3) := dk_182 0 77 (dk_at dksX2_readAll_1 9 rfl rfl)
theorem dX2_readAll_36 : decode cX2_readAll 36 = .ok (.aload_n 0, 1) := dk_42 (dk_at dksX2_readAll_1 12 rfl rfl)
theorem dX2_readAll_37 : decode cX2_readAll 37 = .ok (.iload_n 1, 1) := dk_27 (dk_at dksX2_readAll_1 13 rfl rfl)
theorem dX2_readAll_38 : decode cX2_readAll 38 = .ok (.putfield 54, 3) := dk_181 0 54 (dk_at dksX2_readAll_1 14 rfl rfl)
theorem dX2_readAll_41 : decode cX2_readAll 41 = .ok (.aload_n 0, 1) := dk_42 (dk_at dksX2_readAll_1 17 rfl rfl)
theorem dX2_readAll_42 : decode cX2_readAll 42 = .ok (.iconst 0, 1) := dk_3 (dk_at dksX2_readAll_1 18 rfl rfl)
theorem dX2_readAll_43 : decode cX2_readAll 43 = .ok (.putfield 32, 3) := dk_181 0 32 (dk_at dksX2_readAll_1 19 rfl rfl)
theorem dX2_readAll_46 : decode cX2_readAll 46 = .ok (.aload_n 0, 1) := dk_42 (dk_at dksX2_readAll_1 22 rfl rfl)
theorem dX2_readAll_47 : decode cX2_readAll 47 = .ok (.invokevirtual 77, 3) := dk_182 0 77 (dk_at dksX2_readAll_2 0 rfl rfl)
theorem dX2_readAll_50 : decode cX2_readAll 50 = .ok (.aload_n 0, 1) := dk_42 (dk_at dksX2_readAll_2 3 rfl rfl)
theorem dX2_readAll_51 : decode cX2_readAll 51 = .ok (.getfield 26, 3) := dk_180 0 26 (dk_at dksX2_readAll_2 4 rfl rfl)
theorem dX2_readAll_54 : decode cX2_readAll 54 = .ok (.iconst (-1), 1) := dk_2 (dk_at dksX2_readAll_2 7 rfl rfl)
theorem dX2_readAll_55 : decode cX2_readAll 55 = .ok (.if_icmp .ne 7, 3) := dk_160 0 7 (dk_at dksX2_readAll_2 8 rfl rfl)
theorem dX2_readAll_58 : decode cX2_readAll 58 = .ok (.iconst 1, 1) := dk_4 (dk_at dksX2_readAll_2 11 rfl rfl)
theorem dX2_readAll_59 : decode cX2_readAll 59 = .ok (.goto 4, 3) := dk_167 0 4 (dk_at dksX2_readAll_2 12 rfl rfl)
theorem dX2_readAll_62 : decode cX2_readAll 62 = .ok (.iconst 0, 1) := dk_3 (dk_at dksX2_readAll_2 15 rfl rfl)
theorem dX2_readAll_63 : decode cX2_readAll 63 = .ok (.bipush 10, 2) := dk_16 10 (dk_at dksX2_readAll_2 16 rfl rfl)
theorem dX2_readAll_65 : decode cX2_readAll 65 = .ok (.aload_n 0, 1) := dk_42 (dk_at dksX2_readAll_2 18 rfl rfl)
theorem dX2_readAll_66 : decode cX2_readAll 66 = .ok (.getfield 54, 3) := dk_180 0 54 (dk_at dksX2_readAll_2 19 rfl rfl)
theorem dX2_readAll_69 : decode cX2_readAll 69 = .ok (.invokestatic 70, 3) := dk_184 0 70 (dk_at dksX2_readAll_3 0 rfl rfl)
theorem dX2_readAll_72 : decode cX2_readAll 72 = .ok (.return_, 1) := dk_177 (dk_at dksX2_readAll_3 3 rfl rfl)
theorem dX2_readAll_73 : decode cX2_readAll 73 = .ok (.aload_n 0, 1) := dk_42 (dk_at dksX2_readAll_3 4 rfl rfl)
theorem dX2_readAll_74 : decode cX2_readAll 74 = .ok (.ldc2_w 80, 3) := dk_20 0 80 (dk_at dksX2_readAll_3 5 rfl rfl)
theorem dX2_readAll_77 : decode cX2_readAll 77 = .ok (.invokevirtual 82, 3) := dk_182 0 82 (dk_at dksX2_readAll_3 8 rfl rfl)
theorem dX2_readAll_80 : decode cX2_readAll 80 = .ok (.iconst 0, 1) := dk_3 (dk_at dksX2_readAll_3 11 rfl rfl)
theorem dX2_readAll_81 : decode cX2_readAll 81 = .ok (.istore_n 1, 1) := dk_60 (dk_at dksX2_readAll_3 12 rfl rfl)
theorem dX2_readAll_82 : decode cX2_readAll 82 = .ok (.iload_n 1, 1) := dk_27 (dk_at dksX2_readAll_3 13 rfl rfl)
theorem dX2_readAll_83 : decode cX2_readAll 83 = .ok (.bipush 8, 2) := dk_16 8 (dk_at dksX2_readAll_3 14 rfl rfl)
theorem dX2_readAll_85 : decode cX2_readAll 85 = .ok (.if_icmp .ge 32, 3) := dk_162 0 32 (dk_at dksX2_readAll_3 16 rfl rfl)
theorem dX2_readAll_88 : decode cX2_readAll 88 = .ok (.aload_n 0, 1) := dk_42 (dk_at dksX2_readAll_3 19 rfl rfl)
theorem dX2_readAll_89 : decode cX2_readAll 89 = .ok (.iload_n 1, 1) := dk_27 (dk_at dksX2_readAll_3 20 rfl rfl)
theorem dX2_readAll_90 : decode cX2_readAll 90 = .ok (.invokevirtual 66, 3) := dk_182 0 66 (dk_at dksX2_readAll_3 21 rfl rfl)
theorem dX2_readAll_93 : decode cX2_readAll 93 = .ok (.getstatic 86, 3) := dk_178 0 86 (dk_at dksX2_readAll_4 0 rfl rfl)
theorem dX2_readAll_96 : decode cX2_readAll 96 = .ok (.iload_n 1, 1) := dk_27 (dk_at dksX2_readAll_4 3 rfl rfl)
theorem dX2_readAll_97 : decode cX2_readAll 97 = .ok (.iaload, 1) := dk_46 (dk_at dksX2_readAll_4 4 rfl rfl)
theorem dX2_readAll_98 : decode cX2_readAll 98 = .ok (.if_icmp .ne 7, 3) := dk_160 0 7 (dk_at dksX2_readAll_4 5 rfl rfl)
theorem dX2_readAll_101 : decode cX2_readAll 101 = .ok (.iconst 1, 1) := dk_4 (dk_at dksX2_readAll_4 8 rfl rfl)
theorem dX2_readAll_102 : decode cX2_readAll 102 = .ok (.goto 4, 3) := dk_167 0 4 (dk_at dksX2_readAll_4 9 rfl rfl)
theorem dX2_readAll_105 : decode cX2_readAll 105 = .ok (.iconst 0, 1) := dk_3 (dk_at dksX2_readAll_4 12 rfl rfl)
theorem dX2_readAll_106 : decode cX2_readAll 106 = .ok (.iconst 2, 1) := dk_5 (dk_at dksX2_readAll_4 13 rfl rfl)
theorem dX2_readAll_107 : decode cX2_readAll 107 = .ok (.iconst 0, 1) := dk_3 (dk_at dksX2_readAll_4 14 rfl rfl)
theorem dX2_readAll_108 : decode cX2_readAll 108 = .ok (.invokestatic 70, 3) := dk_184 0 70 (dk_at dksX2_readAll_4 15 rfl rfl)
theorem dX2_readAll_111 : decode cX2_readAll 111 = .ok (.iinc 1 1, 3) := dk_132 1 1 (dk_at dksX2_readAll_4 18 rfl rfl)
theorem dX2_readAll_114 : decode cX2_readAll 114 = .ok (.goto (-32), 3) := dk_167 255 224 (dk_at dksX2_readAll_4 21 rfl rfl)
theorem dX2_readAll_117 : decode cX2_readAll 117 = .ok (.aload_n 0, 1) := dk_42 (dk_at dksX2_readAll_5 0 rfl rfl)
theorem dX2_readAll_118 : decode cX2_readAll 118 = .ok (.bipush 8, 2) := dk_16 8 (dk_at dksX2_readAll_5 1 rfl rfl)
theorem dX2_readAll_120 : decode cX2_readAll 120 = .ok (.invokevirtual 66, 3) := dk_182 0 66 (dk_at dksX2_readAll_5 3 rfl rfl)
theorem dX2_readAll_123 : decode cX2_readAll 123 = .ok (.iconst 1, 1) := dk_4 (dk_at dksX2_readAll_5 6 rfl rfl)
theorem dX2_readAll_124 : decode cX2_readAll 124 = .ok (.aload_n 0, 1) := dk_42 (dk_at dksX2_readAll_5 7 rfl rfl)
theorem dX2_readAll_125 : decode cX2_readAll 125 = .ok (.getfield 3, 3) := dk_180 0 3 (dk_at dksX2_readAll_5 8 rfl rfl)
theorem dX2_readAll_128 : decode cX2_readAll 128 = .ok (.getfield 74, 3) := dk_180 0 74 (dk_at dksX2_readAll_5 11 rfl rfl)
theorem dX2_readAll_131 : decode cX2_readAll 131 = .ok (.isub, 1) := dk_100 (dk_at dksX2_readAll_5 14 rfl rfl)
theorem dX2_readAll_132 : decode cX2_readAll 132 = .ok (.if_icmp .ne 7, 3) := dk_160 0 7 (dk_at dksX2_readAll_5 15 rfl rfl)
theorem dX2_readAll_135 : decode cX2_readAll 135 = .ok (.iconst 1, 1) := dk_4 (dk_at dksX2_readAll_5 18 rfl rfl)
theorem dX2_readAll_136 : decode cX2_readAll 136 = .ok (.goto 4, 3) := dk_167 0 4 (dk_at dksX2_readAll_5 19 rfl rfl)
theorem dX2_readAll_139 : decode cX2_readAll 139 = .ok (.iconst 0, 1) := dk_3 (dk_at dksX2_readAll_5 22 rfl rfl)
theorem dX2_readAll_140 : decode cX2_readAll 140 = .ok (.iconst 2, 1) := dk_5 (dk_at dksX2_readAll_5 23 rfl rfl)
theorem dX2_readAll_141 : decode cX2_readAll 141 = .ok (.iconst 0, 1) := dk_3 (dk_at dksX2_readAll_6 0 rfl rfl)
theorem dX2_readAll_142 : decode cX2_readAll 142 = .ok (.invokestatic 70, 3) := dk_184 0 70 (dk_at dksX2_readAll_6 1 rfl rfl)
theorem dX2_readAll_145 : decode cX2_readAll 145 = .ok (.aload_n 0, 1) := dk_42 (dk_at dksX2_readAll_6 4 rfl rfl)
theorem dX2_readAll_146 : decode cX2_readAll 146 = .ok (.bipush 13, 2) := dk_16 13 (dk_at dksX2_readAll_6 5 rfl rfl)
theorem dX2_readAll_148 : decode cX2_readAll 148 = .ok (.putfield 19, 3) := dk_181 0 19 (dk_at dksX2_readAll_6 7 rfl rfl)
theorem dX2_readAll_151 : decode cX2_readAll 151 = .ok (.aload_n 0, 1) := dk_42 (dk_at dksX2_readAll_6 10 rfl rfl)
theorem dX2_readAll_152 : decode cX2_readAll 152 = .ok (.getfield 3, 3) := dk_180 0 3 (dk_at dksX2_readAll_6 11 rfl rfl)
theorem dX2_readAll_155 : decode cX2_readAll 155 = .ok (.getfield 74, 3) := dk_180 0 74 (dk_at dksX2_readAll_6 14 rfl rfl)
theorem dX2_readAll_158 : decode cX2_readAll 158 = .ok (.ifCond .ne 10, 3) := dk_154 0 10 (dk_at dksX2_readAll_6 17 rfl rfl)
theorem dX2_readAll_161 : decode cX2_readAll 161 = .ok (.aload_n 0, 1) := dk_42 (dk_at dksX2_readAll_6 20 rfl rfl)
theorem dX2_readAll_162 : decode cX2_readAll 162 = .ok (.invokevirtual 77, 3) := dk_182 0 77 (dk_at dksX2_readAll_6 21 rfl rfl)
theorem dX2_readAll_165 : decode cX2_readAll 165 = .ok (.goto 7, 3) := dk_167 0 7 (dk_at dksX2_readAll_7 0 rfl rfl)
theorem dX2_readAll_168 : decode cX2_readAll 168 = .ok (.aload_n 0, 1) := dk_42 (dk_at dksX2_readAll_7 3 rfl rfl)
theorem dX2_readAll_169 : decode cX2_readAll 169 = .ok (.invokevirtual 90, 3) := dk_182 0 90 (dk_at dksX2_readAll_7 4 rfl rfl)
theorem dX2_readAll_172 : decode cX2_readAll 172 = .ok (.aload_n 0, 1) := dk_42 (dk_at dksX2_readAll_7 7 rfl rfl)
theorem dX2_readAll_173 : decode cX2_readAll 173 = .ok (.getfield 19, 3) := dk_180 0 19 (dk_at dksX2_readAll_7 8 rfl rfl)
theorem dX2_readAll_176 : decode cX2_readAll 176 = .ok (.aload_n 0, 1) := dk_42 (dk_at dksX2_readAll_7 11 rfl rfl)
theorem dX2_readAll_177 : decode cX2_readAll 177 = .ok (.getfield 54, 3) := dk_180 0 54 (dk_at dksX2_readAll_7 12 rfl rfl)
theorem dX2_readAll_180 : decode cX2_readAll 180 = .ok (.if_icmp .ne 7, 3) := dk_160 0 7 (dk_at dksX2_readAll_7 15 rfl rfl)
theorem dX2_readAll_183 : decode cX2_readAll 183 = .ok (.iconst 1, 1) := dk_4 (dk_at dksX2_readAll_7 18 rfl rfl)
theorem dX2_readAll_184 : decode cX2_readAll 184 = .ok (.goto 4, 3) := dk_167 0 4 (dk_at dksX2_readAll_7 19 rfl rfl)
theorem dX2_readAll_187 : decode cX2_readAll 187 = .ok (.iconst 0, 1) := dk_3 (dk_at dksX2_readAll_7 22 rfl rfl)
theorem dX2_readAll_188 : decode cX2_readAll 188 = .ok (.bipush 10, 2) := dk_16 10 (dk_at dksX2_readAll_8 0 rfl rfl)
theorem dX2_readAll_190 : decode cX2_readAll 190 = .ok (.aload_n 0, 1) := dk_42 (dk_at dksX2_readAll_8 2 rfl rfl)
theorem dX2_readAll_191 : decode cX2_readAll 191 = .ok (.getfield 19, 3) := dk_180 0 19 (dk_at dksX2_readAll_8 3 rfl rfl)
theorem dX2_readAll_194 : decode cX2_readAll 194 = .ok (.invokestatic 70, 3) := dk_184 0 70 (dk_at dksX2_readAll_8 6 rfl rfl)
theorem dX2_readAll_197 : decode cX2_readAll 197 = .ok (.return_, 1) := dk_177 (dk_at dksX2_readAll_8 9 rfl rfl)
abbrev cX2_readInTurn : ByteArray := prog_3_method_7_code
def yX2_readInTurn : MethodName := ⟨RX2, "readInTurn", "()V"⟩
def dkwX2_readInTurn_4 : List UInt8 := [167, 0, 19, 42, 180, 0, 19, 42, 180, 0, 54, 162, 0, 7, 4, 167, 0, 4, 3, 60, 167, 255, 173, 177]
abbrev dktX2_readInTurn_4 : List UInt8 := dkwX2_readInTurn_4 ++ []
def dkwX2_readInTurn_3 : List UInt8 := [180, 0, 3, 180, 0, 74, 154, 0, 21, 44, 180, 0, 115, 178, 0, 121, 165, 0, 7, 4, 167, 0, 23, 3]
abbrev dktX2_readInTurn_3 : List UInt8 := dkwX2_readInTurn_3 ++ dktX2_readInTurn_4
def dkwX2_readInTurn_2 : List UInt8 := [182, 0, 101, 87, 42, 44, 42, 180, 0, 3, 180, 0, 97, 182, 0, 107, 4, 100, 182, 0, 111, 42]
abbrev dktX2_readInTurn_2 : List UInt8 := dkwX2_readInTurn_2 ++ dktX2_readInTurn_3
def dkwX2_readInTurn_1 : List UInt8 := [167, 0, 4, 3, 60, 27, 153, 0, 85, 42, 182, 0, 93, 77, 42, 180, 0, 3, 180, 0, 97, 44]
abbrev dktX2_readInTurn_1 : List UInt8 := dkwX2_readInTurn_1 ++ dktX2_readInTurn_2
def dkwX2_readInTurn_0 : List UInt8 := [42, 180, 0, 3, 180, 0, 74, 153, 0, 14, 42, 180, 0, 19, 42, 180, 0, 54, 162, 0, 7, 4]
abbrev dktX2_readInTurn_0 : List UInt8 := dkwX2_readInTurn_0 ++ dktX2_readInTurn_1
theorem dksX2_readInTurn_0 : cX2_readInTurn.data.toList.drop 0 = dktX2_readInTurn_0 := by decide +kernel
theorem dksX2_readInTurn_1 : cX2_readInTurn.data.toList.drop 22 = dktX2_readInTurn_1 := dk_seg dksX2_readInTurn_0 22 rfl rfl
theorem dksX2_readInTurn_2 : cX2_readInTurn.data.toList.drop 44 = dktX2_readInTurn_2 := dk_seg dksX2_readInTurn_1 22 rfl rfl
theorem dksX2_readInTurn_3 : cX2_readInTurn.data.toList.drop 66 = dktX2_readInTurn_3 := dk_seg dksX2_readInTurn_2 22 rfl rfl
theorem dksX2_readInTurn_4 : cX2_readInTurn.data.toList.drop 90 = dktX2_readInTurn_4 := dk_seg dksX2_readInTurn_3 24 rfl rfl
theorem dX2_readInTurn_0 : decode cX2_readInTurn 0 = .ok (.aload_n 0, 1) := dk_42 (dk_at dksX2_readInTurn_0 0 rfl rfl)
theorem dX2_readInTurn_1 : decode cX2_readInTurn 1 = .ok (.getfield 3, 3) := dk_180 0 3 (dk_at dksX2_readInTurn_0 1 rfl rfl)
theorem dX2_readInTurn_4 : decode cX2_readInTurn 4 = .ok (.getfield 74, 3) := dk_180 0 74 (dk_at dksX2_readInTurn_0 4 rfl rfl)
theorem dX2_readInTurn_7 : decode cX2_readInTurn 7 = .ok (.ifCond .eq 14, 3) := dk_153 0 14 (dk_at dksX2_readInTurn_0 7 rfl rfl)
theorem dX2_readInTurn_10 : decode cX2_readInTurn 10 = .ok (.aload_n 0, 1) := dk_42 (dk_at dksX2_readInTurn_0 10 rfl rfl)
theorem dX2_readInTurn_11 : decode cX2_readInTurn 11 = .ok (.getfield 19, 3) := dk_180 0 19 (dk_at dksX2_readInTurn_0 11 rfl rfl)
theorem dX2_readInTurn_14 : decode cX2_readInTurn 14 = .ok (.aload_n 0, 1) := dk_42 (dk_at dksX2_readInTurn_0 14 rfl rfl)
theorem dX2_readInTurn_15 : decode cX2_readInTurn 15 = .ok (.getfield 54, 3) := dk_180 0 54 (dk_at dksX2_readInTurn_0 15 rfl rfl)
theorem dX2_readInTurn_18 : decode cX2_readInTurn 18 = .ok (.if_icmp .ge 7, 3) := dk_162 0 7 (dk_at dksX2_readInTurn_0 18 rfl rfl)
theorem dX2_readInTurn_21 : decode cX2_readInTurn 21 = .ok (.iconst 1, 1) := dk_4 (dk_at dksX2_readInTurn_0 21 rfl rfl)
theorem dX2_readInTurn_22 : decode cX2_readInTurn 22 = .ok (.goto 4, 3) := dk_167 0 4 (dk_at dksX2_readInTurn_1 0 rfl rfl)
theorem dX2_readInTurn_25 : decode cX2_readInTurn 25 = .ok (.iconst 0, 1) := dk_3 (dk_at dksX2_readInTurn_1 3 rfl rfl)
theorem dX2_readInTurn_26 : decode cX2_readInTurn 26 = .ok (.istore_n 1, 1) := dk_60 (dk_at dksX2_readInTurn_1 4 rfl rfl)
theorem dX2_readInTurn_27 : decode cX2_readInTurn 27 = .ok (.iload_n 1, 1) := dk_27 (dk_at dksX2_readInTurn_1 5 rfl rfl)
theorem dX2_readInTurn_28 : decode cX2_readInTurn 28 = .ok (.ifCond .eq 85, 3) := dk_153 0 85 (dk_at dksX2_readInTurn_1 6 rfl rfl)
theorem dX2_readInTurn_31 : decode cX2_readInTurn 31 = .ok (.aload_n 0, 1) := dk_42 (dk_at dksX2_readInTurn_1 9 rfl rfl)
theorem dX2_readInTurn_32 : decode cX2_readInTurn 32 = .ok (.invokevirtual 93, 3) := dk_182 0 93 (dk_at dksX2_readInTurn_1 10 rfl rfl)
theorem dX2_readInTurn_35 : decode cX2_readInTurn 35 = .ok (.astore_n 2, 1) := dk_77 (dk_at dksX2_readInTurn_1 13 rfl rfl)
theorem dX2_readInTurn_36 : decode cX2_readInTurn 36 = .ok (.aload_n 0, 1) := dk_42 (dk_at dksX2_readInTurn_1 14 rfl rfl)
theorem dX2_readInTurn_37 : decode cX2_readInTurn 37 = .ok (.getfield 3, 3) := dk_180 0 3 (dk_at dksX2_readInTurn_1 15 rfl rfl)
theorem dX2_readInTurn_40 : decode cX2_readInTurn 40 = .ok (.getfield 97, 3) := dk_180 0 97 (dk_at dksX2_readInTurn_1 18 rfl rfl)
theorem dX2_readInTurn_43 : decode cX2_readInTurn 43 = .ok (.aload_n 2, 1) := dk_44 (dk_at dksX2_readInTurn_1 21 rfl rfl)
theorem dX2_readInTurn_44 : decode cX2_readInTurn 44 = .ok (.invokevirtual 101, 3) := dk_182 0 101 (dk_at dksX2_readInTurn_2 0 rfl rfl)
theorem dX2_readInTurn_47 : decode cX2_readInTurn 47 = .ok (.pop, 1) := dk_87 (dk_at dksX2_readInTurn_2 3 rfl rfl)
theorem dX2_readInTurn_48 : decode cX2_readInTurn 48 = .ok (.aload_n 0, 1) := dk_42 (dk_at dksX2_readInTurn_2 4 rfl rfl)
theorem dX2_readInTurn_49 : decode cX2_readInTurn 49 = .ok (.aload_n 2, 1) := dk_44 (dk_at dksX2_readInTurn_2 5 rfl rfl)
theorem dX2_readInTurn_50 : decode cX2_readInTurn 50 = .ok (.aload_n 0, 1) := dk_42 (dk_at dksX2_readInTurn_2 6 rfl rfl)
theorem dX2_readInTurn_51 : decode cX2_readInTurn 51 = .ok (.getfield 3, 3) := dk_180 0 3 (dk_at dksX2_readInTurn_2 7 rfl rfl)
theorem dX2_readInTurn_54 : decode cX2_readInTurn 54 = .ok (.getfield 97, 3) := dk_180 0 97 (dk_at dksX2_readInTurn_2 10 rfl rfl)
theorem dX2_readInTurn_57 : decode cX2_readInTurn 57 = .ok (.invokevirtual 107, 3) := dk_182 0 107 (dk_at dksX2_readInTurn_2 13 rfl rfl)
theorem dX2_readInTurn_60 : decode cX2_readInTurn 60 = .ok (.iconst 1, 1) := dk_4 (dk_at dksX2_readInTurn_2 16 rfl rfl)
theorem dX2_readInTurn_61 : decode cX2_readInTurn 61 = .ok (.isub, 1) := dk_100 (dk_at dksX2_readInTurn_2 17 rfl rfl)
theorem dX2_readInTurn_62 : decode cX2_readInTurn 62 = .ok (.invokevirtual 111, 3) := dk_182 0 111 (dk_at dksX2_readInTurn_2 18 rfl rfl)
theorem dX2_readInTurn_65 : decode cX2_readInTurn 65 = .ok (.aload_n 0, 1) := dk_42 (dk_at dksX2_readInTurn_2 21 rfl rfl)
theorem dX2_readInTurn_66 : decode cX2_readInTurn 66 = .ok (.getfield 3, 3) := dk_180 0 3 (dk_at dksX2_readInTurn_3 0 rfl rfl)
theorem dX2_readInTurn_69 : decode cX2_readInTurn 69 = .ok (.getfield 74, 3) := dk_180 0 74 (dk_at dksX2_readInTurn_3 3 rfl rfl)
theorem dX2_readInTurn_72 : decode cX2_readInTurn 72 = .ok (.ifCond .ne 21, 3) := dk_154 0 21 (dk_at dksX2_readInTurn_3 6 rfl rfl)
theorem dX2_readInTurn_75 : decode cX2_readInTurn 75 = .ok (.aload_n 2, 1) := dk_44 (dk_at dksX2_readInTurn_3 9 rfl rfl)
theorem dX2_readInTurn_76 : decode cX2_readInTurn 76 = .ok (.getfield 115, 3) := dk_180 0 115 (dk_at dksX2_readInTurn_3 10 rfl rfl)
theorem dX2_readInTurn_79 : decode cX2_readInTurn 79 = .ok (.getstatic 121, 3) := dk_178 0 121 (dk_at dksX2_readInTurn_3 13 rfl rfl)
theorem dX2_readInTurn_82 : decode cX2_readInTurn 82 = .ok (.if_acmp .eq 7, 3) := dk_165 0 7 (dk_at dksX2_readInTurn_3 16 rfl rfl)
theorem dX2_readInTurn_85 : decode cX2_readInTurn 85 = .ok (.iconst 1, 1) := dk_4 (dk_at dksX2_readInTurn_3 19 rfl rfl)
theorem dX2_readInTurn_86 : decode cX2_readInTurn 86 = .ok (.goto 23, 3) := dk_167 0 23 (dk_at dksX2_readInTurn_3 20 rfl rfl)
theorem dX2_readInTurn_89 : decode cX2_readInTurn 89 = .ok (.iconst 0, 1) := dk_3 (dk_at dksX2_readInTurn_3 23 rfl rfl)
theorem dX2_readInTurn_90 : decode cX2_readInTurn 90 = .ok (.goto 19, 3) := dk_167 0 19 (dk_at dksX2_readInTurn_4 0 rfl rfl)
theorem dX2_readInTurn_93 : decode cX2_readInTurn 93 = .ok (.aload_n 0, 1) := dk_42 (dk_at dksX2_readInTurn_4 3 rfl rfl)
theorem dX2_readInTurn_94 : decode cX2_readInTurn 94 = .ok (.getfield 19, 3) := dk_180 0 19 (dk_at dksX2_readInTurn_4 4 rfl rfl)
theorem dX2_readInTurn_97 : decode cX2_readInTurn 97 = .ok (.aload_n 0, 1) := dk_42 (dk_at dksX2_readInTurn_4 7 rfl rfl)
theorem dX2_readInTurn_98 : decode cX2_readInTurn 98 = .ok (.getfield 54, 3) := dk_180 0 54 (dk_at dksX2_readInTurn_4 8 rfl rfl)
theorem dX2_readInTurn_101 : decode cX2_readInTurn 101 = .ok (.if_icmp .ge 7, 3) := dk_162 0 7 (dk_at dksX2_readInTurn_4 11 rfl rfl)
theorem dX2_readInTurn_104 : decode cX2_readInTurn 104 = .ok (.iconst 1, 1) := dk_4 (dk_at dksX2_readInTurn_4 14 rfl rfl)
theorem dX2_readInTurn_105 : decode cX2_readInTurn 105 = .ok (.goto 4, 3) := dk_167 0 4 (dk_at dksX2_readInTurn_4 15 rfl rfl)
theorem dX2_readInTurn_108 : decode cX2_readInTurn 108 = .ok (.iconst 0, 1) := dk_3 (dk_at dksX2_readInTurn_4 18 rfl rfl)
theorem dX2_readInTurn_109 : decode cX2_readInTurn 109 = .ok (.istore_n 1, 1) := dk_60 (dk_at dksX2_readInTurn_4 19 rfl rfl)
theorem dX2_readInTurn_110 : decode cX2_readInTurn 110 = .ok (.goto (-83), 3) := dk_167 255 173 (dk_at dksX2_readInTurn_4 20 rfl rfl)
theorem dX2_readInTurn_113 : decode cX2_readInTurn 113 = .ok (.return_, 1) := dk_177 (dk_at dksX2_readInTurn_4 23 rfl rfl)
abbrev cX2_readHead : ByteArray := prog_3_method_9_code
def yX2_readHead : MethodName := ⟨RX2, "readHead", "()LBilevelPages$Segment;"⟩
def dkwX2_readHead_21 : List UInt8 := [176]
abbrev dktX2_readHead_21 : List UInt8 := dkwX2_readHead_21 ++ []
def dkwX2_readHead_20 : List UInt8 := [181, 0, 175, 42, 89, 180, 0, 19, 21, 6, 8, 96, 96, 181, 0, 19, 42, 33, 136, 181, 0, 23, 25, 9]
abbrev dktX2_readHead_20 : List UInt8 := dkwX2_readHead_20 ++ dktX2_readHead_21
def dkwX2_readHead_19 : List UInt8 := [181, 0, 168, 25, 9, 42, 42, 180, 0, 19, 21, 6, 96, 4, 96, 182, 0, 134, 181, 0, 171, 25, 9, 27]
abbrev dktX2_readHead_19 : List UInt8 := dkwX2_readHead_19 ++ dktX2_readHead_20
def dkwX2_readHead_18 : List UInt8 := [167, 255, 227, 25, 9, 21, 6, 181, 0, 165, 25, 9, 21, 8, 2, 130, 5, 21, 6, 120, 4, 100, 126]
abbrev dktX2_readHead_18 : List UInt8 := dkwX2_readHead_18 ++ dktX2_readHead_19
def dkwX2_readHead_17 : List UInt8 := [25, 9, 180, 0, 162, 21, 10, 42, 42, 180, 0, 19, 21, 10, 96, 182, 0, 66, 79, 132, 10, 1]
abbrev dktX2_readHead_17 : List UInt8 := dkwX2_readHead_17 ++ dktX2_readHead_18
def dkwX2_readHead_16 : List UInt8 := [21, 6, 96, 182, 0, 66, 33, 136, 182, 0, 158, 58, 9, 3, 54, 10, 21, 10, 21, 6, 162, 0, 28]
abbrev dktX2_readHead_16 : List UInt8 := dkwX2_readHead_16 ++ dktX2_readHead_17
def dkwX2_readHead_15 : List UInt8 := [180, 0, 3, 180, 0, 154, 42, 180, 0, 3, 180, 0, 97, 182, 0, 107, 50, 25, 5, 42, 42, 180, 0, 19]
abbrev dktX2_readHead_15 : List UInt8 := dkwX2_readHead_15 ++ dktX2_readHead_16
def dkwX2_readHead_14 : List UInt8 := [54, 8, 21, 8, 21, 6, 4, 96, 122, 154, 0, 7, 4, 167, 0, 4, 3, 16, 8, 27, 184, 0, 70, 42]
abbrev dktX2_readHead_14 : List UInt8 := dkwX2_readHead_14 ++ dktX2_readHead_15
def dkwX2_readHead_13 : List UInt8 := [21, 7, 4, 96, 182, 0, 66, 16, 8, 120, 128, 167, 0, 12, 42, 21, 7, 182, 0, 66, 16, 31, 126]
abbrev dktX2_readHead_13 : List UInt8 := dkwX2_readHead_13 ++ dktX2_readHead_14
def dkwX2_readHead_12 : List UInt8 := [181, 0, 19, 42, 21, 6, 8, 96, 133, 182, 0, 82, 28, 153, 0, 24, 42, 21, 7, 182, 0, 66, 42]
abbrev dktX2_readHead_12 : List UInt8 := dkwX2_readHead_12 ++ dktX2_readHead_13
def dkwX2_readHead_11 : List UInt8 := [54, 7, 42, 28, 153, 0, 13, 42, 180, 0, 19, 16, 11, 96, 167, 0, 10, 42, 180, 0, 19, 16, 6, 96]
abbrev dktX2_readHead_11 : List UInt8 := dkwX2_readHead_11 ++ dktX2_readHead_12
def dkwX2_readHead_10 : List UInt8 := [27, 184, 0, 70, 28, 153, 0, 13, 42, 180, 0, 19, 16, 9, 96, 167, 0, 9, 42, 180, 0, 19, 8, 96]
abbrev dktX2_readHead_10 : List UInt8 := dkwX2_readHead_10 ++ dktX2_readHead_11
def dkwX2_readHead_9 : List UInt8 := [153, 0, 7, 4, 167, 0, 18, 3, 167, 0, 14, 21, 6, 7, 163, 0, 7, 4, 167, 0, 4, 3, 16, 8]
abbrev dktX2_readHead_9 : List UInt8 := dkwX2_readHead_9 ++ dktX2_readHead_10
def dkwX2_readHead_8 : List UInt8 := [20, 0, 144, 21, 6, 133, 129, 148, 154, 0, 22, 21, 6, 133, 20, 0, 146, 20, 0, 148, 184, 0, 150]
abbrev dktX2_readHead_8 : List UInt8 := dkwX2_readHead_8 ++ dktX2_readHead_9
def dkwX2_readHead_7 : List UInt8 := [96, 182, 0, 66, 8, 122, 54, 6, 28, 153, 0, 47, 42, 42, 180, 0, 19, 8, 96, 182, 0, 134]
abbrev dktX2_readHead_7 : List UInt8 := dkwX2_readHead_7 ++ dktX2_readHead_8
def dkwX2_readHead_6 : List UInt8 := [28, 153, 0, 17, 42, 42, 180, 0, 19, 16, 8, 96, 182, 0, 66, 167, 0, 15, 42, 42, 180, 0, 19, 8]
abbrev dktX2_readHead_6 : List UInt8 := dkwX2_readHead_6 ++ dktX2_readHead_7
def dkwX2_readHead_5 : List UInt8 := [166, 0, 14, 42, 180, 0, 3, 180, 0, 74, 5, 162, 0, 7, 4, 167, 0, 4, 3, 7, 27, 184, 0, 70]
abbrev dktX2_readHead_5 : List UInt8 := dkwX2_readHead_5 ++ dktX2_readHead_6
def dkwX2_readHead_4 : List UInt8 := [180, 0, 19, 7, 96, 182, 0, 66, 184, 0, 140, 58, 5, 25, 5, 198, 0, 26, 25, 5, 178, 0, 121]
abbrev dktX2_readHead_4 : List UInt8 := dkwX2_readHead_4 ++ dktX2_readHead_5
def dkwX2_readHead_3 : List UInt8 := [158, 0, 15, 33, 20, 0, 138, 148, 157, 0, 7, 4, 167, 0, 4, 3, 6, 27, 184, 0, 70, 42, 42]
abbrev dktX2_readHead_3 : List UInt8 := dkwX2_readHead_3 ++ dktX2_readHead_4
def dkwX2_readHead_2 : List UInt8 := [20, 0, 130, 182, 0, 82, 42, 42, 180, 0, 19, 182, 0, 134, 66, 33, 42, 180, 0, 23, 133, 148]
abbrev dktX2_readHead_2 : List UInt8 := dkwX2_readHead_2 ++ dktX2_readHead_3
def dkwX2_readHead_1 : List UInt8 := [17, 0, 224, 161, 0, 7, 4, 167, 0, 4, 3, 61, 42, 28, 153, 0, 9, 20, 0, 132, 167, 0, 6]
abbrev dktX2_readHead_1 : List UInt8 := dkwX2_readHead_1 ++ dktX2_readHead_2
def dkwX2_readHead_0 : List UInt8 := [42, 180, 0, 19, 60, 42, 20, 0, 130, 182, 0, 82, 42, 42, 180, 0, 19, 8, 96, 182, 0, 66]
abbrev dktX2_readHead_0 : List UInt8 := dkwX2_readHead_0 ++ dktX2_readHead_1
theorem dksX2_readHead_0 : cX2_readHead.data.toList.drop 0 = dktX2_readHead_0 := by decide +kernel
theorem dksX2_readHead_1 : cX2_readHead.data.toList.drop 22 = dktX2_readHead_1 := dk_seg dksX2_readHead_0 22 rfl rfl
theorem dksX2_readHead_2 : cX2_readHead.data.toList.drop 45 = dktX2_readHead_2 := dk_seg dksX2_readHead_1 23 rfl rfl
theorem dksX2_readHead_3 : cX2_readHead.data.toList.drop 67 = dktX2_readHead_3 := dk_seg dksX2_readHead_2 22 rfl rfl
theorem dksX2_readHead_4 : cX2_readHead.data.toList.drop 90 = dktX2_readHead_4 := dk_seg dksX2_readHead_3 23 rfl rfl
theorem dksX2_readHead_5 : cX2_readHead.data.toList.drop 113 = dktX2_readHead_5 := dk_seg dksX2_readHead_4 23 rfl rfl
theorem dksX2_readHead_6 : cX2_readHead.data.toList.drop 137 = dktX2_readHead_6 := dk_seg dksX2_readHead_5 24 rfl rfl
theorem dksX2_readHead_7 : cX2_readHead.data.toList.drop 161 = dktX2_readHead_7 := dk_seg dksX2_readHead_6 24 rfl rfl
theorem dksX2_readHead_8 : cX2_readHead.data.toList.drop 183 = dktX2_readHead_8 := dk_seg dksX2_readHead_7 22 rfl rfl
theorem dksX2_readHead_9 : cX2_readHead.data.toList.drop 206 = dktX2_readHead_9 := dk_seg dksX2_readHead_8 23 rfl rfl
theorem dksX2_readHead_10 : cX2_readHead.data.toList.drop 230 = dktX2_readHead_10 := dk_seg dksX2_readHead_9 24 rfl rfl
theorem dksX2_readHead_11 : cX2_readHead.data.toList.drop 254 = dktX2_readHead_11 := dk_seg dksX2_readHead_10 24 rfl rfl
theorem dksX2_readHead_12 : cX2_readHead.data.toList.drop 278 = dktX2_readHead_12 := dk_seg dksX2_readHead_11 24 rfl rfl
theorem dksX2_readHead_13 : cX2_readHead.data.toList.drop 301 = dktX2_readHead_13 := dk_seg dksX2_readHead_12 23 rfl rfl
theorem dksX2_readHead_14 : cX2_readHead.data.toList.drop 324 = dktX2_readHead_14 := dk_seg dksX2_readHead_13 23 rfl rfl
theorem dksX2_readHead_15 : cX2_readHead.data.toList.drop 348 = dktX2_readHead_15 := dk_seg dksX2_readHead_14 24 rfl rfl
theorem dksX2_readHead_16 : cX2_readHead.data.toList.drop 372 = dktX2_readHead_16 := dk_seg dksX2_readHead_15 24 rfl rfl
theorem dksX2_readHead_17 : cX2_readHead.data.toList.drop 395 = dktX2_readHead_17 := dk_seg dksX2_readHead_16 23 rfl rfl
theorem dksX2_readHead_18 : cX2_readHead.data.toList.drop 417 = dktX2_readHead_18 := dk_seg dksX2_readHead_17 22 rfl rfl
theorem dksX2_readHead_19 : cX2_readHead.data.toList.drop 440 = dktX2_readHead_19 := dk_seg dksX2_readHead_18 23 rfl rfl
theorem dksX2_readHead_20 : cX2_readHead.data.toList.drop 464 = dktX2_readHead_20 := dk_seg dksX2_readHead_19 24 rfl rfl
theorem dksX2_readHead_21 : cX2_readHead.data.toList.drop 488 = dktX2_readHead_21 := dk_seg dksX2_readHead_20 24 rfl rfl
theorem dX2_readHead_0 : decode cX2_readHead 0 = .ok (.aload_n 0, 1) := dk_42 (dk_at dksX2_readHead_0 0 rfl rfl)
theorem dX2_readHead_1 : decode cX2_readHead 1 = .ok (.getfield 19, 3) := dk_180 0 19 (dk_at dksX2_readHead_0 1 rfl rfl)
theorem dX2_readHead_4 : decode cX2_readHead 4 = .ok (.istore_n 1, 1) := dk_60 (dk_at dksX2_readHead_0 4 rfl rfl)
theorem dX2_readHead_5 : decode cX2_readHead 5 = .ok (.aload_n 0, 1) := dk_42 (dk_at dksX2_readHead_0 5 rfl rfl)
theorem dX2_readHead_6 : decode cX2_readHead 6 = .ok (.ldc2_w 130, 3) := dk_20 0 130 (dk_at dksX2_readHead_0 6 rfl rfl)
theorem dX2_readHead_9 : decode cX2_readHead 9 = .ok (.invokevirtual 82, 3) := dk_182 0 82 (dk_at dksX2_readHead_0 9 rfl rfl)
theorem dX2_readHead_12 : decode cX2_readHead 12 = .ok (.aload_n 0, 1) := dk_42 (dk_at dksX2_readHead_0 12 rfl rfl)
theorem dX2_readHead_13 : decode cX2_readHead 13 = .ok (.aload_n 0, 1) := dk_42 (dk_at dksX2_readHead_0 13 rfl rfl)
theorem dX2_readHead_14 : decode cX2_readHead 14 = .ok (.getfield 19, 3) := dk_180 0 19 (dk_at dksX2_readHead_0 14 rfl rfl)
theorem dX2_readHead_17 : decode cX2_readHead 17 = .ok (.iconst 5, 1) := dk_8 (dk_at dksX2_readHead_0 17 rfl rfl)
theorem dX2_readHead_18 : decode cX2_readHead 18 = .ok (.iadd, 1) := dk_96 (dk_at dksX2_readHead_0 18 rfl rfl)
theorem dX2_readHead_19 : decode cX2_readHead 19 = .ok (.invokevirtual 66, 3) := dk_182 0 66 (dk_at dksX2_readHead_0 19 rfl rfl)
theorem dX2_readHead_22 : decode cX2_readHead 22 = .ok (.sipush 224, 3) := dk_17 0 224 (dk_at dksX2_readHead_1 0 rfl rfl)
theorem dX2_readHead_25 : decode cX2_readHead 25 = .ok (.if_icmp .lt 7, 3) := dk_161 0 7 (dk_at dksX2_readHead_1 3 rfl rfl)
theorem dX2_readHead_28 : decode cX2_readHead 28 = .ok (.iconst 1, 1) := dk_4 (dk_at dksX2_readHead_1 6 rfl rfl)
theorem dX2_readHead_29 : decode cX2_readHead 29 = .ok (.goto 4, 3) := dk_167 0 4 (dk_at dksX2_readHead_1 7 rfl rfl)
theorem dX2_readHead_32 : decode cX2_readHead 32 = .ok (.iconst 0, 1) := dk_3 (dk_at dksX2_readHead_1 10 rfl rfl)
theorem dX2_readHead_33 : decode cX2_readHead 33 = .ok (.istore_n 2, 1) := dk_61 (dk_at dksX2_readHead_1 11 rfl rfl)
theorem dX2_readHead_34 : decode cX2_readHead 34 = .ok (.aload_n 0, 1) := dk_42 (dk_at dksX2_readHead_1 12 rfl rfl)
theorem dX2_readHead_35 : decode cX2_readHead 35 = .ok (.iload_n 2, 1) := dk_28 (dk_at dksX2_readHead_1 13 rfl rfl)
theorem dX2_readHead_36 : decode cX2_readHead 36 = .ok (.ifCond .eq 9, 3) := dk_153 0 9 (dk_at dksX2_readHead_1 14 rfl rfl)
theorem dX2_readHead_39 : decode cX2_readHead 39 = .ok (.ldc2_w 132, 3) := dk_20 0 132 (dk_at dksX2_readHead_1 17 rfl rfl)
theorem dX2_readHead_42 : decode cX2_readHead 42 = .ok (.goto 6, 3) := dk_167 0 6 (dk_at dksX2_readHead_1 20 rfl rfl)
theorem dX2_readHead_45 : decode cX2_readHead 45 = .ok (.ldc2_w 130, 3) := dk_20 0 130 (dk_at dksX2_readHead_2 0 rfl rfl)
theorem dX2_readHead_48 : decode cX2_readHead 48 = .ok (.invokevirtual 82, 3) := dk_182 0 82 (dk_at dksX2_readHead_2 3 rfl rfl)
theorem dX2_readHead_51 : decode cX2_readHead 51 = .ok (.aload_n 0, 1) := dk_42 (dk_at dksX2_readHead_2 6 rfl rfl)
theorem dX2_readHead_52 : decode cX2_readHead 52 = .ok (.aload_n 0, 1) := dk_42 (dk_at dksX2_readHead_2 7 rfl rfl)
theorem dX2_readHead_53 : decode cX2_readHead 53 = .ok (.getfield 19, 3) := dk_180 0 19 (dk_at dksX2_readHead_2 8 rfl rfl)
theorem dX2_readHead_56 : decode cX2_readHead 56 = .ok (.invokevirtual 134, 3) := dk_182 0 134 (dk_at dksX2_readHead_2 11 rfl rfl)
theorem dX2_readHead_59 : decode cX2_readHead 59 = .ok (.lstore_n 3, 1) := dk_66 (dk_at dksX2_readHead_2 14 rfl rfl)
theorem dX2_readHead_60 : decode cX2_readHead 60 = .ok (.lload_n 3, 1) := dk_33 (dk_at dksX2_readHead_2 15 rfl rfl)
theorem dX2_readHead_61 : decode cX2_readHead 61 = .ok (.aload_n 0, 1) := dk_42 (dk_at dksX2_readHead_2 16 rfl rfl)
theorem dX2_readHead_62 : decode cX2_readHead 62 = .ok (.getfield 23, 3) := dk_180 0 23 (dk_at dksX2_readHead_2 17 rfl rfl)
theorem dX2_readHead_65 : decode cX2_readHead 65 = .ok (.i2l, 1) := dk_133 (dk_at dksX2_readHead_2 20 rfl rfl)
theorem dX2_readHead_66 : decode cX2_readHead 66 = .ok (.lcmp, 1) := dk_148 (dk_at dksX2_readHead_2 21 rfl rfl)
theorem dX2_readHead_67 : decode cX2_readHead 67 = .ok (.ifCond .le 15, 3) := dk_158 0 15 (dk_at dksX2_readHead_3 0 rfl rfl)
theorem dX2_readHead_70 : decode cX2_readHead 70 = .ok (.lload_n 3, 1) := dk_33 (dk_at dksX2_readHead_3 3 rfl rfl)
theorem dX2_readHead_71 : decode cX2_readHead 71 = .ok (.ldc2_w 138, 3) := dk_20 0 138 (dk_at dksX2_readHead_3 4 rfl rfl)
theorem dX2_readHead_74 : decode cX2_readHead 74 = .ok (.lcmp, 1) := dk_148 (dk_at dksX2_readHead_3 7 rfl rfl)
theorem dX2_readHead_75 : decode cX2_readHead 75 = .ok (.ifCond .gt 7, 3) := dk_157 0 7 (dk_at dksX2_readHead_3 8 rfl rfl)
theorem dX2_readHead_78 : decode cX2_readHead 78 = .ok (.iconst 1, 1) := dk_4 (dk_at dksX2_readHead_3 11 rfl rfl)
theorem dX2_readHead_79 : decode cX2_readHead 79 = .ok (.goto 4, 3) := dk_167 0 4 (dk_at dksX2_readHead_3 12 rfl rfl)
theorem dX2_readHead_82 : decode cX2_readHead 82 = .ok (.iconst 0, 1) := dk_3 (dk_at dksX2_readHead_3 15 rfl rfl)
theorem dX2_readHead_83 : decode cX2_readHead 83 = .ok (.iconst 3, 1) := dk_6 (dk_at dksX2_readHead_3 16 rfl rfl)
theorem dX2_readHead_84 : decode cX2_readHead 84 = .ok (.iload_n 1, 1) := dk_27 (dk_at dksX2_readHead_3 17 rfl rfl)
theorem dX2_readHead_85 : decode cX2_readHead 85 = .ok (.invokestatic 70, 3) := dk_184 0 70 (dk_at dksX2_readHead_3 18 rfl rfl)
theorem dX2_readHead_88 : decode cX2_readHead 88 = .ok (.aload_n 0, 1) := dk_42 (dk_at dksX2_readHead_3 21 rfl rfl)
theorem dX2_readHead_89 : decode cX2_readHead 89 = .ok (.aload_n 0, 1) := dk_42 (dk_at dksX2_readHead_3 22 rfl rfl)
theorem dX2_readHead_90 : decode cX2_readHead 90 = .ok (.getfield 19, 3) := dk_180 0 19 (dk_at dksX2_readHead_4 0 rfl rfl)
theorem dX2_readHead_93 : decode cX2_readHead 93 = .ok (.iconst 4, 1) := dk_7 (dk_at dksX2_readHead_4 3 rfl rfl)
theorem dX2_readHead_94 : decode cX2_readHead 94 = .ok (.iadd, 1) := dk_96 (dk_at dksX2_readHead_4 4 rfl rfl)
theorem dX2_readHead_95 : decode cX2_readHead 95 = .ok (.invokevirtual 66, 3) := dk_182 0 66 (dk_at dksX2_readHead_4 5 rfl rfl)
theorem dX2_readHead_98 : decode cX2_readHead 98 = .ok (.invokestatic 140, 3) := dk_184 0 140 (dk_at dksX2_readHead_4 8 rfl rfl)
theorem dX2_readHead_101 : decode cX2_readHead 101 = .ok (.astore 5, 2) := dk_58 5 (dk_at dksX2_readHead_4 11 rfl rfl)
theorem dX2_readHead_103 : decode cX2_readHead 103 = .ok (.aload 5, 2) := dk_25 5 (dk_at dksX2_readHead_4 13 rfl rfl)
theorem dX2_readHead_105 : decode cX2_readHead 105 = .ok (.ifnull 26, 3) := dk_198 0 26 (dk_at dksX2_readHead_4 15 rfl rfl)
theorem dX2_readHead_108 : decode cX2_readHead 108 = .ok (.aload 5, 2) := dk_25 5 (dk_at dksX2_readHead_4 18 rfl rfl)
theorem dX2_readHead_110 : decode cX2_readHead 110 = .ok (.getstatic 121, 3) := dk_178 0 121 (dk_at dksX2_readHead_4 20 rfl rfl)
theorem dX2_readHead_113 : decode cX2_readHead 113 = .ok (.if_acmp .ne 14, 3) := dk_166 0 14 (dk_at dksX2_readHead_5 0 rfl rfl)
theorem dX2_readHead_116 : decode cX2_readHead 116 = .ok (.aload_n 0, 1) := dk_42 (dk_at dksX2_readHead_5 3 rfl rfl)
theorem dX2_readHead_117 : decode cX2_readHead 117 = .ok (.getfield 3, 3) := dk_180 0 3 (dk_at dksX2_readHead_5 4 rfl rfl)
theorem dX2_readHead_120 : decode cX2_readHead 120 = .ok (.getfield 74, 3) := dk_180 0 74 (dk_at dksX2_readHead_5 7 rfl rfl)
theorem dX2_readHead_123 : decode cX2_readHead 123 = .ok (.iconst 2, 1) := dk_5 (dk_at dksX2_readHead_5 10 rfl rfl)
theorem dX2_readHead_124 : decode cX2_readHead 124 = .ok (.if_icmp .ge 7, 3) := dk_162 0 7 (dk_at dksX2_readHead_5 11 rfl rfl)
theorem dX2_readHead_127 : decode cX2_readHead 127 = .ok (.iconst 1, 1) := dk_4 (dk_at dksX2_readHead_5 14 rfl rfl)
theorem dX2_readHead_128 : decode cX2_readHead 128 = .ok (.goto 4, 3) := dk_167 0 4 (dk_at dksX2_readHead_5 15 rfl rfl)
theorem dX2_readHead_131 : decode cX2_readHead 131 = .ok (.iconst 0, 1) := dk_3 (dk_at dksX2_readHead_5 18 rfl rfl)
theorem dX2_readHead_132 : decode cX2_readHead 132 = .ok (.iconst 4, 1) := dk_7 (dk_at dksX2_readHead_5 19 rfl rfl)
theorem dX2_readHead_133 : decode cX2_readHead 133 = .ok (.iload_n 1, 1) := dk_27 (dk_at dksX2_readHead_5 20 rfl rfl)
theorem dX2_readHead_134 : decode cX2_readHead 134 = .ok (.invokestatic 70, 3) := dk_184 0 70 (dk_at dksX2_readHead_5 21 rfl rfl)
theorem dX2_readHead_137 : decode cX2_readHead 137 = .ok (.iload_n 2, 1) := dk_28 (dk_at dksX2_readHead_6 0 rfl rfl)
theorem dX2_readHead_138 : decode cX2_readHead 138 = .ok (.ifCond .eq 17, 3) := dk_153 0 17 (dk_at dksX2_readHead_6 1 rfl rfl)
theorem dX2_readHead_141 : decode cX2_readHead 141 = .ok (.aload_n 0, 1) := dk_42 (dk_at dksX2_readHead_6 4 rfl rfl)
theorem dX2_readHead_142 : decode cX2_readHead 142 = .ok (.aload_n 0, 1) := dk_42 (dk_at dksX2_readHead_6 5 rfl rfl)
theorem dX2_readHead_143 : decode cX2_readHead 143 = .ok (.getfield 19, 3) := dk_180 0 19 (dk_at dksX2_readHead_6 6 rfl rfl)
theorem dX2_readHead_146 : decode cX2_readHead 146 = .ok (.bipush 8, 2) := dk_16 8 (dk_at dksX2_readHead_6 9 rfl rfl)
theorem dX2_readHead_148 : decode cX2_readHead 148 = .ok (.iadd, 1) := dk_96 (dk_at dksX2_readHead_6 11 rfl rfl)
theorem dX2_readHead_149 : decode cX2_readHead 149 = .ok (.invokevirtual 66, 3) := dk_182 0 66 (dk_at dksX2_readHead_6 12 rfl rfl)
theorem dX2_readHead_152 : decode cX2_readHead 152 = .ok (.goto 15, 3) := dk_167 0 15 (dk_at dksX2_readHead_6 15 rfl rfl)
theorem dX2_readHead_155 : decode cX2_readHead 155 = .ok (.aload_n 0, 1) := dk_42 (dk_at dksX2_readHead_6 18 rfl rfl)
theorem dX2_readHead_156 : decode cX2_readHead 156 = .ok (.aload_n 0, 1) := dk_42 (dk_at dksX2_readHead_6 19 rfl rfl)
theorem dX2_readHead_157 : decode cX2_readHead 157 = .ok (.getfield 19, 3) := dk_180 0 19 (dk_at dksX2_readHead_6 20 rfl rfl)
theorem dX2_readHead_160 : decode cX2_readHead 160 = .ok (.iconst 5, 1) := dk_8 (dk_at dksX2_readHead_6 23 rfl rfl)
theorem dX2_readHead_161 : decode cX2_readHead 161 = .ok (.iadd, 1) := dk_96 (dk_at dksX2_readHead_7 0 rfl rfl)
theorem dX2_readHead_162 : decode cX2_readHead 162 = .ok (.invokevirtual 66, 3) := dk_182 0 66 (dk_at dksX2_readHead_7 1 rfl rfl)
theorem dX2_readHead_165 : decode cX2_readHead 165 = .ok (.iconst 5, 1) := dk_8 (dk_at dksX2_readHead_7 4 rfl rfl)
theorem dX2_readHead_166 : decode cX2_readHead 166 = .ok (.ishr, 1) := dk_122 (dk_at dksX2_readHead_7 5 rfl rfl)
theorem dX2_readHead_167 : decode cX2_readHead 167 = .ok (.istore 6, 2) := dk_54 6 (dk_at dksX2_readHead_7 6 rfl rfl)
theorem dX2_readHead_169 : decode cX2_readHead 169 = .ok (.iload_n 2, 1) := dk_28 (dk_at dksX2_readHead_7 8 rfl rfl)
theorem dX2_readHead_170 : decode cX2_readHead 170 = .ok (.ifCond .eq 47, 3) := dk_153 0 47 (dk_at dksX2_readHead_7 9 rfl rfl)
theorem dX2_readHead_173 : decode cX2_readHead 173 = .ok (.aload_n 0, 1) := dk_42 (dk_at dksX2_readHead_7 12 rfl rfl)
theorem dX2_readHead_174 : decode cX2_readHead 174 = .ok (.aload_n 0, 1) := dk_42 (dk_at dksX2_readHead_7 13 rfl rfl)
theorem dX2_readHead_175 : decode cX2_readHead 175 = .ok (.getfield 19, 3) := dk_180 0 19 (dk_at dksX2_readHead_7 14 rfl rfl)
theorem dX2_readHead_178 : decode cX2_readHead 178 = .ok (.iconst 5, 1) := dk_8 (dk_at dksX2_readHead_7 17 rfl rfl)
theorem dX2_readHead_179 : decode cX2_readHead 179 = .ok (.iadd, 1) := dk_96 (dk_at dksX2_readHead_7 18 rfl rfl)
theorem dX2_readHead_180 : decode cX2_readHead 180 = .ok (.invokevirtual 134, 3) := dk_182 0 134 (dk_at dksX2_readHead_7 19 rfl rfl)
theorem dX2_readHead_183 : decode cX2_readHead 183 = .ok (.ldc2_w 144, 3) := dk_20 0 144 (dk_at dksX2_readHead_8 0 rfl rfl)
theorem dX2_readHead_186 : decode cX2_readHead 186 = .ok (.iload 6, 2) := dk_21 6 (dk_at dksX2_readHead_8 3 rfl rfl)
theorem dX2_readHead_188 : decode cX2_readHead 188 = .ok (.i2l, 1) := dk_133 (dk_at dksX2_readHead_8 5 rfl rfl)
theorem dX2_readHead_189 : decode cX2_readHead 189 = .ok (.lor, 1) := dk_129 (dk_at dksX2_readHead_8 6 rfl rfl)
theorem dX2_readHead_190 : decode cX2_readHead 190 = .ok (.lcmp, 1) := dk_148 (dk_at dksX2_readHead_8 7 rfl rfl)
theorem dX2_readHead_191 : decode cX2_readHead 191 = .ok (.ifCond .ne 22, 3) := dk_154 0 22 (dk_at dksX2_readHead_8 8 rfl rfl)
theorem dX2_readHead_194 : decode cX2_readHead 194 = .ok (.iload 6, 2) := dk_21 6 (dk_at dksX2_readHead_8 11 rfl rfl)
theorem dX2_readHead_196 : decode cX2_readHead 196 = .ok (.i2l, 1) := dk_133 (dk_at dksX2_readHead_8 13 rfl rfl)
theorem dX2_readHead_197 : decode cX2_readHead 197 = .ok (.ldc2_w 146, 3) := dk_20 0 146 (dk_at dksX2_readHead_8 14 rfl rfl)
theorem dX2_readHead_200 : decode cX2_readHead 200 = .ok (.ldc2_w 148, 3) := dk_20 0 148 (dk_at dksX2_readHead_8 17 rfl rfl)
theorem dX2_readHead_203 : decode cX2_readHead 203 = .ok (.invokestatic 150, 3) := dk_184 0 150 (dk_at dksX2_readHead_8 20 rfl rfl)
theorem dX2_readHead_206 : decode cX2_readHead 206 = .ok (.ifCond .eq 7, 3) := dk_153 0 7 (dk_at dksX2_readHead_9 0 rfl rfl)
theorem dX2_readHead_209 : decode cX2_readHead 209 = .ok (.iconst 1, 1) := dk_4 (dk_at dksX2_readHead_9 3 rfl rfl)
theorem dX2_readHead_210 : decode cX2_readHead 210 = .ok (.goto 18, 3) := dk_167 0 18 (dk_at dksX2_readHead_9 4 rfl rfl)
theorem dX2_readHead_213 : decode cX2_readHead 213 = .ok (.iconst 0, 1) := dk_3 (dk_at dksX2_readHead_9 7 rfl rfl)
theorem dX2_readHead_214 : decode cX2_readHead 214 = .ok (.goto 14, 3) := dk_167 0 14 (dk_at dksX2_readHead_9 8 rfl rfl)
theorem dX2_readHead_217 : decode cX2_readHead 217 = .ok (.iload 6, 2) := dk_21 6 (dk_at dksX2_readHead_9 11 rfl rfl)
theorem dX2_readHead_219 : decode cX2_readHead 219 = .ok (.iconst 4, 1) := dk_7 (dk_at dksX2_readHead_9 13 rfl rfl)
theorem dX2_readHead_220 : decode cX2_readHead 220 = .ok (.if_icmp .gt 7, 3) := dk_163 0 7 (dk_at dksX2_readHead_9 14 rfl rfl)
theorem dX2_readHead_223 : decode cX2_readHead 223 = .ok (.iconst 1, 1) := dk_4 (dk_at dksX2_readHead_9 17 rfl rfl)
theorem dX2_readHead_224 : decode cX2_readHead 224 = .ok (.goto 4, 3) := dk_167 0 4 (dk_at dksX2_readHead_9 18 rfl rfl)
theorem dX2_readHead_227 : decode cX2_readHead 227 = .ok (.iconst 0, 1) := dk_3 (dk_at dksX2_readHead_9 21 rfl rfl)
theorem dX2_readHead_228 : decode cX2_readHead 228 = .ok (.bipush 8, 2) := dk_16 8 (dk_at dksX2_readHead_9 22 rfl rfl)
theorem dX2_readHead_230 : decode cX2_readHead 230 = .ok (.iload_n 1, 1) := dk_27 (dk_at dksX2_readHead_10 0 rfl rfl)
theorem dX2_readHead_231 : decode cX2_readHead 231 = .ok (.invokestatic 70, 3) := dk_184 0 70 (dk_at dksX2_readHead_10 1 rfl rfl)
theorem dX2_readHead_234 : decode cX2_readHead 234 = .ok (.iload_n 2, 1) := dk_28 (dk_at dksX2_readHead_10 4 rfl rfl)
theorem dX2_readHead_235 : decode cX2_readHead 235 = .ok (.ifCond .eq 13, 3) := dk_153 0 13 (dk_at dksX2_readHead_10 5 rfl rfl)
theorem dX2_readHead_238 : decode cX2_readHead 238 = .ok (.aload_n 0, 1) := dk_42 (dk_at dksX2_readHead_10 8 rfl rfl)
theorem dX2_readHead_239 : decode cX2_readHead 239 = .ok (.getfield 19, 3) := dk_180 0 19 (dk_at dksX2_readHead_10 9 rfl rfl)
theorem dX2_readHead_242 : decode cX2_readHead 242 = .ok (.bipush 9, 2) := dk_16 9 (dk_at dksX2_readHead_10 12 rfl rfl)
theorem dX2_readHead_244 : decode cX2_readHead 244 = .ok (.iadd, 1) := dk_96 (dk_at dksX2_readHead_10 14 rfl rfl)
theorem dX2_readHead_245 : decode cX2_readHead 245 = .ok (.goto 9, 3) := dk_167 0 9 (dk_at dksX2_readHead_10 15 rfl rfl)
theorem dX2_readHead_248 : decode cX2_readHead 248 = .ok (.aload_n 0, 1) := dk_42 (dk_at dksX2_readHead_10 18 rfl rfl)
theorem dX2_readHead_249 : decode cX2_readHead 249 = .ok (.getfield 19, 3) := dk_180 0 19 (dk_at dksX2_readHead_10 19 rfl rfl)
theorem dX2_readHead_252 : decode cX2_readHead 252 = .ok (.iconst 5, 1) := dk_8 (dk_at dksX2_readHead_10 22 rfl rfl)
theorem dX2_readHead_253 : decode cX2_readHead 253 = .ok (.iadd, 1) := dk_96 (dk_at dksX2_readHead_10 23 rfl rfl)
theorem dX2_readHead_254 : decode cX2_readHead 254 = .ok (.istore 7, 2) := dk_54 7 (dk_at dksX2_readHead_11 0 rfl rfl)
theorem dX2_readHead_256 : decode cX2_readHead 256 = .ok (.aload_n 0, 1) := dk_42 (dk_at dksX2_readHead_11 2 rfl rfl)
theorem dX2_readHead_257 : decode cX2_readHead 257 = .ok (.iload_n 2, 1) := dk_28 (dk_at dksX2_readHead_11 3 rfl rfl)
theorem dX2_readHead_258 : decode cX2_readHead 258 = .ok (.ifCond .eq 13, 3) := dk_153 0 13 (dk_at dksX2_readHead_11 4 rfl rfl)
theorem dX2_readHead_261 : decode cX2_readHead 261 = .ok (.aload_n 0, 1) := dk_42 (dk_at dksX2_readHead_11 7 rfl rfl)
theorem dX2_readHead_262 : decode cX2_readHead 262 = .ok (.getfield 19, 3) := dk_180 0 19 (dk_at dksX2_readHead_11 8 rfl rfl)
theorem dX2_readHead_265 : decode cX2_readHead 265 = .ok (.bipush 11, 2) := dk_16 11 (dk_at dksX2_readHead_11 11 rfl rfl)
theorem dX2_readHead_267 : decode cX2_readHead 267 = .ok (.iadd, 1) := dk_96 (dk_at dksX2_readHead_11 13 rfl rfl)
theorem dX2_readHead_268 : decode cX2_readHead 268 = .ok (.goto 10, 3) := dk_167 0 10 (dk_at dksX2_readHead_11 14 rfl rfl)
theorem dX2_readHead_271 : decode cX2_readHead 271 = .ok (.aload_n 0, 1) := dk_42 (dk_at dksX2_readHead_11 17 rfl rfl)
theorem dX2_readHead_272 : decode cX2_readHead 272 = .ok (.getfield 19, 3) := dk_180 0 19 (dk_at dksX2_readHead_11 18 rfl rfl)
theorem dX2_readHead_275 : decode cX2_readHead 275 = .ok (.bipush 6, 2) := dk_16 6 (dk_at dksX2_readHead_11 21 rfl rfl)
theorem dX2_readHead_277 : decode cX2_readHead 277 = .ok (.iadd, 1) := dk_96 (dk_at dksX2_readHead_11 23 rfl rfl)
theorem dX2_readHead_278 : decode cX2_readHead 278 = .ok (.putfield 19, 3) := dk_181 0 19 (dk_at dksX2_readHead_12 0 rfl rfl)
theorem dX2_readHead_281 : decode cX2_readHead 281 = .ok (.aload_n 0, 1) := dk_42 (dk_at dksX2_readHead_12 3 rfl rfl)
theorem dX2_readHead_282 : decode cX2_readHead 282 = .ok (.iload 6, 2) := dk_21 6 (dk_at dksX2_readHead_12 4 rfl rfl)
theorem dX2_readHead_284 : decode cX2_readHead 284 = .ok (.iconst 5, 1) := dk_8 (dk_at dksX2_readHead_12 6 rfl rfl)
theorem dX2_readHead_285 : decode cX2_readHead 285 = .ok (.iadd, 1) := dk_96 (dk_at dksX2_readHead_12 7 rfl rfl)
theorem dX2_readHead_286 : decode cX2_readHead 286 = .ok (.i2l, 1) := dk_133 (dk_at dksX2_readHead_12 8 rfl rfl)
theorem dX2_readHead_287 : decode cX2_readHead 287 = .ok (.invokevirtual 82, 3) := dk_182 0 82 (dk_at dksX2_readHead_12 9 rfl rfl)
theorem dX2_readHead_290 : decode cX2_readHead 290 = .ok (.iload_n 2, 1) := dk_28 (dk_at dksX2_readHead_12 12 rfl rfl)
theorem dX2_readHead_291 : decode cX2_readHead 291 = .ok (.ifCond .eq 24, 3) := dk_153 0 24 (dk_at dksX2_readHead_12 13 rfl rfl)
theorem dX2_readHead_294 : decode cX2_readHead 294 = .ok (.aload_n 0, 1) := dk_42 (dk_at dksX2_readHead_12 16 rfl rfl)
theorem dX2_readHead_295 : decode cX2_readHead 295 = .ok (.iload 7, 2) := dk_21 7 (dk_at dksX2_readHead_12 17 rfl rfl)
theorem dX2_readHead_297 : decode cX2_readHead 297 = .ok (.invokevirtual 66, 3) := dk_182 0 66 (dk_at dksX2_readHead_12 19 rfl rfl)
theorem dX2_readHead_300 : decode cX2_readHead 300 = .ok (.aload_n 0, 1) := dk_42 (dk_at dksX2_readHead_12 22 rfl rfl)
theorem dX2_readHead_301 : decode cX2_readHead 301 = .ok (.iload 7, 2) := dk_21 7 (dk_at dksX2_readHead_13 0 rfl rfl)
theorem dX2_readHead_303 : decode cX2_readHead 303 = .ok (.iconst 1, 1) := dk_4 (dk_at dksX2_readHead_13 2 rfl rfl)
theorem dX2_readHead_304 : decode cX2_readHead 304 = .ok (.iadd, 1) := dk_96 (dk_at dksX2_readHead_13 3 rfl rfl)
theorem dX2_readHead_305 : decode cX2_readHead 305 = .ok (.invokevirtual 66, 3) := dk_182 0 66 (dk_at dksX2_readHead_13 4 rfl rfl)
theorem dX2_readHead_308 : decode cX2_readHead 308 = .ok (.bipush 8, 2) := dk_16 8 (dk_at dksX2_readHead_13 7 rfl rfl)
theorem dX2_readHead_310 : decode cX2_readHead 310 = .ok (.ishl, 1) := dk_120 (dk_at dksX2_readHead_13 9 rfl rfl)
theorem dX2_readHead_311 : decode cX2_readHead 311 = .ok (.ior, 1) := dk_128 (dk_at dksX2_readHead_13 10 rfl rfl)
theorem dX2_readHead_312 : decode cX2_readHead 312 = .ok (.goto 12, 3) := dk_167 0 12 (dk_at dksX2_readHead_13 11 rfl rfl)
theorem dX2_readHead_315 : decode cX2_readHead 315 = .ok (.aload_n 0, 1) := dk_42 (dk_at dksX2_readHead_13 14 rfl rfl)
theorem dX2_readHead_316 : decode cX2_readHead 316 = .ok (.iload 7, 2) := dk_21 7 (dk_at dksX2_readHead_13 15 rfl rfl)
theorem dX2_readHead_318 : decode cX2_readHead 318 = .ok (.invokevirtual 66, 3) := dk_182 0 66 (dk_at dksX2_readHead_13 17 rfl rfl)
theorem dX2_readHead_321 : decode cX2_readHead 321 = .ok (.bipush 31, 2) := dk_16 31 (dk_at dksX2_readHead_13 20 rfl rfl)
theorem dX2_readHead_323 : decode cX2_readHead 323 = .ok (.iand, 1) := dk_126 (dk_at dksX2_readHead_13 22 rfl rfl)
theorem dX2_readHead_324 : decode cX2_readHead 324 = .ok (.istore 8, 2) := dk_54 8 (dk_at dksX2_readHead_14 0 rfl rfl)
theorem dX2_readHead_326 : decode cX2_readHead 326 = .ok (.iload 8, 2) := dk_21 8 (dk_at dksX2_readHead_14 2 rfl rfl)
theorem dX2_readHead_328 : decode cX2_readHead 328 = .ok (.iload 6, 2) := dk_21 6 (dk_at dksX2_readHead_14 4 rfl rfl)
theorem dX2_readHead_330 : decode cX2_readHead 330 = .ok (.iconst 1, 1) := dk_4 (dk_at dksX2_readHead_14 6 rfl rfl)
theorem dX2_readHead_331 : decode cX2_readHead 331 = .ok (.iadd, 1) := dk_96 (dk_at dksX2_readHead_14 7 rfl rfl)
theorem dX2_readHead_332 : decode cX2_readHead 332 = .ok (.ishr, 1) := dk_122 (dk_at dksX2_readHead_14 8 rfl rfl)
theorem dX2_readHead_333 : decode cX2_readHead 333 = .ok (.ifCond .ne 7, 3) := dk_154 0 7 (dk_at dksX2_readHead_14 9 rfl rfl)
theorem dX2_readHead_336 : decode cX2_readHead 336 = .ok (.iconst 1, 1) := dk_4 (dk_at dksX2_readHead_14 12 rfl rfl)
theorem dX2_readHead_337 : decode cX2_readHead 337 = .ok (.goto 4, 3) := dk_167 0 4 (dk_at dksX2_readHead_14 13 rfl rfl)
theorem dX2_readHead_340 : decode cX2_readHead 340 = .ok (.iconst 0, 1) := dk_3 (dk_at dksX2_readHead_14 16 rfl rfl)
theorem dX2_readHead_341 : decode cX2_readHead 341 = .ok (.bipush 8, 2) := dk_16 8 (dk_at dksX2_readHead_14 17 rfl rfl)
theorem dX2_readHead_343 : decode cX2_readHead 343 = .ok (.iload_n 1, 1) := dk_27 (dk_at dksX2_readHead_14 19 rfl rfl)
theorem dX2_readHead_344 : decode cX2_readHead 344 = .ok (.invokestatic 70, 3) := dk_184 0 70 (dk_at dksX2_readHead_14 20 rfl rfl)
theorem dX2_readHead_347 : decode cX2_readHead 347 = .ok (.aload_n 0, 1) := dk_42 (dk_at dksX2_readHead_14 23 rfl rfl)
theorem dX2_readHead_348 : decode cX2_readHead 348 = .ok (.getfield 3, 3) := dk_180 0 3 (dk_at dksX2_readHead_15 0 rfl rfl)
theorem dX2_readHead_351 : decode cX2_readHead 351 = .ok (.getfield 154, 3) := dk_180 0 154 (dk_at dksX2_readHead_15 3 rfl rfl)
theorem dX2_readHead_354 : decode cX2_readHead 354 = .ok (.aload_n 0, 1) := dk_42 (dk_at dksX2_readHead_15 6 rfl rfl)
theorem dX2_readHead_355 : decode cX2_readHead 355 = .ok (.getfield 3, 3) := dk_180 0 3 (dk_at dksX2_readHead_15 7 rfl rfl)
theorem dX2_readHead_358 : decode cX2_readHead 358 = .ok (.getfield 97, 3) := dk_180 0 97 (dk_at dksX2_readHead_15 10 rfl rfl)
theorem dX2_readHead_361 : decode cX2_readHead 361 = .ok (.invokevirtual 107, 3) := dk_182 0 107 (dk_at dksX2_readHead_15 13 rfl rfl)
theorem dX2_readHead_364 : decode cX2_readHead 364 = .ok (.aaload, 1) := dk_50 (dk_at dksX2_readHead_15 16 rfl rfl)
theorem dX2_readHead_365 : decode cX2_readHead 365 = .ok (.aload 5, 2) := dk_25 5 (dk_at dksX2_readHead_15 17 rfl rfl)
theorem dX2_readHead_367 : decode cX2_readHead 367 = .ok (.aload_n 0, 1) := dk_42 (dk_at dksX2_readHead_15 19 rfl rfl)
theorem dX2_readHead_368 : decode cX2_readHead 368 = .ok (.aload_n 0, 1) := dk_42 (dk_at dksX2_readHead_15 20 rfl rfl)
theorem dX2_readHead_369 : decode cX2_readHead 369 = .ok (.getfield 19, 3) := dk_180 0 19 (dk_at dksX2_readHead_15 21 rfl rfl)
theorem dX2_readHead_372 : decode cX2_readHead 372 = .ok (.iload 6, 2) := dk_21 6 (dk_at dksX2_readHead_16 0 rfl rfl)
theorem dX2_readHead_374 : decode cX2_readHead 374 = .ok (.iadd, 1) := dk_96 (dk_at dksX2_readHead_16 2 rfl rfl)
theorem dX2_readHead_375 : decode cX2_readHead 375 = .ok (.invokevirtual 66, 3) := dk_182 0 66 (dk_at dksX2_readHead_16 3 rfl rfl)
theorem dX2_readHead_378 : decode cX2_readHead 378 = .ok (.lload_n 3, 1) := dk_33 (dk_at dksX2_readHead_16 6 rfl rfl)
theorem dX2_readHead_379 : decode cX2_readHead 379 = .ok (.l2i, 1) := dk_136 (dk_at dksX2_readHead_16 7 rfl rfl)
theorem dX2_readHead_380 : decode cX2_readHead 380 = .ok (.invokevirtual 158, 3) := dk_182 0 158 (dk_at dksX2_readHead_16 8 rfl rfl)
theorem dX2_readHead_383 : decode cX2_readHead 383 = .ok (.astore 9, 2) := dk_58 9 (dk_at dksX2_readHead_16 11 rfl rfl)
theorem dX2_readHead_385 : decode cX2_readHead 385 = .ok (.iconst 0, 1) := dk_3 (dk_at dksX2_readHead_16 13 rfl rfl)
theorem dX2_readHead_386 : decode cX2_readHead 386 = .ok (.istore 10, 2) := dk_54 10 (dk_at dksX2_readHead_16 14 rfl rfl)
theorem dX2_readHead_388 : decode cX2_readHead 388 = .ok (.iload 10, 2) := dk_21 10 (dk_at dksX2_readHead_16 16 rfl rfl)
theorem dX2_readHead_390 : decode cX2_readHead 390 = .ok (.iload 6, 2) := dk_21 6 (dk_at dksX2_readHead_16 18 rfl rfl)
theorem dX2_readHead_392 : decode cX2_readHead 392 = .ok (.if_icmp .ge 28, 3) := dk_162 0 28 (dk_at dksX2_readHead_16 20 rfl rfl)
theorem dX2_readHead_395 : decode cX2_readHead 395 = .ok (.aload 9, 2) := dk_25 9 (dk_at dksX2_readHead_17 0 rfl rfl)
theorem dX2_readHead_397 : decode cX2_readHead 397 = .ok (.getfield 162, 3) := dk_180 0 162 (dk_at dksX2_readHead_17 2 rfl rfl)
theorem dX2_readHead_400 : decode cX2_readHead 400 = .ok (.iload 10, 2) := dk_21 10 (dk_at dksX2_readHead_17 5 rfl rfl)
theorem dX2_readHead_402 : decode cX2_readHead 402 = .ok (.aload_n 0, 1) := dk_42 (dk_at dksX2_readHead_17 7 rfl rfl)
theorem dX2_readHead_403 : decode cX2_readHead 403 = .ok (.aload_n 0, 1) := dk_42 (dk_at dksX2_readHead_17 8 rfl rfl)
theorem dX2_readHead_404 : decode cX2_readHead 404 = .ok (.getfield 19, 3) := dk_180 0 19 (dk_at dksX2_readHead_17 9 rfl rfl)
theorem dX2_readHead_407 : decode cX2_readHead 407 = .ok (.iload 10, 2) := dk_21 10 (dk_at dksX2_readHead_17 12 rfl rfl)
theorem dX2_readHead_409 : decode cX2_readHead 409 = .ok (.iadd, 1) := dk_96 (dk_at dksX2_readHead_17 14 rfl rfl)
theorem dX2_readHead_410 : decode cX2_readHead 410 = .ok (.invokevirtual 66, 3) := dk_182 0 66 (dk_at dksX2_readHead_17 15 rfl rfl)
theorem dX2_readHead_413 : decode cX2_readHead 413 = .ok (.iastore, 1) := dk_79 (dk_at dksX2_readHead_17 18 rfl rfl)
theorem dX2_readHead_414 : decode cX2_readHead 414 = .ok (.iinc 10 1, 3) := dk_132 10 1 (dk_at dksX2_readHead_17 19 rfl rfl)
theorem dX2_readHead_417 : decode cX2_readHead 417 = .ok (.goto (-29), 3) := dk_167 255 227 (dk_at dksX2_readHead_18 0 rfl rfl)
theorem dX2_readHead_420 : decode cX2_readHead 420 = .ok (.aload 9, 2) := dk_25 9 (dk_at dksX2_readHead_18 3 rfl rfl)
theorem dX2_readHead_422 : decode cX2_readHead 422 = .ok (.iload 6, 2) := dk_21 6 (dk_at dksX2_readHead_18 5 rfl rfl)
theorem dX2_readHead_424 : decode cX2_readHead 424 = .ok (.putfield 165, 3) := dk_181 0 165 (dk_at dksX2_readHead_18 7 rfl rfl)
theorem dX2_readHead_427 : decode cX2_readHead 427 = .ok (.aload 9, 2) := dk_25 9 (dk_at dksX2_readHead_18 10 rfl rfl)
theorem dX2_readHead_429 : decode cX2_readHead 429 = .ok (.iload 8, 2) := dk_21 8 (dk_at dksX2_readHead_18 12 rfl rfl)
theorem dX2_readHead_431 : decode cX2_readHead 431 = .ok (.iconst (-1), 1) := dk_2 (dk_at dksX2_readHead_18 14 rfl rfl)
theorem dX2_readHead_432 : decode cX2_readHead 432 = .ok (.ixor, 1) := dk_130 (dk_at dksX2_readHead_18 15 rfl rfl)
theorem dX2_readHead_433 : decode cX2_readHead 433 = .ok (.iconst 2, 1) := dk_5 (dk_at dksX2_readHead_18 16 rfl rfl)
theorem dX2_readHead_434 : decode cX2_readHead 434 = .ok (.iload 6, 2) := dk_21 6 (dk_at dksX2_readHead_18 17 rfl rfl)
theorem dX2_readHead_436 : decode cX2_readHead 436 = .ok (.ishl, 1) := dk_120 (dk_at dksX2_readHead_18 19 rfl rfl)
theorem dX2_readHead_437 : decode cX2_readHead 437 = .ok (.iconst 1, 1) := dk_4 (dk_at dksX2_readHead_18 20 rfl rfl)
theorem dX2_readHead_438 : decode cX2_readHead 438 = .ok (.isub, 1) := dk_100 (dk_at dksX2_readHead_18 21 rfl rfl)
theorem dX2_readHead_439 : decode cX2_readHead 439 = .ok (.iand, 1) := dk_126 (dk_at dksX2_readHead_18 22 rfl rfl)
theorem dX2_readHead_440 : decode cX2_readHead 440 = .ok (.putfield 168, 3) := dk_181 0 168 (dk_at dksX2_readHead_19 0 rfl rfl)
theorem dX2_readHead_443 : decode cX2_readHead 443 = .ok (.aload 9, 2) := dk_25 9 (dk_at dksX2_readHead_19 3 rfl rfl)
theorem dX2_readHead_445 : decode cX2_readHead 445 = .ok (.aload_n 0, 1) := dk_42 (dk_at dksX2_readHead_19 5 rfl rfl)
theorem dX2_readHead_446 : decode cX2_readHead 446 = .ok (.aload_n 0, 1) := dk_42 (dk_at dksX2_readHead_19 6 rfl rfl)
theorem dX2_readHead_447 : decode cX2_readHead 447 = .ok (.getfield 19, 3) := dk_180 0 19 (dk_at dksX2_readHead_19 7 rfl rfl)
theorem dX2_readHead_450 : decode cX2_readHead 450 = .ok (.iload 6, 2) := dk_21 6 (dk_at dksX2_readHead_19 10 rfl rfl)
theorem dX2_readHead_452 : decode cX2_readHead 452 = .ok (.iadd, 1) := dk_96 (dk_at dksX2_readHead_19 12 rfl rfl)
theorem dX2_readHead_453 : decode cX2_readHead 453 = .ok (.iconst 1, 1) := dk_4 (dk_at dksX2_readHead_19 13 rfl rfl)
theorem dX2_readHead_454 : decode cX2_readHead 454 = .ok (.iadd, 1) := dk_96 (dk_at dksX2_readHead_19 14 rfl rfl)
theorem dX2_readHead_455 : decode cX2_readHead 455 = .ok (.invokevirtual 134, 3) := dk_182 0 134 (dk_at dksX2_readHead_19 15 rfl rfl)
theorem dX2_readHead_458 : decode cX2_readHead 458 = .ok (.putfield 171, 3) := dk_181 0 171 (dk_at dksX2_readHead_19 18 rfl rfl)
theorem dX2_readHead_461 : decode cX2_readHead 461 = .ok (.aload 9, 2) := dk_25 9 (dk_at dksX2_readHead_19 21 rfl rfl)
theorem dX2_readHead_463 : decode cX2_readHead 463 = .ok (.iload_n 1, 1) := dk_27 (dk_at dksX2_readHead_19 23 rfl rfl)
theorem dX2_readHead_464 : decode cX2_readHead 464 = .ok (.putfield 175, 3) := dk_181 0 175 (dk_at dksX2_readHead_20 0 rfl rfl)
theorem dX2_readHead_467 : decode cX2_readHead 467 = .ok (.aload_n 0, 1) := dk_42 (dk_at dksX2_readHead_20 3 rfl rfl)
theorem dX2_readHead_468 : decode cX2_readHead 468 = .ok (.dup, 1) := dk_89 (dk_at dksX2_readHead_20 4 rfl rfl)
theorem dX2_readHead_469 : decode cX2_readHead 469 = .ok (.getfield 19, 3) := dk_180 0 19 (dk_at dksX2_readHead_20 5 rfl rfl)
theorem dX2_readHead_472 : decode cX2_readHead 472 = .ok (.iload 6, 2) := dk_21 6 (dk_at dksX2_readHead_20 8 rfl rfl)
theorem dX2_readHead_474 : decode cX2_readHead 474 = .ok (.iconst 5, 1) := dk_8 (dk_at dksX2_readHead_20 10 rfl rfl)
theorem dX2_readHead_475 : decode cX2_readHead 475 = .ok (.iadd, 1) := dk_96 (dk_at dksX2_readHead_20 11 rfl rfl)
theorem dX2_readHead_476 : decode cX2_readHead 476 = .ok (.iadd, 1) := dk_96 (dk_at dksX2_readHead_20 12 rfl rfl)
theorem dX2_readHead_477 : decode cX2_readHead 477 = .ok (.putfield 19, 3) := dk_181 0 19 (dk_at dksX2_readHead_20 13 rfl rfl)
theorem dX2_readHead_480 : decode cX2_readHead 480 = .ok (.aload_n 0, 1) := dk_42 (dk_at dksX2_readHead_20 16 rfl rfl)
theorem dX2_readHead_481 : decode cX2_readHead 481 = .ok (.lload_n 3, 1) := dk_33 (dk_at dksX2_readHead_20 17 rfl rfl)
theorem dX2_readHead_482 : decode cX2_readHead 482 = .ok (.l2i, 1) := dk_136 (dk_at dksX2_readHead_20 18 rfl rfl)
theorem dX2_readHead_483 : decode cX2_readHead 483 = .ok (.putfield 23, 3) := dk_181 0 23 (dk_at dksX2_readHead_20 19 rfl rfl)
theorem dX2_readHead_486 : decode cX2_readHead 486 = .ok (.aload 9, 2) := dk_25 9 (dk_at dksX2_readHead_20 22 rfl rfl)
theorem dX2_readHead_488 : decode cX2_readHead 488 = .ok (.areturn, 1) := dk_176 (dk_at dksX2_readHead_21 0 rfl rfl)
abbrev cX2_needBytes : ByteArray := prog_3_method_5_code
def yX2_needBytes : MethodName := ⟨RX2, "needBytes", "(J)V"⟩
def dkwX2_needBytes_1 : List UInt8 := [180, 0, 54, 184, 0, 70, 177]
abbrev dktX2_needBytes_1 : List UInt8 := dkwX2_needBytes_1 ++ []
def dkwX2_needBytes_0 : List UInt8 := [42, 180, 0, 19, 133, 31, 97, 42, 180, 0, 54, 133, 148, 157, 0, 7, 4, 167, 0, 4, 3, 4, 42]
abbrev dktX2_needBytes_0 : List UInt8 := dkwX2_needBytes_0 ++ dktX2_needBytes_1
theorem dksX2_needBytes_0 : cX2_needBytes.data.toList.drop 0 = dktX2_needBytes_0 := by decide +kernel
theorem dksX2_needBytes_1 : cX2_needBytes.data.toList.drop 23 = dktX2_needBytes_1 := dk_seg dksX2_needBytes_0 23 rfl rfl
theorem dX2_needBytes_0 : decode cX2_needBytes 0 = .ok (.aload_n 0, 1) := dk_42 (dk_at dksX2_needBytes_0 0 rfl rfl)
theorem dX2_needBytes_1 : decode cX2_needBytes 1 = .ok (.getfield 19, 3) := dk_180 0 19 (dk_at dksX2_needBytes_0 1 rfl rfl)
theorem dX2_needBytes_4 : decode cX2_needBytes 4 = .ok (.i2l, 1) := dk_133 (dk_at dksX2_needBytes_0 4 rfl rfl)
theorem dX2_needBytes_5 : decode cX2_needBytes 5 = .ok (.lload_n 1, 1) := dk_31 (dk_at dksX2_needBytes_0 5 rfl rfl)
theorem dX2_needBytes_6 : decode cX2_needBytes 6 = .ok (.ladd, 1) := dk_97 (dk_at dksX2_needBytes_0 6 rfl rfl)
theorem dX2_needBytes_7 : decode cX2_needBytes 7 = .ok (.aload_n 0, 1) := dk_42 (dk_at dksX2_needBytes_0 7 rfl rfl)
theorem dX2_needBytes_8 : decode cX2_needBytes 8 = .ok (.getfield 54, 3) := dk_180 0 54 (dk_at dksX2_needBytes_0 8 rfl rfl)
theorem dX2_needBytes_11 : decode cX2_needBytes 11 = .ok (.i2l, 1) := dk_133 (dk_at dksX2_needBytes_0 11 rfl rfl)
theorem dX2_needBytes_12 : decode cX2_needBytes 12 = .ok (.lcmp, 1) := dk_148 (dk_at dksX2_needBytes_0 12 rfl rfl)
theorem dX2_needBytes_13 : decode cX2_needBytes 13 = .ok (.ifCond .gt 7, 3) := dk_157 0 7 (dk_at dksX2_needBytes_0 13 rfl rfl)
theorem dX2_needBytes_16 : decode cX2_needBytes 16 = .ok (.iconst 1, 1) := dk_4 (dk_at dksX2_needBytes_0 16 rfl rfl)
theorem dX2_needBytes_17 : decode cX2_needBytes 17 = .ok (.goto 4, 3) := dk_167 0 4 (dk_at dksX2_needBytes_0 17 rfl rfl)
theorem dX2_needBytes_20 : decode cX2_needBytes 20 = .ok (.iconst 0, 1) := dk_3 (dk_at dksX2_needBytes_0 20 rfl rfl)
theorem dX2_needBytes_21 : decode cX2_needBytes 21 = .ok (.iconst 1, 1) := dk_4 (dk_at dksX2_needBytes_0 21 rfl rfl)
theorem dX2_needBytes_22 : decode cX2_needBytes 22 = .ok (.aload_n 0, 1) := dk_42 (dk_at dksX2_needBytes_0 22 rfl rfl)
theorem dX2_needBytes_23 : decode cX2_needBytes 23 = .ok (.getfield 54, 3) := dk_180 0 54 (dk_at dksX2_needBytes_1 0 rfl rfl)
theorem dX2_needBytes_26 : decode cX2_needBytes 26 = .ok (.invokestatic 70, 3) := dk_184 0 70 (dk_at dksX2_needBytes_1 3 rfl rfl)
theorem dX2_needBytes_29 : decode cX2_needBytes 29 = .ok (.return_, 1) := dk_177 (dk_at dksX2_needBytes_1 6 rfl rfl)
abbrev cX2_byteAt : ByteArray := prog_3_method_3_code
def yX2_byteAt : MethodName := ⟨RX2, "byteAt", "(I)I"⟩
def dkwX2_byteAt_0 : List UInt8 := [42, 180, 0, 15, 27, 51, 17, 0, 255, 126, 172]
abbrev dktX2_byteAt_0 : List UInt8 := dkwX2_byteAt_0 ++ []
theorem dksX2_byteAt_0 : cX2_byteAt.data.toList.drop 0 = dktX2_byteAt_0 := by decide +kernel
theorem dX2_byteAt_0 : decode cX2_byteAt 0 = .ok (.aload_n 0, 1) := dk_42 (dk_at dksX2_byteAt_0 0 rfl rfl)
theorem dX2_byteAt_1 : decode cX2_byteAt 1 = .ok (.getfield 15, 3) := dk_180 0 15 (dk_at dksX2_byteAt_0 1 rfl rfl)
theorem dX2_byteAt_4 : decode cX2_byteAt 4 = .ok (.iload_n 1, 1) := dk_27 (dk_at dksX2_byteAt_0 4 rfl rfl)
theorem dX2_byteAt_5 : decode cX2_byteAt 5 = .ok (.baload, 1) := dk_51 (dk_at dksX2_byteAt_0 5 rfl rfl)
theorem dX2_byteAt_6 : decode cX2_byteAt 6 = .ok (.sipush 255, 3) := dk_17 0 255 (dk_at dksX2_byteAt_0 6 rfl rfl)
theorem dX2_byteAt_9 : decode cX2_byteAt 9 = .ok (.iand, 1) := dk_126 (dk_at dksX2_byteAt_0 9 rfl rfl)
theorem dX2_byteAt_10 : decode cX2_byteAt 10 = .ok (.ireturn, 1) := dk_172 (dk_at dksX2_byteAt_0 10 rfl rfl)
abbrev cX2_four : ByteArray := prog_3_method_4_code
def yX2_four : MethodName := ⟨RX2, "four", "(I)J"⟩
def dkwX2_four_1 : List UInt8 := [96, 182, 0, 66, 16, 8, 120, 133, 129, 42, 27, 6, 96, 182, 0, 66, 133, 129, 173]
abbrev dktX2_four_1 : List UInt8 := dkwX2_four_1 ++ []
def dkwX2_four_0 : List UInt8 := [42, 27, 182, 0, 66, 133, 16, 24, 121, 42, 27, 4, 96, 182, 0, 66, 16, 16, 120, 133, 129, 42, 27, 5]
abbrev dktX2_four_0 : List UInt8 := dkwX2_four_0 ++ dktX2_four_1
theorem dksX2_four_0 : cX2_four.data.toList.drop 0 = dktX2_four_0 := by decide +kernel
theorem dksX2_four_1 : cX2_four.data.toList.drop 24 = dktX2_four_1 := dk_seg dksX2_four_0 24 rfl rfl
theorem dX2_four_0 : decode cX2_four 0 = .ok (.aload_n 0, 1) := dk_42 (dk_at dksX2_four_0 0 rfl rfl)
theorem dX2_four_1 : decode cX2_four 1 = .ok (.iload_n 1, 1) := dk_27 (dk_at dksX2_four_0 1 rfl rfl)
theorem dX2_four_2 : decode cX2_four 2 = .ok (.invokevirtual 66, 3) := dk_182 0 66 (dk_at dksX2_four_0 2 rfl rfl)
theorem dX2_four_5 : decode cX2_four 5 = .ok (.i2l, 1) := dk_133 (dk_at dksX2_four_0 5 rfl rfl)
theorem dX2_four_6 : decode cX2_four 6 = .ok (.bipush 24, 2) := dk_16 24 (dk_at dksX2_four_0 6 rfl rfl)
theorem dX2_four_8 : decode cX2_four 8 = .ok (.lshl, 1) := dk_121 (dk_at dksX2_four_0 8 rfl rfl)
theorem dX2_four_9 : decode cX2_four 9 = .ok (.aload_n 0, 1) := dk_42 (dk_at dksX2_four_0 9 rfl rfl)
theorem dX2_four_10 : decode cX2_four 10 = .ok (.iload_n 1, 1) := dk_27 (dk_at dksX2_four_0 10 rfl rfl)
theorem dX2_four_11 : decode cX2_four 11 = .ok (.iconst 1, 1) := dk_4 (dk_at dksX2_four_0 11 rfl rfl)
theorem dX2_four_12 : decode cX2_four 12 = .ok (.iadd, 1) := dk_96 (dk_at dksX2_four_0 12 rfl rfl)
theorem dX2_four_13 : decode cX2_four 13 = .ok (.invokevirtual 66, 3) := dk_182 0 66 (dk_at dksX2_four_0 13 rfl rfl)
theorem dX2_four_16 : decode cX2_four 16 = .ok (.bipush 16, 2) := dk_16 16 (dk_at dksX2_four_0 16 rfl rfl)
theorem dX2_four_18 : decode cX2_four 18 = .ok (.ishl, 1) := dk_120 (dk_at dksX2_four_0 18 rfl rfl)
theorem dX2_four_19 : decode cX2_four 19 = .ok (.i2l, 1) := dk_133 (dk_at dksX2_four_0 19 rfl rfl)
theorem dX2_four_20 : decode cX2_four 20 = .ok (.lor, 1) := dk_129 (dk_at dksX2_four_0 20 rfl rfl)
theorem dX2_four_21 : decode cX2_four 21 = .ok (.aload_n 0, 1) := dk_42 (dk_at dksX2_four_0 21 rfl rfl)
theorem dX2_four_22 : decode cX2_four 22 = .ok (.iload_n 1, 1) := dk_27 (dk_at dksX2_four_0 22 rfl rfl)
theorem dX2_four_23 : decode cX2_four 23 = .ok (.iconst 2, 1) := dk_5 (dk_at dksX2_four_0 23 rfl rfl)
theorem dX2_four_24 : decode cX2_four 24 = .ok (.iadd, 1) := dk_96 (dk_at dksX2_four_1 0 rfl rfl)
theorem dX2_four_25 : decode cX2_four 25 = .ok (.invokevirtual 66, 3) := dk_182 0 66 (dk_at dksX2_four_1 1 rfl rfl)
theorem dX2_four_28 : decode cX2_four 28 = .ok (.bipush 8, 2) := dk_16 8 (dk_at dksX2_four_1 4 rfl rfl)
theorem dX2_four_30 : decode cX2_four 30 = .ok (.ishl, 1) := dk_120 (dk_at dksX2_four_1 6 rfl rfl)
theorem dX2_four_31 : decode cX2_four 31 = .ok (.i2l, 1) := dk_133 (dk_at dksX2_four_1 7 rfl rfl)
theorem dX2_four_32 : decode cX2_four 32 = .ok (.lor, 1) := dk_129 (dk_at dksX2_four_1 8 rfl rfl)
theorem dX2_four_33 : decode cX2_four 33 = .ok (.aload_n 0, 1) := dk_42 (dk_at dksX2_four_1 9 rfl rfl)
theorem dX2_four_34 : decode cX2_four 34 = .ok (.iload_n 1, 1) := dk_27 (dk_at dksX2_four_1 10 rfl rfl)
theorem dX2_four_35 : decode cX2_four 35 = .ok (.iconst 3, 1) := dk_6 (dk_at dksX2_four_1 11 rfl rfl)
theorem dX2_four_36 : decode cX2_four 36 = .ok (.iadd, 1) := dk_96 (dk_at dksX2_four_1 12 rfl rfl)
theorem dX2_four_37 : decode cX2_four 37 = .ok (.invokevirtual 66, 3) := dk_182 0 66 (dk_at dksX2_four_1 13 rfl rfl)
theorem dX2_four_40 : decode cX2_four 40 = .ok (.i2l, 1) := dk_133 (dk_at dksX2_four_1 16 rfl rfl)
theorem dX2_four_41 : decode cX2_four 41 = .ok (.lor, 1) := dk_129 (dk_at dksX2_four_1 17 rfl rfl)
theorem dX2_four_42 : decode cX2_four 42 = .ok (.lreturn, 1) := dk_173 (dk_at dksX2_four_1 18 rfl rfl)
abbrev cX2_readBody : ByteArray := prog_3_method_14_code
def yX2_readBody : MethodName := ⟨RX2, "readBody", "(LBilevelPages$Segment;I)V"⟩
def dkwX2_readBody_12 : List UInt8 := [180, 0, 19, 21, 5, 100, 133, 181, 0, 171, 42, 43, 28, 182, 0, 247, 177]
abbrev dktX2_readBody_12 : List UInt8 := dkwX2_readBody_12 ++ []
def dkwX2_readBody_11 : List UInt8 := [153, 0, 10, 42, 180, 0, 19, 167, 0, 11, 21, 5, 43, 180, 0, 171, 136, 96, 181, 0, 19, 43, 42]
abbrev dktX2_readBody_11 : List UInt8 := dkwX2_readBody_11 ++ dktX2_readBody_12
def dkwX2_readBody_10 : List UInt8 := [156, 0, 7, 4, 167, 0, 4, 3, 16, 9, 43, 180, 0, 175, 184, 0, 70, 167, 0, 3, 42, 21, 4]
abbrev dktX2_readBody_10 : List UInt8 := dkwX2_readBody_10 ++ dktX2_readBody_11
def dkwX2_readBody_9 : List UInt8 := [16, 10, 43, 180, 0, 175, 184, 0, 70, 167, 0, 35, 42, 42, 180, 0, 19, 182, 0, 134, 20, 0, 245, 148]
abbrev dktX2_readBody_9 : List UInt8 := dkwX2_readBody_9 ++ dktX2_readBody_10
def dkwX2_readBody_8 : List UInt8 := [167, 0, 68, 42, 43, 182, 0, 242, 167, 0, 60, 42, 180, 0, 26, 2, 160, 0, 7, 4, 167, 0, 4, 3]
abbrev dktX2_readBody_8 : List UInt8 := dkwX2_readBody_8 ++ dktX2_readBody_9
def dkwX2_readBody_7 : List UInt8 := [42, 43, 21, 4, 45, 182, 0, 231, 167, 0, 84, 42, 43, 182, 0, 235, 167, 0, 76, 42, 43, 182, 0, 239]
abbrev dktX2_readBody_7 : List UInt8 := dkwX2_readBody_7 ++ dktX2_readBody_8
def dkwX2_readBody_6 : List UInt8 := [170, 0, 0, 0, 141, 0, 0, 0, 1, 0, 0, 0, 9, 0, 0, 0, 49, 0, 0, 0, 49, 0, 0, 0, 49, 0, 0, 0, 60, 0, 0, 0, 76, 0, 0, 0, 68, 0, 0, 0, 84, 0, 0, 0, 141, 0, 0, 0, 109]
abbrev dktX2_readBody_6 : List UInt8 := dkwX2_readBody_6 ++ dktX2_readBody_7
def dkwX2_readBody_5 : List UInt8 := [153, 0, 9, 20, 0, 229, 167, 0, 7, 43, 180, 0, 171, 182, 0, 82, 43, 180, 0, 115, 182, 0, 199]
abbrev dktX2_readBody_5 : List UInt8 := dkwX2_readBody_5 ++ dktX2_readBody_6
def dkwX2_readBody_4 : List UInt8 := [167, 0, 4, 3, 16, 7, 43, 180, 0, 175, 184, 0, 70, 42, 180, 0, 19, 54, 5, 42, 21, 4]
abbrev dktX2_readBody_4 : List UInt8 := dkwX2_readBody_4 ++ dktX2_readBody_5
def dkwX2_readBody_3 : List UInt8 := [3, 54, 4, 21, 4, 154, 0, 17, 43, 180, 0, 115, 43, 180, 0, 171, 182, 0, 225, 153, 0, 7, 4]
abbrev dktX2_readBody_3 : List UInt8 := dkwX2_readBody_3 ++ dktX2_readBody_4
def dkwX2_readBody_2 : List UInt8 := [180, 0, 115, 178, 0, 220, 166, 0, 18, 43, 180, 0, 171, 20, 0, 223, 148, 154, 0, 7, 4, 167, 0, 4]
abbrev dktX2_readBody_2 : List UInt8 := dkwX2_readBody_2 ++ dktX2_readBody_3
def dkwX2_readBody_1 : List UInt8 := [180, 0, 115, 182, 0, 216, 153, 0, 7, 4, 167, 0, 4, 3, 16, 6, 43, 180, 0, 175, 184, 0, 70, 43]
abbrev dktX2_readBody_1 : List UInt8 := dkwX2_readBody_1 ++ dktX2_readBody_2
def dkwX2_readBody_0 : List UInt8 := [42, 43, 28, 182, 0, 208, 78, 42, 43, 182, 0, 212, 153, 0, 24, 42, 180, 0, 32, 153, 0, 13, 43]
abbrev dktX2_readBody_0 : List UInt8 := dkwX2_readBody_0 ++ dktX2_readBody_1
theorem dksX2_readBody_0 : cX2_readBody.data.toList.drop 0 = dktX2_readBody_0 := by decide +kernel
theorem dksX2_readBody_1 : cX2_readBody.data.toList.drop 23 = dktX2_readBody_1 := dk_seg dksX2_readBody_0 23 rfl rfl
theorem dksX2_readBody_2 : cX2_readBody.data.toList.drop 47 = dktX2_readBody_2 := dk_seg dksX2_readBody_1 24 rfl rfl
theorem dksX2_readBody_3 : cX2_readBody.data.toList.drop 71 = dktX2_readBody_3 := dk_seg dksX2_readBody_2 24 rfl rfl
theorem dksX2_readBody_4 : cX2_readBody.data.toList.drop 94 = dktX2_readBody_4 := dk_seg dksX2_readBody_3 23 rfl rfl
theorem dksX2_readBody_5 : cX2_readBody.data.toList.drop 116 = dktX2_readBody_5 := dk_seg dksX2_readBody_4 22 rfl rfl
theorem dksX2_readBody_6 : cX2_readBody.data.toList.drop 139 = dktX2_readBody_6 := dk_seg dksX2_readBody_5 23 rfl rfl
theorem dksX2_readBody_7 : cX2_readBody.data.toList.drop 188 = dktX2_readBody_7 := dk_seg dksX2_readBody_6 49 rfl rfl
theorem dksX2_readBody_8 : cX2_readBody.data.toList.drop 212 = dktX2_readBody_8 := dk_seg dksX2_readBody_7 24 rfl rfl
theorem dksX2_readBody_9 : cX2_readBody.data.toList.drop 236 = dktX2_readBody_9 := dk_seg dksX2_readBody_8 24 rfl rfl
theorem dksX2_readBody_10 : cX2_readBody.data.toList.drop 260 = dktX2_readBody_10 := dk_seg dksX2_readBody_9 24 rfl rfl
theorem dksX2_readBody_11 : cX2_readBody.data.toList.drop 283 = dktX2_readBody_11 := dk_seg dksX2_readBody_10 23 rfl rfl
theorem dksX2_readBody_12 : cX2_readBody.data.toList.drop 306 = dktX2_readBody_12 := dk_seg dksX2_readBody_11 23 rfl rfl
theorem dX2_readBody_0 : decode cX2_readBody 0 = .ok (.aload_n 0, 1) := dk_42 (dk_at dksX2_readBody_0 0 rfl rfl)
theorem dX2_readBody_1 : decode cX2_readBody 1 = .ok (.aload_n 1, 1) := dk_43 (dk_at dksX2_readBody_0 1 rfl rfl)
theorem dX2_readBody_2 : decode cX2_readBody 2 = .ok (.iload_n 2, 1) := dk_28 (dk_at dksX2_readBody_0 2 rfl rfl)
theorem dX2_readBody_3 : decode cX2_readBody 3 = .ok (.invokevirtual 208, 3) := dk_182 0 208 (dk_at dksX2_readBody_0 3 rfl rfl)
theorem dX2_readBody_6 : decode cX2_readBody 6 = .ok (.astore_n 3, 1) := dk_78 (dk_at dksX2_readBody_0 6 rfl rfl)
theorem dX2_readBody_7 : decode cX2_readBody 7 = .ok (.aload_n 0, 1) := dk_42 (dk_at dksX2_readBody_0 7 rfl rfl)
theorem dX2_readBody_8 : decode cX2_readBody 8 = .ok (.aload_n 1, 1) := dk_43 (dk_at dksX2_readBody_0 8 rfl rfl)
theorem dX2_readBody_9 : decode cX2_readBody 9 = .ok (.invokevirtual 212, 3) := dk_182 0 212 (dk_at dksX2_readBody_0 9 rfl rfl)
theorem dX2_readBody_12 : decode cX2_readBody 12 = .ok (.ifCond .eq 24, 3) := dk_153 0 24 (dk_at dksX2_readBody_0 12 rfl rfl)
theorem dX2_readBody_15 : decode cX2_readBody 15 = .ok (.aload_n 0, 1) := dk_42 (dk_at dksX2_readBody_0 15 rfl rfl)
theorem dX2_readBody_16 : decode cX2_readBody 16 = .ok (.getfield 32, 3) := dk_180 0 32 (dk_at dksX2_readBody_0 16 rfl rfl)
theorem dX2_readBody_19 : decode cX2_readBody 19 = .ok (.ifCond .eq 13, 3) := dk_153 0 13 (dk_at dksX2_readBody_0 19 rfl rfl)
theorem dX2_readBody_22 : decode cX2_readBody 22 = .ok (.aload_n 1, 1) := dk_43 (dk_at dksX2_readBody_0 22 rfl rfl)
theorem dX2_readBody_23 : decode cX2_readBody 23 = .ok (.getfield 115, 3) := dk_180 0 115 (dk_at dksX2_readBody_1 0 rfl rfl)
theorem dX2_readBody_26 : decode cX2_readBody 26 = .ok (.invokevirtual 216, 3) := dk_182 0 216 (dk_at dksX2_readBody_1 3 rfl rfl)
theorem dX2_readBody_29 : decode cX2_readBody 29 = .ok (.ifCond .eq 7, 3) := dk_153 0 7 (dk_at dksX2_readBody_1 6 rfl rfl)
theorem dX2_readBody_32 : decode cX2_readBody 32 = .ok (.iconst 1, 1) := dk_4 (dk_at dksX2_readBody_1 9 rfl rfl)
theorem dX2_readBody_33 : decode cX2_readBody 33 = .ok (.goto 4, 3) := dk_167 0 4 (dk_at dksX2_readBody_1 10 rfl rfl)
theorem dX2_readBody_36 : decode cX2_readBody 36 = .ok (.iconst 0, 1) := dk_3 (dk_at dksX2_readBody_1 13 rfl rfl)
theorem dX2_readBody_37 : decode cX2_readBody 37 = .ok (.bipush 6, 2) := dk_16 6 (dk_at dksX2_readBody_1 14 rfl rfl)
theorem dX2_readBody_39 : decode cX2_readBody 39 = .ok (.aload_n 1, 1) := dk_43 (dk_at dksX2_readBody_1 16 rfl rfl)
theorem dX2_readBody_40 : decode cX2_readBody 40 = .ok (.getfield 175, 3) := dk_180 0 175 (dk_at dksX2_readBody_1 17 rfl rfl)
theorem dX2_readBody_43 : decode cX2_readBody 43 = .ok (.invokestatic 70, 3) := dk_184 0 70 (dk_at dksX2_readBody_1 20 rfl rfl)
theorem dX2_readBody_46 : decode cX2_readBody 46 = .ok (.aload_n 1, 1) := dk_43 (dk_at dksX2_readBody_1 23 rfl rfl)
theorem dX2_readBody_47 : decode cX2_readBody 47 = .ok (.getfield 115, 3) := dk_180 0 115 (dk_at dksX2_readBody_2 0 rfl rfl)
theorem dX2_readBody_50 : decode cX2_readBody 50 = .ok (.getstatic 220, 3) := dk_178 0 220 (dk_at dksX2_readBody_2 3 rfl rfl)
theorem dX2_readBody_53 : decode cX2_readBody 53 = .ok (.if_acmp .ne 18, 3) := dk_166 0 18 (dk_at dksX2_readBody_2 6 rfl rfl)
theorem dX2_readBody_56 : decode cX2_readBody 56 = .ok (.aload_n 1, 1) := dk_43 (dk_at dksX2_readBody_2 9 rfl rfl)
theorem dX2_readBody_57 : decode cX2_readBody 57 = .ok (.getfield 171, 3) := dk_180 0 171 (dk_at dksX2_readBody_2 10 rfl rfl)
theorem dX2_readBody_60 : decode cX2_readBody 60 = .ok (.ldc2_w 223, 3) := dk_20 0 223 (dk_at dksX2_readBody_2 13 rfl rfl)
theorem dX2_readBody_63 : decode cX2_readBody 63 = .ok (.lcmp, 1) := dk_148 (dk_at dksX2_readBody_2 16 rfl rfl)
theorem dX2_readBody_64 : decode cX2_readBody 64 = .ok (.ifCond .ne 7, 3) := dk_154 0 7 (dk_at dksX2_readBody_2 17 rfl rfl)
theorem dX2_readBody_67 : decode cX2_readBody 67 = .ok (.iconst 1, 1) := dk_4 (dk_at dksX2_readBody_2 20 rfl rfl)
theorem dX2_readBody_68 : decode cX2_readBody 68 = .ok (.goto 4, 3) := dk_167 0 4 (dk_at dksX2_readBody_2 21 rfl rfl)
theorem dX2_readBody_71 : decode cX2_readBody 71 = .ok (.iconst 0, 1) := dk_3 (dk_at dksX2_readBody_3 0 rfl rfl)
theorem dX2_readBody_72 : decode cX2_readBody 72 = .ok (.istore 4, 2) := dk_54 4 (dk_at dksX2_readBody_3 1 rfl rfl)
theorem dX2_readBody_74 : decode cX2_readBody 74 = .ok (.iload 4, 2) := dk_21 4 (dk_at dksX2_readBody_3 3 rfl rfl)
theorem dX2_readBody_76 : decode cX2_readBody 76 = .ok (.ifCond .ne 17, 3) := dk_154 0 17 (dk_at dksX2_readBody_3 5 rfl rfl)
theorem dX2_readBody_79 : decode cX2_readBody 79 = .ok (.aload_n 1, 1) := dk_43 (dk_at dksX2_readBody_3 8 rfl rfl)
theorem dX2_readBody_80 : decode cX2_readBody 80 = .ok (.getfield 115, 3) := dk_180 0 115 (dk_at dksX2_readBody_3 9 rfl rfl)
theorem dX2_readBody_83 : decode cX2_readBody 83 = .ok (.aload_n 1, 1) := dk_43 (dk_at dksX2_readBody_3 12 rfl rfl)
theorem dX2_readBody_84 : decode cX2_readBody 84 = .ok (.getfield 171, 3) := dk_180 0 171 (dk_at dksX2_readBody_3 13 rfl rfl)
theorem dX2_readBody_87 : decode cX2_readBody 87 = .ok (.invokevirtual 225, 3) := dk_182 0 225 (dk_at dksX2_readBody_3 16 rfl rfl)
theorem dX2_readBody_90 : decode cX2_readBody 90 = .ok (.ifCond .eq 7, 3) := dk_153 0 7 (dk_at dksX2_readBody_3 19 rfl rfl)
theorem dX2_readBody_93 : decode cX2_readBody 93 = .ok (.iconst 1, 1) := dk_4 (dk_at dksX2_readBody_3 22 rfl rfl)
theorem dX2_readBody_94 : decode cX2_readBody 94 = .ok (.goto 4, 3) := dk_167 0 4 (dk_at dksX2_readBody_4 0 rfl rfl)
theorem dX2_readBody_97 : decode cX2_readBody 97 = .ok (.iconst 0, 1) := dk_3 (dk_at dksX2_readBody_4 3 rfl rfl)
theorem dX2_readBody_98 : decode cX2_readBody 98 = .ok (.bipush 7, 2) := dk_16 7 (dk_at dksX2_readBody_4 4 rfl rfl)
theorem dX2_readBody_100 : decode cX2_readBody 100 = .ok (.aload_n 1, 1) := dk_43 (dk_at dksX2_readBody_4 6 rfl rfl)
theorem dX2_readBody_101 : decode cX2_readBody 101 = .ok (.getfield 175, 3) := dk_180 0 175 (dk_at dksX2_readBody_4 7 rfl rfl)
theorem dX2_readBody_104 : decode cX2_readBody 104 = .ok (.invokestatic 70, 3) := dk_184 0 70 (dk_at dksX2_readBody_4 10 rfl rfl)
theorem dX2_readBody_107 : decode cX2_readBody 107 = .ok (.aload_n 0, 1) := dk_42 (dk_at dksX2_readBody_4 13 rfl rfl)
theorem dX2_readBody_108 : decode cX2_readBody 108 = .ok (.getfield 19, 3) := dk_180 0 19 (dk_at dksX2_readBody_4 14 rfl rfl)
theorem dX2_readBody_111 : decode cX2_readBody 111 = .ok (.istore 5, 2) := dk_54 5 (dk_at dksX2_readBody_4 17 rfl rfl)
theorem dX2_readBody_113 : decode cX2_readBody 113 = .ok (.aload_n 0, 1) := dk_42 (dk_at dksX2_readBody_4 19 rfl rfl)
theorem dX2_readBody_114 : decode cX2_readBody 114 = .ok (.iload 4, 2) := dk_21 4 (dk_at dksX2_readBody_4 20 rfl rfl)
theorem dX2_readBody_116 : decode cX2_readBody 116 = .ok (.ifCond .eq 9, 3) := dk_153 0 9 (dk_at dksX2_readBody_5 0 rfl rfl)
theorem dX2_readBody_119 : decode cX2_readBody 119 = .ok (.ldc2_w 229, 3) := dk_20 0 229 (dk_at dksX2_readBody_5 3 rfl rfl)
theorem dX2_readBody_122 : decode cX2_readBody 122 = .ok (.goto 7, 3) := dk_167 0 7 (dk_at dksX2_readBody_5 6 rfl rfl)
theorem dX2_readBody_125 : decode cX2_readBody 125 = .ok (.aload_n 1, 1) := dk_43 (dk_at dksX2_readBody_5 9 rfl rfl)
theorem dX2_readBody_126 : decode cX2_readBody 126 = .ok (.getfield 171, 3) := dk_180 0 171 (dk_at dksX2_readBody_5 10 rfl rfl)
theorem dX2_readBody_129 : decode cX2_readBody 129 = .ok (.invokevirtual 82, 3) := dk_182 0 82 (dk_at dksX2_readBody_5 13 rfl rfl)
theorem dX2_readBody_132 : decode cX2_readBody 132 = .ok (.aload_n 1, 1) := dk_43 (dk_at dksX2_readBody_5 16 rfl rfl)
theorem dX2_readBody_133 : decode cX2_readBody 133 = .ok (.getfield 115, 3) := dk_180 0 115 (dk_at dksX2_readBody_5 17 rfl rfl)
theorem dX2_readBody_136 : decode cX2_readBody 136 = .ok (.invokevirtual 199, 3) := dk_182 0 199 (dk_at dksX2_readBody_5 20 rfl rfl)
theorem dX2_readBody_139 : decode cX2_readBody 139 = .ok (.tableswitch 141 1 9 #[49, 49, 49, 60, 76, 68, 84, 141, 109], 49) := by decide +kernel
theorem dX2_readBody_188 : decode cX2_readBody 188 = .ok (.aload_n 0, 1) := dk_42 (dk_at dksX2_readBody_7 0 rfl rfl)
theorem dX2_readBody_189 : decode cX2_readBody 189 = .ok (.aload_n 1, 1) := dk_43 (dk_at dksX2_readBody_7 1 rfl rfl)
theorem dX2_readBody_190 : decode cX2_readBody 190 = .ok (.iload 4, 2) := dk_21 4 (dk_at dksX2_readBody_7 2 rfl rfl)
theorem dX2_readBody_192 : decode cX2_readBody 192 = .ok (.aload_n 3, 1) := dk_45 (dk_at dksX2_readBody_7 4 rfl rfl)
theorem dX2_readBody_193 : decode cX2_readBody 193 = .ok (.invokevirtual 231, 3) := dk_182 0 231 (dk_at dksX2_readBody_7 5 rfl rfl)
theorem dX2_readBody_196 : decode cX2_readBody 196 = .ok (.goto 84, 3) := dk_167 0 84 (dk_at dksX2_readBody_7 8 rfl rfl)
theorem dX2_readBody_199 : decode cX2_readBody 199 = .ok (.aload_n 0, 1) := dk_42 (dk_at dksX2_readBody_7 11 rfl rfl)
theorem dX2_readBody_200 : decode cX2_readBody 200 = .ok (.aload_n 1, 1) := dk_43 (dk_at dksX2_readBody_7 12 rfl rfl)
theorem dX2_readBody_201 : decode cX2_readBody 201 = .ok (.invokevirtual 235, 3) := dk_182 0 235 (dk_at dksX2_readBody_7 13 rfl rfl)
theorem dX2_readBody_204 : decode cX2_readBody 204 = .ok (.goto 76, 3) := dk_167 0 76 (dk_at dksX2_readBody_7 16 rfl rfl)
theorem dX2_readBody_207 : decode cX2_readBody 207 = .ok (.aload_n 0, 1) := dk_42 (dk_at dksX2_readBody_7 19 rfl rfl)
theorem dX2_readBody_208 : decode cX2_readBody 208 = .ok (.aload_n 1, 1) := dk_43 (dk_at dksX2_readBody_7 20 rfl rfl)
theorem dX2_readBody_209 : decode cX2_readBody 209 = .ok (.invokevirtual 239, 3) := dk_182 0 239 (dk_at dksX2_readBody_7 21 rfl rfl)
theorem dX2_readBody_212 : decode cX2_readBody 212 = .ok (.goto 68, 3) := dk_167 0 68 (dk_at dksX2_readBody_8 0 rfl rfl)
theorem dX2_readBody_215 : decode cX2_readBody 215 = .ok (.aload_n 0, 1) := dk_42 (dk_at dksX2_readBody_8 3 rfl rfl)
theorem dX2_readBody_216 : decode cX2_readBody 216 = .ok (.aload_n 1, 1) := dk_43 (dk_at dksX2_readBody_8 4 rfl rfl)
theorem dX2_readBody_217 : decode cX2_readBody 217 = .ok (.invokevirtual 242, 3) := dk_182 0 242 (dk_at dksX2_readBody_8 5 rfl rfl)
theorem dX2_readBody_220 : decode cX2_readBody 220 = .ok (.goto 60, 3) := dk_167 0 60 (dk_at dksX2_readBody_8 8 rfl rfl)
theorem dX2_readBody_223 : decode cX2_readBody 223 = .ok (.aload_n 0, 1) := dk_42 (dk_at dksX2_readBody_8 11 rfl rfl)
theorem dX2_readBody_224 : decode cX2_readBody 224 = .ok (.getfield 26, 3) := dk_180 0 26 (dk_at dksX2_readBody_8 12 rfl rfl)
theorem dX2_readBody_227 : decode cX2_readBody 227 = .ok (.iconst (-1), 1) := dk_2 (dk_at dksX2_readBody_8 15 rfl rfl)
theorem dX2_readBody_228 : decode cX2_readBody 228 = .ok (.if_icmp .ne 7, 3) := dk_160 0 7 (dk_at dksX2_readBody_8 16 rfl rfl)
theorem dX2_readBody_231 : decode cX2_readBody 231 = .ok (.iconst 1, 1) := dk_4 (dk_at dksX2_readBody_8 19 rfl rfl)
theorem dX2_readBody_232 : decode cX2_readBody 232 = .ok (.goto 4, 3) := dk_167 0 4 (dk_at dksX2_readBody_8 20 rfl rfl)
theorem dX2_readBody_235 : decode cX2_readBody 235 = .ok (.iconst 0, 1) := dk_3 (dk_at dksX2_readBody_8 23 rfl rfl)
theorem dX2_readBody_236 : decode cX2_readBody 236 = .ok (.bipush 10, 2) := dk_16 10 (dk_at dksX2_readBody_9 0 rfl rfl)
theorem dX2_readBody_238 : decode cX2_readBody 238 = .ok (.aload_n 1, 1) := dk_43 (dk_at dksX2_readBody_9 2 rfl rfl)
theorem dX2_readBody_239 : decode cX2_readBody 239 = .ok (.getfield 175, 3) := dk_180 0 175 (dk_at dksX2_readBody_9 3 rfl rfl)
theorem dX2_readBody_242 : decode cX2_readBody 242 = .ok (.invokestatic 70, 3) := dk_184 0 70 (dk_at dksX2_readBody_9 6 rfl rfl)
theorem dX2_readBody_245 : decode cX2_readBody 245 = .ok (.goto 35, 3) := dk_167 0 35 (dk_at dksX2_readBody_9 9 rfl rfl)
theorem dX2_readBody_248 : decode cX2_readBody 248 = .ok (.aload_n 0, 1) := dk_42 (dk_at dksX2_readBody_9 12 rfl rfl)
theorem dX2_readBody_249 : decode cX2_readBody 249 = .ok (.aload_n 0, 1) := dk_42 (dk_at dksX2_readBody_9 13 rfl rfl)
theorem dX2_readBody_250 : decode cX2_readBody 250 = .ok (.getfield 19, 3) := dk_180 0 19 (dk_at dksX2_readBody_9 14 rfl rfl)
theorem dX2_readBody_253 : decode cX2_readBody 253 = .ok (.invokevirtual 134, 3) := dk_182 0 134 (dk_at dksX2_readBody_9 17 rfl rfl)
theorem dX2_readBody_256 : decode cX2_readBody 256 = .ok (.ldc2_w 245, 3) := dk_20 0 245 (dk_at dksX2_readBody_9 20 rfl rfl)
theorem dX2_readBody_259 : decode cX2_readBody 259 = .ok (.lcmp, 1) := dk_148 (dk_at dksX2_readBody_9 23 rfl rfl)
theorem dX2_readBody_260 : decode cX2_readBody 260 = .ok (.ifCond .ge 7, 3) := dk_156 0 7 (dk_at dksX2_readBody_10 0 rfl rfl)
theorem dX2_readBody_263 : decode cX2_readBody 263 = .ok (.iconst 1, 1) := dk_4 (dk_at dksX2_readBody_10 3 rfl rfl)
theorem dX2_readBody_264 : decode cX2_readBody 264 = .ok (.goto 4, 3) := dk_167 0 4 (dk_at dksX2_readBody_10 4 rfl rfl)
theorem dX2_readBody_267 : decode cX2_readBody 267 = .ok (.iconst 0, 1) := dk_3 (dk_at dksX2_readBody_10 7 rfl rfl)
theorem dX2_readBody_268 : decode cX2_readBody 268 = .ok (.bipush 9, 2) := dk_16 9 (dk_at dksX2_readBody_10 8 rfl rfl)
theorem dX2_readBody_270 : decode cX2_readBody 270 = .ok (.aload_n 1, 1) := dk_43 (dk_at dksX2_readBody_10 10 rfl rfl)
theorem dX2_readBody_271 : decode cX2_readBody 271 = .ok (.getfield 175, 3) := dk_180 0 175 (dk_at dksX2_readBody_10 11 rfl rfl)
theorem dX2_readBody_274 : decode cX2_readBody 274 = .ok (.invokestatic 70, 3) := dk_184 0 70 (dk_at dksX2_readBody_10 14 rfl rfl)
theorem dX2_readBody_277 : decode cX2_readBody 277 = .ok (.goto 3, 3) := dk_167 0 3 (dk_at dksX2_readBody_10 17 rfl rfl)
theorem dX2_readBody_280 : decode cX2_readBody 280 = .ok (.aload_n 0, 1) := dk_42 (dk_at dksX2_readBody_10 20 rfl rfl)
theorem dX2_readBody_281 : decode cX2_readBody 281 = .ok (.iload 4, 2) := dk_21 4 (dk_at dksX2_readBody_10 21 rfl rfl)
theorem dX2_readBody_283 : decode cX2_readBody 283 = .ok (.ifCond .eq 10, 3) := dk_153 0 10 (dk_at dksX2_readBody_11 0 rfl rfl)
theorem dX2_readBody_286 : decode cX2_readBody 286 = .ok (.aload_n 0, 1) := dk_42 (dk_at dksX2_readBody_11 3 rfl rfl)
theorem dX2_readBody_287 : decode cX2_readBody 287 = .ok (.getfield 19, 3) := dk_180 0 19 (dk_at dksX2_readBody_11 4 rfl rfl)
theorem dX2_readBody_290 : decode cX2_readBody 290 = .ok (.goto 11, 3) := dk_167 0 11 (dk_at dksX2_readBody_11 7 rfl rfl)
theorem dX2_readBody_293 : decode cX2_readBody 293 = .ok (.iload 5, 2) := dk_21 5 (dk_at dksX2_readBody_11 10 rfl rfl)
theorem dX2_readBody_295 : decode cX2_readBody 295 = .ok (.aload_n 1, 1) := dk_43 (dk_at dksX2_readBody_11 12 rfl rfl)
theorem dX2_readBody_296 : decode cX2_readBody 296 = .ok (.getfield 171, 3) := dk_180 0 171 (dk_at dksX2_readBody_11 13 rfl rfl)
theorem dX2_readBody_299 : decode cX2_readBody 299 = .ok (.l2i, 1) := dk_136 (dk_at dksX2_readBody_11 16 rfl rfl)
theorem dX2_readBody_300 : decode cX2_readBody 300 = .ok (.iadd, 1) := dk_96 (dk_at dksX2_readBody_11 17 rfl rfl)
theorem dX2_readBody_301 : decode cX2_readBody 301 = .ok (.putfield 19, 3) := dk_181 0 19 (dk_at dksX2_readBody_11 18 rfl rfl)
theorem dX2_readBody_304 : decode cX2_readBody 304 = .ok (.aload_n 1, 1) := dk_43 (dk_at dksX2_readBody_11 21 rfl rfl)
theorem dX2_readBody_305 : decode cX2_readBody 305 = .ok (.aload_n 0, 1) := dk_42 (dk_at dksX2_readBody_11 22 rfl rfl)
theorem dX2_readBody_306 : decode cX2_readBody 306 = .ok (.getfield 19, 3) := dk_180 0 19 (dk_at dksX2_readBody_12 0 rfl rfl)
theorem dX2_readBody_309 : decode cX2_readBody 309 = .ok (.iload 5, 2) := dk_21 5 (dk_at dksX2_readBody_12 3 rfl rfl)
theorem dX2_readBody_311 : decode cX2_readBody 311 = .ok (.isub, 1) := dk_100 (dk_at dksX2_readBody_12 5 rfl rfl)
theorem dX2_readBody_312 : decode cX2_readBody 312 = .ok (.i2l, 1) := dk_133 (dk_at dksX2_readBody_12 6 rfl rfl)
theorem dX2_readBody_313 : decode cX2_readBody 313 = .ok (.putfield 171, 3) := dk_181 0 171 (dk_at dksX2_readBody_12 7 rfl rfl)
theorem dX2_readBody_316 : decode cX2_readBody 316 = .ok (.aload_n 0, 1) := dk_42 (dk_at dksX2_readBody_12 10 rfl rfl)
theorem dX2_readBody_317 : decode cX2_readBody 317 = .ok (.aload_n 1, 1) := dk_43 (dk_at dksX2_readBody_12 11 rfl rfl)
theorem dX2_readBody_318 : decode cX2_readBody 318 = .ok (.iload_n 2, 1) := dk_28 (dk_at dksX2_readBody_12 12 rfl rfl)
theorem dX2_readBody_319 : decode cX2_readBody 319 = .ok (.invokevirtual 247, 3) := dk_182 0 247 (dk_at dksX2_readBody_12 13 rfl rfl)
theorem dX2_readBody_322 : decode cX2_readBody 322 = .ok (.return_, 1) := dk_177 (dk_at dksX2_readBody_12 16 rfl rfl)
abbrev cX2_checkReferences : ByteArray := prog_3_method_11_code
def yX2_checkReferences : MethodName := ⟨RX2, "checkReferences", "(LBilevelPages$Segment;I)LBilevelPages$Segment;"⟩
def dkwX2_checkReferences_7 : List UInt8 := [78, 132, 4, 1, 167, 255, 91, 45, 176]
abbrev dktX2_checkReferences_7 : List UInt8 := dkwX2_checkReferences_7 ++ []
def dkwX2_checkReferences_6 : List UInt8 := [43, 180, 0, 175, 184, 0, 70, 25, 5, 180, 0, 115, 178, 0, 196, 166, 0, 8, 25, 5, 167, 0, 4, 45]
abbrev dktX2_checkReferences_6 : List UInt8 := dkwX2_checkReferences_6 ++ dktX2_checkReferences_7
def dkwX2_checkReferences_5 : List UInt8 := [153, 0, 22, 25, 5, 180, 0, 115, 178, 0, 196, 166, 0, 7, 45, 199, 0, 7, 4, 167, 0, 4, 3, 8]
abbrev dktX2_checkReferences_5 : List UInt8 := dkwX2_checkReferences_5 ++ dktX2_checkReferences_6
def dkwX2_checkReferences_4 : List UInt8 := [167, 0, 4, 3, 8, 43, 180, 0, 175, 184, 0, 70, 43, 180, 0, 115, 25, 5, 180, 0, 115, 182, 0, 192]
abbrev dktX2_checkReferences_4 : List UInt8 := dkwX2_checkReferences_4 ++ dktX2_checkReferences_5
def dkwX2_checkReferences_3 : List UInt8 := [184, 0, 70, 25, 5, 180, 0, 189, 153, 0, 15, 25, 5, 180, 0, 189, 43, 180, 0, 189, 160, 0, 7, 4]
abbrev dktX2_checkReferences_3 : List UInt8 := dkwX2_checkReferences_3 ++ dktX2_checkReferences_4
def dkwX2_checkReferences_2 : List UInt8 := [21, 4, 46, 182, 0, 186, 21, 4, 4, 96, 160, 0, 7, 4, 167, 0, 4, 3, 8, 43, 180, 0, 175]
abbrev dktX2_checkReferences_2 : List UInt8 := dkwX2_checkReferences_2 ++ dktX2_checkReferences_3
def dkwX2_checkReferences_1 : List UInt8 := [182, 0, 179, 58, 5, 25, 5, 198, 0, 34, 25, 5, 180, 0, 183, 2, 160, 0, 25, 43, 43, 180, 0, 162]
abbrev dktX2_checkReferences_1 : List UInt8 := dkwX2_checkReferences_1 ++ dktX2_checkReferences_2
def dkwX2_checkReferences_0 : List UInt8 := [1, 78, 3, 54, 4, 21, 4, 43, 180, 0, 165, 162, 0, 162, 42, 43, 180, 0, 162, 21, 4, 46, 28]
abbrev dktX2_checkReferences_0 : List UInt8 := dkwX2_checkReferences_0 ++ dktX2_checkReferences_1
theorem dksX2_checkReferences_0 : cX2_checkReferences.data.toList.drop 0 = dktX2_checkReferences_0 := by decide +kernel
theorem dksX2_checkReferences_1 : cX2_checkReferences.data.toList.drop 23 = dktX2_checkReferences_1 := dk_seg dksX2_checkReferences_0 23 rfl rfl
theorem dksX2_checkReferences_2 : cX2_checkReferences.data.toList.drop 47 = dktX2_checkReferences_2 := dk_seg dksX2_checkReferences_1 24 rfl rfl
theorem dksX2_checkReferences_3 : cX2_checkReferences.data.toList.drop 70 = dktX2_checkReferences_3 := dk_seg dksX2_checkReferences_2 23 rfl rfl
theorem dksX2_checkReferences_4 : cX2_checkReferences.data.toList.drop 94 = dktX2_checkReferences_4 := dk_seg dksX2_checkReferences_3 24 rfl rfl
theorem dksX2_checkReferences_5 : cX2_checkReferences.data.toList.drop 118 = dktX2_checkReferences_5 := dk_seg dksX2_checkReferences_4 24 rfl rfl
theorem dksX2_checkReferences_6 : cX2_checkReferences.data.toList.drop 142 = dktX2_checkReferences_6 := dk_seg dksX2_checkReferences_5 24 rfl rfl
theorem dksX2_checkReferences_7 : cX2_checkReferences.data.toList.drop 166 = dktX2_checkReferences_7 := dk_seg dksX2_checkReferences_6 24 rfl rfl
theorem dX2_checkReferences_0 : decode cX2_checkReferences 0 = .ok (.aconst_null, 1) := dk_1 (dk_at dksX2_checkReferences_0 0 rfl rfl)
theorem dX2_checkReferences_1 : decode cX2_checkReferences 1 = .ok (.astore_n 3, 1) := dk_78 (dk_at dksX2_checkReferences_0 1 rfl rfl)
theorem dX2_checkReferences_2 : decode cX2_checkReferences 2 = .ok (.iconst 0, 1) := dk_3 (dk_at dksX2_checkReferences_0 2 rfl rfl)
theorem dX2_checkReferences_3 : decode cX2_checkReferences 3 = .ok (.istore 4, 2) := dk_54 4 (dk_at dksX2_checkReferences_0 3 rfl rfl)
theorem dX2_checkReferences_5 : decode cX2_checkReferences 5 = .ok (.iload 4, 2) := dk_21 4 (dk_at dksX2_checkReferences_0 5 rfl rfl)
theorem dX2_checkReferences_7 : decode cX2_checkReferences 7 = .ok (.aload_n 1, 1) := dk_43 (dk_at dksX2_checkReferences_0 7 rfl rfl)
theorem dX2_checkReferences_8 : decode cX2_checkReferences 8 = .ok (.getfield 165, 3) := dk_180 0 165 (dk_at dksX2_checkReferences_0 8 rfl rfl)
theorem dX2_checkReferences_11 : decode cX2_checkReferences 11 = .ok (.if_icmp .ge 162, 3) := dk_162 0 162 (dk_at dksX2_checkReferences_0 11 rfl rfl)
theorem dX2_checkReferences_14 : decode cX2_checkReferences 14 = .ok (.aload_n 0, 1) := dk_42 (dk_at dksX2_checkReferences_0 14 rfl rfl)
theorem dX2_checkReferences_15 : decode cX2_checkReferences 15 = .ok (.aload_n 1, 1) := dk_43 (dk_at dksX2_checkReferences_0 15 rfl rfl)
theorem dX2_checkReferences_16 : decode cX2_checkReferences 16 = .ok (.getfield 162, 3) := dk_180 0 162 (dk_at dksX2_checkReferences_0 16 rfl rfl)
theorem dX2_checkReferences_19 : decode cX2_checkReferences 19 = .ok (.iload 4, 2) := dk_21 4 (dk_at dksX2_checkReferences_0 19 rfl rfl)
theorem dX2_checkReferences_21 : decode cX2_checkReferences 21 = .ok (.iaload, 1) := dk_46 (dk_at dksX2_checkReferences_0 21 rfl rfl)
theorem dX2_checkReferences_22 : decode cX2_checkReferences 22 = .ok (.iload_n 2, 1) := dk_28 (dk_at dksX2_checkReferences_0 22 rfl rfl)
theorem dX2_checkReferences_23 : decode cX2_checkReferences 23 = .ok (.invokevirtual 179, 3) := dk_182 0 179 (dk_at dksX2_checkReferences_1 0 rfl rfl)
theorem dX2_checkReferences_26 : decode cX2_checkReferences 26 = .ok (.astore 5, 2) := dk_58 5 (dk_at dksX2_checkReferences_1 3 rfl rfl)
theorem dX2_checkReferences_28 : decode cX2_checkReferences 28 = .ok (.aload 5, 2) := dk_25 5 (dk_at dksX2_checkReferences_1 5 rfl rfl)
theorem dX2_checkReferences_30 : decode cX2_checkReferences 30 = .ok (.ifnull 34, 3) := dk_198 0 34 (dk_at dksX2_checkReferences_1 7 rfl rfl)
theorem dX2_checkReferences_33 : decode cX2_checkReferences 33 = .ok (.aload 5, 2) := dk_25 5 (dk_at dksX2_checkReferences_1 10 rfl rfl)
theorem dX2_checkReferences_35 : decode cX2_checkReferences 35 = .ok (.getfield 183, 3) := dk_180 0 183 (dk_at dksX2_checkReferences_1 12 rfl rfl)
theorem dX2_checkReferences_38 : decode cX2_checkReferences 38 = .ok (.iconst (-1), 1) := dk_2 (dk_at dksX2_checkReferences_1 15 rfl rfl)
theorem dX2_checkReferences_39 : decode cX2_checkReferences 39 = .ok (.if_icmp .ne 25, 3) := dk_160 0 25 (dk_at dksX2_checkReferences_1 16 rfl rfl)
theorem dX2_checkReferences_42 : decode cX2_checkReferences 42 = .ok (.aload_n 1, 1) := dk_43 (dk_at dksX2_checkReferences_1 19 rfl rfl)
theorem dX2_checkReferences_43 : decode cX2_checkReferences 43 = .ok (.aload_n 1, 1) := dk_43 (dk_at dksX2_checkReferences_1 20 rfl rfl)
theorem dX2_checkReferences_44 : decode cX2_checkReferences 44 = .ok (.getfield 162, 3) := dk_180 0 162 (dk_at dksX2_checkReferences_1 21 rfl rfl)
theorem dX2_checkReferences_47 : decode cX2_checkReferences 47 = .ok (.iload 4, 2) := dk_21 4 (dk_at dksX2_checkReferences_2 0 rfl rfl)
theorem dX2_checkReferences_49 : decode cX2_checkReferences 49 = .ok (.iaload, 1) := dk_46 (dk_at dksX2_checkReferences_2 2 rfl rfl)
theorem dX2_checkReferences_50 : decode cX2_checkReferences 50 = .ok (.invokevirtual 186, 3) := dk_182 0 186 (dk_at dksX2_checkReferences_2 3 rfl rfl)
theorem dX2_checkReferences_53 : decode cX2_checkReferences 53 = .ok (.iload 4, 2) := dk_21 4 (dk_at dksX2_checkReferences_2 6 rfl rfl)
theorem dX2_checkReferences_55 : decode cX2_checkReferences 55 = .ok (.iconst 1, 1) := dk_4 (dk_at dksX2_checkReferences_2 8 rfl rfl)
theorem dX2_checkReferences_56 : decode cX2_checkReferences 56 = .ok (.iadd, 1) := dk_96 (dk_at dksX2_checkReferences_2 9 rfl rfl)
theorem dX2_checkReferences_57 : decode cX2_checkReferences 57 = .ok (.if_icmp .ne 7, 3) := dk_160 0 7 (dk_at dksX2_checkReferences_2 10 rfl rfl)
theorem dX2_checkReferences_60 : decode cX2_checkReferences 60 = .ok (.iconst 1, 1) := dk_4 (dk_at dksX2_checkReferences_2 13 rfl rfl)
theorem dX2_checkReferences_61 : decode cX2_checkReferences 61 = .ok (.goto 4, 3) := dk_167 0 4 (dk_at dksX2_checkReferences_2 14 rfl rfl)
theorem dX2_checkReferences_64 : decode cX2_checkReferences 64 = .ok (.iconst 0, 1) := dk_3 (dk_at dksX2_checkReferences_2 17 rfl rfl)
theorem dX2_checkReferences_65 : decode cX2_checkReferences 65 = .ok (.iconst 5, 1) := dk_8 (dk_at dksX2_checkReferences_2 18 rfl rfl)
theorem dX2_checkReferences_66 : decode cX2_checkReferences 66 = .ok (.aload_n 1, 1) := dk_43 (dk_at dksX2_checkReferences_2 19 rfl rfl)
theorem dX2_checkReferences_67 : decode cX2_checkReferences 67 = .ok (.getfield 175, 3) := dk_180 0 175 (dk_at dksX2_checkReferences_2 20 rfl rfl)
theorem dX2_checkReferences_70 : decode cX2_checkReferences 70 = .ok (.invokestatic 70, 3) := dk_184 0 70 (dk_at dksX2_checkReferences_3 0 rfl rfl)
theorem dX2_checkReferences_73 : decode cX2_checkReferences 73 = .ok (.aload 5, 2) := dk_25 5 (dk_at dksX2_checkReferences_3 3 rfl rfl)
theorem dX2_checkReferences_75 : decode cX2_checkReferences 75 = .ok (.getfield 189, 3) := dk_180 0 189 (dk_at dksX2_checkReferences_3 5 rfl rfl)
theorem dX2_checkReferences_78 : decode cX2_checkReferences 78 = .ok (.ifCond .eq 15, 3) := dk_153 0 15 (dk_at dksX2_checkReferences_3 8 rfl rfl)
theorem dX2_checkReferences_81 : decode cX2_checkReferences 81 = .ok (.aload 5, 2) := dk_25 5 (dk_at dksX2_checkReferences_3 11 rfl rfl)
theorem dX2_checkReferences_83 : decode cX2_checkReferences 83 = .ok (.getfield 189, 3) := dk_180 0 189 (dk_at dksX2_checkReferences_3 13 rfl rfl)
theorem dX2_checkReferences_86 : decode cX2_checkReferences 86 = .ok (.aload_n 1, 1) := dk_43 (dk_at dksX2_checkReferences_3 16 rfl rfl)
theorem dX2_checkReferences_87 : decode cX2_checkReferences 87 = .ok (.getfield 189, 3) := dk_180 0 189 (dk_at dksX2_checkReferences_3 17 rfl rfl)
theorem dX2_checkReferences_90 : decode cX2_checkReferences 90 = .ok (.if_icmp .ne 7, 3) := dk_160 0 7 (dk_at dksX2_checkReferences_3 20 rfl rfl)
theorem dX2_checkReferences_93 : decode cX2_checkReferences 93 = .ok (.iconst 1, 1) := dk_4 (dk_at dksX2_checkReferences_3 23 rfl rfl)
theorem dX2_checkReferences_94 : decode cX2_checkReferences 94 = .ok (.goto 4, 3) := dk_167 0 4 (dk_at dksX2_checkReferences_4 0 rfl rfl)
theorem dX2_checkReferences_97 : decode cX2_checkReferences 97 = .ok (.iconst 0, 1) := dk_3 (dk_at dksX2_checkReferences_4 3 rfl rfl)
theorem dX2_checkReferences_98 : decode cX2_checkReferences 98 = .ok (.iconst 5, 1) := dk_8 (dk_at dksX2_checkReferences_4 4 rfl rfl)
theorem dX2_checkReferences_99 : decode cX2_checkReferences 99 = .ok (.aload_n 1, 1) := dk_43 (dk_at dksX2_checkReferences_4 5 rfl rfl)
theorem dX2_checkReferences_100 : decode cX2_checkReferences 100 = .ok (.getfield 175, 3) := dk_180 0 175 (dk_at dksX2_checkReferences_4 6 rfl rfl)
theorem dX2_checkReferences_103 : decode cX2_checkReferences 103 = .ok (.invokestatic 70, 3) := dk_184 0 70 (dk_at dksX2_checkReferences_4 9 rfl rfl)
theorem dX2_checkReferences_106 : decode cX2_checkReferences 106 = .ok (.aload_n 1, 1) := dk_43 (dk_at dksX2_checkReferences_4 12 rfl rfl)
theorem dX2_checkReferences_107 : decode cX2_checkReferences 107 = .ok (.getfield 115, 3) := dk_180 0 115 (dk_at dksX2_checkReferences_4 13 rfl rfl)
theorem dX2_checkReferences_110 : decode cX2_checkReferences 110 = .ok (.aload 5, 2) := dk_25 5 (dk_at dksX2_checkReferences_4 16 rfl rfl)
theorem dX2_checkReferences_112 : decode cX2_checkReferences 112 = .ok (.getfield 115, 3) := dk_180 0 115 (dk_at dksX2_checkReferences_4 18 rfl rfl)
theorem dX2_checkReferences_115 : decode cX2_checkReferences 115 = .ok (.invokevirtual 192, 3) := dk_182 0 192 (dk_at dksX2_checkReferences_4 21 rfl rfl)
theorem dX2_checkReferences_118 : decode cX2_checkReferences 118 = .ok (.ifCond .eq 22, 3) := dk_153 0 22 (dk_at dksX2_checkReferences_5 0 rfl rfl)
theorem dX2_checkReferences_121 : decode cX2_checkReferences 121 = .ok (.aload 5, 2) := dk_25 5 (dk_at dksX2_checkReferences_5 3 rfl rfl)
theorem dX2_checkReferences_123 : decode cX2_checkReferences 123 = .ok (.getfield 115, 3) := dk_180 0 115 (dk_at dksX2_checkReferences_5 5 rfl rfl)
theorem dX2_checkReferences_126 : decode cX2_checkReferences 126 = .ok (.getstatic 196, 3) := dk_178 0 196 (dk_at dksX2_checkReferences_5 8 rfl rfl)
theorem dX2_checkReferences_129 : decode cX2_checkReferences 129 = .ok (.if_acmp .ne 7, 3) := dk_166 0 7 (dk_at dksX2_checkReferences_5 11 rfl rfl)
theorem dX2_checkReferences_132 : decode cX2_checkReferences 132 = .ok (.aload_n 3, 1) := dk_45 (dk_at dksX2_checkReferences_5 14 rfl rfl)
theorem dX2_checkReferences_133 : decode cX2_checkReferences 133 = .ok (.ifnonnull 7, 3) := dk_199 0 7 (dk_at dksX2_checkReferences_5 15 rfl rfl)
theorem dX2_checkReferences_136 : decode cX2_checkReferences 136 = .ok (.iconst 1, 1) := dk_4 (dk_at dksX2_checkReferences_5 18 rfl rfl)
theorem dX2_checkReferences_137 : decode cX2_checkReferences 137 = .ok (.goto 4, 3) := dk_167 0 4 (dk_at dksX2_checkReferences_5 19 rfl rfl)
theorem dX2_checkReferences_140 : decode cX2_checkReferences 140 = .ok (.iconst 0, 1) := dk_3 (dk_at dksX2_checkReferences_5 22 rfl rfl)
theorem dX2_checkReferences_141 : decode cX2_checkReferences 141 = .ok (.iconst 5, 1) := dk_8 (dk_at dksX2_checkReferences_5 23 rfl rfl)
theorem dX2_checkReferences_142 : decode cX2_checkReferences 142 = .ok (.aload_n 1, 1) := dk_43 (dk_at dksX2_checkReferences_6 0 rfl rfl)
theorem dX2_checkReferences_143 : decode cX2_checkReferences 143 = .ok (.getfield 175, 3) := dk_180 0 175 (dk_at dksX2_checkReferences_6 1 rfl rfl)
theorem dX2_checkReferences_146 : decode cX2_checkReferences 146 = .ok (.invokestatic 70, 3) := dk_184 0 70 (dk_at dksX2_checkReferences_6 4 rfl rfl)
theorem dX2_checkReferences_149 : decode cX2_checkReferences 149 = .ok (.aload 5, 2) := dk_25 5 (dk_at dksX2_checkReferences_6 7 rfl rfl)
theorem dX2_checkReferences_151 : decode cX2_checkReferences 151 = .ok (.getfield 115, 3) := dk_180 0 115 (dk_at dksX2_checkReferences_6 9 rfl rfl)
theorem dX2_checkReferences_154 : decode cX2_checkReferences 154 = .ok (.getstatic 196, 3) := dk_178 0 196 (dk_at dksX2_checkReferences_6 12 rfl rfl)
theorem dX2_checkReferences_157 : decode cX2_checkReferences 157 = .ok (.if_acmp .ne 8, 3) := dk_166 0 8 (dk_at dksX2_checkReferences_6 15 rfl rfl)
theorem dX2_checkReferences_160 : decode cX2_checkReferences 160 = .ok (.aload 5, 2) := dk_25 5 (dk_at dksX2_checkReferences_6 18 rfl rfl)
theorem dX2_checkReferences_162 : decode cX2_checkReferences 162 = .ok (.goto 4, 3) := dk_167 0 4 (dk_at dksX2_checkReferences_6 20 rfl rfl)
theorem dX2_checkReferences_165 : decode cX2_checkReferences 165 = .ok (.aload_n 3, 1) := dk_45 (dk_at dksX2_checkReferences_6 23 rfl rfl)
theorem dX2_checkReferences_166 : decode cX2_checkReferences 166 = .ok (.astore_n 3, 1) := dk_78 (dk_at dksX2_checkReferences_7 0 rfl rfl)
theorem dX2_checkReferences_167 : decode cX2_checkReferences 167 = .ok (.iinc 4 1, 3) := dk_132 4 1 (dk_at dksX2_checkReferences_7 1 rfl rfl)
theorem dX2_checkReferences_170 : decode cX2_checkReferences 170 = .ok (.goto (-165), 3) := dk_167 255 91 (dk_at dksX2_checkReferences_7 4 rfl rfl)
theorem dX2_checkReferences_173 : decode cX2_checkReferences 173 = .ok (.aload_n 3, 1) := dk_45 (dk_at dksX2_checkReferences_7 7 rfl rfl)
theorem dX2_checkReferences_174 : decode cX2_checkReferences 174 = .ok (.areturn, 1) := dk_176 (dk_at dksX2_checkReferences_7 8 rfl rfl)
abbrev cX2_find : ByteArray := prog_3_method_10_code
def yX2_find : MethodName := ⟨RX2, "find", "(II)LBilevelPages$Segment;"⟩
def dkwX2_find_2 : List UInt8 := [167, 255, 212, 1, 176]
abbrev dktX2_find_2 : List UInt8 := dkwX2_find_2 ++ []
def dkwX2_find_1 : List UInt8 := [27, 160, 0, 18, 42, 180, 0, 3, 180, 0, 97, 29, 182, 0, 126, 192, 0, 116, 176, 132, 3, 1]
abbrev dktX2_find_1 : List UInt8 := dkwX2_find_1 ++ dktX2_find_2
def dkwX2_find_0 : List UInt8 := [3, 62, 29, 28, 162, 0, 45, 42, 180, 0, 3, 180, 0, 97, 29, 182, 0, 126, 192, 0, 116, 180, 0, 176]
abbrev dktX2_find_0 : List UInt8 := dkwX2_find_0 ++ dktX2_find_1
theorem dksX2_find_0 : cX2_find.data.toList.drop 0 = dktX2_find_0 := by decide +kernel
theorem dksX2_find_1 : cX2_find.data.toList.drop 24 = dktX2_find_1 := dk_seg dksX2_find_0 24 rfl rfl
theorem dksX2_find_2 : cX2_find.data.toList.drop 46 = dktX2_find_2 := dk_seg dksX2_find_1 22 rfl rfl
theorem dX2_find_0 : decode cX2_find 0 = .ok (.iconst 0, 1) := dk_3 (dk_at dksX2_find_0 0 rfl rfl)
theorem dX2_find_1 : decode cX2_find 1 = .ok (.istore_n 3, 1) := dk_62 (dk_at dksX2_find_0 1 rfl rfl)
theorem dX2_find_2 : decode cX2_find 2 = .ok (.iload_n 3, 1) := dk_29 (dk_at dksX2_find_0 2 rfl rfl)
theorem dX2_find_3 : decode cX2_find 3 = .ok (.iload_n 2, 1) := dk_28 (dk_at dksX2_find_0 3 rfl rfl)
theorem dX2_find_4 : decode cX2_find 4 = .ok (.if_icmp .ge 45, 3) := dk_162 0 45 (dk_at dksX2_find_0 4 rfl rfl)
theorem dX2_find_7 : decode cX2_find 7 = .ok (.aload_n 0, 1) := dk_42 (dk_at dksX2_find_0 7 rfl rfl)
theorem dX2_find_8 : decode cX2_find 8 = .ok (.getfield 3, 3) := dk_180 0 3 (dk_at dksX2_find_0 8 rfl rfl)
theorem dX2_find_11 : decode cX2_find 11 = .ok (.getfield 97, 3) := dk_180 0 97 (dk_at dksX2_find_0 11 rfl rfl)
theorem dX2_find_14 : decode cX2_find 14 = .ok (.iload_n 3, 1) := dk_29 (dk_at dksX2_find_0 14 rfl rfl)
theorem dX2_find_15 : decode cX2_find 15 = .ok (.invokevirtual 126, 3) := dk_182 0 126 (dk_at dksX2_find_0 15 rfl rfl)
theorem dX2_find_18 : decode cX2_find 18 = .ok (.checkcast 116, 3) := dk_192 0 116 (dk_at dksX2_find_0 18 rfl rfl)
theorem dX2_find_21 : decode cX2_find 21 = .ok (.getfield 176, 3) := dk_180 0 176 (dk_at dksX2_find_0 21 rfl rfl)
theorem dX2_find_24 : decode cX2_find 24 = .ok (.iload_n 1, 1) := dk_27 (dk_at dksX2_find_1 0 rfl rfl)
theorem dX2_find_25 : decode cX2_find 25 = .ok (.if_icmp .ne 18, 3) := dk_160 0 18 (dk_at dksX2_find_1 1 rfl rfl)
theorem dX2_find_28 : decode cX2_find 28 = .ok (.aload_n 0, 1) := dk_42 (dk_at dksX2_find_1 4 rfl rfl)
theorem dX2_find_29 : decode cX2_find 29 = .ok (.getfield 3, 3) := dk_180 0 3 (dk_at dksX2_find_1 5 rfl rfl)
theorem dX2_find_32 : decode cX2_find 32 = .ok (.getfield 97, 3) := dk_180 0 97 (dk_at dksX2_find_1 8 rfl rfl)
theorem dX2_find_35 : decode cX2_find 35 = .ok (.iload_n 3, 1) := dk_29 (dk_at dksX2_find_1 11 rfl rfl)
theorem dX2_find_36 : decode cX2_find 36 = .ok (.invokevirtual 126, 3) := dk_182 0 126 (dk_at dksX2_find_1 12 rfl rfl)
theorem dX2_find_39 : decode cX2_find 39 = .ok (.checkcast 116, 3) := dk_192 0 116 (dk_at dksX2_find_1 15 rfl rfl)
theorem dX2_find_42 : decode cX2_find 42 = .ok (.areturn, 1) := dk_176 (dk_at dksX2_find_1 18 rfl rfl)
theorem dX2_find_43 : decode cX2_find 43 = .ok (.iinc 3 1, 3) := dk_132 3 1 (dk_at dksX2_find_1 19 rfl rfl)
theorem dX2_find_46 : decode cX2_find 46 = .ok (.goto (-44), 3) := dk_167 255 212 (dk_at dksX2_find_2 0 rfl rfl)
theorem dX2_find_49 : decode cX2_find 49 = .ok (.aconst_null, 1) := dk_1 (dk_at dksX2_find_2 3 rfl rfl)
theorem dX2_find_50 : decode cX2_find 50 = .ok (.areturn, 1) := dk_176 (dk_at dksX2_find_2 4 rfl rfl)
abbrev cX2_isOnPage : ByteArray := prog_3_method_12_code
def yX2_isOnPage : MethodName := ⟨RX2, "isOnPage", "(LBilevelPages$Segment;)Z"⟩
def dkwX2_isOnPage_7 : List UInt8 := [180, 0, 26, 2, 159, 0, 18, 43, 180, 0, 189, 42, 180, 0, 26, 160, 0, 7, 4, 167, 0, 4, 3, 172]
abbrev dktX2_isOnPage_7 : List UInt8 := dkwX2_isOnPage_7 ++ []
def dkwX2_isOnPage_6 : List UInt8 := [167, 0, 46, 3, 167, 0, 42, 43, 180, 0, 189, 154, 0, 7, 4, 167, 0, 31, 3, 167, 0, 27, 42]
abbrev dktX2_isOnPage_6 : List UInt8 := dkwX2_isOnPage_6 ++ dktX2_isOnPage_7
def dkwX2_isOnPage_5 : List UInt8 := [167, 0, 68, 43, 180, 0, 189, 153, 0, 14, 43, 180, 0, 189, 42, 180, 0, 26, 160, 0, 7, 4]
abbrev dktX2_isOnPage_5 : List UInt8 := dkwX2_isOnPage_5 ++ dktX2_isOnPage_6
def dkwX2_isOnPage_4 : List UInt8 := [180, 0, 189, 50, 180, 0, 61, 154, 0, 15, 42, 180, 0, 26, 2, 160, 0, 7, 4, 167, 0, 72, 3]
abbrev dktX2_isOnPage_4 : List UInt8 := dkwX2_isOnPage_4 ++ dktX2_isOnPage_5
def dkwX2_isOnPage_3 : List UInt8 := [43, 180, 0, 189, 133, 10, 20, 0, 132, 184, 0, 150, 153, 0, 33, 42, 180, 0, 3, 180, 0, 57, 43]
abbrev dktX2_isOnPage_3 : List UInt8 := dkwX2_isOnPage_3 ++ dktX2_isOnPage_4
def dkwX2_isOnPage_2 : List UInt8 := [170, 0, 0, 0, 143, 0, 0, 0, 0, 0, 0, 0, 9, 0, 0, 0, 102, 0, 0, 0, 143, 0, 0, 0, 143, 0, 0, 0, 143, 0, 0, 0, 53, 0, 0, 0, 143, 0, 0, 0, 143, 0, 0, 0, 128, 0, 0, 0, 102, 0, 0, 0, 102]
abbrev dktX2_isOnPage_2 : List UInt8 := dkwX2_isOnPage_2 ++ dktX2_isOnPage_3
def dkwX2_isOnPage_1 : List UInt8 := [182, 0, 199]
abbrev dktX2_isOnPage_1 : List UInt8 := dkwX2_isOnPage_1 ++ dktX2_isOnPage_2
def dkwX2_isOnPage_0 : List UInt8 := [42, 180, 0, 32, 153, 0, 16, 43, 180, 0, 189, 154, 0, 7, 4, 167, 0, 4, 3, 172, 43, 180, 0, 115]
abbrev dktX2_isOnPage_0 : List UInt8 := dkwX2_isOnPage_0 ++ dktX2_isOnPage_1
theorem dksX2_isOnPage_0 : cX2_isOnPage.data.toList.drop 0 = dktX2_isOnPage_0 := by decide +kernel
theorem dksX2_isOnPage_1 : cX2_isOnPage.data.toList.drop 24 = dktX2_isOnPage_1 := dk_seg dksX2_isOnPage_0 24 rfl rfl
theorem dksX2_isOnPage_2 : cX2_isOnPage.data.toList.drop 27 = dktX2_isOnPage_2 := dk_seg dksX2_isOnPage_1 3 rfl rfl
theorem dksX2_isOnPage_3 : cX2_isOnPage.data.toList.drop 80 = dktX2_isOnPage_3 := dk_seg dksX2_isOnPage_2 53 rfl rfl
theorem dksX2_isOnPage_4 : cX2_isOnPage.data.toList.drop 103 = dktX2_isOnPage_4 := dk_seg dksX2_isOnPage_3 23 rfl rfl
theorem dksX2_isOnPage_5 : cX2_isOnPage.data.toList.drop 126 = dktX2_isOnPage_5 := dk_seg dksX2_isOnPage_4 23 rfl rfl
theorem dksX2_isOnPage_6 : cX2_isOnPage.data.toList.drop 148 = dktX2_isOnPage_6 := dk_seg dksX2_isOnPage_5 22 rfl rfl
theorem dksX2_isOnPage_7 : cX2_isOnPage.data.toList.drop 171 = dktX2_isOnPage_7 := dk_seg dksX2_isOnPage_6 23 rfl rfl
theorem dX2_isOnPage_0 : decode cX2_isOnPage 0 = .ok (.aload_n 0, 1) := dk_42 (dk_at dksX2_isOnPage_0 0 rfl rfl)
theorem dX2_isOnPage_1 : decode cX2_isOnPage 1 = .ok (.getfield 32, 3) := dk_180 0 32 (dk_at dksX2_isOnPage_0 1 rfl rfl)
theorem dX2_isOnPage_4 : decode cX2_isOnPage 4 = .ok (.ifCond .eq 16, 3) := dk_153 0 16 (dk_at dksX2_isOnPage_0 4 rfl rfl)
theorem dX2_isOnPage_7 : decode cX2_isOnPage 7 = .ok (.aload_n 1, 1) := dk_43 (dk_at dksX2_isOnPage_0 7 rfl rfl)
theorem dX2_isOnPage_8 : decode cX2_isOnPage 8 = .ok (.getfield 189, 3) := dk_180 0 189 (dk_at dksX2_isOnPage_0 8 rfl rfl)
theorem dX2_isOnPage_11 : decode cX2_isOnPage 11 = .ok (.ifCond .ne 7, 3) := dk_154 0 7 (dk_at dksX2_isOnPage_0 11 rfl rfl)
theorem dX2_isOnPage_14 : decode cX2_isOnPage 14 = .ok (.iconst 1, 1) := dk_4 (dk_at dksX2_isOnPage_0 14 rfl rfl)
theorem dX2_isOnPage_15 : decode cX2_isOnPage 15 = .ok (.goto 4, 3) := dk_167 0 4 (dk_at dksX2_isOnPage_0 15 rfl rfl)
theorem dX2_isOnPage_18 : decode cX2_isOnPage 18 = .ok (.iconst 0, 1) := dk_3 (dk_at dksX2_isOnPage_0 18 rfl rfl)
theorem dX2_isOnPage_19 : decode cX2_isOnPage 19 = .ok (.ireturn, 1) := dk_172 (dk_at dksX2_isOnPage_0 19 rfl rfl)
theorem dX2_isOnPage_20 : decode cX2_isOnPage 20 = .ok (.aload_n 1, 1) := dk_43 (dk_at dksX2_isOnPage_0 20 rfl rfl)
theorem dX2_isOnPage_21 : decode cX2_isOnPage 21 = .ok (.getfield 115, 3) := dk_180 0 115 (dk_at dksX2_isOnPage_0 21 rfl rfl)
theorem dX2_isOnPage_24 : decode cX2_isOnPage 24 = .ok (.invokevirtual 199, 3) := dk_182 0 199 (dk_at dksX2_isOnPage_1 0 rfl rfl)
theorem dX2_isOnPage_27 : decode cX2_isOnPage 27 = .ok (.tableswitch 143 0 9 #[102, 143, 143, 143, 53, 143, 143, 128, 102, 102], 53) := by decide +kernel
theorem dX2_isOnPage_80 : decode cX2_isOnPage 80 = .ok (.aload_n 1, 1) := dk_43 (dk_at dksX2_isOnPage_3 0 rfl rfl)
theorem dX2_isOnPage_81 : decode cX2_isOnPage 81 = .ok (.getfield 189, 3) := dk_180 0 189 (dk_at dksX2_isOnPage_3 1 rfl rfl)
theorem dX2_isOnPage_84 : decode cX2_isOnPage 84 = .ok (.i2l, 1) := dk_133 (dk_at dksX2_isOnPage_3 4 rfl rfl)
theorem dX2_isOnPage_85 : decode cX2_isOnPage 85 = .ok (.lconst 1, 1) := dk_10 (dk_at dksX2_isOnPage_3 5 rfl rfl)
theorem dX2_isOnPage_86 : decode cX2_isOnPage 86 = .ok (.ldc2_w 132, 3) := dk_20 0 132 (dk_at dksX2_isOnPage_3 6 rfl rfl)
theorem dX2_isOnPage_89 : decode cX2_isOnPage 89 = .ok (.invokestatic 150, 3) := dk_184 0 150 (dk_at dksX2_isOnPage_3 9 rfl rfl)
theorem dX2_isOnPage_92 : decode cX2_isOnPage 92 = .ok (.ifCond .eq 33, 3) := dk_153 0 33 (dk_at dksX2_isOnPage_3 12 rfl rfl)
theorem dX2_isOnPage_95 : decode cX2_isOnPage 95 = .ok (.aload_n 0, 1) := dk_42 (dk_at dksX2_isOnPage_3 15 rfl rfl)
theorem dX2_isOnPage_96 : decode cX2_isOnPage 96 = .ok (.getfield 3, 3) := dk_180 0 3 (dk_at dksX2_isOnPage_3 16 rfl rfl)
theorem dX2_isOnPage_99 : decode cX2_isOnPage 99 = .ok (.getfield 57, 3) := dk_180 0 57 (dk_at dksX2_isOnPage_3 19 rfl rfl)
theorem dX2_isOnPage_102 : decode cX2_isOnPage 102 = .ok (.aload_n 1, 1) := dk_43 (dk_at dksX2_isOnPage_3 22 rfl rfl)
theorem dX2_isOnPage_103 : decode cX2_isOnPage 103 = .ok (.getfield 189, 3) := dk_180 0 189 (dk_at dksX2_isOnPage_4 0 rfl rfl)
theorem dX2_isOnPage_106 : decode cX2_isOnPage 106 = .ok (.aaload, 1) := dk_50 (dk_at dksX2_isOnPage_4 3 rfl rfl)
theorem dX2_isOnPage_107 : decode cX2_isOnPage 107 = .ok (.getfield 61, 3) := dk_180 0 61 (dk_at dksX2_isOnPage_4 4 rfl rfl)
theorem dX2_isOnPage_110 : decode cX2_isOnPage 110 = .ok (.ifCond .ne 15, 3) := dk_154 0 15 (dk_at dksX2_isOnPage_4 7 rfl rfl)
theorem dX2_isOnPage_113 : decode cX2_isOnPage 113 = .ok (.aload_n 0, 1) := dk_42 (dk_at dksX2_isOnPage_4 10 rfl rfl)
theorem dX2_isOnPage_114 : decode cX2_isOnPage 114 = .ok (.getfield 26, 3) := dk_180 0 26 (dk_at dksX2_isOnPage_4 11 rfl rfl)
theorem dX2_isOnPage_117 : decode cX2_isOnPage 117 = .ok (.iconst (-1), 1) := dk_2 (dk_at dksX2_isOnPage_4 14 rfl rfl)
theorem dX2_isOnPage_118 : decode cX2_isOnPage 118 = .ok (.if_icmp .ne 7, 3) := dk_160 0 7 (dk_at dksX2_isOnPage_4 15 rfl rfl)
theorem dX2_isOnPage_121 : decode cX2_isOnPage 121 = .ok (.iconst 1, 1) := dk_4 (dk_at dksX2_isOnPage_4 18 rfl rfl)
theorem dX2_isOnPage_122 : decode cX2_isOnPage 122 = .ok (.goto 72, 3) := dk_167 0 72 (dk_at dksX2_isOnPage_4 19 rfl rfl)
theorem dX2_isOnPage_125 : decode cX2_isOnPage 125 = .ok (.iconst 0, 1) := dk_3 (dk_at dksX2_isOnPage_4 22 rfl rfl)
theorem dX2_isOnPage_126 : decode cX2_isOnPage 126 = .ok (.goto 68, 3) := dk_167 0 68 (dk_at dksX2_isOnPage_5 0 rfl rfl)
theorem dX2_isOnPage_129 : decode cX2_isOnPage 129 = .ok (.aload_n 1, 1) := dk_43 (dk_at dksX2_isOnPage_5 3 rfl rfl)
theorem dX2_isOnPage_130 : decode cX2_isOnPage 130 = .ok (.getfield 189, 3) := dk_180 0 189 (dk_at dksX2_isOnPage_5 4 rfl rfl)
theorem dX2_isOnPage_133 : decode cX2_isOnPage 133 = .ok (.ifCond .eq 14, 3) := dk_153 0 14 (dk_at dksX2_isOnPage_5 7 rfl rfl)
theorem dX2_isOnPage_136 : decode cX2_isOnPage 136 = .ok (.aload_n 1, 1) := dk_43 (dk_at dksX2_isOnPage_5 10 rfl rfl)
theorem dX2_isOnPage_137 : decode cX2_isOnPage 137 = .ok (.getfield 189, 3) := dk_180 0 189 (dk_at dksX2_isOnPage_5 11 rfl rfl)
theorem dX2_isOnPage_140 : decode cX2_isOnPage 140 = .ok (.aload_n 0, 1) := dk_42 (dk_at dksX2_isOnPage_5 14 rfl rfl)
theorem dX2_isOnPage_141 : decode cX2_isOnPage 141 = .ok (.getfield 26, 3) := dk_180 0 26 (dk_at dksX2_isOnPage_5 15 rfl rfl)
theorem dX2_isOnPage_144 : decode cX2_isOnPage 144 = .ok (.if_icmp .ne 7, 3) := dk_160 0 7 (dk_at dksX2_isOnPage_5 18 rfl rfl)
theorem dX2_isOnPage_147 : decode cX2_isOnPage 147 = .ok (.iconst 1, 1) := dk_4 (dk_at dksX2_isOnPage_5 21 rfl rfl)
theorem dX2_isOnPage_148 : decode cX2_isOnPage 148 = .ok (.goto 46, 3) := dk_167 0 46 (dk_at dksX2_isOnPage_6 0 rfl rfl)
theorem dX2_isOnPage_151 : decode cX2_isOnPage 151 = .ok (.iconst 0, 1) := dk_3 (dk_at dksX2_isOnPage_6 3 rfl rfl)
theorem dX2_isOnPage_152 : decode cX2_isOnPage 152 = .ok (.goto 42, 3) := dk_167 0 42 (dk_at dksX2_isOnPage_6 4 rfl rfl)
theorem dX2_isOnPage_155 : decode cX2_isOnPage 155 = .ok (.aload_n 1, 1) := dk_43 (dk_at dksX2_isOnPage_6 7 rfl rfl)
theorem dX2_isOnPage_156 : decode cX2_isOnPage 156 = .ok (.getfield 189, 3) := dk_180 0 189 (dk_at dksX2_isOnPage_6 8 rfl rfl)
theorem dX2_isOnPage_159 : decode cX2_isOnPage 159 = .ok (.ifCond .ne 7, 3) := dk_154 0 7 (dk_at dksX2_isOnPage_6 11 rfl rfl)
theorem dX2_isOnPage_162 : decode cX2_isOnPage 162 = .ok (.iconst 1, 1) := dk_4 (dk_at dksX2_isOnPage_6 14 rfl rfl)
theorem dX2_isOnPage_163 : decode cX2_isOnPage 163 = .ok (.goto 31, 3) := dk_167 0 31 (dk_at dksX2_isOnPage_6 15 rfl rfl)
theorem dX2_isOnPage_166 : decode cX2_isOnPage 166 = .ok (.iconst 0, 1) := dk_3 (dk_at dksX2_isOnPage_6 18 rfl rfl)
theorem dX2_isOnPage_167 : decode cX2_isOnPage 167 = .ok (.goto 27, 3) := dk_167 0 27 (dk_at dksX2_isOnPage_6 19 rfl rfl)
theorem dX2_isOnPage_170 : decode cX2_isOnPage 170 = .ok (.aload_n 0, 1) := dk_42 (dk_at dksX2_isOnPage_6 22 rfl rfl)
theorem dX2_isOnPage_171 : decode cX2_isOnPage 171 = .ok (.getfield 26, 3) := dk_180 0 26 (dk_at dksX2_isOnPage_7 0 rfl rfl)
theorem dX2_isOnPage_174 : decode cX2_isOnPage 174 = .ok (.iconst (-1), 1) := dk_2 (dk_at dksX2_isOnPage_7 3 rfl rfl)
theorem dX2_isOnPage_175 : decode cX2_isOnPage 175 = .ok (.if_icmp .eq 18, 3) := dk_159 0 18 (dk_at dksX2_isOnPage_7 4 rfl rfl)
theorem dX2_isOnPage_178 : decode cX2_isOnPage 178 = .ok (.aload_n 1, 1) := dk_43 (dk_at dksX2_isOnPage_7 7 rfl rfl)
theorem dX2_isOnPage_179 : decode cX2_isOnPage 179 = .ok (.getfield 189, 3) := dk_180 0 189 (dk_at dksX2_isOnPage_7 8 rfl rfl)
theorem dX2_isOnPage_182 : decode cX2_isOnPage 182 = .ok (.aload_n 0, 1) := dk_42 (dk_at dksX2_isOnPage_7 11 rfl rfl)
theorem dX2_isOnPage_183 : decode cX2_isOnPage 183 = .ok (.getfield 26, 3) := dk_180 0 26 (dk_at dksX2_isOnPage_7 12 rfl rfl)
theorem dX2_isOnPage_186 : decode cX2_isOnPage 186 = .ok (.if_icmp .ne 7, 3) := dk_160 0 7 (dk_at dksX2_isOnPage_7 15 rfl rfl)
theorem dX2_isOnPage_189 : decode cX2_isOnPage 189 = .ok (.iconst 1, 1) := dk_4 (dk_at dksX2_isOnPage_7 18 rfl rfl)
theorem dX2_isOnPage_190 : decode cX2_isOnPage 190 = .ok (.goto 4, 3) := dk_167 0 4 (dk_at dksX2_isOnPage_7 19 rfl rfl)
theorem dX2_isOnPage_193 : decode cX2_isOnPage 193 = .ok (.iconst 0, 1) := dk_3 (dk_at dksX2_isOnPage_7 22 rfl rfl)
theorem dX2_isOnPage_194 : decode cX2_isOnPage 194 = .ok (.ireturn, 1) := dk_172 (dk_at dksX2_isOnPage_7 23 rfl rfl)
abbrev cX2_readRegion : ByteArray := prog_3_method_20_code
def yX2_readRegion : MethodName := ⟨RX2, "readRegion", "(LBilevelPages$Segment;ZLBilevelPages$Segment;)V"⟩
def dkwX2_readRegion_11 : List UInt8 := [180, 0, 26, 50, 43, 182, 1, 33, 177]
abbrev dktX2_readRegion_11 : List UInt8 := dkwX2_readRegion_11 ++ []
def dkwX2_readRegion_10 : List UInt8 := [132, 4, 1, 167, 255, 227, 43, 180, 0, 115, 178, 0, 196, 165, 0, 19, 42, 180, 0, 3, 180, 0, 57, 42]
abbrev dktX2_readRegion_10 : List UInt8 := dkwX2_readRegion_10 ++ dktX2_readRegion_11
def dkwX2_readRegion_9 : List UInt8 := [182, 1, 24, 162, 0, 26, 43, 180, 1, 26, 21, 4, 92, 46, 45, 180, 1, 26, 21, 4, 46, 130, 79]
abbrev dktX2_readRegion_9 : List UInt8 := dkwX2_readRegion_9 ++ dktX2_readRegion_10
def dkwX2_readRegion_8 : List UInt8 := [160, 0, 7, 4, 167, 0, 4, 3, 8, 43, 180, 0, 175, 184, 0, 70, 3, 54, 4, 21, 4, 43]
abbrev dktX2_readRegion_8 : List UInt8 := dkwX2_readRegion_8 ++ dktX2_readRegion_9
def dkwX2_readRegion_7 : List UInt8 := [45, 198, 0, 73, 45, 182, 1, 18, 43, 182, 1, 18, 160, 0, 18, 45, 182, 1, 24, 43, 182, 1, 24]
abbrev dktX2_readRegion_7 : List UInt8 := dkwX2_readRegion_7 ++ dktX2_readRegion_8
def dkwX2_readRegion_6 : List UInt8 := [42, 43, 42, 180, 0, 19, 21, 4, 43, 182, 1, 15, 104, 96, 182, 1, 29, 79, 132, 4, 1, 167, 255, 220]
abbrev dktX2_readRegion_6 : List UInt8 := dkwX2_readRegion_6 ++ dktX2_readRegion_7
def dkwX2_readRegion_5 : List UInt8 := [180, 0, 175, 184, 0, 70, 3, 54, 4, 21, 4, 43, 182, 1, 24, 162, 0, 33, 43, 180, 1, 26, 21, 4]
abbrev dktX2_readRegion_5 : List UInt8 := dkwX2_readRegion_5 ++ dktX2_readRegion_6
def dkwX2_readRegion_4 : List UInt8 := [182, 1, 24, 43, 182, 1, 15, 104, 96, 133, 148, 154, 0, 7, 4, 167, 0, 4, 3, 16, 7, 43]
abbrev dktX2_readRegion_4 : List UInt8 := dkwX2_readRegion_4 ++ dktX2_readRegion_5
def dkwX2_readRegion_3 : List UInt8 := [96, 181, 0, 19, 28, 153, 0, 11, 42, 43, 182, 1, 21, 167, 0, 80, 43, 180, 0, 171, 16, 17, 43]
abbrev dktX2_readRegion_3 : List UInt8 := dkwX2_readRegion_3 ++ dktX2_readRegion_4
def dkwX2_readRegion_2 : List UInt8 := [16, 16, 96, 182, 0, 66, 133, 182, 0, 253, 79, 132, 4, 1, 167, 255, 199, 42, 89, 180, 0, 19, 16, 17]
abbrev dktX2_readRegion_2 : List UInt8 := dkwX2_readRegion_2 ++ dktX2_readRegion_3
def dkwX2_readRegion_1 : List UInt8 := [162, 0, 19, 42, 42, 180, 0, 19, 7, 21, 4, 104, 96, 182, 0, 134, 167, 0, 15, 42, 42, 180, 0, 19]
abbrev dktX2_readRegion_1 : List UInt8 := dkwX2_readRegion_1 ++ dktX2_readRegion_2
def dkwX2_readRegion_0 : List UInt8 := [3, 54, 4, 21, 4, 8, 162, 0, 57, 43, 180, 0, 250, 21, 4, 42, 43, 21, 4, 21, 4, 7]
abbrev dktX2_readRegion_0 : List UInt8 := dkwX2_readRegion_0 ++ dktX2_readRegion_1
theorem dksX2_readRegion_0 : cX2_readRegion.data.toList.drop 0 = dktX2_readRegion_0 := by decide +kernel
theorem dksX2_readRegion_1 : cX2_readRegion.data.toList.drop 22 = dktX2_readRegion_1 := dk_seg dksX2_readRegion_0 22 rfl rfl
theorem dksX2_readRegion_2 : cX2_readRegion.data.toList.drop 46 = dktX2_readRegion_2 := dk_seg dksX2_readRegion_1 24 rfl rfl
theorem dksX2_readRegion_3 : cX2_readRegion.data.toList.drop 70 = dktX2_readRegion_3 := dk_seg dksX2_readRegion_2 24 rfl rfl
theorem dksX2_readRegion_4 : cX2_readRegion.data.toList.drop 93 = dktX2_readRegion_4 := dk_seg dksX2_readRegion_3 23 rfl rfl
theorem dksX2_readRegion_5 : cX2_readRegion.data.toList.drop 115 = dktX2_readRegion_5 := dk_seg dksX2_readRegion_4 22 rfl rfl
theorem dksX2_readRegion_6 : cX2_readRegion.data.toList.drop 139 = dktX2_readRegion_6 := dk_seg dksX2_readRegion_5 24 rfl rfl
theorem dksX2_readRegion_7 : cX2_readRegion.data.toList.drop 163 = dktX2_readRegion_7 := dk_seg dksX2_readRegion_6 24 rfl rfl
theorem dksX2_readRegion_8 : cX2_readRegion.data.toList.drop 186 = dktX2_readRegion_8 := dk_seg dksX2_readRegion_7 23 rfl rfl
theorem dksX2_readRegion_9 : cX2_readRegion.data.toList.drop 208 = dktX2_readRegion_9 := dk_seg dksX2_readRegion_8 22 rfl rfl
theorem dksX2_readRegion_10 : cX2_readRegion.data.toList.drop 231 = dktX2_readRegion_10 := dk_seg dksX2_readRegion_9 23 rfl rfl
theorem dksX2_readRegion_11 : cX2_readRegion.data.toList.drop 255 = dktX2_readRegion_11 := dk_seg dksX2_readRegion_10 24 rfl rfl
theorem dX2_readRegion_0 : decode cX2_readRegion 0 = .ok (.iconst 0, 1) := dk_3 (dk_at dksX2_readRegion_0 0 rfl rfl)
theorem dX2_readRegion_1 : decode cX2_readRegion 1 = .ok (.istore 4, 2) := dk_54 4 (dk_at dksX2_readRegion_0 1 rfl rfl)
theorem dX2_readRegion_3 : decode cX2_readRegion 3 = .ok (.iload 4, 2) := dk_21 4 (dk_at dksX2_readRegion_0 3 rfl rfl)
theorem dX2_readRegion_5 : decode cX2_readRegion 5 = .ok (.iconst 5, 1) := dk_8 (dk_at dksX2_readRegion_0 5 rfl rfl)
theorem dX2_readRegion_6 : decode cX2_readRegion 6 = .ok (.if_icmp .ge 57, 3) := dk_162 0 57 (dk_at dksX2_readRegion_0 6 rfl rfl)
theorem dX2_readRegion_9 : decode cX2_readRegion 9 = .ok (.aload_n 1, 1) := dk_43 (dk_at dksX2_readRegion_0 9 rfl rfl)
theorem dX2_readRegion_10 : decode cX2_readRegion 10 = .ok (.getfield 250, 3) := dk_180 0 250 (dk_at dksX2_readRegion_0 10 rfl rfl)
theorem dX2_readRegion_13 : decode cX2_readRegion 13 = .ok (.iload 4, 2) := dk_21 4 (dk_at dksX2_readRegion_0 13 rfl rfl)
theorem dX2_readRegion_15 : decode cX2_readRegion 15 = .ok (.aload_n 0, 1) := dk_42 (dk_at dksX2_readRegion_0 15 rfl rfl)
theorem dX2_readRegion_16 : decode cX2_readRegion 16 = .ok (.aload_n 1, 1) := dk_43 (dk_at dksX2_readRegion_0 16 rfl rfl)
theorem dX2_readRegion_17 : decode cX2_readRegion 17 = .ok (.iload 4, 2) := dk_21 4 (dk_at dksX2_readRegion_0 17 rfl rfl)
theorem dX2_readRegion_19 : decode cX2_readRegion 19 = .ok (.iload 4, 2) := dk_21 4 (dk_at dksX2_readRegion_0 19 rfl rfl)
theorem dX2_readRegion_21 : decode cX2_readRegion 21 = .ok (.iconst 4, 1) := dk_7 (dk_at dksX2_readRegion_0 21 rfl rfl)
theorem dX2_readRegion_22 : decode cX2_readRegion 22 = .ok (.if_icmp .ge 19, 3) := dk_162 0 19 (dk_at dksX2_readRegion_1 0 rfl rfl)
theorem dX2_readRegion_25 : decode cX2_readRegion 25 = .ok (.aload_n 0, 1) := dk_42 (dk_at dksX2_readRegion_1 3 rfl rfl)
theorem dX2_readRegion_26 : decode cX2_readRegion 26 = .ok (.aload_n 0, 1) := dk_42 (dk_at dksX2_readRegion_1 4 rfl rfl)
theorem dX2_readRegion_27 : decode cX2_readRegion 27 = .ok (.getfield 19, 3) := dk_180 0 19 (dk_at dksX2_readRegion_1 5 rfl rfl)
theorem dX2_readRegion_30 : decode cX2_readRegion 30 = .ok (.iconst 4, 1) := dk_7 (dk_at dksX2_readRegion_1 8 rfl rfl)
theorem dX2_readRegion_31 : decode cX2_readRegion 31 = .ok (.iload 4, 2) := dk_21 4 (dk_at dksX2_readRegion_1 9 rfl rfl)
theorem dX2_readRegion_33 : decode cX2_readRegion 33 = .ok (.imul, 1) := dk_104 (dk_at dksX2_readRegion_1 11 rfl rfl)
theorem dX2_readRegion_34 : decode cX2_readRegion 34 = .ok (.iadd, 1) := dk_96 (dk_at dksX2_readRegion_1 12 rfl rfl)
theorem dX2_readRegion_35 : decode cX2_readRegion 35 = .ok (.invokevirtual 134, 3) := dk_182 0 134 (dk_at dksX2_readRegion_1 13 rfl rfl)
theorem dX2_readRegion_38 : decode cX2_readRegion 38 = .ok (.goto 15, 3) := dk_167 0 15 (dk_at dksX2_readRegion_1 16 rfl rfl)
theorem dX2_readRegion_41 : decode cX2_readRegion 41 = .ok (.aload_n 0, 1) := dk_42 (dk_at dksX2_readRegion_1 19 rfl rfl)
theorem dX2_readRegion_42 : decode cX2_readRegion 42 = .ok (.aload_n 0, 1) := dk_42 (dk_at dksX2_readRegion_1 20 rfl rfl)
theorem dX2_readRegion_43 : decode cX2_readRegion 43 = .ok (.getfield 19, 3) := dk_180 0 19 (dk_at dksX2_readRegion_1 21 rfl rfl)
theorem dX2_readRegion_46 : decode cX2_readRegion 46 = .ok (.bipush 16, 2) := dk_16 16 (dk_at dksX2_readRegion_2 0 rfl rfl)
theorem dX2_readRegion_48 : decode cX2_readRegion 48 = .ok (.iadd, 1) := dk_96 (dk_at dksX2_readRegion_2 2 rfl rfl)
theorem dX2_readRegion_49 : decode cX2_readRegion 49 = .ok (.invokevirtual 66, 3) := dk_182 0 66 (dk_at dksX2_readRegion_2 3 rfl rfl)
theorem dX2_readRegion_52 : decode cX2_readRegion 52 = .ok (.i2l, 1) := dk_133 (dk_at dksX2_readRegion_2 6 rfl rfl)
theorem dX2_readRegion_53 : decode cX2_readRegion 53 = .ok (.invokevirtual 253, 3) := dk_182 0 253 (dk_at dksX2_readRegion_2 7 rfl rfl)
theorem dX2_readRegion_56 : decode cX2_readRegion 56 = .ok (.iastore, 1) := dk_79 (dk_at dksX2_readRegion_2 10 rfl rfl)
theorem dX2_readRegion_57 : decode cX2_readRegion 57 = .ok (.iinc 4 1, 3) := dk_132 4 1 (dk_at dksX2_readRegion_2 11 rfl rfl)
theorem dX2_readRegion_60 : decode cX2_readRegion 60 = .ok (.goto (-57), 3) := dk_167 255 199 (dk_at dksX2_readRegion_2 14 rfl rfl)
theorem dX2_readRegion_63 : decode cX2_readRegion 63 = .ok (.aload_n 0, 1) := dk_42 (dk_at dksX2_readRegion_2 17 rfl rfl)
theorem dX2_readRegion_64 : decode cX2_readRegion 64 = .ok (.dup, 1) := dk_89 (dk_at dksX2_readRegion_2 18 rfl rfl)
theorem dX2_readRegion_65 : decode cX2_readRegion 65 = .ok (.getfield 19, 3) := dk_180 0 19 (dk_at dksX2_readRegion_2 19 rfl rfl)
theorem dX2_readRegion_68 : decode cX2_readRegion 68 = .ok (.bipush 17, 2) := dk_16 17 (dk_at dksX2_readRegion_2 22 rfl rfl)
theorem dX2_readRegion_70 : decode cX2_readRegion 70 = .ok (.iadd, 1) := dk_96 (dk_at dksX2_readRegion_3 0 rfl rfl)
theorem dX2_readRegion_71 : decode cX2_readRegion 71 = .ok (.putfield 19, 3) := dk_181 0 19 (dk_at dksX2_readRegion_3 1 rfl rfl)
theorem dX2_readRegion_74 : decode cX2_readRegion 74 = .ok (.iload_n 2, 1) := dk_28 (dk_at dksX2_readRegion_3 4 rfl rfl)
theorem dX2_readRegion_75 : decode cX2_readRegion 75 = .ok (.ifCond .eq 11, 3) := dk_153 0 11 (dk_at dksX2_readRegion_3 5 rfl rfl)
theorem dX2_readRegion_78 : decode cX2_readRegion 78 = .ok (.aload_n 0, 1) := dk_42 (dk_at dksX2_readRegion_3 8 rfl rfl)
theorem dX2_readRegion_79 : decode cX2_readRegion 79 = .ok (.aload_n 1, 1) := dk_43 (dk_at dksX2_readRegion_3 9 rfl rfl)
theorem dX2_readRegion_80 : decode cX2_readRegion 80 = .ok (.invokevirtual 277, 3) := dk_182 1 21 (dk_at dksX2_readRegion_3 10 rfl rfl)
theorem dX2_readRegion_83 : decode cX2_readRegion 83 = .ok (.goto 80, 3) := dk_167 0 80 (dk_at dksX2_readRegion_3 13 rfl rfl)
theorem dX2_readRegion_86 : decode cX2_readRegion 86 = .ok (.aload_n 1, 1) := dk_43 (dk_at dksX2_readRegion_3 16 rfl rfl)
theorem dX2_readRegion_87 : decode cX2_readRegion 87 = .ok (.getfield 171, 3) := dk_180 0 171 (dk_at dksX2_readRegion_3 17 rfl rfl)
theorem dX2_readRegion_90 : decode cX2_readRegion 90 = .ok (.bipush 17, 2) := dk_16 17 (dk_at dksX2_readRegion_3 20 rfl rfl)
theorem dX2_readRegion_92 : decode cX2_readRegion 92 = .ok (.aload_n 1, 1) := dk_43 (dk_at dksX2_readRegion_3 22 rfl rfl)
theorem dX2_readRegion_93 : decode cX2_readRegion 93 = .ok (.invokevirtual 280, 3) := dk_182 1 24 (dk_at dksX2_readRegion_4 0 rfl rfl)
theorem dX2_readRegion_96 : decode cX2_readRegion 96 = .ok (.aload_n 1, 1) := dk_43 (dk_at dksX2_readRegion_4 3 rfl rfl)
theorem dX2_readRegion_97 : decode cX2_readRegion 97 = .ok (.invokevirtual 271, 3) := dk_182 1 15 (dk_at dksX2_readRegion_4 4 rfl rfl)
theorem dX2_readRegion_100 : decode cX2_readRegion 100 = .ok (.imul, 1) := dk_104 (dk_at dksX2_readRegion_4 7 rfl rfl)
theorem dX2_readRegion_101 : decode cX2_readRegion 101 = .ok (.iadd, 1) := dk_96 (dk_at dksX2_readRegion_4 8 rfl rfl)
theorem dX2_readRegion_102 : decode cX2_readRegion 102 = .ok (.i2l, 1) := dk_133 (dk_at dksX2_readRegion_4 9 rfl rfl)
theorem dX2_readRegion_103 : decode cX2_readRegion 103 = .ok (.lcmp, 1) := dk_148 (dk_at dksX2_readRegion_4 10 rfl rfl)
theorem dX2_readRegion_104 : decode cX2_readRegion 104 = .ok (.ifCond .ne 7, 3) := dk_154 0 7 (dk_at dksX2_readRegion_4 11 rfl rfl)
theorem dX2_readRegion_107 : decode cX2_readRegion 107 = .ok (.iconst 1, 1) := dk_4 (dk_at dksX2_readRegion_4 14 rfl rfl)
theorem dX2_readRegion_108 : decode cX2_readRegion 108 = .ok (.goto 4, 3) := dk_167 0 4 (dk_at dksX2_readRegion_4 15 rfl rfl)
theorem dX2_readRegion_111 : decode cX2_readRegion 111 = .ok (.iconst 0, 1) := dk_3 (dk_at dksX2_readRegion_4 18 rfl rfl)
theorem dX2_readRegion_112 : decode cX2_readRegion 112 = .ok (.bipush 7, 2) := dk_16 7 (dk_at dksX2_readRegion_4 19 rfl rfl)
theorem dX2_readRegion_114 : decode cX2_readRegion 114 = .ok (.aload_n 1, 1) := dk_43 (dk_at dksX2_readRegion_4 21 rfl rfl)
theorem dX2_readRegion_115 : decode cX2_readRegion 115 = .ok (.getfield 175, 3) := dk_180 0 175 (dk_at dksX2_readRegion_5 0 rfl rfl)
theorem dX2_readRegion_118 : decode cX2_readRegion 118 = .ok (.invokestatic 70, 3) := dk_184 0 70 (dk_at dksX2_readRegion_5 3 rfl rfl)
theorem dX2_readRegion_121 : decode cX2_readRegion 121 = .ok (.iconst 0, 1) := dk_3 (dk_at dksX2_readRegion_5 6 rfl rfl)
theorem dX2_readRegion_122 : decode cX2_readRegion 122 = .ok (.istore 4, 2) := dk_54 4 (dk_at dksX2_readRegion_5 7 rfl rfl)
theorem dX2_readRegion_124 : decode cX2_readRegion 124 = .ok (.iload 4, 2) := dk_21 4 (dk_at dksX2_readRegion_5 9 rfl rfl)
theorem dX2_readRegion_126 : decode cX2_readRegion 126 = .ok (.aload_n 1, 1) := dk_43 (dk_at dksX2_readRegion_5 11 rfl rfl)
theorem dX2_readRegion_127 : decode cX2_readRegion 127 = .ok (.invokevirtual 280, 3) := dk_182 1 24 (dk_at dksX2_readRegion_5 12 rfl rfl)
theorem dX2_readRegion_130 : decode cX2_readRegion 130 = .ok (.if_icmp .ge 33, 3) := dk_162 0 33 (dk_at dksX2_readRegion_5 15 rfl rfl)
theorem dX2_readRegion_133 : decode cX2_readRegion 133 = .ok (.aload_n 1, 1) := dk_43 (dk_at dksX2_readRegion_5 18 rfl rfl)
theorem dX2_readRegion_134 : decode cX2_readRegion 134 = .ok (.getfield 282, 3) := dk_180 1 26 (dk_at dksX2_readRegion_5 19 rfl rfl)
theorem dX2_readRegion_137 : decode cX2_readRegion 137 = .ok (.iload 4, 2) := dk_21 4 (dk_at dksX2_readRegion_5 22 rfl rfl)
theorem dX2_readRegion_139 : decode cX2_readRegion 139 = .ok (.aload_n 0, 1) := dk_42 (dk_at dksX2_readRegion_6 0 rfl rfl)
theorem dX2_readRegion_140 : decode cX2_readRegion 140 = .ok (.aload_n 1, 1) := dk_43 (dk_at dksX2_readRegion_6 1 rfl rfl)
theorem dX2_readRegion_141 : decode cX2_readRegion 141 = .ok (.aload_n 0, 1) := dk_42 (dk_at dksX2_readRegion_6 2 rfl rfl)
theorem dX2_readRegion_142 : decode cX2_readRegion 142 = .ok (.getfield 19, 3) := dk_180 0 19 (dk_at dksX2_readRegion_6 3 rfl rfl)
theorem dX2_readRegion_145 : decode cX2_readRegion 145 = .ok (.iload 4, 2) := dk_21 4 (dk_at dksX2_readRegion_6 6 rfl rfl)
theorem dX2_readRegion_147 : decode cX2_readRegion 147 = .ok (.aload_n 1, 1) := dk_43 (dk_at dksX2_readRegion_6 8 rfl rfl)
theorem dX2_readRegion_148 : decode cX2_readRegion 148 = .ok (.invokevirtual 271, 3) := dk_182 1 15 (dk_at dksX2_readRegion_6 9 rfl rfl)
theorem dX2_readRegion_151 : decode cX2_readRegion 151 = .ok (.imul, 1) := dk_104 (dk_at dksX2_readRegion_6 12 rfl rfl)
theorem dX2_readRegion_152 : decode cX2_readRegion 152 = .ok (.iadd, 1) := dk_96 (dk_at dksX2_readRegion_6 13 rfl rfl)
theorem dX2_readRegion_153 : decode cX2_readRegion 153 = .ok (.invokevirtual 285, 3) := dk_182 1 29 (dk_at dksX2_readRegion_6 14 rfl rfl)
theorem dX2_readRegion_156 : decode cX2_readRegion 156 = .ok (.iastore, 1) := dk_79 (dk_at dksX2_readRegion_6 17 rfl rfl)
theorem dX2_readRegion_157 : decode cX2_readRegion 157 = .ok (.iinc 4 1, 3) := dk_132 4 1 (dk_at dksX2_readRegion_6 18 rfl rfl)
theorem dX2_readRegion_160 : decode cX2_readRegion 160 = .ok (.goto (-36), 3) := dk_167 255 220 (dk_at dksX2_readRegion_6 21 rfl rfl)
theorem dX2_readRegion_163 : decode cX2_readRegion 163 = .ok (.aload_n 3, 1) := dk_45 (dk_at dksX2_readRegion_7 0 rfl rfl)
theorem dX2_readRegion_164 : decode cX2_readRegion 164 = .ok (.ifnull 73, 3) := dk_198 0 73 (dk_at dksX2_readRegion_7 1 rfl rfl)
theorem dX2_readRegion_167 : decode cX2_readRegion 167 = .ok (.aload_n 3, 1) := dk_45 (dk_at dksX2_readRegion_7 4 rfl rfl)
theorem dX2_readRegion_168 : decode cX2_readRegion 168 = .ok (.invokevirtual 274, 3) := dk_182 1 18 (dk_at dksX2_readRegion_7 5 rfl rfl)
theorem dX2_readRegion_171 : decode cX2_readRegion 171 = .ok (.aload_n 1, 1) := dk_43 (dk_at dksX2_readRegion_7 8 rfl rfl)
theorem dX2_readRegion_172 : decode cX2_readRegion 172 = .ok (.invokevirtual 274, 3) := dk_182 1 18 (dk_at dksX2_readRegion_7 9 rfl rfl)
theorem dX2_readRegion_175 : decode cX2_readRegion 175 = .ok (.if_icmp .ne 18, 3) := dk_160 0 18 (dk_at dksX2_readRegion_7 12 rfl rfl)
theorem dX2_readRegion_178 : decode cX2_readRegion 178 = .ok (.aload_n 3, 1) := dk_45 (dk_at dksX2_readRegion_7 15 rfl rfl)
theorem dX2_readRegion_179 : decode cX2_readRegion 179 = .ok (.invokevirtual 280, 3) := dk_182 1 24 (dk_at dksX2_readRegion_7 16 rfl rfl)
theorem dX2_readRegion_182 : decode cX2_readRegion 182 = .ok (.aload_n 1, 1) := dk_43 (dk_at dksX2_readRegion_7 19 rfl rfl)
theorem dX2_readRegion_183 : decode cX2_readRegion 183 = .ok (.invokevirtual 280, 3) := dk_182 1 24 (dk_at dksX2_readRegion_7 20 rfl rfl)
theorem dX2_readRegion_186 : decode cX2_readRegion 186 = .ok (.if_icmp .ne 7, 3) := dk_160 0 7 (dk_at dksX2_readRegion_8 0 rfl rfl)
theorem dX2_readRegion_189 : decode cX2_readRegion 189 = .ok (.iconst 1, 1) := dk_4 (dk_at dksX2_readRegion_8 3 rfl rfl)
theorem dX2_readRegion_190 : decode cX2_readRegion 190 = .ok (.goto 4, 3) := dk_167 0 4 (dk_at dksX2_readRegion_8 4 rfl rfl)
theorem dX2_readRegion_193 : decode cX2_readRegion 193 = .ok (.iconst 0, 1) := dk_3 (dk_at dksX2_readRegion_8 7 rfl rfl)
theorem dX2_readRegion_194 : decode cX2_readRegion 194 = .ok (.iconst 5, 1) := dk_8 (dk_at dksX2_readRegion_8 8 rfl rfl)
theorem dX2_readRegion_195 : decode cX2_readRegion 195 = .ok (.aload_n 1, 1) := dk_43 (dk_at dksX2_readRegion_8 9 rfl rfl)
theorem dX2_readRegion_196 : decode cX2_readRegion 196 = .ok (.getfield 175, 3) := dk_180 0 175 (dk_at dksX2_readRegion_8 10 rfl rfl)
theorem dX2_readRegion_199 : decode cX2_readRegion 199 = .ok (.invokestatic 70, 3) := dk_184 0 70 (dk_at dksX2_readRegion_8 13 rfl rfl)
theorem dX2_readRegion_202 : decode cX2_readRegion 202 = .ok (.iconst 0, 1) := dk_3 (dk_at dksX2_readRegion_8 16 rfl rfl)
theorem dX2_readRegion_203 : decode cX2_readRegion 203 = .ok (.istore 4, 2) := dk_54 4 (dk_at dksX2_readRegion_8 17 rfl rfl)
theorem dX2_readRegion_205 : decode cX2_readRegion 205 = .ok (.iload 4, 2) := dk_21 4 (dk_at dksX2_readRegion_8 19 rfl rfl)
theorem dX2_readRegion_207 : decode cX2_readRegion 207 = .ok (.aload_n 1, 1) := dk_43 (dk_at dksX2_readRegion_8 21 rfl rfl)
theorem dX2_readRegion_208 : decode cX2_readRegion 208 = .ok (.invokevirtual 280, 3) := dk_182 1 24 (dk_at dksX2_readRegion_9 0 rfl rfl)
theorem dX2_readRegion_211 : decode cX2_readRegion 211 = .ok (.if_icmp .ge 26, 3) := dk_162 0 26 (dk_at dksX2_readRegion_9 3 rfl rfl)
theorem dX2_readRegion_214 : decode cX2_readRegion 214 = .ok (.aload_n 1, 1) := dk_43 (dk_at dksX2_readRegion_9 6 rfl rfl)
theorem dX2_readRegion_215 : decode cX2_readRegion 215 = .ok (.getfield 282, 3) := dk_180 1 26 (dk_at dksX2_readRegion_9 7 rfl rfl)
theorem dX2_readRegion_218 : decode cX2_readRegion 218 = .ok (.iload 4, 2) := dk_21 4 (dk_at dksX2_readRegion_9 10 rfl rfl)
theorem dX2_readRegion_220 : decode cX2_readRegion 220 = .ok (.dup2, 1) := dk_92 (dk_at dksX2_readRegion_9 12 rfl rfl)
theorem dX2_readRegion_221 : decode cX2_readRegion 221 = .ok (.iaload, 1) := dk_46 (dk_at dksX2_readRegion_9 13 rfl rfl)
theorem dX2_readRegion_222 : decode cX2_readRegion 222 = .ok (.aload_n 3, 1) := dk_45 (dk_at dksX2_readRegion_9 14 rfl rfl)
theorem dX2_readRegion_223 : decode cX2_readRegion 223 = .ok (.getfield 282, 3) := dk_180 1 26 (dk_at dksX2_readRegion_9 15 rfl rfl)
theorem dX2_readRegion_226 : decode cX2_readRegion 226 = .ok (.iload 4, 2) := dk_21 4 (dk_at dksX2_readRegion_9 18 rfl rfl)
theorem dX2_readRegion_228 : decode cX2_readRegion 228 = .ok (.iaload, 1) := dk_46 (dk_at dksX2_readRegion_9 20 rfl rfl)
theorem dX2_readRegion_229 : decode cX2_readRegion 229 = .ok (.ixor, 1) := dk_130 (dk_at dksX2_readRegion_9 21 rfl rfl)
theorem dX2_readRegion_230 : decode cX2_readRegion 230 = .ok (.iastore, 1) := dk_79 (dk_at dksX2_readRegion_9 22 rfl rfl)
theorem dX2_readRegion_231 : decode cX2_readRegion 231 = .ok (.iinc 4 1, 3) := dk_132 4 1 (dk_at dksX2_readRegion_10 0 rfl rfl)
theorem dX2_readRegion_234 : decode cX2_readRegion 234 = .ok (.goto (-29), 3) := dk_167 255 227 (dk_at dksX2_readRegion_10 3 rfl rfl)
theorem dX2_readRegion_237 : decode cX2_readRegion 237 = .ok (.aload_n 1, 1) := dk_43 (dk_at dksX2_readRegion_10 6 rfl rfl)
theorem dX2_readRegion_238 : decode cX2_readRegion 238 = .ok (.getfield 115, 3) := dk_180 0 115 (dk_at dksX2_readRegion_10 7 rfl rfl)
theorem dX2_readRegion_241 : decode cX2_readRegion 241 = .ok (.getstatic 196, 3) := dk_178 0 196 (dk_at dksX2_readRegion_10 10 rfl rfl)
theorem dX2_readRegion_244 : decode cX2_readRegion 244 = .ok (.if_acmp .eq 19, 3) := dk_165 0 19 (dk_at dksX2_readRegion_10 13 rfl rfl)
theorem dX2_readRegion_247 : decode cX2_readRegion 247 = .ok (.aload_n 0, 1) := dk_42 (dk_at dksX2_readRegion_10 16 rfl rfl)
theorem dX2_readRegion_248 : decode cX2_readRegion 248 = .ok (.getfield 3, 3) := dk_180 0 3 (dk_at dksX2_readRegion_10 17 rfl rfl)
theorem dX2_readRegion_251 : decode cX2_readRegion 251 = .ok (.getfield 57, 3) := dk_180 0 57 (dk_at dksX2_readRegion_10 20 rfl rfl)
theorem dX2_readRegion_254 : decode cX2_readRegion 254 = .ok (.aload_n 0, 1) := dk_42 (dk_at dksX2_readRegion_10 23 rfl rfl)
theorem dX2_readRegion_255 : decode cX2_readRegion 255 = .ok (.getfield 26, 3) := dk_180 0 26 (dk_at dksX2_readRegion_11 0 rfl rfl)
theorem dX2_readRegion_258 : decode cX2_readRegion 258 = .ok (.aaload, 1) := dk_50 (dk_at dksX2_readRegion_11 3 rfl rfl)
theorem dX2_readRegion_259 : decode cX2_readRegion 259 = .ok (.aload_n 1, 1) := dk_43 (dk_at dksX2_readRegion_11 4 rfl rfl)
theorem dX2_readRegion_260 : decode cX2_readRegion 260 = .ok (.invokevirtual 289, 3) := dk_182 1 33 (dk_at dksX2_readRegion_11 5 rfl rfl)
theorem dX2_readRegion_263 : decode cX2_readRegion 263 = .ok (.return_, 1) := dk_177 (dk_at dksX2_readRegion_11 8 rfl rfl)
abbrev cX2_value : ByteArray := prog_3_method_13_code
def yX2_value : MethodName := ⟨RX2, "value", "(LBilevelPages$Segment;IJ)I"⟩
def dkwX2_value_1 : List UInt8 := [43, 180, 0, 175, 184, 0, 70, 33, 136, 172]
abbrev dktX2_value_1 : List UInt8 := dkwX2_value_1 ++ []
def dkwX2_value_0 : List UInt8 := [33, 43, 180, 0, 115, 28, 182, 0, 202, 133, 43, 180, 0, 115, 28, 182, 0, 205, 133, 184, 0, 150, 16, 8]
abbrev dktX2_value_0 : List UInt8 := dkwX2_value_0 ++ dktX2_value_1
theorem dksX2_value_0 : cX2_value.data.toList.drop 0 = dktX2_value_0 := by decide +kernel
theorem dksX2_value_1 : cX2_value.data.toList.drop 24 = dktX2_value_1 := dk_seg dksX2_value_0 24 rfl rfl
theorem dX2_value_0 : decode cX2_value 0 = .ok (.lload_n 3, 1) := dk_33 (dk_at dksX2_value_0 0 rfl rfl)
theorem dX2_value_1 : decode cX2_value 1 = .ok (.aload_n 1, 1) := dk_43 (dk_at dksX2_value_0 1 rfl rfl)
theorem dX2_value_2 : decode cX2_value 2 = .ok (.getfield 115, 3) := dk_180 0 115 (dk_at dksX2_value_0 2 rfl rfl)
theorem dX2_value_5 : decode cX2_value 5 = .ok (.iload_n 2, 1) := dk_28 (dk_at dksX2_value_0 5 rfl rfl)
theorem dX2_value_6 : decode cX2_value 6 = .ok (.invokevirtual 202, 3) := dk_182 0 202 (dk_at dksX2_value_0 6 rfl rfl)
theorem dX2_value_9 : decode cX2_value 9 = .ok (.i2l, 1) := dk_133 (dk_at dksX2_value_0 9 rfl rfl)
theorem dX2_value_10 : decode cX2_value 10 = .ok (.aload_n 1, 1) := dk_43 (dk_at dksX2_value_0 10 rfl rfl)
theorem dX2_value_11 : decode cX2_value 11 = .ok (.getfield 115, 3) := dk_180 0 115 (dk_at dksX2_value_0 11 rfl rfl)
theorem dX2_value_14 : decode cX2_value 14 = .ok (.iload_n 2, 1) := dk_28 (dk_at dksX2_value_0 14 rfl rfl)
theorem dX2_value_15 : decode cX2_value 15 = .ok (.invokevirtual 205, 3) := dk_182 0 205 (dk_at dksX2_value_0 15 rfl rfl)
theorem dX2_value_18 : decode cX2_value 18 = .ok (.i2l, 1) := dk_133 (dk_at dksX2_value_0 18 rfl rfl)
theorem dX2_value_19 : decode cX2_value 19 = .ok (.invokestatic 150, 3) := dk_184 0 150 (dk_at dksX2_value_0 19 rfl rfl)
theorem dX2_value_22 : decode cX2_value 22 = .ok (.bipush 8, 2) := dk_16 8 (dk_at dksX2_value_0 22 rfl rfl)
theorem dX2_value_24 : decode cX2_value 24 = .ok (.aload_n 1, 1) := dk_43 (dk_at dksX2_value_1 0 rfl rfl)
theorem dX2_value_25 : decode cX2_value 25 = .ok (.getfield 175, 3) := dk_180 0 175 (dk_at dksX2_value_1 1 rfl rfl)
theorem dX2_value_28 : decode cX2_value 28 = .ok (.invokestatic 70, 3) := dk_184 0 70 (dk_at dksX2_value_1 4 rfl rfl)
theorem dX2_value_31 : decode cX2_value 31 = .ok (.lload_n 3, 1) := dk_33 (dk_at dksX2_value_1 7 rfl rfl)
theorem dX2_value_32 : decode cX2_value 32 = .ok (.l2i, 1) := dk_136 (dk_at dksX2_value_1 8 rfl rfl)
theorem dX2_value_33 : decode cX2_value 33 = .ok (.ireturn, 1) := dk_172 (dk_at dksX2_value_1 9 rfl rfl)
abbrev cX2_readOpenRows : ByteArray := prog_3_method_21_code
def yX2_readOpenRows : MethodName := ⟨RX2, "readOpenRows", "(LBilevelPages$Segment;)V"⟩
def dkwX2_readOpenRows_10 : List UInt8 := [28, 79, 177]
abbrev dktX2_readOpenRows_10 : List UInt8 := dkwX2_readOpenRows_10 ++ []
def dkwX2_readOpenRows_9 : List UInt8 := [16, 8, 43, 180, 0, 175, 184, 0, 70, 42, 89, 180, 0, 19, 7, 96, 181, 0, 19, 43, 180, 0, 250, 4]
abbrev dktX2_readOpenRows_9 : List UInt8 := dkwX2_readOpenRows_9 ++ dktX2_readOpenRows_10
def dkwX2_readOpenRows_8 : List UInt8 := [42, 42, 180, 0, 19, 182, 0, 134, 28, 133, 148, 154, 0, 11, 28, 158, 0, 7, 4, 167, 0, 4, 3]
abbrev dktX2_readOpenRows_8 : List UInt8 := dkwX2_readOpenRows_8 ++ dktX2_readOpenRows_9
def dkwX2_readOpenRows_7 : List UInt8 := [43, 180, 0, 175, 184, 0, 70, 42, 89, 180, 0, 19, 4, 96, 181, 0, 19, 42, 20, 1, 36, 182, 0, 82]
abbrev dktX2_readOpenRows_7 : List UInt8 := dkwX2_readOpenRows_7 ++ dktX2_readOpenRows_8
def dkwX2_readOpenRows_6 : List UInt8 := [182, 0, 82, 42, 42, 180, 0, 19, 182, 0, 66, 17, 0, 172, 160, 0, 7, 4, 167, 0, 4, 3, 16, 8]
abbrev dktX2_readOpenRows_6 : List UInt8 := dkwX2_readOpenRows_6 ++ dktX2_readOpenRows_7
def dkwX2_readOpenRows_5 : List UInt8 := [3, 16, 8, 43, 180, 0, 175, 184, 0, 70, 42, 89, 180, 0, 19, 4, 96, 181, 0, 19, 42, 10]
abbrev dktX2_readOpenRows_5 : List UInt8 := dkwX2_readOpenRows_5 ++ dktX2_readOpenRows_6
def dkwX2_readOpenRows_4 : List UInt8 := [182, 0, 82, 167, 255, 167, 42, 42, 180, 0, 19, 182, 0, 66, 17, 0, 255, 160, 0, 7, 4, 167, 0, 4]
abbrev dktX2_readOpenRows_4 : List UInt8 := dkwX2_readOpenRows_4 ++ dktX2_readOpenRows_5
def dkwX2_readOpenRows_3 : List UInt8 := [180, 0, 19, 182, 1, 29, 79, 42, 89, 180, 0, 19, 43, 182, 1, 15, 96, 181, 0, 19, 42, 10]
abbrev dktX2_readOpenRows_3 : List UInt8 := dkwX2_readOpenRows_3 ++ dktX2_readOpenRows_4
def dkwX2_readOpenRows_2 : List UInt8 := [181, 0, 19, 42, 43, 182, 1, 15, 133, 182, 0, 82, 43, 180, 1, 26, 28, 132, 2, 1, 42, 43, 42]
abbrev dktX2_readOpenRows_2 : List UInt8 := dkwX2_readOpenRows_2 ++ dktX2_readOpenRows_3
def dkwX2_readOpenRows_1 : List UInt8 := [162, 0, 7, 4, 167, 0, 4, 3, 16, 8, 43, 180, 0, 175, 184, 0, 70, 42, 89, 180, 0, 19, 4, 96]
abbrev dktX2_readOpenRows_1 : List UInt8 := dkwX2_readOpenRows_1 ++ dktX2_readOpenRows_2
def dkwX2_readOpenRows_0 : List UInt8 := [3, 61, 42, 10, 182, 0, 82, 42, 42, 180, 0, 19, 182, 0, 66, 4, 160, 0, 83, 28, 43, 182, 1, 24]
abbrev dktX2_readOpenRows_0 : List UInt8 := dkwX2_readOpenRows_0 ++ dktX2_readOpenRows_1
theorem dksX2_readOpenRows_0 : cX2_readOpenRows.data.toList.drop 0 = dktX2_readOpenRows_0 := by decide +kernel
theorem dksX2_readOpenRows_1 : cX2_readOpenRows.data.toList.drop 24 = dktX2_readOpenRows_1 := dk_seg dksX2_readOpenRows_0 24 rfl rfl
theorem dksX2_readOpenRows_2 : cX2_readOpenRows.data.toList.drop 48 = dktX2_readOpenRows_2 := dk_seg dksX2_readOpenRows_1 24 rfl rfl
theorem dksX2_readOpenRows_3 : cX2_readOpenRows.data.toList.drop 71 = dktX2_readOpenRows_3 := dk_seg dksX2_readOpenRows_2 23 rfl rfl
theorem dksX2_readOpenRows_4 : cX2_readOpenRows.data.toList.drop 93 = dktX2_readOpenRows_4 := dk_seg dksX2_readOpenRows_3 22 rfl rfl
theorem dksX2_readOpenRows_5 : cX2_readOpenRows.data.toList.drop 117 = dktX2_readOpenRows_5 := dk_seg dksX2_readOpenRows_4 24 rfl rfl
theorem dksX2_readOpenRows_6 : cX2_readOpenRows.data.toList.drop 139 = dktX2_readOpenRows_6 := dk_seg dksX2_readOpenRows_5 22 rfl rfl
theorem dksX2_readOpenRows_7 : cX2_readOpenRows.data.toList.drop 163 = dktX2_readOpenRows_7 := dk_seg dksX2_readOpenRows_6 24 rfl rfl
theorem dksX2_readOpenRows_8 : cX2_readOpenRows.data.toList.drop 187 = dktX2_readOpenRows_8 := dk_seg dksX2_readOpenRows_7 24 rfl rfl
theorem dksX2_readOpenRows_9 : cX2_readOpenRows.data.toList.drop 210 = dktX2_readOpenRows_9 := dk_seg dksX2_readOpenRows_8 23 rfl rfl
theorem dksX2_readOpenRows_10 : cX2_readOpenRows.data.toList.drop 234 = dktX2_readOpenRows_10 := dk_seg dksX2_readOpenRows_9 24 rfl rfl
theorem dX2_readOpenRows_0 : decode cX2_readOpenRows 0 = .ok (.iconst 0, 1) := dk_3 (dk_at dksX2_readOpenRows_0 0 rfl rfl)
theorem dX2_readOpenRows_1 : decode cX2_readOpenRows 1 = .ok (.istore_n 2, 1) := dk_61 (dk_at dksX2_readOpenRows_0 1 rfl rfl)
theorem dX2_readOpenRows_2 : decode cX2_readOpenRows 2 = .ok (.aload_n 0, 1) := dk_42 (dk_at dksX2_readOpenRows_0 2 rfl rfl)
theorem dX2_readOpenRows_3 : decode cX2_readOpenRows 3 = .ok (.lconst 1, 1) := dk_10 (dk_at dksX2_readOpenRows_0 3 rfl rfl)
theorem dX2_readOpenRows_4 : decode cX2_readOpenRows 4 = .ok (.invokevirtual 82, 3) := dk_182 0 82 (dk_at dksX2_readOpenRows_0 4 rfl rfl)
theorem dX2_readOpenRows_7 : decode cX2_readOpenRows 7 = .ok (.aload_n 0, 1) := dk_42 (dk_at dksX2_readOpenRows_0 7 rfl rfl)
theorem dX2_readOpenRows_8 : decode cX2_readOpenRows 8 = .ok (.aload_n 0, 1) := dk_42 (dk_at dksX2_readOpenRows_0 8 rfl rfl)
theorem dX2_readOpenRows_9 : decode cX2_readOpenRows 9 = .ok (.getfield 19, 3) := dk_180 0 19 (dk_at dksX2_readOpenRows_0 9 rfl rfl)
theorem dX2_readOpenRows_12 : decode cX2_readOpenRows 12 = .ok (.invokevirtual 66, 3) := dk_182 0 66 (dk_at dksX2_readOpenRows_0 12 rfl rfl)
theorem dX2_readOpenRows_15 : decode cX2_readOpenRows 15 = .ok (.iconst 1, 1) := dk_4 (dk_at dksX2_readOpenRows_0 15 rfl rfl)
theorem dX2_readOpenRows_16 : decode cX2_readOpenRows 16 = .ok (.if_icmp .ne 83, 3) := dk_160 0 83 (dk_at dksX2_readOpenRows_0 16 rfl rfl)
theorem dX2_readOpenRows_19 : decode cX2_readOpenRows 19 = .ok (.iload_n 2, 1) := dk_28 (dk_at dksX2_readOpenRows_0 19 rfl rfl)
theorem dX2_readOpenRows_20 : decode cX2_readOpenRows 20 = .ok (.aload_n 1, 1) := dk_43 (dk_at dksX2_readOpenRows_0 20 rfl rfl)
theorem dX2_readOpenRows_21 : decode cX2_readOpenRows 21 = .ok (.invokevirtual 280, 3) := dk_182 1 24 (dk_at dksX2_readOpenRows_0 21 rfl rfl)
theorem dX2_readOpenRows_24 : decode cX2_readOpenRows 24 = .ok (.if_icmp .ge 7, 3) := dk_162 0 7 (dk_at dksX2_readOpenRows_1 0 rfl rfl)
theorem dX2_readOpenRows_27 : decode cX2_readOpenRows 27 = .ok (.iconst 1, 1) := dk_4 (dk_at dksX2_readOpenRows_1 3 rfl rfl)
theorem dX2_readOpenRows_28 : decode cX2_readOpenRows 28 = .ok (.goto 4, 3) := dk_167 0 4 (dk_at dksX2_readOpenRows_1 4 rfl rfl)
theorem dX2_readOpenRows_31 : decode cX2_readOpenRows 31 = .ok (.iconst 0, 1) := dk_3 (dk_at dksX2_readOpenRows_1 7 rfl rfl)
theorem dX2_readOpenRows_32 : decode cX2_readOpenRows 32 = .ok (.bipush 8, 2) := dk_16 8 (dk_at dksX2_readOpenRows_1 8 rfl rfl)
theorem dX2_readOpenRows_34 : decode cX2_readOpenRows 34 = .ok (.aload_n 1, 1) := dk_43 (dk_at dksX2_readOpenRows_1 10 rfl rfl)
theorem dX2_readOpenRows_35 : decode cX2_readOpenRows 35 = .ok (.getfield 175, 3) := dk_180 0 175 (dk_at dksX2_readOpenRows_1 11 rfl rfl)
theorem dX2_readOpenRows_38 : decode cX2_readOpenRows 38 = .ok (.invokestatic 70, 3) := dk_184 0 70 (dk_at dksX2_readOpenRows_1 14 rfl rfl)
theorem dX2_readOpenRows_41 : decode cX2_readOpenRows 41 = .ok (.aload_n 0, 1) := dk_42 (dk_at dksX2_readOpenRows_1 17 rfl rfl)
theorem dX2_readOpenRows_42 : decode cX2_readOpenRows 42 = .ok (.dup, 1) := dk_89 (dk_at dksX2_readOpenRows_1 18 rfl rfl)
theorem dX2_readOpenRows_43 : decode cX2_readOpenRows 43 = .ok (.getfield 19, 3) := dk_180 0 19 (dk_at dksX2_readOpenRows_1 19 rfl rfl)
theorem dX2_readOpenRows_46 : decode cX2_readOpenRows 46 = .ok (.iconst 1, 1) := dk_4 (dk_at dksX2_readOpenRows_1 22 rfl rfl)
theorem dX2_readOpenRows_47 : decode cX2_readOpenRows 47 = .ok (.iadd, 1) := dk_96 (dk_at dksX2_readOpenRows_1 23 rfl rfl)
theorem dX2_readOpenRows_48 : decode cX2_readOpenRows 48 = .ok (.putfield 19, 3) := dk_181 0 19 (dk_at dksX2_readOpenRows_2 0 rfl rfl)
theorem dX2_readOpenRows_51 : decode cX2_readOpenRows 51 = .ok (.aload_n 0, 1) := dk_42 (dk_at dksX2_readOpenRows_2 3 rfl rfl)
theorem dX2_readOpenRows_52 : decode cX2_readOpenRows 52 = .ok (.aload_n 1, 1) := dk_43 (dk_at dksX2_readOpenRows_2 4 rfl rfl)
theorem dX2_readOpenRows_53 : decode cX2_readOpenRows 53 = .ok (.invokevirtual 271, 3) := dk_182 1 15 (dk_at dksX2_readOpenRows_2 5 rfl rfl)
theorem dX2_readOpenRows_56 : decode cX2_readOpenRows 56 = .ok (.i2l, 1) := dk_133 (dk_at dksX2_readOpenRows_2 8 rfl rfl)
theorem dX2_readOpenRows_57 : decode cX2_readOpenRows 57 = .ok (.invokevirtual 82, 3) := dk_182 0 82 (dk_at dksX2_readOpenRows_2 9 rfl rfl)
theorem dX2_readOpenRows_60 : decode cX2_readOpenRows 60 = .ok (.aload_n 1, 1) := dk_43 (dk_at dksX2_readOpenRows_2 12 rfl rfl)
theorem dX2_readOpenRows_61 : decode cX2_readOpenRows 61 = .ok (.getfield 282, 3) := dk_180 1 26 (dk_at dksX2_readOpenRows_2 13 rfl rfl)
theorem dX2_readOpenRows_64 : decode cX2_readOpenRows 64 = .ok (.iload_n 2, 1) := dk_28 (dk_at dksX2_readOpenRows_2 16 rfl rfl)
theorem dX2_readOpenRows_65 : decode cX2_readOpenRows 65 = .ok (.iinc 2 1, 3) := dk_132 2 1 (dk_at dksX2_readOpenRows_2 17 rfl rfl)
theorem dX2_readOpenRows_68 : decode cX2_readOpenRows 68 = .ok (.aload_n 0, 1) := dk_42 (dk_at dksX2_readOpenRows_2 20 rfl rfl)
theorem dX2_readOpenRows_69 : decode cX2_readOpenRows 69 = .ok (.aload_n 1, 1) := dk_43 (dk_at dksX2_readOpenRows_2 21 rfl rfl)
theorem dX2_readOpenRows_70 : decode cX2_readOpenRows 70 = .ok (.aload_n 0, 1) := dk_42 (dk_at dksX2_readOpenRows_2 22 rfl rfl)
theorem dX2_readOpenRows_71 : decode cX2_readOpenRows 71 = .ok (.getfield 19, 3) := dk_180 0 19 (dk_at dksX2_readOpenRows_3 0 rfl rfl)
theorem dX2_readOpenRows_74 : decode cX2_readOpenRows 74 = .ok (.invokevirtual 285, 3) := dk_182 1 29 (dk_at dksX2_readOpenRows_3 3 rfl rfl)
theorem dX2_readOpenRows_77 : decode cX2_readOpenRows 77 = .ok (.iastore, 1) := dk_79 (dk_at dksX2_readOpenRows_3 6 rfl rfl)
theorem dX2_readOpenRows_78 : decode cX2_readOpenRows 78 = .ok (.aload_n 0, 1) := dk_42 (dk_at dksX2_readOpenRows_3 7 rfl rfl)
theorem dX2_readOpenRows_79 : decode cX2_readOpenRows 79 = .ok (.dup, 1) := dk_89 (dk_at dksX2_readOpenRows_3 8 rfl rfl)
theorem dX2_readOpenRows_80 : decode cX2_readOpenRows 80 = .ok (.getfield 19, 3) := dk_180 0 19 (dk_at dksX2_readOpenRows_3 9 rfl rfl)
theorem dX2_readOpenRows_83 : decode cX2_readOpenRows 83 = .ok (.aload_n 1, 1) := dk_43 (dk_at dksX2_readOpenRows_3 12 rfl rfl)
theorem dX2_readOpenRows_84 : decode cX2_readOpenRows 84 = .ok (.invokevirtual 271, 3) := dk_182 1 15 (dk_at dksX2_readOpenRows_3 13 rfl rfl)
theorem dX2_readOpenRows_87 : decode cX2_readOpenRows 87 = .ok (.iadd, 1) := dk_96 (dk_at dksX2_readOpenRows_3 16 rfl rfl)
theorem dX2_readOpenRows_88 : decode cX2_readOpenRows 88 = .ok (.putfield 19, 3) := dk_181 0 19 (dk_at dksX2_readOpenRows_3 17 rfl rfl)
theorem dX2_readOpenRows_91 : decode cX2_readOpenRows 91 = .ok (.aload_n 0, 1) := dk_42 (dk_at dksX2_readOpenRows_3 20 rfl rfl)
theorem dX2_readOpenRows_92 : decode cX2_readOpenRows 92 = .ok (.lconst 1, 1) := dk_10 (dk_at dksX2_readOpenRows_3 21 rfl rfl)
theorem dX2_readOpenRows_93 : decode cX2_readOpenRows 93 = .ok (.invokevirtual 82, 3) := dk_182 0 82 (dk_at dksX2_readOpenRows_4 0 rfl rfl)
theorem dX2_readOpenRows_96 : decode cX2_readOpenRows 96 = .ok (.goto (-89), 3) := dk_167 255 167 (dk_at dksX2_readOpenRows_4 3 rfl rfl)
theorem dX2_readOpenRows_99 : decode cX2_readOpenRows 99 = .ok (.aload_n 0, 1) := dk_42 (dk_at dksX2_readOpenRows_4 6 rfl rfl)
theorem dX2_readOpenRows_100 : decode cX2_readOpenRows 100 = .ok (.aload_n 0, 1) := dk_42 (dk_at dksX2_readOpenRows_4 7 rfl rfl)
theorem dX2_readOpenRows_101 : decode cX2_readOpenRows 101 = .ok (.getfield 19, 3) := dk_180 0 19 (dk_at dksX2_readOpenRows_4 8 rfl rfl)
theorem dX2_readOpenRows_104 : decode cX2_readOpenRows 104 = .ok (.invokevirtual 66, 3) := dk_182 0 66 (dk_at dksX2_readOpenRows_4 11 rfl rfl)
theorem dX2_readOpenRows_107 : decode cX2_readOpenRows 107 = .ok (.sipush 255, 3) := dk_17 0 255 (dk_at dksX2_readOpenRows_4 14 rfl rfl)
theorem dX2_readOpenRows_110 : decode cX2_readOpenRows 110 = .ok (.if_icmp .ne 7, 3) := dk_160 0 7 (dk_at dksX2_readOpenRows_4 17 rfl rfl)
theorem dX2_readOpenRows_113 : decode cX2_readOpenRows 113 = .ok (.iconst 1, 1) := dk_4 (dk_at dksX2_readOpenRows_4 20 rfl rfl)
theorem dX2_readOpenRows_114 : decode cX2_readOpenRows 114 = .ok (.goto 4, 3) := dk_167 0 4 (dk_at dksX2_readOpenRows_4 21 rfl rfl)
theorem dX2_readOpenRows_117 : decode cX2_readOpenRows 117 = .ok (.iconst 0, 1) := dk_3 (dk_at dksX2_readOpenRows_5 0 rfl rfl)
theorem dX2_readOpenRows_118 : decode cX2_readOpenRows 118 = .ok (.bipush 8, 2) := dk_16 8 (dk_at dksX2_readOpenRows_5 1 rfl rfl)
theorem dX2_readOpenRows_120 : decode cX2_readOpenRows 120 = .ok (.aload_n 1, 1) := dk_43 (dk_at dksX2_readOpenRows_5 3 rfl rfl)
theorem dX2_readOpenRows_121 : decode cX2_readOpenRows 121 = .ok (.getfield 175, 3) := dk_180 0 175 (dk_at dksX2_readOpenRows_5 4 rfl rfl)
theorem dX2_readOpenRows_124 : decode cX2_readOpenRows 124 = .ok (.invokestatic 70, 3) := dk_184 0 70 (dk_at dksX2_readOpenRows_5 7 rfl rfl)
theorem dX2_readOpenRows_127 : decode cX2_readOpenRows 127 = .ok (.aload_n 0, 1) := dk_42 (dk_at dksX2_readOpenRows_5 10 rfl rfl)
theorem dX2_readOpenRows_128 : decode cX2_readOpenRows 128 = .ok (.dup, 1) := dk_89 (dk_at dksX2_readOpenRows_5 11 rfl rfl)
theorem dX2_readOpenRows_129 : decode cX2_readOpenRows 129 = .ok (.getfield 19, 3) := dk_180 0 19 (dk_at dksX2_readOpenRows_5 12 rfl rfl)
theorem dX2_readOpenRows_132 : decode cX2_readOpenRows 132 = .ok (.iconst 1, 1) := dk_4 (dk_at dksX2_readOpenRows_5 15 rfl rfl)
theorem dX2_readOpenRows_133 : decode cX2_readOpenRows 133 = .ok (.iadd, 1) := dk_96 (dk_at dksX2_readOpenRows_5 16 rfl rfl)
theorem dX2_readOpenRows_134 : decode cX2_readOpenRows 134 = .ok (.putfield 19, 3) := dk_181 0 19 (dk_at dksX2_readOpenRows_5 17 rfl rfl)
theorem dX2_readOpenRows_137 : decode cX2_readOpenRows 137 = .ok (.aload_n 0, 1) := dk_42 (dk_at dksX2_readOpenRows_5 20 rfl rfl)
theorem dX2_readOpenRows_138 : decode cX2_readOpenRows 138 = .ok (.lconst 1, 1) := dk_10 (dk_at dksX2_readOpenRows_5 21 rfl rfl)
theorem dX2_readOpenRows_139 : decode cX2_readOpenRows 139 = .ok (.invokevirtual 82, 3) := dk_182 0 82 (dk_at dksX2_readOpenRows_6 0 rfl rfl)
theorem dX2_readOpenRows_142 : decode cX2_readOpenRows 142 = .ok (.aload_n 0, 1) := dk_42 (dk_at dksX2_readOpenRows_6 3 rfl rfl)
theorem dX2_readOpenRows_143 : decode cX2_readOpenRows 143 = .ok (.aload_n 0, 1) := dk_42 (dk_at dksX2_readOpenRows_6 4 rfl rfl)
theorem dX2_readOpenRows_144 : decode cX2_readOpenRows 144 = .ok (.getfield 19, 3) := dk_180 0 19 (dk_at dksX2_readOpenRows_6 5 rfl rfl)
theorem dX2_readOpenRows_147 : decode cX2_readOpenRows 147 = .ok (.invokevirtual 66, 3) := dk_182 0 66 (dk_at dksX2_readOpenRows_6 8 rfl rfl)
theorem dX2_readOpenRows_150 : decode cX2_readOpenRows 150 = .ok (.sipush 172, 3) := dk_17 0 172 (dk_at dksX2_readOpenRows_6 11 rfl rfl)
theorem dX2_readOpenRows_153 : decode cX2_readOpenRows 153 = .ok (.if_icmp .ne 7, 3) := dk_160 0 7 (dk_at dksX2_readOpenRows_6 14 rfl rfl)
theorem dX2_readOpenRows_156 : decode cX2_readOpenRows 156 = .ok (.iconst 1, 1) := dk_4 (dk_at dksX2_readOpenRows_6 17 rfl rfl)
theorem dX2_readOpenRows_157 : decode cX2_readOpenRows 157 = .ok (.goto 4, 3) := dk_167 0 4 (dk_at dksX2_readOpenRows_6 18 rfl rfl)
theorem dX2_readOpenRows_160 : decode cX2_readOpenRows 160 = .ok (.iconst 0, 1) := dk_3 (dk_at dksX2_readOpenRows_6 21 rfl rfl)
theorem dX2_readOpenRows_161 : decode cX2_readOpenRows 161 = .ok (.bipush 8, 2) := dk_16 8 (dk_at dksX2_readOpenRows_6 22 rfl rfl)
theorem dX2_readOpenRows_163 : decode cX2_readOpenRows 163 = .ok (.aload_n 1, 1) := dk_43 (dk_at dksX2_readOpenRows_7 0 rfl rfl)
theorem dX2_readOpenRows_164 : decode cX2_readOpenRows 164 = .ok (.getfield 175, 3) := dk_180 0 175 (dk_at dksX2_readOpenRows_7 1 rfl rfl)
theorem dX2_readOpenRows_167 : decode cX2_readOpenRows 167 = .ok (.invokestatic 70, 3) := dk_184 0 70 (dk_at dksX2_readOpenRows_7 4 rfl rfl)
theorem dX2_readOpenRows_170 : decode cX2_readOpenRows 170 = .ok (.aload_n 0, 1) := dk_42 (dk_at dksX2_readOpenRows_7 7 rfl rfl)
theorem dX2_readOpenRows_171 : decode cX2_readOpenRows 171 = .ok (.dup, 1) := dk_89 (dk_at dksX2_readOpenRows_7 8 rfl rfl)
theorem dX2_readOpenRows_172 : decode cX2_readOpenRows 172 = .ok (.getfield 19, 3) := dk_180 0 19 (dk_at dksX2_readOpenRows_7 9 rfl rfl)
theorem dX2_readOpenRows_175 : decode cX2_readOpenRows 175 = .ok (.iconst 1, 1) := dk_4 (dk_at dksX2_readOpenRows_7 12 rfl rfl)
theorem dX2_readOpenRows_176 : decode cX2_readOpenRows 176 = .ok (.iadd, 1) := dk_96 (dk_at dksX2_readOpenRows_7 13 rfl rfl)
theorem dX2_readOpenRows_177 : decode cX2_readOpenRows 177 = .ok (.putfield 19, 3) := dk_181 0 19 (dk_at dksX2_readOpenRows_7 14 rfl rfl)
theorem dX2_readOpenRows_180 : decode cX2_readOpenRows 180 = .ok (.aload_n 0, 1) := dk_42 (dk_at dksX2_readOpenRows_7 17 rfl rfl)
theorem dX2_readOpenRows_181 : decode cX2_readOpenRows 181 = .ok (.ldc2_w 292, 3) := dk_20 1 36 (dk_at dksX2_readOpenRows_7 18 rfl rfl)
theorem dX2_readOpenRows_184 : decode cX2_readOpenRows 184 = .ok (.invokevirtual 82, 3) := dk_182 0 82 (dk_at dksX2_readOpenRows_7 21 rfl rfl)
theorem dX2_readOpenRows_187 : decode cX2_readOpenRows 187 = .ok (.aload_n 0, 1) := dk_42 (dk_at dksX2_readOpenRows_8 0 rfl rfl)
theorem dX2_readOpenRows_188 : decode cX2_readOpenRows 188 = .ok (.aload_n 0, 1) := dk_42 (dk_at dksX2_readOpenRows_8 1 rfl rfl)
theorem dX2_readOpenRows_189 : decode cX2_readOpenRows 189 = .ok (.getfield 19, 3) := dk_180 0 19 (dk_at dksX2_readOpenRows_8 2 rfl rfl)
theorem dX2_readOpenRows_192 : decode cX2_readOpenRows 192 = .ok (.invokevirtual 134, 3) := dk_182 0 134 (dk_at dksX2_readOpenRows_8 5 rfl rfl)
theorem dX2_readOpenRows_195 : decode cX2_readOpenRows 195 = .ok (.iload_n 2, 1) := dk_28 (dk_at dksX2_readOpenRows_8 8 rfl rfl)
theorem dX2_readOpenRows_196 : decode cX2_readOpenRows 196 = .ok (.i2l, 1) := dk_133 (dk_at dksX2_readOpenRows_8 9 rfl rfl)
theorem dX2_readOpenRows_197 : decode cX2_readOpenRows 197 = .ok (.lcmp, 1) := dk_148 (dk_at dksX2_readOpenRows_8 10 rfl rfl)
theorem dX2_readOpenRows_198 : decode cX2_readOpenRows 198 = .ok (.ifCond .ne 11, 3) := dk_154 0 11 (dk_at dksX2_readOpenRows_8 11 rfl rfl)
theorem dX2_readOpenRows_201 : decode cX2_readOpenRows 201 = .ok (.iload_n 2, 1) := dk_28 (dk_at dksX2_readOpenRows_8 14 rfl rfl)
theorem dX2_readOpenRows_202 : decode cX2_readOpenRows 202 = .ok (.ifCond .le 7, 3) := dk_158 0 7 (dk_at dksX2_readOpenRows_8 15 rfl rfl)
theorem dX2_readOpenRows_205 : decode cX2_readOpenRows 205 = .ok (.iconst 1, 1) := dk_4 (dk_at dksX2_readOpenRows_8 18 rfl rfl)
theorem dX2_readOpenRows_206 : decode cX2_readOpenRows 206 = .ok (.goto 4, 3) := dk_167 0 4 (dk_at dksX2_readOpenRows_8 19 rfl rfl)
theorem dX2_readOpenRows_209 : decode cX2_readOpenRows 209 = .ok (.iconst 0, 1) := dk_3 (dk_at dksX2_readOpenRows_8 22 rfl rfl)
theorem dX2_readOpenRows_210 : decode cX2_readOpenRows 210 = .ok (.bipush 8, 2) := dk_16 8 (dk_at dksX2_readOpenRows_9 0 rfl rfl)
theorem dX2_readOpenRows_212 : decode cX2_readOpenRows 212 = .ok (.aload_n 1, 1) := dk_43 (dk_at dksX2_readOpenRows_9 2 rfl rfl)
theorem dX2_readOpenRows_213 : decode cX2_readOpenRows 213 = .ok (.getfield 175, 3) := dk_180 0 175 (dk_at dksX2_readOpenRows_9 3 rfl rfl)
theorem dX2_readOpenRows_216 : decode cX2_readOpenRows 216 = .ok (.invokestatic 70, 3) := dk_184 0 70 (dk_at dksX2_readOpenRows_9 6 rfl rfl)
theorem dX2_readOpenRows_219 : decode cX2_readOpenRows 219 = .ok (.aload_n 0, 1) := dk_42 (dk_at dksX2_readOpenRows_9 9 rfl rfl)
theorem dX2_readOpenRows_220 : decode cX2_readOpenRows 220 = .ok (.dup, 1) := dk_89 (dk_at dksX2_readOpenRows_9 10 rfl rfl)
theorem dX2_readOpenRows_221 : decode cX2_readOpenRows 221 = .ok (.getfield 19, 3) := dk_180 0 19 (dk_at dksX2_readOpenRows_9 11 rfl rfl)
theorem dX2_readOpenRows_224 : decode cX2_readOpenRows 224 = .ok (.iconst 4, 1) := dk_7 (dk_at dksX2_readOpenRows_9 14 rfl rfl)
theorem dX2_readOpenRows_225 : decode cX2_readOpenRows 225 = .ok (.iadd, 1) := dk_96 (dk_at dksX2_readOpenRows_9 15 rfl rfl)
theorem dX2_readOpenRows_226 : decode cX2_readOpenRows 226 = .ok (.putfield 19, 3) := dk_181 0 19 (dk_at dksX2_readOpenRows_9 16 rfl rfl)
theorem dX2_readOpenRows_229 : decode cX2_readOpenRows 229 = .ok (.aload_n 1, 1) := dk_43 (dk_at dksX2_readOpenRows_9 19 rfl rfl)
theorem dX2_readOpenRows_230 : decode cX2_readOpenRows 230 = .ok (.getfield 250, 3) := dk_180 0 250 (dk_at dksX2_readOpenRows_9 20 rfl rfl)
theorem dX2_readOpenRows_233 : decode cX2_readOpenRows 233 = .ok (.iconst 1, 1) := dk_4 (dk_at dksX2_readOpenRows_9 23 rfl rfl)
theorem dX2_readOpenRows_234 : decode cX2_readOpenRows 234 = .ok (.iload_n 2, 1) := dk_28 (dk_at dksX2_readOpenRows_10 0 rfl rfl)
theorem dX2_readOpenRows_235 : decode cX2_readOpenRows 235 = .ok (.iastore, 1) := dk_79 (dk_at dksX2_readOpenRows_10 1 rfl rfl)
theorem dX2_readOpenRows_236 : decode cX2_readOpenRows 236 = .ok (.return_, 1) := dk_177 (dk_at dksX2_readOpenRows_10 2 rfl rfl)
abbrev cX2_readRow : ByteArray := prog_3_method_19_code
def yX2_readRow : MethodName := ⟨RX2, "readRow", "(LBilevelPages$Segment;I)I"⟩
def dkwX2_readRow_3 : List UInt8 := [21, 4, 120, 128, 62, 132, 4, 1, 167, 255, 181, 29, 172]
abbrev dktX2_readRow_3 : List UInt8 := dkwX2_readRow_3 ++ []
def dkwX2_readRow_2 : List UInt8 := [43, 182, 1, 18, 162, 0, 7, 4, 167, 0, 4, 3, 16, 8, 43, 180, 0, 175, 184, 0, 70, 29, 21, 5]
abbrev dktX2_readRow_2 : List UInt8 := dkwX2_readRow_2 ++ dktX2_readRow_3
def dkwX2_readRow_1 : List UInt8 := [96, 182, 0, 66, 16, 7, 21, 4, 16, 8, 112, 100, 122, 4, 126, 54, 5, 21, 5, 153, 0, 12, 21, 4]
abbrev dktX2_readRow_1 : List UInt8 := dkwX2_readRow_1 ++ dktX2_readRow_2
def dkwX2_readRow_0 : List UInt8 := [3, 62, 3, 54, 4, 21, 4, 16, 8, 43, 182, 1, 15, 104, 162, 0, 69, 42, 28, 21, 4, 16, 8, 108]
abbrev dktX2_readRow_0 : List UInt8 := dkwX2_readRow_0 ++ dktX2_readRow_1
theorem dksX2_readRow_0 : cX2_readRow.data.toList.drop 0 = dktX2_readRow_0 := by decide +kernel
theorem dksX2_readRow_1 : cX2_readRow.data.toList.drop 24 = dktX2_readRow_1 := dk_seg dksX2_readRow_0 24 rfl rfl
theorem dksX2_readRow_2 : cX2_readRow.data.toList.drop 48 = dktX2_readRow_2 := dk_seg dksX2_readRow_1 24 rfl rfl
theorem dksX2_readRow_3 : cX2_readRow.data.toList.drop 72 = dktX2_readRow_3 := dk_seg dksX2_readRow_2 24 rfl rfl
theorem dX2_readRow_0 : decode cX2_readRow 0 = .ok (.iconst 0, 1) := dk_3 (dk_at dksX2_readRow_0 0 rfl rfl)
theorem dX2_readRow_1 : decode cX2_readRow 1 = .ok (.istore_n 3, 1) := dk_62 (dk_at dksX2_readRow_0 1 rfl rfl)
theorem dX2_readRow_2 : decode cX2_readRow 2 = .ok (.iconst 0, 1) := dk_3 (dk_at dksX2_readRow_0 2 rfl rfl)
theorem dX2_readRow_3 : decode cX2_readRow 3 = .ok (.istore 4, 2) := dk_54 4 (dk_at dksX2_readRow_0 3 rfl rfl)
theorem dX2_readRow_5 : decode cX2_readRow 5 = .ok (.iload 4, 2) := dk_21 4 (dk_at dksX2_readRow_0 5 rfl rfl)
theorem dX2_readRow_7 : decode cX2_readRow 7 = .ok (.bipush 8, 2) := dk_16 8 (dk_at dksX2_readRow_0 7 rfl rfl)
theorem dX2_readRow_9 : decode cX2_readRow 9 = .ok (.aload_n 1, 1) := dk_43 (dk_at dksX2_readRow_0 9 rfl rfl)
theorem dX2_readRow_10 : decode cX2_readRow 10 = .ok (.invokevirtual 271, 3) := dk_182 1 15 (dk_at dksX2_readRow_0 10 rfl rfl)
theorem dX2_readRow_13 : decode cX2_readRow 13 = .ok (.imul, 1) := dk_104 (dk_at dksX2_readRow_0 13 rfl rfl)
theorem dX2_readRow_14 : decode cX2_readRow 14 = .ok (.if_icmp .ge 69, 3) := dk_162 0 69 (dk_at dksX2_readRow_0 14 rfl rfl)
theorem dX2_readRow_17 : decode cX2_readRow 17 = .ok (.aload_n 0, 1) := dk_42 (dk_at dksX2_readRow_0 17 rfl rfl)
theorem dX2_readRow_18 : decode cX2_readRow 18 = .ok (.iload_n 2, 1) := dk_28 (dk_at dksX2_readRow_0 18 rfl rfl)
theorem dX2_readRow_19 : decode cX2_readRow 19 = .ok (.iload 4, 2) := dk_21 4 (dk_at dksX2_readRow_0 19 rfl rfl)
theorem dX2_readRow_21 : decode cX2_readRow 21 = .ok (.bipush 8, 2) := dk_16 8 (dk_at dksX2_readRow_0 21 rfl rfl)
theorem dX2_readRow_23 : decode cX2_readRow 23 = .ok (.idiv, 1) := dk_108 (dk_at dksX2_readRow_0 23 rfl rfl)
theorem dX2_readRow_24 : decode cX2_readRow 24 = .ok (.iadd, 1) := dk_96 (dk_at dksX2_readRow_1 0 rfl rfl)
theorem dX2_readRow_25 : decode cX2_readRow 25 = .ok (.invokevirtual 66, 3) := dk_182 0 66 (dk_at dksX2_readRow_1 1 rfl rfl)
theorem dX2_readRow_28 : decode cX2_readRow 28 = .ok (.bipush 7, 2) := dk_16 7 (dk_at dksX2_readRow_1 4 rfl rfl)
theorem dX2_readRow_30 : decode cX2_readRow 30 = .ok (.iload 4, 2) := dk_21 4 (dk_at dksX2_readRow_1 6 rfl rfl)
theorem dX2_readRow_32 : decode cX2_readRow 32 = .ok (.bipush 8, 2) := dk_16 8 (dk_at dksX2_readRow_1 8 rfl rfl)
theorem dX2_readRow_34 : decode cX2_readRow 34 = .ok (.irem, 1) := dk_112 (dk_at dksX2_readRow_1 10 rfl rfl)
theorem dX2_readRow_35 : decode cX2_readRow 35 = .ok (.isub, 1) := dk_100 (dk_at dksX2_readRow_1 11 rfl rfl)
theorem dX2_readRow_36 : decode cX2_readRow 36 = .ok (.ishr, 1) := dk_122 (dk_at dksX2_readRow_1 12 rfl rfl)
theorem dX2_readRow_37 : decode cX2_readRow 37 = .ok (.iconst 1, 1) := dk_4 (dk_at dksX2_readRow_1 13 rfl rfl)
theorem dX2_readRow_38 : decode cX2_readRow 38 = .ok (.iand, 1) := dk_126 (dk_at dksX2_readRow_1 14 rfl rfl)
theorem dX2_readRow_39 : decode cX2_readRow 39 = .ok (.istore 5, 2) := dk_54 5 (dk_at dksX2_readRow_1 15 rfl rfl)
theorem dX2_readRow_41 : decode cX2_readRow 41 = .ok (.iload 5, 2) := dk_21 5 (dk_at dksX2_readRow_1 17 rfl rfl)
theorem dX2_readRow_43 : decode cX2_readRow 43 = .ok (.ifCond .eq 12, 3) := dk_153 0 12 (dk_at dksX2_readRow_1 19 rfl rfl)
theorem dX2_readRow_46 : decode cX2_readRow 46 = .ok (.iload 4, 2) := dk_21 4 (dk_at dksX2_readRow_1 22 rfl rfl)
theorem dX2_readRow_48 : decode cX2_readRow 48 = .ok (.aload_n 1, 1) := dk_43 (dk_at dksX2_readRow_2 0 rfl rfl)
theorem dX2_readRow_49 : decode cX2_readRow 49 = .ok (.invokevirtual 274, 3) := dk_182 1 18 (dk_at dksX2_readRow_2 1 rfl rfl)
theorem dX2_readRow_52 : decode cX2_readRow 52 = .ok (.if_icmp .ge 7, 3) := dk_162 0 7 (dk_at dksX2_readRow_2 4 rfl rfl)
theorem dX2_readRow_55 : decode cX2_readRow 55 = .ok (.iconst 1, 1) := dk_4 (dk_at dksX2_readRow_2 7 rfl rfl)
theorem dX2_readRow_56 : decode cX2_readRow 56 = .ok (.goto 4, 3) := dk_167 0 4 (dk_at dksX2_readRow_2 8 rfl rfl)
theorem dX2_readRow_59 : decode cX2_readRow 59 = .ok (.iconst 0, 1) := dk_3 (dk_at dksX2_readRow_2 11 rfl rfl)
theorem dX2_readRow_60 : decode cX2_readRow 60 = .ok (.bipush 8, 2) := dk_16 8 (dk_at dksX2_readRow_2 12 rfl rfl)
theorem dX2_readRow_62 : decode cX2_readRow 62 = .ok (.aload_n 1, 1) := dk_43 (dk_at dksX2_readRow_2 14 rfl rfl)
theorem dX2_readRow_63 : decode cX2_readRow 63 = .ok (.getfield 175, 3) := dk_180 0 175 (dk_at dksX2_readRow_2 15 rfl rfl)
theorem dX2_readRow_66 : decode cX2_readRow 66 = .ok (.invokestatic 70, 3) := dk_184 0 70 (dk_at dksX2_readRow_2 18 rfl rfl)
theorem dX2_readRow_69 : decode cX2_readRow 69 = .ok (.iload_n 3, 1) := dk_29 (dk_at dksX2_readRow_2 21 rfl rfl)
theorem dX2_readRow_70 : decode cX2_readRow 70 = .ok (.iload 5, 2) := dk_21 5 (dk_at dksX2_readRow_2 22 rfl rfl)
theorem dX2_readRow_72 : decode cX2_readRow 72 = .ok (.iload 4, 2) := dk_21 4 (dk_at dksX2_readRow_3 0 rfl rfl)
theorem dX2_readRow_74 : decode cX2_readRow 74 = .ok (.ishl, 1) := dk_120 (dk_at dksX2_readRow_3 2 rfl rfl)
theorem dX2_readRow_75 : decode cX2_readRow 75 = .ok (.ior, 1) := dk_128 (dk_at dksX2_readRow_3 3 rfl rfl)
theorem dX2_readRow_76 : decode cX2_readRow 76 = .ok (.istore_n 3, 1) := dk_62 (dk_at dksX2_readRow_3 4 rfl rfl)
theorem dX2_readRow_77 : decode cX2_readRow 77 = .ok (.iinc 4 1, 3) := dk_132 4 1 (dk_at dksX2_readRow_3 5 rfl rfl)
theorem dX2_readRow_80 : decode cX2_readRow 80 = .ok (.goto (-75), 3) := dk_167 255 181 (dk_at dksX2_readRow_3 8 rfl rfl)
theorem dX2_readRow_83 : decode cX2_readRow 83 = .ok (.iload_n 3, 1) := dk_29 (dk_at dksX2_readRow_3 11 rfl rfl)
theorem dX2_readRow_84 : decode cX2_readRow 84 = .ok (.ireturn, 1) := dk_172 (dk_at dksX2_readRow_3 12 rfl rfl)
abbrev cX2_readSheet : ByteArray := prog_3_method_16_code
def yX2_readSheet : MethodName := ⟨RX2, "readSheet", "(LBilevelPages$Segment;)V"⟩
def dkwX2_readSheet_6 : List UInt8 := [180, 0, 189, 181, 0, 26, 42, 89, 180, 0, 29, 4, 96, 181, 0, 29, 177]
abbrev dktX2_readSheet_6 : List UInt8 := dkwX2_readSheet_6 ++ []
def dkwX2_readSheet_5 : List UInt8 := [182, 0, 253, 79, 42, 180, 0, 3, 180, 0, 57, 43, 180, 0, 189, 50, 43, 182, 1, 1, 42, 43]
abbrev dktX2_readSheet_5 : List UInt8 := dkwX2_readSheet_5 ++ dktX2_readSheet_6
def dkwX2_readSheet_4 : List UInt8 := [182, 0, 253, 79, 43, 180, 0, 250, 6, 42, 43, 6, 42, 42, 180, 0, 19, 16, 9, 96, 182, 0, 66, 133]
abbrev dktX2_readSheet_4 : List UInt8 := dkwX2_readSheet_4 ++ dktX2_readSheet_5
def dkwX2_readSheet_3 : List UInt8 := [182, 0, 253, 79, 43, 180, 0, 250, 5, 42, 43, 5, 42, 42, 180, 0, 19, 16, 8, 96, 182, 0, 66, 133]
abbrev dktX2_readSheet_3 : List UInt8 := dkwX2_readSheet_3 ++ dktX2_readSheet_4
def dkwX2_readSheet_2 : List UInt8 := [184, 0, 70, 43, 180, 0, 250, 4, 32, 20, 0, 223, 148, 154, 0, 7, 3, 167, 0, 10, 42, 43, 4, 32]
abbrev dktX2_readSheet_2 : List UInt8 := dkwX2_readSheet_2 ++ dktX2_readSheet_3
def dkwX2_readSheet_1 : List UInt8 := [182, 0, 134, 182, 0, 253, 79, 32, 9, 148, 153, 0, 7, 4, 167, 0, 4, 3, 16, 8, 43, 180, 0, 175]
abbrev dktX2_readSheet_1 : List UInt8 := dkwX2_readSheet_1 ++ dktX2_readSheet_2
def dkwX2_readSheet_0 : List UInt8 := [42, 42, 180, 0, 19, 7, 96, 182, 0, 134, 65, 43, 180, 0, 250, 3, 42, 43, 3, 42, 42, 180, 0, 19]
abbrev dktX2_readSheet_0 : List UInt8 := dkwX2_readSheet_0 ++ dktX2_readSheet_1
theorem dksX2_readSheet_0 : cX2_readSheet.data.toList.drop 0 = dktX2_readSheet_0 := by decide +kernel
theorem dksX2_readSheet_1 : cX2_readSheet.data.toList.drop 24 = dktX2_readSheet_1 := dk_seg dksX2_readSheet_0 24 rfl rfl
theorem dksX2_readSheet_2 : cX2_readSheet.data.toList.drop 48 = dktX2_readSheet_2 := dk_seg dksX2_readSheet_1 24 rfl rfl
theorem dksX2_readSheet_3 : cX2_readSheet.data.toList.drop 72 = dktX2_readSheet_3 := dk_seg dksX2_readSheet_2 24 rfl rfl
theorem dksX2_readSheet_4 : cX2_readSheet.data.toList.drop 96 = dktX2_readSheet_4 := dk_seg dksX2_readSheet_3 24 rfl rfl
theorem dksX2_readSheet_5 : cX2_readSheet.data.toList.drop 120 = dktX2_readSheet_5 := dk_seg dksX2_readSheet_4 24 rfl rfl
theorem dksX2_readSheet_6 : cX2_readSheet.data.toList.drop 142 = dktX2_readSheet_6 := dk_seg dksX2_readSheet_5 22 rfl rfl
theorem dX2_readSheet_0 : decode cX2_readSheet 0 = .ok (.aload_n 0, 1) := dk_42 (dk_at dksX2_readSheet_0 0 rfl rfl)
theorem dX2_readSheet_1 : decode cX2_readSheet 1 = .ok (.aload_n 0, 1) := dk_42 (dk_at dksX2_readSheet_0 1 rfl rfl)
theorem dX2_readSheet_2 : decode cX2_readSheet 2 = .ok (.getfield 19, 3) := dk_180 0 19 (dk_at dksX2_readSheet_0 2 rfl rfl)
theorem dX2_readSheet_5 : decode cX2_readSheet 5 = .ok (.iconst 4, 1) := dk_7 (dk_at dksX2_readSheet_0 5 rfl rfl)
theorem dX2_readSheet_6 : decode cX2_readSheet 6 = .ok (.iadd, 1) := dk_96 (dk_at dksX2_readSheet_0 6 rfl rfl)
theorem dX2_readSheet_7 : decode cX2_readSheet 7 = .ok (.invokevirtual 134, 3) := dk_182 0 134 (dk_at dksX2_readSheet_0 7 rfl rfl)
theorem dX2_readSheet_10 : decode cX2_readSheet 10 = .ok (.lstore_n 2, 1) := dk_65 (dk_at dksX2_readSheet_0 10 rfl rfl)
theorem dX2_readSheet_11 : decode cX2_readSheet 11 = .ok (.aload_n 1, 1) := dk_43 (dk_at dksX2_readSheet_0 11 rfl rfl)
theorem dX2_readSheet_12 : decode cX2_readSheet 12 = .ok (.getfield 250, 3) := dk_180 0 250 (dk_at dksX2_readSheet_0 12 rfl rfl)
theorem dX2_readSheet_15 : decode cX2_readSheet 15 = .ok (.iconst 0, 1) := dk_3 (dk_at dksX2_readSheet_0 15 rfl rfl)
theorem dX2_readSheet_16 : decode cX2_readSheet 16 = .ok (.aload_n 0, 1) := dk_42 (dk_at dksX2_readSheet_0 16 rfl rfl)
theorem dX2_readSheet_17 : decode cX2_readSheet 17 = .ok (.aload_n 1, 1) := dk_43 (dk_at dksX2_readSheet_0 17 rfl rfl)
theorem dX2_readSheet_18 : decode cX2_readSheet 18 = .ok (.iconst 0, 1) := dk_3 (dk_at dksX2_readSheet_0 18 rfl rfl)
theorem dX2_readSheet_19 : decode cX2_readSheet 19 = .ok (.aload_n 0, 1) := dk_42 (dk_at dksX2_readSheet_0 19 rfl rfl)
theorem dX2_readSheet_20 : decode cX2_readSheet 20 = .ok (.aload_n 0, 1) := dk_42 (dk_at dksX2_readSheet_0 20 rfl rfl)
theorem dX2_readSheet_21 : decode cX2_readSheet 21 = .ok (.getfield 19, 3) := dk_180 0 19 (dk_at dksX2_readSheet_0 21 rfl rfl)
theorem dX2_readSheet_24 : decode cX2_readSheet 24 = .ok (.invokevirtual 134, 3) := dk_182 0 134 (dk_at dksX2_readSheet_1 0 rfl rfl)
theorem dX2_readSheet_27 : decode cX2_readSheet 27 = .ok (.invokevirtual 253, 3) := dk_182 0 253 (dk_at dksX2_readSheet_1 3 rfl rfl)
theorem dX2_readSheet_30 : decode cX2_readSheet 30 = .ok (.iastore, 1) := dk_79 (dk_at dksX2_readSheet_1 6 rfl rfl)
theorem dX2_readSheet_31 : decode cX2_readSheet 31 = .ok (.lload_n 2, 1) := dk_32 (dk_at dksX2_readSheet_1 7 rfl rfl)
theorem dX2_readSheet_32 : decode cX2_readSheet 32 = .ok (.lconst 0, 1) := dk_9 (dk_at dksX2_readSheet_1 8 rfl rfl)
theorem dX2_readSheet_33 : decode cX2_readSheet 33 = .ok (.lcmp, 1) := dk_148 (dk_at dksX2_readSheet_1 9 rfl rfl)
theorem dX2_readSheet_34 : decode cX2_readSheet 34 = .ok (.ifCond .eq 7, 3) := dk_153 0 7 (dk_at dksX2_readSheet_1 10 rfl rfl)
theorem dX2_readSheet_37 : decode cX2_readSheet 37 = .ok (.iconst 1, 1) := dk_4 (dk_at dksX2_readSheet_1 13 rfl rfl)
theorem dX2_readSheet_38 : decode cX2_readSheet 38 = .ok (.goto 4, 3) := dk_167 0 4 (dk_at dksX2_readSheet_1 14 rfl rfl)
theorem dX2_readSheet_41 : decode cX2_readSheet 41 = .ok (.iconst 0, 1) := dk_3 (dk_at dksX2_readSheet_1 17 rfl rfl)
theorem dX2_readSheet_42 : decode cX2_readSheet 42 = .ok (.bipush 8, 2) := dk_16 8 (dk_at dksX2_readSheet_1 18 rfl rfl)
theorem dX2_readSheet_44 : decode cX2_readSheet 44 = .ok (.aload_n 1, 1) := dk_43 (dk_at dksX2_readSheet_1 20 rfl rfl)
theorem dX2_readSheet_45 : decode cX2_readSheet 45 = .ok (.getfield 175, 3) := dk_180 0 175 (dk_at dksX2_readSheet_1 21 rfl rfl)
theorem dX2_readSheet_48 : decode cX2_readSheet 48 = .ok (.invokestatic 70, 3) := dk_184 0 70 (dk_at dksX2_readSheet_2 0 rfl rfl)
theorem dX2_readSheet_51 : decode cX2_readSheet 51 = .ok (.aload_n 1, 1) := dk_43 (dk_at dksX2_readSheet_2 3 rfl rfl)
theorem dX2_readSheet_52 : decode cX2_readSheet 52 = .ok (.getfield 250, 3) := dk_180 0 250 (dk_at dksX2_readSheet_2 4 rfl rfl)
theorem dX2_readSheet_55 : decode cX2_readSheet 55 = .ok (.iconst 1, 1) := dk_4 (dk_at dksX2_readSheet_2 7 rfl rfl)
theorem dX2_readSheet_56 : decode cX2_readSheet 56 = .ok (.lload_n 2, 1) := dk_32 (dk_at dksX2_readSheet_2 8 rfl rfl)
theorem dX2_readSheet_57 : decode cX2_readSheet 57 = .ok (.ldc2_w 223, 3) := dk_20 0 223 (dk_at dksX2_readSheet_2 9 rfl rfl)
theorem dX2_readSheet_60 : decode cX2_readSheet 60 = .ok (.lcmp, 1) := dk_148 (dk_at dksX2_readSheet_2 12 rfl rfl)
theorem dX2_readSheet_61 : decode cX2_readSheet 61 = .ok (.ifCond .ne 7, 3) := dk_154 0 7 (dk_at dksX2_readSheet_2 13 rfl rfl)
theorem dX2_readSheet_64 : decode cX2_readSheet 64 = .ok (.iconst 0, 1) := dk_3 (dk_at dksX2_readSheet_2 16 rfl rfl)
theorem dX2_readSheet_65 : decode cX2_readSheet 65 = .ok (.goto 10, 3) := dk_167 0 10 (dk_at dksX2_readSheet_2 17 rfl rfl)
theorem dX2_readSheet_68 : decode cX2_readSheet 68 = .ok (.aload_n 0, 1) := dk_42 (dk_at dksX2_readSheet_2 20 rfl rfl)
theorem dX2_readSheet_69 : decode cX2_readSheet 69 = .ok (.aload_n 1, 1) := dk_43 (dk_at dksX2_readSheet_2 21 rfl rfl)
theorem dX2_readSheet_70 : decode cX2_readSheet 70 = .ok (.iconst 1, 1) := dk_4 (dk_at dksX2_readSheet_2 22 rfl rfl)
theorem dX2_readSheet_71 : decode cX2_readSheet 71 = .ok (.lload_n 2, 1) := dk_32 (dk_at dksX2_readSheet_2 23 rfl rfl)
theorem dX2_readSheet_72 : decode cX2_readSheet 72 = .ok (.invokevirtual 253, 3) := dk_182 0 253 (dk_at dksX2_readSheet_3 0 rfl rfl)
theorem dX2_readSheet_75 : decode cX2_readSheet 75 = .ok (.iastore, 1) := dk_79 (dk_at dksX2_readSheet_3 3 rfl rfl)
theorem dX2_readSheet_76 : decode cX2_readSheet 76 = .ok (.aload_n 1, 1) := dk_43 (dk_at dksX2_readSheet_3 4 rfl rfl)
theorem dX2_readSheet_77 : decode cX2_readSheet 77 = .ok (.getfield 250, 3) := dk_180 0 250 (dk_at dksX2_readSheet_3 5 rfl rfl)
theorem dX2_readSheet_80 : decode cX2_readSheet 80 = .ok (.iconst 2, 1) := dk_5 (dk_at dksX2_readSheet_3 8 rfl rfl)
theorem dX2_readSheet_81 : decode cX2_readSheet 81 = .ok (.aload_n 0, 1) := dk_42 (dk_at dksX2_readSheet_3 9 rfl rfl)
theorem dX2_readSheet_82 : decode cX2_readSheet 82 = .ok (.aload_n 1, 1) := dk_43 (dk_at dksX2_readSheet_3 10 rfl rfl)
theorem dX2_readSheet_83 : decode cX2_readSheet 83 = .ok (.iconst 2, 1) := dk_5 (dk_at dksX2_readSheet_3 11 rfl rfl)
theorem dX2_readSheet_84 : decode cX2_readSheet 84 = .ok (.aload_n 0, 1) := dk_42 (dk_at dksX2_readSheet_3 12 rfl rfl)
theorem dX2_readSheet_85 : decode cX2_readSheet 85 = .ok (.aload_n 0, 1) := dk_42 (dk_at dksX2_readSheet_3 13 rfl rfl)
theorem dX2_readSheet_86 : decode cX2_readSheet 86 = .ok (.getfield 19, 3) := dk_180 0 19 (dk_at dksX2_readSheet_3 14 rfl rfl)
theorem dX2_readSheet_89 : decode cX2_readSheet 89 = .ok (.bipush 8, 2) := dk_16 8 (dk_at dksX2_readSheet_3 17 rfl rfl)
theorem dX2_readSheet_91 : decode cX2_readSheet 91 = .ok (.iadd, 1) := dk_96 (dk_at dksX2_readSheet_3 19 rfl rfl)
theorem dX2_readSheet_92 : decode cX2_readSheet 92 = .ok (.invokevirtual 66, 3) := dk_182 0 66 (dk_at dksX2_readSheet_3 20 rfl rfl)
theorem dX2_readSheet_95 : decode cX2_readSheet 95 = .ok (.i2l, 1) := dk_133 (dk_at dksX2_readSheet_3 23 rfl rfl)
theorem dX2_readSheet_96 : decode cX2_readSheet 96 = .ok (.invokevirtual 253, 3) := dk_182 0 253 (dk_at dksX2_readSheet_4 0 rfl rfl)
theorem dX2_readSheet_99 : decode cX2_readSheet 99 = .ok (.iastore, 1) := dk_79 (dk_at dksX2_readSheet_4 3 rfl rfl)
theorem dX2_readSheet_100 : decode cX2_readSheet 100 = .ok (.aload_n 1, 1) := dk_43 (dk_at dksX2_readSheet_4 4 rfl rfl)
theorem dX2_readSheet_101 : decode cX2_readSheet 101 = .ok (.getfield 250, 3) := dk_180 0 250 (dk_at dksX2_readSheet_4 5 rfl rfl)
theorem dX2_readSheet_104 : decode cX2_readSheet 104 = .ok (.iconst 3, 1) := dk_6 (dk_at dksX2_readSheet_4 8 rfl rfl)
theorem dX2_readSheet_105 : decode cX2_readSheet 105 = .ok (.aload_n 0, 1) := dk_42 (dk_at dksX2_readSheet_4 9 rfl rfl)
theorem dX2_readSheet_106 : decode cX2_readSheet 106 = .ok (.aload_n 1, 1) := dk_43 (dk_at dksX2_readSheet_4 10 rfl rfl)
theorem dX2_readSheet_107 : decode cX2_readSheet 107 = .ok (.iconst 3, 1) := dk_6 (dk_at dksX2_readSheet_4 11 rfl rfl)
theorem dX2_readSheet_108 : decode cX2_readSheet 108 = .ok (.aload_n 0, 1) := dk_42 (dk_at dksX2_readSheet_4 12 rfl rfl)
theorem dX2_readSheet_109 : decode cX2_readSheet 109 = .ok (.aload_n 0, 1) := dk_42 (dk_at dksX2_readSheet_4 13 rfl rfl)
theorem dX2_readSheet_110 : decode cX2_readSheet 110 = .ok (.getfield 19, 3) := dk_180 0 19 (dk_at dksX2_readSheet_4 14 rfl rfl)
theorem dX2_readSheet_113 : decode cX2_readSheet 113 = .ok (.bipush 9, 2) := dk_16 9 (dk_at dksX2_readSheet_4 17 rfl rfl)
theorem dX2_readSheet_115 : decode cX2_readSheet 115 = .ok (.iadd, 1) := dk_96 (dk_at dksX2_readSheet_4 19 rfl rfl)
theorem dX2_readSheet_116 : decode cX2_readSheet 116 = .ok (.invokevirtual 66, 3) := dk_182 0 66 (dk_at dksX2_readSheet_4 20 rfl rfl)
theorem dX2_readSheet_119 : decode cX2_readSheet 119 = .ok (.i2l, 1) := dk_133 (dk_at dksX2_readSheet_4 23 rfl rfl)
theorem dX2_readSheet_120 : decode cX2_readSheet 120 = .ok (.invokevirtual 253, 3) := dk_182 0 253 (dk_at dksX2_readSheet_5 0 rfl rfl)
theorem dX2_readSheet_123 : decode cX2_readSheet 123 = .ok (.iastore, 1) := dk_79 (dk_at dksX2_readSheet_5 3 rfl rfl)
theorem dX2_readSheet_124 : decode cX2_readSheet 124 = .ok (.aload_n 0, 1) := dk_42 (dk_at dksX2_readSheet_5 4 rfl rfl)
theorem dX2_readSheet_125 : decode cX2_readSheet 125 = .ok (.getfield 3, 3) := dk_180 0 3 (dk_at dksX2_readSheet_5 5 rfl rfl)
theorem dX2_readSheet_128 : decode cX2_readSheet 128 = .ok (.getfield 57, 3) := dk_180 0 57 (dk_at dksX2_readSheet_5 8 rfl rfl)
theorem dX2_readSheet_131 : decode cX2_readSheet 131 = .ok (.aload_n 1, 1) := dk_43 (dk_at dksX2_readSheet_5 11 rfl rfl)
theorem dX2_readSheet_132 : decode cX2_readSheet 132 = .ok (.getfield 189, 3) := dk_180 0 189 (dk_at dksX2_readSheet_5 12 rfl rfl)
theorem dX2_readSheet_135 : decode cX2_readSheet 135 = .ok (.aaload, 1) := dk_50 (dk_at dksX2_readSheet_5 15 rfl rfl)
theorem dX2_readSheet_136 : decode cX2_readSheet 136 = .ok (.aload_n 1, 1) := dk_43 (dk_at dksX2_readSheet_5 16 rfl rfl)
theorem dX2_readSheet_137 : decode cX2_readSheet 137 = .ok (.invokevirtual 257, 3) := dk_182 1 1 (dk_at dksX2_readSheet_5 17 rfl rfl)
theorem dX2_readSheet_140 : decode cX2_readSheet 140 = .ok (.aload_n 0, 1) := dk_42 (dk_at dksX2_readSheet_5 20 rfl rfl)
theorem dX2_readSheet_141 : decode cX2_readSheet 141 = .ok (.aload_n 1, 1) := dk_43 (dk_at dksX2_readSheet_5 21 rfl rfl)
theorem dX2_readSheet_142 : decode cX2_readSheet 142 = .ok (.getfield 189, 3) := dk_180 0 189 (dk_at dksX2_readSheet_6 0 rfl rfl)
theorem dX2_readSheet_145 : decode cX2_readSheet 145 = .ok (.putfield 26, 3) := dk_181 0 26 (dk_at dksX2_readSheet_6 3 rfl rfl)
theorem dX2_readSheet_148 : decode cX2_readSheet 148 = .ok (.aload_n 0, 1) := dk_42 (dk_at dksX2_readSheet_6 6 rfl rfl)
theorem dX2_readSheet_149 : decode cX2_readSheet 149 = .ok (.dup, 1) := dk_89 (dk_at dksX2_readSheet_6 7 rfl rfl)
theorem dX2_readSheet_150 : decode cX2_readSheet 150 = .ok (.getfield 29, 3) := dk_180 0 29 (dk_at dksX2_readSheet_6 8 rfl rfl)
theorem dX2_readSheet_153 : decode cX2_readSheet 153 = .ok (.iconst 1, 1) := dk_4 (dk_at dksX2_readSheet_6 11 rfl rfl)
theorem dX2_readSheet_154 : decode cX2_readSheet 154 = .ok (.iadd, 1) := dk_96 (dk_at dksX2_readSheet_6 12 rfl rfl)
theorem dX2_readSheet_155 : decode cX2_readSheet 155 = .ok (.putfield 29, 3) := dk_181 0 29 (dk_at dksX2_readSheet_6 13 rfl rfl)
theorem dX2_readSheet_158 : decode cX2_readSheet 158 = .ok (.return_, 1) := dk_177 (dk_at dksX2_readSheet_6 16 rfl rfl)
abbrev cX2_readStripe : ByteArray := prog_3_method_17_code
def yX2_readStripe : MethodName := ⟨RX2, "readStripe", "(LBilevelPages$Segment;)V"⟩
def dkwX2_readStripe_3 : List UInt8 := [180, 1, 12, 90, 4, 96, 181, 1, 12, 29, 79, 177]
abbrev dktX2_readStripe_3 : List UInt8 := dkwX2_readStripe_3 ++ []
def dkwX2_readStripe_2 : List UInt8 := [164, 0, 7, 4, 167, 0, 4, 3, 16, 8, 43, 180, 0, 175, 184, 0, 70, 44, 180, 1, 9, 44, 89]
abbrev dktX2_readStripe_2 : List UInt8 := dkwX2_readStripe_2 ++ dktX2_readStripe_3
def dkwX2_readStripe_1 : List UInt8 := [182, 0, 253, 62, 44, 180, 1, 3, 153, 0, 11, 29, 44, 180, 1, 3, 162, 0, 15, 29, 44, 182, 1, 6]
abbrev dktX2_readStripe_1 : List UInt8 := dkwX2_readStripe_1 ++ dktX2_readStripe_2
def dkwX2_readStripe_0 : List UInt8 := [42, 180, 0, 3, 180, 0, 57, 42, 180, 0, 26, 50, 77, 42, 43, 3, 42, 42, 180, 0, 19, 182, 0, 134]
abbrev dktX2_readStripe_0 : List UInt8 := dkwX2_readStripe_0 ++ dktX2_readStripe_1
theorem dksX2_readStripe_0 : cX2_readStripe.data.toList.drop 0 = dktX2_readStripe_0 := by decide +kernel
theorem dksX2_readStripe_1 : cX2_readStripe.data.toList.drop 24 = dktX2_readStripe_1 := dk_seg dksX2_readStripe_0 24 rfl rfl
theorem dksX2_readStripe_2 : cX2_readStripe.data.toList.drop 48 = dktX2_readStripe_2 := dk_seg dksX2_readStripe_1 24 rfl rfl
theorem dksX2_readStripe_3 : cX2_readStripe.data.toList.drop 71 = dktX2_readStripe_3 := dk_seg dksX2_readStripe_2 23 rfl rfl
theorem dX2_readStripe_0 : decode cX2_readStripe 0 = .ok (.aload_n 0, 1) := dk_42 (dk_at dksX2_readStripe_0 0 rfl rfl)
theorem dX2_readStripe_1 : decode cX2_readStripe 1 = .ok (.getfield 3, 3) := dk_180 0 3 (dk_at dksX2_readStripe_0 1 rfl rfl)
theorem dX2_readStripe_4 : decode cX2_readStripe 4 = .ok (.getfield 57, 3) := dk_180 0 57 (dk_at dksX2_readStripe_0 4 rfl rfl)
theorem dX2_readStripe_7 : decode cX2_readStripe 7 = .ok (.aload_n 0, 1) := dk_42 (dk_at dksX2_readStripe_0 7 rfl rfl)
theorem dX2_readStripe_8 : decode cX2_readStripe 8 = .ok (.getfield 26, 3) := dk_180 0 26 (dk_at dksX2_readStripe_0 8 rfl rfl)
theorem dX2_readStripe_11 : decode cX2_readStripe 11 = .ok (.aaload, 1) := dk_50 (dk_at dksX2_readStripe_0 11 rfl rfl)
theorem dX2_readStripe_12 : decode cX2_readStripe 12 = .ok (.astore_n 2, 1) := dk_77 (dk_at dksX2_readStripe_0 12 rfl rfl)
theorem dX2_readStripe_13 : decode cX2_readStripe 13 = .ok (.aload_n 0, 1) := dk_42 (dk_at dksX2_readStripe_0 13 rfl rfl)
theorem dX2_readStripe_14 : decode cX2_readStripe 14 = .ok (.aload_n 1, 1) := dk_43 (dk_at dksX2_readStripe_0 14 rfl rfl)
theorem dX2_readStripe_15 : decode cX2_readStripe 15 = .ok (.iconst 0, 1) := dk_3 (dk_at dksX2_readStripe_0 15 rfl rfl)
theorem dX2_readStripe_16 : decode cX2_readStripe 16 = .ok (.aload_n 0, 1) := dk_42 (dk_at dksX2_readStripe_0 16 rfl rfl)
theorem dX2_readStripe_17 : decode cX2_readStripe 17 = .ok (.aload_n 0, 1) := dk_42 (dk_at dksX2_readStripe_0 17 rfl rfl)
theorem dX2_readStripe_18 : decode cX2_readStripe 18 = .ok (.getfield 19, 3) := dk_180 0 19 (dk_at dksX2_readStripe_0 18 rfl rfl)
theorem dX2_readStripe_21 : decode cX2_readStripe 21 = .ok (.invokevirtual 134, 3) := dk_182 0 134 (dk_at dksX2_readStripe_0 21 rfl rfl)
theorem dX2_readStripe_24 : decode cX2_readStripe 24 = .ok (.invokevirtual 253, 3) := dk_182 0 253 (dk_at dksX2_readStripe_1 0 rfl rfl)
theorem dX2_readStripe_27 : decode cX2_readStripe 27 = .ok (.istore_n 3, 1) := dk_62 (dk_at dksX2_readStripe_1 3 rfl rfl)
theorem dX2_readStripe_28 : decode cX2_readStripe 28 = .ok (.aload_n 2, 1) := dk_44 (dk_at dksX2_readStripe_1 4 rfl rfl)
theorem dX2_readStripe_29 : decode cX2_readStripe 29 = .ok (.getfield 259, 3) := dk_180 1 3 (dk_at dksX2_readStripe_1 5 rfl rfl)
theorem dX2_readStripe_32 : decode cX2_readStripe 32 = .ok (.ifCond .eq 11, 3) := dk_153 0 11 (dk_at dksX2_readStripe_1 8 rfl rfl)
theorem dX2_readStripe_35 : decode cX2_readStripe 35 = .ok (.iload_n 3, 1) := dk_29 (dk_at dksX2_readStripe_1 11 rfl rfl)
theorem dX2_readStripe_36 : decode cX2_readStripe 36 = .ok (.aload_n 2, 1) := dk_44 (dk_at dksX2_readStripe_1 12 rfl rfl)
theorem dX2_readStripe_37 : decode cX2_readStripe 37 = .ok (.getfield 259, 3) := dk_180 1 3 (dk_at dksX2_readStripe_1 13 rfl rfl)
theorem dX2_readStripe_40 : decode cX2_readStripe 40 = .ok (.if_icmp .ge 15, 3) := dk_162 0 15 (dk_at dksX2_readStripe_1 16 rfl rfl)
theorem dX2_readStripe_43 : decode cX2_readStripe 43 = .ok (.iload_n 3, 1) := dk_29 (dk_at dksX2_readStripe_1 19 rfl rfl)
theorem dX2_readStripe_44 : decode cX2_readStripe 44 = .ok (.aload_n 2, 1) := dk_44 (dk_at dksX2_readStripe_1 20 rfl rfl)
theorem dX2_readStripe_45 : decode cX2_readStripe 45 = .ok (.invokevirtual 262, 3) := dk_182 1 6 (dk_at dksX2_readStripe_1 21 rfl rfl)
theorem dX2_readStripe_48 : decode cX2_readStripe 48 = .ok (.if_icmp .le 7, 3) := dk_164 0 7 (dk_at dksX2_readStripe_2 0 rfl rfl)
theorem dX2_readStripe_51 : decode cX2_readStripe 51 = .ok (.iconst 1, 1) := dk_4 (dk_at dksX2_readStripe_2 3 rfl rfl)
theorem dX2_readStripe_52 : decode cX2_readStripe 52 = .ok (.goto 4, 3) := dk_167 0 4 (dk_at dksX2_readStripe_2 4 rfl rfl)
theorem dX2_readStripe_55 : decode cX2_readStripe 55 = .ok (.iconst 0, 1) := dk_3 (dk_at dksX2_readStripe_2 7 rfl rfl)
theorem dX2_readStripe_56 : decode cX2_readStripe 56 = .ok (.bipush 8, 2) := dk_16 8 (dk_at dksX2_readStripe_2 8 rfl rfl)
theorem dX2_readStripe_58 : decode cX2_readStripe 58 = .ok (.aload_n 1, 1) := dk_43 (dk_at dksX2_readStripe_2 10 rfl rfl)
theorem dX2_readStripe_59 : decode cX2_readStripe 59 = .ok (.getfield 175, 3) := dk_180 0 175 (dk_at dksX2_readStripe_2 11 rfl rfl)
theorem dX2_readStripe_62 : decode cX2_readStripe 62 = .ok (.invokestatic 70, 3) := dk_184 0 70 (dk_at dksX2_readStripe_2 14 rfl rfl)
theorem dX2_readStripe_65 : decode cX2_readStripe 65 = .ok (.aload_n 2, 1) := dk_44 (dk_at dksX2_readStripe_2 17 rfl rfl)
theorem dX2_readStripe_66 : decode cX2_readStripe 66 = .ok (.getfield 265, 3) := dk_180 1 9 (dk_at dksX2_readStripe_2 18 rfl rfl)
theorem dX2_readStripe_69 : decode cX2_readStripe 69 = .ok (.aload_n 2, 1) := dk_44 (dk_at dksX2_readStripe_2 21 rfl rfl)
theorem dX2_readStripe_70 : decode cX2_readStripe 70 = .ok (.dup, 1) := dk_89 (dk_at dksX2_readStripe_2 22 rfl rfl)
theorem dX2_readStripe_71 : decode cX2_readStripe 71 = .ok (.getfield 268, 3) := dk_180 1 12 (dk_at dksX2_readStripe_3 0 rfl rfl)
theorem dX2_readStripe_74 : decode cX2_readStripe 74 = .ok (.dup_x1, 1) := dk_90 (dk_at dksX2_readStripe_3 3 rfl rfl)
theorem dX2_readStripe_75 : decode cX2_readStripe 75 = .ok (.iconst 1, 1) := dk_4 (dk_at dksX2_readStripe_3 4 rfl rfl)
theorem dX2_readStripe_76 : decode cX2_readStripe 76 = .ok (.iadd, 1) := dk_96 (dk_at dksX2_readStripe_3 5 rfl rfl)
theorem dX2_readStripe_77 : decode cX2_readStripe 77 = .ok (.putfield 268, 3) := dk_181 1 12 (dk_at dksX2_readStripe_3 6 rfl rfl)
theorem dX2_readStripe_80 : decode cX2_readStripe 80 = .ok (.iload_n 3, 1) := dk_29 (dk_at dksX2_readStripe_3 9 rfl rfl)
theorem dX2_readStripe_81 : decode cX2_readStripe 81 = .ok (.iastore, 1) := dk_79 (dk_at dksX2_readStripe_3 10 rfl rfl)
theorem dX2_readStripe_82 : decode cX2_readStripe 82 = .ok (.return_, 1) := dk_177 (dk_at dksX2_readStripe_3 11 rfl rfl)
abbrev cX2_endSheet : ByteArray := prog_3_method_18_code
def yX2_endSheet : MethodName := ⟨RX2, "endSheet", "(LBilevelPages$Segment;)V"⟩
def dkwX2_endSheet_3 : List UInt8 := [177]
abbrev dktX2_endSheet_3 : List UInt8 := dkwX2_endSheet_3 ++ []
def dkwX2_endSheet_2 : List UInt8 := [154, 0, 12, 44, 182, 1, 6, 4, 96, 167, 0, 7, 44, 180, 1, 3, 181, 1, 3, 42, 2, 181, 0, 26]
abbrev dktX2_endSheet_2 : List UInt8 := dkwX2_endSheet_2 ++ dktX2_endSheet_3
def dkwX2_endSheet_1 : List UInt8 := [158, 0, 7, 4, 167, 0, 4, 3, 16, 8, 43, 180, 0, 175, 184, 0, 70, 44, 44, 180, 1, 3]
abbrev dktX2_endSheet_1 : List UInt8 := dkwX2_endSheet_1 ++ dktX2_endSheet_2
def dkwX2_endSheet_0 : List UInt8 := [42, 180, 0, 3, 180, 0, 57, 42, 180, 0, 26, 50, 77, 44, 180, 1, 3, 157, 0, 10, 44, 180, 1, 12]
abbrev dktX2_endSheet_0 : List UInt8 := dkwX2_endSheet_0 ++ dktX2_endSheet_1
theorem dksX2_endSheet_0 : cX2_endSheet.data.toList.drop 0 = dktX2_endSheet_0 := by decide +kernel
theorem dksX2_endSheet_1 : cX2_endSheet.data.toList.drop 24 = dktX2_endSheet_1 := dk_seg dksX2_endSheet_0 24 rfl rfl
theorem dksX2_endSheet_2 : cX2_endSheet.data.toList.drop 46 = dktX2_endSheet_2 := dk_seg dksX2_endSheet_1 22 rfl rfl
theorem dksX2_endSheet_3 : cX2_endSheet.data.toList.drop 70 = dktX2_endSheet_3 := dk_seg dksX2_endSheet_2 24 rfl rfl
theorem dX2_endSheet_0 : decode cX2_endSheet 0 = .ok (.aload_n 0, 1) := dk_42 (dk_at dksX2_endSheet_0 0 rfl rfl)
theorem dX2_endSheet_1 : decode cX2_endSheet 1 = .ok (.getfield 3, 3) := dk_180 0 3 (dk_at dksX2_endSheet_0 1 rfl rfl)
theorem dX2_endSheet_4 : decode cX2_endSheet 4 = .ok (.getfield 57, 3) := dk_180 0 57 (dk_at dksX2_endSheet_0 4 rfl rfl)
theorem dX2_endSheet_7 : decode cX2_endSheet 7 = .ok (.aload_n 0, 1) := dk_42 (dk_at dksX2_endSheet_0 7 rfl rfl)
theorem dX2_endSheet_8 : decode cX2_endSheet 8 = .ok (.getfield 26, 3) := dk_180 0 26 (dk_at dksX2_endSheet_0 8 rfl rfl)
theorem dX2_endSheet_11 : decode cX2_endSheet 11 = .ok (.aaload, 1) := dk_50 (dk_at dksX2_endSheet_0 11 rfl rfl)
theorem dX2_endSheet_12 : decode cX2_endSheet 12 = .ok (.astore_n 2, 1) := dk_77 (dk_at dksX2_endSheet_0 12 rfl rfl)
theorem dX2_endSheet_13 : decode cX2_endSheet 13 = .ok (.aload_n 2, 1) := dk_44 (dk_at dksX2_endSheet_0 13 rfl rfl)
theorem dX2_endSheet_14 : decode cX2_endSheet 14 = .ok (.getfield 259, 3) := dk_180 1 3 (dk_at dksX2_endSheet_0 14 rfl rfl)
theorem dX2_endSheet_17 : decode cX2_endSheet 17 = .ok (.ifCond .gt 10, 3) := dk_157 0 10 (dk_at dksX2_endSheet_0 17 rfl rfl)
theorem dX2_endSheet_20 : decode cX2_endSheet 20 = .ok (.aload_n 2, 1) := dk_44 (dk_at dksX2_endSheet_0 20 rfl rfl)
theorem dX2_endSheet_21 : decode cX2_endSheet 21 = .ok (.getfield 268, 3) := dk_180 1 12 (dk_at dksX2_endSheet_0 21 rfl rfl)
theorem dX2_endSheet_24 : decode cX2_endSheet 24 = .ok (.ifCond .le 7, 3) := dk_158 0 7 (dk_at dksX2_endSheet_1 0 rfl rfl)
theorem dX2_endSheet_27 : decode cX2_endSheet 27 = .ok (.iconst 1, 1) := dk_4 (dk_at dksX2_endSheet_1 3 rfl rfl)
theorem dX2_endSheet_28 : decode cX2_endSheet 28 = .ok (.goto 4, 3) := dk_167 0 4 (dk_at dksX2_endSheet_1 4 rfl rfl)
theorem dX2_endSheet_31 : decode cX2_endSheet 31 = .ok (.iconst 0, 1) := dk_3 (dk_at dksX2_endSheet_1 7 rfl rfl)
theorem dX2_endSheet_32 : decode cX2_endSheet 32 = .ok (.bipush 8, 2) := dk_16 8 (dk_at dksX2_endSheet_1 8 rfl rfl)
theorem dX2_endSheet_34 : decode cX2_endSheet 34 = .ok (.aload_n 1, 1) := dk_43 (dk_at dksX2_endSheet_1 10 rfl rfl)
theorem dX2_endSheet_35 : decode cX2_endSheet 35 = .ok (.getfield 175, 3) := dk_180 0 175 (dk_at dksX2_endSheet_1 11 rfl rfl)
theorem dX2_endSheet_38 : decode cX2_endSheet 38 = .ok (.invokestatic 70, 3) := dk_184 0 70 (dk_at dksX2_endSheet_1 14 rfl rfl)
theorem dX2_endSheet_41 : decode cX2_endSheet 41 = .ok (.aload_n 2, 1) := dk_44 (dk_at dksX2_endSheet_1 17 rfl rfl)
theorem dX2_endSheet_42 : decode cX2_endSheet 42 = .ok (.aload_n 2, 1) := dk_44 (dk_at dksX2_endSheet_1 18 rfl rfl)
theorem dX2_endSheet_43 : decode cX2_endSheet 43 = .ok (.getfield 259, 3) := dk_180 1 3 (dk_at dksX2_endSheet_1 19 rfl rfl)
theorem dX2_endSheet_46 : decode cX2_endSheet 46 = .ok (.ifCond .ne 12, 3) := dk_154 0 12 (dk_at dksX2_endSheet_2 0 rfl rfl)
theorem dX2_endSheet_49 : decode cX2_endSheet 49 = .ok (.aload_n 2, 1) := dk_44 (dk_at dksX2_endSheet_2 3 rfl rfl)
theorem dX2_endSheet_50 : decode cX2_endSheet 50 = .ok (.invokevirtual 262, 3) := dk_182 1 6 (dk_at dksX2_endSheet_2 4 rfl rfl)
theorem dX2_endSheet_53 : decode cX2_endSheet 53 = .ok (.iconst 1, 1) := dk_4 (dk_at dksX2_endSheet_2 7 rfl rfl)
theorem dX2_endSheet_54 : decode cX2_endSheet 54 = .ok (.iadd, 1) := dk_96 (dk_at dksX2_endSheet_2 8 rfl rfl)
theorem dX2_endSheet_55 : decode cX2_endSheet 55 = .ok (.goto 7, 3) := dk_167 0 7 (dk_at dksX2_endSheet_2 9 rfl rfl)
theorem dX2_endSheet_58 : decode cX2_endSheet 58 = .ok (.aload_n 2, 1) := dk_44 (dk_at dksX2_endSheet_2 12 rfl rfl)
theorem dX2_endSheet_59 : decode cX2_endSheet 59 = .ok (.getfield 259, 3) := dk_180 1 3 (dk_at dksX2_endSheet_2 13 rfl rfl)
theorem dX2_endSheet_62 : decode cX2_endSheet 62 = .ok (.putfield 259, 3) := dk_181 1 3 (dk_at dksX2_endSheet_2 16 rfl rfl)
theorem dX2_endSheet_65 : decode cX2_endSheet 65 = .ok (.aload_n 0, 1) := dk_42 (dk_at dksX2_endSheet_2 19 rfl rfl)
theorem dX2_endSheet_66 : decode cX2_endSheet 66 = .ok (.iconst (-1), 1) := dk_2 (dk_at dksX2_endSheet_2 20 rfl rfl)
theorem dX2_endSheet_67 : decode cX2_endSheet 67 = .ok (.putfield 26, 3) := dk_181 0 26 (dk_at dksX2_endSheet_2 21 rfl rfl)
theorem dX2_endSheet_70 : decode cX2_endSheet 70 = .ok (.return_, 1) := dk_177 (dk_at dksX2_endSheet_3 0 rfl rfl)
abbrev cX2_letGo : ByteArray := prog_3_method_15_code
def yX2_letGo : MethodName := ⟨RX2, "letGo", "(LBilevelPages$Segment;I)V"⟩
def dkwX2_letGo_2 : List UInt8 := [43, 180, 0, 176, 181, 0, 183, 132, 3, 1, 167, 255, 201, 177]
abbrev dktX2_letGo_2 : List UInt8 := dkwX2_letGo_2 ++ []
def dkwX2_letGo_1 : List UInt8 := [154, 0, 7, 43, 167, 0, 16, 42, 43, 180, 0, 162, 29, 4, 100, 46, 28, 182, 0, 179, 58, 4, 25, 4]
abbrev dktX2_letGo_1 : List UInt8 := dkwX2_letGo_1 ++ dktX2_letGo_2
def dkwX2_letGo_0 : List UInt8 := [3, 62, 29, 43, 180, 0, 165, 163, 0, 53, 43, 180, 0, 168, 29, 122, 4, 126, 4, 160, 0, 35, 29]
abbrev dktX2_letGo_0 : List UInt8 := dkwX2_letGo_0 ++ dktX2_letGo_1
theorem dksX2_letGo_0 : cX2_letGo.data.toList.drop 0 = dktX2_letGo_0 := by decide +kernel
theorem dksX2_letGo_1 : cX2_letGo.data.toList.drop 23 = dktX2_letGo_1 := dk_seg dksX2_letGo_0 23 rfl rfl
theorem dksX2_letGo_2 : cX2_letGo.data.toList.drop 47 = dktX2_letGo_2 := dk_seg dksX2_letGo_1 24 rfl rfl
theorem dX2_letGo_0 : decode cX2_letGo 0 = .ok (.iconst 0, 1) := dk_3 (dk_at dksX2_letGo_0 0 rfl rfl)
theorem dX2_letGo_1 : decode cX2_letGo 1 = .ok (.istore_n 3, 1) := dk_62 (dk_at dksX2_letGo_0 1 rfl rfl)
theorem dX2_letGo_2 : decode cX2_letGo 2 = .ok (.iload_n 3, 1) := dk_29 (dk_at dksX2_letGo_0 2 rfl rfl)
theorem dX2_letGo_3 : decode cX2_letGo 3 = .ok (.aload_n 1, 1) := dk_43 (dk_at dksX2_letGo_0 3 rfl rfl)
theorem dX2_letGo_4 : decode cX2_letGo 4 = .ok (.getfield 165, 3) := dk_180 0 165 (dk_at dksX2_letGo_0 4 rfl rfl)
theorem dX2_letGo_7 : decode cX2_letGo 7 = .ok (.if_icmp .gt 53, 3) := dk_163 0 53 (dk_at dksX2_letGo_0 7 rfl rfl)
theorem dX2_letGo_10 : decode cX2_letGo 10 = .ok (.aload_n 1, 1) := dk_43 (dk_at dksX2_letGo_0 10 rfl rfl)
theorem dX2_letGo_11 : decode cX2_letGo 11 = .ok (.getfield 168, 3) := dk_180 0 168 (dk_at dksX2_letGo_0 11 rfl rfl)
theorem dX2_letGo_14 : decode cX2_letGo 14 = .ok (.iload_n 3, 1) := dk_29 (dk_at dksX2_letGo_0 14 rfl rfl)
theorem dX2_letGo_15 : decode cX2_letGo 15 = .ok (.ishr, 1) := dk_122 (dk_at dksX2_letGo_0 15 rfl rfl)
theorem dX2_letGo_16 : decode cX2_letGo 16 = .ok (.iconst 1, 1) := dk_4 (dk_at dksX2_letGo_0 16 rfl rfl)
theorem dX2_letGo_17 : decode cX2_letGo 17 = .ok (.iand, 1) := dk_126 (dk_at dksX2_letGo_0 17 rfl rfl)
theorem dX2_letGo_18 : decode cX2_letGo 18 = .ok (.iconst 1, 1) := dk_4 (dk_at dksX2_letGo_0 18 rfl rfl)
theorem dX2_letGo_19 : decode cX2_letGo 19 = .ok (.if_icmp .ne 35, 3) := dk_160 0 35 (dk_at dksX2_letGo_0 19 rfl rfl)
theorem dX2_letGo_22 : decode cX2_letGo 22 = .ok (.iload_n 3, 1) := dk_29 (dk_at dksX2_letGo_0 22 rfl rfl)
theorem dX2_letGo_23 : decode cX2_letGo 23 = .ok (.ifCond .ne 7, 3) := dk_154 0 7 (dk_at dksX2_letGo_1 0 rfl rfl)
theorem dX2_letGo_26 : decode cX2_letGo 26 = .ok (.aload_n 1, 1) := dk_43 (dk_at dksX2_letGo_1 3 rfl rfl)
theorem dX2_letGo_27 : decode cX2_letGo 27 = .ok (.goto 16, 3) := dk_167 0 16 (dk_at dksX2_letGo_1 4 rfl rfl)
theorem dX2_letGo_30 : decode cX2_letGo 30 = .ok (.aload_n 0, 1) := dk_42 (dk_at dksX2_letGo_1 7 rfl rfl)
theorem dX2_letGo_31 : decode cX2_letGo 31 = .ok (.aload_n 1, 1) := dk_43 (dk_at dksX2_letGo_1 8 rfl rfl)
theorem dX2_letGo_32 : decode cX2_letGo 32 = .ok (.getfield 162, 3) := dk_180 0 162 (dk_at dksX2_letGo_1 9 rfl rfl)
theorem dX2_letGo_35 : decode cX2_letGo 35 = .ok (.iload_n 3, 1) := dk_29 (dk_at dksX2_letGo_1 12 rfl rfl)
theorem dX2_letGo_36 : decode cX2_letGo 36 = .ok (.iconst 1, 1) := dk_4 (dk_at dksX2_letGo_1 13 rfl rfl)
theorem dX2_letGo_37 : decode cX2_letGo 37 = .ok (.isub, 1) := dk_100 (dk_at dksX2_letGo_1 14 rfl rfl)
theorem dX2_letGo_38 : decode cX2_letGo 38 = .ok (.iaload, 1) := dk_46 (dk_at dksX2_letGo_1 15 rfl rfl)
theorem dX2_letGo_39 : decode cX2_letGo 39 = .ok (.iload_n 2, 1) := dk_28 (dk_at dksX2_letGo_1 16 rfl rfl)
theorem dX2_letGo_40 : decode cX2_letGo 40 = .ok (.invokevirtual 179, 3) := dk_182 0 179 (dk_at dksX2_letGo_1 17 rfl rfl)
theorem dX2_letGo_43 : decode cX2_letGo 43 = .ok (.astore 4, 2) := dk_58 4 (dk_at dksX2_letGo_1 20 rfl rfl)
theorem dX2_letGo_45 : decode cX2_letGo 45 = .ok (.aload 4, 2) := dk_25 4 (dk_at dksX2_letGo_1 22 rfl rfl)
theorem dX2_letGo_47 : decode cX2_letGo 47 = .ok (.aload_n 1, 1) := dk_43 (dk_at dksX2_letGo_2 0 rfl rfl)
theorem dX2_letGo_48 : decode cX2_letGo 48 = .ok (.getfield 176, 3) := dk_180 0 176 (dk_at dksX2_letGo_2 1 rfl rfl)
theorem dX2_letGo_51 : decode cX2_letGo 51 = .ok (.putfield 183, 3) := dk_181 0 183 (dk_at dksX2_letGo_2 4 rfl rfl)
theorem dX2_letGo_54 : decode cX2_letGo 54 = .ok (.iinc 3 1, 3) := dk_132 3 1 (dk_at dksX2_letGo_2 7 rfl rfl)
theorem dX2_letGo_57 : decode cX2_letGo 57 = .ok (.goto (-55), 3) := dk_167 255 201 (dk_at dksX2_letGo_2 10 rfl rfl)
theorem dX2_letGo_60 : decode cX2_letGo 60 = .ok (.return_, 1) := dk_177 (dk_at dksX2_letGo_2 13 rfl rfl)
abbrev cX2_readHeadsFirst : ByteArray := prog_3_method_8_code
def yX2_readHeadsFirst : MethodName := ⟨RX2, "readHeadsFirst", "()V"⟩
def dkwX2_readHeadsFirst_2 : List UInt8 := [180, 0, 97, 28, 182, 0, 126, 192, 0, 116, 28, 182, 0, 111, 132, 2, 1, 167, 255, 220, 177]
abbrev dktX2_readHeadsFirst_2 : List UInt8 := dkwX2_readHeadsFirst_2 ++ []
def dkwX2_readHeadsFirst_1 : List UInt8 := [166, 255, 232, 3, 61, 28, 42, 180, 0, 3, 180, 0, 97, 182, 0, 107, 162, 0, 28, 42, 42, 180, 0, 3]
abbrev dktX2_readHeadsFirst_1 : List UInt8 := dkwX2_readHeadsFirst_1 ++ dktX2_readHeadsFirst_2
def dkwX2_readHeadsFirst_0 : List UInt8 := [42, 182, 0, 93, 76, 42, 180, 0, 3, 180, 0, 97, 43, 182, 0, 101, 87, 43, 180, 0, 115, 178, 0, 121]
abbrev dktX2_readHeadsFirst_0 : List UInt8 := dkwX2_readHeadsFirst_0 ++ dktX2_readHeadsFirst_1
theorem dksX2_readHeadsFirst_0 : cX2_readHeadsFirst.data.toList.drop 0 = dktX2_readHeadsFirst_0 := by decide +kernel
theorem dksX2_readHeadsFirst_1 : cX2_readHeadsFirst.data.toList.drop 24 = dktX2_readHeadsFirst_1 := dk_seg dksX2_readHeadsFirst_0 24 rfl rfl
theorem dksX2_readHeadsFirst_2 : cX2_readHeadsFirst.data.toList.drop 48 = dktX2_readHeadsFirst_2 := dk_seg dksX2_readHeadsFirst_1 24 rfl rfl
theorem dX2_readHeadsFirst_0 : decode cX2_readHeadsFirst 0 = .ok (.aload_n 0, 1) := dk_42 (dk_at dksX2_readHeadsFirst_0 0 rfl rfl)
theorem dX2_readHeadsFirst_1 : decode cX2_readHeadsFirst 1 = .ok (.invokevirtual 93, 3) := dk_182 0 93 (dk_at dksX2_readHeadsFirst_0 1 rfl rfl)
theorem dX2_readHeadsFirst_4 : decode cX2_readHeadsFirst 4 = .ok (.astore_n 1, 1) := dk_76 (dk_at dksX2_readHeadsFirst_0 4 rfl rfl)
theorem dX2_readHeadsFirst_5 : decode cX2_readHeadsFirst 5 = .ok (.aload_n 0, 1) := dk_42 (dk_at dksX2_readHeadsFirst_0 5 rfl rfl)
theorem dX2_readHeadsFirst_6 : decode cX2_readHeadsFirst 6 = .ok (.getfield 3, 3) := dk_180 0 3 (dk_at dksX2_readHeadsFirst_0 6 rfl rfl)
theorem dX2_readHeadsFirst_9 : decode cX2_readHeadsFirst 9 = .ok (.getfield 97, 3) := dk_180 0 97 (dk_at dksX2_readHeadsFirst_0 9 rfl rfl)
theorem dX2_readHeadsFirst_12 : decode cX2_readHeadsFirst 12 = .ok (.aload_n 1, 1) := dk_43 (dk_at dksX2_readHeadsFirst_0 12 rfl rfl)
theorem dX2_readHeadsFirst_13 : decode cX2_readHeadsFirst 13 = .ok (.invokevirtual 101, 3) := dk_182 0 101 (dk_at dksX2_readHeadsFirst_0 13 rfl rfl)
theorem dX2_readHeadsFirst_16 : decode cX2_readHeadsFirst 16 = .ok (.pop, 1) := dk_87 (dk_at dksX2_readHeadsFirst_0 16 rfl rfl)
theorem dX2_readHeadsFirst_17 : decode cX2_readHeadsFirst 17 = .ok (.aload_n 1, 1) := dk_43 (dk_at dksX2_readHeadsFirst_0 17 rfl rfl)
theorem dX2_readHeadsFirst_18 : decode cX2_readHeadsFirst 18 = .ok (.getfield 115, 3) := dk_180 0 115 (dk_at dksX2_readHeadsFirst_0 18 rfl rfl)
theorem dX2_readHeadsFirst_21 : decode cX2_readHeadsFirst 21 = .ok (.getstatic 121, 3) := dk_178 0 121 (dk_at dksX2_readHeadsFirst_0 21 rfl rfl)
theorem dX2_readHeadsFirst_24 : decode cX2_readHeadsFirst 24 = .ok (.if_acmp .ne (-24), 3) := dk_166 255 232 (dk_at dksX2_readHeadsFirst_1 0 rfl rfl)
theorem dX2_readHeadsFirst_27 : decode cX2_readHeadsFirst 27 = .ok (.iconst 0, 1) := dk_3 (dk_at dksX2_readHeadsFirst_1 3 rfl rfl)
theorem dX2_readHeadsFirst_28 : decode cX2_readHeadsFirst 28 = .ok (.istore_n 2, 1) := dk_61 (dk_at dksX2_readHeadsFirst_1 4 rfl rfl)
theorem dX2_readHeadsFirst_29 : decode cX2_readHeadsFirst 29 = .ok (.iload_n 2, 1) := dk_28 (dk_at dksX2_readHeadsFirst_1 5 rfl rfl)
theorem dX2_readHeadsFirst_30 : decode cX2_readHeadsFirst 30 = .ok (.aload_n 0, 1) := dk_42 (dk_at dksX2_readHeadsFirst_1 6 rfl rfl)
theorem dX2_readHeadsFirst_31 : decode cX2_readHeadsFirst 31 = .ok (.getfield 3, 3) := dk_180 0 3 (dk_at dksX2_readHeadsFirst_1 7 rfl rfl)
theorem dX2_readHeadsFirst_34 : decode cX2_readHeadsFirst 34 = .ok (.getfield 97, 3) := dk_180 0 97 (dk_at dksX2_readHeadsFirst_1 10 rfl rfl)
theorem dX2_readHeadsFirst_37 : decode cX2_readHeadsFirst 37 = .ok (.invokevirtual 107, 3) := dk_182 0 107 (dk_at dksX2_readHeadsFirst_1 13 rfl rfl)
theorem dX2_readHeadsFirst_40 : decode cX2_readHeadsFirst 40 = .ok (.if_icmp .ge 28, 3) := dk_162 0 28 (dk_at dksX2_readHeadsFirst_1 16 rfl rfl)
theorem dX2_readHeadsFirst_43 : decode cX2_readHeadsFirst 43 = .ok (.aload_n 0, 1) := dk_42 (dk_at dksX2_readHeadsFirst_1 19 rfl rfl)
theorem dX2_readHeadsFirst_44 : decode cX2_readHeadsFirst 44 = .ok (.aload_n 0, 1) := dk_42 (dk_at dksX2_readHeadsFirst_1 20 rfl rfl)
theorem dX2_readHeadsFirst_45 : decode cX2_readHeadsFirst 45 = .ok (.getfield 3, 3) := dk_180 0 3 (dk_at dksX2_readHeadsFirst_1 21 rfl rfl)
theorem dX2_readHeadsFirst_48 : decode cX2_readHeadsFirst 48 = .ok (.getfield 97, 3) := dk_180 0 97 (dk_at dksX2_readHeadsFirst_2 0 rfl rfl)
theorem dX2_readHeadsFirst_51 : decode cX2_readHeadsFirst 51 = .ok (.iload_n 2, 1) := dk_28 (dk_at dksX2_readHeadsFirst_2 3 rfl rfl)
theorem dX2_readHeadsFirst_52 : decode cX2_readHeadsFirst 52 = .ok (.invokevirtual 126, 3) := dk_182 0 126 (dk_at dksX2_readHeadsFirst_2 4 rfl rfl)
theorem dX2_readHeadsFirst_55 : decode cX2_readHeadsFirst 55 = .ok (.checkcast 116, 3) := dk_192 0 116 (dk_at dksX2_readHeadsFirst_2 7 rfl rfl)
theorem dX2_readHeadsFirst_58 : decode cX2_readHeadsFirst 58 = .ok (.iload_n 2, 1) := dk_28 (dk_at dksX2_readHeadsFirst_2 10 rfl rfl)
theorem dX2_readHeadsFirst_59 : decode cX2_readHeadsFirst 59 = .ok (.invokevirtual 111, 3) := dk_182 0 111 (dk_at dksX2_readHeadsFirst_2 11 rfl rfl)
theorem dX2_readHeadsFirst_62 : decode cX2_readHeadsFirst 62 = .ok (.iinc 2 1, 3) := dk_132 2 1 (dk_at dksX2_readHeadsFirst_2 14 rfl rfl)
theorem dX2_readHeadsFirst_65 : decode cX2_readHeadsFirst 65 = .ok (.goto (-36), 3) := dk_167 255 220 (dk_at dksX2_readHeadsFirst_2 17 rfl rfl)
theorem dX2_readHeadsFirst_68 : decode cX2_readHeadsFirst 68 = .ok (.return_, 1) := dk_177 (dk_at dksX2_readHeadsFirst_2 20 rfl rfl)
theorem q76 : (Jvm.Cond.initialized "BilevelPages$Reader") ∈ lw_all := lw_g (lw_at lw_m1 5 rfl) rfl
theorem q141 : (Jvm.Cond.instantiable "BilevelPages$Reader" (8 : Nat)) ∈ lw_all := lw_g (lw_at lw_m1 70 rfl) rfl
theorem q143 : (Jvm.Cond.instanceMethod ({ cls := "BilevelPages$Reader", name := "<init>", desc := "(LBilevelPages;)V" } : Jvm.MethodName)) ∈ lw_all := lw_g (lw_at lw_m1 72 rfl) rfl
theorem q144 : (Jvm.Cond.code ({ cls := "BilevelPages$Reader", name := "<init>", desc := "(LBilevelPages;)V" } : Jvm.MethodName) prog_3_method_1_code (2 : Nat) (Option.none : Option Jvm.ClassFile.FieldType)) ∈ lw_all := lw_g (lw_at lw_m1 73 rfl) rfl
theorem q145 : (Jvm.Cond.methodLink "BilevelPages$Reader" (9 : Nat) ({ cls := "java/lang/Object", name := "<init>", desc := "()V" } : Jvm.MethodName)) ∈ lw_all := lw_g (lw_at lw_m1 74 rfl) rfl
theorem q146 : (Jvm.Cond.fieldLink "BilevelPages$Reader" (15 : Nat) "BilevelPages$Reader" "all" "[B") ∈ lw_all := lw_g (lw_at lw_m1 75 rfl) rfl
theorem q147 : (Jvm.Cond.fieldLink "BilevelPages$Reader" (54 : Nat) "BilevelPages$Reader" "limit" "I") ∈ lw_all := lw_g (lw_at lw_m1 76 rfl) rfl
theorem q148 : (Jvm.Cond.fieldLink "BilevelPages$Reader" (19 : Nat) "BilevelPages$Reader" "at" "I") ∈ lw_all := lw_g (lw_at lw_m1 77 rfl) rfl
theorem q149 : (Jvm.Cond.fieldLink "BilevelPages$Reader" (23 : Nat) "BilevelPages$Reader" "last" "I") ∈ lw_all := lw_g (lw_at lw_m1 78 rfl) rfl
theorem q150 : (Jvm.Cond.fieldLink "BilevelPages$Reader" (26 : Nat) "BilevelPages$Reader" "open" "I") ∈ lw_all := lw_g (lw_at lw_m1 79 rfl) rfl
theorem q151 : (Jvm.Cond.fieldLink "BilevelPages$Reader" (29 : Nat) "BilevelPages$Reader" "sheetMany" "I") ∈ lw_all := lw_g (lw_at lw_m1 80 rfl) rfl
theorem q153 : (Jvm.Cond.fieldLink "BilevelPages$Reader" (32 : Nat) "BilevelPages$Reader" "global" "Z") ∈ lw_all := lw_g (lw_at lw_m1 82 rfl) rfl
theorem q154 : (Jvm.Cond.fieldLink "BilevelPages$Reader" (3 : Nat) "BilevelPages$Reader" "this$0" "LBilevelPages;") ∈ lw_all := lw_g (lw_at lw_m1 83 rfl) rfl
theorem q155 : (Jvm.Cond.laysFinal "BilevelPages$Reader" "BilevelPages$Reader" "all" "[B") ∈ lw_all := lw_g (lw_at lw_m1 84 rfl) rfl
theorem q156 : (Jvm.Cond.soleField "BilevelPages$Reader" "all") ∈ lw_all := lw_g (lw_at lw_m1 85 rfl) rfl
theorem q157 : (Jvm.Cond.lays "BilevelPages$Reader" "BilevelPages$Reader" "limit" "I") ∈ lw_all := lw_g (lw_at lw_m1 86 rfl) rfl
theorem q158 : (Jvm.Cond.soleField "BilevelPages$Reader" "limit") ∈ lw_all := lw_g (lw_at lw_m1 87 rfl) rfl
theorem q159 : (Jvm.Cond.lays "BilevelPages$Reader" "BilevelPages$Reader" "at" "I") ∈ lw_all := lw_g (lw_at lw_m1 88 rfl) rfl
theorem q160 : (Jvm.Cond.soleField "BilevelPages$Reader" "at") ∈ lw_all := lw_g (lw_at lw_m1 89 rfl) rfl
theorem q161 : (Jvm.Cond.lays "BilevelPages$Reader" "BilevelPages$Reader" "last" "I") ∈ lw_all := lw_g (lw_at lw_m1 90 rfl) rfl
theorem q162 : (Jvm.Cond.soleField "BilevelPages$Reader" "last") ∈ lw_all := lw_g (lw_at lw_m1 91 rfl) rfl
theorem q163 : (Jvm.Cond.lays "BilevelPages$Reader" "BilevelPages$Reader" "open" "I") ∈ lw_all := lw_g (lw_at lw_m1 92 rfl) rfl
theorem q164 : (Jvm.Cond.soleField "BilevelPages$Reader" "open") ∈ lw_all := lw_g (lw_at lw_m1 93 rfl) rfl
theorem q165 : (Jvm.Cond.lays "BilevelPages$Reader" "BilevelPages$Reader" "sheetMany" "I") ∈ lw_all := lw_g (lw_at lw_m1 94 rfl) rfl
theorem q166 : (Jvm.Cond.soleField "BilevelPages$Reader" "sheetMany") ∈ lw_all := lw_g (lw_at lw_m1 95 rfl) rfl
theorem q167 : (Jvm.Cond.lays "BilevelPages$Reader" "BilevelPages$Reader" "global" "Z") ∈ lw_all := lw_g (lw_at lw_m1 96 rfl) rfl
theorem q168 : (Jvm.Cond.soleField "BilevelPages$Reader" "global") ∈ lw_all := lw_g (lw_at lw_m1 97 rfl) rfl
theorem q169 : (Jvm.Cond.laysFinal "BilevelPages$Reader" "BilevelPages$Reader" "this$0" "LBilevelPages;") ∈ lw_all := lw_g (lw_at lw_m1 98 rfl) rfl
theorem q170 : (Jvm.Cond.soleField "BilevelPages$Reader" "this$0") ∈ lw_all := lw_g (lw_at lw_m1 99 rfl) rfl
theorem q171 : (Jvm.Cond.superclass "BilevelPages$Reader" "java/lang/Object") ∈ lw_all := lw_g (lw_at lw_m1 100 rfl) rfl
theorem q186 : (Jvm.Cond.fieldLinkNest "BilevelPages$Reader" (265 : Nat) "BilevelPages$Sheet" "stripes" "[I" "BilevelPages") ∈ lw_tbl := lw_at lw_m1 115 rfl
theorem q189 : (Jvm.Cond.fieldLinkNest "BilevelPages$Reader" (268 : Nat) "BilevelPages$Sheet" "stripeMany" "I" "BilevelPages") ∈ lw_tbl := lw_at lw_m1 118 rfl
theorem q194 : (Jvm.Cond.fieldLinkNest "BilevelPages$Reader" (259 : Nat) "BilevelPages$Sheet" "high" "I" "BilevelPages") ∈ lw_tbl := lw_at lw_m1 123 rfl
theorem q198 : (Jvm.Cond.fieldLinkNest "BilevelPages$Reader" (61 : Nat) "BilevelPages$Sheet" "isThere" "Z" "BilevelPages") ∈ lw_tbl := lw_at lw_m1 127 rfl
theorem q224 : (Jvm.Cond.fieldLinkNest "BilevelPages$Reader" (115 : Nat) "BilevelPages$Segment" "kind" "LBilevelPages$Kind;" "BilevelPages") ∈ lw_tbl := lw_at lw_m1 153 rfl
theorem q227 : (Jvm.Cond.fieldLinkNest "BilevelPages$Reader" (189 : Nat) "BilevelPages$Segment" "page" "I" "BilevelPages") ∈ lw_tbl := lw_at lw_m1 156 rfl
theorem q230 : (Jvm.Cond.fieldLinkNest "BilevelPages$Reader" (176 : Nat) "BilevelPages$Segment" "number" "I" "BilevelPages") ∈ lw_tbl := lw_at lw_m1 159 rfl
theorem q233 : (Jvm.Cond.fieldLinkNest "BilevelPages$Reader" (162 : Nat) "BilevelPages$Segment" "refers" "[I" "BilevelPages") ∈ lw_tbl := lw_at lw_m1 162 rfl
theorem q236 : (Jvm.Cond.fieldLinkNest "BilevelPages$Reader" (165 : Nat) "BilevelPages$Segment" "references" "I" "BilevelPages") ∈ lw_tbl := lw_at lw_m1 165 rfl
theorem q239 : (Jvm.Cond.fieldLinkNest "BilevelPages$Reader" (168 : Nat) "BilevelPages$Segment" "letsGo" "I" "BilevelPages") ∈ lw_tbl := lw_at lw_m1 168 rfl
theorem q244 : (Jvm.Cond.fieldLinkNest "BilevelPages$Reader" (250 : Nat) "BilevelPages$Segment" "numbers" "[I" "BilevelPages") ∈ lw_tbl := lw_at lw_m1 173 rfl
theorem q252 : (Jvm.Cond.fieldLinkNest "BilevelPages$Reader" (282 : Nat) "BilevelPages$Segment" "rows" "[I" "BilevelPages") ∈ lw_tbl := lw_at lw_m1 181 rfl
theorem q254 : (Jvm.Cond.fieldLinkNest "BilevelPages$Reader" (175 : Nat) "BilevelPages$Segment" "at" "I" "BilevelPages") ∈ lw_tbl := lw_at lw_m1 183 rfl
theorem q256 : (Jvm.Cond.fieldLinkNest "BilevelPages$Reader" (171 : Nat) "BilevelPages$Segment" "length" "J" "BilevelPages") ∈ lw_tbl := lw_at lw_m1 185 rfl
theorem q259 : (Jvm.Cond.fieldLinkNest "BilevelPages$Reader" (183 : Nat) "BilevelPages$Segment" "goneBy" "I" "BilevelPages") ∈ lw_tbl := lw_at lw_m1 188 rfl
theorem q288 : (Jvm.Cond.fieldLinkNest "BilevelPages$Reader" (74 : Nat) "BilevelPages" "order" "I" "BilevelPages") ∈ lw_tbl := lw_at lw_m1 217 rfl
theorem q293 : (Jvm.Cond.fieldLinkNest "BilevelPages$Reader" (154 : Nat) "BilevelPages" "readable" "[LBilevelPages$Segment;" "BilevelPages") ∈ lw_tbl := lw_at lw_m1 222 rfl
theorem q296 : (Jvm.Cond.fieldLinkNest "BilevelPages$Reader" (48 : Nat) "BilevelPages" "came" "[B" "BilevelPages") ∈ lw_tbl := lw_at lw_m1 225 rfl
theorem q298 : (Jvm.Cond.fieldLinkNest "BilevelPages$Reader" (51 : Nat) "BilevelPages" "cameMany" "I" "BilevelPages") ∈ lw_tbl := lw_at lw_m1 227 rfl
theorem q300 : (Jvm.Cond.fieldLinkNest "BilevelPages$Reader" (36 : Nat) "BilevelPages" "globals" "[B" "BilevelPages") ∈ lw_tbl := lw_at lw_m1 229 rfl
theorem q302 : (Jvm.Cond.fieldLinkNest "BilevelPages$Reader" (39 : Nat) "BilevelPages" "globalMany" "I" "BilevelPages") ∈ lw_tbl := lw_at lw_m1 231 rfl
theorem q304 : (Jvm.Cond.fieldLinkNest "BilevelPages$Reader" (57 : Nat) "BilevelPages" "sheets" "[LBilevelPages$Sheet;" "BilevelPages") ∈ lw_tbl := lw_at lw_m1 233 rfl
theorem q306 : (Jvm.Cond.fieldLinkNest "BilevelPages$Reader" (97 : Nat) "BilevelPages" "found" "Ljava/util/ArrayList;" "BilevelPages") ∈ lw_tbl := lw_at lw_m1 235 rfl
theorem q355 : (Jvm.Cond.instanceMethod ({ cls := "BilevelPages$Reader", name := "begin", desc := "()V" } : Jvm.MethodName)) ∈ lw_all := lw_g (lw_at lw_m2 44 rfl) rfl
theorem q356 : (Jvm.Cond.selects "BilevelPages$Reader" ({ cls := "BilevelPages$Reader", name := "begin", desc := "()V" } : Jvm.MethodName) ({ cls := "BilevelPages$Reader", name := "begin", desc := "()V" } : Jvm.MethodName)) ∈ lw_all := lw_g (lw_at lw_m2 45 rfl) rfl
theorem q357 : (Jvm.Cond.code ({ cls := "BilevelPages$Reader", name := "begin", desc := "()V" } : Jvm.MethodName) prog_3_method_2_code (5 : Nat) (Option.none : Option Jvm.ClassFile.FieldType)) ∈ lw_all := lw_g (lw_at lw_m2 46 rfl) rfl
theorem q358 : (Jvm.Cond.methodLink "BilevelPages$Reader" (42 : Nat) ({ cls := "java/lang/System", name := "arraycopy", desc := "(Ljava/lang/Object;ILjava/lang/Object;II)V" } : Jvm.MethodName)) ∈ lw_all := lw_g (lw_at lw_m2 47 rfl) rfl
theorem q362 : (Jvm.Cond.instanceMethod ({ cls := "BilevelPages$Reader", name := "readAll", desc := "()V" } : Jvm.MethodName)) ∈ lw_all := lw_g (lw_at lw_m2 51 rfl) rfl
theorem q363 : (Jvm.Cond.selects "BilevelPages$Reader" ({ cls := "BilevelPages$Reader", name := "readAll", desc := "()V" } : Jvm.MethodName) ({ cls := "BilevelPages$Reader", name := "readAll", desc := "()V" } : Jvm.MethodName)) ∈ lw_all := lw_g (lw_at lw_m2 52 rfl) rfl
theorem q364 : (Jvm.Cond.code ({ cls := "BilevelPages$Reader", name := "readAll", desc := "()V" } : Jvm.MethodName) prog_3_method_6_code (2 : Nat) (Option.none : Option Jvm.ClassFile.FieldType)) ∈ lw_all := lw_g (lw_at lw_m2 53 rfl) rfl
theorem q365 : (Jvm.Cond.methodLink "BilevelPages$Reader" (77 : Nat) ({ cls := "BilevelPages$Reader", name := "readInTurn", desc := "()V" } : Jvm.MethodName)) ∈ lw_all := lw_g (lw_at lw_m2 54 rfl) rfl
theorem q366 : (Jvm.Cond.privateMethod ({ cls := "BilevelPages$Reader", name := "readInTurn", desc := "()V" } : Jvm.MethodName)) ∈ lw_tbl := lw_at lw_m2 55 rfl
theorem q367 : (Jvm.Cond.instanceMethod ({ cls := "BilevelPages$Reader", name := "readInTurn", desc := "()V" } : Jvm.MethodName)) ∈ lw_all := lw_g (lw_at lw_m2 56 rfl) rfl
theorem q368 : (Jvm.Cond.code ({ cls := "BilevelPages$Reader", name := "readInTurn", desc := "()V" } : Jvm.MethodName) prog_3_method_7_code (3 : Nat) (Option.none : Option Jvm.ClassFile.FieldType)) ∈ lw_all := lw_g (lw_at lw_m2 57 rfl) rfl
theorem q369 : (Jvm.Cond.methodLink "BilevelPages$Reader" (93 : Nat) ({ cls := "BilevelPages$Reader", name := "readHead", desc := "()LBilevelPages$Segment;" } : Jvm.MethodName)) ∈ lw_all := lw_g (lw_at lw_m2 58 rfl) rfl
theorem q370 : (Jvm.Cond.privateMethod ({ cls := "BilevelPages$Reader", name := "readHead", desc := "()LBilevelPages$Segment;" } : Jvm.MethodName)) ∈ lw_tbl := lw_at lw_m2 59 rfl
theorem q371 : (Jvm.Cond.instanceMethod ({ cls := "BilevelPages$Reader", name := "readHead", desc := "()LBilevelPages$Segment;" } : Jvm.MethodName)) ∈ lw_all := lw_g (lw_at lw_m2 60 rfl) rfl
theorem q372 : (Jvm.Cond.code ({ cls := "BilevelPages$Reader", name := "readHead", desc := "()LBilevelPages$Segment;" } : Jvm.MethodName) prog_3_method_9_code (11 : Nat) (Option.some (Jvm.ClassFile.FieldType.object "BilevelPages$Segment"))) ∈ lw_all := lw_g (lw_at lw_m2 61 rfl) rfl
theorem q373 : (Jvm.Cond.constantLong "BilevelPages$Reader" (130 : Nat) (6 : Int64)) ∈ lw_all := lw_g (lw_at lw_m2 62 rfl) rfl
theorem q374 : (Jvm.Cond.methodLink "BilevelPages$Reader" (82 : Nat) ({ cls := "BilevelPages$Reader", name := "needBytes", desc := "(J)V" } : Jvm.MethodName)) ∈ lw_all := lw_g (lw_at lw_m2 63 rfl) rfl
theorem q375 : (Jvm.Cond.privateMethod ({ cls := "BilevelPages$Reader", name := "needBytes", desc := "(J)V" } : Jvm.MethodName)) ∈ lw_tbl := lw_at lw_m2 64 rfl
theorem q376 : (Jvm.Cond.instanceMethod ({ cls := "BilevelPages$Reader", name := "needBytes", desc := "(J)V" } : Jvm.MethodName)) ∈ lw_all := lw_g (lw_at lw_m2 65 rfl) rfl
theorem q377 : (Jvm.Cond.code ({ cls := "BilevelPages$Reader", name := "needBytes", desc := "(J)V" } : Jvm.MethodName) prog_3_method_5_code (3 : Nat) (Option.none : Option Jvm.ClassFile.FieldType)) ∈ lw_all := lw_g (lw_at lw_m2 66 rfl) rfl
theorem q378 : (Jvm.Cond.methodLinkNest "BilevelPages$Reader" (70 : Nat) ({ cls := "BilevelPages", name := "need", desc := "(ZII)V" } : Jvm.MethodName) "BilevelPages") ∈ lw_tbl := lw_at lw_m2 67 rfl
theorem q452 : (Jvm.Cond.methodLink "BilevelPages$Reader" (66 : Nat) ({ cls := "BilevelPages$Reader", name := "byteAt", desc := "(I)I" } : Jvm.MethodName)) ∈ lw_all := lw_g (lw_at lw_m2 141 rfl) rfl
theorem q453 : (Jvm.Cond.privateMethod ({ cls := "BilevelPages$Reader", name := "byteAt", desc := "(I)I" } : Jvm.MethodName)) ∈ lw_tbl := lw_at lw_m2 142 rfl
theorem q454 : (Jvm.Cond.instanceMethod ({ cls := "BilevelPages$Reader", name := "byteAt", desc := "(I)I" } : Jvm.MethodName)) ∈ lw_all := lw_g (lw_at lw_m2 143 rfl) rfl
theorem q455 : (Jvm.Cond.code ({ cls := "BilevelPages$Reader", name := "byteAt", desc := "(I)I" } : Jvm.MethodName) prog_3_method_3_code (2 : Nat) (Option.some Jvm.ClassFile.FieldType.int)) ∈ lw_all := lw_g (lw_at lw_m2 144 rfl) rfl
theorem q456 : (Jvm.Cond.constantLong "BilevelPages$Reader" (132 : Nat) (9 : Int64)) ∈ lw_all := lw_g (lw_at lw_m2 145 rfl) rfl
theorem q457 : (Jvm.Cond.methodLink "BilevelPages$Reader" (134 : Nat) ({ cls := "BilevelPages$Reader", name := "four", desc := "(I)J" } : Jvm.MethodName)) ∈ lw_all := lw_g (lw_at lw_m2 146 rfl) rfl
theorem q458 : (Jvm.Cond.privateMethod ({ cls := "BilevelPages$Reader", name := "four", desc := "(I)J" } : Jvm.MethodName)) ∈ lw_tbl := lw_at lw_m2 147 rfl
theorem q459 : (Jvm.Cond.instanceMethod ({ cls := "BilevelPages$Reader", name := "four", desc := "(I)J" } : Jvm.MethodName)) ∈ lw_all := lw_g (lw_at lw_m2 148 rfl) rfl
theorem q460 : (Jvm.Cond.code ({ cls := "BilevelPages$Reader", name := "four", desc := "(I)J" } : Jvm.MethodName) prog_3_method_4_code (2 : Nat) (Option.some Jvm.ClassFile.FieldType.long)) ∈ lw_all := lw_g (lw_at lw_m2 149 rfl) rfl
theorem q461 : (Jvm.Cond.constantLong "BilevelPages$Reader" (138 : Nat) (255 : Int64)) ∈ lw_all := lw_g (lw_at lw_m2 150 rfl) rfl
theorem q462 : (Jvm.Cond.methodLinkNest "BilevelPages$Reader" (140 : Nat) ({ cls := "BilevelPages", name := "kindOf", desc := "(I)LBilevelPages$Kind;" } : Jvm.MethodName) "BilevelPages") ∈ lw_tbl := lw_at lw_m2 151 rfl
theorem q467 : (Jvm.Cond.fieldLink "BilevelPages$Reader" (121 : Nat) "BilevelPages$Kind" "ALL" "LBilevelPages$Kind;") ∈ lw_all := lw_g (lw_at lw_m2 156 rfl) rfl
theorem q468 : (Jvm.Cond.constantLong "BilevelPages$Reader" (144 : Nat) (3758096384 : Int64)) ∈ lw_all := lw_g (lw_at lw_m2 157 rfl) rfl
theorem q469 : (Jvm.Cond.constantLong "BilevelPages$Reader" (146 : Nat) (5 : Int64)) ∈ lw_all := lw_g (lw_at lw_m2 158 rfl) rfl
theorem q470 : (Jvm.Cond.constantLong "BilevelPages$Reader" (148 : Nat) (10 : Int64)) ∈ lw_all := lw_g (lw_at lw_m2 159 rfl) rfl
theorem q471 : (Jvm.Cond.methodLinkNest "BilevelPages$Reader" (150 : Nat) ({ cls := "BilevelPages", name := "within", desc := "(JJJ)Z" } : Jvm.MethodName) "BilevelPages") ∈ lw_tbl := lw_at lw_m2 160 rfl
theorem q474 : (Jvm.Cond.methodLink "BilevelPages$Reader" (107 : Nat) ({ cls := "java/util/ArrayList", name := "size", desc := "()I" } : Jvm.MethodName)) ∈ lw_all := lw_g (lw_at lw_m2 163 rfl) rfl
theorem q478 : (Jvm.Cond.methodLink "BilevelPages$Reader" (158 : Nat) ({ cls := "BilevelPages$Segment", name := "begin", desc := "(LBilevelPages$Kind;II)LBilevelPages$Segment;" } : Jvm.MethodName)) ∈ lw_all := lw_g (lw_at lw_m2 167 rfl) rfl
theorem q508 : (Jvm.Cond.methodLink "BilevelPages$Reader" (101 : Nat) ({ cls := "java/util/ArrayList", name := "add", desc := "(Ljava/lang/Object;)Z" } : Jvm.MethodName)) ∈ lw_all := lw_g (lw_at lw_m2 197 rfl) rfl
theorem q540 : (Jvm.Cond.selects "BilevelPages$Reader" ({ cls := "java/lang/Object", name := "getClass", desc := "()Ljava/lang/Class;" } : Jvm.MethodName) ({ cls := "java/lang/Object", name := "getClass", desc := "()Ljava/lang/Class;" } : Jvm.MethodName)) ∈ lw_all := lw_g (lw_at lw_m2 229 rfl) rfl
theorem q563 : (Jvm.Cond.methodLink "BilevelPages$Reader" (111 : Nat) ({ cls := "BilevelPages$Reader", name := "readBody", desc := "(LBilevelPages$Segment;I)V" } : Jvm.MethodName)) ∈ lw_all := lw_g (lw_at lw_m3 12 rfl) rfl
theorem q564 : (Jvm.Cond.privateMethod ({ cls := "BilevelPages$Reader", name := "readBody", desc := "(LBilevelPages$Segment;I)V" } : Jvm.MethodName)) ∈ lw_tbl := lw_at lw_m3 13 rfl
theorem q565 : (Jvm.Cond.instanceMethod ({ cls := "BilevelPages$Reader", name := "readBody", desc := "(LBilevelPages$Segment;I)V" } : Jvm.MethodName)) ∈ lw_all := lw_g (lw_at lw_m3 14 rfl) rfl
theorem q566 : (Jvm.Cond.code ({ cls := "BilevelPages$Reader", name := "readBody", desc := "(LBilevelPages$Segment;I)V" } : Jvm.MethodName) prog_3_method_14_code (6 : Nat) (Option.none : Option Jvm.ClassFile.FieldType)) ∈ lw_all := lw_g (lw_at lw_m3 15 rfl) rfl
theorem q567 : (Jvm.Cond.methodLink "BilevelPages$Reader" (208 : Nat) ({ cls := "BilevelPages$Reader", name := "checkReferences", desc := "(LBilevelPages$Segment;I)LBilevelPages$Segment;" } : Jvm.MethodName)) ∈ lw_all := lw_g (lw_at lw_m3 16 rfl) rfl
theorem q568 : (Jvm.Cond.privateMethod ({ cls := "BilevelPages$Reader", name := "checkReferences", desc := "(LBilevelPages$Segment;I)LBilevelPages$Segment;" } : Jvm.MethodName)) ∈ lw_tbl := lw_at lw_m3 17 rfl
theorem q569 : (Jvm.Cond.instanceMethod ({ cls := "BilevelPages$Reader", name := "checkReferences", desc := "(LBilevelPages$Segment;I)LBilevelPages$Segment;" } : Jvm.MethodName)) ∈ lw_all := lw_g (lw_at lw_m3 18 rfl) rfl
theorem q570 : (Jvm.Cond.code ({ cls := "BilevelPages$Reader", name := "checkReferences", desc := "(LBilevelPages$Segment;I)LBilevelPages$Segment;" } : Jvm.MethodName) prog_3_method_11_code (6 : Nat) (Option.some (Jvm.ClassFile.FieldType.object "BilevelPages$Segment"))) ∈ lw_all := lw_g (lw_at lw_m3 19 rfl) rfl
theorem q571 : (Jvm.Cond.methodLink "BilevelPages$Reader" (179 : Nat) ({ cls := "BilevelPages$Reader", name := "find", desc := "(II)LBilevelPages$Segment;" } : Jvm.MethodName)) ∈ lw_all := lw_g (lw_at lw_m3 20 rfl) rfl
theorem q572 : (Jvm.Cond.privateMethod ({ cls := "BilevelPages$Reader", name := "find", desc := "(II)LBilevelPages$Segment;" } : Jvm.MethodName)) ∈ lw_tbl := lw_at lw_m3 21 rfl
theorem q573 : (Jvm.Cond.instanceMethod ({ cls := "BilevelPages$Reader", name := "find", desc := "(II)LBilevelPages$Segment;" } : Jvm.MethodName)) ∈ lw_all := lw_g (lw_at lw_m3 22 rfl) rfl
theorem q574 : (Jvm.Cond.code ({ cls := "BilevelPages$Reader", name := "find", desc := "(II)LBilevelPages$Segment;" } : Jvm.MethodName) prog_3_method_10_code (4 : Nat) (Option.some (Jvm.ClassFile.FieldType.object "BilevelPages$Segment"))) ∈ lw_all := lw_g (lw_at lw_m3 23 rfl) rfl
theorem q575 : (Jvm.Cond.methodLink "BilevelPages$Reader" (126 : Nat) ({ cls := "java/util/ArrayList", name := "get", desc := "(I)Ljava/lang/Object;" } : Jvm.MethodName)) ∈ lw_all := lw_g (lw_at lw_m3 24 rfl) rfl
theorem q589 : (Jvm.Cond.classLink "BilevelPages$Reader" (116 : Nat) "BilevelPages$Segment") ∈ lw_all := lw_g (lw_at lw_m3 38 rfl) rfl
theorem q590 : (Jvm.Cond.methodLink "BilevelPages$Reader" (186 : Nat) ({ cls := "BilevelPages$Segment", name := "placeOf", desc := "(I)I" } : Jvm.MethodName)) ∈ lw_all := lw_g (lw_at lw_m3 39 rfl) rfl
theorem q594 : (Jvm.Cond.methodLink "BilevelPages$Reader" (192 : Nat) ({ cls := "BilevelPages$Kind", name := "mayReferTo", desc := "(LBilevelPages$Kind;)Z" } : Jvm.MethodName)) ∈ lw_all := lw_g (lw_at lw_m3 43 rfl) rfl
theorem q608 : (Jvm.Cond.fieldLink "BilevelPages$Reader" (196 : Nat) "BilevelPages$Kind" "KEPT" "LBilevelPages$Kind;") ∈ lw_all := lw_g (lw_at lw_m3 57 rfl) rfl
theorem q609 : (Jvm.Cond.methodLink "BilevelPages$Reader" (212 : Nat) ({ cls := "BilevelPages$Reader", name := "isOnPage", desc := "(LBilevelPages$Segment;)Z" } : Jvm.MethodName)) ∈ lw_all := lw_g (lw_at lw_m3 58 rfl) rfl
theorem q610 : (Jvm.Cond.privateMethod ({ cls := "BilevelPages$Reader", name := "isOnPage", desc := "(LBilevelPages$Segment;)Z" } : Jvm.MethodName)) ∈ lw_tbl := lw_at lw_m3 59 rfl
theorem q611 : (Jvm.Cond.instanceMethod ({ cls := "BilevelPages$Reader", name := "isOnPage", desc := "(LBilevelPages$Segment;)Z" } : Jvm.MethodName)) ∈ lw_all := lw_g (lw_at lw_m3 60 rfl) rfl
theorem q612 : (Jvm.Cond.code ({ cls := "BilevelPages$Reader", name := "isOnPage", desc := "(LBilevelPages$Segment;)Z" } : Jvm.MethodName) prog_3_method_12_code (2 : Nat) (Option.some Jvm.ClassFile.FieldType.boolean)) ∈ lw_all := lw_g (lw_at lw_m3 61 rfl) rfl
theorem q613 : (Jvm.Cond.methodLink "BilevelPages$Reader" (199 : Nat) ({ cls := "BilevelPages$Kind", name := "ordinal", desc := "()I" } : Jvm.MethodName)) ∈ lw_all := lw_g (lw_at lw_m3 62 rfl) rfl
theorem q614 : (Jvm.Cond.methodLink "BilevelPages$Reader" (216 : Nat) ({ cls := "BilevelPages$Kind", name := "hasBytes", desc := "()Z" } : Jvm.MethodName)) ∈ lw_all := lw_g (lw_at lw_m3 63 rfl) rfl
theorem q619 : (Jvm.Cond.fieldLink "BilevelPages$Reader" (220 : Nat) "BilevelPages$Kind" "PLAIN" "LBilevelPages$Kind;") ∈ lw_all := lw_g (lw_at lw_m3 68 rfl) rfl
theorem q620 : (Jvm.Cond.constantLong "BilevelPages$Reader" (223 : Nat) (4294967295 : Int64)) ∈ lw_all := lw_g (lw_at lw_m3 69 rfl) rfl
theorem q621 : (Jvm.Cond.methodLink "BilevelPages$Reader" (225 : Nat) ({ cls := "BilevelPages$Kind", name := "takes", desc := "(J)Z" } : Jvm.MethodName)) ∈ lw_all := lw_g (lw_at lw_m3 70 rfl) rfl
theorem q631 : (Jvm.Cond.constantLong "BilevelPages$Reader" (229 : Nat) (17 : Int64)) ∈ lw_all := lw_g (lw_at lw_m3 80 rfl) rfl
theorem q632 : (Jvm.Cond.methodLink "BilevelPages$Reader" (231 : Nat) ({ cls := "BilevelPages$Reader", name := "readRegion", desc := "(LBilevelPages$Segment;ZLBilevelPages$Segment;)V" } : Jvm.MethodName)) ∈ lw_all := lw_g (lw_at lw_m3 81 rfl) rfl
theorem q633 : (Jvm.Cond.privateMethod ({ cls := "BilevelPages$Reader", name := "readRegion", desc := "(LBilevelPages$Segment;ZLBilevelPages$Segment;)V" } : Jvm.MethodName)) ∈ lw_tbl := lw_at lw_m3 82 rfl
theorem q634 : (Jvm.Cond.instanceMethod ({ cls := "BilevelPages$Reader", name := "readRegion", desc := "(LBilevelPages$Segment;ZLBilevelPages$Segment;)V" } : Jvm.MethodName)) ∈ lw_all := lw_g (lw_at lw_m3 83 rfl) rfl
theorem q635 : (Jvm.Cond.code ({ cls := "BilevelPages$Reader", name := "readRegion", desc := "(LBilevelPages$Segment;ZLBilevelPages$Segment;)V" } : Jvm.MethodName) prog_3_method_20_code (5 : Nat) (Option.none : Option Jvm.ClassFile.FieldType)) ∈ lw_all := lw_g (lw_at lw_m3 84 rfl) rfl
theorem q636 : (Jvm.Cond.methodLink "BilevelPages$Reader" (253 : Nat) ({ cls := "BilevelPages$Reader", name := "value", desc := "(LBilevelPages$Segment;IJ)I" } : Jvm.MethodName)) ∈ lw_all := lw_g (lw_at lw_m3 85 rfl) rfl
theorem q637 : (Jvm.Cond.privateMethod ({ cls := "BilevelPages$Reader", name := "value", desc := "(LBilevelPages$Segment;IJ)I" } : Jvm.MethodName)) ∈ lw_tbl := lw_at lw_m3 86 rfl
theorem q638 : (Jvm.Cond.instanceMethod ({ cls := "BilevelPages$Reader", name := "value", desc := "(LBilevelPages$Segment;IJ)I" } : Jvm.MethodName)) ∈ lw_all := lw_g (lw_at lw_m3 87 rfl) rfl
theorem q639 : (Jvm.Cond.code ({ cls := "BilevelPages$Reader", name := "value", desc := "(LBilevelPages$Segment;IJ)I" } : Jvm.MethodName) prog_3_method_13_code (5 : Nat) (Option.some Jvm.ClassFile.FieldType.int)) ∈ lw_all := lw_g (lw_at lw_m3 88 rfl) rfl
theorem q640 : (Jvm.Cond.methodLink "BilevelPages$Reader" (202 : Nat) ({ cls := "BilevelPages$Kind", name := "least", desc := "(I)I" } : Jvm.MethodName)) ∈ lw_all := lw_g (lw_at lw_m3 89 rfl) rfl
theorem q641 : (Jvm.Cond.methodLink "BilevelPages$Reader" (205 : Nat) ({ cls := "BilevelPages$Kind", name := "most", desc := "(I)I" } : Jvm.MethodName)) ∈ lw_all := lw_g (lw_at lw_m3 90 rfl) rfl
theorem q651 : (Jvm.Cond.methodLink "BilevelPages$Reader" (277 : Nat) ({ cls := "BilevelPages$Reader", name := "readOpenRows", desc := "(LBilevelPages$Segment;)V" } : Jvm.MethodName)) ∈ lw_all := lw_g (lw_at lw_m3 100 rfl) rfl
theorem q652 : (Jvm.Cond.privateMethod ({ cls := "BilevelPages$Reader", name := "readOpenRows", desc := "(LBilevelPages$Segment;)V" } : Jvm.MethodName)) ∈ lw_tbl := lw_at lw_m3 101 rfl
theorem q653 : (Jvm.Cond.instanceMethod ({ cls := "BilevelPages$Reader", name := "readOpenRows", desc := "(LBilevelPages$Segment;)V" } : Jvm.MethodName)) ∈ lw_all := lw_g (lw_at lw_m3 102 rfl) rfl
theorem q654 : (Jvm.Cond.code ({ cls := "BilevelPages$Reader", name := "readOpenRows", desc := "(LBilevelPages$Segment;)V" } : Jvm.MethodName) prog_3_method_21_code (3 : Nat) (Option.none : Option Jvm.ClassFile.FieldType)) ∈ lw_all := lw_g (lw_at lw_m3 103 rfl) rfl
theorem q655 : (Jvm.Cond.methodLink "BilevelPages$Reader" (280 : Nat) ({ cls := "BilevelPages$Segment", name := "high", desc := "()I" } : Jvm.MethodName)) ∈ lw_all := lw_g (lw_at lw_m3 104 rfl) rfl
theorem q659 : (Jvm.Cond.methodLink "BilevelPages$Reader" (271 : Nat) ({ cls := "BilevelPages$Segment", name := "rowBytes", desc := "()I" } : Jvm.MethodName)) ∈ lw_all := lw_g (lw_at lw_m3 108 rfl) rfl
theorem q667 : (Jvm.Cond.methodLink "BilevelPages$Reader" (285 : Nat) ({ cls := "BilevelPages$Reader", name := "readRow", desc := "(LBilevelPages$Segment;I)I" } : Jvm.MethodName)) ∈ lw_all := lw_g (lw_at lw_m3 116 rfl) rfl
theorem q668 : (Jvm.Cond.privateMethod ({ cls := "BilevelPages$Reader", name := "readRow", desc := "(LBilevelPages$Segment;I)I" } : Jvm.MethodName)) ∈ lw_tbl := lw_at lw_m3 117 rfl
theorem q669 : (Jvm.Cond.instanceMethod ({ cls := "BilevelPages$Reader", name := "readRow", desc := "(LBilevelPages$Segment;I)I" } : Jvm.MethodName)) ∈ lw_all := lw_g (lw_at lw_m3 118 rfl) rfl
theorem q670 : (Jvm.Cond.code ({ cls := "BilevelPages$Reader", name := "readRow", desc := "(LBilevelPages$Segment;I)I" } : Jvm.MethodName) prog_3_method_19_code (6 : Nat) (Option.some Jvm.ClassFile.FieldType.int)) ∈ lw_all := lw_g (lw_at lw_m3 119 rfl) rfl
theorem q671 : (Jvm.Cond.methodLink "BilevelPages$Reader" (274 : Nat) ({ cls := "BilevelPages$Segment", name := "wide", desc := "()I" } : Jvm.MethodName)) ∈ lw_all := lw_g (lw_at lw_m3 120 rfl) rfl
theorem q672 : (Jvm.Cond.constantLong "BilevelPages$Reader" (292 : Nat) (4 : Int64)) ∈ lw_all := lw_g (lw_at lw_m3 121 rfl) rfl
theorem q673 : (Jvm.Cond.methodLink "BilevelPages$Reader" (289 : Nat) ({ cls := "BilevelPages$Sheet", name := "draw", desc := "(LBilevelPages$Segment;)V" } : Jvm.MethodName)) ∈ lw_all := lw_g (lw_at lw_m3 122 rfl) rfl
theorem q687 : (Jvm.Cond.methodLink "BilevelPages$Reader" (235 : Nat) ({ cls := "BilevelPages$Reader", name := "readSheet", desc := "(LBilevelPages$Segment;)V" } : Jvm.MethodName)) ∈ lw_all := lw_g (lw_at lw_m3 136 rfl) rfl
theorem q688 : (Jvm.Cond.privateMethod ({ cls := "BilevelPages$Reader", name := "readSheet", desc := "(LBilevelPages$Segment;)V" } : Jvm.MethodName)) ∈ lw_tbl := lw_at lw_m3 137 rfl
theorem q689 : (Jvm.Cond.instanceMethod ({ cls := "BilevelPages$Reader", name := "readSheet", desc := "(LBilevelPages$Segment;)V" } : Jvm.MethodName)) ∈ lw_all := lw_g (lw_at lw_m3 138 rfl) rfl
theorem q690 : (Jvm.Cond.code ({ cls := "BilevelPages$Reader", name := "readSheet", desc := "(LBilevelPages$Segment;)V" } : Jvm.MethodName) prog_3_method_16_code (4 : Nat) (Option.none : Option Jvm.ClassFile.FieldType)) ∈ lw_all := lw_g (lw_at lw_m3 139 rfl) rfl
theorem q691 : (Jvm.Cond.methodLink "BilevelPages$Reader" (257 : Nat) ({ cls := "BilevelPages$Sheet", name := "begin", desc := "(LBilevelPages$Segment;)V" } : Jvm.MethodName)) ∈ lw_all := lw_g (lw_at lw_m3 140 rfl) rfl
theorem q695 : (Jvm.Cond.methodLink "BilevelPages$Reader" (239 : Nat) ({ cls := "BilevelPages$Reader", name := "readStripe", desc := "(LBilevelPages$Segment;)V" } : Jvm.MethodName)) ∈ lw_all := lw_g (lw_at lw_m3 144 rfl) rfl
theorem q696 : (Jvm.Cond.privateMethod ({ cls := "BilevelPages$Reader", name := "readStripe", desc := "(LBilevelPages$Segment;)V" } : Jvm.MethodName)) ∈ lw_tbl := lw_at lw_m3 145 rfl
theorem q697 : (Jvm.Cond.instanceMethod ({ cls := "BilevelPages$Reader", name := "readStripe", desc := "(LBilevelPages$Segment;)V" } : Jvm.MethodName)) ∈ lw_all := lw_g (lw_at lw_m3 146 rfl) rfl
theorem q698 : (Jvm.Cond.code ({ cls := "BilevelPages$Reader", name := "readStripe", desc := "(LBilevelPages$Segment;)V" } : Jvm.MethodName) prog_3_method_17_code (4 : Nat) (Option.none : Option Jvm.ClassFile.FieldType)) ∈ lw_all := lw_g (lw_at lw_m3 147 rfl) rfl
theorem q699 : (Jvm.Cond.methodLink "BilevelPages$Reader" (262 : Nat) ({ cls := "BilevelPages$Sheet", name := "lastRow", desc := "()I" } : Jvm.MethodName)) ∈ lw_all := lw_g (lw_at lw_m3 148 rfl) rfl
theorem q703 : (Jvm.Cond.methodLink "BilevelPages$Reader" (242 : Nat) ({ cls := "BilevelPages$Reader", name := "endSheet", desc := "(LBilevelPages$Segment;)V" } : Jvm.MethodName)) ∈ lw_all := lw_g (lw_at lw_m3 152 rfl) rfl
theorem q704 : (Jvm.Cond.privateMethod ({ cls := "BilevelPages$Reader", name := "endSheet", desc := "(LBilevelPages$Segment;)V" } : Jvm.MethodName)) ∈ lw_tbl := lw_at lw_m3 153 rfl
theorem q705 : (Jvm.Cond.instanceMethod ({ cls := "BilevelPages$Reader", name := "endSheet", desc := "(LBilevelPages$Segment;)V" } : Jvm.MethodName)) ∈ lw_all := lw_g (lw_at lw_m3 154 rfl) rfl
theorem q706 : (Jvm.Cond.code ({ cls := "BilevelPages$Reader", name := "endSheet", desc := "(LBilevelPages$Segment;)V" } : Jvm.MethodName) prog_3_method_18_code (3 : Nat) (Option.none : Option Jvm.ClassFile.FieldType)) ∈ lw_all := lw_g (lw_at lw_m3 155 rfl) rfl
theorem q707 : (Jvm.Cond.constantLong "BilevelPages$Reader" (245 : Nat) (2147483648 : Int64)) ∈ lw_all := lw_g (lw_at lw_m3 156 rfl) rfl
theorem q708 : (Jvm.Cond.methodLink "BilevelPages$Reader" (247 : Nat) ({ cls := "BilevelPages$Reader", name := "letGo", desc := "(LBilevelPages$Segment;I)V" } : Jvm.MethodName)) ∈ lw_all := lw_g (lw_at lw_m3 157 rfl) rfl
theorem q709 : (Jvm.Cond.privateMethod ({ cls := "BilevelPages$Reader", name := "letGo", desc := "(LBilevelPages$Segment;I)V" } : Jvm.MethodName)) ∈ lw_tbl := lw_at lw_m3 158 rfl
theorem q710 : (Jvm.Cond.instanceMethod ({ cls := "BilevelPages$Reader", name := "letGo", desc := "(LBilevelPages$Segment;I)V" } : Jvm.MethodName)) ∈ lw_all := lw_g (lw_at lw_m3 159 rfl) rfl
theorem q711 : (Jvm.Cond.code ({ cls := "BilevelPages$Reader", name := "letGo", desc := "(LBilevelPages$Segment;I)V" } : Jvm.MethodName) prog_3_method_15_code (5 : Nat) (Option.none : Option Jvm.ClassFile.FieldType)) ∈ lw_all := lw_g (lw_at lw_m3 160 rfl) rfl
theorem q712 : (Jvm.Cond.constantLong "BilevelPages$Reader" (80 : Nat) (13 : Int64)) ∈ lw_all := lw_g (lw_at lw_m3 161 rfl) rfl
theorem q713 : (Jvm.Cond.fieldLinkNest "BilevelPages$Reader" (86 : Nat) "BilevelPages" "FIRST" "[I" "BilevelPages") ∈ lw_tbl := lw_at lw_m3 162 rfl
theorem q715 : (Jvm.Cond.methodLink "BilevelPages$Reader" (90 : Nat) ({ cls := "BilevelPages$Reader", name := "readHeadsFirst", desc := "()V" } : Jvm.MethodName)) ∈ lw_all := lw_g (lw_at lw_m3 164 rfl) rfl
theorem q716 : (Jvm.Cond.privateMethod ({ cls := "BilevelPages$Reader", name := "readHeadsFirst", desc := "()V" } : Jvm.MethodName)) ∈ lw_tbl := lw_at lw_m3 165 rfl
theorem q717 : (Jvm.Cond.instanceMethod ({ cls := "BilevelPages$Reader", name := "readHeadsFirst", desc := "()V" } : Jvm.MethodName)) ∈ lw_all := lw_g (lw_at lw_m3 166 rfl) rfl
theorem q718 : (Jvm.Cond.code ({ cls := "BilevelPages$Reader", name := "readHeadsFirst", desc := "()V" } : Jvm.MethodName) prog_3_method_8_code (3 : Nat) (Option.none : Option Jvm.ClassFile.FieldType)) ∈ lw_all := lw_g (lw_at lw_m3 167 rfl) rfl
theorem q1502 : (Jvm.Cond.castable "BilevelPages$Reader" "java/lang/Object") ∈ lw_tbl := lw_at lw_m6 231 rfl
theorem in_X2 : ∀ w ∈ wsX20, w ∈ lw_all := lw_in wsX20 [155, 157, 159, 161, 163, 165, 167, 169] (by decide +kernel) (by decide +kernel)
/-! BilevelPages$Sheet -/
set_option maxRecDepth 100000
def RX3 : String := "BilevelPages$Sheet"
def TX3 : u_T := fun k => match k with
  | 0 => ("BilevelPages$Sheet", "rows", "[I", true)
  | 1 => ("BilevelPages$Sheet", "stripes", "[I", true)
  | 2 => ("BilevelPages$Sheet", "stripeMany", "I", false)
  | 3 => ("BilevelPages$Sheet", "wide", "I", false)
  | 4 => ("BilevelPages$Sheet", "high", "I", false)
  | 5 => ("BilevelPages$Sheet", "operator", "I", false)
  | _ => ("BilevelPages$Sheet", "isThere", "Z", false)
def tyX3 : Nat → FieldType := fun k => match k with
  | 0 => .array .int
  | 1 => .array .int
  | 2 => .int
  | 3 => .int
  | 4 => .int
  | 5 => .int
  | _ => .boolean
abbrev wsX30 : List Cond := u_ws RX3 TX3 7
theorem nmX3 : ∀ a, a < 7 → ∀ b, b < 7 → a ≠ b → (TX3 a).2.1 ≠ (TX3 b).2.1 := by decide +kernel
theorem tyX3_ok : ∀ k, k < 7 → parseFieldDescriptor (TX3 k).2.2.1 = some (tyX3 k) := by decide +kernel
abbrev cX3_init : ByteArray := prog_5_method_1_code
def yX3_init : MethodName := ⟨RX3, "<init>", "()V"⟩
def dkwX3_init_0 : List UInt8 := [42, 183, 0, 3, 42, 16, 32, 188, 10, 181, 0, 9, 42, 16, 32, 188, 10, 181, 0, 15, 177]
abbrev dktX3_init_0 : List UInt8 := dkwX3_init_0 ++ []
theorem dksX3_init_0 : cX3_init.data.toList.drop 0 = dktX3_init_0 := by decide +kernel
theorem dX3_init_0 : decode cX3_init 0 = .ok (.aload_n 0, 1) := dk_42 (dk_at dksX3_init_0 0 rfl rfl)
theorem dX3_init_1 : decode cX3_init 1 = .ok (.invokespecial 3, 3) := dk_183 0 3 (dk_at dksX3_init_0 1 rfl rfl)
theorem dX3_init_4 : decode cX3_init 4 = .ok (.aload_n 0, 1) := dk_42 (dk_at dksX3_init_0 4 rfl rfl)
theorem dX3_init_5 : decode cX3_init 5 = .ok (.bipush 32, 2) := dk_16 32 (dk_at dksX3_init_0 5 rfl rfl)
theorem dX3_init_7 : decode cX3_init 7 = .ok (.newarray .int, 2) := dk_188_10 (dk_at dksX3_init_0 7 rfl rfl)
theorem dX3_init_9 : decode cX3_init 9 = .ok (.putfield 9, 3) := dk_181 0 9 (dk_at dksX3_init_0 9 rfl rfl)
theorem dX3_init_12 : decode cX3_init 12 = .ok (.aload_n 0, 1) := dk_42 (dk_at dksX3_init_0 12 rfl rfl)
theorem dX3_init_13 : decode cX3_init 13 = .ok (.bipush 32, 2) := dk_16 32 (dk_at dksX3_init_0 13 rfl rfl)
theorem dX3_init_15 : decode cX3_init 15 = .ok (.newarray .int, 2) := dk_188_10 (dk_at dksX3_init_0 15 rfl rfl)
theorem dX3_init_17 : decode cX3_init 17 = .ok (.putfield 15, 3) := dk_181 0 15 (dk_at dksX3_init_0 17 rfl rfl)
theorem dX3_init_20 : decode cX3_init 20 = .ok (.return_, 1) := dk_177 (dk_at dksX3_init_0 20 rfl rfl)
abbrev cX3_draw : ByteArray := prog_5_method_6_code
def yX3_draw : MethodName := ⟨RX3, "draw", "(LBilevelPages$Segment;)V"⟩
def dkwX3_draw_8 : List UInt8 := [21, 5, 120, 2, 130, 126, 79, 132, 4, 1, 167, 255, 105, 177]
abbrev dktX3_draw_8 : List UInt8 := dkwX3_draw_8 ++ []
def dkwX3_draw_7 : List UInt8 := [42, 180, 0, 9, 21, 6, 46, 4, 21, 5, 120, 128, 167, 0, 17, 42, 180, 0, 9, 21, 6, 46, 4]
abbrev dktX3_draw_7 : List UInt8 := dkwX3_draw_7 ++ dktX3_draw_8
def dkwX3_draw_6 : List UInt8 := [160, 0, 7, 4, 167, 0, 4, 3, 182, 0, 50, 54, 7, 42, 180, 0, 9, 21, 6, 21, 7, 153, 0, 18]
abbrev dktX3_draw_6 : List UInt8 := dkwX3_draw_6 ++ dktX3_draw_7
def dkwX3_draw_5 : List UInt8 := [180, 0, 49, 21, 4, 43, 182, 0, 22, 108, 46, 21, 4, 43, 182, 0, 22, 112, 122, 4, 126, 4]
abbrev dktX3_draw_5 : List UInt8 := dkwX3_draw_5 ++ dktX3_draw_6
def dkwX3_draw_4 : List UInt8 := [180, 0, 28, 162, 0, 96, 21, 6, 29, 162, 0, 90, 42, 28, 42, 21, 5, 21, 6, 182, 0, 45, 43]
abbrev dktX3_draw_4 : List UInt8 := dkwX3_draw_4 ++ dktX3_draw_5
def dkwX3_draw_3 : List UInt8 := [96, 54, 5, 43, 180, 0, 36, 6, 46, 21, 4, 43, 182, 0, 22, 108, 96, 54, 6, 21, 5, 42]
abbrev dktX3_draw_3 : List UInt8 := dkwX3_draw_3 ++ dktX3_draw_4
def dkwX3_draw_2 : List UInt8 := [182, 0, 22, 43, 182, 0, 31, 104, 162, 0, 143, 43, 180, 0, 36, 5, 46, 21, 4, 43, 182, 0, 22, 112]
abbrev dktX3_draw_2 : List UInt8 := dkwX3_draw_2 ++ dktX3_draw_3
def dkwX3_draw_1 : List UInt8 := [42, 180, 0, 34, 154, 0, 8, 16, 32, 167, 0, 7, 42, 180, 0, 34, 62, 3, 54, 4, 21, 4, 43]
abbrev dktX3_draw_1 : List UInt8 := dkwX3_draw_1 ++ dktX3_draw_2
def dkwX3_draw_0 : List UInt8 := [43, 180, 0, 36, 7, 46, 8, 160, 0, 10, 42, 180, 0, 39, 167, 0, 9, 43, 180, 0, 36, 7, 46, 61]
abbrev dktX3_draw_0 : List UInt8 := dkwX3_draw_0 ++ dktX3_draw_1
theorem dksX3_draw_0 : cX3_draw.data.toList.drop 0 = dktX3_draw_0 := by decide +kernel
theorem dksX3_draw_1 : cX3_draw.data.toList.drop 24 = dktX3_draw_1 := dk_seg dksX3_draw_0 24 rfl rfl
theorem dksX3_draw_2 : cX3_draw.data.toList.drop 47 = dktX3_draw_2 := dk_seg dksX3_draw_1 23 rfl rfl
theorem dksX3_draw_3 : cX3_draw.data.toList.drop 71 = dktX3_draw_3 := dk_seg dksX3_draw_2 24 rfl rfl
theorem dksX3_draw_4 : cX3_draw.data.toList.drop 93 = dktX3_draw_4 := dk_seg dksX3_draw_3 22 rfl rfl
theorem dksX3_draw_5 : cX3_draw.data.toList.drop 116 = dktX3_draw_5 := dk_seg dksX3_draw_4 23 rfl rfl
theorem dksX3_draw_6 : cX3_draw.data.toList.drop 138 = dktX3_draw_6 := dk_seg dksX3_draw_5 22 rfl rfl
theorem dksX3_draw_7 : cX3_draw.data.toList.drop 162 = dktX3_draw_7 := dk_seg dksX3_draw_6 24 rfl rfl
theorem dksX3_draw_8 : cX3_draw.data.toList.drop 185 = dktX3_draw_8 := dk_seg dksX3_draw_7 23 rfl rfl
theorem dX3_draw_0 : decode cX3_draw 0 = .ok (.aload_n 1, 1) := dk_43 (dk_at dksX3_draw_0 0 rfl rfl)
theorem dX3_draw_1 : decode cX3_draw 1 = .ok (.getfield 36, 3) := dk_180 0 36 (dk_at dksX3_draw_0 1 rfl rfl)
theorem dX3_draw_4 : decode cX3_draw 4 = .ok (.iconst 4, 1) := dk_7 (dk_at dksX3_draw_0 4 rfl rfl)
theorem dX3_draw_5 : decode cX3_draw 5 = .ok (.iaload, 1) := dk_46 (dk_at dksX3_draw_0 5 rfl rfl)
theorem dX3_draw_6 : decode cX3_draw 6 = .ok (.iconst 5, 1) := dk_8 (dk_at dksX3_draw_0 6 rfl rfl)
theorem dX3_draw_7 : decode cX3_draw 7 = .ok (.if_icmp .ne 10, 3) := dk_160 0 10 (dk_at dksX3_draw_0 7 rfl rfl)
theorem dX3_draw_10 : decode cX3_draw 10 = .ok (.aload_n 0, 1) := dk_42 (dk_at dksX3_draw_0 10 rfl rfl)
theorem dX3_draw_11 : decode cX3_draw 11 = .ok (.getfield 39, 3) := dk_180 0 39 (dk_at dksX3_draw_0 11 rfl rfl)
theorem dX3_draw_14 : decode cX3_draw 14 = .ok (.goto 9, 3) := dk_167 0 9 (dk_at dksX3_draw_0 14 rfl rfl)
theorem dX3_draw_17 : decode cX3_draw 17 = .ok (.aload_n 1, 1) := dk_43 (dk_at dksX3_draw_0 17 rfl rfl)
theorem dX3_draw_18 : decode cX3_draw 18 = .ok (.getfield 36, 3) := dk_180 0 36 (dk_at dksX3_draw_0 18 rfl rfl)
theorem dX3_draw_21 : decode cX3_draw 21 = .ok (.iconst 4, 1) := dk_7 (dk_at dksX3_draw_0 21 rfl rfl)
theorem dX3_draw_22 : decode cX3_draw 22 = .ok (.iaload, 1) := dk_46 (dk_at dksX3_draw_0 22 rfl rfl)
theorem dX3_draw_23 : decode cX3_draw 23 = .ok (.istore_n 2, 1) := dk_61 (dk_at dksX3_draw_0 23 rfl rfl)
theorem dX3_draw_24 : decode cX3_draw 24 = .ok (.aload_n 0, 1) := dk_42 (dk_at dksX3_draw_1 0 rfl rfl)
theorem dX3_draw_25 : decode cX3_draw 25 = .ok (.getfield 34, 3) := dk_180 0 34 (dk_at dksX3_draw_1 1 rfl rfl)
theorem dX3_draw_28 : decode cX3_draw 28 = .ok (.ifCond .ne 8, 3) := dk_154 0 8 (dk_at dksX3_draw_1 4 rfl rfl)
theorem dX3_draw_31 : decode cX3_draw 31 = .ok (.bipush 32, 2) := dk_16 32 (dk_at dksX3_draw_1 7 rfl rfl)
theorem dX3_draw_33 : decode cX3_draw 33 = .ok (.goto 7, 3) := dk_167 0 7 (dk_at dksX3_draw_1 9 rfl rfl)
theorem dX3_draw_36 : decode cX3_draw 36 = .ok (.aload_n 0, 1) := dk_42 (dk_at dksX3_draw_1 12 rfl rfl)
theorem dX3_draw_37 : decode cX3_draw 37 = .ok (.getfield 34, 3) := dk_180 0 34 (dk_at dksX3_draw_1 13 rfl rfl)
theorem dX3_draw_40 : decode cX3_draw 40 = .ok (.istore_n 3, 1) := dk_62 (dk_at dksX3_draw_1 16 rfl rfl)
theorem dX3_draw_41 : decode cX3_draw 41 = .ok (.iconst 0, 1) := dk_3 (dk_at dksX3_draw_1 17 rfl rfl)
theorem dX3_draw_42 : decode cX3_draw 42 = .ok (.istore 4, 2) := dk_54 4 (dk_at dksX3_draw_1 18 rfl rfl)
theorem dX3_draw_44 : decode cX3_draw 44 = .ok (.iload 4, 2) := dk_21 4 (dk_at dksX3_draw_1 20 rfl rfl)
theorem dX3_draw_46 : decode cX3_draw 46 = .ok (.aload_n 1, 1) := dk_43 (dk_at dksX3_draw_1 22 rfl rfl)
theorem dX3_draw_47 : decode cX3_draw 47 = .ok (.invokevirtual 22, 3) := dk_182 0 22 (dk_at dksX3_draw_2 0 rfl rfl)
theorem dX3_draw_50 : decode cX3_draw 50 = .ok (.aload_n 1, 1) := dk_43 (dk_at dksX3_draw_2 3 rfl rfl)
theorem dX3_draw_51 : decode cX3_draw 51 = .ok (.invokevirtual 31, 3) := dk_182 0 31 (dk_at dksX3_draw_2 4 rfl rfl)
theorem dX3_draw_54 : decode cX3_draw 54 = .ok (.imul, 1) := dk_104 (dk_at dksX3_draw_2 7 rfl rfl)
theorem dX3_draw_55 : decode cX3_draw 55 = .ok (.if_icmp .ge 143, 3) := dk_162 0 143 (dk_at dksX3_draw_2 8 rfl rfl)
theorem dX3_draw_58 : decode cX3_draw 58 = .ok (.aload_n 1, 1) := dk_43 (dk_at dksX3_draw_2 11 rfl rfl)
theorem dX3_draw_59 : decode cX3_draw 59 = .ok (.getfield 36, 3) := dk_180 0 36 (dk_at dksX3_draw_2 12 rfl rfl)
theorem dX3_draw_62 : decode cX3_draw 62 = .ok (.iconst 2, 1) := dk_5 (dk_at dksX3_draw_2 15 rfl rfl)
theorem dX3_draw_63 : decode cX3_draw 63 = .ok (.iaload, 1) := dk_46 (dk_at dksX3_draw_2 16 rfl rfl)
theorem dX3_draw_64 : decode cX3_draw 64 = .ok (.iload 4, 2) := dk_21 4 (dk_at dksX3_draw_2 17 rfl rfl)
theorem dX3_draw_66 : decode cX3_draw 66 = .ok (.aload_n 1, 1) := dk_43 (dk_at dksX3_draw_2 19 rfl rfl)
theorem dX3_draw_67 : decode cX3_draw 67 = .ok (.invokevirtual 22, 3) := dk_182 0 22 (dk_at dksX3_draw_2 20 rfl rfl)
theorem dX3_draw_70 : decode cX3_draw 70 = .ok (.irem, 1) := dk_112 (dk_at dksX3_draw_2 23 rfl rfl)
theorem dX3_draw_71 : decode cX3_draw 71 = .ok (.iadd, 1) := dk_96 (dk_at dksX3_draw_3 0 rfl rfl)
theorem dX3_draw_72 : decode cX3_draw 72 = .ok (.istore 5, 2) := dk_54 5 (dk_at dksX3_draw_3 1 rfl rfl)
theorem dX3_draw_74 : decode cX3_draw 74 = .ok (.aload_n 1, 1) := dk_43 (dk_at dksX3_draw_3 3 rfl rfl)
theorem dX3_draw_75 : decode cX3_draw 75 = .ok (.getfield 36, 3) := dk_180 0 36 (dk_at dksX3_draw_3 4 rfl rfl)
theorem dX3_draw_78 : decode cX3_draw 78 = .ok (.iconst 3, 1) := dk_6 (dk_at dksX3_draw_3 7 rfl rfl)
theorem dX3_draw_79 : decode cX3_draw 79 = .ok (.iaload, 1) := dk_46 (dk_at dksX3_draw_3 8 rfl rfl)
theorem dX3_draw_80 : decode cX3_draw 80 = .ok (.iload 4, 2) := dk_21 4 (dk_at dksX3_draw_3 9 rfl rfl)
theorem dX3_draw_82 : decode cX3_draw 82 = .ok (.aload_n 1, 1) := dk_43 (dk_at dksX3_draw_3 11 rfl rfl)
theorem dX3_draw_83 : decode cX3_draw 83 = .ok (.invokevirtual 22, 3) := dk_182 0 22 (dk_at dksX3_draw_3 12 rfl rfl)
theorem dX3_draw_86 : decode cX3_draw 86 = .ok (.idiv, 1) := dk_108 (dk_at dksX3_draw_3 15 rfl rfl)
theorem dX3_draw_87 : decode cX3_draw 87 = .ok (.iadd, 1) := dk_96 (dk_at dksX3_draw_3 16 rfl rfl)
theorem dX3_draw_88 : decode cX3_draw 88 = .ok (.istore 6, 2) := dk_54 6 (dk_at dksX3_draw_3 17 rfl rfl)
theorem dX3_draw_90 : decode cX3_draw 90 = .ok (.iload 5, 2) := dk_21 5 (dk_at dksX3_draw_3 19 rfl rfl)
theorem dX3_draw_92 : decode cX3_draw 92 = .ok (.aload_n 0, 1) := dk_42 (dk_at dksX3_draw_3 21 rfl rfl)
theorem dX3_draw_93 : decode cX3_draw 93 = .ok (.getfield 28, 3) := dk_180 0 28 (dk_at dksX3_draw_4 0 rfl rfl)
theorem dX3_draw_96 : decode cX3_draw 96 = .ok (.if_icmp .ge 96, 3) := dk_162 0 96 (dk_at dksX3_draw_4 3 rfl rfl)
theorem dX3_draw_99 : decode cX3_draw 99 = .ok (.iload 6, 2) := dk_21 6 (dk_at dksX3_draw_4 6 rfl rfl)
theorem dX3_draw_101 : decode cX3_draw 101 = .ok (.iload_n 3, 1) := dk_29 (dk_at dksX3_draw_4 8 rfl rfl)
theorem dX3_draw_102 : decode cX3_draw 102 = .ok (.if_icmp .ge 90, 3) := dk_162 0 90 (dk_at dksX3_draw_4 9 rfl rfl)
theorem dX3_draw_105 : decode cX3_draw 105 = .ok (.aload_n 0, 1) := dk_42 (dk_at dksX3_draw_4 12 rfl rfl)
theorem dX3_draw_106 : decode cX3_draw 106 = .ok (.iload_n 2, 1) := dk_28 (dk_at dksX3_draw_4 13 rfl rfl)
theorem dX3_draw_107 : decode cX3_draw 107 = .ok (.aload_n 0, 1) := dk_42 (dk_at dksX3_draw_4 14 rfl rfl)
theorem dX3_draw_108 : decode cX3_draw 108 = .ok (.iload 5, 2) := dk_21 5 (dk_at dksX3_draw_4 15 rfl rfl)
theorem dX3_draw_110 : decode cX3_draw 110 = .ok (.iload 6, 2) := dk_21 6 (dk_at dksX3_draw_4 17 rfl rfl)
theorem dX3_draw_112 : decode cX3_draw 112 = .ok (.invokevirtual 45, 3) := dk_182 0 45 (dk_at dksX3_draw_4 19 rfl rfl)
theorem dX3_draw_115 : decode cX3_draw 115 = .ok (.aload_n 1, 1) := dk_43 (dk_at dksX3_draw_4 22 rfl rfl)
theorem dX3_draw_116 : decode cX3_draw 116 = .ok (.getfield 49, 3) := dk_180 0 49 (dk_at dksX3_draw_5 0 rfl rfl)
theorem dX3_draw_119 : decode cX3_draw 119 = .ok (.iload 4, 2) := dk_21 4 (dk_at dksX3_draw_5 3 rfl rfl)
theorem dX3_draw_121 : decode cX3_draw 121 = .ok (.aload_n 1, 1) := dk_43 (dk_at dksX3_draw_5 5 rfl rfl)
theorem dX3_draw_122 : decode cX3_draw 122 = .ok (.invokevirtual 22, 3) := dk_182 0 22 (dk_at dksX3_draw_5 6 rfl rfl)
theorem dX3_draw_125 : decode cX3_draw 125 = .ok (.idiv, 1) := dk_108 (dk_at dksX3_draw_5 9 rfl rfl)
theorem dX3_draw_126 : decode cX3_draw 126 = .ok (.iaload, 1) := dk_46 (dk_at dksX3_draw_5 10 rfl rfl)
theorem dX3_draw_127 : decode cX3_draw 127 = .ok (.iload 4, 2) := dk_21 4 (dk_at dksX3_draw_5 11 rfl rfl)
theorem dX3_draw_129 : decode cX3_draw 129 = .ok (.aload_n 1, 1) := dk_43 (dk_at dksX3_draw_5 13 rfl rfl)
theorem dX3_draw_130 : decode cX3_draw 130 = .ok (.invokevirtual 22, 3) := dk_182 0 22 (dk_at dksX3_draw_5 14 rfl rfl)
theorem dX3_draw_133 : decode cX3_draw 133 = .ok (.irem, 1) := dk_112 (dk_at dksX3_draw_5 17 rfl rfl)
theorem dX3_draw_134 : decode cX3_draw 134 = .ok (.ishr, 1) := dk_122 (dk_at dksX3_draw_5 18 rfl rfl)
theorem dX3_draw_135 : decode cX3_draw 135 = .ok (.iconst 1, 1) := dk_4 (dk_at dksX3_draw_5 19 rfl rfl)
theorem dX3_draw_136 : decode cX3_draw 136 = .ok (.iand, 1) := dk_126 (dk_at dksX3_draw_5 20 rfl rfl)
theorem dX3_draw_137 : decode cX3_draw 137 = .ok (.iconst 1, 1) := dk_4 (dk_at dksX3_draw_5 21 rfl rfl)
theorem dX3_draw_138 : decode cX3_draw 138 = .ok (.if_icmp .ne 7, 3) := dk_160 0 7 (dk_at dksX3_draw_6 0 rfl rfl)
theorem dX3_draw_141 : decode cX3_draw 141 = .ok (.iconst 1, 1) := dk_4 (dk_at dksX3_draw_6 3 rfl rfl)
theorem dX3_draw_142 : decode cX3_draw 142 = .ok (.goto 4, 3) := dk_167 0 4 (dk_at dksX3_draw_6 4 rfl rfl)
theorem dX3_draw_145 : decode cX3_draw 145 = .ok (.iconst 0, 1) := dk_3 (dk_at dksX3_draw_6 7 rfl rfl)
theorem dX3_draw_146 : decode cX3_draw 146 = .ok (.invokevirtual 50, 3) := dk_182 0 50 (dk_at dksX3_draw_6 8 rfl rfl)
theorem dX3_draw_149 : decode cX3_draw 149 = .ok (.istore 7, 2) := dk_54 7 (dk_at dksX3_draw_6 11 rfl rfl)
theorem dX3_draw_151 : decode cX3_draw 151 = .ok (.aload_n 0, 1) := dk_42 (dk_at dksX3_draw_6 13 rfl rfl)
theorem dX3_draw_152 : decode cX3_draw 152 = .ok (.getfield 9, 3) := dk_180 0 9 (dk_at dksX3_draw_6 14 rfl rfl)
theorem dX3_draw_155 : decode cX3_draw 155 = .ok (.iload 6, 2) := dk_21 6 (dk_at dksX3_draw_6 17 rfl rfl)
theorem dX3_draw_157 : decode cX3_draw 157 = .ok (.iload 7, 2) := dk_21 7 (dk_at dksX3_draw_6 19 rfl rfl)
theorem dX3_draw_159 : decode cX3_draw 159 = .ok (.ifCond .eq 18, 3) := dk_153 0 18 (dk_at dksX3_draw_6 21 rfl rfl)
theorem dX3_draw_162 : decode cX3_draw 162 = .ok (.aload_n 0, 1) := dk_42 (dk_at dksX3_draw_7 0 rfl rfl)
theorem dX3_draw_163 : decode cX3_draw 163 = .ok (.getfield 9, 3) := dk_180 0 9 (dk_at dksX3_draw_7 1 rfl rfl)
theorem dX3_draw_166 : decode cX3_draw 166 = .ok (.iload 6, 2) := dk_21 6 (dk_at dksX3_draw_7 4 rfl rfl)
theorem dX3_draw_168 : decode cX3_draw 168 = .ok (.iaload, 1) := dk_46 (dk_at dksX3_draw_7 6 rfl rfl)
theorem dX3_draw_169 : decode cX3_draw 169 = .ok (.iconst 1, 1) := dk_4 (dk_at dksX3_draw_7 7 rfl rfl)
theorem dX3_draw_170 : decode cX3_draw 170 = .ok (.iload 5, 2) := dk_21 5 (dk_at dksX3_draw_7 8 rfl rfl)
theorem dX3_draw_172 : decode cX3_draw 172 = .ok (.ishl, 1) := dk_120 (dk_at dksX3_draw_7 10 rfl rfl)
theorem dX3_draw_173 : decode cX3_draw 173 = .ok (.ior, 1) := dk_128 (dk_at dksX3_draw_7 11 rfl rfl)
theorem dX3_draw_174 : decode cX3_draw 174 = .ok (.goto 17, 3) := dk_167 0 17 (dk_at dksX3_draw_7 12 rfl rfl)
theorem dX3_draw_177 : decode cX3_draw 177 = .ok (.aload_n 0, 1) := dk_42 (dk_at dksX3_draw_7 15 rfl rfl)
theorem dX3_draw_178 : decode cX3_draw 178 = .ok (.getfield 9, 3) := dk_180 0 9 (dk_at dksX3_draw_7 16 rfl rfl)
theorem dX3_draw_181 : decode cX3_draw 181 = .ok (.iload 6, 2) := dk_21 6 (dk_at dksX3_draw_7 19 rfl rfl)
theorem dX3_draw_183 : decode cX3_draw 183 = .ok (.iaload, 1) := dk_46 (dk_at dksX3_draw_7 21 rfl rfl)
theorem dX3_draw_184 : decode cX3_draw 184 = .ok (.iconst 1, 1) := dk_4 (dk_at dksX3_draw_7 22 rfl rfl)
theorem dX3_draw_185 : decode cX3_draw 185 = .ok (.iload 5, 2) := dk_21 5 (dk_at dksX3_draw_8 0 rfl rfl)
theorem dX3_draw_187 : decode cX3_draw 187 = .ok (.ishl, 1) := dk_120 (dk_at dksX3_draw_8 2 rfl rfl)
theorem dX3_draw_188 : decode cX3_draw 188 = .ok (.iconst (-1), 1) := dk_2 (dk_at dksX3_draw_8 3 rfl rfl)
theorem dX3_draw_189 : decode cX3_draw 189 = .ok (.ixor, 1) := dk_130 (dk_at dksX3_draw_8 4 rfl rfl)
theorem dX3_draw_190 : decode cX3_draw 190 = .ok (.iand, 1) := dk_126 (dk_at dksX3_draw_8 5 rfl rfl)
theorem dX3_draw_191 : decode cX3_draw 191 = .ok (.iastore, 1) := dk_79 (dk_at dksX3_draw_8 6 rfl rfl)
theorem dX3_draw_192 : decode cX3_draw 192 = .ok (.iinc 4 1, 3) := dk_132 4 1 (dk_at dksX3_draw_8 7 rfl rfl)
theorem dX3_draw_195 : decode cX3_draw 195 = .ok (.goto (-151), 3) := dk_167 255 105 (dk_at dksX3_draw_8 10 rfl rfl)
theorem dX3_draw_198 : decode cX3_draw 198 = .ok (.return_, 1) := dk_177 (dk_at dksX3_draw_8 13 rfl rfl)
abbrev cX3_isDark : ByteArray := prog_5_method_5_code
def yX3_isDark : MethodName := ⟨RX3, "isDark", "(II)Z"⟩
def dkwX3_isDark_0 : List UInt8 := [42, 180, 0, 9, 28, 46, 27, 122, 4, 126, 4, 160, 0, 7, 4, 167, 0, 4, 3, 172]
abbrev dktX3_isDark_0 : List UInt8 := dkwX3_isDark_0 ++ []
theorem dksX3_isDark_0 : cX3_isDark.data.toList.drop 0 = dktX3_isDark_0 := by decide +kernel
theorem dX3_isDark_0 : decode cX3_isDark 0 = .ok (.aload_n 0, 1) := dk_42 (dk_at dksX3_isDark_0 0 rfl rfl)
theorem dX3_isDark_1 : decode cX3_isDark 1 = .ok (.getfield 9, 3) := dk_180 0 9 (dk_at dksX3_isDark_0 1 rfl rfl)
theorem dX3_isDark_4 : decode cX3_isDark 4 = .ok (.iload_n 2, 1) := dk_28 (dk_at dksX3_isDark_0 4 rfl rfl)
theorem dX3_isDark_5 : decode cX3_isDark 5 = .ok (.iaload, 1) := dk_46 (dk_at dksX3_isDark_0 5 rfl rfl)
theorem dX3_isDark_6 : decode cX3_isDark 6 = .ok (.iload_n 1, 1) := dk_27 (dk_at dksX3_isDark_0 6 rfl rfl)
theorem dX3_isDark_7 : decode cX3_isDark 7 = .ok (.ishr, 1) := dk_122 (dk_at dksX3_isDark_0 7 rfl rfl)
theorem dX3_isDark_8 : decode cX3_isDark 8 = .ok (.iconst 1, 1) := dk_4 (dk_at dksX3_isDark_0 8 rfl rfl)
theorem dX3_isDark_9 : decode cX3_isDark 9 = .ok (.iand, 1) := dk_126 (dk_at dksX3_isDark_0 9 rfl rfl)
theorem dX3_isDark_10 : decode cX3_isDark 10 = .ok (.iconst 1, 1) := dk_4 (dk_at dksX3_isDark_0 10 rfl rfl)
theorem dX3_isDark_11 : decode cX3_isDark 11 = .ok (.if_icmp .ne 7, 3) := dk_160 0 7 (dk_at dksX3_isDark_0 11 rfl rfl)
theorem dX3_isDark_14 : decode cX3_isDark 14 = .ok (.iconst 1, 1) := dk_4 (dk_at dksX3_isDark_0 14 rfl rfl)
theorem dX3_isDark_15 : decode cX3_isDark 15 = .ok (.goto 4, 3) := dk_167 0 4 (dk_at dksX3_isDark_0 15 rfl rfl)
theorem dX3_isDark_18 : decode cX3_isDark 18 = .ok (.iconst 0, 1) := dk_3 (dk_at dksX3_isDark_0 18 rfl rfl)
theorem dX3_isDark_19 : decode cX3_isDark 19 = .ok (.ireturn, 1) := dk_172 (dk_at dksX3_isDark_0 19 rfl rfl)
abbrev cX3_join : ByteArray := prog_5_method_4_code
def yX3_join : MethodName := ⟨RX3, "join", "(IZZ)Z"⟩
def dkwX3_join_4 : List UInt8 := [160, 0, 7, 4, 167, 0, 8, 3, 167, 0, 4, 29, 172]
abbrev dktX3_join_4 : List UInt8 := dkwX3_join_4 ++ []
def dkwX3_join_3 : List UInt8 := [4, 167, 0, 34, 3, 167, 0, 30, 28, 29, 159, 0, 7, 4, 167, 0, 21, 3, 167, 0, 17, 28, 29]
abbrev dktX3_join_3 : List UInt8 := dkwX3_join_3 ++ dktX3_join_4
def dkwX3_join_2 : List UInt8 := [28, 154, 0, 7, 29, 153, 0, 7, 4, 167, 0, 50, 3, 167, 0, 46, 28, 153, 0, 11, 29, 153, 0, 7]
abbrev dktX3_join_2 : List UInt8 := dkwX3_join_2 ++ dktX3_join_3
def dkwX3_join_1 : List UInt8 := [170, 0, 0, 0, 0, 0, 89, 0, 0, 0, 0, 0, 0, 0, 3, 0, 0, 0, 31, 0, 0, 0, 47, 0, 0, 0, 63, 0, 0, 0, 76]
abbrev dktX3_join_1 : List UInt8 := dkwX3_join_1 ++ dktX3_join_2
def dkwX3_join_0 : List UInt8 := [27]
abbrev dktX3_join_0 : List UInt8 := dkwX3_join_0 ++ dktX3_join_1
theorem dksX3_join_0 : cX3_join.data.toList.drop 0 = dktX3_join_0 := by decide +kernel
theorem dksX3_join_1 : cX3_join.data.toList.drop 1 = dktX3_join_1 := dk_seg dksX3_join_0 1 rfl rfl
theorem dksX3_join_2 : cX3_join.data.toList.drop 32 = dktX3_join_2 := dk_seg dksX3_join_1 31 rfl rfl
theorem dksX3_join_3 : cX3_join.data.toList.drop 56 = dktX3_join_3 := dk_seg dksX3_join_2 24 rfl rfl
theorem dksX3_join_4 : cX3_join.data.toList.drop 79 = dktX3_join_4 := dk_seg dksX3_join_3 23 rfl rfl
theorem dX3_join_0 : decode cX3_join 0 = .ok (.iload_n 1, 1) := dk_27 (dk_at dksX3_join_0 0 rfl rfl)
theorem dX3_join_1 : decode cX3_join 1 = .ok (.tableswitch 89 0 3 #[31, 47, 63, 76], 31) := by decide +kernel
theorem dX3_join_32 : decode cX3_join 32 = .ok (.iload_n 2, 1) := dk_28 (dk_at dksX3_join_2 0 rfl rfl)
theorem dX3_join_33 : decode cX3_join 33 = .ok (.ifCond .ne 7, 3) := dk_154 0 7 (dk_at dksX3_join_2 1 rfl rfl)
theorem dX3_join_36 : decode cX3_join 36 = .ok (.iload_n 3, 1) := dk_29 (dk_at dksX3_join_2 4 rfl rfl)
theorem dX3_join_37 : decode cX3_join 37 = .ok (.ifCond .eq 7, 3) := dk_153 0 7 (dk_at dksX3_join_2 5 rfl rfl)
theorem dX3_join_40 : decode cX3_join 40 = .ok (.iconst 1, 1) := dk_4 (dk_at dksX3_join_2 8 rfl rfl)
theorem dX3_join_41 : decode cX3_join 41 = .ok (.goto 50, 3) := dk_167 0 50 (dk_at dksX3_join_2 9 rfl rfl)
theorem dX3_join_44 : decode cX3_join 44 = .ok (.iconst 0, 1) := dk_3 (dk_at dksX3_join_2 12 rfl rfl)
theorem dX3_join_45 : decode cX3_join 45 = .ok (.goto 46, 3) := dk_167 0 46 (dk_at dksX3_join_2 13 rfl rfl)
theorem dX3_join_48 : decode cX3_join 48 = .ok (.iload_n 2, 1) := dk_28 (dk_at dksX3_join_2 16 rfl rfl)
theorem dX3_join_49 : decode cX3_join 49 = .ok (.ifCond .eq 11, 3) := dk_153 0 11 (dk_at dksX3_join_2 17 rfl rfl)
theorem dX3_join_52 : decode cX3_join 52 = .ok (.iload_n 3, 1) := dk_29 (dk_at dksX3_join_2 20 rfl rfl)
theorem dX3_join_53 : decode cX3_join 53 = .ok (.ifCond .eq 7, 3) := dk_153 0 7 (dk_at dksX3_join_2 21 rfl rfl)
theorem dX3_join_56 : decode cX3_join 56 = .ok (.iconst 1, 1) := dk_4 (dk_at dksX3_join_3 0 rfl rfl)
theorem dX3_join_57 : decode cX3_join 57 = .ok (.goto 34, 3) := dk_167 0 34 (dk_at dksX3_join_3 1 rfl rfl)
theorem dX3_join_60 : decode cX3_join 60 = .ok (.iconst 0, 1) := dk_3 (dk_at dksX3_join_3 4 rfl rfl)
theorem dX3_join_61 : decode cX3_join 61 = .ok (.goto 30, 3) := dk_167 0 30 (dk_at dksX3_join_3 5 rfl rfl)
theorem dX3_join_64 : decode cX3_join 64 = .ok (.iload_n 2, 1) := dk_28 (dk_at dksX3_join_3 8 rfl rfl)
theorem dX3_join_65 : decode cX3_join 65 = .ok (.iload_n 3, 1) := dk_29 (dk_at dksX3_join_3 9 rfl rfl)
theorem dX3_join_66 : decode cX3_join 66 = .ok (.if_icmp .eq 7, 3) := dk_159 0 7 (dk_at dksX3_join_3 10 rfl rfl)
theorem dX3_join_69 : decode cX3_join 69 = .ok (.iconst 1, 1) := dk_4 (dk_at dksX3_join_3 13 rfl rfl)
theorem dX3_join_70 : decode cX3_join 70 = .ok (.goto 21, 3) := dk_167 0 21 (dk_at dksX3_join_3 14 rfl rfl)
theorem dX3_join_73 : decode cX3_join 73 = .ok (.iconst 0, 1) := dk_3 (dk_at dksX3_join_3 17 rfl rfl)
theorem dX3_join_74 : decode cX3_join 74 = .ok (.goto 17, 3) := dk_167 0 17 (dk_at dksX3_join_3 18 rfl rfl)
theorem dX3_join_77 : decode cX3_join 77 = .ok (.iload_n 2, 1) := dk_28 (dk_at dksX3_join_3 21 rfl rfl)
theorem dX3_join_78 : decode cX3_join 78 = .ok (.iload_n 3, 1) := dk_29 (dk_at dksX3_join_3 22 rfl rfl)
theorem dX3_join_79 : decode cX3_join 79 = .ok (.if_icmp .ne 7, 3) := dk_160 0 7 (dk_at dksX3_join_4 0 rfl rfl)
theorem dX3_join_82 : decode cX3_join 82 = .ok (.iconst 1, 1) := dk_4 (dk_at dksX3_join_4 3 rfl rfl)
theorem dX3_join_83 : decode cX3_join 83 = .ok (.goto 8, 3) := dk_167 0 8 (dk_at dksX3_join_4 4 rfl rfl)
theorem dX3_join_86 : decode cX3_join 86 = .ok (.iconst 0, 1) := dk_3 (dk_at dksX3_join_4 7 rfl rfl)
theorem dX3_join_87 : decode cX3_join 87 = .ok (.goto 4, 3) := dk_167 0 4 (dk_at dksX3_join_4 8 rfl rfl)
theorem dX3_join_90 : decode cX3_join 90 = .ok (.iload_n 3, 1) := dk_29 (dk_at dksX3_join_4 11 rfl rfl)
theorem dX3_join_91 : decode cX3_join 91 = .ok (.ireturn, 1) := dk_172 (dk_at dksX3_join_4 12 rfl rfl)
abbrev cX3_begin : ByteArray := prog_5_method_2_code
def yX3_begin : MethodName := ⟨RX3, "begin", "(LBilevelPages$Segment;)V"⟩
def dkwX3_begin_3 : List UInt8 := [167, 255, 226, 177]
abbrev dktX3_begin_3 : List UInt8 := dkwX3_begin_3 ++ []
def dkwX3_begin_2 : List UInt8 := [180, 0, 9, 28, 43, 180, 0, 36, 5, 46, 4, 160, 0, 7, 2, 167, 0, 4, 3, 79, 132, 2, 1]
abbrev dktX3_begin_2 : List UInt8 := dkwX3_begin_2 ++ dktX3_begin_3
def dkwX3_begin_1 : List UInt8 := [180, 0, 36, 6, 46, 181, 0, 39, 42, 3, 181, 0, 42, 3, 61, 28, 16, 32, 162, 0, 30, 42]
abbrev dktX3_begin_1 : List UInt8 := dkwX3_begin_1 ++ dktX3_begin_2
def dkwX3_begin_0 : List UInt8 := [42, 4, 181, 0, 18, 42, 43, 182, 0, 22, 181, 0, 28, 42, 43, 182, 0, 31, 181, 0, 34, 42, 43]
abbrev dktX3_begin_0 : List UInt8 := dkwX3_begin_0 ++ dktX3_begin_1
theorem dksX3_begin_0 : cX3_begin.data.toList.drop 0 = dktX3_begin_0 := by decide +kernel
theorem dksX3_begin_1 : cX3_begin.data.toList.drop 23 = dktX3_begin_1 := dk_seg dksX3_begin_0 23 rfl rfl
theorem dksX3_begin_2 : cX3_begin.data.toList.drop 45 = dktX3_begin_2 := dk_seg dksX3_begin_1 22 rfl rfl
theorem dksX3_begin_3 : cX3_begin.data.toList.drop 68 = dktX3_begin_3 := dk_seg dksX3_begin_2 23 rfl rfl
theorem dX3_begin_0 : decode cX3_begin 0 = .ok (.aload_n 0, 1) := dk_42 (dk_at dksX3_begin_0 0 rfl rfl)
theorem dX3_begin_1 : decode cX3_begin 1 = .ok (.iconst 1, 1) := dk_4 (dk_at dksX3_begin_0 1 rfl rfl)
theorem dX3_begin_2 : decode cX3_begin 2 = .ok (.putfield 18, 3) := dk_181 0 18 (dk_at dksX3_begin_0 2 rfl rfl)
theorem dX3_begin_5 : decode cX3_begin 5 = .ok (.aload_n 0, 1) := dk_42 (dk_at dksX3_begin_0 5 rfl rfl)
theorem dX3_begin_6 : decode cX3_begin 6 = .ok (.aload_n 1, 1) := dk_43 (dk_at dksX3_begin_0 6 rfl rfl)
theorem dX3_begin_7 : decode cX3_begin 7 = .ok (.invokevirtual 22, 3) := dk_182 0 22 (dk_at dksX3_begin_0 7 rfl rfl)
theorem dX3_begin_10 : decode cX3_begin 10 = .ok (.putfield 28, 3) := dk_181 0 28 (dk_at dksX3_begin_0 10 rfl rfl)
theorem dX3_begin_13 : decode cX3_begin 13 = .ok (.aload_n 0, 1) := dk_42 (dk_at dksX3_begin_0 13 rfl rfl)
theorem dX3_begin_14 : decode cX3_begin 14 = .ok (.aload_n 1, 1) := dk_43 (dk_at dksX3_begin_0 14 rfl rfl)
theorem dX3_begin_15 : decode cX3_begin 15 = .ok (.invokevirtual 31, 3) := dk_182 0 31 (dk_at dksX3_begin_0 15 rfl rfl)
theorem dX3_begin_18 : decode cX3_begin 18 = .ok (.putfield 34, 3) := dk_181 0 34 (dk_at dksX3_begin_0 18 rfl rfl)
theorem dX3_begin_21 : decode cX3_begin 21 = .ok (.aload_n 0, 1) := dk_42 (dk_at dksX3_begin_0 21 rfl rfl)
theorem dX3_begin_22 : decode cX3_begin 22 = .ok (.aload_n 1, 1) := dk_43 (dk_at dksX3_begin_0 22 rfl rfl)
theorem dX3_begin_23 : decode cX3_begin 23 = .ok (.getfield 36, 3) := dk_180 0 36 (dk_at dksX3_begin_1 0 rfl rfl)
theorem dX3_begin_26 : decode cX3_begin 26 = .ok (.iconst 3, 1) := dk_6 (dk_at dksX3_begin_1 3 rfl rfl)
theorem dX3_begin_27 : decode cX3_begin 27 = .ok (.iaload, 1) := dk_46 (dk_at dksX3_begin_1 4 rfl rfl)
theorem dX3_begin_28 : decode cX3_begin 28 = .ok (.putfield 39, 3) := dk_181 0 39 (dk_at dksX3_begin_1 5 rfl rfl)
theorem dX3_begin_31 : decode cX3_begin 31 = .ok (.aload_n 0, 1) := dk_42 (dk_at dksX3_begin_1 8 rfl rfl)
theorem dX3_begin_32 : decode cX3_begin 32 = .ok (.iconst 0, 1) := dk_3 (dk_at dksX3_begin_1 9 rfl rfl)
theorem dX3_begin_33 : decode cX3_begin 33 = .ok (.putfield 42, 3) := dk_181 0 42 (dk_at dksX3_begin_1 10 rfl rfl)
theorem dX3_begin_36 : decode cX3_begin 36 = .ok (.iconst 0, 1) := dk_3 (dk_at dksX3_begin_1 13 rfl rfl)
theorem dX3_begin_37 : decode cX3_begin 37 = .ok (.istore_n 2, 1) := dk_61 (dk_at dksX3_begin_1 14 rfl rfl)
theorem dX3_begin_38 : decode cX3_begin 38 = .ok (.iload_n 2, 1) := dk_28 (dk_at dksX3_begin_1 15 rfl rfl)
theorem dX3_begin_39 : decode cX3_begin 39 = .ok (.bipush 32, 2) := dk_16 32 (dk_at dksX3_begin_1 16 rfl rfl)
theorem dX3_begin_41 : decode cX3_begin 41 = .ok (.if_icmp .ge 30, 3) := dk_162 0 30 (dk_at dksX3_begin_1 18 rfl rfl)
theorem dX3_begin_44 : decode cX3_begin 44 = .ok (.aload_n 0, 1) := dk_42 (dk_at dksX3_begin_1 21 rfl rfl)
theorem dX3_begin_45 : decode cX3_begin 45 = .ok (.getfield 9, 3) := dk_180 0 9 (dk_at dksX3_begin_2 0 rfl rfl)
theorem dX3_begin_48 : decode cX3_begin 48 = .ok (.iload_n 2, 1) := dk_28 (dk_at dksX3_begin_2 3 rfl rfl)
theorem dX3_begin_49 : decode cX3_begin 49 = .ok (.aload_n 1, 1) := dk_43 (dk_at dksX3_begin_2 4 rfl rfl)
theorem dX3_begin_50 : decode cX3_begin 50 = .ok (.getfield 36, 3) := dk_180 0 36 (dk_at dksX3_begin_2 5 rfl rfl)
theorem dX3_begin_53 : decode cX3_begin 53 = .ok (.iconst 2, 1) := dk_5 (dk_at dksX3_begin_2 8 rfl rfl)
theorem dX3_begin_54 : decode cX3_begin 54 = .ok (.iaload, 1) := dk_46 (dk_at dksX3_begin_2 9 rfl rfl)
theorem dX3_begin_55 : decode cX3_begin 55 = .ok (.iconst 1, 1) := dk_4 (dk_at dksX3_begin_2 10 rfl rfl)
theorem dX3_begin_56 : decode cX3_begin 56 = .ok (.if_icmp .ne 7, 3) := dk_160 0 7 (dk_at dksX3_begin_2 11 rfl rfl)
theorem dX3_begin_59 : decode cX3_begin 59 = .ok (.iconst (-1), 1) := dk_2 (dk_at dksX3_begin_2 14 rfl rfl)
theorem dX3_begin_60 : decode cX3_begin 60 = .ok (.goto 4, 3) := dk_167 0 4 (dk_at dksX3_begin_2 15 rfl rfl)
theorem dX3_begin_63 : decode cX3_begin 63 = .ok (.iconst 0, 1) := dk_3 (dk_at dksX3_begin_2 18 rfl rfl)
theorem dX3_begin_64 : decode cX3_begin 64 = .ok (.iastore, 1) := dk_79 (dk_at dksX3_begin_2 19 rfl rfl)
theorem dX3_begin_65 : decode cX3_begin 65 = .ok (.iinc 2 1, 3) := dk_132 2 1 (dk_at dksX3_begin_2 20 rfl rfl)
theorem dX3_begin_68 : decode cX3_begin 68 = .ok (.goto (-30), 3) := dk_167 255 226 (dk_at dksX3_begin_3 0 rfl rfl)
theorem dX3_begin_71 : decode cX3_begin 71 = .ok (.return_, 1) := dk_177 (dk_at dksX3_begin_3 3 rfl rfl)
abbrev cX3_lastRow : ByteArray := prog_5_method_3_code
def yX3_lastRow : MethodName := ⟨RX3, "lastRow", "()I"⟩
def dkwX3_lastRow_0 : List UInt8 := [42, 180, 0, 42, 154, 0, 7, 2, 167, 0, 14, 42, 180, 0, 15, 42, 180, 0, 42, 4, 100, 46, 172]
abbrev dktX3_lastRow_0 : List UInt8 := dkwX3_lastRow_0 ++ []
theorem dksX3_lastRow_0 : cX3_lastRow.data.toList.drop 0 = dktX3_lastRow_0 := by decide +kernel
theorem dX3_lastRow_0 : decode cX3_lastRow 0 = .ok (.aload_n 0, 1) := dk_42 (dk_at dksX3_lastRow_0 0 rfl rfl)
theorem dX3_lastRow_1 : decode cX3_lastRow 1 = .ok (.getfield 42, 3) := dk_180 0 42 (dk_at dksX3_lastRow_0 1 rfl rfl)
theorem dX3_lastRow_4 : decode cX3_lastRow 4 = .ok (.ifCond .ne 7, 3) := dk_154 0 7 (dk_at dksX3_lastRow_0 4 rfl rfl)
theorem dX3_lastRow_7 : decode cX3_lastRow 7 = .ok (.iconst (-1), 1) := dk_2 (dk_at dksX3_lastRow_0 7 rfl rfl)
theorem dX3_lastRow_8 : decode cX3_lastRow 8 = .ok (.goto 14, 3) := dk_167 0 14 (dk_at dksX3_lastRow_0 8 rfl rfl)
theorem dX3_lastRow_11 : decode cX3_lastRow 11 = .ok (.aload_n 0, 1) := dk_42 (dk_at dksX3_lastRow_0 11 rfl rfl)
theorem dX3_lastRow_12 : decode cX3_lastRow 12 = .ok (.getfield 15, 3) := dk_180 0 15 (dk_at dksX3_lastRow_0 12 rfl rfl)
theorem dX3_lastRow_15 : decode cX3_lastRow 15 = .ok (.aload_n 0, 1) := dk_42 (dk_at dksX3_lastRow_0 15 rfl rfl)
theorem dX3_lastRow_16 : decode cX3_lastRow 16 = .ok (.getfield 42, 3) := dk_180 0 42 (dk_at dksX3_lastRow_0 16 rfl rfl)
theorem dX3_lastRow_19 : decode cX3_lastRow 19 = .ok (.iconst 1, 1) := dk_4 (dk_at dksX3_lastRow_0 19 rfl rfl)
theorem dX3_lastRow_20 : decode cX3_lastRow 20 = .ok (.isub, 1) := dk_100 (dk_at dksX3_lastRow_0 20 rfl rfl)
theorem dX3_lastRow_21 : decode cX3_lastRow 21 = .ok (.iaload, 1) := dk_46 (dk_at dksX3_lastRow_0 21 rfl rfl)
theorem dX3_lastRow_22 : decode cX3_lastRow 22 = .ok (.ireturn, 1) := dk_172 (dk_at dksX3_lastRow_0 22 rfl rfl)
abbrev cX3_dark : ByteArray := prog_5_method_7_code
def yX3_dark : MethodName := ⟨RX3, "dark", "()I"⟩
def dkwX3_dark_2 : List UInt8 := [167, 255, 213, 27, 172]
abbrev dktX3_dark_2 : List UInt8 := dkwX3_dark_2 ++ []
def dkwX3_dark_1 : List UInt8 := [112, 28, 42, 180, 0, 28, 108, 182, 0, 45, 153, 0, 7, 4, 167, 0, 4, 3, 96, 60, 132, 2, 1]
abbrev dktX3_dark_1 : List UInt8 := dkwX3_dark_1 ++ dktX3_dark_2
def dkwX3_dark_0 : List UInt8 := [3, 60, 3, 61, 28, 42, 180, 0, 28, 42, 180, 0, 34, 104, 162, 0, 36, 27, 42, 28, 42, 180, 0, 28]
abbrev dktX3_dark_0 : List UInt8 := dkwX3_dark_0 ++ dktX3_dark_1
theorem dksX3_dark_0 : cX3_dark.data.toList.drop 0 = dktX3_dark_0 := by decide +kernel
theorem dksX3_dark_1 : cX3_dark.data.toList.drop 24 = dktX3_dark_1 := dk_seg dksX3_dark_0 24 rfl rfl
theorem dksX3_dark_2 : cX3_dark.data.toList.drop 47 = dktX3_dark_2 := dk_seg dksX3_dark_1 23 rfl rfl
theorem dX3_dark_0 : decode cX3_dark 0 = .ok (.iconst 0, 1) := dk_3 (dk_at dksX3_dark_0 0 rfl rfl)
theorem dX3_dark_1 : decode cX3_dark 1 = .ok (.istore_n 1, 1) := dk_60 (dk_at dksX3_dark_0 1 rfl rfl)
theorem dX3_dark_2 : decode cX3_dark 2 = .ok (.iconst 0, 1) := dk_3 (dk_at dksX3_dark_0 2 rfl rfl)
theorem dX3_dark_3 : decode cX3_dark 3 = .ok (.istore_n 2, 1) := dk_61 (dk_at dksX3_dark_0 3 rfl rfl)
theorem dX3_dark_4 : decode cX3_dark 4 = .ok (.iload_n 2, 1) := dk_28 (dk_at dksX3_dark_0 4 rfl rfl)
theorem dX3_dark_5 : decode cX3_dark 5 = .ok (.aload_n 0, 1) := dk_42 (dk_at dksX3_dark_0 5 rfl rfl)
theorem dX3_dark_6 : decode cX3_dark 6 = .ok (.getfield 28, 3) := dk_180 0 28 (dk_at dksX3_dark_0 6 rfl rfl)
theorem dX3_dark_9 : decode cX3_dark 9 = .ok (.aload_n 0, 1) := dk_42 (dk_at dksX3_dark_0 9 rfl rfl)
theorem dX3_dark_10 : decode cX3_dark 10 = .ok (.getfield 34, 3) := dk_180 0 34 (dk_at dksX3_dark_0 10 rfl rfl)
theorem dX3_dark_13 : decode cX3_dark 13 = .ok (.imul, 1) := dk_104 (dk_at dksX3_dark_0 13 rfl rfl)
theorem dX3_dark_14 : decode cX3_dark 14 = .ok (.if_icmp .ge 36, 3) := dk_162 0 36 (dk_at dksX3_dark_0 14 rfl rfl)
theorem dX3_dark_17 : decode cX3_dark 17 = .ok (.iload_n 1, 1) := dk_27 (dk_at dksX3_dark_0 17 rfl rfl)
theorem dX3_dark_18 : decode cX3_dark 18 = .ok (.aload_n 0, 1) := dk_42 (dk_at dksX3_dark_0 18 rfl rfl)
theorem dX3_dark_19 : decode cX3_dark 19 = .ok (.iload_n 2, 1) := dk_28 (dk_at dksX3_dark_0 19 rfl rfl)
theorem dX3_dark_20 : decode cX3_dark 20 = .ok (.aload_n 0, 1) := dk_42 (dk_at dksX3_dark_0 20 rfl rfl)
theorem dX3_dark_21 : decode cX3_dark 21 = .ok (.getfield 28, 3) := dk_180 0 28 (dk_at dksX3_dark_0 21 rfl rfl)
theorem dX3_dark_24 : decode cX3_dark 24 = .ok (.irem, 1) := dk_112 (dk_at dksX3_dark_1 0 rfl rfl)
theorem dX3_dark_25 : decode cX3_dark 25 = .ok (.iload_n 2, 1) := dk_28 (dk_at dksX3_dark_1 1 rfl rfl)
theorem dX3_dark_26 : decode cX3_dark 26 = .ok (.aload_n 0, 1) := dk_42 (dk_at dksX3_dark_1 2 rfl rfl)
theorem dX3_dark_27 : decode cX3_dark 27 = .ok (.getfield 28, 3) := dk_180 0 28 (dk_at dksX3_dark_1 3 rfl rfl)
theorem dX3_dark_30 : decode cX3_dark 30 = .ok (.idiv, 1) := dk_108 (dk_at dksX3_dark_1 6 rfl rfl)
theorem dX3_dark_31 : decode cX3_dark 31 = .ok (.invokevirtual 45, 3) := dk_182 0 45 (dk_at dksX3_dark_1 7 rfl rfl)
theorem dX3_dark_34 : decode cX3_dark 34 = .ok (.ifCond .eq 7, 3) := dk_153 0 7 (dk_at dksX3_dark_1 10 rfl rfl)
theorem dX3_dark_37 : decode cX3_dark 37 = .ok (.iconst 1, 1) := dk_4 (dk_at dksX3_dark_1 13 rfl rfl)
theorem dX3_dark_38 : decode cX3_dark 38 = .ok (.goto 4, 3) := dk_167 0 4 (dk_at dksX3_dark_1 14 rfl rfl)
theorem dX3_dark_41 : decode cX3_dark 41 = .ok (.iconst 0, 1) := dk_3 (dk_at dksX3_dark_1 17 rfl rfl)
theorem dX3_dark_42 : decode cX3_dark 42 = .ok (.iadd, 1) := dk_96 (dk_at dksX3_dark_1 18 rfl rfl)
theorem dX3_dark_43 : decode cX3_dark 43 = .ok (.istore_n 1, 1) := dk_60 (dk_at dksX3_dark_1 19 rfl rfl)
theorem dX3_dark_44 : decode cX3_dark 44 = .ok (.iinc 2 1, 3) := dk_132 2 1 (dk_at dksX3_dark_1 20 rfl rfl)
theorem dX3_dark_47 : decode cX3_dark 47 = .ok (.goto (-43), 3) := dk_167 255 213 (dk_at dksX3_dark_2 0 rfl rfl)
theorem dX3_dark_50 : decode cX3_dark 50 = .ok (.iload_n 1, 1) := dk_27 (dk_at dksX3_dark_2 3 rfl rfl)
theorem dX3_dark_51 : decode cX3_dark 51 = .ok (.ireturn, 1) := dk_172 (dk_at dksX3_dark_2 4 rfl rfl)
theorem q78 : (Jvm.Cond.initialized "BilevelPages$Sheet") ∈ lw_all := lw_g (lw_at lw_m1 7 rfl) rfl
theorem q179 : (Jvm.Cond.instantiable "BilevelPages$Sheet" (7 : Nat)) ∈ lw_all := lw_g (lw_at lw_m1 108 rfl) rfl
theorem q181 : (Jvm.Cond.instanceMethod ({ cls := "BilevelPages$Sheet", name := "<init>", desc := "()V" } : Jvm.MethodName)) ∈ lw_all := lw_g (lw_at lw_m1 110 rfl) rfl
theorem q182 : (Jvm.Cond.code ({ cls := "BilevelPages$Sheet", name := "<init>", desc := "()V" } : Jvm.MethodName) prog_5_method_1_code (1 : Nat) (Option.none : Option Jvm.ClassFile.FieldType)) ∈ lw_all := lw_g (lw_at lw_m1 111 rfl) rfl
theorem q183 : (Jvm.Cond.methodLink "BilevelPages$Sheet" (3 : Nat) ({ cls := "java/lang/Object", name := "<init>", desc := "()V" } : Jvm.MethodName)) ∈ lw_all := lw_g (lw_at lw_m1 112 rfl) rfl
theorem q184 : (Jvm.Cond.fieldLink "BilevelPages$Sheet" (9 : Nat) "BilevelPages$Sheet" "rows" "[I") ∈ lw_all := lw_g (lw_at lw_m1 113 rfl) rfl
theorem q185 : (Jvm.Cond.fieldLink "BilevelPages$Sheet" (15 : Nat) "BilevelPages$Sheet" "stripes" "[I") ∈ lw_all := lw_g (lw_at lw_m1 114 rfl) rfl
theorem q188 : (Jvm.Cond.fieldLink "BilevelPages$Sheet" (42 : Nat) "BilevelPages$Sheet" "stripeMany" "I") ∈ lw_all := lw_g (lw_at lw_m1 117 rfl) rfl
theorem q191 : (Jvm.Cond.fieldLink "BilevelPages$Sheet" (28 : Nat) "BilevelPages$Sheet" "wide" "I") ∈ lw_all := lw_g (lw_at lw_m1 120 rfl) rfl
theorem q193 : (Jvm.Cond.fieldLink "BilevelPages$Sheet" (34 : Nat) "BilevelPages$Sheet" "high" "I") ∈ lw_all := lw_g (lw_at lw_m1 122 rfl) rfl
theorem q196 : (Jvm.Cond.fieldLink "BilevelPages$Sheet" (39 : Nat) "BilevelPages$Sheet" "operator" "I") ∈ lw_all := lw_g (lw_at lw_m1 125 rfl) rfl
theorem q197 : (Jvm.Cond.fieldLink "BilevelPages$Sheet" (18 : Nat) "BilevelPages$Sheet" "isThere" "Z") ∈ lw_all := lw_g (lw_at lw_m1 126 rfl) rfl
theorem q200 : (Jvm.Cond.laysFinal "BilevelPages$Sheet" "BilevelPages$Sheet" "rows" "[I") ∈ lw_all := lw_g (lw_at lw_m1 129 rfl) rfl
theorem q201 : (Jvm.Cond.soleField "BilevelPages$Sheet" "rows") ∈ lw_all := lw_g (lw_at lw_m1 130 rfl) rfl
theorem q202 : (Jvm.Cond.laysFinal "BilevelPages$Sheet" "BilevelPages$Sheet" "stripes" "[I") ∈ lw_all := lw_g (lw_at lw_m1 131 rfl) rfl
theorem q203 : (Jvm.Cond.soleField "BilevelPages$Sheet" "stripes") ∈ lw_all := lw_g (lw_at lw_m1 132 rfl) rfl
theorem q204 : (Jvm.Cond.lays "BilevelPages$Sheet" "BilevelPages$Sheet" "stripeMany" "I") ∈ lw_all := lw_g (lw_at lw_m1 133 rfl) rfl
theorem q205 : (Jvm.Cond.soleField "BilevelPages$Sheet" "stripeMany") ∈ lw_all := lw_g (lw_at lw_m1 134 rfl) rfl
theorem q206 : (Jvm.Cond.lays "BilevelPages$Sheet" "BilevelPages$Sheet" "wide" "I") ∈ lw_all := lw_g (lw_at lw_m1 135 rfl) rfl
theorem q207 : (Jvm.Cond.soleField "BilevelPages$Sheet" "wide") ∈ lw_all := lw_g (lw_at lw_m1 136 rfl) rfl
theorem q208 : (Jvm.Cond.lays "BilevelPages$Sheet" "BilevelPages$Sheet" "high" "I") ∈ lw_all := lw_g (lw_at lw_m1 137 rfl) rfl
theorem q209 : (Jvm.Cond.soleField "BilevelPages$Sheet" "high") ∈ lw_all := lw_g (lw_at lw_m1 138 rfl) rfl
theorem q210 : (Jvm.Cond.lays "BilevelPages$Sheet" "BilevelPages$Sheet" "operator" "I") ∈ lw_all := lw_g (lw_at lw_m1 139 rfl) rfl
theorem q211 : (Jvm.Cond.soleField "BilevelPages$Sheet" "operator") ∈ lw_all := lw_g (lw_at lw_m1 140 rfl) rfl
theorem q212 : (Jvm.Cond.lays "BilevelPages$Sheet" "BilevelPages$Sheet" "isThere" "Z") ∈ lw_all := lw_g (lw_at lw_m1 141 rfl) rfl
theorem q213 : (Jvm.Cond.soleField "BilevelPages$Sheet" "isThere") ∈ lw_all := lw_g (lw_at lw_m1 142 rfl) rfl
theorem q214 : (Jvm.Cond.superclass "BilevelPages$Sheet" "java/lang/Object") ∈ lw_all := lw_g (lw_at lw_m1 143 rfl) rfl
theorem q242 : (Jvm.Cond.fieldLinkNest "BilevelPages$Sheet" (36 : Nat) "BilevelPages$Segment" "numbers" "[I" "BilevelPages") ∈ lw_tbl := lw_at lw_m1 171 rfl
theorem q250 : (Jvm.Cond.fieldLinkNest "BilevelPages$Sheet" (49 : Nat) "BilevelPages$Segment" "rows" "[I" "BilevelPages") ∈ lw_tbl := lw_at lw_m1 179 rfl
theorem q542 : (Jvm.Cond.selects "BilevelPages$Sheet" ({ cls := "java/lang/Object", name := "getClass", desc := "()Ljava/lang/Class;" } : Jvm.MethodName) ({ cls := "java/lang/Object", name := "getClass", desc := "()Ljava/lang/Class;" } : Jvm.MethodName)) ∈ lw_all := lw_g (lw_at lw_m2 231 rfl) rfl
theorem q674 : (Jvm.Cond.instanceMethod ({ cls := "BilevelPages$Sheet", name := "draw", desc := "(LBilevelPages$Segment;)V" } : Jvm.MethodName)) ∈ lw_all := lw_g (lw_at lw_m3 123 rfl) rfl
theorem q675 : (Jvm.Cond.selects "BilevelPages$Sheet" ({ cls := "BilevelPages$Sheet", name := "draw", desc := "(LBilevelPages$Segment;)V" } : Jvm.MethodName) ({ cls := "BilevelPages$Sheet", name := "draw", desc := "(LBilevelPages$Segment;)V" } : Jvm.MethodName)) ∈ lw_all := lw_g (lw_at lw_m3 124 rfl) rfl
theorem q676 : (Jvm.Cond.code ({ cls := "BilevelPages$Sheet", name := "draw", desc := "(LBilevelPages$Segment;)V" } : Jvm.MethodName) prog_5_method_6_code (8 : Nat) (Option.none : Option Jvm.ClassFile.FieldType)) ∈ lw_all := lw_g (lw_at lw_m3 125 rfl) rfl
theorem q677 : (Jvm.Cond.methodLink "BilevelPages$Sheet" (22 : Nat) ({ cls := "BilevelPages$Segment", name := "wide", desc := "()I" } : Jvm.MethodName)) ∈ lw_all := lw_g (lw_at lw_m3 126 rfl) rfl
theorem q678 : (Jvm.Cond.methodLink "BilevelPages$Sheet" (31 : Nat) ({ cls := "BilevelPages$Segment", name := "high", desc := "()I" } : Jvm.MethodName)) ∈ lw_all := lw_g (lw_at lw_m3 127 rfl) rfl
theorem q679 : (Jvm.Cond.methodLink "BilevelPages$Sheet" (45 : Nat) ({ cls := "BilevelPages$Sheet", name := "isDark", desc := "(II)Z" } : Jvm.MethodName)) ∈ lw_all := lw_g (lw_at lw_m3 128 rfl) rfl
theorem q680 : (Jvm.Cond.privateMethod ({ cls := "BilevelPages$Sheet", name := "isDark", desc := "(II)Z" } : Jvm.MethodName)) ∈ lw_tbl := lw_at lw_m3 129 rfl
theorem q681 : (Jvm.Cond.instanceMethod ({ cls := "BilevelPages$Sheet", name := "isDark", desc := "(II)Z" } : Jvm.MethodName)) ∈ lw_all := lw_g (lw_at lw_m3 130 rfl) rfl
theorem q682 : (Jvm.Cond.code ({ cls := "BilevelPages$Sheet", name := "isDark", desc := "(II)Z" } : Jvm.MethodName) prog_5_method_5_code (3 : Nat) (Option.some Jvm.ClassFile.FieldType.boolean)) ∈ lw_all := lw_g (lw_at lw_m3 131 rfl) rfl
theorem q683 : (Jvm.Cond.methodLink "BilevelPages$Sheet" (50 : Nat) ({ cls := "BilevelPages$Sheet", name := "join", desc := "(IZZ)Z" } : Jvm.MethodName)) ∈ lw_all := lw_g (lw_at lw_m3 132 rfl) rfl
theorem q684 : (Jvm.Cond.privateMethod ({ cls := "BilevelPages$Sheet", name := "join", desc := "(IZZ)Z" } : Jvm.MethodName)) ∈ lw_tbl := lw_at lw_m3 133 rfl
theorem q685 : (Jvm.Cond.instanceMethod ({ cls := "BilevelPages$Sheet", name := "join", desc := "(IZZ)Z" } : Jvm.MethodName)) ∈ lw_all := lw_g (lw_at lw_m3 134 rfl) rfl
theorem q686 : (Jvm.Cond.code ({ cls := "BilevelPages$Sheet", name := "join", desc := "(IZZ)Z" } : Jvm.MethodName) prog_5_method_4_code (4 : Nat) (Option.some Jvm.ClassFile.FieldType.boolean)) ∈ lw_all := lw_g (lw_at lw_m3 135 rfl) rfl
theorem q692 : (Jvm.Cond.instanceMethod ({ cls := "BilevelPages$Sheet", name := "begin", desc := "(LBilevelPages$Segment;)V" } : Jvm.MethodName)) ∈ lw_all := lw_g (lw_at lw_m3 141 rfl) rfl
theorem q693 : (Jvm.Cond.selects "BilevelPages$Sheet" ({ cls := "BilevelPages$Sheet", name := "begin", desc := "(LBilevelPages$Segment;)V" } : Jvm.MethodName) ({ cls := "BilevelPages$Sheet", name := "begin", desc := "(LBilevelPages$Segment;)V" } : Jvm.MethodName)) ∈ lw_all := lw_g (lw_at lw_m3 142 rfl) rfl
theorem q694 : (Jvm.Cond.code ({ cls := "BilevelPages$Sheet", name := "begin", desc := "(LBilevelPages$Segment;)V" } : Jvm.MethodName) prog_5_method_2_code (3 : Nat) (Option.none : Option Jvm.ClassFile.FieldType)) ∈ lw_all := lw_g (lw_at lw_m3 143 rfl) rfl
theorem q700 : (Jvm.Cond.instanceMethod ({ cls := "BilevelPages$Sheet", name := "lastRow", desc := "()I" } : Jvm.MethodName)) ∈ lw_all := lw_g (lw_at lw_m3 149 rfl) rfl
theorem q701 : (Jvm.Cond.selects "BilevelPages$Sheet" ({ cls := "BilevelPages$Sheet", name := "lastRow", desc := "()I" } : Jvm.MethodName) ({ cls := "BilevelPages$Sheet", name := "lastRow", desc := "()I" } : Jvm.MethodName)) ∈ lw_all := lw_g (lw_at lw_m3 150 rfl) rfl
theorem q702 : (Jvm.Cond.code ({ cls := "BilevelPages$Sheet", name := "lastRow", desc := "()I" } : Jvm.MethodName) prog_5_method_3_code (1 : Nat) (Option.some Jvm.ClassFile.FieldType.int)) ∈ lw_all := lw_g (lw_at lw_m3 151 rfl) rfl
theorem q1056 : (Jvm.Cond.instanceMethod ({ cls := "BilevelPages$Sheet", name := "dark", desc := "()I" } : Jvm.MethodName)) ∈ lw_all := lw_g (lw_at lw_m5 25 rfl) rfl
theorem q1057 : (Jvm.Cond.selects "BilevelPages$Sheet" ({ cls := "BilevelPages$Sheet", name := "dark", desc := "()I" } : Jvm.MethodName) ({ cls := "BilevelPages$Sheet", name := "dark", desc := "()I" } : Jvm.MethodName)) ∈ lw_all := lw_g (lw_at lw_m5 26 rfl) rfl
theorem q1058 : (Jvm.Cond.code ({ cls := "BilevelPages$Sheet", name := "dark", desc := "()I" } : Jvm.MethodName) prog_5_method_7_code (3 : Nat) (Option.some Jvm.ClassFile.FieldType.int)) ∈ lw_all := lw_g (lw_at lw_m5 27 rfl) rfl
theorem q1498 : (Jvm.Cond.castable "BilevelPages$Sheet" "java/lang/Object") ∈ lw_tbl := lw_at lw_m6 227 rfl
theorem in_X3 : ∀ w ∈ wsX30, w ∈ lw_all := lw_in wsX30 [200, 202, 204, 206, 208, 210, 212] (by decide +kernel) (by decide +kernel)
/-! BilevelPages$Segment -/
set_option maxRecDepth 100000
def RX4 : String := "BilevelPages$Segment"
def TX4 : u_T := fun k => match k with
  | 0 => ("BilevelPages$Segment", "kind", "LBilevelPages$Kind;", false)
  | 1 => ("BilevelPages$Segment", "page", "I", false)
  | 2 => ("BilevelPages$Segment", "number", "I", false)
  | 3 => ("BilevelPages$Segment", "refers", "[I", true)
  | 4 => ("BilevelPages$Segment", "references", "I", false)
  | 5 => ("BilevelPages$Segment", "letsGo", "I", false)
  | 6 => ("BilevelPages$Segment", "numbers", "[I", true)
  | 7 => ("BilevelPages$Segment", "bytes", "[B", true)
  | 8 => ("BilevelPages$Segment", "byteMany", "I", false)
  | 9 => ("BilevelPages$Segment", "rows", "[I", true)
  | 10 => ("BilevelPages$Segment", "at", "I", false)
  | 11 => ("BilevelPages$Segment", "length", "J", false)
  | _ => ("BilevelPages$Segment", "goneBy", "I", false)
def tyX4 : Nat → FieldType := fun k => match k with
  | 0 => .object "BilevelPages$Kind"
  | 1 => .int
  | 2 => .int
  | 3 => .array .int
  | 4 => .int
  | 5 => .int
  | 6 => .array .int
  | 7 => .array .byte
  | 8 => .int
  | 9 => .array .int
  | 10 => .int
  | 11 => .long
  | _ => .int
abbrev wsX40 : List Cond := u_ws RX4 TX4 13
set_option maxRecDepth 100000 in
theorem nmX4 : ∀ a, a < 13 → ∀ b, b < 13 → a ≠ b → (TX4 a).2.1 ≠ (TX4 b).2.1 := by decide +kernel
set_option maxRecDepth 100000 in
theorem tyX4_ok : ∀ k, k < 13 → parseFieldDescriptor (TX4 k).2.2.1 = some (tyX4 k) := by decide +kernel
abbrev cX4_init : ByteArray := prog_4_method_1_code
def yX4_init : MethodName := ⟨RX4, "<init>", "()V"⟩
def dkwX4_init_2 : List UInt8 := [177]
abbrev dktX4_init_2 : List UInt8 := dkwX4_init_2 ++ []
def dkwX4_init_1 : List UInt8 := [181, 0, 24, 42, 16, 20, 188, 8, 181, 0, 27, 42, 16, 16, 188, 10, 181, 0, 31, 42, 2, 181, 0, 34]
abbrev dktX4_init_1 : List UInt8 := dkwX4_init_1 ++ dktX4_init_2
def dkwX4_init_0 : List UInt8 := [42, 183, 0, 3, 42, 178, 0, 9, 181, 0, 15, 42, 16, 10, 188, 10, 181, 0, 20, 42, 16, 6, 188, 10]
abbrev dktX4_init_0 : List UInt8 := dkwX4_init_0 ++ dktX4_init_1
theorem dksX4_init_0 : cX4_init.data.toList.drop 0 = dktX4_init_0 := by decide +kernel
theorem dksX4_init_1 : cX4_init.data.toList.drop 24 = dktX4_init_1 := dk_seg dksX4_init_0 24 rfl rfl
theorem dksX4_init_2 : cX4_init.data.toList.drop 48 = dktX4_init_2 := dk_seg dksX4_init_1 24 rfl rfl
theorem dX4_init_0 : decode cX4_init 0 = .ok (.aload_n 0, 1) := dk_42 (dk_at dksX4_init_0 0 rfl rfl)
theorem dX4_init_1 : decode cX4_init 1 = .ok (.invokespecial 3, 3) := dk_183 0 3 (dk_at dksX4_init_0 1 rfl rfl)
theorem dX4_init_4 : decode cX4_init 4 = .ok (.aload_n 0, 1) := dk_42 (dk_at dksX4_init_0 4 rfl rfl)
theorem dX4_init_5 : decode cX4_init 5 = .ok (.getstatic 9, 3) := dk_178 0 9 (dk_at dksX4_init_0 5 rfl rfl)
theorem dX4_init_8 : decode cX4_init 8 = .ok (.putfield 15, 3) := dk_181 0 15 (dk_at dksX4_init_0 8 rfl rfl)
theorem dX4_init_11 : decode cX4_init 11 = .ok (.aload_n 0, 1) := dk_42 (dk_at dksX4_init_0 11 rfl rfl)
theorem dX4_init_12 : decode cX4_init 12 = .ok (.bipush 10, 2) := dk_16 10 (dk_at dksX4_init_0 12 rfl rfl)
theorem dX4_init_14 : decode cX4_init 14 = .ok (.newarray .int, 2) := dk_188_10 (dk_at dksX4_init_0 14 rfl rfl)
theorem dX4_init_16 : decode cX4_init 16 = .ok (.putfield 20, 3) := dk_181 0 20 (dk_at dksX4_init_0 16 rfl rfl)
theorem dX4_init_19 : decode cX4_init 19 = .ok (.aload_n 0, 1) := dk_42 (dk_at dksX4_init_0 19 rfl rfl)
theorem dX4_init_20 : decode cX4_init 20 = .ok (.bipush 6, 2) := dk_16 6 (dk_at dksX4_init_0 20 rfl rfl)
theorem dX4_init_22 : decode cX4_init 22 = .ok (.newarray .int, 2) := dk_188_10 (dk_at dksX4_init_0 22 rfl rfl)
theorem dX4_init_24 : decode cX4_init 24 = .ok (.putfield 24, 3) := dk_181 0 24 (dk_at dksX4_init_1 0 rfl rfl)
theorem dX4_init_27 : decode cX4_init 27 = .ok (.aload_n 0, 1) := dk_42 (dk_at dksX4_init_1 3 rfl rfl)
theorem dX4_init_28 : decode cX4_init 28 = .ok (.bipush 20, 2) := dk_16 20 (dk_at dksX4_init_1 4 rfl rfl)
theorem dX4_init_30 : decode cX4_init 30 = .ok (.newarray .byte, 2) := dk_188_8 (dk_at dksX4_init_1 6 rfl rfl)
theorem dX4_init_32 : decode cX4_init 32 = .ok (.putfield 27, 3) := dk_181 0 27 (dk_at dksX4_init_1 8 rfl rfl)
theorem dX4_init_35 : decode cX4_init 35 = .ok (.aload_n 0, 1) := dk_42 (dk_at dksX4_init_1 11 rfl rfl)
theorem dX4_init_36 : decode cX4_init 36 = .ok (.bipush 16, 2) := dk_16 16 (dk_at dksX4_init_1 12 rfl rfl)
theorem dX4_init_38 : decode cX4_init 38 = .ok (.newarray .int, 2) := dk_188_10 (dk_at dksX4_init_1 14 rfl rfl)
theorem dX4_init_40 : decode cX4_init 40 = .ok (.putfield 31, 3) := dk_181 0 31 (dk_at dksX4_init_1 16 rfl rfl)
theorem dX4_init_43 : decode cX4_init 43 = .ok (.aload_n 0, 1) := dk_42 (dk_at dksX4_init_1 19 rfl rfl)
theorem dX4_init_44 : decode cX4_init 44 = .ok (.iconst (-1), 1) := dk_2 (dk_at dksX4_init_1 20 rfl rfl)
theorem dX4_init_45 : decode cX4_init 45 = .ok (.putfield 34, 3) := dk_181 0 34 (dk_at dksX4_init_1 21 rfl rfl)
theorem dX4_init_48 : decode cX4_init 48 = .ok (.return_, 1) := dk_177 (dk_at dksX4_init_2 0 rfl rfl)
abbrev cX4_begin : ByteArray := prog_4_method_2_code
def yX4_begin : MethodName := ⟨RX4, "begin", "(LBilevelPages$Kind;II)LBilevelPages$Segment;"⟩
def dkwX4_begin_5 : List UInt8 := [167, 255, 238, 42, 176]
abbrev dktX4_begin_5 : List UInt8 := dkwX4_begin_5 ++ []
def dkwX4_begin_4 : List UInt8 := [167, 255, 210, 3, 54, 4, 21, 4, 16, 16, 162, 0, 17, 42, 180, 0, 31, 21, 4, 3, 79, 132, 4, 1]
abbrev dktX4_begin_4 : List UInt8 := dkwX4_begin_4 ++ dktX4_begin_5
def dkwX4_begin_3 : List UInt8 := [162, 0, 10, 43, 178, 0, 62, 166, 0, 7, 3, 167, 0, 9, 43, 21, 4, 182, 0, 65, 79, 132, 4, 1]
abbrev dktX4_begin_3 : List UInt8 := dkwX4_begin_3 ++ dktX4_begin_4
def dkwX4_begin_2 : List UInt8 := [54, 4, 21, 4, 42, 180, 0, 24, 190, 162, 0, 42, 42, 180, 0, 24, 21, 4, 21, 4, 43, 180, 0, 60]
abbrev dktX4_begin_2 : List UInt8 := dkwX4_begin_2 ++ dktX4_begin_3
def dkwX4_begin_1 : List UInt8 := [181, 0, 47, 42, 3, 181, 0, 50, 42, 3, 181, 0, 53, 42, 9, 181, 0, 56, 42, 2, 181, 0, 34, 3]
abbrev dktX4_begin_1 : List UInt8 := dkwX4_begin_1 ++ dktX4_begin_2
def dkwX4_begin_0 : List UInt8 := [42, 43, 181, 0, 15, 42, 28, 181, 0, 38, 42, 29, 181, 0, 41, 42, 3, 181, 0, 44, 42, 3]
abbrev dktX4_begin_0 : List UInt8 := dkwX4_begin_0 ++ dktX4_begin_1
theorem dksX4_begin_0 : cX4_begin.data.toList.drop 0 = dktX4_begin_0 := by decide +kernel
theorem dksX4_begin_1 : cX4_begin.data.toList.drop 22 = dktX4_begin_1 := dk_seg dksX4_begin_0 22 rfl rfl
theorem dksX4_begin_2 : cX4_begin.data.toList.drop 46 = dktX4_begin_2 := dk_seg dksX4_begin_1 24 rfl rfl
theorem dksX4_begin_3 : cX4_begin.data.toList.drop 70 = dktX4_begin_3 := dk_seg dksX4_begin_2 24 rfl rfl
theorem dksX4_begin_4 : cX4_begin.data.toList.drop 94 = dktX4_begin_4 := dk_seg dksX4_begin_3 24 rfl rfl
theorem dksX4_begin_5 : cX4_begin.data.toList.drop 118 = dktX4_begin_5 := dk_seg dksX4_begin_4 24 rfl rfl
theorem dX4_begin_0 : decode cX4_begin 0 = .ok (.aload_n 0, 1) := dk_42 (dk_at dksX4_begin_0 0 rfl rfl)
theorem dX4_begin_1 : decode cX4_begin 1 = .ok (.aload_n 1, 1) := dk_43 (dk_at dksX4_begin_0 1 rfl rfl)
theorem dX4_begin_2 : decode cX4_begin 2 = .ok (.putfield 15, 3) := dk_181 0 15 (dk_at dksX4_begin_0 2 rfl rfl)
theorem dX4_begin_5 : decode cX4_begin 5 = .ok (.aload_n 0, 1) := dk_42 (dk_at dksX4_begin_0 5 rfl rfl)
theorem dX4_begin_6 : decode cX4_begin 6 = .ok (.iload_n 2, 1) := dk_28 (dk_at dksX4_begin_0 6 rfl rfl)
theorem dX4_begin_7 : decode cX4_begin 7 = .ok (.putfield 38, 3) := dk_181 0 38 (dk_at dksX4_begin_0 7 rfl rfl)
theorem dX4_begin_10 : decode cX4_begin 10 = .ok (.aload_n 0, 1) := dk_42 (dk_at dksX4_begin_0 10 rfl rfl)
theorem dX4_begin_11 : decode cX4_begin 11 = .ok (.iload_n 3, 1) := dk_29 (dk_at dksX4_begin_0 11 rfl rfl)
theorem dX4_begin_12 : decode cX4_begin 12 = .ok (.putfield 41, 3) := dk_181 0 41 (dk_at dksX4_begin_0 12 rfl rfl)
theorem dX4_begin_15 : decode cX4_begin 15 = .ok (.aload_n 0, 1) := dk_42 (dk_at dksX4_begin_0 15 rfl rfl)
theorem dX4_begin_16 : decode cX4_begin 16 = .ok (.iconst 0, 1) := dk_3 (dk_at dksX4_begin_0 16 rfl rfl)
theorem dX4_begin_17 : decode cX4_begin 17 = .ok (.putfield 44, 3) := dk_181 0 44 (dk_at dksX4_begin_0 17 rfl rfl)
theorem dX4_begin_20 : decode cX4_begin 20 = .ok (.aload_n 0, 1) := dk_42 (dk_at dksX4_begin_0 20 rfl rfl)
theorem dX4_begin_21 : decode cX4_begin 21 = .ok (.iconst 0, 1) := dk_3 (dk_at dksX4_begin_0 21 rfl rfl)
theorem dX4_begin_22 : decode cX4_begin 22 = .ok (.putfield 47, 3) := dk_181 0 47 (dk_at dksX4_begin_1 0 rfl rfl)
theorem dX4_begin_25 : decode cX4_begin 25 = .ok (.aload_n 0, 1) := dk_42 (dk_at dksX4_begin_1 3 rfl rfl)
theorem dX4_begin_26 : decode cX4_begin 26 = .ok (.iconst 0, 1) := dk_3 (dk_at dksX4_begin_1 4 rfl rfl)
theorem dX4_begin_27 : decode cX4_begin 27 = .ok (.putfield 50, 3) := dk_181 0 50 (dk_at dksX4_begin_1 5 rfl rfl)
theorem dX4_begin_30 : decode cX4_begin 30 = .ok (.aload_n 0, 1) := dk_42 (dk_at dksX4_begin_1 8 rfl rfl)
theorem dX4_begin_31 : decode cX4_begin 31 = .ok (.iconst 0, 1) := dk_3 (dk_at dksX4_begin_1 9 rfl rfl)
theorem dX4_begin_32 : decode cX4_begin 32 = .ok (.putfield 53, 3) := dk_181 0 53 (dk_at dksX4_begin_1 10 rfl rfl)
theorem dX4_begin_35 : decode cX4_begin 35 = .ok (.aload_n 0, 1) := dk_42 (dk_at dksX4_begin_1 13 rfl rfl)
theorem dX4_begin_36 : decode cX4_begin 36 = .ok (.lconst 0, 1) := dk_9 (dk_at dksX4_begin_1 14 rfl rfl)
theorem dX4_begin_37 : decode cX4_begin 37 = .ok (.putfield 56, 3) := dk_181 0 56 (dk_at dksX4_begin_1 15 rfl rfl)
theorem dX4_begin_40 : decode cX4_begin 40 = .ok (.aload_n 0, 1) := dk_42 (dk_at dksX4_begin_1 18 rfl rfl)
theorem dX4_begin_41 : decode cX4_begin 41 = .ok (.iconst (-1), 1) := dk_2 (dk_at dksX4_begin_1 19 rfl rfl)
theorem dX4_begin_42 : decode cX4_begin 42 = .ok (.putfield 34, 3) := dk_181 0 34 (dk_at dksX4_begin_1 20 rfl rfl)
theorem dX4_begin_45 : decode cX4_begin 45 = .ok (.iconst 0, 1) := dk_3 (dk_at dksX4_begin_1 23 rfl rfl)
theorem dX4_begin_46 : decode cX4_begin 46 = .ok (.istore 4, 2) := dk_54 4 (dk_at dksX4_begin_2 0 rfl rfl)
theorem dX4_begin_48 : decode cX4_begin 48 = .ok (.iload 4, 2) := dk_21 4 (dk_at dksX4_begin_2 2 rfl rfl)
theorem dX4_begin_50 : decode cX4_begin 50 = .ok (.aload_n 0, 1) := dk_42 (dk_at dksX4_begin_2 4 rfl rfl)
theorem dX4_begin_51 : decode cX4_begin 51 = .ok (.getfield 24, 3) := dk_180 0 24 (dk_at dksX4_begin_2 5 rfl rfl)
theorem dX4_begin_54 : decode cX4_begin 54 = .ok (.arraylength, 1) := dk_190 (dk_at dksX4_begin_2 8 rfl rfl)
theorem dX4_begin_55 : decode cX4_begin 55 = .ok (.if_icmp .ge 42, 3) := dk_162 0 42 (dk_at dksX4_begin_2 9 rfl rfl)
theorem dX4_begin_58 : decode cX4_begin 58 = .ok (.aload_n 0, 1) := dk_42 (dk_at dksX4_begin_2 12 rfl rfl)
theorem dX4_begin_59 : decode cX4_begin 59 = .ok (.getfield 24, 3) := dk_180 0 24 (dk_at dksX4_begin_2 13 rfl rfl)
theorem dX4_begin_62 : decode cX4_begin 62 = .ok (.iload 4, 2) := dk_21 4 (dk_at dksX4_begin_2 16 rfl rfl)
theorem dX4_begin_64 : decode cX4_begin 64 = .ok (.iload 4, 2) := dk_21 4 (dk_at dksX4_begin_2 18 rfl rfl)
theorem dX4_begin_66 : decode cX4_begin 66 = .ok (.aload_n 1, 1) := dk_43 (dk_at dksX4_begin_2 20 rfl rfl)
theorem dX4_begin_67 : decode cX4_begin 67 = .ok (.getfield 60, 3) := dk_180 0 60 (dk_at dksX4_begin_2 21 rfl rfl)
theorem dX4_begin_70 : decode cX4_begin 70 = .ok (.if_icmp .ge 10, 3) := dk_162 0 10 (dk_at dksX4_begin_3 0 rfl rfl)
theorem dX4_begin_73 : decode cX4_begin 73 = .ok (.aload_n 1, 1) := dk_43 (dk_at dksX4_begin_3 3 rfl rfl)
theorem dX4_begin_74 : decode cX4_begin 74 = .ok (.getstatic 62, 3) := dk_178 0 62 (dk_at dksX4_begin_3 4 rfl rfl)
theorem dX4_begin_77 : decode cX4_begin 77 = .ok (.if_acmp .ne 7, 3) := dk_166 0 7 (dk_at dksX4_begin_3 7 rfl rfl)
theorem dX4_begin_80 : decode cX4_begin 80 = .ok (.iconst 0, 1) := dk_3 (dk_at dksX4_begin_3 10 rfl rfl)
theorem dX4_begin_81 : decode cX4_begin 81 = .ok (.goto 9, 3) := dk_167 0 9 (dk_at dksX4_begin_3 11 rfl rfl)
theorem dX4_begin_84 : decode cX4_begin 84 = .ok (.aload_n 1, 1) := dk_43 (dk_at dksX4_begin_3 14 rfl rfl)
theorem dX4_begin_85 : decode cX4_begin 85 = .ok (.iload 4, 2) := dk_21 4 (dk_at dksX4_begin_3 15 rfl rfl)
theorem dX4_begin_87 : decode cX4_begin 87 = .ok (.invokevirtual 65, 3) := dk_182 0 65 (dk_at dksX4_begin_3 17 rfl rfl)
theorem dX4_begin_90 : decode cX4_begin 90 = .ok (.iastore, 1) := dk_79 (dk_at dksX4_begin_3 20 rfl rfl)
theorem dX4_begin_91 : decode cX4_begin 91 = .ok (.iinc 4 1, 3) := dk_132 4 1 (dk_at dksX4_begin_3 21 rfl rfl)
theorem dX4_begin_94 : decode cX4_begin 94 = .ok (.goto (-46), 3) := dk_167 255 210 (dk_at dksX4_begin_4 0 rfl rfl)
theorem dX4_begin_97 : decode cX4_begin 97 = .ok (.iconst 0, 1) := dk_3 (dk_at dksX4_begin_4 3 rfl rfl)
theorem dX4_begin_98 : decode cX4_begin 98 = .ok (.istore 4, 2) := dk_54 4 (dk_at dksX4_begin_4 4 rfl rfl)
theorem dX4_begin_100 : decode cX4_begin 100 = .ok (.iload 4, 2) := dk_21 4 (dk_at dksX4_begin_4 6 rfl rfl)
theorem dX4_begin_102 : decode cX4_begin 102 = .ok (.bipush 16, 2) := dk_16 16 (dk_at dksX4_begin_4 8 rfl rfl)
theorem dX4_begin_104 : decode cX4_begin 104 = .ok (.if_icmp .ge 17, 3) := dk_162 0 17 (dk_at dksX4_begin_4 10 rfl rfl)
theorem dX4_begin_107 : decode cX4_begin 107 = .ok (.aload_n 0, 1) := dk_42 (dk_at dksX4_begin_4 13 rfl rfl)
theorem dX4_begin_108 : decode cX4_begin 108 = .ok (.getfield 31, 3) := dk_180 0 31 (dk_at dksX4_begin_4 14 rfl rfl)
theorem dX4_begin_111 : decode cX4_begin 111 = .ok (.iload 4, 2) := dk_21 4 (dk_at dksX4_begin_4 17 rfl rfl)
theorem dX4_begin_113 : decode cX4_begin 113 = .ok (.iconst 0, 1) := dk_3 (dk_at dksX4_begin_4 19 rfl rfl)
theorem dX4_begin_114 : decode cX4_begin 114 = .ok (.iastore, 1) := dk_79 (dk_at dksX4_begin_4 20 rfl rfl)
theorem dX4_begin_115 : decode cX4_begin 115 = .ok (.iinc 4 1, 3) := dk_132 4 1 (dk_at dksX4_begin_4 21 rfl rfl)
theorem dX4_begin_118 : decode cX4_begin 118 = .ok (.goto (-18), 3) := dk_167 255 238 (dk_at dksX4_begin_5 0 rfl rfl)
theorem dX4_begin_121 : decode cX4_begin 121 = .ok (.aload_n 0, 1) := dk_42 (dk_at dksX4_begin_5 3 rfl rfl)
theorem dX4_begin_122 : decode cX4_begin 122 = .ok (.areturn, 1) := dk_176 (dk_at dksX4_begin_5 4 rfl rfl)
abbrev cX4_placeOf : ByteArray := prog_4_method_7_code
def yX4_placeOf : MethodName := ⟨RX4, "placeOf", "(I)I"⟩
def dkwX4_placeOf_1 : List UInt8 := [132, 2, 1, 167, 255, 231, 27, 42, 180, 0, 41, 160, 0, 7, 3, 167, 0, 4, 2, 172]
abbrev dktX4_placeOf_1 : List UInt8 := dkwX4_placeOf_1 ++ []
def dkwX4_placeOf_0 : List UInt8 := [3, 61, 28, 42, 180, 0, 44, 162, 0, 23, 42, 180, 0, 20, 28, 46, 27, 160, 0, 7, 28, 4, 96, 172]
abbrev dktX4_placeOf_0 : List UInt8 := dkwX4_placeOf_0 ++ dktX4_placeOf_1
theorem dksX4_placeOf_0 : cX4_placeOf.data.toList.drop 0 = dktX4_placeOf_0 := by decide +kernel
theorem dksX4_placeOf_1 : cX4_placeOf.data.toList.drop 24 = dktX4_placeOf_1 := dk_seg dksX4_placeOf_0 24 rfl rfl
theorem dX4_placeOf_0 : decode cX4_placeOf 0 = .ok (.iconst 0, 1) := dk_3 (dk_at dksX4_placeOf_0 0 rfl rfl)
theorem dX4_placeOf_1 : decode cX4_placeOf 1 = .ok (.istore_n 2, 1) := dk_61 (dk_at dksX4_placeOf_0 1 rfl rfl)
theorem dX4_placeOf_2 : decode cX4_placeOf 2 = .ok (.iload_n 2, 1) := dk_28 (dk_at dksX4_placeOf_0 2 rfl rfl)
theorem dX4_placeOf_3 : decode cX4_placeOf 3 = .ok (.aload_n 0, 1) := dk_42 (dk_at dksX4_placeOf_0 3 rfl rfl)
theorem dX4_placeOf_4 : decode cX4_placeOf 4 = .ok (.getfield 44, 3) := dk_180 0 44 (dk_at dksX4_placeOf_0 4 rfl rfl)
theorem dX4_placeOf_7 : decode cX4_placeOf 7 = .ok (.if_icmp .ge 23, 3) := dk_162 0 23 (dk_at dksX4_placeOf_0 7 rfl rfl)
theorem dX4_placeOf_10 : decode cX4_placeOf 10 = .ok (.aload_n 0, 1) := dk_42 (dk_at dksX4_placeOf_0 10 rfl rfl)
theorem dX4_placeOf_11 : decode cX4_placeOf 11 = .ok (.getfield 20, 3) := dk_180 0 20 (dk_at dksX4_placeOf_0 11 rfl rfl)
theorem dX4_placeOf_14 : decode cX4_placeOf 14 = .ok (.iload_n 2, 1) := dk_28 (dk_at dksX4_placeOf_0 14 rfl rfl)
theorem dX4_placeOf_15 : decode cX4_placeOf 15 = .ok (.iaload, 1) := dk_46 (dk_at dksX4_placeOf_0 15 rfl rfl)
theorem dX4_placeOf_16 : decode cX4_placeOf 16 = .ok (.iload_n 1, 1) := dk_27 (dk_at dksX4_placeOf_0 16 rfl rfl)
theorem dX4_placeOf_17 : decode cX4_placeOf 17 = .ok (.if_icmp .ne 7, 3) := dk_160 0 7 (dk_at dksX4_placeOf_0 17 rfl rfl)
theorem dX4_placeOf_20 : decode cX4_placeOf 20 = .ok (.iload_n 2, 1) := dk_28 (dk_at dksX4_placeOf_0 20 rfl rfl)
theorem dX4_placeOf_21 : decode cX4_placeOf 21 = .ok (.iconst 1, 1) := dk_4 (dk_at dksX4_placeOf_0 21 rfl rfl)
theorem dX4_placeOf_22 : decode cX4_placeOf 22 = .ok (.iadd, 1) := dk_96 (dk_at dksX4_placeOf_0 22 rfl rfl)
theorem dX4_placeOf_23 : decode cX4_placeOf 23 = .ok (.ireturn, 1) := dk_172 (dk_at dksX4_placeOf_0 23 rfl rfl)
theorem dX4_placeOf_24 : decode cX4_placeOf 24 = .ok (.iinc 2 1, 3) := dk_132 2 1 (dk_at dksX4_placeOf_1 0 rfl rfl)
theorem dX4_placeOf_27 : decode cX4_placeOf 27 = .ok (.goto (-25), 3) := dk_167 255 231 (dk_at dksX4_placeOf_1 3 rfl rfl)
theorem dX4_placeOf_30 : decode cX4_placeOf 30 = .ok (.iload_n 1, 1) := dk_27 (dk_at dksX4_placeOf_1 6 rfl rfl)
theorem dX4_placeOf_31 : decode cX4_placeOf 31 = .ok (.aload_n 0, 1) := dk_42 (dk_at dksX4_placeOf_1 7 rfl rfl)
theorem dX4_placeOf_32 : decode cX4_placeOf 32 = .ok (.getfield 41, 3) := dk_180 0 41 (dk_at dksX4_placeOf_1 8 rfl rfl)
theorem dX4_placeOf_35 : decode cX4_placeOf 35 = .ok (.if_icmp .ne 7, 3) := dk_160 0 7 (dk_at dksX4_placeOf_1 11 rfl rfl)
theorem dX4_placeOf_38 : decode cX4_placeOf 38 = .ok (.iconst 0, 1) := dk_3 (dk_at dksX4_placeOf_1 14 rfl rfl)
theorem dX4_placeOf_39 : decode cX4_placeOf 39 = .ok (.goto 4, 3) := dk_167 0 4 (dk_at dksX4_placeOf_1 15 rfl rfl)
theorem dX4_placeOf_42 : decode cX4_placeOf 42 = .ok (.iconst (-1), 1) := dk_2 (dk_at dksX4_placeOf_1 18 rfl rfl)
theorem dX4_placeOf_43 : decode cX4_placeOf 43 = .ok (.ireturn, 1) := dk_172 (dk_at dksX4_placeOf_1 19 rfl rfl)
abbrev cX4_high : ByteArray := prog_4_method_4_code
def yX4_high : MethodName := ⟨RX4, "high", "()I"⟩
def dkwX4_high_0 : List UInt8 := [42, 180, 0, 24, 4, 46, 172]
abbrev dktX4_high_0 : List UInt8 := dkwX4_high_0 ++ []
theorem dksX4_high_0 : cX4_high.data.toList.drop 0 = dktX4_high_0 := by decide +kernel
theorem dX4_high_0 : decode cX4_high 0 = .ok (.aload_n 0, 1) := dk_42 (dk_at dksX4_high_0 0 rfl rfl)
theorem dX4_high_1 : decode cX4_high 1 = .ok (.getfield 24, 3) := dk_180 0 24 (dk_at dksX4_high_0 1 rfl rfl)
theorem dX4_high_4 : decode cX4_high 4 = .ok (.iconst 1, 1) := dk_4 (dk_at dksX4_high_0 4 rfl rfl)
theorem dX4_high_5 : decode cX4_high 5 = .ok (.iaload, 1) := dk_46 (dk_at dksX4_high_0 5 rfl rfl)
theorem dX4_high_6 : decode cX4_high 6 = .ok (.ireturn, 1) := dk_172 (dk_at dksX4_high_0 6 rfl rfl)
abbrev cX4_rowBytes : ByteArray := prog_4_method_6_code
def yX4_rowBytes : MethodName := ⟨RX4, "rowBytes", "()I"⟩
def dkwX4_rowBytes_0 : List UInt8 := [42, 182, 0, 72, 16, 7, 96, 16, 8, 108, 172]
abbrev dktX4_rowBytes_0 : List UInt8 := dkwX4_rowBytes_0 ++ []
theorem dksX4_rowBytes_0 : cX4_rowBytes.data.toList.drop 0 = dktX4_rowBytes_0 := by decide +kernel
theorem dX4_rowBytes_0 : decode cX4_rowBytes 0 = .ok (.aload_n 0, 1) := dk_42 (dk_at dksX4_rowBytes_0 0 rfl rfl)
theorem dX4_rowBytes_1 : decode cX4_rowBytes 1 = .ok (.invokevirtual 72, 3) := dk_182 0 72 (dk_at dksX4_rowBytes_0 1 rfl rfl)
theorem dX4_rowBytes_4 : decode cX4_rowBytes 4 = .ok (.bipush 7, 2) := dk_16 7 (dk_at dksX4_rowBytes_0 4 rfl rfl)
theorem dX4_rowBytes_6 : decode cX4_rowBytes 6 = .ok (.iadd, 1) := dk_96 (dk_at dksX4_rowBytes_0 6 rfl rfl)
theorem dX4_rowBytes_7 : decode cX4_rowBytes 7 = .ok (.bipush 8, 2) := dk_16 8 (dk_at dksX4_rowBytes_0 7 rfl rfl)
theorem dX4_rowBytes_9 : decode cX4_rowBytes 9 = .ok (.idiv, 1) := dk_108 (dk_at dksX4_rowBytes_0 9 rfl rfl)
theorem dX4_rowBytes_10 : decode cX4_rowBytes 10 = .ok (.ireturn, 1) := dk_172 (dk_at dksX4_rowBytes_0 10 rfl rfl)
abbrev cX4_wide : ByteArray := prog_4_method_3_code
def yX4_wide : MethodName := ⟨RX4, "wide", "()I"⟩
def dkwX4_wide_0 : List UInt8 := [42, 180, 0, 24, 3, 46, 172]
abbrev dktX4_wide_0 : List UInt8 := dkwX4_wide_0 ++ []
theorem dksX4_wide_0 : cX4_wide.data.toList.drop 0 = dktX4_wide_0 := by decide +kernel
theorem dX4_wide_0 : decode cX4_wide 0 = .ok (.aload_n 0, 1) := dk_42 (dk_at dksX4_wide_0 0 rfl rfl)
theorem dX4_wide_1 : decode cX4_wide 1 = .ok (.getfield 24, 3) := dk_180 0 24 (dk_at dksX4_wide_0 1 rfl rfl)
theorem dX4_wide_4 : decode cX4_wide 4 = .ok (.iconst 0, 1) := dk_3 (dk_at dksX4_wide_0 4 rfl rfl)
theorem dX4_wide_5 : decode cX4_wide 5 = .ok (.iaload, 1) := dk_46 (dk_at dksX4_wide_0 5 rfl rfl)
theorem dX4_wide_6 : decode cX4_wide 6 = .ok (.ireturn, 1) := dk_172 (dk_at dksX4_wide_0 6 rfl rfl)
abbrev cX4_letsGo : ByteArray := prog_4_method_8_code
def yX4_letsGo : MethodName := ⟨RX4, "letsGo", "(I)Z"⟩
def dkwX4_letsGo_1 : List UInt8 := [167, 0, 4, 3, 172]
abbrev dktX4_letsGo_1 : List UInt8 := dkwX4_letsGo_1 ++ []
def dkwX4_letsGo_0 : List UInt8 := [42, 27, 182, 0, 76, 61, 28, 155, 0, 19, 42, 180, 0, 47, 28, 122, 4, 126, 4, 160, 0, 7, 4]
abbrev dktX4_letsGo_0 : List UInt8 := dkwX4_letsGo_0 ++ dktX4_letsGo_1
theorem dksX4_letsGo_0 : cX4_letsGo.data.toList.drop 0 = dktX4_letsGo_0 := by decide +kernel
theorem dksX4_letsGo_1 : cX4_letsGo.data.toList.drop 23 = dktX4_letsGo_1 := dk_seg dksX4_letsGo_0 23 rfl rfl
theorem dX4_letsGo_0 : decode cX4_letsGo 0 = .ok (.aload_n 0, 1) := dk_42 (dk_at dksX4_letsGo_0 0 rfl rfl)
theorem dX4_letsGo_1 : decode cX4_letsGo 1 = .ok (.iload_n 1, 1) := dk_27 (dk_at dksX4_letsGo_0 1 rfl rfl)
theorem dX4_letsGo_2 : decode cX4_letsGo 2 = .ok (.invokevirtual 76, 3) := dk_182 0 76 (dk_at dksX4_letsGo_0 2 rfl rfl)
theorem dX4_letsGo_5 : decode cX4_letsGo 5 = .ok (.istore_n 2, 1) := dk_61 (dk_at dksX4_letsGo_0 5 rfl rfl)
theorem dX4_letsGo_6 : decode cX4_letsGo 6 = .ok (.iload_n 2, 1) := dk_28 (dk_at dksX4_letsGo_0 6 rfl rfl)
theorem dX4_letsGo_7 : decode cX4_letsGo 7 = .ok (.ifCond .lt 19, 3) := dk_155 0 19 (dk_at dksX4_letsGo_0 7 rfl rfl)
theorem dX4_letsGo_10 : decode cX4_letsGo 10 = .ok (.aload_n 0, 1) := dk_42 (dk_at dksX4_letsGo_0 10 rfl rfl)
theorem dX4_letsGo_11 : decode cX4_letsGo 11 = .ok (.getfield 47, 3) := dk_180 0 47 (dk_at dksX4_letsGo_0 11 rfl rfl)
theorem dX4_letsGo_14 : decode cX4_letsGo 14 = .ok (.iload_n 2, 1) := dk_28 (dk_at dksX4_letsGo_0 14 rfl rfl)
theorem dX4_letsGo_15 : decode cX4_letsGo 15 = .ok (.ishr, 1) := dk_122 (dk_at dksX4_letsGo_0 15 rfl rfl)
theorem dX4_letsGo_16 : decode cX4_letsGo 16 = .ok (.iconst 1, 1) := dk_4 (dk_at dksX4_letsGo_0 16 rfl rfl)
theorem dX4_letsGo_17 : decode cX4_letsGo 17 = .ok (.iand, 1) := dk_126 (dk_at dksX4_letsGo_0 17 rfl rfl)
theorem dX4_letsGo_18 : decode cX4_letsGo 18 = .ok (.iconst 1, 1) := dk_4 (dk_at dksX4_letsGo_0 18 rfl rfl)
theorem dX4_letsGo_19 : decode cX4_letsGo 19 = .ok (.if_icmp .ne 7, 3) := dk_160 0 7 (dk_at dksX4_letsGo_0 19 rfl rfl)
theorem dX4_letsGo_22 : decode cX4_letsGo 22 = .ok (.iconst 1, 1) := dk_4 (dk_at dksX4_letsGo_0 22 rfl rfl)
theorem dX4_letsGo_23 : decode cX4_letsGo 23 = .ok (.goto 4, 3) := dk_167 0 4 (dk_at dksX4_letsGo_1 0 rfl rfl)
theorem dX4_letsGo_26 : decode cX4_letsGo 26 = .ok (.iconst 0, 1) := dk_3 (dk_at dksX4_letsGo_1 3 rfl rfl)
theorem dX4_letsGo_27 : decode cX4_letsGo 27 = .ok (.ireturn, 1) := dk_172 (dk_at dksX4_letsGo_1 4 rfl rfl)
abbrev cX4_isOpen : ByteArray := prog_4_method_5_code
def yX4_isOpen : MethodName := ⟨RX4, "isOpen", "()Z"⟩
def dkwX4_isOpen_1 : List UInt8 := [3, 172]
abbrev dktX4_isOpen_1 : List UInt8 := dkwX4_isOpen_1 ++ []
def dkwX4_isOpen_0 : List UInt8 := [42, 180, 0, 15, 178, 0, 69, 166, 0, 17, 42, 180, 0, 24, 8, 46, 4, 160, 0, 7, 4, 167, 0, 4]
abbrev dktX4_isOpen_0 : List UInt8 := dkwX4_isOpen_0 ++ dktX4_isOpen_1
theorem dksX4_isOpen_0 : cX4_isOpen.data.toList.drop 0 = dktX4_isOpen_0 := by decide +kernel
theorem dksX4_isOpen_1 : cX4_isOpen.data.toList.drop 24 = dktX4_isOpen_1 := dk_seg dksX4_isOpen_0 24 rfl rfl
theorem dX4_isOpen_0 : decode cX4_isOpen 0 = .ok (.aload_n 0, 1) := dk_42 (dk_at dksX4_isOpen_0 0 rfl rfl)
theorem dX4_isOpen_1 : decode cX4_isOpen 1 = .ok (.getfield 15, 3) := dk_180 0 15 (dk_at dksX4_isOpen_0 1 rfl rfl)
theorem dX4_isOpen_4 : decode cX4_isOpen 4 = .ok (.getstatic 69, 3) := dk_178 0 69 (dk_at dksX4_isOpen_0 4 rfl rfl)
theorem dX4_isOpen_7 : decode cX4_isOpen 7 = .ok (.if_acmp .ne 17, 3) := dk_166 0 17 (dk_at dksX4_isOpen_0 7 rfl rfl)
theorem dX4_isOpen_10 : decode cX4_isOpen 10 = .ok (.aload_n 0, 1) := dk_42 (dk_at dksX4_isOpen_0 10 rfl rfl)
theorem dX4_isOpen_11 : decode cX4_isOpen 11 = .ok (.getfield 24, 3) := dk_180 0 24 (dk_at dksX4_isOpen_0 11 rfl rfl)
theorem dX4_isOpen_14 : decode cX4_isOpen 14 = .ok (.iconst 5, 1) := dk_8 (dk_at dksX4_isOpen_0 14 rfl rfl)
theorem dX4_isOpen_15 : decode cX4_isOpen 15 = .ok (.iaload, 1) := dk_46 (dk_at dksX4_isOpen_0 15 rfl rfl)
theorem dX4_isOpen_16 : decode cX4_isOpen 16 = .ok (.iconst 1, 1) := dk_4 (dk_at dksX4_isOpen_0 16 rfl rfl)
theorem dX4_isOpen_17 : decode cX4_isOpen 17 = .ok (.if_icmp .ne 7, 3) := dk_160 0 7 (dk_at dksX4_isOpen_0 17 rfl rfl)
theorem dX4_isOpen_20 : decode cX4_isOpen 20 = .ok (.iconst 1, 1) := dk_4 (dk_at dksX4_isOpen_0 20 rfl rfl)
theorem dX4_isOpen_21 : decode cX4_isOpen 21 = .ok (.goto 4, 3) := dk_167 0 4 (dk_at dksX4_isOpen_0 21 rfl rfl)
theorem dX4_isOpen_24 : decode cX4_isOpen 24 = .ok (.iconst 0, 1) := dk_3 (dk_at dksX4_isOpen_1 0 rfl rfl)
theorem dX4_isOpen_25 : decode cX4_isOpen 25 = .ok (.ireturn, 1) := dk_172 (dk_at dksX4_isOpen_1 1 rfl rfl)
theorem q79 : (Jvm.Cond.initialized "BilevelPages$Segment") ∈ lw_all := lw_g (lw_at lw_m1 8 rfl) rfl
theorem q216 : (Jvm.Cond.instantiable "BilevelPages$Segment" (13 : Nat)) ∈ lw_all := lw_g (lw_at lw_m1 145 rfl) rfl
theorem q218 : (Jvm.Cond.instanceMethod ({ cls := "BilevelPages$Segment", name := "<init>", desc := "()V" } : Jvm.MethodName)) ∈ lw_all := lw_g (lw_at lw_m1 147 rfl) rfl
theorem q219 : (Jvm.Cond.code ({ cls := "BilevelPages$Segment", name := "<init>", desc := "()V" } : Jvm.MethodName) prog_4_method_1_code (1 : Nat) (Option.none : Option Jvm.ClassFile.FieldType)) ∈ lw_all := lw_g (lw_at lw_m1 148 rfl) rfl
theorem q220 : (Jvm.Cond.methodLink "BilevelPages$Segment" (3 : Nat) ({ cls := "java/lang/Object", name := "<init>", desc := "()V" } : Jvm.MethodName)) ∈ lw_all := lw_g (lw_at lw_m1 149 rfl) rfl
theorem q221 : (Jvm.Cond.fieldLink "BilevelPages$Segment" (9 : Nat) "BilevelPages$Kind" "ALL" "LBilevelPages$Kind;") ∈ lw_all := lw_g (lw_at lw_m1 150 rfl) rfl
theorem q223 : (Jvm.Cond.fieldLink "BilevelPages$Segment" (15 : Nat) "BilevelPages$Segment" "kind" "LBilevelPages$Kind;") ∈ lw_all := lw_g (lw_at lw_m1 152 rfl) rfl
theorem q226 : (Jvm.Cond.fieldLink "BilevelPages$Segment" (38 : Nat) "BilevelPages$Segment" "page" "I") ∈ lw_all := lw_g (lw_at lw_m1 155 rfl) rfl
theorem q229 : (Jvm.Cond.fieldLink "BilevelPages$Segment" (41 : Nat) "BilevelPages$Segment" "number" "I") ∈ lw_all := lw_g (lw_at lw_m1 158 rfl) rfl
theorem q232 : (Jvm.Cond.fieldLink "BilevelPages$Segment" (20 : Nat) "BilevelPages$Segment" "refers" "[I") ∈ lw_all := lw_g (lw_at lw_m1 161 rfl) rfl
theorem q235 : (Jvm.Cond.fieldLink "BilevelPages$Segment" (44 : Nat) "BilevelPages$Segment" "references" "I") ∈ lw_all := lw_g (lw_at lw_m1 164 rfl) rfl
theorem q238 : (Jvm.Cond.fieldLink "BilevelPages$Segment" (47 : Nat) "BilevelPages$Segment" "letsGo" "I") ∈ lw_all := lw_g (lw_at lw_m1 167 rfl) rfl
theorem q241 : (Jvm.Cond.fieldLink "BilevelPages$Segment" (24 : Nat) "BilevelPages$Segment" "numbers" "[I") ∈ lw_all := lw_g (lw_at lw_m1 170 rfl) rfl
theorem q245 : (Jvm.Cond.fieldLink "BilevelPages$Segment" (27 : Nat) "BilevelPages$Segment" "bytes" "[B") ∈ lw_all := lw_g (lw_at lw_m1 174 rfl) rfl
theorem q247 : (Jvm.Cond.fieldLink "BilevelPages$Segment" (50 : Nat) "BilevelPages$Segment" "byteMany" "I") ∈ lw_all := lw_g (lw_at lw_m1 176 rfl) rfl
theorem q249 : (Jvm.Cond.fieldLink "BilevelPages$Segment" (31 : Nat) "BilevelPages$Segment" "rows" "[I") ∈ lw_all := lw_g (lw_at lw_m1 178 rfl) rfl
theorem q253 : (Jvm.Cond.fieldLink "BilevelPages$Segment" (53 : Nat) "BilevelPages$Segment" "at" "I") ∈ lw_all := lw_g (lw_at lw_m1 182 rfl) rfl
theorem q255 : (Jvm.Cond.fieldLink "BilevelPages$Segment" (56 : Nat) "BilevelPages$Segment" "length" "J") ∈ lw_all := lw_g (lw_at lw_m1 184 rfl) rfl
theorem q258 : (Jvm.Cond.fieldLink "BilevelPages$Segment" (34 : Nat) "BilevelPages$Segment" "goneBy" "I") ∈ lw_all := lw_g (lw_at lw_m1 187 rfl) rfl
theorem q261 : (Jvm.Cond.lays "BilevelPages$Segment" "BilevelPages$Segment" "kind" "LBilevelPages$Kind;") ∈ lw_all := lw_g (lw_at lw_m1 190 rfl) rfl
theorem q262 : (Jvm.Cond.soleField "BilevelPages$Segment" "kind") ∈ lw_all := lw_g (lw_at lw_m1 191 rfl) rfl
theorem q263 : (Jvm.Cond.lays "BilevelPages$Segment" "BilevelPages$Segment" "page" "I") ∈ lw_all := lw_g (lw_at lw_m1 192 rfl) rfl
theorem q264 : (Jvm.Cond.soleField "BilevelPages$Segment" "page") ∈ lw_all := lw_g (lw_at lw_m1 193 rfl) rfl
theorem q265 : (Jvm.Cond.lays "BilevelPages$Segment" "BilevelPages$Segment" "number" "I") ∈ lw_all := lw_g (lw_at lw_m1 194 rfl) rfl
theorem q266 : (Jvm.Cond.soleField "BilevelPages$Segment" "number") ∈ lw_all := lw_g (lw_at lw_m1 195 rfl) rfl
theorem q267 : (Jvm.Cond.laysFinal "BilevelPages$Segment" "BilevelPages$Segment" "refers" "[I") ∈ lw_all := lw_g (lw_at lw_m1 196 rfl) rfl
theorem q268 : (Jvm.Cond.soleField "BilevelPages$Segment" "refers") ∈ lw_all := lw_g (lw_at lw_m1 197 rfl) rfl
theorem q269 : (Jvm.Cond.lays "BilevelPages$Segment" "BilevelPages$Segment" "references" "I") ∈ lw_all := lw_g (lw_at lw_m1 198 rfl) rfl
theorem q270 : (Jvm.Cond.soleField "BilevelPages$Segment" "references") ∈ lw_all := lw_g (lw_at lw_m1 199 rfl) rfl
theorem q271 : (Jvm.Cond.lays "BilevelPages$Segment" "BilevelPages$Segment" "letsGo" "I") ∈ lw_all := lw_g (lw_at lw_m1 200 rfl) rfl
theorem q272 : (Jvm.Cond.soleField "BilevelPages$Segment" "letsGo") ∈ lw_all := lw_g (lw_at lw_m1 201 rfl) rfl
theorem q273 : (Jvm.Cond.laysFinal "BilevelPages$Segment" "BilevelPages$Segment" "numbers" "[I") ∈ lw_all := lw_g (lw_at lw_m1 202 rfl) rfl
theorem q274 : (Jvm.Cond.soleField "BilevelPages$Segment" "numbers") ∈ lw_all := lw_g (lw_at lw_m1 203 rfl) rfl
theorem q275 : (Jvm.Cond.laysFinal "BilevelPages$Segment" "BilevelPages$Segment" "bytes" "[B") ∈ lw_all := lw_g (lw_at lw_m1 204 rfl) rfl
theorem q276 : (Jvm.Cond.soleField "BilevelPages$Segment" "bytes") ∈ lw_all := lw_g (lw_at lw_m1 205 rfl) rfl
theorem q277 : (Jvm.Cond.lays "BilevelPages$Segment" "BilevelPages$Segment" "byteMany" "I") ∈ lw_all := lw_g (lw_at lw_m1 206 rfl) rfl
theorem q278 : (Jvm.Cond.soleField "BilevelPages$Segment" "byteMany") ∈ lw_all := lw_g (lw_at lw_m1 207 rfl) rfl
theorem q279 : (Jvm.Cond.laysFinal "BilevelPages$Segment" "BilevelPages$Segment" "rows" "[I") ∈ lw_all := lw_g (lw_at lw_m1 208 rfl) rfl
theorem q280 : (Jvm.Cond.soleField "BilevelPages$Segment" "rows") ∈ lw_all := lw_g (lw_at lw_m1 209 rfl) rfl
theorem q281 : (Jvm.Cond.lays "BilevelPages$Segment" "BilevelPages$Segment" "at" "I") ∈ lw_all := lw_g (lw_at lw_m1 210 rfl) rfl
theorem q282 : (Jvm.Cond.soleField "BilevelPages$Segment" "at") ∈ lw_all := lw_g (lw_at lw_m1 211 rfl) rfl
theorem q283 : (Jvm.Cond.lays "BilevelPages$Segment" "BilevelPages$Segment" "length" "J") ∈ lw_all := lw_g (lw_at lw_m1 212 rfl) rfl
theorem q284 : (Jvm.Cond.soleField "BilevelPages$Segment" "length") ∈ lw_all := lw_g (lw_at lw_m1 213 rfl) rfl
theorem q285 : (Jvm.Cond.lays "BilevelPages$Segment" "BilevelPages$Segment" "goneBy" "I") ∈ lw_all := lw_g (lw_at lw_m1 214 rfl) rfl
theorem q286 : (Jvm.Cond.soleField "BilevelPages$Segment" "goneBy") ∈ lw_all := lw_g (lw_at lw_m1 215 rfl) rfl
theorem q287 : (Jvm.Cond.superclass "BilevelPages$Segment" "java/lang/Object") ∈ lw_all := lw_g (lw_at lw_m1 216 rfl) rfl
theorem q479 : (Jvm.Cond.instanceMethod ({ cls := "BilevelPages$Segment", name := "begin", desc := "(LBilevelPages$Kind;II)LBilevelPages$Segment;" } : Jvm.MethodName)) ∈ lw_all := lw_g (lw_at lw_m2 168 rfl) rfl
theorem q480 : (Jvm.Cond.selects "BilevelPages$Segment" ({ cls := "BilevelPages$Segment", name := "begin", desc := "(LBilevelPages$Kind;II)LBilevelPages$Segment;" } : Jvm.MethodName) ({ cls := "BilevelPages$Segment", name := "begin", desc := "(LBilevelPages$Kind;II)LBilevelPages$Segment;" } : Jvm.MethodName)) ∈ lw_all := lw_g (lw_at lw_m2 169 rfl) rfl
theorem q481 : (Jvm.Cond.code ({ cls := "BilevelPages$Segment", name := "begin", desc := "(LBilevelPages$Kind;II)LBilevelPages$Segment;" } : Jvm.MethodName) prog_4_method_2_code (5 : Nat) (Option.some (Jvm.ClassFile.FieldType.object "BilevelPages$Segment"))) ∈ lw_all := lw_g (lw_at lw_m2 170 rfl) rfl
theorem q482 : (Jvm.Cond.fieldLink "BilevelPages$Segment" (62 : Nat) "BilevelPages$Kind" "EXTENSION" "LBilevelPages$Kind;") ∈ lw_all := lw_g (lw_at lw_m2 171 rfl) rfl
theorem q484 : (Jvm.Cond.methodLink "BilevelPages$Segment" (65 : Nat) ({ cls := "BilevelPages$Kind", name := "least", desc := "(I)I" } : Jvm.MethodName)) ∈ lw_all := lw_g (lw_at lw_m2 173 rfl) rfl
theorem q541 : (Jvm.Cond.selects "BilevelPages$Segment" ({ cls := "java/lang/Object", name := "getClass", desc := "()Ljava/lang/Class;" } : Jvm.MethodName) ({ cls := "java/lang/Object", name := "getClass", desc := "()Ljava/lang/Class;" } : Jvm.MethodName)) ∈ lw_all := lw_g (lw_at lw_m2 230 rfl) rfl
theorem q591 : (Jvm.Cond.instanceMethod ({ cls := "BilevelPages$Segment", name := "placeOf", desc := "(I)I" } : Jvm.MethodName)) ∈ lw_all := lw_g (lw_at lw_m3 40 rfl) rfl
theorem q592 : (Jvm.Cond.selects "BilevelPages$Segment" ({ cls := "BilevelPages$Segment", name := "placeOf", desc := "(I)I" } : Jvm.MethodName) ({ cls := "BilevelPages$Segment", name := "placeOf", desc := "(I)I" } : Jvm.MethodName)) ∈ lw_all := lw_g (lw_at lw_m3 41 rfl) rfl
theorem q593 : (Jvm.Cond.code ({ cls := "BilevelPages$Segment", name := "placeOf", desc := "(I)I" } : Jvm.MethodName) prog_4_method_7_code (3 : Nat) (Option.some Jvm.ClassFile.FieldType.int)) ∈ lw_all := lw_g (lw_at lw_m3 42 rfl) rfl
theorem q656 : (Jvm.Cond.instanceMethod ({ cls := "BilevelPages$Segment", name := "high", desc := "()I" } : Jvm.MethodName)) ∈ lw_all := lw_g (lw_at lw_m3 105 rfl) rfl
theorem q657 : (Jvm.Cond.selects "BilevelPages$Segment" ({ cls := "BilevelPages$Segment", name := "high", desc := "()I" } : Jvm.MethodName) ({ cls := "BilevelPages$Segment", name := "high", desc := "()I" } : Jvm.MethodName)) ∈ lw_all := lw_g (lw_at lw_m3 106 rfl) rfl
theorem q658 : (Jvm.Cond.code ({ cls := "BilevelPages$Segment", name := "high", desc := "()I" } : Jvm.MethodName) prog_4_method_4_code (1 : Nat) (Option.some Jvm.ClassFile.FieldType.int)) ∈ lw_all := lw_g (lw_at lw_m3 107 rfl) rfl
theorem q660 : (Jvm.Cond.instanceMethod ({ cls := "BilevelPages$Segment", name := "rowBytes", desc := "()I" } : Jvm.MethodName)) ∈ lw_all := lw_g (lw_at lw_m3 109 rfl) rfl
theorem q661 : (Jvm.Cond.selects "BilevelPages$Segment" ({ cls := "BilevelPages$Segment", name := "rowBytes", desc := "()I" } : Jvm.MethodName) ({ cls := "BilevelPages$Segment", name := "rowBytes", desc := "()I" } : Jvm.MethodName)) ∈ lw_all := lw_g (lw_at lw_m3 110 rfl) rfl
theorem q662 : (Jvm.Cond.code ({ cls := "BilevelPages$Segment", name := "rowBytes", desc := "()I" } : Jvm.MethodName) prog_4_method_6_code (1 : Nat) (Option.some Jvm.ClassFile.FieldType.int)) ∈ lw_all := lw_g (lw_at lw_m3 111 rfl) rfl
theorem q663 : (Jvm.Cond.methodLink "BilevelPages$Segment" (72 : Nat) ({ cls := "BilevelPages$Segment", name := "wide", desc := "()I" } : Jvm.MethodName)) ∈ lw_all := lw_g (lw_at lw_m3 112 rfl) rfl
theorem q664 : (Jvm.Cond.instanceMethod ({ cls := "BilevelPages$Segment", name := "wide", desc := "()I" } : Jvm.MethodName)) ∈ lw_all := lw_g (lw_at lw_m3 113 rfl) rfl
theorem q665 : (Jvm.Cond.selects "BilevelPages$Segment" ({ cls := "BilevelPages$Segment", name := "wide", desc := "()I" } : Jvm.MethodName) ({ cls := "BilevelPages$Segment", name := "wide", desc := "()I" } : Jvm.MethodName)) ∈ lw_all := lw_g (lw_at lw_m3 114 rfl) rfl
theorem q666 : (Jvm.Cond.code ({ cls := "BilevelPages$Segment", name := "wide", desc := "()I" } : Jvm.MethodName) prog_4_method_3_code (1 : Nat) (Option.some Jvm.ClassFile.FieldType.int)) ∈ lw_all := lw_g (lw_at lw_m3 115 rfl) rfl
theorem q857 : (Jvm.Cond.instanceMethod ({ cls := "BilevelPages$Segment", name := "letsGo", desc := "(I)Z" } : Jvm.MethodName)) ∈ lw_all := lw_g (lw_at lw_m4 66 rfl) rfl
theorem q858 : (Jvm.Cond.selects "BilevelPages$Segment" ({ cls := "BilevelPages$Segment", name := "letsGo", desc := "(I)Z" } : Jvm.MethodName) ({ cls := "BilevelPages$Segment", name := "letsGo", desc := "(I)Z" } : Jvm.MethodName)) ∈ lw_all := lw_g (lw_at lw_m4 67 rfl) rfl
theorem q859 : (Jvm.Cond.code ({ cls := "BilevelPages$Segment", name := "letsGo", desc := "(I)Z" } : Jvm.MethodName) prog_4_method_8_code (3 : Nat) (Option.some Jvm.ClassFile.FieldType.boolean)) ∈ lw_all := lw_g (lw_at lw_m4 68 rfl) rfl
theorem q860 : (Jvm.Cond.methodLink "BilevelPages$Segment" (76 : Nat) ({ cls := "BilevelPages$Segment", name := "placeOf", desc := "(I)I" } : Jvm.MethodName)) ∈ lw_all := lw_g (lw_at lw_m4 69 rfl) rfl
theorem q988 : (Jvm.Cond.instanceMethod ({ cls := "BilevelPages$Segment", name := "isOpen", desc := "()Z" } : Jvm.MethodName)) ∈ lw_all := lw_g (lw_at lw_m4 197 rfl) rfl
theorem q989 : (Jvm.Cond.selects "BilevelPages$Segment" ({ cls := "BilevelPages$Segment", name := "isOpen", desc := "()Z" } : Jvm.MethodName) ({ cls := "BilevelPages$Segment", name := "isOpen", desc := "()Z" } : Jvm.MethodName)) ∈ lw_all := lw_g (lw_at lw_m4 198 rfl) rfl
theorem q990 : (Jvm.Cond.code ({ cls := "BilevelPages$Segment", name := "isOpen", desc := "()Z" } : Jvm.MethodName) prog_4_method_5_code (1 : Nat) (Option.some Jvm.ClassFile.FieldType.boolean)) ∈ lw_all := lw_g (lw_at lw_m4 199 rfl) rfl
theorem q991 : (Jvm.Cond.fieldLink "BilevelPages$Segment" (69 : Nat) "BilevelPages$Kind" "PLAIN" "LBilevelPages$Kind;") ∈ lw_all := lw_g (lw_at lw_m4 200 rfl) rfl
theorem q1497 : (Jvm.Cond.castable "BilevelPages$Segment" "java/lang/Object") ∈ lw_tbl := lw_at lw_m6 226 rfl
theorem q1525 : (Jvm.Cond.fieldLinkNest "BilevelPages$Segment" (60 : Nat) "BilevelPages$Kind" "numbers" "I" "BilevelPages") ∈ lw_tbl := lw_at lw_m7 14 rfl
theorem in_X4 : ∀ w ∈ wsX40, w ∈ lw_all := lw_in wsX40 [261, 263, 265, 267, 269, 271, 273, 275, 277, 279, 281, 283, 285] (by decide +kernel) (by decide +kernel)
/-! BilevelPages$Kind -/
set_option maxRecDepth 100000
def RX5 : String := "BilevelPages$Kind"
abbrev cX5_least : ByteArray := prog_2_method_4_code
def yX5_least : MethodName := ⟨RX5, "least", "(I)I"⟩
def dkwX5_least_2 : List UInt8 := [172]
abbrev dktX5_least_2 : List UInt8 := dkwX5_least_2 ++ []
def dkwX5_least_1 : List UInt8 := [178, 0, 70, 27, 46, 167, 0, 19, 178, 0, 73, 42, 178, 0, 24, 166, 0, 7, 3, 167, 0, 4, 4, 46]
abbrev dktX5_least_1 : List UInt8 := dkwX5_least_1 ++ dktX5_least_2
def dkwX5_least_0 : List UInt8 := [42, 178, 0, 18, 166, 0, 11, 178, 0, 62, 27, 46, 167, 0, 34, 42, 182, 0, 66, 153, 0, 11]
abbrev dktX5_least_0 : List UInt8 := dkwX5_least_0 ++ dktX5_least_1
theorem dksX5_least_0 : cX5_least.data.toList.drop 0 = dktX5_least_0 := by decide +kernel
theorem dksX5_least_1 : cX5_least.data.toList.drop 22 = dktX5_least_1 := dk_seg dksX5_least_0 22 rfl rfl
theorem dksX5_least_2 : cX5_least.data.toList.drop 46 = dktX5_least_2 := dk_seg dksX5_least_1 24 rfl rfl
theorem dX5_least_0 : decode cX5_least 0 = .ok (.aload_n 0, 1) := dk_42 (dk_at dksX5_least_0 0 rfl rfl)
theorem dX5_least_1 : decode cX5_least 1 = .ok (.getstatic 18, 3) := dk_178 0 18 (dk_at dksX5_least_0 1 rfl rfl)
theorem dX5_least_4 : decode cX5_least 4 = .ok (.if_acmp .ne 11, 3) := dk_166 0 11 (dk_at dksX5_least_0 4 rfl rfl)
theorem dX5_least_7 : decode cX5_least 7 = .ok (.getstatic 62, 3) := dk_178 0 62 (dk_at dksX5_least_0 7 rfl rfl)
theorem dX5_least_10 : decode cX5_least 10 = .ok (.iload_n 1, 1) := dk_27 (dk_at dksX5_least_0 10 rfl rfl)
theorem dX5_least_11 : decode cX5_least 11 = .ok (.iaload, 1) := dk_46 (dk_at dksX5_least_0 11 rfl rfl)
theorem dX5_least_12 : decode cX5_least 12 = .ok (.goto 34, 3) := dk_167 0 34 (dk_at dksX5_least_0 12 rfl rfl)
theorem dX5_least_15 : decode cX5_least 15 = .ok (.aload_n 0, 1) := dk_42 (dk_at dksX5_least_0 15 rfl rfl)
theorem dX5_least_16 : decode cX5_least 16 = .ok (.invokevirtual 66, 3) := dk_182 0 66 (dk_at dksX5_least_0 16 rfl rfl)
theorem dX5_least_19 : decode cX5_least 19 = .ok (.ifCond .eq 11, 3) := dk_153 0 11 (dk_at dksX5_least_0 19 rfl rfl)
theorem dX5_least_22 : decode cX5_least 22 = .ok (.getstatic 70, 3) := dk_178 0 70 (dk_at dksX5_least_1 0 rfl rfl)
theorem dX5_least_25 : decode cX5_least 25 = .ok (.iload_n 1, 1) := dk_27 (dk_at dksX5_least_1 3 rfl rfl)
theorem dX5_least_26 : decode cX5_least 26 = .ok (.iaload, 1) := dk_46 (dk_at dksX5_least_1 4 rfl rfl)
theorem dX5_least_27 : decode cX5_least 27 = .ok (.goto 19, 3) := dk_167 0 19 (dk_at dksX5_least_1 5 rfl rfl)
theorem dX5_least_30 : decode cX5_least 30 = .ok (.getstatic 73, 3) := dk_178 0 73 (dk_at dksX5_least_1 8 rfl rfl)
theorem dX5_least_33 : decode cX5_least 33 = .ok (.aload_n 0, 1) := dk_42 (dk_at dksX5_least_1 11 rfl rfl)
theorem dX5_least_34 : decode cX5_least 34 = .ok (.getstatic 24, 3) := dk_178 0 24 (dk_at dksX5_least_1 12 rfl rfl)
theorem dX5_least_37 : decode cX5_least 37 = .ok (.if_acmp .ne 7, 3) := dk_166 0 7 (dk_at dksX5_least_1 15 rfl rfl)
theorem dX5_least_40 : decode cX5_least 40 = .ok (.iconst 0, 1) := dk_3 (dk_at dksX5_least_1 18 rfl rfl)
theorem dX5_least_41 : decode cX5_least 41 = .ok (.goto 4, 3) := dk_167 0 4 (dk_at dksX5_least_1 19 rfl rfl)
theorem dX5_least_44 : decode cX5_least 44 = .ok (.iconst 1, 1) := dk_4 (dk_at dksX5_least_1 22 rfl rfl)
theorem dX5_least_45 : decode cX5_least 45 = .ok (.iaload, 1) := dk_46 (dk_at dksX5_least_1 23 rfl rfl)
theorem dX5_least_46 : decode cX5_least 46 = .ok (.ireturn, 1) := dk_172 (dk_at dksX5_least_2 0 rfl rfl)
abbrev cX5_isRegion : ByteArray := prog_2_method_6_code
def yX5_isRegion : MethodName := ⟨RX5, "isRegion", "()Z"⟩
def dkwX5_isRegion_1 : List UInt8 := [167, 0, 4, 3, 172]
abbrev dktX5_isRegion_1 : List UInt8 := dkwX5_isRegion_1 ++ []
def dkwX5_isRegion_0 : List UInt8 := [42, 178, 0, 9, 165, 0, 17, 42, 178, 0, 12, 165, 0, 10, 42, 178, 0, 15, 166, 0, 7, 4]
abbrev dktX5_isRegion_0 : List UInt8 := dkwX5_isRegion_0 ++ dktX5_isRegion_1
theorem dksX5_isRegion_0 : cX5_isRegion.data.toList.drop 0 = dktX5_isRegion_0 := by decide +kernel
theorem dksX5_isRegion_1 : cX5_isRegion.data.toList.drop 22 = dktX5_isRegion_1 := dk_seg dksX5_isRegion_0 22 rfl rfl
theorem dX5_isRegion_0 : decode cX5_isRegion 0 = .ok (.aload_n 0, 1) := dk_42 (dk_at dksX5_isRegion_0 0 rfl rfl)
theorem dX5_isRegion_1 : decode cX5_isRegion 1 = .ok (.getstatic 9, 3) := dk_178 0 9 (dk_at dksX5_isRegion_0 1 rfl rfl)
theorem dX5_isRegion_4 : decode cX5_isRegion 4 = .ok (.if_acmp .eq 17, 3) := dk_165 0 17 (dk_at dksX5_isRegion_0 4 rfl rfl)
theorem dX5_isRegion_7 : decode cX5_isRegion 7 = .ok (.aload_n 0, 1) := dk_42 (dk_at dksX5_isRegion_0 7 rfl rfl)
theorem dX5_isRegion_8 : decode cX5_isRegion 8 = .ok (.getstatic 12, 3) := dk_178 0 12 (dk_at dksX5_isRegion_0 8 rfl rfl)
theorem dX5_isRegion_11 : decode cX5_isRegion 11 = .ok (.if_acmp .eq 10, 3) := dk_165 0 10 (dk_at dksX5_isRegion_0 11 rfl rfl)
theorem dX5_isRegion_14 : decode cX5_isRegion 14 = .ok (.aload_n 0, 1) := dk_42 (dk_at dksX5_isRegion_0 14 rfl rfl)
theorem dX5_isRegion_15 : decode cX5_isRegion 15 = .ok (.getstatic 15, 3) := dk_178 0 15 (dk_at dksX5_isRegion_0 15 rfl rfl)
theorem dX5_isRegion_18 : decode cX5_isRegion 18 = .ok (.if_acmp .ne 7, 3) := dk_166 0 7 (dk_at dksX5_isRegion_0 18 rfl rfl)
theorem dX5_isRegion_21 : decode cX5_isRegion 21 = .ok (.iconst 1, 1) := dk_4 (dk_at dksX5_isRegion_0 21 rfl rfl)
theorem dX5_isRegion_22 : decode cX5_isRegion 22 = .ok (.goto 4, 3) := dk_167 0 4 (dk_at dksX5_isRegion_1 0 rfl rfl)
theorem dX5_isRegion_25 : decode cX5_isRegion 25 = .ok (.iconst 0, 1) := dk_3 (dk_at dksX5_isRegion_1 3 rfl rfl)
theorem dX5_isRegion_26 : decode cX5_isRegion 26 = .ok (.ireturn, 1) := dk_172 (dk_at dksX5_isRegion_1 4 rfl rfl)
abbrev cX5_mayReferTo : ByteArray := prog_2_method_8_code
def yX5_mayReferTo : MethodName := ⟨RX5, "mayReferTo", "(LBilevelPages$Kind;)Z"⟩
def dkwX5_mayReferTo_4 : List UInt8 := [3, 167, 0, 4, 3, 172]
abbrev dktX5_mayReferTo_4 : List UInt8 := dkwX5_mayReferTo_4 ++ []
def dkwX5_mayReferTo_3 : List UInt8 := [178, 0, 5, 165, 0, 17, 43, 178, 0, 30, 165, 0, 10, 43, 178, 0, 9, 166, 0, 7, 4, 167, 0, 8]
abbrev dktX5_mayReferTo_3 : List UInt8 := dkwX5_mayReferTo_3 ++ dktX5_mayReferTo_4
def dkwX5_mayReferTo_2 : List UInt8 := [43, 178, 0, 5, 165, 0, 10, 43, 178, 0, 30, 166, 0, 7, 4, 167, 0, 37, 3, 167, 0, 33, 43]
abbrev dktX5_mayReferTo_2 : List UInt8 := dkwX5_mayReferTo_2 ++ dktX5_mayReferTo_3
def dkwX5_mayReferTo_1 : List UInt8 := [170, 0, 0, 0, 0, 0, 0, 79, 0, 0, 0, 0, 0, 0, 0, 2, 0, 0, 0, 28, 0, 0, 0, 28, 0, 0, 0, 50]
abbrev dktX5_mayReferTo_1 : List UInt8 := dkwX5_mayReferTo_1 ++ dktX5_mayReferTo_2
def dkwX5_mayReferTo_0 : List UInt8 := [42, 182, 0, 85]
abbrev dktX5_mayReferTo_0 : List UInt8 := dkwX5_mayReferTo_0 ++ dktX5_mayReferTo_1
theorem dksX5_mayReferTo_0 : cX5_mayReferTo.data.toList.drop 0 = dktX5_mayReferTo_0 := by decide +kernel
theorem dksX5_mayReferTo_1 : cX5_mayReferTo.data.toList.drop 4 = dktX5_mayReferTo_1 := dk_seg dksX5_mayReferTo_0 4 rfl rfl
theorem dksX5_mayReferTo_2 : cX5_mayReferTo.data.toList.drop 32 = dktX5_mayReferTo_2 := dk_seg dksX5_mayReferTo_1 28 rfl rfl
theorem dksX5_mayReferTo_3 : cX5_mayReferTo.data.toList.drop 55 = dktX5_mayReferTo_3 := dk_seg dksX5_mayReferTo_2 23 rfl rfl
theorem dksX5_mayReferTo_4 : cX5_mayReferTo.data.toList.drop 79 = dktX5_mayReferTo_4 := dk_seg dksX5_mayReferTo_3 24 rfl rfl
theorem dX5_mayReferTo_0 : decode cX5_mayReferTo 0 = .ok (.aload_n 0, 1) := dk_42 (dk_at dksX5_mayReferTo_0 0 rfl rfl)
theorem dX5_mayReferTo_1 : decode cX5_mayReferTo 1 = .ok (.invokevirtual 85, 3) := dk_182 0 85 (dk_at dksX5_mayReferTo_0 1 rfl rfl)
theorem dX5_mayReferTo_4 : decode cX5_mayReferTo 4 = .ok (.tableswitch 79 0 2 #[28, 28, 50], 28) := by decide +kernel
theorem dX5_mayReferTo_32 : decode cX5_mayReferTo 32 = .ok (.aload_n 1, 1) := dk_43 (dk_at dksX5_mayReferTo_2 0 rfl rfl)
theorem dX5_mayReferTo_33 : decode cX5_mayReferTo 33 = .ok (.getstatic 5, 3) := dk_178 0 5 (dk_at dksX5_mayReferTo_2 1 rfl rfl)
theorem dX5_mayReferTo_36 : decode cX5_mayReferTo 36 = .ok (.if_acmp .eq 10, 3) := dk_165 0 10 (dk_at dksX5_mayReferTo_2 4 rfl rfl)
theorem dX5_mayReferTo_39 : decode cX5_mayReferTo 39 = .ok (.aload_n 1, 1) := dk_43 (dk_at dksX5_mayReferTo_2 7 rfl rfl)
theorem dX5_mayReferTo_40 : decode cX5_mayReferTo 40 = .ok (.getstatic 30, 3) := dk_178 0 30 (dk_at dksX5_mayReferTo_2 8 rfl rfl)
theorem dX5_mayReferTo_43 : decode cX5_mayReferTo 43 = .ok (.if_acmp .ne 7, 3) := dk_166 0 7 (dk_at dksX5_mayReferTo_2 11 rfl rfl)
theorem dX5_mayReferTo_46 : decode cX5_mayReferTo 46 = .ok (.iconst 1, 1) := dk_4 (dk_at dksX5_mayReferTo_2 14 rfl rfl)
theorem dX5_mayReferTo_47 : decode cX5_mayReferTo 47 = .ok (.goto 37, 3) := dk_167 0 37 (dk_at dksX5_mayReferTo_2 15 rfl rfl)
theorem dX5_mayReferTo_50 : decode cX5_mayReferTo 50 = .ok (.iconst 0, 1) := dk_3 (dk_at dksX5_mayReferTo_2 18 rfl rfl)
theorem dX5_mayReferTo_51 : decode cX5_mayReferTo 51 = .ok (.goto 33, 3) := dk_167 0 33 (dk_at dksX5_mayReferTo_2 19 rfl rfl)
theorem dX5_mayReferTo_54 : decode cX5_mayReferTo 54 = .ok (.aload_n 1, 1) := dk_43 (dk_at dksX5_mayReferTo_2 22 rfl rfl)
theorem dX5_mayReferTo_55 : decode cX5_mayReferTo 55 = .ok (.getstatic 5, 3) := dk_178 0 5 (dk_at dksX5_mayReferTo_3 0 rfl rfl)
theorem dX5_mayReferTo_58 : decode cX5_mayReferTo 58 = .ok (.if_acmp .eq 17, 3) := dk_165 0 17 (dk_at dksX5_mayReferTo_3 3 rfl rfl)
theorem dX5_mayReferTo_61 : decode cX5_mayReferTo 61 = .ok (.aload_n 1, 1) := dk_43 (dk_at dksX5_mayReferTo_3 6 rfl rfl)
theorem dX5_mayReferTo_62 : decode cX5_mayReferTo 62 = .ok (.getstatic 30, 3) := dk_178 0 30 (dk_at dksX5_mayReferTo_3 7 rfl rfl)
theorem dX5_mayReferTo_65 : decode cX5_mayReferTo 65 = .ok (.if_acmp .eq 10, 3) := dk_165 0 10 (dk_at dksX5_mayReferTo_3 10 rfl rfl)
theorem dX5_mayReferTo_68 : decode cX5_mayReferTo 68 = .ok (.aload_n 1, 1) := dk_43 (dk_at dksX5_mayReferTo_3 13 rfl rfl)
theorem dX5_mayReferTo_69 : decode cX5_mayReferTo 69 = .ok (.getstatic 9, 3) := dk_178 0 9 (dk_at dksX5_mayReferTo_3 14 rfl rfl)
theorem dX5_mayReferTo_72 : decode cX5_mayReferTo 72 = .ok (.if_acmp .ne 7, 3) := dk_166 0 7 (dk_at dksX5_mayReferTo_3 17 rfl rfl)
theorem dX5_mayReferTo_75 : decode cX5_mayReferTo 75 = .ok (.iconst 1, 1) := dk_4 (dk_at dksX5_mayReferTo_3 20 rfl rfl)
theorem dX5_mayReferTo_76 : decode cX5_mayReferTo 76 = .ok (.goto 8, 3) := dk_167 0 8 (dk_at dksX5_mayReferTo_3 21 rfl rfl)
theorem dX5_mayReferTo_79 : decode cX5_mayReferTo 79 = .ok (.iconst 0, 1) := dk_3 (dk_at dksX5_mayReferTo_4 0 rfl rfl)
theorem dX5_mayReferTo_80 : decode cX5_mayReferTo 80 = .ok (.goto 4, 3) := dk_167 0 4 (dk_at dksX5_mayReferTo_4 1 rfl rfl)
theorem dX5_mayReferTo_83 : decode cX5_mayReferTo 83 = .ok (.iconst 0, 1) := dk_3 (dk_at dksX5_mayReferTo_4 4 rfl rfl)
theorem dX5_mayReferTo_84 : decode cX5_mayReferTo 84 = .ok (.ireturn, 1) := dk_172 (dk_at dksX5_mayReferTo_4 5 rfl rfl)
abbrev cX5_hasBytes : ByteArray := prog_2_method_7_code
def yX5_hasBytes : MethodName := ⟨RX5, "hasBytes", "()Z"⟩
def dkwX5_hasBytes_1 : List UInt8 := [167, 0, 4, 3, 172]
abbrev dktX5_hasBytes_1 : List UInt8 := dkwX5_hasBytes_1 ++ []
def dkwX5_hasBytes_0 : List UInt8 := [42, 178, 0, 5, 165, 0, 17, 42, 178, 0, 30, 165, 0, 10, 42, 178, 0, 33, 166, 0, 7, 4]
abbrev dktX5_hasBytes_0 : List UInt8 := dkwX5_hasBytes_0 ++ dktX5_hasBytes_1
theorem dksX5_hasBytes_0 : cX5_hasBytes.data.toList.drop 0 = dktX5_hasBytes_0 := by decide +kernel
theorem dksX5_hasBytes_1 : cX5_hasBytes.data.toList.drop 22 = dktX5_hasBytes_1 := dk_seg dksX5_hasBytes_0 22 rfl rfl
theorem dX5_hasBytes_0 : decode cX5_hasBytes 0 = .ok (.aload_n 0, 1) := dk_42 (dk_at dksX5_hasBytes_0 0 rfl rfl)
theorem dX5_hasBytes_1 : decode cX5_hasBytes 1 = .ok (.getstatic 5, 3) := dk_178 0 5 (dk_at dksX5_hasBytes_0 1 rfl rfl)
theorem dX5_hasBytes_4 : decode cX5_hasBytes 4 = .ok (.if_acmp .eq 17, 3) := dk_165 0 17 (dk_at dksX5_hasBytes_0 4 rfl rfl)
theorem dX5_hasBytes_7 : decode cX5_hasBytes 7 = .ok (.aload_n 0, 1) := dk_42 (dk_at dksX5_hasBytes_0 7 rfl rfl)
theorem dX5_hasBytes_8 : decode cX5_hasBytes 8 = .ok (.getstatic 30, 3) := dk_178 0 30 (dk_at dksX5_hasBytes_0 8 rfl rfl)
theorem dX5_hasBytes_11 : decode cX5_hasBytes 11 = .ok (.if_acmp .eq 10, 3) := dk_165 0 10 (dk_at dksX5_hasBytes_0 11 rfl rfl)
theorem dX5_hasBytes_14 : decode cX5_hasBytes 14 = .ok (.aload_n 0, 1) := dk_42 (dk_at dksX5_hasBytes_0 14 rfl rfl)
theorem dX5_hasBytes_15 : decode cX5_hasBytes 15 = .ok (.getstatic 33, 3) := dk_178 0 33 (dk_at dksX5_hasBytes_0 15 rfl rfl)
theorem dX5_hasBytes_18 : decode cX5_hasBytes 18 = .ok (.if_acmp .ne 7, 3) := dk_166 0 7 (dk_at dksX5_hasBytes_0 18 rfl rfl)
theorem dX5_hasBytes_21 : decode cX5_hasBytes 21 = .ok (.iconst 1, 1) := dk_4 (dk_at dksX5_hasBytes_0 21 rfl rfl)
theorem dX5_hasBytes_22 : decode cX5_hasBytes 22 = .ok (.goto 4, 3) := dk_167 0 4 (dk_at dksX5_hasBytes_1 0 rfl rfl)
theorem dX5_hasBytes_25 : decode cX5_hasBytes 25 = .ok (.iconst 0, 1) := dk_3 (dk_at dksX5_hasBytes_1 3 rfl rfl)
theorem dX5_hasBytes_26 : decode cX5_hasBytes 26 = .ok (.ireturn, 1) := dk_172 (dk_at dksX5_hasBytes_1 4 rfl rfl)
abbrev cX5_takes : ByteArray := prog_2_method_9_code
def yX5_takes : MethodName := ⟨RX5, "takes", "(J)Z"⟩
def dkwX5_takes_6 : List UInt8 := [20, 0, 99, 148, 156, 0, 7, 4, 167, 0, 4, 3, 172]
abbrev dktX5_takes_6 : List UInt8 := dkwX5_takes_6 ++ []
def dkwX5_takes_5 : List UInt8 := [31, 9, 148, 154, 0, 7, 4, 167, 0, 28, 3, 167, 0, 24, 31, 20, 0, 97, 148, 155, 0, 15, 31]
abbrev dktX5_takes_5 : List UInt8 := dkwX5_takes_5 ++ dktX5_takes_6
def dkwX5_takes_4 : List UInt8 := [4, 167, 0, 58, 3, 167, 0, 54, 31, 20, 0, 91, 148, 154, 0, 7, 4, 167, 0, 42, 3, 167, 0, 38]
abbrev dktX5_takes_4 : List UInt8 := dkwX5_takes_4 ++ dktX5_takes_5
def dkwX5_takes_3 : List UInt8 := [31, 20, 0, 93, 148, 157, 0, 7, 4, 167, 0, 74, 3, 167, 0, 70, 31, 20, 0, 95, 148, 154, 0, 7]
abbrev dktX5_takes_3 : List UInt8 := dkwX5_takes_3 ++ dktX5_takes_4
def dkwX5_takes_2 : List UInt8 := [31, 20, 0, 89, 148, 157, 0, 7, 4, 167, 0, 98, 3, 167, 0, 94, 31, 20, 0, 91, 148, 155, 0, 15]
abbrev dktX5_takes_2 : List UInt8 := dkwX5_takes_2 ++ dktX5_takes_3
def dkwX5_takes_1 : List UInt8 := [170, 0, 0, 0, 0, 0, 0, 142, 0, 0, 0, 0, 0, 0, 0, 9, 0, 0, 0, 56, 0, 0, 0, 142, 0, 0, 0, 142, 0, 0, 0, 142, 0, 0, 0, 96, 0, 0, 0, 128, 0, 0, 0, 112, 0, 0, 0, 128, 0, 0, 0, 56, 0, 0, 0, 72]
abbrev dktX5_takes_1 : List UInt8 := dkwX5_takes_1 ++ dktX5_takes_2
def dkwX5_takes_0 : List UInt8 := [42, 182, 0, 85]
abbrev dktX5_takes_0 : List UInt8 := dkwX5_takes_0 ++ dktX5_takes_1
theorem dksX5_takes_0 : cX5_takes.data.toList.drop 0 = dktX5_takes_0 := by decide +kernel
theorem dksX5_takes_1 : cX5_takes.data.toList.drop 4 = dktX5_takes_1 := dk_seg dksX5_takes_0 4 rfl rfl
theorem dksX5_takes_2 : cX5_takes.data.toList.drop 60 = dktX5_takes_2 := dk_seg dksX5_takes_1 56 rfl rfl
theorem dksX5_takes_3 : cX5_takes.data.toList.drop 84 = dktX5_takes_3 := dk_seg dksX5_takes_2 24 rfl rfl
theorem dksX5_takes_4 : cX5_takes.data.toList.drop 108 = dktX5_takes_4 := dk_seg dksX5_takes_3 24 rfl rfl
theorem dksX5_takes_5 : cX5_takes.data.toList.drop 132 = dktX5_takes_5 := dk_seg dksX5_takes_4 24 rfl rfl
theorem dksX5_takes_6 : cX5_takes.data.toList.drop 155 = dktX5_takes_6 := dk_seg dksX5_takes_5 23 rfl rfl
theorem dX5_takes_0 : decode cX5_takes 0 = .ok (.aload_n 0, 1) := dk_42 (dk_at dksX5_takes_0 0 rfl rfl)
theorem dX5_takes_1 : decode cX5_takes 1 = .ok (.invokevirtual 85, 3) := dk_182 0 85 (dk_at dksX5_takes_0 1 rfl rfl)
theorem dX5_takes_4 : decode cX5_takes 4 = .ok (.tableswitch 142 0 9 #[56, 142, 142, 142, 96, 128, 112, 128, 56, 72], 56) := by decide +kernel
theorem dX5_takes_60 : decode cX5_takes 60 = .ok (.lload_n 1, 1) := dk_31 (dk_at dksX5_takes_2 0 rfl rfl)
theorem dX5_takes_61 : decode cX5_takes 61 = .ok (.ldc2_w 89, 3) := dk_20 0 89 (dk_at dksX5_takes_2 1 rfl rfl)
theorem dX5_takes_64 : decode cX5_takes 64 = .ok (.lcmp, 1) := dk_148 (dk_at dksX5_takes_2 4 rfl rfl)
theorem dX5_takes_65 : decode cX5_takes 65 = .ok (.ifCond .gt 7, 3) := dk_157 0 7 (dk_at dksX5_takes_2 5 rfl rfl)
theorem dX5_takes_68 : decode cX5_takes 68 = .ok (.iconst 1, 1) := dk_4 (dk_at dksX5_takes_2 8 rfl rfl)
theorem dX5_takes_69 : decode cX5_takes 69 = .ok (.goto 98, 3) := dk_167 0 98 (dk_at dksX5_takes_2 9 rfl rfl)
theorem dX5_takes_72 : decode cX5_takes 72 = .ok (.iconst 0, 1) := dk_3 (dk_at dksX5_takes_2 12 rfl rfl)
theorem dX5_takes_73 : decode cX5_takes 73 = .ok (.goto 94, 3) := dk_167 0 94 (dk_at dksX5_takes_2 13 rfl rfl)
theorem dX5_takes_76 : decode cX5_takes 76 = .ok (.lload_n 1, 1) := dk_31 (dk_at dksX5_takes_2 16 rfl rfl)
theorem dX5_takes_77 : decode cX5_takes 77 = .ok (.ldc2_w 91, 3) := dk_20 0 91 (dk_at dksX5_takes_2 17 rfl rfl)
theorem dX5_takes_80 : decode cX5_takes 80 = .ok (.lcmp, 1) := dk_148 (dk_at dksX5_takes_2 20 rfl rfl)
theorem dX5_takes_81 : decode cX5_takes 81 = .ok (.ifCond .lt 15, 3) := dk_155 0 15 (dk_at dksX5_takes_2 21 rfl rfl)
theorem dX5_takes_84 : decode cX5_takes 84 = .ok (.lload_n 1, 1) := dk_31 (dk_at dksX5_takes_3 0 rfl rfl)
theorem dX5_takes_85 : decode cX5_takes 85 = .ok (.ldc2_w 93, 3) := dk_20 0 93 (dk_at dksX5_takes_3 1 rfl rfl)
theorem dX5_takes_88 : decode cX5_takes 88 = .ok (.lcmp, 1) := dk_148 (dk_at dksX5_takes_3 4 rfl rfl)
theorem dX5_takes_89 : decode cX5_takes 89 = .ok (.ifCond .gt 7, 3) := dk_157 0 7 (dk_at dksX5_takes_3 5 rfl rfl)
theorem dX5_takes_92 : decode cX5_takes 92 = .ok (.iconst 1, 1) := dk_4 (dk_at dksX5_takes_3 8 rfl rfl)
theorem dX5_takes_93 : decode cX5_takes 93 = .ok (.goto 74, 3) := dk_167 0 74 (dk_at dksX5_takes_3 9 rfl rfl)
theorem dX5_takes_96 : decode cX5_takes 96 = .ok (.iconst 0, 1) := dk_3 (dk_at dksX5_takes_3 12 rfl rfl)
theorem dX5_takes_97 : decode cX5_takes 97 = .ok (.goto 70, 3) := dk_167 0 70 (dk_at dksX5_takes_3 13 rfl rfl)
theorem dX5_takes_100 : decode cX5_takes 100 = .ok (.lload_n 1, 1) := dk_31 (dk_at dksX5_takes_3 16 rfl rfl)
theorem dX5_takes_101 : decode cX5_takes 101 = .ok (.ldc2_w 95, 3) := dk_20 0 95 (dk_at dksX5_takes_3 17 rfl rfl)
theorem dX5_takes_104 : decode cX5_takes 104 = .ok (.lcmp, 1) := dk_148 (dk_at dksX5_takes_3 20 rfl rfl)
theorem dX5_takes_105 : decode cX5_takes 105 = .ok (.ifCond .ne 7, 3) := dk_154 0 7 (dk_at dksX5_takes_3 21 rfl rfl)
theorem dX5_takes_108 : decode cX5_takes 108 = .ok (.iconst 1, 1) := dk_4 (dk_at dksX5_takes_4 0 rfl rfl)
theorem dX5_takes_109 : decode cX5_takes 109 = .ok (.goto 58, 3) := dk_167 0 58 (dk_at dksX5_takes_4 1 rfl rfl)
theorem dX5_takes_112 : decode cX5_takes 112 = .ok (.iconst 0, 1) := dk_3 (dk_at dksX5_takes_4 4 rfl rfl)
theorem dX5_takes_113 : decode cX5_takes 113 = .ok (.goto 54, 3) := dk_167 0 54 (dk_at dksX5_takes_4 5 rfl rfl)
theorem dX5_takes_116 : decode cX5_takes 116 = .ok (.lload_n 1, 1) := dk_31 (dk_at dksX5_takes_4 8 rfl rfl)
theorem dX5_takes_117 : decode cX5_takes 117 = .ok (.ldc2_w 91, 3) := dk_20 0 91 (dk_at dksX5_takes_4 9 rfl rfl)
theorem dX5_takes_120 : decode cX5_takes 120 = .ok (.lcmp, 1) := dk_148 (dk_at dksX5_takes_4 12 rfl rfl)
theorem dX5_takes_121 : decode cX5_takes 121 = .ok (.ifCond .ne 7, 3) := dk_154 0 7 (dk_at dksX5_takes_4 13 rfl rfl)
theorem dX5_takes_124 : decode cX5_takes 124 = .ok (.iconst 1, 1) := dk_4 (dk_at dksX5_takes_4 16 rfl rfl)
theorem dX5_takes_125 : decode cX5_takes 125 = .ok (.goto 42, 3) := dk_167 0 42 (dk_at dksX5_takes_4 17 rfl rfl)
theorem dX5_takes_128 : decode cX5_takes 128 = .ok (.iconst 0, 1) := dk_3 (dk_at dksX5_takes_4 20 rfl rfl)
theorem dX5_takes_129 : decode cX5_takes 129 = .ok (.goto 38, 3) := dk_167 0 38 (dk_at dksX5_takes_4 21 rfl rfl)
theorem dX5_takes_132 : decode cX5_takes 132 = .ok (.lload_n 1, 1) := dk_31 (dk_at dksX5_takes_5 0 rfl rfl)
theorem dX5_takes_133 : decode cX5_takes 133 = .ok (.lconst 0, 1) := dk_9 (dk_at dksX5_takes_5 1 rfl rfl)
theorem dX5_takes_134 : decode cX5_takes 134 = .ok (.lcmp, 1) := dk_148 (dk_at dksX5_takes_5 2 rfl rfl)
theorem dX5_takes_135 : decode cX5_takes 135 = .ok (.ifCond .ne 7, 3) := dk_154 0 7 (dk_at dksX5_takes_5 3 rfl rfl)
theorem dX5_takes_138 : decode cX5_takes 138 = .ok (.iconst 1, 1) := dk_4 (dk_at dksX5_takes_5 6 rfl rfl)
theorem dX5_takes_139 : decode cX5_takes 139 = .ok (.goto 28, 3) := dk_167 0 28 (dk_at dksX5_takes_5 7 rfl rfl)
theorem dX5_takes_142 : decode cX5_takes 142 = .ok (.iconst 0, 1) := dk_3 (dk_at dksX5_takes_5 10 rfl rfl)
theorem dX5_takes_143 : decode cX5_takes 143 = .ok (.goto 24, 3) := dk_167 0 24 (dk_at dksX5_takes_5 11 rfl rfl)
theorem dX5_takes_146 : decode cX5_takes 146 = .ok (.lload_n 1, 1) := dk_31 (dk_at dksX5_takes_5 14 rfl rfl)
theorem dX5_takes_147 : decode cX5_takes 147 = .ok (.ldc2_w 97, 3) := dk_20 0 97 (dk_at dksX5_takes_5 15 rfl rfl)
theorem dX5_takes_150 : decode cX5_takes 150 = .ok (.lcmp, 1) := dk_148 (dk_at dksX5_takes_5 18 rfl rfl)
theorem dX5_takes_151 : decode cX5_takes 151 = .ok (.ifCond .lt 15, 3) := dk_155 0 15 (dk_at dksX5_takes_5 19 rfl rfl)
theorem dX5_takes_154 : decode cX5_takes 154 = .ok (.lload_n 1, 1) := dk_31 (dk_at dksX5_takes_5 22 rfl rfl)
theorem dX5_takes_155 : decode cX5_takes 155 = .ok (.ldc2_w 99, 3) := dk_20 0 99 (dk_at dksX5_takes_6 0 rfl rfl)
theorem dX5_takes_158 : decode cX5_takes 158 = .ok (.lcmp, 1) := dk_148 (dk_at dksX5_takes_6 3 rfl rfl)
theorem dX5_takes_159 : decode cX5_takes 159 = .ok (.ifCond .ge 7, 3) := dk_156 0 7 (dk_at dksX5_takes_6 4 rfl rfl)
theorem dX5_takes_162 : decode cX5_takes 162 = .ok (.iconst 1, 1) := dk_4 (dk_at dksX5_takes_6 7 rfl rfl)
theorem dX5_takes_163 : decode cX5_takes 163 = .ok (.goto 4, 3) := dk_167 0 4 (dk_at dksX5_takes_6 8 rfl rfl)
theorem dX5_takes_166 : decode cX5_takes 166 = .ok (.iconst 0, 1) := dk_3 (dk_at dksX5_takes_6 11 rfl rfl)
theorem dX5_takes_167 : decode cX5_takes 167 = .ok (.ireturn, 1) := dk_172 (dk_at dksX5_takes_6 12 rfl rfl)
abbrev cX5_most : ByteArray := prog_2_method_5_code
def yX5_most : MethodName := ⟨RX5, "most", "(I)I"⟩
def dkwX5_most_2 : List UInt8 := [172]
abbrev dktX5_most_2 : List UInt8 := dkwX5_most_2 ++ []
def dkwX5_most_1 : List UInt8 := [178, 0, 79, 27, 46, 167, 0, 19, 178, 0, 82, 42, 178, 0, 24, 166, 0, 7, 3, 167, 0, 4, 4, 46]
abbrev dktX5_most_1 : List UInt8 := dkwX5_most_1 ++ dktX5_most_2
def dkwX5_most_0 : List UInt8 := [42, 178, 0, 18, 166, 0, 11, 178, 0, 76, 27, 46, 167, 0, 34, 42, 182, 0, 66, 153, 0, 11]
abbrev dktX5_most_0 : List UInt8 := dkwX5_most_0 ++ dktX5_most_1
theorem dksX5_most_0 : cX5_most.data.toList.drop 0 = dktX5_most_0 := by decide +kernel
theorem dksX5_most_1 : cX5_most.data.toList.drop 22 = dktX5_most_1 := dk_seg dksX5_most_0 22 rfl rfl
theorem dksX5_most_2 : cX5_most.data.toList.drop 46 = dktX5_most_2 := dk_seg dksX5_most_1 24 rfl rfl
theorem dX5_most_0 : decode cX5_most 0 = .ok (.aload_n 0, 1) := dk_42 (dk_at dksX5_most_0 0 rfl rfl)
theorem dX5_most_1 : decode cX5_most 1 = .ok (.getstatic 18, 3) := dk_178 0 18 (dk_at dksX5_most_0 1 rfl rfl)
theorem dX5_most_4 : decode cX5_most 4 = .ok (.if_acmp .ne 11, 3) := dk_166 0 11 (dk_at dksX5_most_0 4 rfl rfl)
theorem dX5_most_7 : decode cX5_most 7 = .ok (.getstatic 76, 3) := dk_178 0 76 (dk_at dksX5_most_0 7 rfl rfl)
theorem dX5_most_10 : decode cX5_most 10 = .ok (.iload_n 1, 1) := dk_27 (dk_at dksX5_most_0 10 rfl rfl)
theorem dX5_most_11 : decode cX5_most 11 = .ok (.iaload, 1) := dk_46 (dk_at dksX5_most_0 11 rfl rfl)
theorem dX5_most_12 : decode cX5_most 12 = .ok (.goto 34, 3) := dk_167 0 34 (dk_at dksX5_most_0 12 rfl rfl)
theorem dX5_most_15 : decode cX5_most 15 = .ok (.aload_n 0, 1) := dk_42 (dk_at dksX5_most_0 15 rfl rfl)
theorem dX5_most_16 : decode cX5_most 16 = .ok (.invokevirtual 66, 3) := dk_182 0 66 (dk_at dksX5_most_0 16 rfl rfl)
theorem dX5_most_19 : decode cX5_most 19 = .ok (.ifCond .eq 11, 3) := dk_153 0 11 (dk_at dksX5_most_0 19 rfl rfl)
theorem dX5_most_22 : decode cX5_most 22 = .ok (.getstatic 79, 3) := dk_178 0 79 (dk_at dksX5_most_1 0 rfl rfl)
theorem dX5_most_25 : decode cX5_most 25 = .ok (.iload_n 1, 1) := dk_27 (dk_at dksX5_most_1 3 rfl rfl)
theorem dX5_most_26 : decode cX5_most 26 = .ok (.iaload, 1) := dk_46 (dk_at dksX5_most_1 4 rfl rfl)
theorem dX5_most_27 : decode cX5_most 27 = .ok (.goto 19, 3) := dk_167 0 19 (dk_at dksX5_most_1 5 rfl rfl)
theorem dX5_most_30 : decode cX5_most 30 = .ok (.getstatic 82, 3) := dk_178 0 82 (dk_at dksX5_most_1 8 rfl rfl)
theorem dX5_most_33 : decode cX5_most 33 = .ok (.aload_n 0, 1) := dk_42 (dk_at dksX5_most_1 11 rfl rfl)
theorem dX5_most_34 : decode cX5_most 34 = .ok (.getstatic 24, 3) := dk_178 0 24 (dk_at dksX5_most_1 12 rfl rfl)
theorem dX5_most_37 : decode cX5_most 37 = .ok (.if_acmp .ne 7, 3) := dk_166 0 7 (dk_at dksX5_most_1 15 rfl rfl)
theorem dX5_most_40 : decode cX5_most 40 = .ok (.iconst 0, 1) := dk_3 (dk_at dksX5_most_1 18 rfl rfl)
theorem dX5_most_41 : decode cX5_most 41 = .ok (.goto 4, 3) := dk_167 0 4 (dk_at dksX5_most_1 19 rfl rfl)
theorem dX5_most_44 : decode cX5_most 44 = .ok (.iconst 1, 1) := dk_4 (dk_at dksX5_most_1 22 rfl rfl)
theorem dX5_most_45 : decode cX5_most 45 = .ok (.iaload, 1) := dk_46 (dk_at dksX5_most_1 23 rfl rfl)
theorem dX5_most_46 : decode cX5_most 46 = .ok (.ireturn, 1) := dk_172 (dk_at dksX5_most_2 0 rfl rfl)
theorem q81 : (Jvm.Cond.initialized "BilevelPages$Kind") ∈ lw_all := lw_g (lw_at lw_m1 10 rfl) rfl
theorem q222 : (Jvm.Cond.laysStatic "BilevelPages$Kind" "ALL" "LBilevelPages$Kind;") ∈ lw_tbl := lw_at lw_m1 151 rfl
theorem q483 : (Jvm.Cond.laysStatic "BilevelPages$Kind" "EXTENSION" "LBilevelPages$Kind;") ∈ lw_tbl := lw_at lw_m2 172 rfl
theorem q485 : (Jvm.Cond.instanceMethod ({ cls := "BilevelPages$Kind", name := "least", desc := "(I)I" } : Jvm.MethodName)) ∈ lw_all := lw_g (lw_at lw_m2 174 rfl) rfl
theorem q486 : (Jvm.Cond.selects "BilevelPages$Kind" ({ cls := "BilevelPages$Kind", name := "least", desc := "(I)I" } : Jvm.MethodName) ({ cls := "BilevelPages$Kind", name := "least", desc := "(I)I" } : Jvm.MethodName)) ∈ lw_all := lw_g (lw_at lw_m2 175 rfl) rfl
theorem q487 : (Jvm.Cond.code ({ cls := "BilevelPages$Kind", name := "least", desc := "(I)I" } : Jvm.MethodName) prog_2_method_4_code (2 : Nat) (Option.some Jvm.ClassFile.FieldType.int)) ∈ lw_all := lw_g (lw_at lw_m2 176 rfl) rfl
theorem q488 : (Jvm.Cond.fieldLink "BilevelPages$Kind" (18 : Nat) "BilevelPages$Kind" "SHEET" "LBilevelPages$Kind;") ∈ lw_all := lw_g (lw_at lw_m2 177 rfl) rfl
theorem q489 : (Jvm.Cond.laysStatic "BilevelPages$Kind" "SHEET" "LBilevelPages$Kind;") ∈ lw_tbl := lw_at lw_m2 178 rfl
theorem q490 : (Jvm.Cond.fieldLinkNest "BilevelPages$Kind" (62 : Nat) "BilevelPages" "PAGE_LEAST" "[I" "BilevelPages") ∈ lw_tbl := lw_at lw_m2 179 rfl
theorem q492 : (Jvm.Cond.methodLink "BilevelPages$Kind" (66 : Nat) ({ cls := "BilevelPages$Kind", name := "isRegion", desc := "()Z" } : Jvm.MethodName)) ∈ lw_all := lw_g (lw_at lw_m2 181 rfl) rfl
theorem q493 : (Jvm.Cond.instanceMethod ({ cls := "BilevelPages$Kind", name := "isRegion", desc := "()Z" } : Jvm.MethodName)) ∈ lw_all := lw_g (lw_at lw_m2 182 rfl) rfl
theorem q494 : (Jvm.Cond.selects "BilevelPages$Kind" ({ cls := "BilevelPages$Kind", name := "isRegion", desc := "()Z" } : Jvm.MethodName) ({ cls := "BilevelPages$Kind", name := "isRegion", desc := "()Z" } : Jvm.MethodName)) ∈ lw_all := lw_g (lw_at lw_m2 183 rfl) rfl
theorem q495 : (Jvm.Cond.code ({ cls := "BilevelPages$Kind", name := "isRegion", desc := "()Z" } : Jvm.MethodName) prog_2_method_6_code (1 : Nat) (Option.some Jvm.ClassFile.FieldType.boolean)) ∈ lw_all := lw_g (lw_at lw_m2 184 rfl) rfl
theorem q496 : (Jvm.Cond.fieldLink "BilevelPages$Kind" (9 : Nat) "BilevelPages$Kind" "KEPT" "LBilevelPages$Kind;") ∈ lw_all := lw_g (lw_at lw_m2 185 rfl) rfl
theorem q497 : (Jvm.Cond.laysStatic "BilevelPages$Kind" "KEPT" "LBilevelPages$Kind;") ∈ lw_tbl := lw_at lw_m2 186 rfl
theorem q498 : (Jvm.Cond.fieldLink "BilevelPages$Kind" (12 : Nat) "BilevelPages$Kind" "DRAWN" "LBilevelPages$Kind;") ∈ lw_all := lw_g (lw_at lw_m2 187 rfl) rfl
theorem q499 : (Jvm.Cond.laysStatic "BilevelPages$Kind" "DRAWN" "LBilevelPages$Kind;") ∈ lw_tbl := lw_at lw_m2 188 rfl
theorem q500 : (Jvm.Cond.fieldLink "BilevelPages$Kind" (15 : Nat) "BilevelPages$Kind" "PLAIN" "LBilevelPages$Kind;") ∈ lw_all := lw_g (lw_at lw_m2 189 rfl) rfl
theorem q501 : (Jvm.Cond.laysStatic "BilevelPages$Kind" "PLAIN" "LBilevelPages$Kind;") ∈ lw_tbl := lw_at lw_m2 190 rfl
theorem q502 : (Jvm.Cond.fieldLinkNest "BilevelPages$Kind" (70 : Nat) "BilevelPages" "REGION_LEAST" "[I" "BilevelPages") ∈ lw_tbl := lw_at lw_m2 191 rfl
theorem q504 : (Jvm.Cond.fieldLinkNest "BilevelPages$Kind" (73 : Nat) "BilevelPages" "OTHER_LEAST" "[I" "BilevelPages") ∈ lw_tbl := lw_at lw_m2 193 rfl
theorem q506 : (Jvm.Cond.fieldLink "BilevelPages$Kind" (24 : Nat) "BilevelPages$Kind" "STRIPE" "LBilevelPages$Kind;") ∈ lw_all := lw_g (lw_at lw_m2 195 rfl) rfl
theorem q507 : (Jvm.Cond.laysStatic "BilevelPages$Kind" "STRIPE" "LBilevelPages$Kind;") ∈ lw_tbl := lw_at lw_m2 196 rfl
theorem q539 : (Jvm.Cond.selects "BilevelPages$Kind" ({ cls := "java/lang/Object", name := "getClass", desc := "()Ljava/lang/Class;" } : Jvm.MethodName) ({ cls := "java/lang/Object", name := "getClass", desc := "()Ljava/lang/Class;" } : Jvm.MethodName)) ∈ lw_all := lw_g (lw_at lw_m2 228 rfl) rfl
theorem q595 : (Jvm.Cond.instanceMethod ({ cls := "BilevelPages$Kind", name := "mayReferTo", desc := "(LBilevelPages$Kind;)Z" } : Jvm.MethodName)) ∈ lw_all := lw_g (lw_at lw_m3 44 rfl) rfl
theorem q596 : (Jvm.Cond.selects "BilevelPages$Kind" ({ cls := "BilevelPages$Kind", name := "mayReferTo", desc := "(LBilevelPages$Kind;)Z" } : Jvm.MethodName) ({ cls := "BilevelPages$Kind", name := "mayReferTo", desc := "(LBilevelPages$Kind;)Z" } : Jvm.MethodName)) ∈ lw_all := lw_g (lw_at lw_m3 45 rfl) rfl
theorem q597 : (Jvm.Cond.code ({ cls := "BilevelPages$Kind", name := "mayReferTo", desc := "(LBilevelPages$Kind;)Z" } : Jvm.MethodName) prog_2_method_8_code (2 : Nat) (Option.some Jvm.ClassFile.FieldType.boolean)) ∈ lw_all := lw_g (lw_at lw_m3 46 rfl) rfl
theorem q598 : (Jvm.Cond.methodLink "BilevelPages$Kind" (85 : Nat) ({ cls := "BilevelPages$Kind", name := "ordinal", desc := "()I" } : Jvm.MethodName)) ∈ lw_all := lw_g (lw_at lw_m3 47 rfl) rfl
theorem q599 : (Jvm.Cond.sameMethod "BilevelPages$Kind" "java/lang/Enum" "ordinal" "()I") ∈ lw_all := lw_g (lw_at lw_m3 48 rfl) rfl
theorem q601 : (Jvm.Cond.selects "BilevelPages$Kind" ({ cls := "BilevelPages$Kind", name := "ordinal", desc := "()I" } : Jvm.MethodName) ({ cls := "java/lang/Enum", name := "ordinal", desc := "()I" } : Jvm.MethodName)) ∈ lw_all := lw_g (lw_at lw_m3 50 rfl) rfl
theorem q604 : (Jvm.Cond.fieldLink "BilevelPages$Kind" (5 : Nat) "BilevelPages$Kind" "DICTIONARY" "LBilevelPages$Kind;") ∈ lw_all := lw_g (lw_at lw_m3 53 rfl) rfl
theorem q605 : (Jvm.Cond.laysStatic "BilevelPages$Kind" "DICTIONARY" "LBilevelPages$Kind;") ∈ lw_tbl := lw_at lw_m3 54 rfl
theorem q606 : (Jvm.Cond.fieldLink "BilevelPages$Kind" (30 : Nat) "BilevelPages$Kind" "TABLES" "LBilevelPages$Kind;") ∈ lw_all := lw_g (lw_at lw_m3 55 rfl) rfl
theorem q607 : (Jvm.Cond.laysStatic "BilevelPages$Kind" "TABLES" "LBilevelPages$Kind;") ∈ lw_tbl := lw_at lw_m3 56 rfl
theorem q615 : (Jvm.Cond.instanceMethod ({ cls := "BilevelPages$Kind", name := "hasBytes", desc := "()Z" } : Jvm.MethodName)) ∈ lw_all := lw_g (lw_at lw_m3 64 rfl) rfl
theorem q616 : (Jvm.Cond.selects "BilevelPages$Kind" ({ cls := "BilevelPages$Kind", name := "hasBytes", desc := "()Z" } : Jvm.MethodName) ({ cls := "BilevelPages$Kind", name := "hasBytes", desc := "()Z" } : Jvm.MethodName)) ∈ lw_all := lw_g (lw_at lw_m3 65 rfl) rfl
theorem q617 : (Jvm.Cond.code ({ cls := "BilevelPages$Kind", name := "hasBytes", desc := "()Z" } : Jvm.MethodName) prog_2_method_7_code (1 : Nat) (Option.some Jvm.ClassFile.FieldType.boolean)) ∈ lw_all := lw_g (lw_at lw_m3 66 rfl) rfl
theorem q618 : (Jvm.Cond.fieldLink "BilevelPages$Kind" (33 : Nat) "BilevelPages$Kind" "EXTENSION" "LBilevelPages$Kind;") ∈ lw_all := lw_g (lw_at lw_m3 67 rfl) rfl
theorem q622 : (Jvm.Cond.instanceMethod ({ cls := "BilevelPages$Kind", name := "takes", desc := "(J)Z" } : Jvm.MethodName)) ∈ lw_all := lw_g (lw_at lw_m3 71 rfl) rfl
theorem q623 : (Jvm.Cond.selects "BilevelPages$Kind" ({ cls := "BilevelPages$Kind", name := "takes", desc := "(J)Z" } : Jvm.MethodName) ({ cls := "BilevelPages$Kind", name := "takes", desc := "(J)Z" } : Jvm.MethodName)) ∈ lw_all := lw_g (lw_at lw_m3 72 rfl) rfl
theorem q624 : (Jvm.Cond.code ({ cls := "BilevelPages$Kind", name := "takes", desc := "(J)Z" } : Jvm.MethodName) prog_2_method_9_code (3 : Nat) (Option.some Jvm.ClassFile.FieldType.boolean)) ∈ lw_all := lw_g (lw_at lw_m3 73 rfl) rfl
theorem q625 : (Jvm.Cond.constantLong "BilevelPages$Kind" (89 : Nat) (20 : Int64)) ∈ lw_all := lw_g (lw_at lw_m3 74 rfl) rfl
theorem q626 : (Jvm.Cond.constantLong "BilevelPages$Kind" (91 : Nat) (4 : Int64)) ∈ lw_all := lw_g (lw_at lw_m3 75 rfl) rfl
theorem q627 : (Jvm.Cond.constantLong "BilevelPages$Kind" (93 : Nat) (24 : Int64)) ∈ lw_all := lw_g (lw_at lw_m3 76 rfl) rfl
theorem q628 : (Jvm.Cond.constantLong "BilevelPages$Kind" (95 : Nat) (10 : Int64)) ∈ lw_all := lw_g (lw_at lw_m3 77 rfl) rfl
theorem q629 : (Jvm.Cond.constantLong "BilevelPages$Kind" (97 : Nat) (17 : Int64)) ∈ lw_all := lw_g (lw_at lw_m3 78 rfl) rfl
theorem q630 : (Jvm.Cond.constantLong "BilevelPages$Kind" (99 : Nat) (4294967295 : Int64)) ∈ lw_all := lw_g (lw_at lw_m3 79 rfl) rfl
theorem q642 : (Jvm.Cond.instanceMethod ({ cls := "BilevelPages$Kind", name := "most", desc := "(I)I" } : Jvm.MethodName)) ∈ lw_all := lw_g (lw_at lw_m3 91 rfl) rfl
theorem q643 : (Jvm.Cond.selects "BilevelPages$Kind" ({ cls := "BilevelPages$Kind", name := "most", desc := "(I)I" } : Jvm.MethodName) ({ cls := "BilevelPages$Kind", name := "most", desc := "(I)I" } : Jvm.MethodName)) ∈ lw_all := lw_g (lw_at lw_m3 92 rfl) rfl
theorem q644 : (Jvm.Cond.code ({ cls := "BilevelPages$Kind", name := "most", desc := "(I)I" } : Jvm.MethodName) prog_2_method_5_code (2 : Nat) (Option.some Jvm.ClassFile.FieldType.int)) ∈ lw_all := lw_g (lw_at lw_m3 93 rfl) rfl
theorem q645 : (Jvm.Cond.fieldLinkNest "BilevelPages$Kind" (76 : Nat) "BilevelPages" "PAGE_MOST" "[I" "BilevelPages") ∈ lw_tbl := lw_at lw_m3 94 rfl
theorem q647 : (Jvm.Cond.fieldLinkNest "BilevelPages$Kind" (79 : Nat) "BilevelPages" "REGION_MOST" "[I" "BilevelPages") ∈ lw_tbl := lw_at lw_m3 96 rfl
theorem q649 : (Jvm.Cond.fieldLinkNest "BilevelPages$Kind" (82 : Nat) "BilevelPages" "OTHER_MOST" "[I" "BilevelPages") ∈ lw_tbl := lw_at lw_m3 98 rfl
theorem q1499 : (Jvm.Cond.castable "BilevelPages$Kind" "java/lang/Object") ∈ lw_tbl := lw_at lw_m6 228 rfl
theorem q1528 : (Jvm.Cond.laysStatic "BilevelPages$Kind" "SHEET_END" "LBilevelPages$Kind;") ∈ lw_tbl := lw_at lw_m7 17 rfl
/-! BilevelPages$WrongSegment -/
set_option maxRecDepth 100000
def RX7 : String := "BilevelPages$WrongSegment"
def TX7 : u_T := fun k => match k with
  | 0 => ("java/lang/Throwable", "cause", "Ljava/lang/Throwable;", false)
  | 1 => ("java/lang/Throwable", "stackTrace", "[Ljava/lang/StackTraceElement;", false)
  | 2 => ("java/lang/Throwable", "suppressedExceptions", "Ljava/util/List;", false)
  | 3 => ("java/lang/Throwable", "detailMessage", "Ljava/lang/String;", false)
  | 4 => ("java/lang/Throwable", "backtrace", "Ljava/lang/Object;", false)
  | 5 => ("java/lang/Throwable", "depth", "I", false)
  | 6 => ("BilevelPages$WrongSegment", "fault", "I", true)
  | _ => ("BilevelPages$WrongSegment", "place", "I", true)
def tyX7 : Nat → FieldType := fun k => match k with
  | 0 => .object "java/lang/Throwable"
  | 1 => .array (.object "java/lang/StackTraceElement")
  | 2 => .object "java/util/List"
  | 3 => .object "java/lang/String"
  | 4 => .object "java/lang/Object"
  | 5 => .int
  | 6 => .int
  | _ => .int
abbrev wsX70 : List Cond := u_ws RX7 TX7 8
theorem nmX7 : ∀ a, a < 8 → ∀ b, b < 8 → a ≠ b → (TX7 a).2.1 ≠ (TX7 b).2.1 := by decide +kernel
theorem tyX7_ok : ∀ k, k < 8 → parseFieldDescriptor (TX7 k).2.2.1 = some (tyX7 k) := by decide +kernel
abbrev cX7_init : ByteArray := prog_6_method_1_code
def yX7_init : MethodName := ⟨RX7, "<init>", "(II)V"⟩
def dkwX7_init_0 : List UInt8 := [42, 1, 1, 3, 3, 183, 0, 1, 42, 27, 181, 0, 7, 42, 28, 181, 0, 13, 177]
abbrev dktX7_init_0 : List UInt8 := dkwX7_init_0 ++ []
theorem dksX7_init_0 : cX7_init.data.toList.drop 0 = dktX7_init_0 := by decide +kernel
theorem dX7_init_0 : decode cX7_init 0 = .ok (.aload_n 0, 1) := dk_42 (dk_at dksX7_init_0 0 rfl rfl)
theorem dX7_init_1 : decode cX7_init 1 = .ok (.aconst_null, 1) := dk_1 (dk_at dksX7_init_0 1 rfl rfl)
theorem dX7_init_2 : decode cX7_init 2 = .ok (.aconst_null, 1) := dk_1 (dk_at dksX7_init_0 2 rfl rfl)
theorem dX7_init_3 : decode cX7_init 3 = .ok (.iconst 0, 1) := dk_3 (dk_at dksX7_init_0 3 rfl rfl)
theorem dX7_init_4 : decode cX7_init 4 = .ok (.iconst 0, 1) := dk_3 (dk_at dksX7_init_0 4 rfl rfl)
theorem dX7_init_5 : decode cX7_init 5 = .ok (.invokespecial 1, 3) := dk_183 0 1 (dk_at dksX7_init_0 5 rfl rfl)
theorem dX7_init_8 : decode cX7_init 8 = .ok (.aload_n 0, 1) := dk_42 (dk_at dksX7_init_0 8 rfl rfl)
theorem dX7_init_9 : decode cX7_init 9 = .ok (.iload_n 1, 1) := dk_27 (dk_at dksX7_init_0 9 rfl rfl)
theorem dX7_init_10 : decode cX7_init 10 = .ok (.putfield 7, 3) := dk_181 0 7 (dk_at dksX7_init_0 10 rfl rfl)
theorem dX7_init_13 : decode cX7_init 13 = .ok (.aload_n 0, 1) := dk_42 (dk_at dksX7_init_0 13 rfl rfl)
theorem dX7_init_14 : decode cX7_init 14 = .ok (.iload_n 2, 1) := dk_28 (dk_at dksX7_init_0 14 rfl rfl)
theorem dX7_init_15 : decode cX7_init 15 = .ok (.putfield 13, 3) := dk_181 0 13 (dk_at dksX7_init_0 15 rfl rfl)
theorem dX7_init_18 : decode cX7_init 18 = .ok (.return_, 1) := dk_177 (dk_at dksX7_init_0 18 rfl rfl)
theorem q98 : (Jvm.Cond.initialized "BilevelPages$WrongSegment") ∈ lw_all := lw_g (lw_at lw_m1 27 rfl) rfl
theorem q381 : (Jvm.Cond.instantiable "BilevelPages$WrongSegment" (8 : Nat)) ∈ lw_all := lw_g (lw_at lw_m2 70 rfl) rfl
theorem q382 : (Jvm.Cond.castable "BilevelPages$WrongSegment" "BilevelPages$WrongSegment") ∈ lw_tbl := lw_at lw_m2 71 rfl
theorem q387 : (Jvm.Cond.selects "BilevelPages$WrongSegment" ({ cls := "java/lang/Throwable", name := "fillInStackTrace", desc := "(I)Ljava/lang/Throwable;" } : Jvm.MethodName) ({ cls := "java/lang/Throwable", name := "fillInStackTrace", desc := "(I)Ljava/lang/Throwable;" } : Jvm.MethodName)) ∈ lw_all := lw_g (lw_at lw_m2 76 rfl) rfl
theorem q388 : (Jvm.Cond.selects "BilevelPages$WrongSegment" ({ cls := "java/lang/Throwable", name := "fillInStackTrace", desc := "()Ljava/lang/Throwable;" } : Jvm.MethodName) ({ cls := "java/lang/Throwable", name := "fillInStackTrace", desc := "()Ljava/lang/Throwable;" } : Jvm.MethodName)) ∈ lw_all := lw_g (lw_at lw_m2 77 rfl) rfl
theorem q389 : (Jvm.Cond.lays "BilevelPages$WrongSegment" "java/lang/Throwable" "cause" "Ljava/lang/Throwable;") ∈ lw_all := lw_g (lw_at lw_m2 78 rfl) rfl
theorem q391 : (Jvm.Cond.lays "BilevelPages$WrongSegment" "java/lang/Throwable" "stackTrace" "[Ljava/lang/StackTraceElement;") ∈ lw_all := lw_g (lw_at lw_m2 80 rfl) rfl
theorem q393 : (Jvm.Cond.lays "BilevelPages$WrongSegment" "java/lang/Throwable" "suppressedExceptions" "Ljava/util/List;") ∈ lw_all := lw_g (lw_at lw_m2 82 rfl) rfl
theorem q395 : (Jvm.Cond.lays "BilevelPages$WrongSegment" "java/lang/Throwable" "detailMessage" "Ljava/lang/String;") ∈ lw_all := lw_g (lw_at lw_m2 84 rfl) rfl
theorem q397 : (Jvm.Cond.lays "BilevelPages$WrongSegment" "java/lang/Throwable" "backtrace" "Ljava/lang/Object;") ∈ lw_all := lw_g (lw_at lw_m2 86 rfl) rfl
theorem q423 : (Jvm.Cond.instanceMethod ({ cls := "BilevelPages$WrongSegment", name := "<init>", desc := "(II)V" } : Jvm.MethodName)) ∈ lw_all := lw_g (lw_at lw_m2 112 rfl) rfl
theorem q424 : (Jvm.Cond.code ({ cls := "BilevelPages$WrongSegment", name := "<init>", desc := "(II)V" } : Jvm.MethodName) prog_6_method_1_code (3 : Nat) (Option.none : Option Jvm.ClassFile.FieldType)) ∈ lw_all := lw_g (lw_at lw_m2 113 rfl) rfl
theorem q425 : (Jvm.Cond.methodLink "BilevelPages$WrongSegment" (1 : Nat) ({ cls := "java/lang/Exception", name := "<init>", desc := "(Ljava/lang/String;Ljava/lang/Throwable;ZZ)V" } : Jvm.MethodName)) ∈ lw_all := lw_g (lw_at lw_m2 114 rfl) rfl
theorem q431 : (Jvm.Cond.fieldLink "BilevelPages$WrongSegment" (7 : Nat) "BilevelPages$WrongSegment" "fault" "I") ∈ lw_all := lw_g (lw_at lw_m2 120 rfl) rfl
theorem q433 : (Jvm.Cond.fieldLink "BilevelPages$WrongSegment" (13 : Nat) "BilevelPages$WrongSegment" "place" "I") ∈ lw_all := lw_g (lw_at lw_m2 122 rfl) rfl
theorem q440 : (Jvm.Cond.laysFinal "BilevelPages$WrongSegment" "BilevelPages$WrongSegment" "fault" "I") ∈ lw_all := lw_g (lw_at lw_m2 129 rfl) rfl
theorem q441 : (Jvm.Cond.soleField "BilevelPages$WrongSegment" "fault") ∈ lw_all := lw_g (lw_at lw_m2 130 rfl) rfl
theorem q442 : (Jvm.Cond.laysFinal "BilevelPages$WrongSegment" "BilevelPages$WrongSegment" "place" "I") ∈ lw_all := lw_g (lw_at lw_m2 131 rfl) rfl
theorem q443 : (Jvm.Cond.soleField "BilevelPages$WrongSegment" "place") ∈ lw_all := lw_g (lw_at lw_m2 132 rfl) rfl
theorem q448 : (Jvm.Cond.lays "BilevelPages$WrongSegment" "java/lang/Throwable" "depth" "I") ∈ lw_all := lw_g (lw_at lw_m2 137 rfl) rfl
theorem q451 : (Jvm.Cond.superclass "BilevelPages$WrongSegment" "java/lang/Exception") ∈ lw_all := lw_g (lw_at lw_m2 140 rfl) rfl
theorem q543 : (Jvm.Cond.selects "BilevelPages$WrongSegment" ({ cls := "java/lang/Object", name := "getClass", desc := "()Ljava/lang/Class;" } : Jvm.MethodName) ({ cls := "java/lang/Object", name := "getClass", desc := "()Ljava/lang/Class;" } : Jvm.MethodName)) ∈ lw_all := lw_g (lw_at lw_m2 232 rfl) rfl
theorem q1510 : (Jvm.Cond.castable "BilevelPages$WrongSegment" "java/lang/Object") ∈ lw_tbl := lw_at lw_m6 239 rfl
theorem in_X7 : ∀ w ∈ wsX70, w ∈ lw_all := lw_in wsX70 [389, 391, 393, 395, 397, 448, 440, 442] (by decide +kernel) (by decide +kernel)
