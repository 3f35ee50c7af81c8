/-! BilevelPagesLaw -/
set_option maxRecDepth 100000
def RX0 : String := "BilevelPagesLaw"
abbrev cX0_cell : ByteArray := method_2_code
def yX0_cell : MethodName := ⟨RX0, "cell", "([II)I"⟩
def dkwX0_cell_0 : List UInt8 := [27, 42, 190, 162, 0, 9, 42, 27, 46, 167, 0, 4, 3, 172]
abbrev dktX0_cell_0 : List UInt8 := dkwX0_cell_0 ++ []
theorem dksX0_cell_0 : cX0_cell.data.toList.drop 0 = dktX0_cell_0 := by decide +kernel
theorem dX0_cell_0 : decode cX0_cell 0 = .ok (.iload_n 1, 1) := dk_27 (dk_at dksX0_cell_0 0 rfl rfl)
theorem dX0_cell_1 : decode cX0_cell 1 = .ok (.aload_n 0, 1) := dk_42 (dk_at dksX0_cell_0 1 rfl rfl)
theorem dX0_cell_2 : decode cX0_cell 2 = .ok (.arraylength, 1) := dk_190 (dk_at dksX0_cell_0 2 rfl rfl)
theorem dX0_cell_3 : decode cX0_cell 3 = .ok (.if_icmp .ge 9, 3) := dk_162 0 9 (dk_at dksX0_cell_0 3 rfl rfl)
theorem dX0_cell_6 : decode cX0_cell 6 = .ok (.aload_n 0, 1) := dk_42 (dk_at dksX0_cell_0 6 rfl rfl)
theorem dX0_cell_7 : decode cX0_cell 7 = .ok (.iload_n 1, 1) := dk_27 (dk_at dksX0_cell_0 7 rfl rfl)
theorem dX0_cell_8 : decode cX0_cell 8 = .ok (.iaload, 1) := dk_46 (dk_at dksX0_cell_0 8 rfl rfl)
theorem dX0_cell_9 : decode cX0_cell 9 = .ok (.goto 4, 3) := dk_167 0 4 (dk_at dksX0_cell_0 9 rfl rfl)
theorem dX0_cell_12 : decode cX0_cell 12 = .ok (.iconst 0, 1) := dk_3 (dk_at dksX0_cell_0 12 rfl rfl)
theorem dX0_cell_13 : decode cX0_cell 13 = .ok (.ireturn, 1) := dk_172 (dk_at dksX0_cell_0 13 rfl rfl)
abbrev cX0_segment : ByteArray := method_3_code
def yX0_segment : MethodName := ⟨RX0, "segment", "(LBilevelPages;II[J)I"⟩
def dkwX0_segment_0 : List UInt8 := [45, 3, 42, 27, 28, 182, 0, 7, 133, 80, 167, 0, 11, 58, 4, 4, 172, 58, 4, 5, 172, 3, 172]
abbrev dktX0_segment_0 : List UInt8 := dkwX0_segment_0 ++ []
theorem dksX0_segment_0 : cX0_segment.data.toList.drop 0 = dktX0_segment_0 := by decide +kernel
theorem dX0_segment_0 : decode cX0_segment 0 = .ok (.aload_n 3, 1) := dk_45 (dk_at dksX0_segment_0 0 rfl rfl)
theorem dX0_segment_1 : decode cX0_segment 1 = .ok (.iconst 0, 1) := dk_3 (dk_at dksX0_segment_0 1 rfl rfl)
theorem dX0_segment_2 : decode cX0_segment 2 = .ok (.aload_n 0, 1) := dk_42 (dk_at dksX0_segment_0 2 rfl rfl)
theorem dX0_segment_3 : decode cX0_segment 3 = .ok (.iload_n 1, 1) := dk_27 (dk_at dksX0_segment_0 3 rfl rfl)
theorem dX0_segment_4 : decode cX0_segment 4 = .ok (.iload_n 2, 1) := dk_28 (dk_at dksX0_segment_0 4 rfl rfl)
theorem dX0_segment_5 : decode cX0_segment 5 = .ok (.invokevirtual 7, 3) := dk_182 0 7 (dk_at dksX0_segment_0 5 rfl rfl)
theorem dX0_segment_8 : decode cX0_segment 8 = .ok (.i2l, 1) := dk_133 (dk_at dksX0_segment_0 8 rfl rfl)
theorem dX0_segment_9 : decode cX0_segment 9 = .ok (.lastore, 1) := dk_80 (dk_at dksX0_segment_0 9 rfl rfl)
theorem dX0_segment_10 : decode cX0_segment 10 = .ok (.goto 11, 3) := dk_167 0 11 (dk_at dksX0_segment_0 10 rfl rfl)
theorem dX0_segment_13 : decode cX0_segment 13 = .ok (.astore 4, 2) := dk_58 4 (dk_at dksX0_segment_0 13 rfl rfl)
theorem dX0_segment_15 : decode cX0_segment 15 = .ok (.iconst 1, 1) := dk_4 (dk_at dksX0_segment_0 15 rfl rfl)
theorem dX0_segment_16 : decode cX0_segment 16 = .ok (.ireturn, 1) := dk_172 (dk_at dksX0_segment_0 16 rfl rfl)
theorem dX0_segment_17 : decode cX0_segment 17 = .ok (.astore 4, 2) := dk_58 4 (dk_at dksX0_segment_0 17 rfl rfl)
theorem dX0_segment_19 : decode cX0_segment 19 = .ok (.iconst 2, 1) := dk_5 (dk_at dksX0_segment_0 19 rfl rfl)
theorem dX0_segment_20 : decode cX0_segment 20 = .ok (.ireturn, 1) := dk_172 (dk_at dksX0_segment_0 20 rfl rfl)
theorem dX0_segment_21 : decode cX0_segment 21 = .ok (.iconst 0, 1) := dk_3 (dk_at dksX0_segment_0 21 rfl rfl)
theorem dX0_segment_22 : decode cX0_segment 22 = .ok (.ireturn, 1) := dk_172 (dk_at dksX0_segment_0 22 rfl rfl)
abbrev cX0_refers : ByteArray := method_4_code
def yX0_refers : MethodName := ⟨RX0, "refers", "(LBilevelPages;II[J)I"⟩
def dkwX0_refers_1 : List UInt8 := [58, 4, 5, 172, 3, 172]
abbrev dktX0_refers_1 : List UInt8 := dkwX0_refers_1 ++ []
def dkwX0_refers_0 : List UInt8 := [45, 3, 42, 27, 28, 182, 0, 17, 153, 0, 7, 10, 167, 0, 4, 9, 80, 167, 0, 11, 58, 4, 4, 172]
abbrev dktX0_refers_0 : List UInt8 := dkwX0_refers_0 ++ dktX0_refers_1
theorem dksX0_refers_0 : cX0_refers.data.toList.drop 0 = dktX0_refers_0 := by decide +kernel
theorem dksX0_refers_1 : cX0_refers.data.toList.drop 24 = dktX0_refers_1 := dk_seg dksX0_refers_0 24 rfl rfl
theorem dX0_refers_0 : decode cX0_refers 0 = .ok (.aload_n 3, 1) := dk_45 (dk_at dksX0_refers_0 0 rfl rfl)
theorem dX0_refers_1 : decode cX0_refers 1 = .ok (.iconst 0, 1) := dk_3 (dk_at dksX0_refers_0 1 rfl rfl)
theorem dX0_refers_2 : decode cX0_refers 2 = .ok (.aload_n 0, 1) := dk_42 (dk_at dksX0_refers_0 2 rfl rfl)
theorem dX0_refers_3 : decode cX0_refers 3 = .ok (.iload_n 1, 1) := dk_27 (dk_at dksX0_refers_0 3 rfl rfl)
theorem dX0_refers_4 : decode cX0_refers 4 = .ok (.iload_n 2, 1) := dk_28 (dk_at dksX0_refers_0 4 rfl rfl)
theorem dX0_refers_5 : decode cX0_refers 5 = .ok (.invokevirtual 17, 3) := dk_182 0 17 (dk_at dksX0_refers_0 5 rfl rfl)
theorem dX0_refers_8 : decode cX0_refers 8 = .ok (.ifCond .eq 7, 3) := dk_153 0 7 (dk_at dksX0_refers_0 8 rfl rfl)
theorem dX0_refers_11 : decode cX0_refers 11 = .ok (.lconst 1, 1) := dk_10 (dk_at dksX0_refers_0 11 rfl rfl)
theorem dX0_refers_12 : decode cX0_refers 12 = .ok (.goto 4, 3) := dk_167 0 4 (dk_at dksX0_refers_0 12 rfl rfl)
theorem dX0_refers_15 : decode cX0_refers 15 = .ok (.lconst 0, 1) := dk_9 (dk_at dksX0_refers_0 15 rfl rfl)
theorem dX0_refers_16 : decode cX0_refers 16 = .ok (.lastore, 1) := dk_80 (dk_at dksX0_refers_0 16 rfl rfl)
theorem dX0_refers_17 : decode cX0_refers 17 = .ok (.goto 11, 3) := dk_167 0 11 (dk_at dksX0_refers_0 17 rfl rfl)
theorem dX0_refers_20 : decode cX0_refers 20 = .ok (.astore 4, 2) := dk_58 4 (dk_at dksX0_refers_0 20 rfl rfl)
theorem dX0_refers_22 : decode cX0_refers 22 = .ok (.iconst 1, 1) := dk_4 (dk_at dksX0_refers_0 22 rfl rfl)
theorem dX0_refers_23 : decode cX0_refers 23 = .ok (.ireturn, 1) := dk_172 (dk_at dksX0_refers_0 23 rfl rfl)
theorem dX0_refers_24 : decode cX0_refers 24 = .ok (.astore 4, 2) := dk_58 4 (dk_at dksX0_refers_1 0 rfl rfl)
theorem dX0_refers_26 : decode cX0_refers 26 = .ok (.iconst 2, 1) := dk_5 (dk_at dksX0_refers_1 2 rfl rfl)
theorem dX0_refers_27 : decode cX0_refers 27 = .ok (.ireturn, 1) := dk_172 (dk_at dksX0_refers_1 3 rfl rfl)
theorem dX0_refers_28 : decode cX0_refers 28 = .ok (.iconst 0, 1) := dk_3 (dk_at dksX0_refers_1 4 rfl rfl)
theorem dX0_refers_29 : decode cX0_refers 29 = .ok (.ireturn, 1) := dk_172 (dk_at dksX0_refers_1 5 rfl rfl)
abbrev cX0_letGo : ByteArray := method_5_code
def yX0_letGo : MethodName := ⟨RX0, "letGo", "(LBilevelPages;II[J)I"⟩
def dkwX0_letGo_1 : List UInt8 := [3, 172]
abbrev dktX0_letGo_1 : List UInt8 := dkwX0_letGo_1 ++ []
def dkwX0_letGo_0 : List UInt8 := [45, 3, 42, 27, 28, 182, 0, 23, 153, 0, 7, 10, 167, 0, 4, 9, 80, 167, 0, 7, 58, 4, 4, 172]
abbrev dktX0_letGo_0 : List UInt8 := dkwX0_letGo_0 ++ dktX0_letGo_1
theorem dksX0_letGo_0 : cX0_letGo.data.toList.drop 0 = dktX0_letGo_0 := by decide +kernel
theorem dksX0_letGo_1 : cX0_letGo.data.toList.drop 24 = dktX0_letGo_1 := dk_seg dksX0_letGo_0 24 rfl rfl
theorem dX0_letGo_0 : decode cX0_letGo 0 = .ok (.aload_n 3, 1) := dk_45 (dk_at dksX0_letGo_0 0 rfl rfl)
theorem dX0_letGo_1 : decode cX0_letGo 1 = .ok (.iconst 0, 1) := dk_3 (dk_at dksX0_letGo_0 1 rfl rfl)
theorem dX0_letGo_2 : decode cX0_letGo 2 = .ok (.aload_n 0, 1) := dk_42 (dk_at dksX0_letGo_0 2 rfl rfl)
theorem dX0_letGo_3 : decode cX0_letGo 3 = .ok (.iload_n 1, 1) := dk_27 (dk_at dksX0_letGo_0 3 rfl rfl)
theorem dX0_letGo_4 : decode cX0_letGo 4 = .ok (.iload_n 2, 1) := dk_28 (dk_at dksX0_letGo_0 4 rfl rfl)
theorem dX0_letGo_5 : decode cX0_letGo 5 = .ok (.invokevirtual 23, 3) := dk_182 0 23 (dk_at dksX0_letGo_0 5 rfl rfl)
theorem dX0_letGo_8 : decode cX0_letGo 8 = .ok (.ifCond .eq 7, 3) := dk_153 0 7 (dk_at dksX0_letGo_0 8 rfl rfl)
theorem dX0_letGo_11 : decode cX0_letGo 11 = .ok (.lconst 1, 1) := dk_10 (dk_at dksX0_letGo_0 11 rfl rfl)
theorem dX0_letGo_12 : decode cX0_letGo 12 = .ok (.goto 4, 3) := dk_167 0 4 (dk_at dksX0_letGo_0 12 rfl rfl)
theorem dX0_letGo_15 : decode cX0_letGo 15 = .ok (.lconst 0, 1) := dk_9 (dk_at dksX0_letGo_0 15 rfl rfl)
theorem dX0_letGo_16 : decode cX0_letGo 16 = .ok (.lastore, 1) := dk_80 (dk_at dksX0_letGo_0 16 rfl rfl)
theorem dX0_letGo_17 : decode cX0_letGo 17 = .ok (.goto 7, 3) := dk_167 0 7 (dk_at dksX0_letGo_0 17 rfl rfl)
theorem dX0_letGo_20 : decode cX0_letGo 20 = .ok (.astore 4, 2) := dk_58 4 (dk_at dksX0_letGo_0 20 rfl rfl)
theorem dX0_letGo_22 : decode cX0_letGo 22 = .ok (.iconst 1, 1) := dk_4 (dk_at dksX0_letGo_0 22 rfl rfl)
theorem dX0_letGo_23 : decode cX0_letGo 23 = .ok (.ireturn, 1) := dk_172 (dk_at dksX0_letGo_0 23 rfl rfl)
theorem dX0_letGo_24 : decode cX0_letGo 24 = .ok (.iconst 0, 1) := dk_3 (dk_at dksX0_letGo_1 0 rfl rfl)
theorem dX0_letGo_25 : decode cX0_letGo 25 = .ok (.ireturn, 1) := dk_172 (dk_at dksX0_letGo_1 1 rfl rfl)
abbrev cX0_byteOf : ByteArray := method_6_code
def yX0_byteOf : MethodName := ⟨RX0, "byteOf", "(LBilevelPages;II[J)I"⟩
def dkwX0_byteOf_1 : List UInt8 := [172, 58, 4, 7, 172, 3, 172]
abbrev dktX0_byteOf_1 : List UInt8 := dkwX0_byteOf_1 ++ []
def dkwX0_byteOf_0 : List UInt8 := [45, 3, 42, 27, 28, 182, 0, 26, 133, 80, 167, 0, 19, 58, 4, 4, 172, 58, 4, 5, 172, 58, 4, 6]
abbrev dktX0_byteOf_0 : List UInt8 := dkwX0_byteOf_0 ++ dktX0_byteOf_1
theorem dksX0_byteOf_0 : cX0_byteOf.data.toList.drop 0 = dktX0_byteOf_0 := by decide +kernel
theorem dksX0_byteOf_1 : cX0_byteOf.data.toList.drop 24 = dktX0_byteOf_1 := dk_seg dksX0_byteOf_0 24 rfl rfl
theorem dX0_byteOf_0 : decode cX0_byteOf 0 = .ok (.aload_n 3, 1) := dk_45 (dk_at dksX0_byteOf_0 0 rfl rfl)
theorem dX0_byteOf_1 : decode cX0_byteOf 1 = .ok (.iconst 0, 1) := dk_3 (dk_at dksX0_byteOf_0 1 rfl rfl)
theorem dX0_byteOf_2 : decode cX0_byteOf 2 = .ok (.aload_n 0, 1) := dk_42 (dk_at dksX0_byteOf_0 2 rfl rfl)
theorem dX0_byteOf_3 : decode cX0_byteOf 3 = .ok (.iload_n 1, 1) := dk_27 (dk_at dksX0_byteOf_0 3 rfl rfl)
theorem dX0_byteOf_4 : decode cX0_byteOf 4 = .ok (.iload_n 2, 1) := dk_28 (dk_at dksX0_byteOf_0 4 rfl rfl)
theorem dX0_byteOf_5 : decode cX0_byteOf 5 = .ok (.invokevirtual 26, 3) := dk_182 0 26 (dk_at dksX0_byteOf_0 5 rfl rfl)
theorem dX0_byteOf_8 : decode cX0_byteOf 8 = .ok (.i2l, 1) := dk_133 (dk_at dksX0_byteOf_0 8 rfl rfl)
theorem dX0_byteOf_9 : decode cX0_byteOf 9 = .ok (.lastore, 1) := dk_80 (dk_at dksX0_byteOf_0 9 rfl rfl)
theorem dX0_byteOf_10 : decode cX0_byteOf 10 = .ok (.goto 19, 3) := dk_167 0 19 (dk_at dksX0_byteOf_0 10 rfl rfl)
theorem dX0_byteOf_13 : decode cX0_byteOf 13 = .ok (.astore 4, 2) := dk_58 4 (dk_at dksX0_byteOf_0 13 rfl rfl)
theorem dX0_byteOf_15 : decode cX0_byteOf 15 = .ok (.iconst 1, 1) := dk_4 (dk_at dksX0_byteOf_0 15 rfl rfl)
theorem dX0_byteOf_16 : decode cX0_byteOf 16 = .ok (.ireturn, 1) := dk_172 (dk_at dksX0_byteOf_0 16 rfl rfl)
theorem dX0_byteOf_17 : decode cX0_byteOf 17 = .ok (.astore 4, 2) := dk_58 4 (dk_at dksX0_byteOf_0 17 rfl rfl)
theorem dX0_byteOf_19 : decode cX0_byteOf 19 = .ok (.iconst 2, 1) := dk_5 (dk_at dksX0_byteOf_0 19 rfl rfl)
theorem dX0_byteOf_20 : decode cX0_byteOf 20 = .ok (.ireturn, 1) := dk_172 (dk_at dksX0_byteOf_0 20 rfl rfl)
theorem dX0_byteOf_21 : decode cX0_byteOf 21 = .ok (.astore 4, 2) := dk_58 4 (dk_at dksX0_byteOf_0 21 rfl rfl)
theorem dX0_byteOf_23 : decode cX0_byteOf 23 = .ok (.iconst 3, 1) := dk_6 (dk_at dksX0_byteOf_0 23 rfl rfl)
theorem dX0_byteOf_24 : decode cX0_byteOf 24 = .ok (.ireturn, 1) := dk_172 (dk_at dksX0_byteOf_1 0 rfl rfl)
theorem dX0_byteOf_25 : decode cX0_byteOf 25 = .ok (.astore 4, 2) := dk_58 4 (dk_at dksX0_byteOf_1 1 rfl rfl)
theorem dX0_byteOf_27 : decode cX0_byteOf 27 = .ok (.iconst 4, 1) := dk_7 (dk_at dksX0_byteOf_1 3 rfl rfl)
theorem dX0_byteOf_28 : decode cX0_byteOf 28 = .ok (.ireturn, 1) := dk_172 (dk_at dksX0_byteOf_1 4 rfl rfl)
theorem dX0_byteOf_29 : decode cX0_byteOf 29 = .ok (.iconst 0, 1) := dk_3 (dk_at dksX0_byteOf_1 5 rfl rfl)
theorem dX0_byteOf_30 : decode cX0_byteOf 30 = .ok (.ireturn, 1) := dk_172 (dk_at dksX0_byteOf_1 6 rfl rfl)
abbrev cX0_number : ByteArray := method_7_code
def yX0_number : MethodName := ⟨RX0, "number", "(LBilevelPages;III[J)I"⟩
def dkwX0_number_1 : List UInt8 := [172]
abbrev dktX0_number_1 : List UInt8 := dkwX0_number_1 ++ []
def dkwX0_number_0 : List UInt8 := [25, 4, 3, 42, 27, 28, 29, 182, 0, 31, 133, 80, 167, 0, 11, 58, 5, 4, 172, 58, 5, 5, 172, 3]
abbrev dktX0_number_0 : List UInt8 := dkwX0_number_0 ++ dktX0_number_1
theorem dksX0_number_0 : cX0_number.data.toList.drop 0 = dktX0_number_0 := by decide +kernel
theorem dksX0_number_1 : cX0_number.data.toList.drop 24 = dktX0_number_1 := dk_seg dksX0_number_0 24 rfl rfl
theorem dX0_number_0 : decode cX0_number 0 = .ok (.aload 4, 2) := dk_25 4 (dk_at dksX0_number_0 0 rfl rfl)
theorem dX0_number_2 : decode cX0_number 2 = .ok (.iconst 0, 1) := dk_3 (dk_at dksX0_number_0 2 rfl rfl)
theorem dX0_number_3 : decode cX0_number 3 = .ok (.aload_n 0, 1) := dk_42 (dk_at dksX0_number_0 3 rfl rfl)
theorem dX0_number_4 : decode cX0_number 4 = .ok (.iload_n 1, 1) := dk_27 (dk_at dksX0_number_0 4 rfl rfl)
theorem dX0_number_5 : decode cX0_number 5 = .ok (.iload_n 2, 1) := dk_28 (dk_at dksX0_number_0 5 rfl rfl)
theorem dX0_number_6 : decode cX0_number 6 = .ok (.iload_n 3, 1) := dk_29 (dk_at dksX0_number_0 6 rfl rfl)
theorem dX0_number_7 : decode cX0_number 7 = .ok (.invokevirtual 31, 3) := dk_182 0 31 (dk_at dksX0_number_0 7 rfl rfl)
theorem dX0_number_10 : decode cX0_number 10 = .ok (.i2l, 1) := dk_133 (dk_at dksX0_number_0 10 rfl rfl)
theorem dX0_number_11 : decode cX0_number 11 = .ok (.lastore, 1) := dk_80 (dk_at dksX0_number_0 11 rfl rfl)
theorem dX0_number_12 : decode cX0_number 12 = .ok (.goto 11, 3) := dk_167 0 11 (dk_at dksX0_number_0 12 rfl rfl)
theorem dX0_number_15 : decode cX0_number 15 = .ok (.astore 5, 2) := dk_58 5 (dk_at dksX0_number_0 15 rfl rfl)
theorem dX0_number_17 : decode cX0_number 17 = .ok (.iconst 1, 1) := dk_4 (dk_at dksX0_number_0 17 rfl rfl)
theorem dX0_number_18 : decode cX0_number 18 = .ok (.ireturn, 1) := dk_172 (dk_at dksX0_number_0 18 rfl rfl)
theorem dX0_number_19 : decode cX0_number 19 = .ok (.astore 5, 2) := dk_58 5 (dk_at dksX0_number_0 19 rfl rfl)
theorem dX0_number_21 : decode cX0_number 21 = .ok (.iconst 2, 1) := dk_5 (dk_at dksX0_number_0 21 rfl rfl)
theorem dX0_number_22 : decode cX0_number 22 = .ok (.ireturn, 1) := dk_172 (dk_at dksX0_number_0 22 rfl rfl)
theorem dX0_number_23 : decode cX0_number 23 = .ok (.iconst 0, 1) := dk_3 (dk_at dksX0_number_0 23 rfl rfl)
theorem dX0_number_24 : decode cX0_number 24 = .ok (.ireturn, 1) := dk_172 (dk_at dksX0_number_1 0 rfl rfl)
abbrev cX0_pixel : ByteArray := method_8_code
def yX0_pixel : MethodName := ⟨RX0, "pixel", "(LBilevelPages;IIIZ[J)I"⟩
def dkwX0_pixel_1 : List UInt8 := [58, 6, 4, 172, 58, 6, 5, 172, 3, 172]
abbrev dktX0_pixel_1 : List UInt8 := dkwX0_pixel_1 ++ []
def dkwX0_pixel_0 : List UInt8 := [25, 5, 3, 42, 27, 28, 29, 21, 4, 182, 0, 35, 153, 0, 7, 10, 167, 0, 4, 9, 80, 167, 0, 11]
abbrev dktX0_pixel_0 : List UInt8 := dkwX0_pixel_0 ++ dktX0_pixel_1
theorem dksX0_pixel_0 : cX0_pixel.data.toList.drop 0 = dktX0_pixel_0 := by decide +kernel
theorem dksX0_pixel_1 : cX0_pixel.data.toList.drop 24 = dktX0_pixel_1 := dk_seg dksX0_pixel_0 24 rfl rfl
theorem dX0_pixel_0 : decode cX0_pixel 0 = .ok (.aload 5, 2) := dk_25 5 (dk_at dksX0_pixel_0 0 rfl rfl)
theorem dX0_pixel_2 : decode cX0_pixel 2 = .ok (.iconst 0, 1) := dk_3 (dk_at dksX0_pixel_0 2 rfl rfl)
theorem dX0_pixel_3 : decode cX0_pixel 3 = .ok (.aload_n 0, 1) := dk_42 (dk_at dksX0_pixel_0 3 rfl rfl)
theorem dX0_pixel_4 : decode cX0_pixel 4 = .ok (.iload_n 1, 1) := dk_27 (dk_at dksX0_pixel_0 4 rfl rfl)
theorem dX0_pixel_5 : decode cX0_pixel 5 = .ok (.iload_n 2, 1) := dk_28 (dk_at dksX0_pixel_0 5 rfl rfl)
theorem dX0_pixel_6 : decode cX0_pixel 6 = .ok (.iload_n 3, 1) := dk_29 (dk_at dksX0_pixel_0 6 rfl rfl)
theorem dX0_pixel_7 : decode cX0_pixel 7 = .ok (.iload 4, 2) := dk_21 4 (dk_at dksX0_pixel_0 7 rfl rfl)
theorem dX0_pixel_9 : decode cX0_pixel 9 = .ok (.invokevirtual 35, 3) := dk_182 0 35 (dk_at dksX0_pixel_0 9 rfl rfl)
theorem dX0_pixel_12 : decode cX0_pixel 12 = .ok (.ifCond .eq 7, 3) := dk_153 0 7 (dk_at dksX0_pixel_0 12 rfl rfl)
theorem dX0_pixel_15 : decode cX0_pixel 15 = .ok (.lconst 1, 1) := dk_10 (dk_at dksX0_pixel_0 15 rfl rfl)
theorem dX0_pixel_16 : decode cX0_pixel 16 = .ok (.goto 4, 3) := dk_167 0 4 (dk_at dksX0_pixel_0 16 rfl rfl)
theorem dX0_pixel_19 : decode cX0_pixel 19 = .ok (.lconst 0, 1) := dk_9 (dk_at dksX0_pixel_0 19 rfl rfl)
theorem dX0_pixel_20 : decode cX0_pixel 20 = .ok (.lastore, 1) := dk_80 (dk_at dksX0_pixel_0 20 rfl rfl)
theorem dX0_pixel_21 : decode cX0_pixel 21 = .ok (.goto 11, 3) := dk_167 0 11 (dk_at dksX0_pixel_0 21 rfl rfl)
theorem dX0_pixel_24 : decode cX0_pixel 24 = .ok (.astore 6, 2) := dk_58 6 (dk_at dksX0_pixel_1 0 rfl rfl)
theorem dX0_pixel_26 : decode cX0_pixel 26 = .ok (.iconst 1, 1) := dk_4 (dk_at dksX0_pixel_1 2 rfl rfl)
theorem dX0_pixel_27 : decode cX0_pixel 27 = .ok (.ireturn, 1) := dk_172 (dk_at dksX0_pixel_1 3 rfl rfl)
theorem dX0_pixel_28 : decode cX0_pixel 28 = .ok (.astore 6, 2) := dk_58 6 (dk_at dksX0_pixel_1 4 rfl rfl)
theorem dX0_pixel_30 : decode cX0_pixel 30 = .ok (.iconst 2, 1) := dk_5 (dk_at dksX0_pixel_1 6 rfl rfl)
theorem dX0_pixel_31 : decode cX0_pixel 31 = .ok (.ireturn, 1) := dk_172 (dk_at dksX0_pixel_1 7 rfl rfl)
theorem dX0_pixel_32 : decode cX0_pixel 32 = .ok (.iconst 0, 1) := dk_3 (dk_at dksX0_pixel_1 8 rfl rfl)
theorem dX0_pixel_33 : decode cX0_pixel 33 = .ok (.ireturn, 1) := dk_172 (dk_at dksX0_pixel_1 9 rfl rfl)
abbrev cX0_write : ByteArray := method_9_code
def yX0_write : MethodName := ⟨RX0, "write", "(LBilevelPages;I[J)I"⟩
def dkwX0_write_0 : List UInt8 := [44, 3, 42, 27, 182, 0, 39, 133, 80, 167, 0, 6, 78, 4, 172, 3, 172]
abbrev dktX0_write_0 : List UInt8 := dkwX0_write_0 ++ []
theorem dksX0_write_0 : cX0_write.data.toList.drop 0 = dktX0_write_0 := by decide +kernel
theorem dX0_write_0 : decode cX0_write 0 = .ok (.aload_n 2, 1) := dk_44 (dk_at dksX0_write_0 0 rfl rfl)
theorem dX0_write_1 : decode cX0_write 1 = .ok (.iconst 0, 1) := dk_3 (dk_at dksX0_write_0 1 rfl rfl)
theorem dX0_write_2 : decode cX0_write 2 = .ok (.aload_n 0, 1) := dk_42 (dk_at dksX0_write_0 2 rfl rfl)
theorem dX0_write_3 : decode cX0_write 3 = .ok (.iload_n 1, 1) := dk_27 (dk_at dksX0_write_0 3 rfl rfl)
theorem dX0_write_4 : decode cX0_write 4 = .ok (.invokevirtual 39, 3) := dk_182 0 39 (dk_at dksX0_write_0 4 rfl rfl)
theorem dX0_write_7 : decode cX0_write 7 = .ok (.i2l, 1) := dk_133 (dk_at dksX0_write_0 7 rfl rfl)
theorem dX0_write_8 : decode cX0_write 8 = .ok (.lastore, 1) := dk_80 (dk_at dksX0_write_0 8 rfl rfl)
theorem dX0_write_9 : decode cX0_write 9 = .ok (.goto 6, 3) := dk_167 0 6 (dk_at dksX0_write_0 9 rfl rfl)
theorem dX0_write_12 : decode cX0_write 12 = .ok (.astore_n 3, 1) := dk_78 (dk_at dksX0_write_0 12 rfl rfl)
theorem dX0_write_13 : decode cX0_write 13 = .ok (.iconst 1, 1) := dk_4 (dk_at dksX0_write_0 13 rfl rfl)
theorem dX0_write_14 : decode cX0_write 14 = .ok (.ireturn, 1) := dk_172 (dk_at dksX0_write_0 14 rfl rfl)
theorem dX0_write_15 : decode cX0_write 15 = .ok (.iconst 0, 1) := dk_3 (dk_at dksX0_write_0 15 rfl rfl)
theorem dX0_write_16 : decode cX0_write 16 = .ok (.ireturn, 1) := dk_172 (dk_at dksX0_write_0 16 rfl rfl)
abbrev cX0_byteAt : ByteArray := method_10_code
def yX0_byteAt : MethodName := ⟨RX0, "byteAt", "(LBilevelPages;I[J)I"⟩
def dkwX0_byteAt_0 : List UInt8 := [44, 3, 42, 27, 182, 0, 43, 133, 80, 167, 0, 6, 78, 4, 172, 3, 172]
abbrev dktX0_byteAt_0 : List UInt8 := dkwX0_byteAt_0 ++ []
theorem dksX0_byteAt_0 : cX0_byteAt.data.toList.drop 0 = dktX0_byteAt_0 := by decide +kernel
theorem dX0_byteAt_0 : decode cX0_byteAt 0 = .ok (.aload_n 2, 1) := dk_44 (dk_at dksX0_byteAt_0 0 rfl rfl)
theorem dX0_byteAt_1 : decode cX0_byteAt 1 = .ok (.iconst 0, 1) := dk_3 (dk_at dksX0_byteAt_0 1 rfl rfl)
theorem dX0_byteAt_2 : decode cX0_byteAt 2 = .ok (.aload_n 0, 1) := dk_42 (dk_at dksX0_byteAt_0 2 rfl rfl)
theorem dX0_byteAt_3 : decode cX0_byteAt 3 = .ok (.iload_n 1, 1) := dk_27 (dk_at dksX0_byteAt_0 3 rfl rfl)
theorem dX0_byteAt_4 : decode cX0_byteAt 4 = .ok (.invokevirtual 43, 3) := dk_182 0 43 (dk_at dksX0_byteAt_0 4 rfl rfl)
theorem dX0_byteAt_7 : decode cX0_byteAt 7 = .ok (.i2l, 1) := dk_133 (dk_at dksX0_byteAt_0 7 rfl rfl)
theorem dX0_byteAt_8 : decode cX0_byteAt 8 = .ok (.lastore, 1) := dk_80 (dk_at dksX0_byteAt_0 8 rfl rfl)
theorem dX0_byteAt_9 : decode cX0_byteAt 9 = .ok (.goto 6, 3) := dk_167 0 6 (dk_at dksX0_byteAt_0 9 rfl rfl)
theorem dX0_byteAt_12 : decode cX0_byteAt 12 = .ok (.astore_n 3, 1) := dk_78 (dk_at dksX0_byteAt_0 12 rfl rfl)
theorem dX0_byteAt_13 : decode cX0_byteAt 13 = .ok (.iconst 1, 1) := dk_4 (dk_at dksX0_byteAt_0 13 rfl rfl)
theorem dX0_byteAt_14 : decode cX0_byteAt 14 = .ok (.ireturn, 1) := dk_172 (dk_at dksX0_byteAt_0 14 rfl rfl)
theorem dX0_byteAt_15 : decode cX0_byteAt 15 = .ok (.iconst 0, 1) := dk_3 (dk_at dksX0_byteAt_0 15 rfl rfl)
theorem dX0_byteAt_16 : decode cX0_byteAt 16 = .ok (.ireturn, 1) := dk_172 (dk_at dksX0_byteAt_0 16 rfl rfl)
abbrev cX0_feed : ByteArray := method_11_code
def yX0_feed : MethodName := ⟨RX0, "feed", "(LBilevelPages;IZ[J)I"⟩
def dkwX0_feed_0 : List UInt8 := [45, 3, 42, 27, 28, 182, 0, 46, 133, 80, 167, 0, 11, 58, 4, 4, 172, 58, 4, 5, 172, 3, 172]
abbrev dktX0_feed_0 : List UInt8 := dkwX0_feed_0 ++ []
theorem dksX0_feed_0 : cX0_feed.data.toList.drop 0 = dktX0_feed_0 := by decide +kernel
theorem dX0_feed_0 : decode cX0_feed 0 = .ok (.aload_n 3, 1) := dk_45 (dk_at dksX0_feed_0 0 rfl rfl)
theorem dX0_feed_1 : decode cX0_feed 1 = .ok (.iconst 0, 1) := dk_3 (dk_at dksX0_feed_0 1 rfl rfl)
theorem dX0_feed_2 : decode cX0_feed 2 = .ok (.aload_n 0, 1) := dk_42 (dk_at dksX0_feed_0 2 rfl rfl)
theorem dX0_feed_3 : decode cX0_feed 3 = .ok (.iload_n 1, 1) := dk_27 (dk_at dksX0_feed_0 3 rfl rfl)
theorem dX0_feed_4 : decode cX0_feed 4 = .ok (.iload_n 2, 1) := dk_28 (dk_at dksX0_feed_0 4 rfl rfl)
theorem dX0_feed_5 : decode cX0_feed 5 = .ok (.invokevirtual 46, 3) := dk_182 0 46 (dk_at dksX0_feed_0 5 rfl rfl)
theorem dX0_feed_8 : decode cX0_feed 8 = .ok (.i2l, 1) := dk_133 (dk_at dksX0_feed_0 8 rfl rfl)
theorem dX0_feed_9 : decode cX0_feed 9 = .ok (.lastore, 1) := dk_80 (dk_at dksX0_feed_0 9 rfl rfl)
theorem dX0_feed_10 : decode cX0_feed 10 = .ok (.goto 11, 3) := dk_167 0 11 (dk_at dksX0_feed_0 10 rfl rfl)
theorem dX0_feed_13 : decode cX0_feed 13 = .ok (.astore 4, 2) := dk_58 4 (dk_at dksX0_feed_0 13 rfl rfl)
theorem dX0_feed_15 : decode cX0_feed 15 = .ok (.iconst 1, 1) := dk_4 (dk_at dksX0_feed_0 15 rfl rfl)
theorem dX0_feed_16 : decode cX0_feed 16 = .ok (.ireturn, 1) := dk_172 (dk_at dksX0_feed_0 16 rfl rfl)
theorem dX0_feed_17 : decode cX0_feed 17 = .ok (.astore 4, 2) := dk_58 4 (dk_at dksX0_feed_0 17 rfl rfl)
theorem dX0_feed_19 : decode cX0_feed 19 = .ok (.iconst 2, 1) := dk_5 (dk_at dksX0_feed_0 19 rfl rfl)
theorem dX0_feed_20 : decode cX0_feed 20 = .ok (.ireturn, 1) := dk_172 (dk_at dksX0_feed_0 20 rfl rfl)
theorem dX0_feed_21 : decode cX0_feed 21 = .ok (.iconst 0, 1) := dk_3 (dk_at dksX0_feed_0 21 rfl rfl)
theorem dX0_feed_22 : decode cX0_feed 22 = .ok (.ireturn, 1) := dk_172 (dk_at dksX0_feed_0 22 rfl rfl)
abbrev cX0_pass : ByteArray := method_12_code
def yX0_pass : MethodName := ⟨RX0, "pass", "(LBilevelPages;Z[J)I"⟩
def dkwX0_pass_0 : List UInt8 := [44, 3, 42, 27, 182, 0, 50, 133, 80, 167, 0, 9, 78, 4, 172, 78, 5, 172, 3, 172]
abbrev dktX0_pass_0 : List UInt8 := dkwX0_pass_0 ++ []
theorem dksX0_pass_0 : cX0_pass.data.toList.drop 0 = dktX0_pass_0 := by decide +kernel
theorem dX0_pass_0 : decode cX0_pass 0 = .ok (.aload_n 2, 1) := dk_44 (dk_at dksX0_pass_0 0 rfl rfl)
theorem dX0_pass_1 : decode cX0_pass 1 = .ok (.iconst 0, 1) := dk_3 (dk_at dksX0_pass_0 1 rfl rfl)
theorem dX0_pass_2 : decode cX0_pass 2 = .ok (.aload_n 0, 1) := dk_42 (dk_at dksX0_pass_0 2 rfl rfl)
theorem dX0_pass_3 : decode cX0_pass 3 = .ok (.iload_n 1, 1) := dk_27 (dk_at dksX0_pass_0 3 rfl rfl)
theorem dX0_pass_4 : decode cX0_pass 4 = .ok (.invokevirtual 50, 3) := dk_182 0 50 (dk_at dksX0_pass_0 4 rfl rfl)
theorem dX0_pass_7 : decode cX0_pass 7 = .ok (.i2l, 1) := dk_133 (dk_at dksX0_pass_0 7 rfl rfl)
theorem dX0_pass_8 : decode cX0_pass 8 = .ok (.lastore, 1) := dk_80 (dk_at dksX0_pass_0 8 rfl rfl)
theorem dX0_pass_9 : decode cX0_pass 9 = .ok (.goto 9, 3) := dk_167 0 9 (dk_at dksX0_pass_0 9 rfl rfl)
theorem dX0_pass_12 : decode cX0_pass 12 = .ok (.astore_n 3, 1) := dk_78 (dk_at dksX0_pass_0 12 rfl rfl)
theorem dX0_pass_13 : decode cX0_pass 13 = .ok (.iconst 1, 1) := dk_4 (dk_at dksX0_pass_0 13 rfl rfl)
theorem dX0_pass_14 : decode cX0_pass 14 = .ok (.ireturn, 1) := dk_172 (dk_at dksX0_pass_0 14 rfl rfl)
theorem dX0_pass_15 : decode cX0_pass 15 = .ok (.astore_n 3, 1) := dk_78 (dk_at dksX0_pass_0 15 rfl rfl)
theorem dX0_pass_16 : decode cX0_pass 16 = .ok (.iconst 2, 1) := dk_5 (dk_at dksX0_pass_0 16 rfl rfl)
theorem dX0_pass_17 : decode cX0_pass 17 = .ok (.ireturn, 1) := dk_172 (dk_at dksX0_pass_0 17 rfl rfl)
theorem dX0_pass_18 : decode cX0_pass 18 = .ok (.iconst 0, 1) := dk_3 (dk_at dksX0_pass_0 18 rfl rfl)
theorem dX0_pass_19 : decode cX0_pass 19 = .ok (.ireturn, 1) := dk_172 (dk_at dksX0_pass_0 19 rfl rfl)
abbrev cX0_alter : ByteArray := method_13_code
def yX0_alter : MethodName := ⟨RX0, "alter", "(LBilevelPages;II[J)I"⟩
def dkwX0_alter_0 : List UInt8 := [45, 3, 42, 27, 28, 182, 0, 54, 133, 80, 167, 0, 11, 58, 4, 4, 172, 58, 4, 5, 172, 3, 172]
abbrev dktX0_alter_0 : List UInt8 := dkwX0_alter_0 ++ []
theorem dksX0_alter_0 : cX0_alter.data.toList.drop 0 = dktX0_alter_0 := by decide +kernel
theorem dX0_alter_0 : decode cX0_alter 0 = .ok (.aload_n 3, 1) := dk_45 (dk_at dksX0_alter_0 0 rfl rfl)
theorem dX0_alter_1 : decode cX0_alter 1 = .ok (.iconst 0, 1) := dk_3 (dk_at dksX0_alter_0 1 rfl rfl)
theorem dX0_alter_2 : decode cX0_alter 2 = .ok (.aload_n 0, 1) := dk_42 (dk_at dksX0_alter_0 2 rfl rfl)
theorem dX0_alter_3 : decode cX0_alter 3 = .ok (.iload_n 1, 1) := dk_27 (dk_at dksX0_alter_0 3 rfl rfl)
theorem dX0_alter_4 : decode cX0_alter 4 = .ok (.iload_n 2, 1) := dk_28 (dk_at dksX0_alter_0 4 rfl rfl)
theorem dX0_alter_5 : decode cX0_alter 5 = .ok (.invokevirtual 54, 3) := dk_182 0 54 (dk_at dksX0_alter_0 5 rfl rfl)
theorem dX0_alter_8 : decode cX0_alter 8 = .ok (.i2l, 1) := dk_133 (dk_at dksX0_alter_0 8 rfl rfl)
theorem dX0_alter_9 : decode cX0_alter 9 = .ok (.lastore, 1) := dk_80 (dk_at dksX0_alter_0 9 rfl rfl)
theorem dX0_alter_10 : decode cX0_alter 10 = .ok (.goto 11, 3) := dk_167 0 11 (dk_at dksX0_alter_0 10 rfl rfl)
theorem dX0_alter_13 : decode cX0_alter 13 = .ok (.astore 4, 2) := dk_58 4 (dk_at dksX0_alter_0 13 rfl rfl)
theorem dX0_alter_15 : decode cX0_alter 15 = .ok (.iconst 1, 1) := dk_4 (dk_at dksX0_alter_0 15 rfl rfl)
theorem dX0_alter_16 : decode cX0_alter 16 = .ok (.ireturn, 1) := dk_172 (dk_at dksX0_alter_0 16 rfl rfl)
theorem dX0_alter_17 : decode cX0_alter 17 = .ok (.astore 4, 2) := dk_58 4 (dk_at dksX0_alter_0 17 rfl rfl)
theorem dX0_alter_19 : decode cX0_alter 19 = .ok (.iconst 2, 1) := dk_5 (dk_at dksX0_alter_0 19 rfl rfl)
theorem dX0_alter_20 : decode cX0_alter 20 = .ok (.ireturn, 1) := dk_172 (dk_at dksX0_alter_0 20 rfl rfl)
theorem dX0_alter_21 : decode cX0_alter 21 = .ok (.iconst 0, 1) := dk_3 (dk_at dksX0_alter_0 21 rfl rfl)
theorem dX0_alter_22 : decode cX0_alter 22 = .ok (.ireturn, 1) := dk_172 (dk_at dksX0_alter_0 22 rfl rfl)
abbrev cX0_found : ByteArray := method_14_code
def yX0_found : MethodName := ⟨RX0, "found", "(LBilevelPages;II[J)I"⟩
def dkwX0_found_0 : List UInt8 := [45, 3, 42, 27, 28, 182, 0, 57, 133, 80, 167, 0, 11, 58, 4, 4, 172, 58, 4, 5, 172, 3, 172]
abbrev dktX0_found_0 : List UInt8 := dkwX0_found_0 ++ []
theorem dksX0_found_0 : cX0_found.data.toList.drop 0 = dktX0_found_0 := by decide +kernel
theorem dX0_found_0 : decode cX0_found 0 = .ok (.aload_n 3, 1) := dk_45 (dk_at dksX0_found_0 0 rfl rfl)
theorem dX0_found_1 : decode cX0_found 1 = .ok (.iconst 0, 1) := dk_3 (dk_at dksX0_found_0 1 rfl rfl)
theorem dX0_found_2 : decode cX0_found 2 = .ok (.aload_n 0, 1) := dk_42 (dk_at dksX0_found_0 2 rfl rfl)
theorem dX0_found_3 : decode cX0_found 3 = .ok (.iload_n 1, 1) := dk_27 (dk_at dksX0_found_0 3 rfl rfl)
theorem dX0_found_4 : decode cX0_found 4 = .ok (.iload_n 2, 1) := dk_28 (dk_at dksX0_found_0 4 rfl rfl)
theorem dX0_found_5 : decode cX0_found 5 = .ok (.invokevirtual 57, 3) := dk_182 0 57 (dk_at dksX0_found_0 5 rfl rfl)
theorem dX0_found_8 : decode cX0_found 8 = .ok (.i2l, 1) := dk_133 (dk_at dksX0_found_0 8 rfl rfl)
theorem dX0_found_9 : decode cX0_found 9 = .ok (.lastore, 1) := dk_80 (dk_at dksX0_found_0 9 rfl rfl)
theorem dX0_found_10 : decode cX0_found 10 = .ok (.goto 11, 3) := dk_167 0 11 (dk_at dksX0_found_0 10 rfl rfl)
theorem dX0_found_13 : decode cX0_found 13 = .ok (.astore 4, 2) := dk_58 4 (dk_at dksX0_found_0 13 rfl rfl)
theorem dX0_found_15 : decode cX0_found 15 = .ok (.iconst 1, 1) := dk_4 (dk_at dksX0_found_0 15 rfl rfl)
theorem dX0_found_16 : decode cX0_found 16 = .ok (.ireturn, 1) := dk_172 (dk_at dksX0_found_0 16 rfl rfl)
theorem dX0_found_17 : decode cX0_found 17 = .ok (.astore 4, 2) := dk_58 4 (dk_at dksX0_found_0 17 rfl rfl)
theorem dX0_found_19 : decode cX0_found 19 = .ok (.iconst 2, 1) := dk_5 (dk_at dksX0_found_0 19 rfl rfl)
theorem dX0_found_20 : decode cX0_found 20 = .ok (.ireturn, 1) := dk_172 (dk_at dksX0_found_0 20 rfl rfl)
theorem dX0_found_21 : decode cX0_found 21 = .ok (.iconst 0, 1) := dk_3 (dk_at dksX0_found_0 21 rfl rfl)
theorem dX0_found_22 : decode cX0_found 22 = .ok (.ireturn, 1) := dk_172 (dk_at dksX0_found_0 22 rfl rfl)
abbrev cX0_page : ByteArray := method_15_code
def yX0_page : MethodName := ⟨RX0, "page", "(LBilevelPages;II[J)I"⟩
def dkwX0_page_0 : List UInt8 := [45, 3, 42, 27, 28, 182, 0, 60, 133, 80, 167, 0, 11, 58, 4, 4, 172, 58, 4, 5, 172, 3, 172]
abbrev dktX0_page_0 : List UInt8 := dkwX0_page_0 ++ []
theorem dksX0_page_0 : cX0_page.data.toList.drop 0 = dktX0_page_0 := by decide +kernel
theorem dX0_page_0 : decode cX0_page 0 = .ok (.aload_n 3, 1) := dk_45 (dk_at dksX0_page_0 0 rfl rfl)
theorem dX0_page_1 : decode cX0_page 1 = .ok (.iconst 0, 1) := dk_3 (dk_at dksX0_page_0 1 rfl rfl)
theorem dX0_page_2 : decode cX0_page 2 = .ok (.aload_n 0, 1) := dk_42 (dk_at dksX0_page_0 2 rfl rfl)
theorem dX0_page_3 : decode cX0_page 3 = .ok (.iload_n 1, 1) := dk_27 (dk_at dksX0_page_0 3 rfl rfl)
theorem dX0_page_4 : decode cX0_page 4 = .ok (.iload_n 2, 1) := dk_28 (dk_at dksX0_page_0 4 rfl rfl)
theorem dX0_page_5 : decode cX0_page 5 = .ok (.invokevirtual 60, 3) := dk_182 0 60 (dk_at dksX0_page_0 5 rfl rfl)
theorem dX0_page_8 : decode cX0_page 8 = .ok (.i2l, 1) := dk_133 (dk_at dksX0_page_0 8 rfl rfl)
theorem dX0_page_9 : decode cX0_page 9 = .ok (.lastore, 1) := dk_80 (dk_at dksX0_page_0 9 rfl rfl)
theorem dX0_page_10 : decode cX0_page 10 = .ok (.goto 11, 3) := dk_167 0 11 (dk_at dksX0_page_0 10 rfl rfl)
theorem dX0_page_13 : decode cX0_page 13 = .ok (.astore 4, 2) := dk_58 4 (dk_at dksX0_page_0 13 rfl rfl)
theorem dX0_page_15 : decode cX0_page 15 = .ok (.iconst 1, 1) := dk_4 (dk_at dksX0_page_0 15 rfl rfl)
theorem dX0_page_16 : decode cX0_page 16 = .ok (.ireturn, 1) := dk_172 (dk_at dksX0_page_0 16 rfl rfl)
theorem dX0_page_17 : decode cX0_page 17 = .ok (.astore 4, 2) := dk_58 4 (dk_at dksX0_page_0 17 rfl rfl)
theorem dX0_page_19 : decode cX0_page 19 = .ok (.iconst 2, 1) := dk_5 (dk_at dksX0_page_0 19 rfl rfl)
theorem dX0_page_20 : decode cX0_page 20 = .ok (.ireturn, 1) := dk_172 (dk_at dksX0_page_0 20 rfl rfl)
theorem dX0_page_21 : decode cX0_page 21 = .ok (.iconst 0, 1) := dk_3 (dk_at dksX0_page_0 21 rfl rfl)
theorem dX0_page_22 : decode cX0_page 22 = .ok (.ireturn, 1) := dk_172 (dk_at dksX0_page_0 22 rfl rfl)
abbrev cX0_at : ByteArray := method_16_code
def yX0_at : MethodName := ⟨RX0, "at", "(LBilevelPages;III[J)I"⟩
def dkwX0_at_1 : List UInt8 := [4, 172, 58, 5, 5, 172, 3, 172]
abbrev dktX0_at_1 : List UInt8 := dkwX0_at_1 ++ []
def dkwX0_at_0 : List UInt8 := [25, 4, 3, 42, 27, 28, 29, 182, 0, 63, 153, 0, 7, 10, 167, 0, 4, 9, 80, 167, 0, 11, 58, 5]
abbrev dktX0_at_0 : List UInt8 := dkwX0_at_0 ++ dktX0_at_1
theorem dksX0_at_0 : cX0_at.data.toList.drop 0 = dktX0_at_0 := by decide +kernel
theorem dksX0_at_1 : cX0_at.data.toList.drop 24 = dktX0_at_1 := dk_seg dksX0_at_0 24 rfl rfl
theorem dX0_at_0 : decode cX0_at 0 = .ok (.aload 4, 2) := dk_25 4 (dk_at dksX0_at_0 0 rfl rfl)
theorem dX0_at_2 : decode cX0_at 2 = .ok (.iconst 0, 1) := dk_3 (dk_at dksX0_at_0 2 rfl rfl)
theorem dX0_at_3 : decode cX0_at 3 = .ok (.aload_n 0, 1) := dk_42 (dk_at dksX0_at_0 3 rfl rfl)
theorem dX0_at_4 : decode cX0_at 4 = .ok (.iload_n 1, 1) := dk_27 (dk_at dksX0_at_0 4 rfl rfl)
theorem dX0_at_5 : decode cX0_at 5 = .ok (.iload_n 2, 1) := dk_28 (dk_at dksX0_at_0 5 rfl rfl)
theorem dX0_at_6 : decode cX0_at 6 = .ok (.iload_n 3, 1) := dk_29 (dk_at dksX0_at_0 6 rfl rfl)
theorem dX0_at_7 : decode cX0_at 7 = .ok (.invokevirtual 63, 3) := dk_182 0 63 (dk_at dksX0_at_0 7 rfl rfl)
theorem dX0_at_10 : decode cX0_at 10 = .ok (.ifCond .eq 7, 3) := dk_153 0 7 (dk_at dksX0_at_0 10 rfl rfl)
theorem dX0_at_13 : decode cX0_at 13 = .ok (.lconst 1, 1) := dk_10 (dk_at dksX0_at_0 13 rfl rfl)
theorem dX0_at_14 : decode cX0_at 14 = .ok (.goto 4, 3) := dk_167 0 4 (dk_at dksX0_at_0 14 rfl rfl)
theorem dX0_at_17 : decode cX0_at 17 = .ok (.lconst 0, 1) := dk_9 (dk_at dksX0_at_0 17 rfl rfl)
theorem dX0_at_18 : decode cX0_at 18 = .ok (.lastore, 1) := dk_80 (dk_at dksX0_at_0 18 rfl rfl)
theorem dX0_at_19 : decode cX0_at 19 = .ok (.goto 11, 3) := dk_167 0 11 (dk_at dksX0_at_0 19 rfl rfl)
theorem dX0_at_22 : decode cX0_at 22 = .ok (.astore 5, 2) := dk_58 5 (dk_at dksX0_at_0 22 rfl rfl)
theorem dX0_at_24 : decode cX0_at 24 = .ok (.iconst 1, 1) := dk_4 (dk_at dksX0_at_1 0 rfl rfl)
theorem dX0_at_25 : decode cX0_at 25 = .ok (.ireturn, 1) := dk_172 (dk_at dksX0_at_1 1 rfl rfl)
theorem dX0_at_26 : decode cX0_at 26 = .ok (.astore 5, 2) := dk_58 5 (dk_at dksX0_at_1 2 rfl rfl)
theorem dX0_at_28 : decode cX0_at 28 = .ok (.iconst 2, 1) := dk_5 (dk_at dksX0_at_1 4 rfl rfl)
theorem dX0_at_29 : decode cX0_at 29 = .ok (.ireturn, 1) := dk_172 (dk_at dksX0_at_1 5 rfl rfl)
theorem dX0_at_30 : decode cX0_at 30 = .ok (.iconst 0, 1) := dk_3 (dk_at dksX0_at_1 6 rfl rfl)
theorem dX0_at_31 : decode cX0_at 31 = .ok (.ireturn, 1) := dk_172 (dk_at dksX0_at_1 7 rfl rfl)
abbrev cX0_stripe : ByteArray := method_17_code
def yX0_stripe : MethodName := ⟨RX0, "stripe", "(LBilevelPages;II[J)I"⟩
def dkwX0_stripe_0 : List UInt8 := [45, 3, 42, 27, 28, 182, 0, 67, 133, 80, 167, 0, 11, 58, 4, 4, 172, 58, 4, 5, 172, 3, 172]
abbrev dktX0_stripe_0 : List UInt8 := dkwX0_stripe_0 ++ []
theorem dksX0_stripe_0 : cX0_stripe.data.toList.drop 0 = dktX0_stripe_0 := by decide +kernel
theorem dX0_stripe_0 : decode cX0_stripe 0 = .ok (.aload_n 3, 1) := dk_45 (dk_at dksX0_stripe_0 0 rfl rfl)
theorem dX0_stripe_1 : decode cX0_stripe 1 = .ok (.iconst 0, 1) := dk_3 (dk_at dksX0_stripe_0 1 rfl rfl)
theorem dX0_stripe_2 : decode cX0_stripe 2 = .ok (.aload_n 0, 1) := dk_42 (dk_at dksX0_stripe_0 2 rfl rfl)
theorem dX0_stripe_3 : decode cX0_stripe 3 = .ok (.iload_n 1, 1) := dk_27 (dk_at dksX0_stripe_0 3 rfl rfl)
theorem dX0_stripe_4 : decode cX0_stripe 4 = .ok (.iload_n 2, 1) := dk_28 (dk_at dksX0_stripe_0 4 rfl rfl)
theorem dX0_stripe_5 : decode cX0_stripe 5 = .ok (.invokevirtual 67, 3) := dk_182 0 67 (dk_at dksX0_stripe_0 5 rfl rfl)
theorem dX0_stripe_8 : decode cX0_stripe 8 = .ok (.i2l, 1) := dk_133 (dk_at dksX0_stripe_0 8 rfl rfl)
theorem dX0_stripe_9 : decode cX0_stripe 9 = .ok (.lastore, 1) := dk_80 (dk_at dksX0_stripe_0 9 rfl rfl)
theorem dX0_stripe_10 : decode cX0_stripe 10 = .ok (.goto 11, 3) := dk_167 0 11 (dk_at dksX0_stripe_0 10 rfl rfl)
theorem dX0_stripe_13 : decode cX0_stripe 13 = .ok (.astore 4, 2) := dk_58 4 (dk_at dksX0_stripe_0 13 rfl rfl)
theorem dX0_stripe_15 : decode cX0_stripe 15 = .ok (.iconst 1, 1) := dk_4 (dk_at dksX0_stripe_0 15 rfl rfl)
theorem dX0_stripe_16 : decode cX0_stripe 16 = .ok (.ireturn, 1) := dk_172 (dk_at dksX0_stripe_0 16 rfl rfl)
theorem dX0_stripe_17 : decode cX0_stripe 17 = .ok (.astore 4, 2) := dk_58 4 (dk_at dksX0_stripe_0 17 rfl rfl)
theorem dX0_stripe_19 : decode cX0_stripe 19 = .ok (.iconst 2, 1) := dk_5 (dk_at dksX0_stripe_0 19 rfl rfl)
theorem dX0_stripe_20 : decode cX0_stripe 20 = .ok (.ireturn, 1) := dk_172 (dk_at dksX0_stripe_0 20 rfl rfl)
theorem dX0_stripe_21 : decode cX0_stripe 21 = .ok (.iconst 0, 1) := dk_3 (dk_at dksX0_stripe_0 21 rfl rfl)
theorem dX0_stripe_22 : decode cX0_stripe 22 = .ok (.ireturn, 1) := dk_172 (dk_at dksX0_stripe_0 22 rfl rfl)
theorem q71 : (Jvm.Cond.initialized "BilevelPagesLaw") ∈ lw_all := lw_g (lw_at lw_m1 0 rfl) rfl
theorem q99 : (Jvm.Cond.classLink "BilevelPagesLaw" (8 : Nat) "BilevelPages") ∈ lw_all := lw_g (lw_at lw_m1 28 rfl) rfl
theorem q101 : (Jvm.Cond.methodLink "BilevelPagesLaw" (76 : Nat) ({ cls := "BilevelPages", name := "<init>", desc := "(I)V" } : Jvm.MethodName)) ∈ lw_all := lw_g (lw_at lw_m1 30 rfl) rfl
theorem q345 : (Jvm.Cond.methodLink "BilevelPagesLaw" (125 : Nat) ({ cls := "BilevelPages", name := "read", desc := "()I" } : Jvm.MethodName)) ∈ lw_all := lw_g (lw_at lw_m2 34 rfl) rfl
theorem q720 : (Jvm.Cond.methodLink "BilevelPagesLaw" (141 : Nat) ({ cls := "BilevelPages", name := "told", desc := "(I)I" } : Jvm.MethodName)) ∈ lw_all := lw_g (lw_at lw_m3 169 rfl) rfl
theorem q724 : (Jvm.Cond.methodLink "BilevelPagesLaw" (145 : Nat) ({ cls := "BilevelPages", name := "drop", desc := "()V" } : Jvm.MethodName)) ∈ lw_all := lw_g (lw_at lw_m3 173 rfl) rfl
theorem q728 : (Jvm.Cond.methodLink "BilevelPagesLaw" (149 : Nat) ({ cls := "BilevelPages", name := "clear", desc := "()V" } : Jvm.MethodName)) ∈ lw_all := lw_g (lw_at lw_m3 177 rfl) rfl
theorem q732 : (Jvm.Cond.methodLink "BilevelPagesLaw" (70 : Nat) ({ cls := "BilevelPagesLaw", name := "cell", desc := "([II)I" } : Jvm.MethodName)) ∈ lw_all := lw_g (lw_at lw_m3 181 rfl) rfl
theorem q733 : (Jvm.Cond.static ({ cls := "BilevelPagesLaw", name := "cell", desc := "([II)I" } : Jvm.MethodName)) ∈ lw_all := lw_g (lw_at lw_m3 182 rfl) rfl
theorem q734 : (Jvm.Cond.code ({ cls := "BilevelPagesLaw", name := "cell", desc := "([II)I" } : Jvm.MethodName) method_2_code (2 : Nat) (Option.some Jvm.ClassFile.FieldType.int)) ∈ lw_all := lw_g (lw_at lw_m3 183 rfl) rfl
theorem q735 : (Jvm.Cond.methodLink "BilevelPagesLaw" (82 : Nat) ({ cls := "BilevelPagesLaw", name := "segment", desc := "(LBilevelPages;II[J)I" } : Jvm.MethodName)) ∈ lw_all := lw_g (lw_at lw_m3 184 rfl) rfl
theorem q736 : (Jvm.Cond.static ({ cls := "BilevelPagesLaw", name := "segment", desc := "(LBilevelPages;II[J)I" } : Jvm.MethodName)) ∈ lw_all := lw_g (lw_at lw_m3 185 rfl) rfl
theorem q737 : (Jvm.Cond.codeWith ({ cls := "BilevelPagesLaw", name := "segment", desc := "(LBilevelPages;II[J)I" } : Jvm.MethodName) method_3_code (5 : Nat) (Option.some Jvm.ClassFile.FieldType.int) [((0 : Nat), (10 : Nat), (13 : Nat), (13 : Nat)), ((0 : Nat), (10 : Nat), (17 : Nat), (15 : Nat))]) ∈ lw_all := lw_g (lw_at lw_m3 186 rfl) rfl
theorem q738 : (Jvm.Cond.classLink "BilevelPagesLaw" (13 : Nat) "java/lang/IllegalArgumentException") ∈ lw_all := lw_g (lw_at lw_m3 187 rfl) rfl
theorem q739 : (Jvm.Cond.classLink "BilevelPagesLaw" (15 : Nat) "java/lang/UnsupportedOperationException") ∈ lw_all := lw_g (lw_at lw_m3 188 rfl) rfl
theorem q740 : (Jvm.Cond.methodLink "BilevelPagesLaw" (7 : Nat) ({ cls := "BilevelPages", name := "segment", desc := "(II)I" } : Jvm.MethodName)) ∈ lw_all := lw_g (lw_at lw_m3 189 rfl) rfl
theorem q793 : (Jvm.Cond.methodLink "BilevelPagesLaw" (90 : Nat) ({ cls := "BilevelPagesLaw", name := "refers", desc := "(LBilevelPages;II[J)I" } : Jvm.MethodName)) ∈ lw_all := lw_g (lw_at lw_m4 2 rfl) rfl
theorem q794 : (Jvm.Cond.static ({ cls := "BilevelPagesLaw", name := "refers", desc := "(LBilevelPages;II[J)I" } : Jvm.MethodName)) ∈ lw_all := lw_g (lw_at lw_m4 3 rfl) rfl
theorem q795 : (Jvm.Cond.codeWith ({ cls := "BilevelPagesLaw", name := "refers", desc := "(LBilevelPages;II[J)I" } : Jvm.MethodName) method_4_code (5 : Nat) (Option.some Jvm.ClassFile.FieldType.int) [((0 : Nat), (17 : Nat), (20 : Nat), (21 : Nat)), ((0 : Nat), (17 : Nat), (24 : Nat), (15 : Nat))]) ∈ lw_all := lw_g (lw_at lw_m4 4 rfl) rfl
theorem q796 : (Jvm.Cond.classLink "BilevelPagesLaw" (21 : Nat) "java/lang/IndexOutOfBoundsException") ∈ lw_all := lw_g (lw_at lw_m4 5 rfl) rfl
theorem q828 : (Jvm.Cond.methodLink "BilevelPagesLaw" (17 : Nat) ({ cls := "BilevelPages", name := "refers", desc := "(II)Z" } : Jvm.MethodName)) ∈ lw_all := lw_g (lw_at lw_m4 37 rfl) rfl
theorem q861 : (Jvm.Cond.methodLink "BilevelPagesLaw" (93 : Nat) ({ cls := "BilevelPagesLaw", name := "letGo", desc := "(LBilevelPages;II[J)I" } : Jvm.MethodName)) ∈ lw_all := lw_g (lw_at lw_m4 70 rfl) rfl
theorem q862 : (Jvm.Cond.static ({ cls := "BilevelPagesLaw", name := "letGo", desc := "(LBilevelPages;II[J)I" } : Jvm.MethodName)) ∈ lw_all := lw_g (lw_at lw_m4 71 rfl) rfl
theorem q863 : (Jvm.Cond.codeWith ({ cls := "BilevelPagesLaw", name := "letGo", desc := "(LBilevelPages;II[J)I" } : Jvm.MethodName) method_5_code (5 : Nat) (Option.some Jvm.ClassFile.FieldType.int) [((0 : Nat), (17 : Nat), (20 : Nat), (21 : Nat))]) ∈ lw_all := lw_g (lw_at lw_m4 72 rfl) rfl
theorem q864 : (Jvm.Cond.methodLink "BilevelPagesLaw" (23 : Nat) ({ cls := "BilevelPages", name := "letGo", desc := "(II)Z" } : Jvm.MethodName)) ∈ lw_all := lw_g (lw_at lw_m4 73 rfl) rfl
theorem q868 : (Jvm.Cond.methodLink "BilevelPagesLaw" (96 : Nat) ({ cls := "BilevelPagesLaw", name := "byteOf", desc := "(LBilevelPages;II[J)I" } : Jvm.MethodName)) ∈ lw_all := lw_g (lw_at lw_m4 77 rfl) rfl
theorem q869 : (Jvm.Cond.static ({ cls := "BilevelPagesLaw", name := "byteOf", desc := "(LBilevelPages;II[J)I" } : Jvm.MethodName)) ∈ lw_all := lw_g (lw_at lw_m4 78 rfl) rfl
theorem q870 : (Jvm.Cond.codeWith ({ cls := "BilevelPagesLaw", name := "byteOf", desc := "(LBilevelPages;II[J)I" } : Jvm.MethodName) method_6_code (5 : Nat) (Option.some Jvm.ClassFile.FieldType.int) [((0 : Nat), (10 : Nat), (13 : Nat), (21 : Nat)), ((0 : Nat), (10 : Nat), (17 : Nat), (29 : Nat)), ((0 : Nat), (10 : Nat), (21 : Nat), (13 : Nat)), ((0 : Nat), (10 : Nat), (25 : Nat), (15 : Nat))]) ∈ lw_all := lw_g (lw_at lw_m4 79 rfl) rfl
theorem q871 : (Jvm.Cond.classLink "BilevelPagesLaw" (29 : Nat) "java/lang/IllegalStateException") ∈ lw_all := lw_g (lw_at lw_m4 80 rfl) rfl
theorem q872 : (Jvm.Cond.methodLink "BilevelPagesLaw" (26 : Nat) ({ cls := "BilevelPages", name := "byteOf", desc := "(II)I" } : Jvm.MethodName)) ∈ lw_all := lw_g (lw_at lw_m4 81 rfl) rfl
theorem q896 : (Jvm.Cond.methodLink "BilevelPagesLaw" (99 : Nat) ({ cls := "BilevelPagesLaw", name := "number", desc := "(LBilevelPages;III[J)I" } : Jvm.MethodName)) ∈ lw_all := lw_g (lw_at lw_m4 105 rfl) rfl
theorem q897 : (Jvm.Cond.static ({ cls := "BilevelPagesLaw", name := "number", desc := "(LBilevelPages;III[J)I" } : Jvm.MethodName)) ∈ lw_all := lw_g (lw_at lw_m4 106 rfl) rfl
theorem q898 : (Jvm.Cond.codeWith ({ cls := "BilevelPagesLaw", name := "number", desc := "(LBilevelPages;III[J)I" } : Jvm.MethodName) method_7_code (6 : Nat) (Option.some Jvm.ClassFile.FieldType.int) [((0 : Nat), (12 : Nat), (15 : Nat), (21 : Nat)), ((0 : Nat), (12 : Nat), (19 : Nat), (13 : Nat))]) ∈ lw_all := lw_g (lw_at lw_m4 107 rfl) rfl
theorem q899 : (Jvm.Cond.methodLink "BilevelPagesLaw" (31 : Nat) ({ cls := "BilevelPages", name := "number", desc := "(III)I" } : Jvm.MethodName)) ∈ lw_all := lw_g (lw_at lw_m4 108 rfl) rfl
theorem q905 : (Jvm.Cond.methodLink "BilevelPagesLaw" (103 : Nat) ({ cls := "BilevelPagesLaw", name := "pixel", desc := "(LBilevelPages;IIIZ[J)I" } : Jvm.MethodName)) ∈ lw_all := lw_g (lw_at lw_m4 114 rfl) rfl
theorem q906 : (Jvm.Cond.static ({ cls := "BilevelPagesLaw", name := "pixel", desc := "(LBilevelPages;IIIZ[J)I" } : Jvm.MethodName)) ∈ lw_all := lw_g (lw_at lw_m4 115 rfl) rfl
theorem q907 : (Jvm.Cond.codeWith ({ cls := "BilevelPagesLaw", name := "pixel", desc := "(LBilevelPages;IIIZ[J)I" } : Jvm.MethodName) method_8_code (7 : Nat) (Option.some Jvm.ClassFile.FieldType.int) [((0 : Nat), (21 : Nat), (24 : Nat), (21 : Nat)), ((0 : Nat), (21 : Nat), (28 : Nat), (29 : Nat))]) ∈ lw_all := lw_g (lw_at lw_m4 116 rfl) rfl
theorem q908 : (Jvm.Cond.methodLink "BilevelPagesLaw" (35 : Nat) ({ cls := "BilevelPages", name := "pixel", desc := "(IIIZ)Z" } : Jvm.MethodName)) ∈ lw_all := lw_g (lw_at lw_m4 117 rfl) rfl
theorem q915 : (Jvm.Cond.methodLink "BilevelPagesLaw" (107 : Nat) ({ cls := "BilevelPagesLaw", name := "write", desc := "(LBilevelPages;I[J)I" } : Jvm.MethodName)) ∈ lw_all := lw_g (lw_at lw_m4 124 rfl) rfl
theorem q916 : (Jvm.Cond.static ({ cls := "BilevelPagesLaw", name := "write", desc := "(LBilevelPages;I[J)I" } : Jvm.MethodName)) ∈ lw_all := lw_g (lw_at lw_m4 125 rfl) rfl
theorem q917 : (Jvm.Cond.codeWith ({ cls := "BilevelPagesLaw", name := "write", desc := "(LBilevelPages;I[J)I" } : Jvm.MethodName) method_9_code (4 : Nat) (Option.some Jvm.ClassFile.FieldType.int) [((0 : Nat), (9 : Nat), (12 : Nat), (13 : Nat))]) ∈ lw_all := lw_g (lw_at lw_m4 126 rfl) rfl
theorem q918 : (Jvm.Cond.methodLink "BilevelPagesLaw" (39 : Nat) ({ cls := "BilevelPages", name := "write", desc := "(I)I" } : Jvm.MethodName)) ∈ lw_all := lw_g (lw_at lw_m4 127 rfl) rfl
theorem q1005 : (Jvm.Cond.methodLink "BilevelPagesLaw" (111 : Nat) ({ cls := "BilevelPagesLaw", name := "byteAt", desc := "(LBilevelPages;I[J)I" } : Jvm.MethodName)) ∈ lw_all := lw_g (lw_at lw_m4 214 rfl) rfl
theorem q1006 : (Jvm.Cond.static ({ cls := "BilevelPagesLaw", name := "byteAt", desc := "(LBilevelPages;I[J)I" } : Jvm.MethodName)) ∈ lw_all := lw_g (lw_at lw_m4 215 rfl) rfl
theorem q1007 : (Jvm.Cond.codeWith ({ cls := "BilevelPagesLaw", name := "byteAt", desc := "(LBilevelPages;I[J)I" } : Jvm.MethodName) method_10_code (4 : Nat) (Option.some Jvm.ClassFile.FieldType.int) [((0 : Nat), (9 : Nat), (12 : Nat), (21 : Nat))]) ∈ lw_all := lw_g (lw_at lw_m4 216 rfl) rfl
theorem q1008 : (Jvm.Cond.methodLink "BilevelPagesLaw" (43 : Nat) ({ cls := "BilevelPages", name := "byteAt", desc := "(I)I" } : Jvm.MethodName)) ∈ lw_all := lw_g (lw_at lw_m4 217 rfl) rfl
theorem q1012 : (Jvm.Cond.methodLink "BilevelPagesLaw" (114 : Nat) ({ cls := "BilevelPagesLaw", name := "feed", desc := "(LBilevelPages;IZ[J)I" } : Jvm.MethodName)) ∈ lw_all := lw_g (lw_at lw_m4 221 rfl) rfl
theorem q1013 : (Jvm.Cond.static ({ cls := "BilevelPagesLaw", name := "feed", desc := "(LBilevelPages;IZ[J)I" } : Jvm.MethodName)) ∈ lw_all := lw_g (lw_at lw_m4 222 rfl) rfl
theorem q1014 : (Jvm.Cond.codeWith ({ cls := "BilevelPagesLaw", name := "feed", desc := "(LBilevelPages;IZ[J)I" } : Jvm.MethodName) method_11_code (5 : Nat) (Option.some Jvm.ClassFile.FieldType.int) [((0 : Nat), (10 : Nat), (13 : Nat), (13 : Nat)), ((0 : Nat), (10 : Nat), (17 : Nat), (15 : Nat))]) ∈ lw_all := lw_g (lw_at lw_m4 223 rfl) rfl
theorem q1015 : (Jvm.Cond.methodLink "BilevelPagesLaw" (46 : Nat) ({ cls := "BilevelPages", name := "feed", desc := "(IZ)I" } : Jvm.MethodName)) ∈ lw_all := lw_g (lw_at lw_m4 224 rfl) rfl
theorem q1023 : (Jvm.Cond.methodLink "BilevelPagesLaw" (118 : Nat) ({ cls := "BilevelPagesLaw", name := "pass", desc := "(LBilevelPages;Z[J)I" } : Jvm.MethodName)) ∈ lw_all := lw_g (lw_at lw_m4 232 rfl) rfl
theorem q1024 : (Jvm.Cond.static ({ cls := "BilevelPagesLaw", name := "pass", desc := "(LBilevelPages;Z[J)I" } : Jvm.MethodName)) ∈ lw_all := lw_g (lw_at lw_m4 233 rfl) rfl
theorem q1025 : (Jvm.Cond.codeWith ({ cls := "BilevelPagesLaw", name := "pass", desc := "(LBilevelPages;Z[J)I" } : Jvm.MethodName) method_12_code (4 : Nat) (Option.some Jvm.ClassFile.FieldType.int) [((0 : Nat), (9 : Nat), (12 : Nat), (13 : Nat)), ((0 : Nat), (9 : Nat), (15 : Nat), (15 : Nat))]) ∈ lw_all := lw_g (lw_at lw_m4 234 rfl) rfl
theorem q1026 : (Jvm.Cond.methodLink "BilevelPagesLaw" (50 : Nat) ({ cls := "BilevelPages", name := "pass", desc := "(Z)I" } : Jvm.MethodName)) ∈ lw_all := lw_g (lw_at lw_m4 235 rfl) rfl
theorem q1030 : (Jvm.Cond.methodLink "BilevelPagesLaw" (122 : Nat) ({ cls := "BilevelPagesLaw", name := "alter", desc := "(LBilevelPages;II[J)I" } : Jvm.MethodName)) ∈ lw_all := lw_g (lw_at lw_m4 239 rfl) rfl
theorem q1031 : (Jvm.Cond.static ({ cls := "BilevelPagesLaw", name := "alter", desc := "(LBilevelPages;II[J)I" } : Jvm.MethodName)) ∈ lw_all := lw_g (lw_at lw_m5 0 rfl) rfl
theorem q1032 : (Jvm.Cond.codeWith ({ cls := "BilevelPagesLaw", name := "alter", desc := "(LBilevelPages;II[J)I" } : Jvm.MethodName) method_13_code (5 : Nat) (Option.some Jvm.ClassFile.FieldType.int) [((0 : Nat), (10 : Nat), (13 : Nat), (21 : Nat)), ((0 : Nat), (10 : Nat), (17 : Nat), (13 : Nat))]) ∈ lw_all := lw_g (lw_at lw_m5 1 rfl) rfl
theorem q1033 : (Jvm.Cond.methodLink "BilevelPagesLaw" (54 : Nat) ({ cls := "BilevelPages", name := "alter", desc := "(II)I" } : Jvm.MethodName)) ∈ lw_all := lw_g (lw_at lw_m5 2 rfl) rfl
theorem q1037 : (Jvm.Cond.methodLink "BilevelPagesLaw" (129 : Nat) ({ cls := "BilevelPagesLaw", name := "found", desc := "(LBilevelPages;II[J)I" } : Jvm.MethodName)) ∈ lw_all := lw_g (lw_at lw_m5 6 rfl) rfl
theorem q1038 : (Jvm.Cond.static ({ cls := "BilevelPagesLaw", name := "found", desc := "(LBilevelPages;II[J)I" } : Jvm.MethodName)) ∈ lw_all := lw_g (lw_at lw_m5 7 rfl) rfl
theorem q1039 : (Jvm.Cond.codeWith ({ cls := "BilevelPagesLaw", name := "found", desc := "(LBilevelPages;II[J)I" } : Jvm.MethodName) method_14_code (5 : Nat) (Option.some Jvm.ClassFile.FieldType.int) [((0 : Nat), (10 : Nat), (13 : Nat), (29 : Nat)), ((0 : Nat), (10 : Nat), (17 : Nat), (21 : Nat))]) ∈ lw_all := lw_g (lw_at lw_m5 8 rfl) rfl
theorem q1040 : (Jvm.Cond.methodLink "BilevelPagesLaw" (57 : Nat) ({ cls := "BilevelPages", name := "found", desc := "(II)I" } : Jvm.MethodName)) ∈ lw_all := lw_g (lw_at lw_m5 9 rfl) rfl
theorem q1044 : (Jvm.Cond.methodLink "BilevelPagesLaw" (132 : Nat) ({ cls := "BilevelPagesLaw", name := "page", desc := "(LBilevelPages;II[J)I" } : Jvm.MethodName)) ∈ lw_all := lw_g (lw_at lw_m5 13 rfl) rfl
theorem q1045 : (Jvm.Cond.static ({ cls := "BilevelPagesLaw", name := "page", desc := "(LBilevelPages;II[J)I" } : Jvm.MethodName)) ∈ lw_all := lw_g (lw_at lw_m5 14 rfl) rfl
theorem q1046 : (Jvm.Cond.codeWith ({ cls := "BilevelPagesLaw", name := "page", desc := "(LBilevelPages;II[J)I" } : Jvm.MethodName) method_15_code (5 : Nat) (Option.some Jvm.ClassFile.FieldType.int) [((0 : Nat), (10 : Nat), (13 : Nat), (29 : Nat)), ((0 : Nat), (10 : Nat), (17 : Nat), (21 : Nat))]) ∈ lw_all := lw_g (lw_at lw_m5 15 rfl) rfl
theorem q1047 : (Jvm.Cond.methodLink "BilevelPagesLaw" (60 : Nat) ({ cls := "BilevelPages", name := "page", desc := "(II)I" } : Jvm.MethodName)) ∈ lw_all := lw_g (lw_at lw_m5 16 rfl) rfl
theorem q1059 : (Jvm.Cond.methodLink "BilevelPagesLaw" (135 : Nat) ({ cls := "BilevelPagesLaw", name := "at", desc := "(LBilevelPages;III[J)I" } : Jvm.MethodName)) ∈ lw_all := lw_g (lw_at lw_m5 28 rfl) rfl
theorem q1060 : (Jvm.Cond.static ({ cls := "BilevelPagesLaw", name := "at", desc := "(LBilevelPages;III[J)I" } : Jvm.MethodName)) ∈ lw_all := lw_g (lw_at lw_m5 29 rfl) rfl
theorem q1061 : (Jvm.Cond.codeWith ({ cls := "BilevelPagesLaw", name := "at", desc := "(LBilevelPages;III[J)I" } : Jvm.MethodName) method_16_code (6 : Nat) (Option.some Jvm.ClassFile.FieldType.int) [((0 : Nat), (19 : Nat), (22 : Nat), (29 : Nat)), ((0 : Nat), (19 : Nat), (26 : Nat), (21 : Nat))]) ∈ lw_all := lw_g (lw_at lw_m5 30 rfl) rfl
theorem q1062 : (Jvm.Cond.methodLink "BilevelPagesLaw" (63 : Nat) ({ cls := "BilevelPages", name := "at", desc := "(III)Z" } : Jvm.MethodName)) ∈ lw_all := lw_g (lw_at lw_m5 31 rfl) rfl
theorem q1067 : (Jvm.Cond.methodLink "BilevelPagesLaw" (138 : Nat) ({ cls := "BilevelPagesLaw", name := "stripe", desc := "(LBilevelPages;II[J)I" } : Jvm.MethodName)) ∈ lw_all := lw_g (lw_at lw_m5 36 rfl) rfl
theorem q1068 : (Jvm.Cond.static ({ cls := "BilevelPagesLaw", name := "stripe", desc := "(LBilevelPages;II[J)I" } : Jvm.MethodName)) ∈ lw_all := lw_g (lw_at lw_m5 37 rfl) rfl
theorem q1069 : (Jvm.Cond.codeWith ({ cls := "BilevelPagesLaw", name := "stripe", desc := "(LBilevelPages;II[J)I" } : Jvm.MethodName) method_17_code (5 : Nat) (Option.some Jvm.ClassFile.FieldType.int) [((0 : Nat), (10 : Nat), (13 : Nat), (29 : Nat)), ((0 : Nat), (10 : Nat), (17 : Nat), (21 : Nat))]) ∈ lw_all := lw_g (lw_at lw_m5 38 rfl) rfl
theorem q1070 : (Jvm.Cond.methodLink "BilevelPagesLaw" (67 : Nat) ({ cls := "BilevelPages", name := "stripe", desc := "(II)I" } : Jvm.MethodName)) ∈ lw_all := lw_g (lw_at lw_m5 39 rfl) rfl
theorem q1074 : (Jvm.Cond.classLink "BilevelPagesLaw" (79 : Nat) "BilevelPagesModel") ∈ lw_all := lw_g (lw_at lw_m5 43 rfl) rfl
theorem q1076 : (Jvm.Cond.methodLink "BilevelPagesLaw" (81 : Nat) ({ cls := "BilevelPagesModel", name := "<init>", desc := "(I)V" } : Jvm.MethodName)) ∈ lw_all := lw_g (lw_at lw_m5 45 rfl) rfl
theorem q1233 : (Jvm.Cond.methodLink "BilevelPagesLaw" (86 : Nat) ({ cls := "BilevelPagesModel", name := "thrown", desc := "()I" } : Jvm.MethodName)) ∈ lw_all := lw_g (lw_at lw_m5 202 rfl) rfl
theorem q1237 : (Jvm.Cond.methodLink "BilevelPagesLaw" (85 : Nat) ({ cls := "BilevelPagesModel", name := "segment", desc := "(II)I" } : Jvm.MethodName)) ∈ lw_all := lw_g (lw_at lw_m5 206 rfl) rfl
theorem q1257 : (Jvm.Cond.methodLink "BilevelPagesLaw" (92 : Nat) ({ cls := "BilevelPagesModel", name := "refers", desc := "(II)Z" } : Jvm.MethodName)) ∈ lw_all := lw_g (lw_at lw_m5 226 rfl) rfl
theorem q1277 : (Jvm.Cond.methodLink "BilevelPagesLaw" (95 : Nat) ({ cls := "BilevelPagesModel", name := "letGo", desc := "(II)Z" } : Jvm.MethodName)) ∈ lw_all := lw_g (lw_at lw_m6 6 rfl) rfl
theorem q1281 : (Jvm.Cond.methodLink "BilevelPagesLaw" (98 : Nat) ({ cls := "BilevelPagesModel", name := "byteOf", desc := "(II)I" } : Jvm.MethodName)) ∈ lw_all := lw_g (lw_at lw_m6 10 rfl) rfl
theorem q1288 : (Jvm.Cond.methodLink "BilevelPagesLaw" (102 : Nat) ({ cls := "BilevelPagesModel", name := "number", desc := "(III)I" } : Jvm.MethodName)) ∈ lw_all := lw_g (lw_at lw_m6 17 rfl) rfl
theorem q1295 : (Jvm.Cond.methodLink "BilevelPagesLaw" (106 : Nat) ({ cls := "BilevelPagesModel", name := "pixel", desc := "(IIIZ)Z" } : Jvm.MethodName)) ∈ lw_all := lw_g (lw_at lw_m6 24 rfl) rfl
theorem q1299 : (Jvm.Cond.methodLink "BilevelPagesLaw" (110 : Nat) ({ cls := "BilevelPagesModel", name := "write", desc := "(I)I" } : Jvm.MethodName)) ∈ lw_all := lw_g (lw_at lw_m6 28 rfl) rfl
theorem q1334 : (Jvm.Cond.methodLink "BilevelPagesLaw" (113 : Nat) ({ cls := "BilevelPagesModel", name := "byteAt", desc := "(I)I" } : Jvm.MethodName)) ∈ lw_all := lw_g (lw_at lw_m6 63 rfl) rfl
theorem q1338 : (Jvm.Cond.methodLink "BilevelPagesLaw" (117 : Nat) ({ cls := "BilevelPagesModel", name := "feed", desc := "(IZ)I" } : Jvm.MethodName)) ∈ lw_all := lw_g (lw_at lw_m6 67 rfl) rfl
theorem q1342 : (Jvm.Cond.methodLink "BilevelPagesLaw" (121 : Nat) ({ cls := "BilevelPagesModel", name := "pass", desc := "(Z)I" } : Jvm.MethodName)) ∈ lw_all := lw_g (lw_at lw_m6 71 rfl) rfl
theorem q1346 : (Jvm.Cond.methodLink "BilevelPagesLaw" (124 : Nat) ({ cls := "BilevelPagesModel", name := "alter", desc := "(II)I" } : Jvm.MethodName)) ∈ lw_all := lw_g (lw_at lw_m6 75 rfl) rfl
theorem q1350 : (Jvm.Cond.methodLink "BilevelPagesLaw" (128 : Nat) ({ cls := "BilevelPagesModel", name := "read", desc := "()I" } : Jvm.MethodName)) ∈ lw_all := lw_g (lw_at lw_m6 79 rfl) rfl
theorem q1458 : (Jvm.Cond.methodLink "BilevelPagesLaw" (131 : Nat) ({ cls := "BilevelPagesModel", name := "found", desc := "(II)I" } : Jvm.MethodName)) ∈ lw_all := lw_g (lw_at lw_m6 187 rfl) rfl
theorem q1462 : (Jvm.Cond.methodLink "BilevelPagesLaw" (134 : Nat) ({ cls := "BilevelPagesModel", name := "page", desc := "(II)I" } : Jvm.MethodName)) ∈ lw_all := lw_g (lw_at lw_m6 191 rfl) rfl
theorem q1474 : (Jvm.Cond.methodLink "BilevelPagesLaw" (137 : Nat) ({ cls := "BilevelPagesModel", name := "at", desc := "(III)Z" } : Jvm.MethodName)) ∈ lw_all := lw_g (lw_at lw_m6 203 rfl) rfl
theorem q1478 : (Jvm.Cond.methodLink "BilevelPagesLaw" (140 : Nat) ({ cls := "BilevelPagesModel", name := "stripe", desc := "(II)I" } : Jvm.MethodName)) ∈ lw_all := lw_g (lw_at lw_m6 207 rfl) rfl
theorem q1482 : (Jvm.Cond.methodLink "BilevelPagesLaw" (144 : Nat) ({ cls := "BilevelPagesModel", name := "told", desc := "(I)I" } : Jvm.MethodName)) ∈ lw_all := lw_g (lw_at lw_m6 211 rfl) rfl
theorem q1486 : (Jvm.Cond.methodLink "BilevelPagesLaw" (148 : Nat) ({ cls := "BilevelPagesModel", name := "drop", desc := "()V" } : Jvm.MethodName)) ∈ lw_all := lw_g (lw_at lw_m6 215 rfl) rfl
theorem q1490 : (Jvm.Cond.methodLink "BilevelPagesLaw" (152 : Nat) ({ cls := "BilevelPagesModel", name := "clear", desc := "()V" } : Jvm.MethodName)) ∈ lw_all := lw_g (lw_at lw_m6 219 rfl) rfl
/-! BilevelPages -/
set_option maxRecDepth 100000
def RX1 : String := "BilevelPages"
def TX1 : u_T := fun k => match k with
  | 0 => ("BilevelPages", "order", "I", true)
  | 1 => ("BilevelPages", "segments", "Ljava/util/ArrayList;", true)
  | 2 => ("BilevelPages", "tellable", "[LBilevelPages$Segment;", true)
  | 3 => ("BilevelPages", "readable", "[LBilevelPages$Segment;", true)
  | 4 => ("BilevelPages", "written", "[B", true)
  | 5 => ("BilevelPages", "writtenMany", "I", false)
  | 6 => ("BilevelPages", "came", "[B", true)
  | 7 => ("BilevelPages", "cameMany", "I", false)
  | 8 => ("BilevelPages", "globals", "[B", true)
  | 9 => ("BilevelPages", "globalMany", "I", false)
  | 10 => ("BilevelPages", "sheets", "[LBilevelPages$Sheet;", true)
  | 11 => ("BilevelPages", "found", "Ljava/util/ArrayList;", true)
  | 12 => ("BilevelPages", "reader", "LBilevelPages$Reader;", true)
  | 13 => ("BilevelPages", "isRead", "Z", false)
  | 14 => ("BilevelPages", "fault", "I", false)
  | _ => ("BilevelPages", "sheetMany", "I", false)
def tyX1 : Nat → FieldType := fun k => match k with
  | 0 => .int
  | 1 => .object "java/util/ArrayList"
  | 2 => .array (.object "BilevelPages$Segment")
  | 3 => .array (.object "BilevelPages$Segment")
  | 4 => .array .byte
  | 5 => .int
  | 6 => .array .byte
  | 7 => .int
  | 8 => .array .byte
  | 9 => .int
  | 10 => .array (.object "BilevelPages$Sheet")
  | 11 => .object "java/util/ArrayList"
  | 12 => .object "BilevelPages$Reader"
  | 13 => .boolean
  | 14 => .int
  | _ => .int
abbrev wsX10 : List Cond := u_ws RX1 TX1 16
set_option maxRecDepth 100000 in
theorem nmX1 : ∀ a, a < 16 → ∀ b, b < 16 → a ≠ b → (TX1 a).2.1 ≠ (TX1 b).2.1 := by decide +kernel
set_option maxRecDepth 100000 in
theorem tyX1_ok : ∀ k, k < 16 → parseFieldDescriptor (TX1 k).2.2.1 = some (tyX1 k) := by decide +kernel
abbrev cX1_init : ByteArray := prog_1_method_8_code
def yX1_init : MethodName := ⟨RX1, "<init>", "(I)V"⟩
def dkwX1_init_7 : List UInt8 := [163, 0, 22, 42, 180, 0, 49, 28, 187, 0, 43, 89, 183, 0, 93, 83, 132, 2, 1, 167, 255, 233, 177]
abbrev dktX1_init_7 : List UInt8 := dkwX1_init_7 ++ []
def dkwX1_init_6 : List UInt8 := [180, 0, 45, 28, 187, 0, 43, 89, 183, 0, 93, 83, 132, 2, 1, 167, 255, 234, 3, 61, 28, 17, 0, 255]
abbrev dktX1_init_6 : List UInt8 := dkwX1_init_6 ++ dktX1_init_7
def dkwX1_init_5 : List UInt8 := [187, 0, 62, 89, 183, 0, 92, 83, 132, 2, 1, 167, 255, 234, 3, 61, 28, 16, 30, 162, 0, 22, 42]
abbrev dktX1_init_5 : List UInt8 := dkwX1_init_5 ++ dktX1_init_6
def dkwX1_init_4 : List UInt8 := [5, 27, 184, 0, 80, 184, 0, 86, 181, 0, 89, 3, 61, 28, 16, 10, 162, 0, 22, 42, 180, 0, 64, 28]
abbrev dktX1_init_4 : List UInt8 := dkwX1_init_4 ++ dktX1_init_5
def dkwX1_init_3 : List UInt8 := [187, 0, 36, 89, 183, 0, 38, 181, 0, 68, 42, 187, 0, 71, 89, 42, 183, 0, 73, 181, 0, 76, 42, 3]
abbrev dktX1_init_3 : List UInt8 := dkwX1_init_3 ++ dktX1_init_4
def dkwX1_init_2 : List UInt8 := [188, 8, 181, 0, 56, 42, 17, 11, 184, 188, 8, 181, 0, 59, 42, 16, 10, 189, 0, 62, 181, 0, 64, 42]
abbrev dktX1_init_2 : List UInt8 := dkwX1_init_2 ++ dktX1_init_3
def dkwX1_init_1 : List UInt8 := [42, 17, 1, 0, 189, 0, 43, 181, 0, 49, 42, 17, 23, 112, 188, 8, 181, 0, 52, 42, 17, 11, 184]
abbrev dktX1_init_1 : List UInt8 := dkwX1_init_1 ++ dktX1_init_2
def dkwX1_init_0 : List UInt8 := [42, 183, 0, 33, 42, 187, 0, 36, 89, 183, 0, 38, 181, 0, 39, 42, 16, 30, 189, 0, 43, 181, 0, 45]
abbrev dktX1_init_0 : List UInt8 := dkwX1_init_0 ++ dktX1_init_1
theorem dksX1_init_0 : cX1_init.data.toList.drop 0 = dktX1_init_0 := by decide +kernel
theorem dksX1_init_1 : cX1_init.data.toList.drop 24 = dktX1_init_1 := dk_seg dksX1_init_0 24 rfl rfl
theorem dksX1_init_2 : cX1_init.data.toList.drop 47 = dktX1_init_2 := dk_seg dksX1_init_1 23 rfl rfl
theorem dksX1_init_3 : cX1_init.data.toList.drop 71 = dktX1_init_3 := dk_seg dksX1_init_2 24 rfl rfl
theorem dksX1_init_4 : cX1_init.data.toList.drop 95 = dktX1_init_4 := dk_seg dksX1_init_3 24 rfl rfl
theorem dksX1_init_5 : cX1_init.data.toList.drop 119 = dktX1_init_5 := dk_seg dksX1_init_4 24 rfl rfl
theorem dksX1_init_6 : cX1_init.data.toList.drop 142 = dktX1_init_6 := dk_seg dksX1_init_5 23 rfl rfl
theorem dksX1_init_7 : cX1_init.data.toList.drop 166 = dktX1_init_7 := dk_seg dksX1_init_6 24 rfl rfl
theorem dX1_init_0 : decode cX1_init 0 = .ok (.aload_n 0, 1) := dk_42 (dk_at dksX1_init_0 0 rfl rfl)
theorem dX1_init_1 : decode cX1_init 1 = .ok (.invokespecial 33, 3) := dk_183 0 33 (dk_at dksX1_init_0 1 rfl rfl)
theorem dX1_init_4 : decode cX1_init 4 = .ok (.aload_n 0, 1) := dk_42 (dk_at dksX1_init_0 4 rfl rfl)
theorem dX1_init_5 : decode cX1_init 5 = .ok (.new 36, 3) := dk_187 0 36 (dk_at dksX1_init_0 5 rfl rfl)
theorem dX1_init_8 : decode cX1_init 8 = .ok (.dup, 1) := dk_89 (dk_at dksX1_init_0 8 rfl rfl)
theorem dX1_init_9 : decode cX1_init 9 = .ok (.invokespecial 38, 3) := dk_183 0 38 (dk_at dksX1_init_0 9 rfl rfl)
theorem dX1_init_12 : decode cX1_init 12 = .ok (.putfield 39, 3) := dk_181 0 39 (dk_at dksX1_init_0 12 rfl rfl)
theorem dX1_init_15 : decode cX1_init 15 = .ok (.aload_n 0, 1) := dk_42 (dk_at dksX1_init_0 15 rfl rfl)
theorem dX1_init_16 : decode cX1_init 16 = .ok (.bipush 30, 2) := dk_16 30 (dk_at dksX1_init_0 16 rfl rfl)
theorem dX1_init_18 : decode cX1_init 18 = .ok (.anewarray 43, 3) := dk_189 0 43 (dk_at dksX1_init_0 18 rfl rfl)
theorem dX1_init_21 : decode cX1_init 21 = .ok (.putfield 45, 3) := dk_181 0 45 (dk_at dksX1_init_0 21 rfl rfl)
theorem dX1_init_24 : decode cX1_init 24 = .ok (.aload_n 0, 1) := dk_42 (dk_at dksX1_init_1 0 rfl rfl)
theorem dX1_init_25 : decode cX1_init 25 = .ok (.sipush 256, 3) := dk_17 1 0 (dk_at dksX1_init_1 1 rfl rfl)
theorem dX1_init_28 : decode cX1_init 28 = .ok (.anewarray 43, 3) := dk_189 0 43 (dk_at dksX1_init_1 4 rfl rfl)
theorem dX1_init_31 : decode cX1_init 31 = .ok (.putfield 49, 3) := dk_181 0 49 (dk_at dksX1_init_1 7 rfl rfl)
theorem dX1_init_34 : decode cX1_init 34 = .ok (.aload_n 0, 1) := dk_42 (dk_at dksX1_init_1 10 rfl rfl)
theorem dX1_init_35 : decode cX1_init 35 = .ok (.sipush 6000, 3) := dk_17 23 112 (dk_at dksX1_init_1 11 rfl rfl)
theorem dX1_init_38 : decode cX1_init 38 = .ok (.newarray .byte, 2) := dk_188_8 (dk_at dksX1_init_1 14 rfl rfl)
theorem dX1_init_40 : decode cX1_init 40 = .ok (.putfield 52, 3) := dk_181 0 52 (dk_at dksX1_init_1 16 rfl rfl)
theorem dX1_init_43 : decode cX1_init 43 = .ok (.aload_n 0, 1) := dk_42 (dk_at dksX1_init_1 19 rfl rfl)
theorem dX1_init_44 : decode cX1_init 44 = .ok (.sipush 3000, 3) := dk_17 11 184 (dk_at dksX1_init_1 20 rfl rfl)
theorem dX1_init_47 : decode cX1_init 47 = .ok (.newarray .byte, 2) := dk_188_8 (dk_at dksX1_init_2 0 rfl rfl)
theorem dX1_init_49 : decode cX1_init 49 = .ok (.putfield 56, 3) := dk_181 0 56 (dk_at dksX1_init_2 2 rfl rfl)
theorem dX1_init_52 : decode cX1_init 52 = .ok (.aload_n 0, 1) := dk_42 (dk_at dksX1_init_2 5 rfl rfl)
theorem dX1_init_53 : decode cX1_init 53 = .ok (.sipush 3000, 3) := dk_17 11 184 (dk_at dksX1_init_2 6 rfl rfl)
theorem dX1_init_56 : decode cX1_init 56 = .ok (.newarray .byte, 2) := dk_188_8 (dk_at dksX1_init_2 9 rfl rfl)
theorem dX1_init_58 : decode cX1_init 58 = .ok (.putfield 59, 3) := dk_181 0 59 (dk_at dksX1_init_2 11 rfl rfl)
theorem dX1_init_61 : decode cX1_init 61 = .ok (.aload_n 0, 1) := dk_42 (dk_at dksX1_init_2 14 rfl rfl)
theorem dX1_init_62 : decode cX1_init 62 = .ok (.bipush 10, 2) := dk_16 10 (dk_at dksX1_init_2 15 rfl rfl)
theorem dX1_init_64 : decode cX1_init 64 = .ok (.anewarray 62, 3) := dk_189 0 62 (dk_at dksX1_init_2 17 rfl rfl)
theorem dX1_init_67 : decode cX1_init 67 = .ok (.putfield 64, 3) := dk_181 0 64 (dk_at dksX1_init_2 20 rfl rfl)
theorem dX1_init_70 : decode cX1_init 70 = .ok (.aload_n 0, 1) := dk_42 (dk_at dksX1_init_2 23 rfl rfl)
theorem dX1_init_71 : decode cX1_init 71 = .ok (.new 36, 3) := dk_187 0 36 (dk_at dksX1_init_3 0 rfl rfl)
theorem dX1_init_74 : decode cX1_init 74 = .ok (.dup, 1) := dk_89 (dk_at dksX1_init_3 3 rfl rfl)
theorem dX1_init_75 : decode cX1_init 75 = .ok (.invokespecial 38, 3) := dk_183 0 38 (dk_at dksX1_init_3 4 rfl rfl)
theorem dX1_init_78 : decode cX1_init 78 = .ok (.putfield 68, 3) := dk_181 0 68 (dk_at dksX1_init_3 7 rfl rfl)
theorem dX1_init_81 : decode cX1_init 81 = .ok (.aload_n 0, 1) := dk_42 (dk_at dksX1_init_3 10 rfl rfl)
theorem dX1_init_82 : decode cX1_init 82 = .ok (.new 71, 3) := dk_187 0 71 (dk_at dksX1_init_3 11 rfl rfl)
theorem dX1_init_85 : decode cX1_init 85 = .ok (.dup, 1) := dk_89 (dk_at dksX1_init_3 14 rfl rfl)
theorem dX1_init_86 : decode cX1_init 86 = .ok (.aload_n 0, 1) := dk_42 (dk_at dksX1_init_3 15 rfl rfl)
theorem dX1_init_87 : decode cX1_init 87 = .ok (.invokespecial 73, 3) := dk_183 0 73 (dk_at dksX1_init_3 16 rfl rfl)
theorem dX1_init_90 : decode cX1_init 90 = .ok (.putfield 76, 3) := dk_181 0 76 (dk_at dksX1_init_3 19 rfl rfl)
theorem dX1_init_93 : decode cX1_init 93 = .ok (.aload_n 0, 1) := dk_42 (dk_at dksX1_init_3 22 rfl rfl)
theorem dX1_init_94 : decode cX1_init 94 = .ok (.iconst 0, 1) := dk_3 (dk_at dksX1_init_3 23 rfl rfl)
theorem dX1_init_95 : decode cX1_init 95 = .ok (.iconst 2, 1) := dk_5 (dk_at dksX1_init_4 0 rfl rfl)
theorem dX1_init_96 : decode cX1_init 96 = .ok (.iload_n 1, 1) := dk_27 (dk_at dksX1_init_4 1 rfl rfl)
theorem dX1_init_97 : decode cX1_init 97 = .ok (.invokestatic 80, 3) := dk_184 0 80 (dk_at dksX1_init_4 2 rfl rfl)
theorem dX1_init_100 : decode cX1_init 100 = .ok (.invokestatic 86, 3) := dk_184 0 86 (dk_at dksX1_init_4 5 rfl rfl)
theorem dX1_init_103 : decode cX1_init 103 = .ok (.putfield 89, 3) := dk_181 0 89 (dk_at dksX1_init_4 8 rfl rfl)
theorem dX1_init_106 : decode cX1_init 106 = .ok (.iconst 0, 1) := dk_3 (dk_at dksX1_init_4 11 rfl rfl)
theorem dX1_init_107 : decode cX1_init 107 = .ok (.istore_n 2, 1) := dk_61 (dk_at dksX1_init_4 12 rfl rfl)
theorem dX1_init_108 : decode cX1_init 108 = .ok (.iload_n 2, 1) := dk_28 (dk_at dksX1_init_4 13 rfl rfl)
theorem dX1_init_109 : decode cX1_init 109 = .ok (.bipush 10, 2) := dk_16 10 (dk_at dksX1_init_4 14 rfl rfl)
theorem dX1_init_111 : decode cX1_init 111 = .ok (.if_icmp .ge 22, 3) := dk_162 0 22 (dk_at dksX1_init_4 16 rfl rfl)
theorem dX1_init_114 : decode cX1_init 114 = .ok (.aload_n 0, 1) := dk_42 (dk_at dksX1_init_4 19 rfl rfl)
theorem dX1_init_115 : decode cX1_init 115 = .ok (.getfield 64, 3) := dk_180 0 64 (dk_at dksX1_init_4 20 rfl rfl)
theorem dX1_init_118 : decode cX1_init 118 = .ok (.iload_n 2, 1) := dk_28 (dk_at dksX1_init_4 23 rfl rfl)
theorem dX1_init_119 : decode cX1_init 119 = .ok (.new 62, 3) := dk_187 0 62 (dk_at dksX1_init_5 0 rfl rfl)
theorem dX1_init_122 : decode cX1_init 122 = .ok (.dup, 1) := dk_89 (dk_at dksX1_init_5 3 rfl rfl)
theorem dX1_init_123 : decode cX1_init 123 = .ok (.invokespecial 92, 3) := dk_183 0 92 (dk_at dksX1_init_5 4 rfl rfl)
theorem dX1_init_126 : decode cX1_init 126 = .ok (.aastore, 1) := dk_83 (dk_at dksX1_init_5 7 rfl rfl)
theorem dX1_init_127 : decode cX1_init 127 = .ok (.iinc 2 1, 3) := dk_132 2 1 (dk_at dksX1_init_5 8 rfl rfl)
theorem dX1_init_130 : decode cX1_init 130 = .ok (.goto (-22), 3) := dk_167 255 234 (dk_at dksX1_init_5 11 rfl rfl)
theorem dX1_init_133 : decode cX1_init 133 = .ok (.iconst 0, 1) := dk_3 (dk_at dksX1_init_5 14 rfl rfl)
theorem dX1_init_134 : decode cX1_init 134 = .ok (.istore_n 2, 1) := dk_61 (dk_at dksX1_init_5 15 rfl rfl)
theorem dX1_init_135 : decode cX1_init 135 = .ok (.iload_n 2, 1) := dk_28 (dk_at dksX1_init_5 16 rfl rfl)
theorem dX1_init_136 : decode cX1_init 136 = .ok (.bipush 30, 2) := dk_16 30 (dk_at dksX1_init_5 17 rfl rfl)
theorem dX1_init_138 : decode cX1_init 138 = .ok (.if_icmp .ge 22, 3) := dk_162 0 22 (dk_at dksX1_init_5 19 rfl rfl)
theorem dX1_init_141 : decode cX1_init 141 = .ok (.aload_n 0, 1) := dk_42 (dk_at dksX1_init_5 22 rfl rfl)
theorem dX1_init_142 : decode cX1_init 142 = .ok (.getfield 45, 3) := dk_180 0 45 (dk_at dksX1_init_6 0 rfl rfl)
theorem dX1_init_145 : decode cX1_init 145 = .ok (.iload_n 2, 1) := dk_28 (dk_at dksX1_init_6 3 rfl rfl)
theorem dX1_init_146 : decode cX1_init 146 = .ok (.new 43, 3) := dk_187 0 43 (dk_at dksX1_init_6 4 rfl rfl)
theorem dX1_init_149 : decode cX1_init 149 = .ok (.dup, 1) := dk_89 (dk_at dksX1_init_6 7 rfl rfl)
theorem dX1_init_150 : decode cX1_init 150 = .ok (.invokespecial 93, 3) := dk_183 0 93 (dk_at dksX1_init_6 8 rfl rfl)
theorem dX1_init_153 : decode cX1_init 153 = .ok (.aastore, 1) := dk_83 (dk_at dksX1_init_6 11 rfl rfl)
theorem dX1_init_154 : decode cX1_init 154 = .ok (.iinc 2 1, 3) := dk_132 2 1 (dk_at dksX1_init_6 12 rfl rfl)
theorem dX1_init_157 : decode cX1_init 157 = .ok (.goto (-22), 3) := dk_167 255 234 (dk_at dksX1_init_6 15 rfl rfl)
theorem dX1_init_160 : decode cX1_init 160 = .ok (.iconst 0, 1) := dk_3 (dk_at dksX1_init_6 18 rfl rfl)
theorem dX1_init_161 : decode cX1_init 161 = .ok (.istore_n 2, 1) := dk_61 (dk_at dksX1_init_6 19 rfl rfl)
theorem dX1_init_162 : decode cX1_init 162 = .ok (.iload_n 2, 1) := dk_28 (dk_at dksX1_init_6 20 rfl rfl)
theorem dX1_init_163 : decode cX1_init 163 = .ok (.sipush 255, 3) := dk_17 0 255 (dk_at dksX1_init_6 21 rfl rfl)
theorem dX1_init_166 : decode cX1_init 166 = .ok (.if_icmp .gt 22, 3) := dk_163 0 22 (dk_at dksX1_init_7 0 rfl rfl)
theorem dX1_init_169 : decode cX1_init 169 = .ok (.aload_n 0, 1) := dk_42 (dk_at dksX1_init_7 3 rfl rfl)
theorem dX1_init_170 : decode cX1_init 170 = .ok (.getfield 49, 3) := dk_180 0 49 (dk_at dksX1_init_7 4 rfl rfl)
theorem dX1_init_173 : decode cX1_init 173 = .ok (.iload_n 2, 1) := dk_28 (dk_at dksX1_init_7 7 rfl rfl)
theorem dX1_init_174 : decode cX1_init 174 = .ok (.new 43, 3) := dk_187 0 43 (dk_at dksX1_init_7 8 rfl rfl)
theorem dX1_init_177 : decode cX1_init 177 = .ok (.dup, 1) := dk_89 (dk_at dksX1_init_7 11 rfl rfl)
theorem dX1_init_178 : decode cX1_init 178 = .ok (.invokespecial 93, 3) := dk_183 0 93 (dk_at dksX1_init_7 12 rfl rfl)
theorem dX1_init_181 : decode cX1_init 181 = .ok (.aastore, 1) := dk_83 (dk_at dksX1_init_7 15 rfl rfl)
theorem dX1_init_182 : decode cX1_init 182 = .ok (.iinc 2 1, 3) := dk_132 2 1 (dk_at dksX1_init_7 16 rfl rfl)
theorem dX1_init_185 : decode cX1_init 185 = .ok (.goto (-23), 3) := dk_167 255 233 (dk_at dksX1_init_7 19 rfl rfl)
theorem dX1_init_188 : decode cX1_init 188 = .ok (.return_, 1) := dk_177 (dk_at dksX1_init_7 22 rfl rfl)
abbrev cX1_read : ByteArray := prog_1_method_29_code
def yX1_read : MethodName := ⟨RX1, "read", "()I"⟩
def dkwX1_read_3 : List UInt8 := [182, 0, 108, 172]
abbrev dktX1_read_3 : List UInt8 := dkwX1_read_3 ++ []
def dkwX1_read_2 : List UInt8 := [100, 172, 42, 4, 181, 1, 10, 42, 42, 180, 0, 76, 180, 1, 26, 181, 1, 29, 42, 180, 0, 68]
abbrev dktX1_read_2 : List UInt8 := dkwX1_read_2 ++ dktX1_read_3
def dkwX1_read_1 : List UInt8 := [42, 180, 0, 76, 182, 1, 19, 167, 0, 19, 76, 42, 43, 180, 1, 22, 181, 1, 14, 2, 43, 180, 1, 23]
abbrev dktX1_read_1 : List UInt8 := dkwX1_read_1 ++ dktX1_read_2
def dkwX1_read_0 : List UInt8 := [42, 180, 0, 68, 182, 1, 7, 42, 3, 181, 1, 10, 42, 3, 181, 1, 14, 42, 180, 0, 76, 182, 1, 17]
abbrev dktX1_read_0 : List UInt8 := dkwX1_read_0 ++ dktX1_read_1
theorem dksX1_read_0 : cX1_read.data.toList.drop 0 = dktX1_read_0 := by decide +kernel
theorem dksX1_read_1 : cX1_read.data.toList.drop 24 = dktX1_read_1 := dk_seg dksX1_read_0 24 rfl rfl
theorem dksX1_read_2 : cX1_read.data.toList.drop 48 = dktX1_read_2 := dk_seg dksX1_read_1 24 rfl rfl
theorem dksX1_read_3 : cX1_read.data.toList.drop 70 = dktX1_read_3 := dk_seg dksX1_read_2 22 rfl rfl
theorem dX1_read_0 : decode cX1_read 0 = .ok (.aload_n 0, 1) := dk_42 (dk_at dksX1_read_0 0 rfl rfl)
theorem dX1_read_1 : decode cX1_read 1 = .ok (.getfield 68, 3) := dk_180 0 68 (dk_at dksX1_read_0 1 rfl rfl)
theorem dX1_read_4 : decode cX1_read 4 = .ok (.invokevirtual 263, 3) := dk_182 1 7 (dk_at dksX1_read_0 4 rfl rfl)
theorem dX1_read_7 : decode cX1_read 7 = .ok (.aload_n 0, 1) := dk_42 (dk_at dksX1_read_0 7 rfl rfl)
theorem dX1_read_8 : decode cX1_read 8 = .ok (.iconst 0, 1) := dk_3 (dk_at dksX1_read_0 8 rfl rfl)
theorem dX1_read_9 : decode cX1_read 9 = .ok (.putfield 266, 3) := dk_181 1 10 (dk_at dksX1_read_0 9 rfl rfl)
theorem dX1_read_12 : decode cX1_read 12 = .ok (.aload_n 0, 1) := dk_42 (dk_at dksX1_read_0 12 rfl rfl)
theorem dX1_read_13 : decode cX1_read 13 = .ok (.iconst 0, 1) := dk_3 (dk_at dksX1_read_0 13 rfl rfl)
theorem dX1_read_14 : decode cX1_read 14 = .ok (.putfield 270, 3) := dk_181 1 14 (dk_at dksX1_read_0 14 rfl rfl)
theorem dX1_read_17 : decode cX1_read 17 = .ok (.aload_n 0, 1) := dk_42 (dk_at dksX1_read_0 17 rfl rfl)
theorem dX1_read_18 : decode cX1_read 18 = .ok (.getfield 76, 3) := dk_180 0 76 (dk_at dksX1_read_0 18 rfl rfl)
theorem dX1_read_21 : decode cX1_read 21 = .ok (.invokevirtual 273, 3) := dk_182 1 17 (dk_at dksX1_read_0 21 rfl rfl)
theorem dX1_read_24 : decode cX1_read 24 = .ok (.aload_n 0, 1) := dk_42 (dk_at dksX1_read_1 0 rfl rfl)
theorem dX1_read_25 : decode cX1_read 25 = .ok (.getfield 76, 3) := dk_180 0 76 (dk_at dksX1_read_1 1 rfl rfl)
theorem dX1_read_28 : decode cX1_read 28 = .ok (.invokevirtual 275, 3) := dk_182 1 19 (dk_at dksX1_read_1 4 rfl rfl)
theorem dX1_read_31 : decode cX1_read 31 = .ok (.goto 19, 3) := dk_167 0 19 (dk_at dksX1_read_1 7 rfl rfl)
theorem dX1_read_34 : decode cX1_read 34 = .ok (.astore_n 1, 1) := dk_76 (dk_at dksX1_read_1 10 rfl rfl)
theorem dX1_read_35 : decode cX1_read 35 = .ok (.aload_n 0, 1) := dk_42 (dk_at dksX1_read_1 11 rfl rfl)
theorem dX1_read_36 : decode cX1_read 36 = .ok (.aload_n 1, 1) := dk_43 (dk_at dksX1_read_1 12 rfl rfl)
theorem dX1_read_37 : decode cX1_read 37 = .ok (.getfield 278, 3) := dk_180 1 22 (dk_at dksX1_read_1 13 rfl rfl)
theorem dX1_read_40 : decode cX1_read 40 = .ok (.putfield 270, 3) := dk_181 1 14 (dk_at dksX1_read_1 16 rfl rfl)
theorem dX1_read_43 : decode cX1_read 43 = .ok (.iconst (-1), 1) := dk_2 (dk_at dksX1_read_1 19 rfl rfl)
theorem dX1_read_44 : decode cX1_read 44 = .ok (.aload_n 1, 1) := dk_43 (dk_at dksX1_read_1 20 rfl rfl)
theorem dX1_read_45 : decode cX1_read 45 = .ok (.getfield 279, 3) := dk_180 1 23 (dk_at dksX1_read_1 21 rfl rfl)
theorem dX1_read_48 : decode cX1_read 48 = .ok (.isub, 1) := dk_100 (dk_at dksX1_read_2 0 rfl rfl)
theorem dX1_read_49 : decode cX1_read 49 = .ok (.ireturn, 1) := dk_172 (dk_at dksX1_read_2 1 rfl rfl)
theorem dX1_read_50 : decode cX1_read 50 = .ok (.aload_n 0, 1) := dk_42 (dk_at dksX1_read_2 2 rfl rfl)
theorem dX1_read_51 : decode cX1_read 51 = .ok (.iconst 1, 1) := dk_4 (dk_at dksX1_read_2 3 rfl rfl)
theorem dX1_read_52 : decode cX1_read 52 = .ok (.putfield 266, 3) := dk_181 1 10 (dk_at dksX1_read_2 4 rfl rfl)
theorem dX1_read_55 : decode cX1_read 55 = .ok (.aload_n 0, 1) := dk_42 (dk_at dksX1_read_2 7 rfl rfl)
theorem dX1_read_56 : decode cX1_read 56 = .ok (.aload_n 0, 1) := dk_42 (dk_at dksX1_read_2 8 rfl rfl)
theorem dX1_read_57 : decode cX1_read 57 = .ok (.getfield 76, 3) := dk_180 0 76 (dk_at dksX1_read_2 9 rfl rfl)
theorem dX1_read_60 : decode cX1_read 60 = .ok (.getfield 282, 3) := dk_180 1 26 (dk_at dksX1_read_2 12 rfl rfl)
theorem dX1_read_63 : decode cX1_read 63 = .ok (.putfield 285, 3) := dk_181 1 29 (dk_at dksX1_read_2 15 rfl rfl)
theorem dX1_read_66 : decode cX1_read 66 = .ok (.aload_n 0, 1) := dk_42 (dk_at dksX1_read_2 18 rfl rfl)
theorem dX1_read_67 : decode cX1_read 67 = .ok (.getfield 68, 3) := dk_180 0 68 (dk_at dksX1_read_2 19 rfl rfl)
theorem dX1_read_70 : decode cX1_read 70 = .ok (.invokevirtual 108, 3) := dk_182 0 108 (dk_at dksX1_read_3 0 rfl rfl)
theorem dX1_read_73 : decode cX1_read 73 = .ok (.ireturn, 1) := dk_172 (dk_at dksX1_read_3 3 rfl rfl)
abbrev cX1_need : ByteArray := prog_1_method_7_code
def yX1_need : MethodName := ⟨RX1, "need", "(ZII)V"⟩
def dkwX1_need_0 : List UInt8 := [26, 154, 0, 13, 187, 0, 28, 89, 27, 28, 183, 0, 30, 191, 177]
abbrev dktX1_need_0 : List UInt8 := dkwX1_need_0 ++ []
theorem dksX1_need_0 : cX1_need.data.toList.drop 0 = dktX1_need_0 := by decide +kernel
theorem dX1_need_0 : decode cX1_need 0 = .ok (.iload_n 0, 1) := dk_26 (dk_at dksX1_need_0 0 rfl rfl)
theorem dX1_need_1 : decode cX1_need 1 = .ok (.ifCond .ne 13, 3) := dk_154 0 13 (dk_at dksX1_need_0 1 rfl rfl)
theorem dX1_need_4 : decode cX1_need 4 = .ok (.new 28, 3) := dk_187 0 28 (dk_at dksX1_need_0 4 rfl rfl)
theorem dX1_need_7 : decode cX1_need 7 = .ok (.dup, 1) := dk_89 (dk_at dksX1_need_0 7 rfl rfl)
theorem dX1_need_8 : decode cX1_need 8 = .ok (.iload_n 1, 1) := dk_27 (dk_at dksX1_need_0 8 rfl rfl)
theorem dX1_need_9 : decode cX1_need 9 = .ok (.iload_n 2, 1) := dk_28 (dk_at dksX1_need_0 9 rfl rfl)
theorem dX1_need_10 : decode cX1_need 10 = .ok (.invokespecial 30, 3) := dk_183 0 30 (dk_at dksX1_need_0 10 rfl rfl)
theorem dX1_need_13 : decode cX1_need 13 = .ok (.athrow, 1) := dk_191 (dk_at dksX1_need_0 13 rfl rfl)
theorem dX1_need_14 : decode cX1_need 14 = .ok (.return_, 1) := dk_177 (dk_at dksX1_need_0 14 rfl rfl)
abbrev cX1_kindOf : ByteArray := prog_1_method_1_code
def yX1_kindOf : MethodName := ⟨RX1, "kindOf", "(I)LBilevelPages$Kind;"⟩
def dkwX1_kindOf_1 : List UInt8 := [26, 160, 0, 6, 25, 4, 176, 132, 3, 1, 167, 255, 231, 1, 176]
abbrev dktX1_kindOf_1 : List UInt8 := dkwX1_kindOf_1 ++ []
def dkwX1_kindOf_0 : List UInt8 := [178, 0, 1, 76, 43, 190, 61, 3, 62, 29, 28, 162, 0, 26, 43, 29, 50, 58, 4, 25, 4, 180, 0, 7]
abbrev dktX1_kindOf_0 : List UInt8 := dkwX1_kindOf_0 ++ dktX1_kindOf_1
theorem dksX1_kindOf_0 : cX1_kindOf.data.toList.drop 0 = dktX1_kindOf_0 := by decide +kernel
theorem dksX1_kindOf_1 : cX1_kindOf.data.toList.drop 24 = dktX1_kindOf_1 := dk_seg dksX1_kindOf_0 24 rfl rfl
theorem dX1_kindOf_0 : decode cX1_kindOf 0 = .ok (.getstatic 1, 3) := dk_178 0 1 (dk_at dksX1_kindOf_0 0 rfl rfl)
theorem dX1_kindOf_3 : decode cX1_kindOf 3 = .ok (.astore_n 1, 1) := dk_76 (dk_at dksX1_kindOf_0 3 rfl rfl)
theorem dX1_kindOf_4 : decode cX1_kindOf 4 = .ok (.aload_n 1, 1) := dk_43 (dk_at dksX1_kindOf_0 4 rfl rfl)
theorem dX1_kindOf_5 : decode cX1_kindOf 5 = .ok (.arraylength, 1) := dk_190 (dk_at dksX1_kindOf_0 5 rfl rfl)
theorem dX1_kindOf_6 : decode cX1_kindOf 6 = .ok (.istore_n 2, 1) := dk_61 (dk_at dksX1_kindOf_0 6 rfl rfl)
theorem dX1_kindOf_7 : decode cX1_kindOf 7 = .ok (.iconst 0, 1) := dk_3 (dk_at dksX1_kindOf_0 7 rfl rfl)
theorem dX1_kindOf_8 : decode cX1_kindOf 8 = .ok (.istore_n 3, 1) := dk_62 (dk_at dksX1_kindOf_0 8 rfl rfl)
theorem dX1_kindOf_9 : decode cX1_kindOf 9 = .ok (.iload_n 3, 1) := dk_29 (dk_at dksX1_kindOf_0 9 rfl rfl)
theorem dX1_kindOf_10 : decode cX1_kindOf 10 = .ok (.iload_n 2, 1) := dk_28 (dk_at dksX1_kindOf_0 10 rfl rfl)
theorem dX1_kindOf_11 : decode cX1_kindOf 11 = .ok (.if_icmp .ge 26, 3) := dk_162 0 26 (dk_at dksX1_kindOf_0 11 rfl rfl)
theorem dX1_kindOf_14 : decode cX1_kindOf 14 = .ok (.aload_n 1, 1) := dk_43 (dk_at dksX1_kindOf_0 14 rfl rfl)
theorem dX1_kindOf_15 : decode cX1_kindOf 15 = .ok (.iload_n 3, 1) := dk_29 (dk_at dksX1_kindOf_0 15 rfl rfl)
theorem dX1_kindOf_16 : decode cX1_kindOf 16 = .ok (.aaload, 1) := dk_50 (dk_at dksX1_kindOf_0 16 rfl rfl)
theorem dX1_kindOf_17 : decode cX1_kindOf 17 = .ok (.astore 4, 2) := dk_58 4 (dk_at dksX1_kindOf_0 17 rfl rfl)
theorem dX1_kindOf_19 : decode cX1_kindOf 19 = .ok (.aload 4, 2) := dk_25 4 (dk_at dksX1_kindOf_0 19 rfl rfl)
theorem dX1_kindOf_21 : decode cX1_kindOf 21 = .ok (.getfield 7, 3) := dk_180 0 7 (dk_at dksX1_kindOf_0 21 rfl rfl)
theorem dX1_kindOf_24 : decode cX1_kindOf 24 = .ok (.iload_n 0, 1) := dk_26 (dk_at dksX1_kindOf_1 0 rfl rfl)
theorem dX1_kindOf_25 : decode cX1_kindOf 25 = .ok (.if_icmp .ne 6, 3) := dk_160 0 6 (dk_at dksX1_kindOf_1 1 rfl rfl)
theorem dX1_kindOf_28 : decode cX1_kindOf 28 = .ok (.aload 4, 2) := dk_25 4 (dk_at dksX1_kindOf_1 4 rfl rfl)
theorem dX1_kindOf_30 : decode cX1_kindOf 30 = .ok (.areturn, 1) := dk_176 (dk_at dksX1_kindOf_1 6 rfl rfl)
theorem dX1_kindOf_31 : decode cX1_kindOf 31 = .ok (.iinc 3 1, 3) := dk_132 3 1 (dk_at dksX1_kindOf_1 7 rfl rfl)
theorem dX1_kindOf_34 : decode cX1_kindOf 34 = .ok (.goto (-25), 3) := dk_167 255 231 (dk_at dksX1_kindOf_1 10 rfl rfl)
theorem dX1_kindOf_37 : decode cX1_kindOf 37 = .ok (.aconst_null, 1) := dk_1 (dk_at dksX1_kindOf_1 13 rfl rfl)
theorem dX1_kindOf_38 : decode cX1_kindOf 38 = .ok (.areturn, 1) := dk_176 (dk_at dksX1_kindOf_1 14 rfl rfl)
abbrev cX1_within : ByteArray := prog_1_method_2_code
def yX1_within : MethodName := ⟨RX1, "within", "(JJJ)Z"⟩
def dkwX1_within_0 : List UInt8 := [30, 32, 148, 155, 0, 14, 30, 22, 4, 148, 157, 0, 7, 4, 167, 0, 4, 3, 172]
abbrev dktX1_within_0 : List UInt8 := dkwX1_within_0 ++ []
theorem dksX1_within_0 : cX1_within.data.toList.drop 0 = dktX1_within_0 := by decide +kernel
theorem dX1_within_0 : decode cX1_within 0 = .ok (.lload_n 0, 1) := dk_30 (dk_at dksX1_within_0 0 rfl rfl)
theorem dX1_within_1 : decode cX1_within 1 = .ok (.lload_n 2, 1) := dk_32 (dk_at dksX1_within_0 1 rfl rfl)
theorem dX1_within_2 : decode cX1_within 2 = .ok (.lcmp, 1) := dk_148 (dk_at dksX1_within_0 2 rfl rfl)
theorem dX1_within_3 : decode cX1_within 3 = .ok (.ifCond .lt 14, 3) := dk_155 0 14 (dk_at dksX1_within_0 3 rfl rfl)
theorem dX1_within_6 : decode cX1_within 6 = .ok (.lload_n 0, 1) := dk_30 (dk_at dksX1_within_0 6 rfl rfl)
theorem dX1_within_7 : decode cX1_within 7 = .ok (.lload 4, 2) := dk_22 4 (dk_at dksX1_within_0 7 rfl rfl)
theorem dX1_within_9 : decode cX1_within 9 = .ok (.lcmp, 1) := dk_148 (dk_at dksX1_within_0 9 rfl rfl)
theorem dX1_within_10 : decode cX1_within 10 = .ok (.ifCond .gt 7, 3) := dk_157 0 7 (dk_at dksX1_within_0 10 rfl rfl)
theorem dX1_within_13 : decode cX1_within 13 = .ok (.iconst 1, 1) := dk_4 (dk_at dksX1_within_0 13 rfl rfl)
theorem dX1_within_14 : decode cX1_within 14 = .ok (.goto 4, 3) := dk_167 0 4 (dk_at dksX1_within_0 14 rfl rfl)
theorem dX1_within_17 : decode cX1_within 17 = .ok (.iconst 0, 1) := dk_3 (dk_at dksX1_within_0 17 rfl rfl)
theorem dX1_within_18 : decode cX1_within 18 = .ok (.ireturn, 1) := dk_172 (dk_at dksX1_within_0 18 rfl rfl)
abbrev cX1_told : ByteArray := prog_1_method_35_code
def yX1_told : MethodName := ⟨RX1, "told", "(I)I"⟩
def dkwX1_told_5 : List UInt8 := [153, 0, 10, 42, 180, 1, 29, 167, 0, 8, 3, 167, 0, 4, 2, 172]
abbrev dktX1_told_5 : List UInt8 := dkwX1_told_5 ++ []
def dkwX1_told_4 : List UInt8 := [180, 1, 10, 153, 0, 13, 42, 180, 0, 68, 182, 0, 108, 167, 0, 26, 3, 167, 0, 22, 42, 180, 1, 10]
abbrev dktX1_told_4 : List UInt8 := dkwX1_told_4 ++ dktX1_told_5
def dkwX1_told_3 : List UInt8 := [42, 180, 1, 0, 167, 0, 57, 42, 180, 0, 253, 167, 0, 50, 42, 180, 1, 14, 167, 0, 43, 42]
abbrev dktX1_told_3 : List UInt8 := dkwX1_told_3 ++ dktX1_told_4
def dkwX1_told_2 : List UInt8 := [42, 180, 0, 89, 167, 0, 81, 42, 180, 0, 39, 182, 0, 108, 167, 0, 71, 42, 180, 0, 193, 167, 0, 64]
abbrev dktX1_told_2 : List UInt8 := dkwX1_told_2 ++ dktX1_told_3
def dkwX1_told_1 : List UInt8 := [170, 0, 0, 0, 0, 0, 131, 0, 0, 0, 0, 0, 0, 0, 7, 0, 0, 0, 47, 0, 0, 0, 54, 0, 0, 0, 64, 0, 0, 0, 71, 0, 0, 0, 78, 0, 0, 0, 85, 0, 0, 0, 92, 0, 0, 0, 113]
abbrev dktX1_told_1 : List UInt8 := dkwX1_told_1 ++ dktX1_told_2
def dkwX1_told_0 : List UInt8 := [27]
abbrev dktX1_told_0 : List UInt8 := dkwX1_told_0 ++ dktX1_told_1
theorem dksX1_told_0 : cX1_told.data.toList.drop 0 = dktX1_told_0 := by decide +kernel
theorem dksX1_told_1 : cX1_told.data.toList.drop 1 = dktX1_told_1 := dk_seg dksX1_told_0 1 rfl rfl
theorem dksX1_told_2 : cX1_told.data.toList.drop 48 = dktX1_told_2 := dk_seg dksX1_told_1 47 rfl rfl
theorem dksX1_told_3 : cX1_told.data.toList.drop 72 = dktX1_told_3 := dk_seg dksX1_told_2 24 rfl rfl
theorem dksX1_told_4 : cX1_told.data.toList.drop 94 = dktX1_told_4 := dk_seg dksX1_told_3 22 rfl rfl
theorem dksX1_told_5 : cX1_told.data.toList.drop 118 = dktX1_told_5 := dk_seg dksX1_told_4 24 rfl rfl
theorem dX1_told_0 : decode cX1_told 0 = .ok (.iload_n 1, 1) := dk_27 (dk_at dksX1_told_0 0 rfl rfl)
theorem dX1_told_1 : decode cX1_told 1 = .ok (.tableswitch 131 0 7 #[47, 54, 64, 71, 78, 85, 92, 113], 47) := by decide +kernel
theorem dX1_told_48 : decode cX1_told 48 = .ok (.aload_n 0, 1) := dk_42 (dk_at dksX1_told_2 0 rfl rfl)
theorem dX1_told_49 : decode cX1_told 49 = .ok (.getfield 89, 3) := dk_180 0 89 (dk_at dksX1_told_2 1 rfl rfl)
theorem dX1_told_52 : decode cX1_told 52 = .ok (.goto 81, 3) := dk_167 0 81 (dk_at dksX1_told_2 4 rfl rfl)
theorem dX1_told_55 : decode cX1_told 55 = .ok (.aload_n 0, 1) := dk_42 (dk_at dksX1_told_2 7 rfl rfl)
theorem dX1_told_56 : decode cX1_told 56 = .ok (.getfield 39, 3) := dk_180 0 39 (dk_at dksX1_told_2 8 rfl rfl)
theorem dX1_told_59 : decode cX1_told 59 = .ok (.invokevirtual 108, 3) := dk_182 0 108 (dk_at dksX1_told_2 11 rfl rfl)
theorem dX1_told_62 : decode cX1_told 62 = .ok (.goto 71, 3) := dk_167 0 71 (dk_at dksX1_told_2 14 rfl rfl)
theorem dX1_told_65 : decode cX1_told 65 = .ok (.aload_n 0, 1) := dk_42 (dk_at dksX1_told_2 17 rfl rfl)
theorem dX1_told_66 : decode cX1_told 66 = .ok (.getfield 193, 3) := dk_180 0 193 (dk_at dksX1_told_2 18 rfl rfl)
theorem dX1_told_69 : decode cX1_told 69 = .ok (.goto 64, 3) := dk_167 0 64 (dk_at dksX1_told_2 21 rfl rfl)
theorem dX1_told_72 : decode cX1_told 72 = .ok (.aload_n 0, 1) := dk_42 (dk_at dksX1_told_3 0 rfl rfl)
theorem dX1_told_73 : decode cX1_told 73 = .ok (.getfield 256, 3) := dk_180 1 0 (dk_at dksX1_told_3 1 rfl rfl)
theorem dX1_told_76 : decode cX1_told 76 = .ok (.goto 57, 3) := dk_167 0 57 (dk_at dksX1_told_3 4 rfl rfl)
theorem dX1_told_79 : decode cX1_told 79 = .ok (.aload_n 0, 1) := dk_42 (dk_at dksX1_told_3 7 rfl rfl)
theorem dX1_told_80 : decode cX1_told 80 = .ok (.getfield 253, 3) := dk_180 0 253 (dk_at dksX1_told_3 8 rfl rfl)
theorem dX1_told_83 : decode cX1_told 83 = .ok (.goto 50, 3) := dk_167 0 50 (dk_at dksX1_told_3 11 rfl rfl)
theorem dX1_told_86 : decode cX1_told 86 = .ok (.aload_n 0, 1) := dk_42 (dk_at dksX1_told_3 14 rfl rfl)
theorem dX1_told_87 : decode cX1_told 87 = .ok (.getfield 270, 3) := dk_180 1 14 (dk_at dksX1_told_3 15 rfl rfl)
theorem dX1_told_90 : decode cX1_told 90 = .ok (.goto 43, 3) := dk_167 0 43 (dk_at dksX1_told_3 18 rfl rfl)
theorem dX1_told_93 : decode cX1_told 93 = .ok (.aload_n 0, 1) := dk_42 (dk_at dksX1_told_3 21 rfl rfl)
theorem dX1_told_94 : decode cX1_told 94 = .ok (.getfield 266, 3) := dk_180 1 10 (dk_at dksX1_told_4 0 rfl rfl)
theorem dX1_told_97 : decode cX1_told 97 = .ok (.ifCond .eq 13, 3) := dk_153 0 13 (dk_at dksX1_told_4 3 rfl rfl)
theorem dX1_told_100 : decode cX1_told 100 = .ok (.aload_n 0, 1) := dk_42 (dk_at dksX1_told_4 6 rfl rfl)
theorem dX1_told_101 : decode cX1_told 101 = .ok (.getfield 68, 3) := dk_180 0 68 (dk_at dksX1_told_4 7 rfl rfl)
theorem dX1_told_104 : decode cX1_told 104 = .ok (.invokevirtual 108, 3) := dk_182 0 108 (dk_at dksX1_told_4 10 rfl rfl)
theorem dX1_told_107 : decode cX1_told 107 = .ok (.goto 26, 3) := dk_167 0 26 (dk_at dksX1_told_4 13 rfl rfl)
theorem dX1_told_110 : decode cX1_told 110 = .ok (.iconst 0, 1) := dk_3 (dk_at dksX1_told_4 16 rfl rfl)
theorem dX1_told_111 : decode cX1_told 111 = .ok (.goto 22, 3) := dk_167 0 22 (dk_at dksX1_told_4 17 rfl rfl)
theorem dX1_told_114 : decode cX1_told 114 = .ok (.aload_n 0, 1) := dk_42 (dk_at dksX1_told_4 20 rfl rfl)
theorem dX1_told_115 : decode cX1_told 115 = .ok (.getfield 266, 3) := dk_180 1 10 (dk_at dksX1_told_4 21 rfl rfl)
theorem dX1_told_118 : decode cX1_told 118 = .ok (.ifCond .eq 10, 3) := dk_153 0 10 (dk_at dksX1_told_5 0 rfl rfl)
theorem dX1_told_121 : decode cX1_told 121 = .ok (.aload_n 0, 1) := dk_42 (dk_at dksX1_told_5 3 rfl rfl)
theorem dX1_told_122 : decode cX1_told 122 = .ok (.getfield 285, 3) := dk_180 1 29 (dk_at dksX1_told_5 4 rfl rfl)
theorem dX1_told_125 : decode cX1_told 125 = .ok (.goto 8, 3) := dk_167 0 8 (dk_at dksX1_told_5 7 rfl rfl)
theorem dX1_told_128 : decode cX1_told 128 = .ok (.iconst 0, 1) := dk_3 (dk_at dksX1_told_5 10 rfl rfl)
theorem dX1_told_129 : decode cX1_told 129 = .ok (.goto 4, 3) := dk_167 0 4 (dk_at dksX1_told_5 11 rfl rfl)
theorem dX1_told_132 : decode cX1_told 132 = .ok (.iconst (-1), 1) := dk_2 (dk_at dksX1_told_5 14 rfl rfl)
theorem dX1_told_133 : decode cX1_told 133 = .ok (.ireturn, 1) := dk_172 (dk_at dksX1_told_5 15 rfl rfl)
abbrev cX1_drop : ByteArray := prog_1_method_36_code
def yX1_drop : MethodName := ⟨RX1, "drop", "()V"⟩
def dkwX1_drop_0 : List UInt8 := [42, 3, 181, 1, 0, 42, 3, 181, 0, 253, 177]
abbrev dktX1_drop_0 : List UInt8 := dkwX1_drop_0 ++ []
theorem dksX1_drop_0 : cX1_drop.data.toList.drop 0 = dktX1_drop_0 := by decide +kernel
theorem dX1_drop_0 : decode cX1_drop 0 = .ok (.aload_n 0, 1) := dk_42 (dk_at dksX1_drop_0 0 rfl rfl)
theorem dX1_drop_1 : decode cX1_drop 1 = .ok (.iconst 0, 1) := dk_3 (dk_at dksX1_drop_0 1 rfl rfl)
theorem dX1_drop_2 : decode cX1_drop 2 = .ok (.putfield 256, 3) := dk_181 1 0 (dk_at dksX1_drop_0 2 rfl rfl)
theorem dX1_drop_5 : decode cX1_drop 5 = .ok (.aload_n 0, 1) := dk_42 (dk_at dksX1_drop_0 5 rfl rfl)
theorem dX1_drop_6 : decode cX1_drop 6 = .ok (.iconst 0, 1) := dk_3 (dk_at dksX1_drop_0 6 rfl rfl)
theorem dX1_drop_7 : decode cX1_drop 7 = .ok (.putfield 253, 3) := dk_181 0 253 (dk_at dksX1_drop_0 7 rfl rfl)
theorem dX1_drop_10 : decode cX1_drop 10 = .ok (.return_, 1) := dk_177 (dk_at dksX1_drop_0 10 rfl rfl)
abbrev cX1_clear : ByteArray := prog_1_method_37_code
def yX1_clear : MethodName := ⟨RX1, "clear", "()V"⟩
def dkwX1_clear_0 : List UInt8 := [42, 180, 0, 39, 182, 1, 7, 177]
abbrev dktX1_clear_0 : List UInt8 := dkwX1_clear_0 ++ []
theorem dksX1_clear_0 : cX1_clear.data.toList.drop 0 = dktX1_clear_0 := by decide +kernel
theorem dX1_clear_0 : decode cX1_clear 0 = .ok (.aload_n 0, 1) := dk_42 (dk_at dksX1_clear_0 0 rfl rfl)
theorem dX1_clear_1 : decode cX1_clear 1 = .ok (.getfield 39, 3) := dk_180 0 39 (dk_at dksX1_clear_0 1 rfl rfl)
theorem dX1_clear_4 : decode cX1_clear 4 = .ok (.invokevirtual 263, 3) := dk_182 1 7 (dk_at dksX1_clear_0 4 rfl rfl)
theorem dX1_clear_7 : decode cX1_clear 7 = .ok (.return_, 1) := dk_177 (dk_at dksX1_clear_0 7 rfl rfl)
abbrev cX1_segment : ByteArray := prog_1_method_9_code
def yX1_segment : MethodName := ⟨RX1, "segment", "(II)I"⟩
def dkwX1_segment_3 : List UInt8 := [180, 0, 39, 182, 0, 108, 182, 0, 115, 182, 0, 119, 87, 42, 180, 0, 39, 182, 0, 108, 4, 100, 172]
abbrev dktX1_segment_3 : List UInt8 := dkwX1_segment_3 ++ []
def dkwX1_segment_2 : List UInt8 := [184, 0, 112, 42, 180, 0, 39, 42, 180, 0, 45, 42, 180, 0, 39, 182, 0, 108, 50, 45, 28, 42]
abbrev dktX1_segment_2 : List UInt8 := dkwX1_segment_2 ++ dktX1_segment_3
def dkwX1_segment_1 : List UInt8 := [167, 0, 4, 3, 184, 0, 104, 42, 180, 0, 39, 182, 0, 108, 16, 30, 162, 0, 7, 4, 167, 0, 4, 3]
abbrev dktX1_segment_1 : List UInt8 := dkwX1_segment_1 ++ dktX1_segment_2
def dkwX1_segment_0 : List UInt8 := [27, 184, 0, 94, 78, 45, 198, 0, 19, 28, 133, 9, 20, 0, 98, 184, 0, 100, 153, 0, 7, 4]
abbrev dktX1_segment_0 : List UInt8 := dkwX1_segment_0 ++ dktX1_segment_1
theorem dksX1_segment_0 : cX1_segment.data.toList.drop 0 = dktX1_segment_0 := by decide +kernel
theorem dksX1_segment_1 : cX1_segment.data.toList.drop 22 = dktX1_segment_1 := dk_seg dksX1_segment_0 22 rfl rfl
theorem dksX1_segment_2 : cX1_segment.data.toList.drop 46 = dktX1_segment_2 := dk_seg dksX1_segment_1 24 rfl rfl
theorem dksX1_segment_3 : cX1_segment.data.toList.drop 68 = dktX1_segment_3 := dk_seg dksX1_segment_2 22 rfl rfl
theorem dX1_segment_0 : decode cX1_segment 0 = .ok (.iload_n 1, 1) := dk_27 (dk_at dksX1_segment_0 0 rfl rfl)
theorem dX1_segment_1 : decode cX1_segment 1 = .ok (.invokestatic 94, 3) := dk_184 0 94 (dk_at dksX1_segment_0 1 rfl rfl)
theorem dX1_segment_4 : decode cX1_segment 4 = .ok (.astore_n 3, 1) := dk_78 (dk_at dksX1_segment_0 4 rfl rfl)
theorem dX1_segment_5 : decode cX1_segment 5 = .ok (.aload_n 3, 1) := dk_45 (dk_at dksX1_segment_0 5 rfl rfl)
theorem dX1_segment_6 : decode cX1_segment 6 = .ok (.ifnull 19, 3) := dk_198 0 19 (dk_at dksX1_segment_0 6 rfl rfl)
theorem dX1_segment_9 : decode cX1_segment 9 = .ok (.iload_n 2, 1) := dk_28 (dk_at dksX1_segment_0 9 rfl rfl)
theorem dX1_segment_10 : decode cX1_segment 10 = .ok (.i2l, 1) := dk_133 (dk_at dksX1_segment_0 10 rfl rfl)
theorem dX1_segment_11 : decode cX1_segment 11 = .ok (.lconst 0, 1) := dk_9 (dk_at dksX1_segment_0 11 rfl rfl)
theorem dX1_segment_12 : decode cX1_segment 12 = .ok (.ldc2_w 98, 3) := dk_20 0 98 (dk_at dksX1_segment_0 12 rfl rfl)
theorem dX1_segment_15 : decode cX1_segment 15 = .ok (.invokestatic 100, 3) := dk_184 0 100 (dk_at dksX1_segment_0 15 rfl rfl)
theorem dX1_segment_18 : decode cX1_segment 18 = .ok (.ifCond .eq 7, 3) := dk_153 0 7 (dk_at dksX1_segment_0 18 rfl rfl)
theorem dX1_segment_21 : decode cX1_segment 21 = .ok (.iconst 1, 1) := dk_4 (dk_at dksX1_segment_0 21 rfl rfl)
theorem dX1_segment_22 : decode cX1_segment 22 = .ok (.goto 4, 3) := dk_167 0 4 (dk_at dksX1_segment_1 0 rfl rfl)
theorem dX1_segment_25 : decode cX1_segment 25 = .ok (.iconst 0, 1) := dk_3 (dk_at dksX1_segment_1 3 rfl rfl)
theorem dX1_segment_26 : decode cX1_segment 26 = .ok (.invokestatic 104, 3) := dk_184 0 104 (dk_at dksX1_segment_1 4 rfl rfl)
theorem dX1_segment_29 : decode cX1_segment 29 = .ok (.aload_n 0, 1) := dk_42 (dk_at dksX1_segment_1 7 rfl rfl)
theorem dX1_segment_30 : decode cX1_segment 30 = .ok (.getfield 39, 3) := dk_180 0 39 (dk_at dksX1_segment_1 8 rfl rfl)
theorem dX1_segment_33 : decode cX1_segment 33 = .ok (.invokevirtual 108, 3) := dk_182 0 108 (dk_at dksX1_segment_1 11 rfl rfl)
theorem dX1_segment_36 : decode cX1_segment 36 = .ok (.bipush 30, 2) := dk_16 30 (dk_at dksX1_segment_1 14 rfl rfl)
theorem dX1_segment_38 : decode cX1_segment 38 = .ok (.if_icmp .ge 7, 3) := dk_162 0 7 (dk_at dksX1_segment_1 16 rfl rfl)
theorem dX1_segment_41 : decode cX1_segment 41 = .ok (.iconst 1, 1) := dk_4 (dk_at dksX1_segment_1 19 rfl rfl)
theorem dX1_segment_42 : decode cX1_segment 42 = .ok (.goto 4, 3) := dk_167 0 4 (dk_at dksX1_segment_1 20 rfl rfl)
theorem dX1_segment_45 : decode cX1_segment 45 = .ok (.iconst 0, 1) := dk_3 (dk_at dksX1_segment_1 23 rfl rfl)
theorem dX1_segment_46 : decode cX1_segment 46 = .ok (.invokestatic 112, 3) := dk_184 0 112 (dk_at dksX1_segment_2 0 rfl rfl)
theorem dX1_segment_49 : decode cX1_segment 49 = .ok (.aload_n 0, 1) := dk_42 (dk_at dksX1_segment_2 3 rfl rfl)
theorem dX1_segment_50 : decode cX1_segment 50 = .ok (.getfield 39, 3) := dk_180 0 39 (dk_at dksX1_segment_2 4 rfl rfl)
theorem dX1_segment_53 : decode cX1_segment 53 = .ok (.aload_n 0, 1) := dk_42 (dk_at dksX1_segment_2 7 rfl rfl)
theorem dX1_segment_54 : decode cX1_segment 54 = .ok (.getfield 45, 3) := dk_180 0 45 (dk_at dksX1_segment_2 8 rfl rfl)
theorem dX1_segment_57 : decode cX1_segment 57 = .ok (.aload_n 0, 1) := dk_42 (dk_at dksX1_segment_2 11 rfl rfl)
theorem dX1_segment_58 : decode cX1_segment 58 = .ok (.getfield 39, 3) := dk_180 0 39 (dk_at dksX1_segment_2 12 rfl rfl)
theorem dX1_segment_61 : decode cX1_segment 61 = .ok (.invokevirtual 108, 3) := dk_182 0 108 (dk_at dksX1_segment_2 15 rfl rfl)
theorem dX1_segment_64 : decode cX1_segment 64 = .ok (.aaload, 1) := dk_50 (dk_at dksX1_segment_2 18 rfl rfl)
theorem dX1_segment_65 : decode cX1_segment 65 = .ok (.aload_n 3, 1) := dk_45 (dk_at dksX1_segment_2 19 rfl rfl)
theorem dX1_segment_66 : decode cX1_segment 66 = .ok (.iload_n 2, 1) := dk_28 (dk_at dksX1_segment_2 20 rfl rfl)
theorem dX1_segment_67 : decode cX1_segment 67 = .ok (.aload_n 0, 1) := dk_42 (dk_at dksX1_segment_2 21 rfl rfl)
theorem dX1_segment_68 : decode cX1_segment 68 = .ok (.getfield 39, 3) := dk_180 0 39 (dk_at dksX1_segment_3 0 rfl rfl)
theorem dX1_segment_71 : decode cX1_segment 71 = .ok (.invokevirtual 108, 3) := dk_182 0 108 (dk_at dksX1_segment_3 3 rfl rfl)
theorem dX1_segment_74 : decode cX1_segment 74 = .ok (.invokevirtual 115, 3) := dk_182 0 115 (dk_at dksX1_segment_3 6 rfl rfl)
theorem dX1_segment_77 : decode cX1_segment 77 = .ok (.invokevirtual 119, 3) := dk_182 0 119 (dk_at dksX1_segment_3 9 rfl rfl)
theorem dX1_segment_80 : decode cX1_segment 80 = .ok (.pop, 1) := dk_87 (dk_at dksX1_segment_3 12 rfl rfl)
theorem dX1_segment_81 : decode cX1_segment 81 = .ok (.aload_n 0, 1) := dk_42 (dk_at dksX1_segment_3 13 rfl rfl)
theorem dX1_segment_82 : decode cX1_segment 82 = .ok (.getfield 39, 3) := dk_180 0 39 (dk_at dksX1_segment_3 14 rfl rfl)
theorem dX1_segment_85 : decode cX1_segment 85 = .ok (.invokevirtual 108, 3) := dk_182 0 108 (dk_at dksX1_segment_3 17 rfl rfl)
theorem dX1_segment_88 : decode cX1_segment 88 = .ok (.iconst 1, 1) := dk_4 (dk_at dksX1_segment_3 20 rfl rfl)
theorem dX1_segment_89 : decode cX1_segment 89 = .ok (.isub, 1) := dk_100 (dk_at dksX1_segment_3 21 rfl rfl)
theorem dX1_segment_90 : decode cX1_segment 90 = .ok (.ireturn, 1) := dk_172 (dk_at dksX1_segment_3 22 rfl rfl)
abbrev cX1_want : ByteArray := prog_1_method_3_code
def yX1_want : MethodName := ⟨RX1, "want", "(Z)V"⟩
def dkwX1_want_0 : List UInt8 := [26, 154, 0, 11, 187, 0, 13, 89, 183, 0, 15, 191, 177]
abbrev dktX1_want_0 : List UInt8 := dkwX1_want_0 ++ []
theorem dksX1_want_0 : cX1_want.data.toList.drop 0 = dktX1_want_0 := by decide +kernel
theorem dX1_want_0 : decode cX1_want 0 = .ok (.iload_n 0, 1) := dk_26 (dk_at dksX1_want_0 0 rfl rfl)
theorem dX1_want_1 : decode cX1_want 1 = .ok (.ifCond .ne 11, 3) := dk_154 0 11 (dk_at dksX1_want_0 1 rfl rfl)
theorem dX1_want_4 : decode cX1_want 4 = .ok (.new 13, 3) := dk_187 0 13 (dk_at dksX1_want_0 4 rfl rfl)
theorem dX1_want_7 : decode cX1_want 7 = .ok (.dup, 1) := dk_89 (dk_at dksX1_want_0 7 rfl rfl)
theorem dX1_want_8 : decode cX1_want 8 = .ok (.invokespecial 15, 3) := dk_183 0 15 (dk_at dksX1_want_0 8 rfl rfl)
theorem dX1_want_11 : decode cX1_want 11 = .ok (.athrow, 1) := dk_191 (dk_at dksX1_want_0 11 rfl rfl)
theorem dX1_want_12 : decode cX1_want 12 = .ok (.return_, 1) := dk_177 (dk_at dksX1_want_0 12 rfl rfl)
abbrev cX1_wantRoom : ByteArray := prog_1_method_6_code
def yX1_wantRoom : MethodName := ⟨RX1, "wantRoom", "(Z)V"⟩
def dkwX1_wantRoom_0 : List UInt8 := [26, 154, 0, 11, 187, 0, 25, 89, 183, 0, 27, 191, 177]
abbrev dktX1_wantRoom_0 : List UInt8 := dkwX1_wantRoom_0 ++ []
theorem dksX1_wantRoom_0 : cX1_wantRoom.data.toList.drop 0 = dktX1_wantRoom_0 := by decide +kernel
theorem dX1_wantRoom_0 : decode cX1_wantRoom 0 = .ok (.iload_n 0, 1) := dk_26 (dk_at dksX1_wantRoom_0 0 rfl rfl)
theorem dX1_wantRoom_1 : decode cX1_wantRoom 1 = .ok (.ifCond .ne 11, 3) := dk_154 0 11 (dk_at dksX1_wantRoom_0 1 rfl rfl)
theorem dX1_wantRoom_4 : decode cX1_wantRoom 4 = .ok (.new 25, 3) := dk_187 0 25 (dk_at dksX1_wantRoom_0 4 rfl rfl)
theorem dX1_wantRoom_7 : decode cX1_wantRoom 7 = .ok (.dup, 1) := dk_89 (dk_at dksX1_wantRoom_0 7 rfl rfl)
theorem dX1_wantRoom_8 : decode cX1_wantRoom 8 = .ok (.invokespecial 27, 3) := dk_183 0 27 (dk_at dksX1_wantRoom_0 8 rfl rfl)
theorem dX1_wantRoom_11 : decode cX1_wantRoom 11 = .ok (.athrow, 1) := dk_191 (dk_at dksX1_wantRoom_0 11 rfl rfl)
theorem dX1_wantRoom_12 : decode cX1_wantRoom 12 = .ok (.return_, 1) := dk_177 (dk_at dksX1_wantRoom_0 12 rfl rfl)
abbrev cX1_refers : ByteArray := prog_1_method_11_code
def yX1_refers : MethodName := ⟨RX1, "refers", "(II)Z"⟩
def dkwX1_refers_5 : List UInt8 := [79, 4, 172]
abbrev dktX1_refers_5 : List UInt8 := dkwX1_refers_5 ++ []
def dkwX1_refers_4 : List UInt8 := [4, 167, 0, 4, 3, 184, 0, 112, 45, 180, 0, 145, 45, 89, 180, 0, 142, 90, 4, 96, 181, 0, 142, 28]
abbrev dktX1_refers_4 : List UInt8 := dkwX1_refers_4 ++ dktX1_refers_5
def dkwX1_refers_3 : List UInt8 := [54, 4, 132, 5, 1, 167, 255, 216, 21, 4, 154, 0, 5, 3, 172, 45, 180, 0, 142, 16, 10, 162, 0, 7]
abbrev dktX1_refers_3 : List UInt8 := dkwX1_refers_3 ++ dktX1_refers_4
def dkwX1_refers_2 : List UInt8 := [42, 180, 0, 39, 21, 5, 182, 0, 126, 192, 0, 43, 28, 182, 0, 138, 154, 0, 7, 4, 167, 0, 4, 3]
abbrev dktX1_refers_2 : List UInt8 := dkwX1_refers_2 ++ dktX1_refers_3
def dkwX1_refers_1 : List UInt8 := [156, 0, 7, 4, 167, 0, 4, 3, 54, 4, 3, 54, 5, 21, 5, 27, 162, 0, 40, 21, 4, 153, 0, 35]
abbrev dktX1_refers_1 : List UInt8 := dkwX1_refers_1 ++ dktX1_refers_2
def dkwX1_refers_0 : List UInt8 := [42, 27, 182, 0, 130, 78, 28, 133, 9, 27, 133, 10, 101, 184, 0, 100, 153, 0, 15, 45, 28, 182, 0, 134]
abbrev dktX1_refers_0 : List UInt8 := dkwX1_refers_0 ++ dktX1_refers_1
theorem dksX1_refers_0 : cX1_refers.data.toList.drop 0 = dktX1_refers_0 := by decide +kernel
theorem dksX1_refers_1 : cX1_refers.data.toList.drop 24 = dktX1_refers_1 := dk_seg dksX1_refers_0 24 rfl rfl
theorem dksX1_refers_2 : cX1_refers.data.toList.drop 48 = dktX1_refers_2 := dk_seg dksX1_refers_1 24 rfl rfl
theorem dksX1_refers_3 : cX1_refers.data.toList.drop 72 = dktX1_refers_3 := dk_seg dksX1_refers_2 24 rfl rfl
theorem dksX1_refers_4 : cX1_refers.data.toList.drop 96 = dktX1_refers_4 := dk_seg dksX1_refers_3 24 rfl rfl
theorem dksX1_refers_5 : cX1_refers.data.toList.drop 120 = dktX1_refers_5 := dk_seg dksX1_refers_4 24 rfl rfl
theorem dX1_refers_0 : decode cX1_refers 0 = .ok (.aload_n 0, 1) := dk_42 (dk_at dksX1_refers_0 0 rfl rfl)
theorem dX1_refers_1 : decode cX1_refers 1 = .ok (.iload_n 1, 1) := dk_27 (dk_at dksX1_refers_0 1 rfl rfl)
theorem dX1_refers_2 : decode cX1_refers 2 = .ok (.invokevirtual 130, 3) := dk_182 0 130 (dk_at dksX1_refers_0 2 rfl rfl)
theorem dX1_refers_5 : decode cX1_refers 5 = .ok (.astore_n 3, 1) := dk_78 (dk_at dksX1_refers_0 5 rfl rfl)
theorem dX1_refers_6 : decode cX1_refers 6 = .ok (.iload_n 2, 1) := dk_28 (dk_at dksX1_refers_0 6 rfl rfl)
theorem dX1_refers_7 : decode cX1_refers 7 = .ok (.i2l, 1) := dk_133 (dk_at dksX1_refers_0 7 rfl rfl)
theorem dX1_refers_8 : decode cX1_refers 8 = .ok (.lconst 0, 1) := dk_9 (dk_at dksX1_refers_0 8 rfl rfl)
theorem dX1_refers_9 : decode cX1_refers 9 = .ok (.iload_n 1, 1) := dk_27 (dk_at dksX1_refers_0 9 rfl rfl)
theorem dX1_refers_10 : decode cX1_refers 10 = .ok (.i2l, 1) := dk_133 (dk_at dksX1_refers_0 10 rfl rfl)
theorem dX1_refers_11 : decode cX1_refers 11 = .ok (.lconst 1, 1) := dk_10 (dk_at dksX1_refers_0 11 rfl rfl)
theorem dX1_refers_12 : decode cX1_refers 12 = .ok (.lsub, 1) := dk_101 (dk_at dksX1_refers_0 12 rfl rfl)
theorem dX1_refers_13 : decode cX1_refers 13 = .ok (.invokestatic 100, 3) := dk_184 0 100 (dk_at dksX1_refers_0 13 rfl rfl)
theorem dX1_refers_16 : decode cX1_refers 16 = .ok (.ifCond .eq 15, 3) := dk_153 0 15 (dk_at dksX1_refers_0 16 rfl rfl)
theorem dX1_refers_19 : decode cX1_refers 19 = .ok (.aload_n 3, 1) := dk_45 (dk_at dksX1_refers_0 19 rfl rfl)
theorem dX1_refers_20 : decode cX1_refers 20 = .ok (.iload_n 2, 1) := dk_28 (dk_at dksX1_refers_0 20 rfl rfl)
theorem dX1_refers_21 : decode cX1_refers 21 = .ok (.invokevirtual 134, 3) := dk_182 0 134 (dk_at dksX1_refers_0 21 rfl rfl)
theorem dX1_refers_24 : decode cX1_refers 24 = .ok (.ifCond .ge 7, 3) := dk_156 0 7 (dk_at dksX1_refers_1 0 rfl rfl)
theorem dX1_refers_27 : decode cX1_refers 27 = .ok (.iconst 1, 1) := dk_4 (dk_at dksX1_refers_1 3 rfl rfl)
theorem dX1_refers_28 : decode cX1_refers 28 = .ok (.goto 4, 3) := dk_167 0 4 (dk_at dksX1_refers_1 4 rfl rfl)
theorem dX1_refers_31 : decode cX1_refers 31 = .ok (.iconst 0, 1) := dk_3 (dk_at dksX1_refers_1 7 rfl rfl)
theorem dX1_refers_32 : decode cX1_refers 32 = .ok (.istore 4, 2) := dk_54 4 (dk_at dksX1_refers_1 8 rfl rfl)
theorem dX1_refers_34 : decode cX1_refers 34 = .ok (.iconst 0, 1) := dk_3 (dk_at dksX1_refers_1 10 rfl rfl)
theorem dX1_refers_35 : decode cX1_refers 35 = .ok (.istore 5, 2) := dk_54 5 (dk_at dksX1_refers_1 11 rfl rfl)
theorem dX1_refers_37 : decode cX1_refers 37 = .ok (.iload 5, 2) := dk_21 5 (dk_at dksX1_refers_1 13 rfl rfl)
theorem dX1_refers_39 : decode cX1_refers 39 = .ok (.iload_n 1, 1) := dk_27 (dk_at dksX1_refers_1 15 rfl rfl)
theorem dX1_refers_40 : decode cX1_refers 40 = .ok (.if_icmp .ge 40, 3) := dk_162 0 40 (dk_at dksX1_refers_1 16 rfl rfl)
theorem dX1_refers_43 : decode cX1_refers 43 = .ok (.iload 4, 2) := dk_21 4 (dk_at dksX1_refers_1 19 rfl rfl)
theorem dX1_refers_45 : decode cX1_refers 45 = .ok (.ifCond .eq 35, 3) := dk_153 0 35 (dk_at dksX1_refers_1 21 rfl rfl)
theorem dX1_refers_48 : decode cX1_refers 48 = .ok (.aload_n 0, 1) := dk_42 (dk_at dksX1_refers_2 0 rfl rfl)
theorem dX1_refers_49 : decode cX1_refers 49 = .ok (.getfield 39, 3) := dk_180 0 39 (dk_at dksX1_refers_2 1 rfl rfl)
theorem dX1_refers_52 : decode cX1_refers 52 = .ok (.iload 5, 2) := dk_21 5 (dk_at dksX1_refers_2 4 rfl rfl)
theorem dX1_refers_54 : decode cX1_refers 54 = .ok (.invokevirtual 126, 3) := dk_182 0 126 (dk_at dksX1_refers_2 6 rfl rfl)
theorem dX1_refers_57 : decode cX1_refers 57 = .ok (.checkcast 43, 3) := dk_192 0 43 (dk_at dksX1_refers_2 9 rfl rfl)
theorem dX1_refers_60 : decode cX1_refers 60 = .ok (.iload_n 2, 1) := dk_28 (dk_at dksX1_refers_2 12 rfl rfl)
theorem dX1_refers_61 : decode cX1_refers 61 = .ok (.invokevirtual 138, 3) := dk_182 0 138 (dk_at dksX1_refers_2 13 rfl rfl)
theorem dX1_refers_64 : decode cX1_refers 64 = .ok (.ifCond .ne 7, 3) := dk_154 0 7 (dk_at dksX1_refers_2 16 rfl rfl)
theorem dX1_refers_67 : decode cX1_refers 67 = .ok (.iconst 1, 1) := dk_4 (dk_at dksX1_refers_2 19 rfl rfl)
theorem dX1_refers_68 : decode cX1_refers 68 = .ok (.goto 4, 3) := dk_167 0 4 (dk_at dksX1_refers_2 20 rfl rfl)
theorem dX1_refers_71 : decode cX1_refers 71 = .ok (.iconst 0, 1) := dk_3 (dk_at dksX1_refers_2 23 rfl rfl)
theorem dX1_refers_72 : decode cX1_refers 72 = .ok (.istore 4, 2) := dk_54 4 (dk_at dksX1_refers_3 0 rfl rfl)
theorem dX1_refers_74 : decode cX1_refers 74 = .ok (.iinc 5 1, 3) := dk_132 5 1 (dk_at dksX1_refers_3 2 rfl rfl)
theorem dX1_refers_77 : decode cX1_refers 77 = .ok (.goto (-40), 3) := dk_167 255 216 (dk_at dksX1_refers_3 5 rfl rfl)
theorem dX1_refers_80 : decode cX1_refers 80 = .ok (.iload 4, 2) := dk_21 4 (dk_at dksX1_refers_3 8 rfl rfl)
theorem dX1_refers_82 : decode cX1_refers 82 = .ok (.ifCond .ne 5, 3) := dk_154 0 5 (dk_at dksX1_refers_3 10 rfl rfl)
theorem dX1_refers_85 : decode cX1_refers 85 = .ok (.iconst 0, 1) := dk_3 (dk_at dksX1_refers_3 13 rfl rfl)
theorem dX1_refers_86 : decode cX1_refers 86 = .ok (.ireturn, 1) := dk_172 (dk_at dksX1_refers_3 14 rfl rfl)
theorem dX1_refers_87 : decode cX1_refers 87 = .ok (.aload_n 3, 1) := dk_45 (dk_at dksX1_refers_3 15 rfl rfl)
theorem dX1_refers_88 : decode cX1_refers 88 = .ok (.getfield 142, 3) := dk_180 0 142 (dk_at dksX1_refers_3 16 rfl rfl)
theorem dX1_refers_91 : decode cX1_refers 91 = .ok (.bipush 10, 2) := dk_16 10 (dk_at dksX1_refers_3 19 rfl rfl)
theorem dX1_refers_93 : decode cX1_refers 93 = .ok (.if_icmp .ge 7, 3) := dk_162 0 7 (dk_at dksX1_refers_3 21 rfl rfl)
theorem dX1_refers_96 : decode cX1_refers 96 = .ok (.iconst 1, 1) := dk_4 (dk_at dksX1_refers_4 0 rfl rfl)
theorem dX1_refers_97 : decode cX1_refers 97 = .ok (.goto 4, 3) := dk_167 0 4 (dk_at dksX1_refers_4 1 rfl rfl)
theorem dX1_refers_100 : decode cX1_refers 100 = .ok (.iconst 0, 1) := dk_3 (dk_at dksX1_refers_4 4 rfl rfl)
theorem dX1_refers_101 : decode cX1_refers 101 = .ok (.invokestatic 112, 3) := dk_184 0 112 (dk_at dksX1_refers_4 5 rfl rfl)
theorem dX1_refers_104 : decode cX1_refers 104 = .ok (.aload_n 3, 1) := dk_45 (dk_at dksX1_refers_4 8 rfl rfl)
theorem dX1_refers_105 : decode cX1_refers 105 = .ok (.getfield 145, 3) := dk_180 0 145 (dk_at dksX1_refers_4 9 rfl rfl)
theorem dX1_refers_108 : decode cX1_refers 108 = .ok (.aload_n 3, 1) := dk_45 (dk_at dksX1_refers_4 12 rfl rfl)
theorem dX1_refers_109 : decode cX1_refers 109 = .ok (.dup, 1) := dk_89 (dk_at dksX1_refers_4 13 rfl rfl)
theorem dX1_refers_110 : decode cX1_refers 110 = .ok (.getfield 142, 3) := dk_180 0 142 (dk_at dksX1_refers_4 14 rfl rfl)
theorem dX1_refers_113 : decode cX1_refers 113 = .ok (.dup_x1, 1) := dk_90 (dk_at dksX1_refers_4 17 rfl rfl)
theorem dX1_refers_114 : decode cX1_refers 114 = .ok (.iconst 1, 1) := dk_4 (dk_at dksX1_refers_4 18 rfl rfl)
theorem dX1_refers_115 : decode cX1_refers 115 = .ok (.iadd, 1) := dk_96 (dk_at dksX1_refers_4 19 rfl rfl)
theorem dX1_refers_116 : decode cX1_refers 116 = .ok (.putfield 142, 3) := dk_181 0 142 (dk_at dksX1_refers_4 20 rfl rfl)
theorem dX1_refers_119 : decode cX1_refers 119 = .ok (.iload_n 2, 1) := dk_28 (dk_at dksX1_refers_4 23 rfl rfl)
theorem dX1_refers_120 : decode cX1_refers 120 = .ok (.iastore, 1) := dk_79 (dk_at dksX1_refers_5 0 rfl rfl)
theorem dX1_refers_121 : decode cX1_refers 121 = .ok (.iconst 1, 1) := dk_4 (dk_at dksX1_refers_5 1 rfl rfl)
theorem dX1_refers_122 : decode cX1_refers 122 = .ok (.ireturn, 1) := dk_172 (dk_at dksX1_refers_5 2 rfl rfl)
abbrev cX1_at : ByteArray := prog_1_method_10_code
def yX1_at : MethodName := ⟨RX1, "at", "(I)LBilevelPages$Segment;"⟩
def dkwX1_at_1 : List UInt8 := [182, 0, 126, 192, 0, 43, 176]
abbrev dktX1_at_1 : List UInt8 := dkwX1_at_1 ++ []
def dkwX1_at_0 : List UInt8 := [27, 133, 9, 42, 180, 0, 39, 182, 0, 108, 133, 10, 101, 184, 0, 100, 184, 0, 123, 42, 180, 0, 39, 27]
abbrev dktX1_at_0 : List UInt8 := dkwX1_at_0 ++ dktX1_at_1
theorem dksX1_at_0 : cX1_at.data.toList.drop 0 = dktX1_at_0 := by decide +kernel
theorem dksX1_at_1 : cX1_at.data.toList.drop 24 = dktX1_at_1 := dk_seg dksX1_at_0 24 rfl rfl
theorem dX1_at_0 : decode cX1_at 0 = .ok (.iload_n 1, 1) := dk_27 (dk_at dksX1_at_0 0 rfl rfl)
theorem dX1_at_1 : decode cX1_at 1 = .ok (.i2l, 1) := dk_133 (dk_at dksX1_at_0 1 rfl rfl)
theorem dX1_at_2 : decode cX1_at 2 = .ok (.lconst 0, 1) := dk_9 (dk_at dksX1_at_0 2 rfl rfl)
theorem dX1_at_3 : decode cX1_at 3 = .ok (.aload_n 0, 1) := dk_42 (dk_at dksX1_at_0 3 rfl rfl)
theorem dX1_at_4 : decode cX1_at 4 = .ok (.getfield 39, 3) := dk_180 0 39 (dk_at dksX1_at_0 4 rfl rfl)
theorem dX1_at_7 : decode cX1_at 7 = .ok (.invokevirtual 108, 3) := dk_182 0 108 (dk_at dksX1_at_0 7 rfl rfl)
theorem dX1_at_10 : decode cX1_at 10 = .ok (.i2l, 1) := dk_133 (dk_at dksX1_at_0 10 rfl rfl)
theorem dX1_at_11 : decode cX1_at 11 = .ok (.lconst 1, 1) := dk_10 (dk_at dksX1_at_0 11 rfl rfl)
theorem dX1_at_12 : decode cX1_at 12 = .ok (.lsub, 1) := dk_101 (dk_at dksX1_at_0 12 rfl rfl)
theorem dX1_at_13 : decode cX1_at 13 = .ok (.invokestatic 100, 3) := dk_184 0 100 (dk_at dksX1_at_0 13 rfl rfl)
theorem dX1_at_16 : decode cX1_at 16 = .ok (.invokestatic 123, 3) := dk_184 0 123 (dk_at dksX1_at_0 16 rfl rfl)
theorem dX1_at_19 : decode cX1_at 19 = .ok (.aload_n 0, 1) := dk_42 (dk_at dksX1_at_0 19 rfl rfl)
theorem dX1_at_20 : decode cX1_at 20 = .ok (.getfield 39, 3) := dk_180 0 39 (dk_at dksX1_at_0 20 rfl rfl)
theorem dX1_at_23 : decode cX1_at 23 = .ok (.iload_n 1, 1) := dk_27 (dk_at dksX1_at_0 23 rfl rfl)
theorem dX1_at_24 : decode cX1_at 24 = .ok (.invokevirtual 126, 3) := dk_182 0 126 (dk_at dksX1_at_1 0 rfl rfl)
theorem dX1_at_27 : decode cX1_at 27 = .ok (.checkcast 43, 3) := dk_192 0 43 (dk_at dksX1_at_1 3 rfl rfl)
theorem dX1_at_30 : decode cX1_at 30 = .ok (.areturn, 1) := dk_176 (dk_at dksX1_at_1 6 rfl rfl)
abbrev cX1_wantIndex : ByteArray := prog_1_method_4_code
def yX1_wantIndex : MethodName := ⟨RX1, "wantIndex", "(Z)V"⟩
def dkwX1_wantIndex_0 : List UInt8 := [26, 154, 0, 11, 187, 0, 19, 89, 183, 0, 21, 191, 177]
abbrev dktX1_wantIndex_0 : List UInt8 := dkwX1_wantIndex_0 ++ []
theorem dksX1_wantIndex_0 : cX1_wantIndex.data.toList.drop 0 = dktX1_wantIndex_0 := by decide +kernel
theorem dX1_wantIndex_0 : decode cX1_wantIndex 0 = .ok (.iload_n 0, 1) := dk_26 (dk_at dksX1_wantIndex_0 0 rfl rfl)
theorem dX1_wantIndex_1 : decode cX1_wantIndex 1 = .ok (.ifCond .ne 11, 3) := dk_154 0 11 (dk_at dksX1_wantIndex_0 1 rfl rfl)
theorem dX1_wantIndex_4 : decode cX1_wantIndex 4 = .ok (.new 19, 3) := dk_187 0 19 (dk_at dksX1_wantIndex_0 4 rfl rfl)
theorem dX1_wantIndex_7 : decode cX1_wantIndex 7 = .ok (.dup, 1) := dk_89 (dk_at dksX1_wantIndex_0 7 rfl rfl)
theorem dX1_wantIndex_8 : decode cX1_wantIndex 8 = .ok (.invokespecial 21, 3) := dk_183 0 21 (dk_at dksX1_wantIndex_0 8 rfl rfl)
theorem dX1_wantIndex_11 : decode cX1_wantIndex 11 = .ok (.athrow, 1) := dk_191 (dk_at dksX1_wantIndex_0 11 rfl rfl)
theorem dX1_wantIndex_12 : decode cX1_wantIndex 12 = .ok (.return_, 1) := dk_177 (dk_at dksX1_wantIndex_0 12 rfl rfl)
abbrev cX1_letGo : ByteArray := prog_1_method_12_code
def yX1_letGo : MethodName := ⟨RX1, "letGo", "(II)Z"⟩
def dkwX1_letGo_1 : List UInt8 := [153, 0, 5, 3, 172, 45, 89, 180, 0, 149, 4, 21, 4, 120, 128, 181, 0, 149, 4, 172]
abbrev dktX1_letGo_1 : List UInt8 := dkwX1_letGo_1 ++ []
def dkwX1_letGo_0 : List UInt8 := [42, 27, 182, 0, 130, 78, 45, 28, 182, 0, 134, 54, 4, 21, 4, 155, 0, 11, 45, 28, 182, 0, 138]
abbrev dktX1_letGo_0 : List UInt8 := dkwX1_letGo_0 ++ dktX1_letGo_1
theorem dksX1_letGo_0 : cX1_letGo.data.toList.drop 0 = dktX1_letGo_0 := by decide +kernel
theorem dksX1_letGo_1 : cX1_letGo.data.toList.drop 23 = dktX1_letGo_1 := dk_seg dksX1_letGo_0 23 rfl rfl
theorem dX1_letGo_0 : decode cX1_letGo 0 = .ok (.aload_n 0, 1) := dk_42 (dk_at dksX1_letGo_0 0 rfl rfl)
theorem dX1_letGo_1 : decode cX1_letGo 1 = .ok (.iload_n 1, 1) := dk_27 (dk_at dksX1_letGo_0 1 rfl rfl)
theorem dX1_letGo_2 : decode cX1_letGo 2 = .ok (.invokevirtual 130, 3) := dk_182 0 130 (dk_at dksX1_letGo_0 2 rfl rfl)
theorem dX1_letGo_5 : decode cX1_letGo 5 = .ok (.astore_n 3, 1) := dk_78 (dk_at dksX1_letGo_0 5 rfl rfl)
theorem dX1_letGo_6 : decode cX1_letGo 6 = .ok (.aload_n 3, 1) := dk_45 (dk_at dksX1_letGo_0 6 rfl rfl)
theorem dX1_letGo_7 : decode cX1_letGo 7 = .ok (.iload_n 2, 1) := dk_28 (dk_at dksX1_letGo_0 7 rfl rfl)
theorem dX1_letGo_8 : decode cX1_letGo 8 = .ok (.invokevirtual 134, 3) := dk_182 0 134 (dk_at dksX1_letGo_0 8 rfl rfl)
theorem dX1_letGo_11 : decode cX1_letGo 11 = .ok (.istore 4, 2) := dk_54 4 (dk_at dksX1_letGo_0 11 rfl rfl)
theorem dX1_letGo_13 : decode cX1_letGo 13 = .ok (.iload 4, 2) := dk_21 4 (dk_at dksX1_letGo_0 13 rfl rfl)
theorem dX1_letGo_15 : decode cX1_letGo 15 = .ok (.ifCond .lt 11, 3) := dk_155 0 11 (dk_at dksX1_letGo_0 15 rfl rfl)
theorem dX1_letGo_18 : decode cX1_letGo 18 = .ok (.aload_n 3, 1) := dk_45 (dk_at dksX1_letGo_0 18 rfl rfl)
theorem dX1_letGo_19 : decode cX1_letGo 19 = .ok (.iload_n 2, 1) := dk_28 (dk_at dksX1_letGo_0 19 rfl rfl)
theorem dX1_letGo_20 : decode cX1_letGo 20 = .ok (.invokevirtual 138, 3) := dk_182 0 138 (dk_at dksX1_letGo_0 20 rfl rfl)
theorem dX1_letGo_23 : decode cX1_letGo 23 = .ok (.ifCond .eq 5, 3) := dk_153 0 5 (dk_at dksX1_letGo_1 0 rfl rfl)
theorem dX1_letGo_26 : decode cX1_letGo 26 = .ok (.iconst 0, 1) := dk_3 (dk_at dksX1_letGo_1 3 rfl rfl)
theorem dX1_letGo_27 : decode cX1_letGo 27 = .ok (.ireturn, 1) := dk_172 (dk_at dksX1_letGo_1 4 rfl rfl)
theorem dX1_letGo_28 : decode cX1_letGo 28 = .ok (.aload_n 3, 1) := dk_45 (dk_at dksX1_letGo_1 5 rfl rfl)
theorem dX1_letGo_29 : decode cX1_letGo 29 = .ok (.dup, 1) := dk_89 (dk_at dksX1_letGo_1 6 rfl rfl)
theorem dX1_letGo_30 : decode cX1_letGo 30 = .ok (.getfield 149, 3) := dk_180 0 149 (dk_at dksX1_letGo_1 7 rfl rfl)
theorem dX1_letGo_33 : decode cX1_letGo 33 = .ok (.iconst 1, 1) := dk_4 (dk_at dksX1_letGo_1 10 rfl rfl)
theorem dX1_letGo_34 : decode cX1_letGo 34 = .ok (.iload 4, 2) := dk_21 4 (dk_at dksX1_letGo_1 11 rfl rfl)
theorem dX1_letGo_36 : decode cX1_letGo 36 = .ok (.ishl, 1) := dk_120 (dk_at dksX1_letGo_1 13 rfl rfl)
theorem dX1_letGo_37 : decode cX1_letGo 37 = .ok (.ior, 1) := dk_128 (dk_at dksX1_letGo_1 14 rfl rfl)
theorem dX1_letGo_38 : decode cX1_letGo 38 = .ok (.putfield 149, 3) := dk_181 0 149 (dk_at dksX1_letGo_1 15 rfl rfl)
theorem dX1_letGo_41 : decode cX1_letGo 41 = .ok (.iconst 1, 1) := dk_4 (dk_at dksX1_letGo_1 18 rfl rfl)
theorem dX1_letGo_42 : decode cX1_letGo 42 = .ok (.ireturn, 1) := dk_172 (dk_at dksX1_letGo_1 19 rfl rfl)
abbrev cX1_byteOf : ByteArray := prog_1_method_13_code
def yX1_byteOf : MethodName := ⟨RX1, "byteOf", "(II)I"⟩
def dkwX1_byteOf_2 : List UInt8 := [180, 0, 167, 45, 89, 180, 0, 164, 90, 4, 96, 181, 0, 164, 28, 145, 84, 45, 180, 0, 164, 172]
abbrev dktX1_byteOf_2 : List UInt8 := dkwX1_byteOf_2 ++ []
def dkwX1_byteOf_1 : List UInt8 := [184, 0, 100, 184, 0, 104, 45, 180, 0, 164, 16, 20, 162, 0, 7, 4, 167, 0, 4, 3, 184, 0, 112, 45]
abbrev dktX1_byteOf_1 : List UInt8 := dkwX1_byteOf_1 ++ dktX1_byteOf_2
def dkwX1_byteOf_0 : List UInt8 := [42, 27, 182, 0, 130, 78, 45, 180, 0, 151, 182, 0, 155, 184, 0, 159, 28, 133, 9, 20, 0, 162]
abbrev dktX1_byteOf_0 : List UInt8 := dkwX1_byteOf_0 ++ dktX1_byteOf_1
theorem dksX1_byteOf_0 : cX1_byteOf.data.toList.drop 0 = dktX1_byteOf_0 := by decide +kernel
theorem dksX1_byteOf_1 : cX1_byteOf.data.toList.drop 22 = dktX1_byteOf_1 := dk_seg dksX1_byteOf_0 22 rfl rfl
theorem dksX1_byteOf_2 : cX1_byteOf.data.toList.drop 46 = dktX1_byteOf_2 := dk_seg dksX1_byteOf_1 24 rfl rfl
theorem dX1_byteOf_0 : decode cX1_byteOf 0 = .ok (.aload_n 0, 1) := dk_42 (dk_at dksX1_byteOf_0 0 rfl rfl)
theorem dX1_byteOf_1 : decode cX1_byteOf 1 = .ok (.iload_n 1, 1) := dk_27 (dk_at dksX1_byteOf_0 1 rfl rfl)
theorem dX1_byteOf_2 : decode cX1_byteOf 2 = .ok (.invokevirtual 130, 3) := dk_182 0 130 (dk_at dksX1_byteOf_0 2 rfl rfl)
theorem dX1_byteOf_5 : decode cX1_byteOf 5 = .ok (.astore_n 3, 1) := dk_78 (dk_at dksX1_byteOf_0 5 rfl rfl)
theorem dX1_byteOf_6 : decode cX1_byteOf 6 = .ok (.aload_n 3, 1) := dk_45 (dk_at dksX1_byteOf_0 6 rfl rfl)
theorem dX1_byteOf_7 : decode cX1_byteOf 7 = .ok (.getfield 151, 3) := dk_180 0 151 (dk_at dksX1_byteOf_0 7 rfl rfl)
theorem dX1_byteOf_10 : decode cX1_byteOf 10 = .ok (.invokevirtual 155, 3) := dk_182 0 155 (dk_at dksX1_byteOf_0 10 rfl rfl)
theorem dX1_byteOf_13 : decode cX1_byteOf 13 = .ok (.invokestatic 159, 3) := dk_184 0 159 (dk_at dksX1_byteOf_0 13 rfl rfl)
theorem dX1_byteOf_16 : decode cX1_byteOf 16 = .ok (.iload_n 2, 1) := dk_28 (dk_at dksX1_byteOf_0 16 rfl rfl)
theorem dX1_byteOf_17 : decode cX1_byteOf 17 = .ok (.i2l, 1) := dk_133 (dk_at dksX1_byteOf_0 17 rfl rfl)
theorem dX1_byteOf_18 : decode cX1_byteOf 18 = .ok (.lconst 0, 1) := dk_9 (dk_at dksX1_byteOf_0 18 rfl rfl)
theorem dX1_byteOf_19 : decode cX1_byteOf 19 = .ok (.ldc2_w 162, 3) := dk_20 0 162 (dk_at dksX1_byteOf_0 19 rfl rfl)
theorem dX1_byteOf_22 : decode cX1_byteOf 22 = .ok (.invokestatic 100, 3) := dk_184 0 100 (dk_at dksX1_byteOf_1 0 rfl rfl)
theorem dX1_byteOf_25 : decode cX1_byteOf 25 = .ok (.invokestatic 104, 3) := dk_184 0 104 (dk_at dksX1_byteOf_1 3 rfl rfl)
theorem dX1_byteOf_28 : decode cX1_byteOf 28 = .ok (.aload_n 3, 1) := dk_45 (dk_at dksX1_byteOf_1 6 rfl rfl)
theorem dX1_byteOf_29 : decode cX1_byteOf 29 = .ok (.getfield 164, 3) := dk_180 0 164 (dk_at dksX1_byteOf_1 7 rfl rfl)
theorem dX1_byteOf_32 : decode cX1_byteOf 32 = .ok (.bipush 20, 2) := dk_16 20 (dk_at dksX1_byteOf_1 10 rfl rfl)
theorem dX1_byteOf_34 : decode cX1_byteOf 34 = .ok (.if_icmp .ge 7, 3) := dk_162 0 7 (dk_at dksX1_byteOf_1 12 rfl rfl)
theorem dX1_byteOf_37 : decode cX1_byteOf 37 = .ok (.iconst 1, 1) := dk_4 (dk_at dksX1_byteOf_1 15 rfl rfl)
theorem dX1_byteOf_38 : decode cX1_byteOf 38 = .ok (.goto 4, 3) := dk_167 0 4 (dk_at dksX1_byteOf_1 16 rfl rfl)
theorem dX1_byteOf_41 : decode cX1_byteOf 41 = .ok (.iconst 0, 1) := dk_3 (dk_at dksX1_byteOf_1 19 rfl rfl)
theorem dX1_byteOf_42 : decode cX1_byteOf 42 = .ok (.invokestatic 112, 3) := dk_184 0 112 (dk_at dksX1_byteOf_1 20 rfl rfl)
theorem dX1_byteOf_45 : decode cX1_byteOf 45 = .ok (.aload_n 3, 1) := dk_45 (dk_at dksX1_byteOf_1 23 rfl rfl)
theorem dX1_byteOf_46 : decode cX1_byteOf 46 = .ok (.getfield 167, 3) := dk_180 0 167 (dk_at dksX1_byteOf_2 0 rfl rfl)
theorem dX1_byteOf_49 : decode cX1_byteOf 49 = .ok (.aload_n 3, 1) := dk_45 (dk_at dksX1_byteOf_2 3 rfl rfl)
theorem dX1_byteOf_50 : decode cX1_byteOf 50 = .ok (.dup, 1) := dk_89 (dk_at dksX1_byteOf_2 4 rfl rfl)
theorem dX1_byteOf_51 : decode cX1_byteOf 51 = .ok (.getfield 164, 3) := dk_180 0 164 (dk_at dksX1_byteOf_2 5 rfl rfl)
theorem dX1_byteOf_54 : decode cX1_byteOf 54 = .ok (.dup_x1, 1) := dk_90 (dk_at dksX1_byteOf_2 8 rfl rfl)
theorem dX1_byteOf_55 : decode cX1_byteOf 55 = .ok (.iconst 1, 1) := dk_4 (dk_at dksX1_byteOf_2 9 rfl rfl)
theorem dX1_byteOf_56 : decode cX1_byteOf 56 = .ok (.iadd, 1) := dk_96 (dk_at dksX1_byteOf_2 10 rfl rfl)
theorem dX1_byteOf_57 : decode cX1_byteOf 57 = .ok (.putfield 164, 3) := dk_181 0 164 (dk_at dksX1_byteOf_2 11 rfl rfl)
theorem dX1_byteOf_60 : decode cX1_byteOf 60 = .ok (.iload_n 2, 1) := dk_28 (dk_at dksX1_byteOf_2 14 rfl rfl)
theorem dX1_byteOf_61 : decode cX1_byteOf 61 = .ok (.i2b, 1) := dk_145 (dk_at dksX1_byteOf_2 15 rfl rfl)
theorem dX1_byteOf_62 : decode cX1_byteOf 62 = .ok (.bastore, 1) := dk_84 (dk_at dksX1_byteOf_2 16 rfl rfl)
theorem dX1_byteOf_63 : decode cX1_byteOf 63 = .ok (.aload_n 3, 1) := dk_45 (dk_at dksX1_byteOf_2 17 rfl rfl)
theorem dX1_byteOf_64 : decode cX1_byteOf 64 = .ok (.getfield 164, 3) := dk_180 0 164 (dk_at dksX1_byteOf_2 18 rfl rfl)
theorem dX1_byteOf_67 : decode cX1_byteOf 67 = .ok (.ireturn, 1) := dk_172 (dk_at dksX1_byteOf_2 21 rfl rfl)
abbrev cX1_allow : ByteArray := prog_1_method_5_code
def yX1_allow : MethodName := ⟨RX1, "allow", "(Z)V"⟩
def dkwX1_allow_0 : List UInt8 := [26, 154, 0, 11, 187, 0, 22, 89, 183, 0, 24, 191, 177]
abbrev dktX1_allow_0 : List UInt8 := dkwX1_allow_0 ++ []
theorem dksX1_allow_0 : cX1_allow.data.toList.drop 0 = dktX1_allow_0 := by decide +kernel
theorem dX1_allow_0 : decode cX1_allow 0 = .ok (.iload_n 0, 1) := dk_26 (dk_at dksX1_allow_0 0 rfl rfl)
theorem dX1_allow_1 : decode cX1_allow 1 = .ok (.ifCond .ne 11, 3) := dk_154 0 11 (dk_at dksX1_allow_0 1 rfl rfl)
theorem dX1_allow_4 : decode cX1_allow 4 = .ok (.new 22, 3) := dk_187 0 22 (dk_at dksX1_allow_0 4 rfl rfl)
theorem dX1_allow_7 : decode cX1_allow 7 = .ok (.dup, 1) := dk_89 (dk_at dksX1_allow_0 7 rfl rfl)
theorem dX1_allow_8 : decode cX1_allow 8 = .ok (.invokespecial 24, 3) := dk_183 0 24 (dk_at dksX1_allow_0 8 rfl rfl)
theorem dX1_allow_11 : decode cX1_allow 11 = .ok (.athrow, 1) := dk_191 (dk_at dksX1_allow_0 11 rfl rfl)
theorem dX1_allow_12 : decode cX1_allow 12 = .ok (.return_, 1) := dk_177 (dk_at dksX1_allow_0 12 rfl rfl)
abbrev cX1_number : ByteArray := prog_1_method_14_code
def yX1_number : MethodName := ⟨RX1, "number", "(III)I"⟩
def dkwX1_number_3 : List UInt8 := [21, 5, 172]
abbrev dktX1_number_3 : List UInt8 := dkwX1_number_3 ++ []
def dkwX1_number_2 : List UInt8 := [133, 184, 0, 100, 184, 0, 104, 25, 4, 180, 0, 179, 28, 46, 54, 5, 25, 4, 180, 0, 179, 28, 29, 79]
abbrev dktX1_number_2 : List UInt8 := dkwX1_number_2 ++ dktX1_number_3
def dkwX1_number_1 : List UInt8 := [184, 0, 104, 29, 133, 25, 4, 180, 0, 151, 28, 182, 0, 173, 133, 25, 4, 180, 0, 151, 28, 182, 0, 176]
abbrev dktX1_number_1 : List UInt8 := dkwX1_number_1 ++ dktX1_number_2
def dkwX1_number_0 : List UInt8 := [42, 27, 182, 0, 130, 58, 4, 28, 133, 9, 25, 4, 180, 0, 151, 180, 0, 170, 4, 100, 133, 184, 0, 100]
abbrev dktX1_number_0 : List UInt8 := dkwX1_number_0 ++ dktX1_number_1
theorem dksX1_number_0 : cX1_number.data.toList.drop 0 = dktX1_number_0 := by decide +kernel
theorem dksX1_number_1 : cX1_number.data.toList.drop 24 = dktX1_number_1 := dk_seg dksX1_number_0 24 rfl rfl
theorem dksX1_number_2 : cX1_number.data.toList.drop 48 = dktX1_number_2 := dk_seg dksX1_number_1 24 rfl rfl
theorem dksX1_number_3 : cX1_number.data.toList.drop 72 = dktX1_number_3 := dk_seg dksX1_number_2 24 rfl rfl
theorem dX1_number_0 : decode cX1_number 0 = .ok (.aload_n 0, 1) := dk_42 (dk_at dksX1_number_0 0 rfl rfl)
theorem dX1_number_1 : decode cX1_number 1 = .ok (.iload_n 1, 1) := dk_27 (dk_at dksX1_number_0 1 rfl rfl)
theorem dX1_number_2 : decode cX1_number 2 = .ok (.invokevirtual 130, 3) := dk_182 0 130 (dk_at dksX1_number_0 2 rfl rfl)
theorem dX1_number_5 : decode cX1_number 5 = .ok (.astore 4, 2) := dk_58 4 (dk_at dksX1_number_0 5 rfl rfl)
theorem dX1_number_7 : decode cX1_number 7 = .ok (.iload_n 2, 1) := dk_28 (dk_at dksX1_number_0 7 rfl rfl)
theorem dX1_number_8 : decode cX1_number 8 = .ok (.i2l, 1) := dk_133 (dk_at dksX1_number_0 8 rfl rfl)
theorem dX1_number_9 : decode cX1_number 9 = .ok (.lconst 0, 1) := dk_9 (dk_at dksX1_number_0 9 rfl rfl)
theorem dX1_number_10 : decode cX1_number 10 = .ok (.aload 4, 2) := dk_25 4 (dk_at dksX1_number_0 10 rfl rfl)
theorem dX1_number_12 : decode cX1_number 12 = .ok (.getfield 151, 3) := dk_180 0 151 (dk_at dksX1_number_0 12 rfl rfl)
theorem dX1_number_15 : decode cX1_number 15 = .ok (.getfield 170, 3) := dk_180 0 170 (dk_at dksX1_number_0 15 rfl rfl)
theorem dX1_number_18 : decode cX1_number 18 = .ok (.iconst 1, 1) := dk_4 (dk_at dksX1_number_0 18 rfl rfl)
theorem dX1_number_19 : decode cX1_number 19 = .ok (.isub, 1) := dk_100 (dk_at dksX1_number_0 19 rfl rfl)
theorem dX1_number_20 : decode cX1_number 20 = .ok (.i2l, 1) := dk_133 (dk_at dksX1_number_0 20 rfl rfl)
theorem dX1_number_21 : decode cX1_number 21 = .ok (.invokestatic 100, 3) := dk_184 0 100 (dk_at dksX1_number_0 21 rfl rfl)
theorem dX1_number_24 : decode cX1_number 24 = .ok (.invokestatic 104, 3) := dk_184 0 104 (dk_at dksX1_number_1 0 rfl rfl)
theorem dX1_number_27 : decode cX1_number 27 = .ok (.iload_n 3, 1) := dk_29 (dk_at dksX1_number_1 3 rfl rfl)
theorem dX1_number_28 : decode cX1_number 28 = .ok (.i2l, 1) := dk_133 (dk_at dksX1_number_1 4 rfl rfl)
theorem dX1_number_29 : decode cX1_number 29 = .ok (.aload 4, 2) := dk_25 4 (dk_at dksX1_number_1 5 rfl rfl)
theorem dX1_number_31 : decode cX1_number 31 = .ok (.getfield 151, 3) := dk_180 0 151 (dk_at dksX1_number_1 7 rfl rfl)
theorem dX1_number_34 : decode cX1_number 34 = .ok (.iload_n 2, 1) := dk_28 (dk_at dksX1_number_1 10 rfl rfl)
theorem dX1_number_35 : decode cX1_number 35 = .ok (.invokevirtual 173, 3) := dk_182 0 173 (dk_at dksX1_number_1 11 rfl rfl)
theorem dX1_number_38 : decode cX1_number 38 = .ok (.i2l, 1) := dk_133 (dk_at dksX1_number_1 14 rfl rfl)
theorem dX1_number_39 : decode cX1_number 39 = .ok (.aload 4, 2) := dk_25 4 (dk_at dksX1_number_1 15 rfl rfl)
theorem dX1_number_41 : decode cX1_number 41 = .ok (.getfield 151, 3) := dk_180 0 151 (dk_at dksX1_number_1 17 rfl rfl)
theorem dX1_number_44 : decode cX1_number 44 = .ok (.iload_n 2, 1) := dk_28 (dk_at dksX1_number_1 20 rfl rfl)
theorem dX1_number_45 : decode cX1_number 45 = .ok (.invokevirtual 176, 3) := dk_182 0 176 (dk_at dksX1_number_1 21 rfl rfl)
theorem dX1_number_48 : decode cX1_number 48 = .ok (.i2l, 1) := dk_133 (dk_at dksX1_number_2 0 rfl rfl)
theorem dX1_number_49 : decode cX1_number 49 = .ok (.invokestatic 100, 3) := dk_184 0 100 (dk_at dksX1_number_2 1 rfl rfl)
theorem dX1_number_52 : decode cX1_number 52 = .ok (.invokestatic 104, 3) := dk_184 0 104 (dk_at dksX1_number_2 4 rfl rfl)
theorem dX1_number_55 : decode cX1_number 55 = .ok (.aload 4, 2) := dk_25 4 (dk_at dksX1_number_2 7 rfl rfl)
theorem dX1_number_57 : decode cX1_number 57 = .ok (.getfield 179, 3) := dk_180 0 179 (dk_at dksX1_number_2 9 rfl rfl)
theorem dX1_number_60 : decode cX1_number 60 = .ok (.iload_n 2, 1) := dk_28 (dk_at dksX1_number_2 12 rfl rfl)
theorem dX1_number_61 : decode cX1_number 61 = .ok (.iaload, 1) := dk_46 (dk_at dksX1_number_2 13 rfl rfl)
theorem dX1_number_62 : decode cX1_number 62 = .ok (.istore 5, 2) := dk_54 5 (dk_at dksX1_number_2 14 rfl rfl)
theorem dX1_number_64 : decode cX1_number 64 = .ok (.aload 4, 2) := dk_25 4 (dk_at dksX1_number_2 16 rfl rfl)
theorem dX1_number_66 : decode cX1_number 66 = .ok (.getfield 179, 3) := dk_180 0 179 (dk_at dksX1_number_2 18 rfl rfl)
theorem dX1_number_69 : decode cX1_number 69 = .ok (.iload_n 2, 1) := dk_28 (dk_at dksX1_number_2 21 rfl rfl)
theorem dX1_number_70 : decode cX1_number 70 = .ok (.iload_n 3, 1) := dk_29 (dk_at dksX1_number_2 22 rfl rfl)
theorem dX1_number_71 : decode cX1_number 71 = .ok (.iastore, 1) := dk_79 (dk_at dksX1_number_2 23 rfl rfl)
theorem dX1_number_72 : decode cX1_number 72 = .ok (.iload 5, 2) := dk_21 5 (dk_at dksX1_number_3 0 rfl rfl)
theorem dX1_number_74 : decode cX1_number 74 = .ok (.ireturn, 1) := dk_172 (dk_at dksX1_number_3 2 rfl rfl)
abbrev cX1_pixel : ByteArray := prog_1_method_15_code
def yX1_pixel : MethodName := ⟨RX1, "pixel", "(IIIZ)Z"⟩
def dkwX1_pixel_6 : List UInt8 := [4, 167, 0, 4, 3, 172]
abbrev dktX1_pixel_6 : List UInt8 := dkwX1_pixel_6 ++ []
def dkwX1_pixel_5 : List UInt8 := [167, 0, 16, 25, 5, 180, 0, 190, 29, 46, 4, 28, 120, 2, 130, 126, 79, 21, 6, 21, 4, 159, 0, 7]
abbrev dktX1_pixel_5 : List UInt8 := dkwX1_pixel_5 ++ dktX1_pixel_6
def dkwX1_pixel_4 : List UInt8 := [54, 6, 25, 5, 180, 0, 190, 29, 21, 4, 153, 0, 17, 25, 5, 180, 0, 190, 29, 46, 4, 28, 120, 128]
abbrev dktX1_pixel_4 : List UInt8 := dkwX1_pixel_4 ++ dktX1_pixel_5
def dkwX1_pixel_3 : List UInt8 := [184, 0, 159, 25, 5, 180, 0, 190, 29, 46, 28, 122, 4, 126, 4, 160, 0, 7, 4, 167, 0, 4, 3]
abbrev dktX1_pixel_3 : List UInt8 := dkwX1_pixel_3 ++ dktX1_pixel_4
def dkwX1_pixel_2 : List UInt8 := [184, 0, 100, 153, 0, 7, 4, 167, 0, 4, 3, 184, 0, 123, 25, 5, 180, 0, 151, 182, 0, 181]
abbrev dktX1_pixel_2 : List UInt8 := dkwX1_pixel_2 ++ dktX1_pixel_3
def dkwX1_pixel_1 : List UInt8 := [182, 0, 184, 4, 100, 133, 184, 0, 100, 153, 0, 24, 29, 133, 9, 25, 5, 182, 0, 187, 4, 100, 133]
abbrev dktX1_pixel_1 : List UInt8 := dkwX1_pixel_1 ++ dktX1_pixel_2
def dkwX1_pixel_0 : List UInt8 := [42, 27, 182, 0, 130, 58, 5, 25, 5, 180, 0, 151, 182, 0, 181, 153, 0, 37, 28, 133, 9, 25, 5]
abbrev dktX1_pixel_0 : List UInt8 := dkwX1_pixel_0 ++ dktX1_pixel_1
theorem dksX1_pixel_0 : cX1_pixel.data.toList.drop 0 = dktX1_pixel_0 := by decide +kernel
theorem dksX1_pixel_1 : cX1_pixel.data.toList.drop 23 = dktX1_pixel_1 := dk_seg dksX1_pixel_0 23 rfl rfl
theorem dksX1_pixel_2 : cX1_pixel.data.toList.drop 46 = dktX1_pixel_2 := dk_seg dksX1_pixel_1 23 rfl rfl
theorem dksX1_pixel_3 : cX1_pixel.data.toList.drop 68 = dktX1_pixel_3 := dk_seg dksX1_pixel_2 22 rfl rfl
theorem dksX1_pixel_4 : cX1_pixel.data.toList.drop 91 = dktX1_pixel_4 := dk_seg dksX1_pixel_3 23 rfl rfl
theorem dksX1_pixel_5 : cX1_pixel.data.toList.drop 115 = dktX1_pixel_5 := dk_seg dksX1_pixel_4 24 rfl rfl
theorem dksX1_pixel_6 : cX1_pixel.data.toList.drop 139 = dktX1_pixel_6 := dk_seg dksX1_pixel_5 24 rfl rfl
theorem dX1_pixel_0 : decode cX1_pixel 0 = .ok (.aload_n 0, 1) := dk_42 (dk_at dksX1_pixel_0 0 rfl rfl)
theorem dX1_pixel_1 : decode cX1_pixel 1 = .ok (.iload_n 1, 1) := dk_27 (dk_at dksX1_pixel_0 1 rfl rfl)
theorem dX1_pixel_2 : decode cX1_pixel 2 = .ok (.invokevirtual 130, 3) := dk_182 0 130 (dk_at dksX1_pixel_0 2 rfl rfl)
theorem dX1_pixel_5 : decode cX1_pixel 5 = .ok (.astore 5, 2) := dk_58 5 (dk_at dksX1_pixel_0 5 rfl rfl)
theorem dX1_pixel_7 : decode cX1_pixel 7 = .ok (.aload 5, 2) := dk_25 5 (dk_at dksX1_pixel_0 7 rfl rfl)
theorem dX1_pixel_9 : decode cX1_pixel 9 = .ok (.getfield 151, 3) := dk_180 0 151 (dk_at dksX1_pixel_0 9 rfl rfl)
theorem dX1_pixel_12 : decode cX1_pixel 12 = .ok (.invokevirtual 181, 3) := dk_182 0 181 (dk_at dksX1_pixel_0 12 rfl rfl)
theorem dX1_pixel_15 : decode cX1_pixel 15 = .ok (.ifCond .eq 37, 3) := dk_153 0 37 (dk_at dksX1_pixel_0 15 rfl rfl)
theorem dX1_pixel_18 : decode cX1_pixel 18 = .ok (.iload_n 2, 1) := dk_28 (dk_at dksX1_pixel_0 18 rfl rfl)
theorem dX1_pixel_19 : decode cX1_pixel 19 = .ok (.i2l, 1) := dk_133 (dk_at dksX1_pixel_0 19 rfl rfl)
theorem dX1_pixel_20 : decode cX1_pixel 20 = .ok (.lconst 0, 1) := dk_9 (dk_at dksX1_pixel_0 20 rfl rfl)
theorem dX1_pixel_21 : decode cX1_pixel 21 = .ok (.aload 5, 2) := dk_25 5 (dk_at dksX1_pixel_0 21 rfl rfl)
theorem dX1_pixel_23 : decode cX1_pixel 23 = .ok (.invokevirtual 184, 3) := dk_182 0 184 (dk_at dksX1_pixel_1 0 rfl rfl)
theorem dX1_pixel_26 : decode cX1_pixel 26 = .ok (.iconst 1, 1) := dk_4 (dk_at dksX1_pixel_1 3 rfl rfl)
theorem dX1_pixel_27 : decode cX1_pixel 27 = .ok (.isub, 1) := dk_100 (dk_at dksX1_pixel_1 4 rfl rfl)
theorem dX1_pixel_28 : decode cX1_pixel 28 = .ok (.i2l, 1) := dk_133 (dk_at dksX1_pixel_1 5 rfl rfl)
theorem dX1_pixel_29 : decode cX1_pixel 29 = .ok (.invokestatic 100, 3) := dk_184 0 100 (dk_at dksX1_pixel_1 6 rfl rfl)
theorem dX1_pixel_32 : decode cX1_pixel 32 = .ok (.ifCond .eq 24, 3) := dk_153 0 24 (dk_at dksX1_pixel_1 9 rfl rfl)
theorem dX1_pixel_35 : decode cX1_pixel 35 = .ok (.iload_n 3, 1) := dk_29 (dk_at dksX1_pixel_1 12 rfl rfl)
theorem dX1_pixel_36 : decode cX1_pixel 36 = .ok (.i2l, 1) := dk_133 (dk_at dksX1_pixel_1 13 rfl rfl)
theorem dX1_pixel_37 : decode cX1_pixel 37 = .ok (.lconst 0, 1) := dk_9 (dk_at dksX1_pixel_1 14 rfl rfl)
theorem dX1_pixel_38 : decode cX1_pixel 38 = .ok (.aload 5, 2) := dk_25 5 (dk_at dksX1_pixel_1 15 rfl rfl)
theorem dX1_pixel_40 : decode cX1_pixel 40 = .ok (.invokevirtual 187, 3) := dk_182 0 187 (dk_at dksX1_pixel_1 17 rfl rfl)
theorem dX1_pixel_43 : decode cX1_pixel 43 = .ok (.iconst 1, 1) := dk_4 (dk_at dksX1_pixel_1 20 rfl rfl)
theorem dX1_pixel_44 : decode cX1_pixel 44 = .ok (.isub, 1) := dk_100 (dk_at dksX1_pixel_1 21 rfl rfl)
theorem dX1_pixel_45 : decode cX1_pixel 45 = .ok (.i2l, 1) := dk_133 (dk_at dksX1_pixel_1 22 rfl rfl)
theorem dX1_pixel_46 : decode cX1_pixel 46 = .ok (.invokestatic 100, 3) := dk_184 0 100 (dk_at dksX1_pixel_2 0 rfl rfl)
theorem dX1_pixel_49 : decode cX1_pixel 49 = .ok (.ifCond .eq 7, 3) := dk_153 0 7 (dk_at dksX1_pixel_2 3 rfl rfl)
theorem dX1_pixel_52 : decode cX1_pixel 52 = .ok (.iconst 1, 1) := dk_4 (dk_at dksX1_pixel_2 6 rfl rfl)
theorem dX1_pixel_53 : decode cX1_pixel 53 = .ok (.goto 4, 3) := dk_167 0 4 (dk_at dksX1_pixel_2 7 rfl rfl)
theorem dX1_pixel_56 : decode cX1_pixel 56 = .ok (.iconst 0, 1) := dk_3 (dk_at dksX1_pixel_2 10 rfl rfl)
theorem dX1_pixel_57 : decode cX1_pixel 57 = .ok (.invokestatic 123, 3) := dk_184 0 123 (dk_at dksX1_pixel_2 11 rfl rfl)
theorem dX1_pixel_60 : decode cX1_pixel 60 = .ok (.aload 5, 2) := dk_25 5 (dk_at dksX1_pixel_2 14 rfl rfl)
theorem dX1_pixel_62 : decode cX1_pixel 62 = .ok (.getfield 151, 3) := dk_180 0 151 (dk_at dksX1_pixel_2 16 rfl rfl)
theorem dX1_pixel_65 : decode cX1_pixel 65 = .ok (.invokevirtual 181, 3) := dk_182 0 181 (dk_at dksX1_pixel_2 19 rfl rfl)
theorem dX1_pixel_68 : decode cX1_pixel 68 = .ok (.invokestatic 159, 3) := dk_184 0 159 (dk_at dksX1_pixel_3 0 rfl rfl)
theorem dX1_pixel_71 : decode cX1_pixel 71 = .ok (.aload 5, 2) := dk_25 5 (dk_at dksX1_pixel_3 3 rfl rfl)
theorem dX1_pixel_73 : decode cX1_pixel 73 = .ok (.getfield 190, 3) := dk_180 0 190 (dk_at dksX1_pixel_3 5 rfl rfl)
theorem dX1_pixel_76 : decode cX1_pixel 76 = .ok (.iload_n 3, 1) := dk_29 (dk_at dksX1_pixel_3 8 rfl rfl)
theorem dX1_pixel_77 : decode cX1_pixel 77 = .ok (.iaload, 1) := dk_46 (dk_at dksX1_pixel_3 9 rfl rfl)
theorem dX1_pixel_78 : decode cX1_pixel 78 = .ok (.iload_n 2, 1) := dk_28 (dk_at dksX1_pixel_3 10 rfl rfl)
theorem dX1_pixel_79 : decode cX1_pixel 79 = .ok (.ishr, 1) := dk_122 (dk_at dksX1_pixel_3 11 rfl rfl)
theorem dX1_pixel_80 : decode cX1_pixel 80 = .ok (.iconst 1, 1) := dk_4 (dk_at dksX1_pixel_3 12 rfl rfl)
theorem dX1_pixel_81 : decode cX1_pixel 81 = .ok (.iand, 1) := dk_126 (dk_at dksX1_pixel_3 13 rfl rfl)
theorem dX1_pixel_82 : decode cX1_pixel 82 = .ok (.iconst 1, 1) := dk_4 (dk_at dksX1_pixel_3 14 rfl rfl)
theorem dX1_pixel_83 : decode cX1_pixel 83 = .ok (.if_icmp .ne 7, 3) := dk_160 0 7 (dk_at dksX1_pixel_3 15 rfl rfl)
theorem dX1_pixel_86 : decode cX1_pixel 86 = .ok (.iconst 1, 1) := dk_4 (dk_at dksX1_pixel_3 18 rfl rfl)
theorem dX1_pixel_87 : decode cX1_pixel 87 = .ok (.goto 4, 3) := dk_167 0 4 (dk_at dksX1_pixel_3 19 rfl rfl)
theorem dX1_pixel_90 : decode cX1_pixel 90 = .ok (.iconst 0, 1) := dk_3 (dk_at dksX1_pixel_3 22 rfl rfl)
theorem dX1_pixel_91 : decode cX1_pixel 91 = .ok (.istore 6, 2) := dk_54 6 (dk_at dksX1_pixel_4 0 rfl rfl)
theorem dX1_pixel_93 : decode cX1_pixel 93 = .ok (.aload 5, 2) := dk_25 5 (dk_at dksX1_pixel_4 2 rfl rfl)
theorem dX1_pixel_95 : decode cX1_pixel 95 = .ok (.getfield 190, 3) := dk_180 0 190 (dk_at dksX1_pixel_4 4 rfl rfl)
theorem dX1_pixel_98 : decode cX1_pixel 98 = .ok (.iload_n 3, 1) := dk_29 (dk_at dksX1_pixel_4 7 rfl rfl)
theorem dX1_pixel_99 : decode cX1_pixel 99 = .ok (.iload 4, 2) := dk_21 4 (dk_at dksX1_pixel_4 8 rfl rfl)
theorem dX1_pixel_101 : decode cX1_pixel 101 = .ok (.ifCond .eq 17, 3) := dk_153 0 17 (dk_at dksX1_pixel_4 10 rfl rfl)
theorem dX1_pixel_104 : decode cX1_pixel 104 = .ok (.aload 5, 2) := dk_25 5 (dk_at dksX1_pixel_4 13 rfl rfl)
theorem dX1_pixel_106 : decode cX1_pixel 106 = .ok (.getfield 190, 3) := dk_180 0 190 (dk_at dksX1_pixel_4 15 rfl rfl)
theorem dX1_pixel_109 : decode cX1_pixel 109 = .ok (.iload_n 3, 1) := dk_29 (dk_at dksX1_pixel_4 18 rfl rfl)
theorem dX1_pixel_110 : decode cX1_pixel 110 = .ok (.iaload, 1) := dk_46 (dk_at dksX1_pixel_4 19 rfl rfl)
theorem dX1_pixel_111 : decode cX1_pixel 111 = .ok (.iconst 1, 1) := dk_4 (dk_at dksX1_pixel_4 20 rfl rfl)
theorem dX1_pixel_112 : decode cX1_pixel 112 = .ok (.iload_n 2, 1) := dk_28 (dk_at dksX1_pixel_4 21 rfl rfl)
theorem dX1_pixel_113 : decode cX1_pixel 113 = .ok (.ishl, 1) := dk_120 (dk_at dksX1_pixel_4 22 rfl rfl)
theorem dX1_pixel_114 : decode cX1_pixel 114 = .ok (.ior, 1) := dk_128 (dk_at dksX1_pixel_4 23 rfl rfl)
theorem dX1_pixel_115 : decode cX1_pixel 115 = .ok (.goto 16, 3) := dk_167 0 16 (dk_at dksX1_pixel_5 0 rfl rfl)
theorem dX1_pixel_118 : decode cX1_pixel 118 = .ok (.aload 5, 2) := dk_25 5 (dk_at dksX1_pixel_5 3 rfl rfl)
theorem dX1_pixel_120 : decode cX1_pixel 120 = .ok (.getfield 190, 3) := dk_180 0 190 (dk_at dksX1_pixel_5 5 rfl rfl)
theorem dX1_pixel_123 : decode cX1_pixel 123 = .ok (.iload_n 3, 1) := dk_29 (dk_at dksX1_pixel_5 8 rfl rfl)
theorem dX1_pixel_124 : decode cX1_pixel 124 = .ok (.iaload, 1) := dk_46 (dk_at dksX1_pixel_5 9 rfl rfl)
theorem dX1_pixel_125 : decode cX1_pixel 125 = .ok (.iconst 1, 1) := dk_4 (dk_at dksX1_pixel_5 10 rfl rfl)
theorem dX1_pixel_126 : decode cX1_pixel 126 = .ok (.iload_n 2, 1) := dk_28 (dk_at dksX1_pixel_5 11 rfl rfl)
theorem dX1_pixel_127 : decode cX1_pixel 127 = .ok (.ishl, 1) := dk_120 (dk_at dksX1_pixel_5 12 rfl rfl)
theorem dX1_pixel_128 : decode cX1_pixel 128 = .ok (.iconst (-1), 1) := dk_2 (dk_at dksX1_pixel_5 13 rfl rfl)
theorem dX1_pixel_129 : decode cX1_pixel 129 = .ok (.ixor, 1) := dk_130 (dk_at dksX1_pixel_5 14 rfl rfl)
theorem dX1_pixel_130 : decode cX1_pixel 130 = .ok (.iand, 1) := dk_126 (dk_at dksX1_pixel_5 15 rfl rfl)
theorem dX1_pixel_131 : decode cX1_pixel 131 = .ok (.iastore, 1) := dk_79 (dk_at dksX1_pixel_5 16 rfl rfl)
theorem dX1_pixel_132 : decode cX1_pixel 132 = .ok (.iload 6, 2) := dk_21 6 (dk_at dksX1_pixel_5 17 rfl rfl)
theorem dX1_pixel_134 : decode cX1_pixel 134 = .ok (.iload 4, 2) := dk_21 4 (dk_at dksX1_pixel_5 19 rfl rfl)
theorem dX1_pixel_136 : decode cX1_pixel 136 = .ok (.if_icmp .eq 7, 3) := dk_159 0 7 (dk_at dksX1_pixel_5 21 rfl rfl)
theorem dX1_pixel_139 : decode cX1_pixel 139 = .ok (.iconst 1, 1) := dk_4 (dk_at dksX1_pixel_6 0 rfl rfl)
theorem dX1_pixel_140 : decode cX1_pixel 140 = .ok (.goto 4, 3) := dk_167 0 4 (dk_at dksX1_pixel_6 1 rfl rfl)
theorem dX1_pixel_143 : decode cX1_pixel 143 = .ok (.iconst 0, 1) := dk_3 (dk_at dksX1_pixel_6 4 rfl rfl)
theorem dX1_pixel_144 : decode cX1_pixel 144 = .ok (.ireturn, 1) := dk_172 (dk_at dksX1_pixel_6 5 rfl rfl)
abbrev cX1_write : ByteArray := prog_1_method_23_code
def yX1_write : MethodName := ⟨RX1, "write", "(I)I"⟩
def dkwX1_write_11 : List UInt8 := [160, 0, 8, 42, 45, 182, 0, 217, 167, 255, 224, 42, 180, 0, 193, 172]
abbrev dktX1_write_11 : List UInt8 := dkwX1_write_11 ++ []
def dkwX1_write_10 : List UInt8 := [185, 0, 238, 1, 0, 153, 0, 29, 44, 185, 0, 243, 1, 0, 192, 0, 43, 78, 42, 180, 0, 89, 4]
abbrev dktX1_write_10 : List UInt8 := dkwX1_write_10 ++ dktX1_write_11
def dkwX1_write_9 : List UInt8 := [159, 0, 8, 42, 45, 182, 0, 217, 167, 255, 186, 42, 180, 0, 39, 182, 0, 234, 77, 44]
abbrev dktX1_write_9 : List UInt8 := dkwX1_write_9 ++ dktX1_write_10
def dkwX1_write_8 : List UInt8 := [27, 4, 160, 0, 7, 4, 167, 0, 4, 3, 160, 0, 21, 42, 45, 182, 0, 250, 42, 180, 0, 89, 4]
abbrev dktX1_write_8 : List UInt8 := dkwX1_write_8 ++ dktX1_write_9
def dkwX1_write_7 : List UInt8 := [192, 0, 43, 78, 42, 180, 0, 89, 5, 161, 0, 28, 45, 180, 0, 224, 154, 0, 7, 4, 167, 0, 4, 3]
abbrev dktX1_write_7 : List UInt8 := dkwX1_write_7 ++ dktX1_write_8
def dkwX1_write_6 : List UInt8 := [42, 180, 0, 39, 182, 0, 234, 77, 44, 185, 0, 238, 1, 0, 153, 0, 67, 44, 185, 0, 243, 1, 0]
abbrev dktX1_write_6 : List UInt8 := dkwX1_write_6 ++ dktX1_write_7
def dkwX1_write_5 : List UInt8 := [180, 0, 151, 178, 0, 247, 166, 0, 7, 4, 167, 0, 4, 3, 96, 61, 167, 255, 217, 42, 28, 182, 0, 200]
abbrev dktX1_write_5 : List UInt8 := dkwX1_write_5 ++ dktX1_write_6
def dkwX1_write_4 : List UInt8 := [185, 0, 238, 1, 0, 153, 0, 36, 45, 185, 0, 243, 1, 0, 192, 0, 43, 58, 4, 28, 25, 4]
abbrev dktX1_write_4 : List UInt8 := dkwX1_write_4 ++ dktX1_write_5
def dkwX1_write_3 : List UInt8 := [167, 255, 235, 42, 4, 42, 180, 0, 89, 100, 182, 0, 196, 3, 61, 42, 180, 0, 39, 182, 0, 234, 78, 45]
abbrev dktX1_write_3 : List UInt8 := dkwX1_write_3 ++ dktX1_write_4
def dkwX1_write_2 : List UInt8 := [54, 4, 21, 4, 29, 162, 0, 21, 44, 21, 4, 46, 54, 5, 42, 21, 5, 182, 0, 196, 132, 4, 1]
abbrev dktX1_write_2 : List UInt8 := dkwX1_write_2 ++ dktX1_write_3
def dkwX1_write_1 : List UInt8 := [184, 0, 104, 42, 3, 181, 0, 193, 42, 180, 0, 89, 5, 162, 0, 104, 178, 0, 231, 77, 44, 190, 62, 3]
abbrev dktX1_write_1 : List UInt8 := dkwX1_write_1 ++ dktX1_write_2
def dkwX1_write_0 : List UInt8 := [27, 153, 0, 16, 27, 4, 160, 0, 15, 42, 180, 0, 89, 5, 160, 0, 7, 4, 167, 0, 4, 3]
abbrev dktX1_write_0 : List UInt8 := dkwX1_write_0 ++ dktX1_write_1
theorem dksX1_write_0 : cX1_write.data.toList.drop 0 = dktX1_write_0 := by decide +kernel
theorem dksX1_write_1 : cX1_write.data.toList.drop 22 = dktX1_write_1 := dk_seg dksX1_write_0 22 rfl rfl
theorem dksX1_write_2 : cX1_write.data.toList.drop 46 = dktX1_write_2 := dk_seg dksX1_write_1 24 rfl rfl
theorem dksX1_write_3 : cX1_write.data.toList.drop 69 = dktX1_write_3 := dk_seg dksX1_write_2 23 rfl rfl
theorem dksX1_write_4 : cX1_write.data.toList.drop 93 = dktX1_write_4 := dk_seg dksX1_write_3 24 rfl rfl
theorem dksX1_write_5 : cX1_write.data.toList.drop 115 = dktX1_write_5 := dk_seg dksX1_write_4 22 rfl rfl
theorem dksX1_write_6 : cX1_write.data.toList.drop 139 = dktX1_write_6 := dk_seg dksX1_write_5 24 rfl rfl
theorem dksX1_write_7 : cX1_write.data.toList.drop 162 = dktX1_write_7 := dk_seg dksX1_write_6 23 rfl rfl
theorem dksX1_write_8 : cX1_write.data.toList.drop 186 = dktX1_write_8 := dk_seg dksX1_write_7 24 rfl rfl
theorem dksX1_write_9 : cX1_write.data.toList.drop 209 = dktX1_write_9 := dk_seg dksX1_write_8 23 rfl rfl
theorem dksX1_write_10 : cX1_write.data.toList.drop 229 = dktX1_write_10 := dk_seg dksX1_write_9 20 rfl rfl
theorem dksX1_write_11 : cX1_write.data.toList.drop 252 = dktX1_write_11 := dk_seg dksX1_write_10 23 rfl rfl
theorem dX1_write_0 : decode cX1_write 0 = .ok (.iload_n 1, 1) := dk_27 (dk_at dksX1_write_0 0 rfl rfl)
theorem dX1_write_1 : decode cX1_write 1 = .ok (.ifCond .eq 16, 3) := dk_153 0 16 (dk_at dksX1_write_0 1 rfl rfl)
theorem dX1_write_4 : decode cX1_write 4 = .ok (.iload_n 1, 1) := dk_27 (dk_at dksX1_write_0 4 rfl rfl)
theorem dX1_write_5 : decode cX1_write 5 = .ok (.iconst 1, 1) := dk_4 (dk_at dksX1_write_0 5 rfl rfl)
theorem dX1_write_6 : decode cX1_write 6 = .ok (.if_icmp .ne 15, 3) := dk_160 0 15 (dk_at dksX1_write_0 6 rfl rfl)
theorem dX1_write_9 : decode cX1_write 9 = .ok (.aload_n 0, 1) := dk_42 (dk_at dksX1_write_0 9 rfl rfl)
theorem dX1_write_10 : decode cX1_write 10 = .ok (.getfield 89, 3) := dk_180 0 89 (dk_at dksX1_write_0 10 rfl rfl)
theorem dX1_write_13 : decode cX1_write 13 = .ok (.iconst 2, 1) := dk_5 (dk_at dksX1_write_0 13 rfl rfl)
theorem dX1_write_14 : decode cX1_write 14 = .ok (.if_icmp .ne 7, 3) := dk_160 0 7 (dk_at dksX1_write_0 14 rfl rfl)
theorem dX1_write_17 : decode cX1_write 17 = .ok (.iconst 1, 1) := dk_4 (dk_at dksX1_write_0 17 rfl rfl)
theorem dX1_write_18 : decode cX1_write 18 = .ok (.goto 4, 3) := dk_167 0 4 (dk_at dksX1_write_0 18 rfl rfl)
theorem dX1_write_21 : decode cX1_write 21 = .ok (.iconst 0, 1) := dk_3 (dk_at dksX1_write_0 21 rfl rfl)
theorem dX1_write_22 : decode cX1_write 22 = .ok (.invokestatic 104, 3) := dk_184 0 104 (dk_at dksX1_write_1 0 rfl rfl)
theorem dX1_write_25 : decode cX1_write 25 = .ok (.aload_n 0, 1) := dk_42 (dk_at dksX1_write_1 3 rfl rfl)
theorem dX1_write_26 : decode cX1_write 26 = .ok (.iconst 0, 1) := dk_3 (dk_at dksX1_write_1 4 rfl rfl)
theorem dX1_write_27 : decode cX1_write 27 = .ok (.putfield 193, 3) := dk_181 0 193 (dk_at dksX1_write_1 5 rfl rfl)
theorem dX1_write_30 : decode cX1_write 30 = .ok (.aload_n 0, 1) := dk_42 (dk_at dksX1_write_1 8 rfl rfl)
theorem dX1_write_31 : decode cX1_write 31 = .ok (.getfield 89, 3) := dk_180 0 89 (dk_at dksX1_write_1 9 rfl rfl)
theorem dX1_write_34 : decode cX1_write 34 = .ok (.iconst 2, 1) := dk_5 (dk_at dksX1_write_1 12 rfl rfl)
theorem dX1_write_35 : decode cX1_write 35 = .ok (.if_icmp .ge 104, 3) := dk_162 0 104 (dk_at dksX1_write_1 13 rfl rfl)
theorem dX1_write_38 : decode cX1_write 38 = .ok (.getstatic 231, 3) := dk_178 0 231 (dk_at dksX1_write_1 16 rfl rfl)
theorem dX1_write_41 : decode cX1_write 41 = .ok (.astore_n 2, 1) := dk_77 (dk_at dksX1_write_1 19 rfl rfl)
theorem dX1_write_42 : decode cX1_write 42 = .ok (.aload_n 2, 1) := dk_44 (dk_at dksX1_write_1 20 rfl rfl)
theorem dX1_write_43 : decode cX1_write 43 = .ok (.arraylength, 1) := dk_190 (dk_at dksX1_write_1 21 rfl rfl)
theorem dX1_write_44 : decode cX1_write 44 = .ok (.istore_n 3, 1) := dk_62 (dk_at dksX1_write_1 22 rfl rfl)
theorem dX1_write_45 : decode cX1_write 45 = .ok (.iconst 0, 1) := dk_3 (dk_at dksX1_write_1 23 rfl rfl)
theorem dX1_write_46 : decode cX1_write 46 = .ok (.istore 4, 2) := dk_54 4 (dk_at dksX1_write_2 0 rfl rfl)
theorem dX1_write_48 : decode cX1_write 48 = .ok (.iload 4, 2) := dk_21 4 (dk_at dksX1_write_2 2 rfl rfl)
theorem dX1_write_50 : decode cX1_write 50 = .ok (.iload_n 3, 1) := dk_29 (dk_at dksX1_write_2 4 rfl rfl)
theorem dX1_write_51 : decode cX1_write 51 = .ok (.if_icmp .ge 21, 3) := dk_162 0 21 (dk_at dksX1_write_2 5 rfl rfl)
theorem dX1_write_54 : decode cX1_write 54 = .ok (.aload_n 2, 1) := dk_44 (dk_at dksX1_write_2 8 rfl rfl)
theorem dX1_write_55 : decode cX1_write 55 = .ok (.iload 4, 2) := dk_21 4 (dk_at dksX1_write_2 9 rfl rfl)
theorem dX1_write_57 : decode cX1_write 57 = .ok (.iaload, 1) := dk_46 (dk_at dksX1_write_2 11 rfl rfl)
theorem dX1_write_58 : decode cX1_write 58 = .ok (.istore 5, 2) := dk_54 5 (dk_at dksX1_write_2 12 rfl rfl)
theorem dX1_write_60 : decode cX1_write 60 = .ok (.aload_n 0, 1) := dk_42 (dk_at dksX1_write_2 14 rfl rfl)
theorem dX1_write_61 : decode cX1_write 61 = .ok (.iload 5, 2) := dk_21 5 (dk_at dksX1_write_2 15 rfl rfl)
theorem dX1_write_63 : decode cX1_write 63 = .ok (.invokevirtual 196, 3) := dk_182 0 196 (dk_at dksX1_write_2 17 rfl rfl)
theorem dX1_write_66 : decode cX1_write 66 = .ok (.iinc 4 1, 3) := dk_132 4 1 (dk_at dksX1_write_2 20 rfl rfl)
theorem dX1_write_69 : decode cX1_write 69 = .ok (.goto (-21), 3) := dk_167 255 235 (dk_at dksX1_write_3 0 rfl rfl)
theorem dX1_write_72 : decode cX1_write 72 = .ok (.aload_n 0, 1) := dk_42 (dk_at dksX1_write_3 3 rfl rfl)
theorem dX1_write_73 : decode cX1_write 73 = .ok (.iconst 1, 1) := dk_4 (dk_at dksX1_write_3 4 rfl rfl)
theorem dX1_write_74 : decode cX1_write 74 = .ok (.aload_n 0, 1) := dk_42 (dk_at dksX1_write_3 5 rfl rfl)
theorem dX1_write_75 : decode cX1_write 75 = .ok (.getfield 89, 3) := dk_180 0 89 (dk_at dksX1_write_3 6 rfl rfl)
theorem dX1_write_78 : decode cX1_write 78 = .ok (.isub, 1) := dk_100 (dk_at dksX1_write_3 9 rfl rfl)
theorem dX1_write_79 : decode cX1_write 79 = .ok (.invokevirtual 196, 3) := dk_182 0 196 (dk_at dksX1_write_3 10 rfl rfl)
theorem dX1_write_82 : decode cX1_write 82 = .ok (.iconst 0, 1) := dk_3 (dk_at dksX1_write_3 13 rfl rfl)
theorem dX1_write_83 : decode cX1_write 83 = .ok (.istore_n 2, 1) := dk_61 (dk_at dksX1_write_3 14 rfl rfl)
theorem dX1_write_84 : decode cX1_write 84 = .ok (.aload_n 0, 1) := dk_42 (dk_at dksX1_write_3 15 rfl rfl)
theorem dX1_write_85 : decode cX1_write 85 = .ok (.getfield 39, 3) := dk_180 0 39 (dk_at dksX1_write_3 16 rfl rfl)
theorem dX1_write_88 : decode cX1_write 88 = .ok (.invokevirtual 234, 3) := dk_182 0 234 (dk_at dksX1_write_3 19 rfl rfl)
theorem dX1_write_91 : decode cX1_write 91 = .ok (.astore_n 3, 1) := dk_78 (dk_at dksX1_write_3 22 rfl rfl)
theorem dX1_write_92 : decode cX1_write 92 = .ok (.aload_n 3, 1) := dk_45 (dk_at dksX1_write_3 23 rfl rfl)
theorem dX1_write_93 : decode cX1_write 93 = .ok (.invokeinterface 238 1, 5) := by decide +kernel
theorem dX1_write_98 : decode cX1_write 98 = .ok (.ifCond .eq 36, 3) := dk_153 0 36 (dk_at dksX1_write_4 5 rfl rfl)
theorem dX1_write_101 : decode cX1_write 101 = .ok (.aload_n 3, 1) := dk_45 (dk_at dksX1_write_4 8 rfl rfl)
theorem dX1_write_102 : decode cX1_write 102 = .ok (.invokeinterface 243 1, 5) := by decide +kernel
theorem dX1_write_107 : decode cX1_write 107 = .ok (.checkcast 43, 3) := dk_192 0 43 (dk_at dksX1_write_4 14 rfl rfl)
theorem dX1_write_110 : decode cX1_write 110 = .ok (.astore 4, 2) := dk_58 4 (dk_at dksX1_write_4 17 rfl rfl)
theorem dX1_write_112 : decode cX1_write 112 = .ok (.iload_n 2, 1) := dk_28 (dk_at dksX1_write_4 19 rfl rfl)
theorem dX1_write_113 : decode cX1_write 113 = .ok (.aload 4, 2) := dk_25 4 (dk_at dksX1_write_4 20 rfl rfl)
theorem dX1_write_115 : decode cX1_write 115 = .ok (.getfield 151, 3) := dk_180 0 151 (dk_at dksX1_write_5 0 rfl rfl)
theorem dX1_write_118 : decode cX1_write 118 = .ok (.getstatic 247, 3) := dk_178 0 247 (dk_at dksX1_write_5 3 rfl rfl)
theorem dX1_write_121 : decode cX1_write 121 = .ok (.if_acmp .ne 7, 3) := dk_166 0 7 (dk_at dksX1_write_5 6 rfl rfl)
theorem dX1_write_124 : decode cX1_write 124 = .ok (.iconst 1, 1) := dk_4 (dk_at dksX1_write_5 9 rfl rfl)
theorem dX1_write_125 : decode cX1_write 125 = .ok (.goto 4, 3) := dk_167 0 4 (dk_at dksX1_write_5 10 rfl rfl)
theorem dX1_write_128 : decode cX1_write 128 = .ok (.iconst 0, 1) := dk_3 (dk_at dksX1_write_5 13 rfl rfl)
theorem dX1_write_129 : decode cX1_write 129 = .ok (.iadd, 1) := dk_96 (dk_at dksX1_write_5 14 rfl rfl)
theorem dX1_write_130 : decode cX1_write 130 = .ok (.istore_n 2, 1) := dk_61 (dk_at dksX1_write_5 15 rfl rfl)
theorem dX1_write_131 : decode cX1_write 131 = .ok (.goto (-39), 3) := dk_167 255 217 (dk_at dksX1_write_5 16 rfl rfl)
theorem dX1_write_134 : decode cX1_write 134 = .ok (.aload_n 0, 1) := dk_42 (dk_at dksX1_write_5 19 rfl rfl)
theorem dX1_write_135 : decode cX1_write 135 = .ok (.iload_n 2, 1) := dk_28 (dk_at dksX1_write_5 20 rfl rfl)
theorem dX1_write_136 : decode cX1_write 136 = .ok (.invokevirtual 200, 3) := dk_182 0 200 (dk_at dksX1_write_5 21 rfl rfl)
theorem dX1_write_139 : decode cX1_write 139 = .ok (.aload_n 0, 1) := dk_42 (dk_at dksX1_write_6 0 rfl rfl)
theorem dX1_write_140 : decode cX1_write 140 = .ok (.getfield 39, 3) := dk_180 0 39 (dk_at dksX1_write_6 1 rfl rfl)
theorem dX1_write_143 : decode cX1_write 143 = .ok (.invokevirtual 234, 3) := dk_182 0 234 (dk_at dksX1_write_6 4 rfl rfl)
theorem dX1_write_146 : decode cX1_write 146 = .ok (.astore_n 2, 1) := dk_77 (dk_at dksX1_write_6 7 rfl rfl)
theorem dX1_write_147 : decode cX1_write 147 = .ok (.aload_n 2, 1) := dk_44 (dk_at dksX1_write_6 8 rfl rfl)
theorem dX1_write_148 : decode cX1_write 148 = .ok (.invokeinterface 238 1, 5) := by decide +kernel
theorem dX1_write_153 : decode cX1_write 153 = .ok (.ifCond .eq 67, 3) := dk_153 0 67 (dk_at dksX1_write_6 14 rfl rfl)
theorem dX1_write_156 : decode cX1_write 156 = .ok (.aload_n 2, 1) := dk_44 (dk_at dksX1_write_6 17 rfl rfl)
theorem dX1_write_157 : decode cX1_write 157 = .ok (.invokeinterface 243 1, 5) := by decide +kernel
theorem dX1_write_162 : decode cX1_write 162 = .ok (.checkcast 43, 3) := dk_192 0 43 (dk_at dksX1_write_7 0 rfl rfl)
theorem dX1_write_165 : decode cX1_write 165 = .ok (.astore_n 3, 1) := dk_78 (dk_at dksX1_write_7 3 rfl rfl)
theorem dX1_write_166 : decode cX1_write 166 = .ok (.aload_n 0, 1) := dk_42 (dk_at dksX1_write_7 4 rfl rfl)
theorem dX1_write_167 : decode cX1_write 167 = .ok (.getfield 89, 3) := dk_180 0 89 (dk_at dksX1_write_7 5 rfl rfl)
theorem dX1_write_170 : decode cX1_write 170 = .ok (.iconst 2, 1) := dk_5 (dk_at dksX1_write_7 8 rfl rfl)
theorem dX1_write_171 : decode cX1_write 171 = .ok (.if_icmp .lt 28, 3) := dk_161 0 28 (dk_at dksX1_write_7 9 rfl rfl)
theorem dX1_write_174 : decode cX1_write 174 = .ok (.aload_n 3, 1) := dk_45 (dk_at dksX1_write_7 12 rfl rfl)
theorem dX1_write_175 : decode cX1_write 175 = .ok (.getfield 224, 3) := dk_180 0 224 (dk_at dksX1_write_7 13 rfl rfl)
theorem dX1_write_178 : decode cX1_write 178 = .ok (.ifCond .ne 7, 3) := dk_154 0 7 (dk_at dksX1_write_7 16 rfl rfl)
theorem dX1_write_181 : decode cX1_write 181 = .ok (.iconst 1, 1) := dk_4 (dk_at dksX1_write_7 19 rfl rfl)
theorem dX1_write_182 : decode cX1_write 182 = .ok (.goto 4, 3) := dk_167 0 4 (dk_at dksX1_write_7 20 rfl rfl)
theorem dX1_write_185 : decode cX1_write 185 = .ok (.iconst 0, 1) := dk_3 (dk_at dksX1_write_7 23 rfl rfl)
theorem dX1_write_186 : decode cX1_write 186 = .ok (.iload_n 1, 1) := dk_27 (dk_at dksX1_write_8 0 rfl rfl)
theorem dX1_write_187 : decode cX1_write 187 = .ok (.iconst 1, 1) := dk_4 (dk_at dksX1_write_8 1 rfl rfl)
theorem dX1_write_188 : decode cX1_write 188 = .ok (.if_icmp .ne 7, 3) := dk_160 0 7 (dk_at dksX1_write_8 2 rfl rfl)
theorem dX1_write_191 : decode cX1_write 191 = .ok (.iconst 1, 1) := dk_4 (dk_at dksX1_write_8 5 rfl rfl)
theorem dX1_write_192 : decode cX1_write 192 = .ok (.goto 4, 3) := dk_167 0 4 (dk_at dksX1_write_8 6 rfl rfl)
theorem dX1_write_195 : decode cX1_write 195 = .ok (.iconst 0, 1) := dk_3 (dk_at dksX1_write_8 9 rfl rfl)
theorem dX1_write_196 : decode cX1_write 196 = .ok (.if_icmp .ne 21, 3) := dk_160 0 21 (dk_at dksX1_write_8 10 rfl rfl)
theorem dX1_write_199 : decode cX1_write 199 = .ok (.aload_n 0, 1) := dk_42 (dk_at dksX1_write_8 13 rfl rfl)
theorem dX1_write_200 : decode cX1_write 200 = .ok (.aload_n 3, 1) := dk_45 (dk_at dksX1_write_8 14 rfl rfl)
theorem dX1_write_201 : decode cX1_write 201 = .ok (.invokevirtual 250, 3) := dk_182 0 250 (dk_at dksX1_write_8 15 rfl rfl)
theorem dX1_write_204 : decode cX1_write 204 = .ok (.aload_n 0, 1) := dk_42 (dk_at dksX1_write_8 18 rfl rfl)
theorem dX1_write_205 : decode cX1_write 205 = .ok (.getfield 89, 3) := dk_180 0 89 (dk_at dksX1_write_8 19 rfl rfl)
theorem dX1_write_208 : decode cX1_write 208 = .ok (.iconst 1, 1) := dk_4 (dk_at dksX1_write_8 22 rfl rfl)
theorem dX1_write_209 : decode cX1_write 209 = .ok (.if_icmp .eq 8, 3) := dk_159 0 8 (dk_at dksX1_write_9 0 rfl rfl)
theorem dX1_write_212 : decode cX1_write 212 = .ok (.aload_n 0, 1) := dk_42 (dk_at dksX1_write_9 3 rfl rfl)
theorem dX1_write_213 : decode cX1_write 213 = .ok (.aload_n 3, 1) := dk_45 (dk_at dksX1_write_9 4 rfl rfl)
theorem dX1_write_214 : decode cX1_write 214 = .ok (.invokevirtual 217, 3) := dk_182 0 217 (dk_at dksX1_write_9 5 rfl rfl)
theorem dX1_write_217 : decode cX1_write 217 = .ok (.goto (-70), 3) := dk_167 255 186 (dk_at dksX1_write_9 8 rfl rfl)
theorem dX1_write_220 : decode cX1_write 220 = .ok (.aload_n 0, 1) := dk_42 (dk_at dksX1_write_9 11 rfl rfl)
theorem dX1_write_221 : decode cX1_write 221 = .ok (.getfield 39, 3) := dk_180 0 39 (dk_at dksX1_write_9 12 rfl rfl)
theorem dX1_write_224 : decode cX1_write 224 = .ok (.invokevirtual 234, 3) := dk_182 0 234 (dk_at dksX1_write_9 15 rfl rfl)
theorem dX1_write_227 : decode cX1_write 227 = .ok (.astore_n 2, 1) := dk_77 (dk_at dksX1_write_9 18 rfl rfl)
theorem dX1_write_228 : decode cX1_write 228 = .ok (.aload_n 2, 1) := dk_44 (dk_at dksX1_write_9 19 rfl rfl)
theorem dX1_write_229 : decode cX1_write 229 = .ok (.invokeinterface 238 1, 5) := by decide +kernel
theorem dX1_write_234 : decode cX1_write 234 = .ok (.ifCond .eq 29, 3) := dk_153 0 29 (dk_at dksX1_write_10 5 rfl rfl)
theorem dX1_write_237 : decode cX1_write 237 = .ok (.aload_n 2, 1) := dk_44 (dk_at dksX1_write_10 8 rfl rfl)
theorem dX1_write_238 : decode cX1_write 238 = .ok (.invokeinterface 243 1, 5) := by decide +kernel
theorem dX1_write_243 : decode cX1_write 243 = .ok (.checkcast 43, 3) := dk_192 0 43 (dk_at dksX1_write_10 14 rfl rfl)
theorem dX1_write_246 : decode cX1_write 246 = .ok (.astore_n 3, 1) := dk_78 (dk_at dksX1_write_10 17 rfl rfl)
theorem dX1_write_247 : decode cX1_write 247 = .ok (.aload_n 0, 1) := dk_42 (dk_at dksX1_write_10 18 rfl rfl)
theorem dX1_write_248 : decode cX1_write 248 = .ok (.getfield 89, 3) := dk_180 0 89 (dk_at dksX1_write_10 19 rfl rfl)
theorem dX1_write_251 : decode cX1_write 251 = .ok (.iconst 1, 1) := dk_4 (dk_at dksX1_write_10 22 rfl rfl)
theorem dX1_write_252 : decode cX1_write 252 = .ok (.if_icmp .ne 8, 3) := dk_160 0 8 (dk_at dksX1_write_11 0 rfl rfl)
theorem dX1_write_255 : decode cX1_write 255 = .ok (.aload_n 0, 1) := dk_42 (dk_at dksX1_write_11 3 rfl rfl)
theorem dX1_write_256 : decode cX1_write 256 = .ok (.aload_n 3, 1) := dk_45 (dk_at dksX1_write_11 4 rfl rfl)
theorem dX1_write_257 : decode cX1_write 257 = .ok (.invokevirtual 217, 3) := dk_182 0 217 (dk_at dksX1_write_11 5 rfl rfl)
theorem dX1_write_260 : decode cX1_write 260 = .ok (.goto (-32), 3) := dk_167 255 224 (dk_at dksX1_write_11 8 rfl rfl)
theorem dX1_write_263 : decode cX1_write 263 = .ok (.aload_n 0, 1) := dk_42 (dk_at dksX1_write_11 11 rfl rfl)
theorem dX1_write_264 : decode cX1_write 264 = .ok (.getfield 193, 3) := dk_180 0 193 (dk_at dksX1_write_11 12 rfl rfl)
theorem dX1_write_267 : decode cX1_write 267 = .ok (.ireturn, 1) := dk_172 (dk_at dksX1_write_11 15 rfl rfl)
abbrev cX1_put : ByteArray := prog_1_method_16_code
def yX1_put : MethodName := ⟨RX1, "put", "(I)V"⟩
def dkwX1_put_0 : List UInt8 := [42, 180, 0, 52, 42, 89, 180, 0, 193, 90, 4, 96, 181, 0, 193, 27, 145, 84, 177]
abbrev dktX1_put_0 : List UInt8 := dkwX1_put_0 ++ []
theorem dksX1_put_0 : cX1_put.data.toList.drop 0 = dktX1_put_0 := by decide +kernel
theorem dX1_put_0 : decode cX1_put 0 = .ok (.aload_n 0, 1) := dk_42 (dk_at dksX1_put_0 0 rfl rfl)
theorem dX1_put_1 : decode cX1_put 1 = .ok (.getfield 52, 3) := dk_180 0 52 (dk_at dksX1_put_0 1 rfl rfl)
theorem dX1_put_4 : decode cX1_put 4 = .ok (.aload_n 0, 1) := dk_42 (dk_at dksX1_put_0 4 rfl rfl)
theorem dX1_put_5 : decode cX1_put 5 = .ok (.dup, 1) := dk_89 (dk_at dksX1_put_0 5 rfl rfl)
theorem dX1_put_6 : decode cX1_put 6 = .ok (.getfield 193, 3) := dk_180 0 193 (dk_at dksX1_put_0 6 rfl rfl)
theorem dX1_put_9 : decode cX1_put 9 = .ok (.dup_x1, 1) := dk_90 (dk_at dksX1_put_0 9 rfl rfl)
theorem dX1_put_10 : decode cX1_put 10 = .ok (.iconst 1, 1) := dk_4 (dk_at dksX1_put_0 10 rfl rfl)
theorem dX1_put_11 : decode cX1_put 11 = .ok (.iadd, 1) := dk_96 (dk_at dksX1_put_0 11 rfl rfl)
theorem dX1_put_12 : decode cX1_put 12 = .ok (.putfield 193, 3) := dk_181 0 193 (dk_at dksX1_put_0 12 rfl rfl)
theorem dX1_put_15 : decode cX1_put 15 = .ok (.iload_n 1, 1) := dk_27 (dk_at dksX1_put_0 15 rfl rfl)
theorem dX1_put_16 : decode cX1_put 16 = .ok (.i2b, 1) := dk_145 (dk_at dksX1_put_0 16 rfl rfl)
theorem dX1_put_17 : decode cX1_put 17 = .ok (.bastore, 1) := dk_84 (dk_at dksX1_put_0 17 rfl rfl)
theorem dX1_put_18 : decode cX1_put 18 = .ok (.return_, 1) := dk_177 (dk_at dksX1_put_0 18 rfl rfl)
abbrev cX1_putFour : ByteArray := prog_1_method_17_code
def yX1_putFour : MethodName := ⟨RX1, "putFour", "(I)V"⟩
def dkwX1_putFour_0 : List UInt8 := [16, 24, 61, 28, 155, 0, 16, 42, 27, 28, 122, 182, 0, 196, 132, 2, 248, 167, 255, 242, 177]
abbrev dktX1_putFour_0 : List UInt8 := dkwX1_putFour_0 ++ []
theorem dksX1_putFour_0 : cX1_putFour.data.toList.drop 0 = dktX1_putFour_0 := by decide +kernel
theorem dX1_putFour_0 : decode cX1_putFour 0 = .ok (.bipush 24, 2) := dk_16 24 (dk_at dksX1_putFour_0 0 rfl rfl)
theorem dX1_putFour_2 : decode cX1_putFour 2 = .ok (.istore_n 2, 1) := dk_61 (dk_at dksX1_putFour_0 2 rfl rfl)
theorem dX1_putFour_3 : decode cX1_putFour 3 = .ok (.iload_n 2, 1) := dk_28 (dk_at dksX1_putFour_0 3 rfl rfl)
theorem dX1_putFour_4 : decode cX1_putFour 4 = .ok (.ifCond .lt 16, 3) := dk_155 0 16 (dk_at dksX1_putFour_0 4 rfl rfl)
theorem dX1_putFour_7 : decode cX1_putFour 7 = .ok (.aload_n 0, 1) := dk_42 (dk_at dksX1_putFour_0 7 rfl rfl)
theorem dX1_putFour_8 : decode cX1_putFour 8 = .ok (.iload_n 1, 1) := dk_27 (dk_at dksX1_putFour_0 8 rfl rfl)
theorem dX1_putFour_9 : decode cX1_putFour 9 = .ok (.iload_n 2, 1) := dk_28 (dk_at dksX1_putFour_0 9 rfl rfl)
theorem dX1_putFour_10 : decode cX1_putFour 10 = .ok (.ishr, 1) := dk_122 (dk_at dksX1_putFour_0 10 rfl rfl)
theorem dX1_putFour_11 : decode cX1_putFour 11 = .ok (.invokevirtual 196, 3) := dk_182 0 196 (dk_at dksX1_putFour_0 11 rfl rfl)
theorem dX1_putFour_14 : decode cX1_putFour 14 = .ok (.iinc 2 (-8), 3) := dk_132 2 248 (dk_at dksX1_putFour_0 14 rfl rfl)
theorem dX1_putFour_17 : decode cX1_putFour 17 = .ok (.goto (-14), 3) := dk_167 255 242 (dk_at dksX1_putFour_0 17 rfl rfl)
theorem dX1_putFour_20 : decode cX1_putFour 20 = .ok (.return_, 1) := dk_177 (dk_at dksX1_putFour_0 20 rfl rfl)
abbrev cX1_putHead : ByteArray := prog_1_method_22_code
def yX1_putHead : MethodName := ⟨RX1, "putHead", "(LBilevelPages$Segment;)V"⟩
def dkwX1_putHead_5 : List UInt8 := [43, 182, 0, 227, 182, 0, 200, 177]
abbrev dktX1_putHead_5 : List UInt8 := dkwX1_putHead_5 ++ []
def dkwX1_putHead_4 : List UInt8 := [180, 0, 145, 29, 46, 182, 0, 196, 132, 3, 1, 167, 255, 235, 42, 43, 180, 0, 224, 182, 0, 196, 42, 42]
abbrev dktX1_putHead_4 : List UInt8 := dkwX1_putHead_4 ++ dktX1_putHead_5
def dkwX1_putHead_3 : List UInt8 := [182, 0, 196, 42, 28, 16, 8, 122, 182, 0, 196, 3, 62, 29, 43, 180, 0, 142, 162, 0, 19, 42, 43]
abbrev dktX1_putHead_3 : List UInt8 := dkwX1_putHead_3 ++ dktX1_putHead_4
def dkwX1_putHead_2 : List UInt8 := [8, 120, 28, 128, 182, 0, 196, 167, 0, 27, 42, 18, 223, 43, 180, 0, 142, 128, 182, 0, 200, 42, 28]
abbrev dktX1_putHead_2 : List UInt8 := dkwX1_putHead_2 ++ dktX1_putHead_3
def dkwX1_putHead_1 : List UInt8 := [130, 5, 43, 180, 0, 142, 120, 4, 100, 126, 61, 43, 180, 0, 142, 7, 163, 0, 18, 42, 43, 180, 0, 142]
abbrev dktX1_putHead_1 : List UInt8 := dkwX1_putHead_1 ++ dktX1_putHead_2
def dkwX1_putHead_0 : List UInt8 := [42, 43, 180, 0, 220, 182, 0, 200, 42, 43, 180, 0, 151, 180, 0, 7, 182, 0, 196, 43, 180, 0, 149, 2]
abbrev dktX1_putHead_0 : List UInt8 := dkwX1_putHead_0 ++ dktX1_putHead_1
theorem dksX1_putHead_0 : cX1_putHead.data.toList.drop 0 = dktX1_putHead_0 := by decide +kernel
theorem dksX1_putHead_1 : cX1_putHead.data.toList.drop 24 = dktX1_putHead_1 := dk_seg dksX1_putHead_0 24 rfl rfl
theorem dksX1_putHead_2 : cX1_putHead.data.toList.drop 48 = dktX1_putHead_2 := dk_seg dksX1_putHead_1 24 rfl rfl
theorem dksX1_putHead_3 : cX1_putHead.data.toList.drop 71 = dktX1_putHead_3 := dk_seg dksX1_putHead_2 23 rfl rfl
theorem dksX1_putHead_4 : cX1_putHead.data.toList.drop 94 = dktX1_putHead_4 := dk_seg dksX1_putHead_3 23 rfl rfl
theorem dksX1_putHead_5 : cX1_putHead.data.toList.drop 118 = dktX1_putHead_5 := dk_seg dksX1_putHead_4 24 rfl rfl
theorem dX1_putHead_0 : decode cX1_putHead 0 = .ok (.aload_n 0, 1) := dk_42 (dk_at dksX1_putHead_0 0 rfl rfl)
theorem dX1_putHead_1 : decode cX1_putHead 1 = .ok (.aload_n 1, 1) := dk_43 (dk_at dksX1_putHead_0 1 rfl rfl)
theorem dX1_putHead_2 : decode cX1_putHead 2 = .ok (.getfield 220, 3) := dk_180 0 220 (dk_at dksX1_putHead_0 2 rfl rfl)
theorem dX1_putHead_5 : decode cX1_putHead 5 = .ok (.invokevirtual 200, 3) := dk_182 0 200 (dk_at dksX1_putHead_0 5 rfl rfl)
theorem dX1_putHead_8 : decode cX1_putHead 8 = .ok (.aload_n 0, 1) := dk_42 (dk_at dksX1_putHead_0 8 rfl rfl)
theorem dX1_putHead_9 : decode cX1_putHead 9 = .ok (.aload_n 1, 1) := dk_43 (dk_at dksX1_putHead_0 9 rfl rfl)
theorem dX1_putHead_10 : decode cX1_putHead 10 = .ok (.getfield 151, 3) := dk_180 0 151 (dk_at dksX1_putHead_0 10 rfl rfl)
theorem dX1_putHead_13 : decode cX1_putHead 13 = .ok (.getfield 7, 3) := dk_180 0 7 (dk_at dksX1_putHead_0 13 rfl rfl)
theorem dX1_putHead_16 : decode cX1_putHead 16 = .ok (.invokevirtual 196, 3) := dk_182 0 196 (dk_at dksX1_putHead_0 16 rfl rfl)
theorem dX1_putHead_19 : decode cX1_putHead 19 = .ok (.aload_n 1, 1) := dk_43 (dk_at dksX1_putHead_0 19 rfl rfl)
theorem dX1_putHead_20 : decode cX1_putHead 20 = .ok (.getfield 149, 3) := dk_180 0 149 (dk_at dksX1_putHead_0 20 rfl rfl)
theorem dX1_putHead_23 : decode cX1_putHead 23 = .ok (.iconst (-1), 1) := dk_2 (dk_at dksX1_putHead_0 23 rfl rfl)
theorem dX1_putHead_24 : decode cX1_putHead 24 = .ok (.ixor, 1) := dk_130 (dk_at dksX1_putHead_1 0 rfl rfl)
theorem dX1_putHead_25 : decode cX1_putHead 25 = .ok (.iconst 2, 1) := dk_5 (dk_at dksX1_putHead_1 1 rfl rfl)
theorem dX1_putHead_26 : decode cX1_putHead 26 = .ok (.aload_n 1, 1) := dk_43 (dk_at dksX1_putHead_1 2 rfl rfl)
theorem dX1_putHead_27 : decode cX1_putHead 27 = .ok (.getfield 142, 3) := dk_180 0 142 (dk_at dksX1_putHead_1 3 rfl rfl)
theorem dX1_putHead_30 : decode cX1_putHead 30 = .ok (.ishl, 1) := dk_120 (dk_at dksX1_putHead_1 6 rfl rfl)
theorem dX1_putHead_31 : decode cX1_putHead 31 = .ok (.iconst 1, 1) := dk_4 (dk_at dksX1_putHead_1 7 rfl rfl)
theorem dX1_putHead_32 : decode cX1_putHead 32 = .ok (.isub, 1) := dk_100 (dk_at dksX1_putHead_1 8 rfl rfl)
theorem dX1_putHead_33 : decode cX1_putHead 33 = .ok (.iand, 1) := dk_126 (dk_at dksX1_putHead_1 9 rfl rfl)
theorem dX1_putHead_34 : decode cX1_putHead 34 = .ok (.istore_n 2, 1) := dk_61 (dk_at dksX1_putHead_1 10 rfl rfl)
theorem dX1_putHead_35 : decode cX1_putHead 35 = .ok (.aload_n 1, 1) := dk_43 (dk_at dksX1_putHead_1 11 rfl rfl)
theorem dX1_putHead_36 : decode cX1_putHead 36 = .ok (.getfield 142, 3) := dk_180 0 142 (dk_at dksX1_putHead_1 12 rfl rfl)
theorem dX1_putHead_39 : decode cX1_putHead 39 = .ok (.iconst 4, 1) := dk_7 (dk_at dksX1_putHead_1 15 rfl rfl)
theorem dX1_putHead_40 : decode cX1_putHead 40 = .ok (.if_icmp .gt 18, 3) := dk_163 0 18 (dk_at dksX1_putHead_1 16 rfl rfl)
theorem dX1_putHead_43 : decode cX1_putHead 43 = .ok (.aload_n 0, 1) := dk_42 (dk_at dksX1_putHead_1 19 rfl rfl)
theorem dX1_putHead_44 : decode cX1_putHead 44 = .ok (.aload_n 1, 1) := dk_43 (dk_at dksX1_putHead_1 20 rfl rfl)
theorem dX1_putHead_45 : decode cX1_putHead 45 = .ok (.getfield 142, 3) := dk_180 0 142 (dk_at dksX1_putHead_1 21 rfl rfl)
theorem dX1_putHead_48 : decode cX1_putHead 48 = .ok (.iconst 5, 1) := dk_8 (dk_at dksX1_putHead_2 0 rfl rfl)
theorem dX1_putHead_49 : decode cX1_putHead 49 = .ok (.ishl, 1) := dk_120 (dk_at dksX1_putHead_2 1 rfl rfl)
theorem dX1_putHead_50 : decode cX1_putHead 50 = .ok (.iload_n 2, 1) := dk_28 (dk_at dksX1_putHead_2 2 rfl rfl)
theorem dX1_putHead_51 : decode cX1_putHead 51 = .ok (.ior, 1) := dk_128 (dk_at dksX1_putHead_2 3 rfl rfl)
theorem dX1_putHead_52 : decode cX1_putHead 52 = .ok (.invokevirtual 196, 3) := dk_182 0 196 (dk_at dksX1_putHead_2 4 rfl rfl)
theorem dX1_putHead_55 : decode cX1_putHead 55 = .ok (.goto 27, 3) := dk_167 0 27 (dk_at dksX1_putHead_2 7 rfl rfl)
theorem dX1_putHead_58 : decode cX1_putHead 58 = .ok (.aload_n 0, 1) := dk_42 (dk_at dksX1_putHead_2 10 rfl rfl)
theorem dX1_putHead_59 : decode cX1_putHead 59 = .ok (.ldc 223, 2) := dk_18 223 (dk_at dksX1_putHead_2 11 rfl rfl)
theorem dX1_putHead_61 : decode cX1_putHead 61 = .ok (.aload_n 1, 1) := dk_43 (dk_at dksX1_putHead_2 13 rfl rfl)
theorem dX1_putHead_62 : decode cX1_putHead 62 = .ok (.getfield 142, 3) := dk_180 0 142 (dk_at dksX1_putHead_2 14 rfl rfl)
theorem dX1_putHead_65 : decode cX1_putHead 65 = .ok (.ior, 1) := dk_128 (dk_at dksX1_putHead_2 17 rfl rfl)
theorem dX1_putHead_66 : decode cX1_putHead 66 = .ok (.invokevirtual 200, 3) := dk_182 0 200 (dk_at dksX1_putHead_2 18 rfl rfl)
theorem dX1_putHead_69 : decode cX1_putHead 69 = .ok (.aload_n 0, 1) := dk_42 (dk_at dksX1_putHead_2 21 rfl rfl)
theorem dX1_putHead_70 : decode cX1_putHead 70 = .ok (.iload_n 2, 1) := dk_28 (dk_at dksX1_putHead_2 22 rfl rfl)
theorem dX1_putHead_71 : decode cX1_putHead 71 = .ok (.invokevirtual 196, 3) := dk_182 0 196 (dk_at dksX1_putHead_3 0 rfl rfl)
theorem dX1_putHead_74 : decode cX1_putHead 74 = .ok (.aload_n 0, 1) := dk_42 (dk_at dksX1_putHead_3 3 rfl rfl)
theorem dX1_putHead_75 : decode cX1_putHead 75 = .ok (.iload_n 2, 1) := dk_28 (dk_at dksX1_putHead_3 4 rfl rfl)
theorem dX1_putHead_76 : decode cX1_putHead 76 = .ok (.bipush 8, 2) := dk_16 8 (dk_at dksX1_putHead_3 5 rfl rfl)
theorem dX1_putHead_78 : decode cX1_putHead 78 = .ok (.ishr, 1) := dk_122 (dk_at dksX1_putHead_3 7 rfl rfl)
theorem dX1_putHead_79 : decode cX1_putHead 79 = .ok (.invokevirtual 196, 3) := dk_182 0 196 (dk_at dksX1_putHead_3 8 rfl rfl)
theorem dX1_putHead_82 : decode cX1_putHead 82 = .ok (.iconst 0, 1) := dk_3 (dk_at dksX1_putHead_3 11 rfl rfl)
theorem dX1_putHead_83 : decode cX1_putHead 83 = .ok (.istore_n 3, 1) := dk_62 (dk_at dksX1_putHead_3 12 rfl rfl)
theorem dX1_putHead_84 : decode cX1_putHead 84 = .ok (.iload_n 3, 1) := dk_29 (dk_at dksX1_putHead_3 13 rfl rfl)
theorem dX1_putHead_85 : decode cX1_putHead 85 = .ok (.aload_n 1, 1) := dk_43 (dk_at dksX1_putHead_3 14 rfl rfl)
theorem dX1_putHead_86 : decode cX1_putHead 86 = .ok (.getfield 142, 3) := dk_180 0 142 (dk_at dksX1_putHead_3 15 rfl rfl)
theorem dX1_putHead_89 : decode cX1_putHead 89 = .ok (.if_icmp .ge 19, 3) := dk_162 0 19 (dk_at dksX1_putHead_3 18 rfl rfl)
theorem dX1_putHead_92 : decode cX1_putHead 92 = .ok (.aload_n 0, 1) := dk_42 (dk_at dksX1_putHead_3 21 rfl rfl)
theorem dX1_putHead_93 : decode cX1_putHead 93 = .ok (.aload_n 1, 1) := dk_43 (dk_at dksX1_putHead_3 22 rfl rfl)
theorem dX1_putHead_94 : decode cX1_putHead 94 = .ok (.getfield 145, 3) := dk_180 0 145 (dk_at dksX1_putHead_4 0 rfl rfl)
theorem dX1_putHead_97 : decode cX1_putHead 97 = .ok (.iload_n 3, 1) := dk_29 (dk_at dksX1_putHead_4 3 rfl rfl)
theorem dX1_putHead_98 : decode cX1_putHead 98 = .ok (.iaload, 1) := dk_46 (dk_at dksX1_putHead_4 4 rfl rfl)
theorem dX1_putHead_99 : decode cX1_putHead 99 = .ok (.invokevirtual 196, 3) := dk_182 0 196 (dk_at dksX1_putHead_4 5 rfl rfl)
theorem dX1_putHead_102 : decode cX1_putHead 102 = .ok (.iinc 3 1, 3) := dk_132 3 1 (dk_at dksX1_putHead_4 8 rfl rfl)
theorem dX1_putHead_105 : decode cX1_putHead 105 = .ok (.goto (-21), 3) := dk_167 255 235 (dk_at dksX1_putHead_4 11 rfl rfl)
theorem dX1_putHead_108 : decode cX1_putHead 108 = .ok (.aload_n 0, 1) := dk_42 (dk_at dksX1_putHead_4 14 rfl rfl)
theorem dX1_putHead_109 : decode cX1_putHead 109 = .ok (.aload_n 1, 1) := dk_43 (dk_at dksX1_putHead_4 15 rfl rfl)
theorem dX1_putHead_110 : decode cX1_putHead 110 = .ok (.getfield 224, 3) := dk_180 0 224 (dk_at dksX1_putHead_4 16 rfl rfl)
theorem dX1_putHead_113 : decode cX1_putHead 113 = .ok (.invokevirtual 196, 3) := dk_182 0 196 (dk_at dksX1_putHead_4 19 rfl rfl)
theorem dX1_putHead_116 : decode cX1_putHead 116 = .ok (.aload_n 0, 1) := dk_42 (dk_at dksX1_putHead_4 22 rfl rfl)
theorem dX1_putHead_117 : decode cX1_putHead 117 = .ok (.aload_n 0, 1) := dk_42 (dk_at dksX1_putHead_4 23 rfl rfl)
theorem dX1_putHead_118 : decode cX1_putHead 118 = .ok (.aload_n 1, 1) := dk_43 (dk_at dksX1_putHead_5 0 rfl rfl)
theorem dX1_putHead_119 : decode cX1_putHead 119 = .ok (.invokevirtual 227, 3) := dk_182 0 227 (dk_at dksX1_putHead_5 1 rfl rfl)
theorem dX1_putHead_122 : decode cX1_putHead 122 = .ok (.invokevirtual 200, 3) := dk_182 0 200 (dk_at dksX1_putHead_5 4 rfl rfl)
theorem dX1_putHead_125 : decode cX1_putHead 125 = .ok (.return_, 1) := dk_177 (dk_at dksX1_putHead_5 7 rfl rfl)
abbrev cX1_sizeOf : ByteArray := prog_1_method_21_code
def yX1_sizeOf : MethodName := ⟨RX1, "sizeOf", "(LBilevelPages$Segment;)I"⟩
def dkwX1_sizeOf_1 : List UInt8 := [100, 62, 42, 28, 181, 0, 193, 29, 172]
abbrev dktX1_sizeOf_1 : List UInt8 := dkwX1_sizeOf_1 ++ []
def dkwX1_sizeOf_0 : List UInt8 := [43, 182, 0, 203, 153, 0, 5, 2, 172, 42, 180, 0, 193, 61, 42, 43, 182, 0, 217, 42, 180, 0, 193, 28]
abbrev dktX1_sizeOf_0 : List UInt8 := dkwX1_sizeOf_0 ++ dktX1_sizeOf_1
theorem dksX1_sizeOf_0 : cX1_sizeOf.data.toList.drop 0 = dktX1_sizeOf_0 := by decide +kernel
theorem dksX1_sizeOf_1 : cX1_sizeOf.data.toList.drop 24 = dktX1_sizeOf_1 := dk_seg dksX1_sizeOf_0 24 rfl rfl
theorem dX1_sizeOf_0 : decode cX1_sizeOf 0 = .ok (.aload_n 1, 1) := dk_43 (dk_at dksX1_sizeOf_0 0 rfl rfl)
theorem dX1_sizeOf_1 : decode cX1_sizeOf 1 = .ok (.invokevirtual 203, 3) := dk_182 0 203 (dk_at dksX1_sizeOf_0 1 rfl rfl)
theorem dX1_sizeOf_4 : decode cX1_sizeOf 4 = .ok (.ifCond .eq 5, 3) := dk_153 0 5 (dk_at dksX1_sizeOf_0 4 rfl rfl)
theorem dX1_sizeOf_7 : decode cX1_sizeOf 7 = .ok (.iconst (-1), 1) := dk_2 (dk_at dksX1_sizeOf_0 7 rfl rfl)
theorem dX1_sizeOf_8 : decode cX1_sizeOf 8 = .ok (.ireturn, 1) := dk_172 (dk_at dksX1_sizeOf_0 8 rfl rfl)
theorem dX1_sizeOf_9 : decode cX1_sizeOf 9 = .ok (.aload_n 0, 1) := dk_42 (dk_at dksX1_sizeOf_0 9 rfl rfl)
theorem dX1_sizeOf_10 : decode cX1_sizeOf 10 = .ok (.getfield 193, 3) := dk_180 0 193 (dk_at dksX1_sizeOf_0 10 rfl rfl)
theorem dX1_sizeOf_13 : decode cX1_sizeOf 13 = .ok (.istore_n 2, 1) := dk_61 (dk_at dksX1_sizeOf_0 13 rfl rfl)
theorem dX1_sizeOf_14 : decode cX1_sizeOf 14 = .ok (.aload_n 0, 1) := dk_42 (dk_at dksX1_sizeOf_0 14 rfl rfl)
theorem dX1_sizeOf_15 : decode cX1_sizeOf 15 = .ok (.aload_n 1, 1) := dk_43 (dk_at dksX1_sizeOf_0 15 rfl rfl)
theorem dX1_sizeOf_16 : decode cX1_sizeOf 16 = .ok (.invokevirtual 217, 3) := dk_182 0 217 (dk_at dksX1_sizeOf_0 16 rfl rfl)
theorem dX1_sizeOf_19 : decode cX1_sizeOf 19 = .ok (.aload_n 0, 1) := dk_42 (dk_at dksX1_sizeOf_0 19 rfl rfl)
theorem dX1_sizeOf_20 : decode cX1_sizeOf 20 = .ok (.getfield 193, 3) := dk_180 0 193 (dk_at dksX1_sizeOf_0 20 rfl rfl)
theorem dX1_sizeOf_23 : decode cX1_sizeOf 23 = .ok (.iload_n 2, 1) := dk_28 (dk_at dksX1_sizeOf_0 23 rfl rfl)
theorem dX1_sizeOf_24 : decode cX1_sizeOf 24 = .ok (.isub, 1) := dk_100 (dk_at dksX1_sizeOf_1 0 rfl rfl)
theorem dX1_sizeOf_25 : decode cX1_sizeOf 25 = .ok (.istore_n 3, 1) := dk_62 (dk_at dksX1_sizeOf_1 1 rfl rfl)
theorem dX1_sizeOf_26 : decode cX1_sizeOf 26 = .ok (.aload_n 0, 1) := dk_42 (dk_at dksX1_sizeOf_1 2 rfl rfl)
theorem dX1_sizeOf_27 : decode cX1_sizeOf 27 = .ok (.iload_n 2, 1) := dk_28 (dk_at dksX1_sizeOf_1 3 rfl rfl)
theorem dX1_sizeOf_28 : decode cX1_sizeOf 28 = .ok (.putfield 193, 3) := dk_181 0 193 (dk_at dksX1_sizeOf_1 4 rfl rfl)
theorem dX1_sizeOf_31 : decode cX1_sizeOf 31 = .ok (.iload_n 3, 1) := dk_29 (dk_at dksX1_sizeOf_1 7 rfl rfl)
theorem dX1_sizeOf_32 : decode cX1_sizeOf 32 = .ok (.ireturn, 1) := dk_172 (dk_at dksX1_sizeOf_1 8 rfl rfl)
abbrev cX1_putData : ByteArray := prog_1_method_20_code
def yX1_putData : MethodName := ⟨RX1, "putData", "(LBilevelPages$Segment;)V"⟩
def dkwX1_putData_6 : List UInt8 := [167, 255, 235, 177]
abbrev dktX1_putData_6 : List UInt8 := dkwX1_putData_6 ++ []
def dkwX1_putData_5 : List UInt8 := [3, 61, 28, 43, 180, 0, 164, 162, 0, 19, 42, 43, 180, 0, 167, 28, 51, 182, 0, 196, 132, 2, 1]
abbrev dktX1_putData_5 : List UInt8 := dkwX1_putData_5 ++ dktX1_putData_6
def dkwX1_putData_4 : List UInt8 := [180, 0, 179, 6, 46, 182, 0, 196, 167, 0, 16, 42, 43, 180, 0, 179, 3, 46, 182, 0, 200, 167, 0, 3]
abbrev dktX1_putData_4 : List UInt8 := dkwX1_putData_4 ++ dktX1_putData_5
def dkwX1_putData_3 : List UInt8 := [2, 167, 0, 7, 43, 182, 0, 187, 182, 0, 200, 42, 43, 180, 0, 179, 5, 46, 182, 0, 196, 42, 43]
abbrev dktX1_putData_3 : List UInt8 := dkwX1_putData_3 ++ dktX1_putData_4
def dkwX1_putData_2 : List UInt8 := [42, 43, 182, 0, 213, 167, 0, 66, 42, 43, 182, 0, 184, 182, 0, 200, 42, 43, 182, 0, 187, 154, 0, 7]
abbrev dktX1_putData_2 : List UInt8 := dkwX1_putData_2 ++ dktX1_putData_3
def dkwX1_putData_1 : List UInt8 := [170, 0, 0, 0, 120, 0, 0, 0, 1, 0, 0, 0, 9, 0, 0, 0, 49, 0, 0, 0, 49, 0, 0, 0, 49, 0, 0, 0, 57, 0, 0, 0, 120, 0, 0, 0, 107, 0, 0, 0, 120, 0, 0, 0, 120, 0, 0, 0, 107]
abbrev dktX1_putData_1 : List UInt8 := dkwX1_putData_1 ++ dktX1_putData_2
def dkwX1_putData_0 : List UInt8 := [43, 180, 0, 151, 182, 0, 210]
abbrev dktX1_putData_0 : List UInt8 := dkwX1_putData_0 ++ dktX1_putData_1
theorem dksX1_putData_0 : cX1_putData.data.toList.drop 0 = dktX1_putData_0 := by decide +kernel
theorem dksX1_putData_1 : cX1_putData.data.toList.drop 7 = dktX1_putData_1 := dk_seg dksX1_putData_0 7 rfl rfl
theorem dksX1_putData_2 : cX1_putData.data.toList.drop 56 = dktX1_putData_2 := dk_seg dksX1_putData_1 49 rfl rfl
theorem dksX1_putData_3 : cX1_putData.data.toList.drop 80 = dktX1_putData_3 := dk_seg dksX1_putData_2 24 rfl rfl
theorem dksX1_putData_4 : cX1_putData.data.toList.drop 103 = dktX1_putData_4 := dk_seg dksX1_putData_3 23 rfl rfl
theorem dksX1_putData_5 : cX1_putData.data.toList.drop 127 = dktX1_putData_5 := dk_seg dksX1_putData_4 24 rfl rfl
theorem dksX1_putData_6 : cX1_putData.data.toList.drop 150 = dktX1_putData_6 := dk_seg dksX1_putData_5 23 rfl rfl
theorem dX1_putData_0 : decode cX1_putData 0 = .ok (.aload_n 1, 1) := dk_43 (dk_at dksX1_putData_0 0 rfl rfl)
theorem dX1_putData_1 : decode cX1_putData 1 = .ok (.getfield 151, 3) := dk_180 0 151 (dk_at dksX1_putData_0 1 rfl rfl)
theorem dX1_putData_4 : decode cX1_putData 4 = .ok (.invokevirtual 210, 3) := dk_182 0 210 (dk_at dksX1_putData_0 4 rfl rfl)
theorem dX1_putData_7 : decode cX1_putData 7 = .ok (.tableswitch 120 1 9 #[49, 49, 49, 57, 120, 107, 120, 120, 107], 49) := by decide +kernel
theorem dX1_putData_56 : decode cX1_putData 56 = .ok (.aload_n 0, 1) := dk_42 (dk_at dksX1_putData_2 0 rfl rfl)
theorem dX1_putData_57 : decode cX1_putData 57 = .ok (.aload_n 1, 1) := dk_43 (dk_at dksX1_putData_2 1 rfl rfl)
theorem dX1_putData_58 : decode cX1_putData 58 = .ok (.invokevirtual 213, 3) := dk_182 0 213 (dk_at dksX1_putData_2 2 rfl rfl)
theorem dX1_putData_61 : decode cX1_putData 61 = .ok (.goto 66, 3) := dk_167 0 66 (dk_at dksX1_putData_2 5 rfl rfl)
theorem dX1_putData_64 : decode cX1_putData 64 = .ok (.aload_n 0, 1) := dk_42 (dk_at dksX1_putData_2 8 rfl rfl)
theorem dX1_putData_65 : decode cX1_putData 65 = .ok (.aload_n 1, 1) := dk_43 (dk_at dksX1_putData_2 9 rfl rfl)
theorem dX1_putData_66 : decode cX1_putData 66 = .ok (.invokevirtual 184, 3) := dk_182 0 184 (dk_at dksX1_putData_2 10 rfl rfl)
theorem dX1_putData_69 : decode cX1_putData 69 = .ok (.invokevirtual 200, 3) := dk_182 0 200 (dk_at dksX1_putData_2 13 rfl rfl)
theorem dX1_putData_72 : decode cX1_putData 72 = .ok (.aload_n 0, 1) := dk_42 (dk_at dksX1_putData_2 16 rfl rfl)
theorem dX1_putData_73 : decode cX1_putData 73 = .ok (.aload_n 1, 1) := dk_43 (dk_at dksX1_putData_2 17 rfl rfl)
theorem dX1_putData_74 : decode cX1_putData 74 = .ok (.invokevirtual 187, 3) := dk_182 0 187 (dk_at dksX1_putData_2 18 rfl rfl)
theorem dX1_putData_77 : decode cX1_putData 77 = .ok (.ifCond .ne 7, 3) := dk_154 0 7 (dk_at dksX1_putData_2 21 rfl rfl)
theorem dX1_putData_80 : decode cX1_putData 80 = .ok (.iconst (-1), 1) := dk_2 (dk_at dksX1_putData_3 0 rfl rfl)
theorem dX1_putData_81 : decode cX1_putData 81 = .ok (.goto 7, 3) := dk_167 0 7 (dk_at dksX1_putData_3 1 rfl rfl)
theorem dX1_putData_84 : decode cX1_putData 84 = .ok (.aload_n 1, 1) := dk_43 (dk_at dksX1_putData_3 4 rfl rfl)
theorem dX1_putData_85 : decode cX1_putData 85 = .ok (.invokevirtual 187, 3) := dk_182 0 187 (dk_at dksX1_putData_3 5 rfl rfl)
theorem dX1_putData_88 : decode cX1_putData 88 = .ok (.invokevirtual 200, 3) := dk_182 0 200 (dk_at dksX1_putData_3 8 rfl rfl)
theorem dX1_putData_91 : decode cX1_putData 91 = .ok (.aload_n 0, 1) := dk_42 (dk_at dksX1_putData_3 11 rfl rfl)
theorem dX1_putData_92 : decode cX1_putData 92 = .ok (.aload_n 1, 1) := dk_43 (dk_at dksX1_putData_3 12 rfl rfl)
theorem dX1_putData_93 : decode cX1_putData 93 = .ok (.getfield 179, 3) := dk_180 0 179 (dk_at dksX1_putData_3 13 rfl rfl)
theorem dX1_putData_96 : decode cX1_putData 96 = .ok (.iconst 2, 1) := dk_5 (dk_at dksX1_putData_3 16 rfl rfl)
theorem dX1_putData_97 : decode cX1_putData 97 = .ok (.iaload, 1) := dk_46 (dk_at dksX1_putData_3 17 rfl rfl)
theorem dX1_putData_98 : decode cX1_putData 98 = .ok (.invokevirtual 196, 3) := dk_182 0 196 (dk_at dksX1_putData_3 18 rfl rfl)
theorem dX1_putData_101 : decode cX1_putData 101 = .ok (.aload_n 0, 1) := dk_42 (dk_at dksX1_putData_3 21 rfl rfl)
theorem dX1_putData_102 : decode cX1_putData 102 = .ok (.aload_n 1, 1) := dk_43 (dk_at dksX1_putData_3 22 rfl rfl)
theorem dX1_putData_103 : decode cX1_putData 103 = .ok (.getfield 179, 3) := dk_180 0 179 (dk_at dksX1_putData_4 0 rfl rfl)
theorem dX1_putData_106 : decode cX1_putData 106 = .ok (.iconst 3, 1) := dk_6 (dk_at dksX1_putData_4 3 rfl rfl)
theorem dX1_putData_107 : decode cX1_putData 107 = .ok (.iaload, 1) := dk_46 (dk_at dksX1_putData_4 4 rfl rfl)
theorem dX1_putData_108 : decode cX1_putData 108 = .ok (.invokevirtual 196, 3) := dk_182 0 196 (dk_at dksX1_putData_4 5 rfl rfl)
theorem dX1_putData_111 : decode cX1_putData 111 = .ok (.goto 16, 3) := dk_167 0 16 (dk_at dksX1_putData_4 8 rfl rfl)
theorem dX1_putData_114 : decode cX1_putData 114 = .ok (.aload_n 0, 1) := dk_42 (dk_at dksX1_putData_4 11 rfl rfl)
theorem dX1_putData_115 : decode cX1_putData 115 = .ok (.aload_n 1, 1) := dk_43 (dk_at dksX1_putData_4 12 rfl rfl)
theorem dX1_putData_116 : decode cX1_putData 116 = .ok (.getfield 179, 3) := dk_180 0 179 (dk_at dksX1_putData_4 13 rfl rfl)
theorem dX1_putData_119 : decode cX1_putData 119 = .ok (.iconst 0, 1) := dk_3 (dk_at dksX1_putData_4 16 rfl rfl)
theorem dX1_putData_120 : decode cX1_putData 120 = .ok (.iaload, 1) := dk_46 (dk_at dksX1_putData_4 17 rfl rfl)
theorem dX1_putData_121 : decode cX1_putData 121 = .ok (.invokevirtual 200, 3) := dk_182 0 200 (dk_at dksX1_putData_4 18 rfl rfl)
theorem dX1_putData_124 : decode cX1_putData 124 = .ok (.goto 3, 3) := dk_167 0 3 (dk_at dksX1_putData_4 21 rfl rfl)
theorem dX1_putData_127 : decode cX1_putData 127 = .ok (.iconst 0, 1) := dk_3 (dk_at dksX1_putData_5 0 rfl rfl)
theorem dX1_putData_128 : decode cX1_putData 128 = .ok (.istore_n 2, 1) := dk_61 (dk_at dksX1_putData_5 1 rfl rfl)
theorem dX1_putData_129 : decode cX1_putData 129 = .ok (.iload_n 2, 1) := dk_28 (dk_at dksX1_putData_5 2 rfl rfl)
theorem dX1_putData_130 : decode cX1_putData 130 = .ok (.aload_n 1, 1) := dk_43 (dk_at dksX1_putData_5 3 rfl rfl)
theorem dX1_putData_131 : decode cX1_putData 131 = .ok (.getfield 164, 3) := dk_180 0 164 (dk_at dksX1_putData_5 4 rfl rfl)
theorem dX1_putData_134 : decode cX1_putData 134 = .ok (.if_icmp .ge 19, 3) := dk_162 0 19 (dk_at dksX1_putData_5 7 rfl rfl)
theorem dX1_putData_137 : decode cX1_putData 137 = .ok (.aload_n 0, 1) := dk_42 (dk_at dksX1_putData_5 10 rfl rfl)
theorem dX1_putData_138 : decode cX1_putData 138 = .ok (.aload_n 1, 1) := dk_43 (dk_at dksX1_putData_5 11 rfl rfl)
theorem dX1_putData_139 : decode cX1_putData 139 = .ok (.getfield 167, 3) := dk_180 0 167 (dk_at dksX1_putData_5 12 rfl rfl)
theorem dX1_putData_142 : decode cX1_putData 142 = .ok (.iload_n 2, 1) := dk_28 (dk_at dksX1_putData_5 15 rfl rfl)
theorem dX1_putData_143 : decode cX1_putData 143 = .ok (.baload, 1) := dk_51 (dk_at dksX1_putData_5 16 rfl rfl)
theorem dX1_putData_144 : decode cX1_putData 144 = .ok (.invokevirtual 196, 3) := dk_182 0 196 (dk_at dksX1_putData_5 17 rfl rfl)
theorem dX1_putData_147 : decode cX1_putData 147 = .ok (.iinc 2 1, 3) := dk_132 2 1 (dk_at dksX1_putData_5 20 rfl rfl)
theorem dX1_putData_150 : decode cX1_putData 150 = .ok (.goto (-21), 3) := dk_167 255 235 (dk_at dksX1_putData_6 0 rfl rfl)
theorem dX1_putData_153 : decode cX1_putData 153 = .ok (.return_, 1) := dk_177 (dk_at dksX1_putData_6 3 rfl rfl)
abbrev cX1_putRegion : ByteArray := prog_1_method_19_code
def yX1_putRegion : MethodName := ⟨RX1, "putRegion", "(LBilevelPages$Segment;)V"⟩
def dkwX1_putRegion_4 : List UInt8 := [182, 0, 200, 177]
abbrev dktX1_putRegion_4 : List UInt8 := dkwX1_putRegion_4 ++ []
def dkwX1_putRegion_3 : List UInt8 := [153, 0, 25, 42, 17, 0, 255, 182, 0, 196, 42, 17, 0, 172, 182, 0, 196, 42, 43, 182, 0, 187]
abbrev dktX1_putRegion_3 : List UInt8 := dkwX1_putRegion_3 ++ dktX1_putRegion_4
def dkwX1_putRegion_2 : List UInt8 := [153, 0, 8, 42, 4, 182, 0, 196, 42, 43, 28, 182, 0, 206, 132, 2, 1, 167, 255, 227, 43, 182, 0, 203]
abbrev dktX1_putRegion_2 : List UInt8 := dkwX1_putRegion_2 ++ dktX1_putRegion_3
def dkwX1_putRegion_1 : List UInt8 := [43, 180, 0, 179, 7, 46, 182, 0, 196, 3, 61, 28, 43, 182, 0, 187, 162, 0, 27, 43, 182, 0, 203]
abbrev dktX1_putRegion_1 : List UInt8 := dkwX1_putRegion_1 ++ dktX1_putRegion_2
def dkwX1_putRegion_0 : List UInt8 := [3, 61, 28, 7, 162, 0, 19, 42, 43, 180, 0, 179, 28, 46, 182, 0, 200, 132, 2, 1, 167, 255, 238, 42]
abbrev dktX1_putRegion_0 : List UInt8 := dkwX1_putRegion_0 ++ dktX1_putRegion_1
theorem dksX1_putRegion_0 : cX1_putRegion.data.toList.drop 0 = dktX1_putRegion_0 := by decide +kernel
theorem dksX1_putRegion_1 : cX1_putRegion.data.toList.drop 24 = dktX1_putRegion_1 := dk_seg dksX1_putRegion_0 24 rfl rfl
theorem dksX1_putRegion_2 : cX1_putRegion.data.toList.drop 47 = dktX1_putRegion_2 := dk_seg dksX1_putRegion_1 23 rfl rfl
theorem dksX1_putRegion_3 : cX1_putRegion.data.toList.drop 71 = dktX1_putRegion_3 := dk_seg dksX1_putRegion_2 24 rfl rfl
theorem dksX1_putRegion_4 : cX1_putRegion.data.toList.drop 93 = dktX1_putRegion_4 := dk_seg dksX1_putRegion_3 22 rfl rfl
theorem dX1_putRegion_0 : decode cX1_putRegion 0 = .ok (.iconst 0, 1) := dk_3 (dk_at dksX1_putRegion_0 0 rfl rfl)
theorem dX1_putRegion_1 : decode cX1_putRegion 1 = .ok (.istore_n 2, 1) := dk_61 (dk_at dksX1_putRegion_0 1 rfl rfl)
theorem dX1_putRegion_2 : decode cX1_putRegion 2 = .ok (.iload_n 2, 1) := dk_28 (dk_at dksX1_putRegion_0 2 rfl rfl)
theorem dX1_putRegion_3 : decode cX1_putRegion 3 = .ok (.iconst 4, 1) := dk_7 (dk_at dksX1_putRegion_0 3 rfl rfl)
theorem dX1_putRegion_4 : decode cX1_putRegion 4 = .ok (.if_icmp .ge 19, 3) := dk_162 0 19 (dk_at dksX1_putRegion_0 4 rfl rfl)
theorem dX1_putRegion_7 : decode cX1_putRegion 7 = .ok (.aload_n 0, 1) := dk_42 (dk_at dksX1_putRegion_0 7 rfl rfl)
theorem dX1_putRegion_8 : decode cX1_putRegion 8 = .ok (.aload_n 1, 1) := dk_43 (dk_at dksX1_putRegion_0 8 rfl rfl)
theorem dX1_putRegion_9 : decode cX1_putRegion 9 = .ok (.getfield 179, 3) := dk_180 0 179 (dk_at dksX1_putRegion_0 9 rfl rfl)
theorem dX1_putRegion_12 : decode cX1_putRegion 12 = .ok (.iload_n 2, 1) := dk_28 (dk_at dksX1_putRegion_0 12 rfl rfl)
theorem dX1_putRegion_13 : decode cX1_putRegion 13 = .ok (.iaload, 1) := dk_46 (dk_at dksX1_putRegion_0 13 rfl rfl)
theorem dX1_putRegion_14 : decode cX1_putRegion 14 = .ok (.invokevirtual 200, 3) := dk_182 0 200 (dk_at dksX1_putRegion_0 14 rfl rfl)
theorem dX1_putRegion_17 : decode cX1_putRegion 17 = .ok (.iinc 2 1, 3) := dk_132 2 1 (dk_at dksX1_putRegion_0 17 rfl rfl)
theorem dX1_putRegion_20 : decode cX1_putRegion 20 = .ok (.goto (-18), 3) := dk_167 255 238 (dk_at dksX1_putRegion_0 20 rfl rfl)
theorem dX1_putRegion_23 : decode cX1_putRegion 23 = .ok (.aload_n 0, 1) := dk_42 (dk_at dksX1_putRegion_0 23 rfl rfl)
theorem dX1_putRegion_24 : decode cX1_putRegion 24 = .ok (.aload_n 1, 1) := dk_43 (dk_at dksX1_putRegion_1 0 rfl rfl)
theorem dX1_putRegion_25 : decode cX1_putRegion 25 = .ok (.getfield 179, 3) := dk_180 0 179 (dk_at dksX1_putRegion_1 1 rfl rfl)
theorem dX1_putRegion_28 : decode cX1_putRegion 28 = .ok (.iconst 4, 1) := dk_7 (dk_at dksX1_putRegion_1 4 rfl rfl)
theorem dX1_putRegion_29 : decode cX1_putRegion 29 = .ok (.iaload, 1) := dk_46 (dk_at dksX1_putRegion_1 5 rfl rfl)
theorem dX1_putRegion_30 : decode cX1_putRegion 30 = .ok (.invokevirtual 196, 3) := dk_182 0 196 (dk_at dksX1_putRegion_1 6 rfl rfl)
theorem dX1_putRegion_33 : decode cX1_putRegion 33 = .ok (.iconst 0, 1) := dk_3 (dk_at dksX1_putRegion_1 9 rfl rfl)
theorem dX1_putRegion_34 : decode cX1_putRegion 34 = .ok (.istore_n 2, 1) := dk_61 (dk_at dksX1_putRegion_1 10 rfl rfl)
theorem dX1_putRegion_35 : decode cX1_putRegion 35 = .ok (.iload_n 2, 1) := dk_28 (dk_at dksX1_putRegion_1 11 rfl rfl)
theorem dX1_putRegion_36 : decode cX1_putRegion 36 = .ok (.aload_n 1, 1) := dk_43 (dk_at dksX1_putRegion_1 12 rfl rfl)
theorem dX1_putRegion_37 : decode cX1_putRegion 37 = .ok (.invokevirtual 187, 3) := dk_182 0 187 (dk_at dksX1_putRegion_1 13 rfl rfl)
theorem dX1_putRegion_40 : decode cX1_putRegion 40 = .ok (.if_icmp .ge 27, 3) := dk_162 0 27 (dk_at dksX1_putRegion_1 16 rfl rfl)
theorem dX1_putRegion_43 : decode cX1_putRegion 43 = .ok (.aload_n 1, 1) := dk_43 (dk_at dksX1_putRegion_1 19 rfl rfl)
theorem dX1_putRegion_44 : decode cX1_putRegion 44 = .ok (.invokevirtual 203, 3) := dk_182 0 203 (dk_at dksX1_putRegion_1 20 rfl rfl)
theorem dX1_putRegion_47 : decode cX1_putRegion 47 = .ok (.ifCond .eq 8, 3) := dk_153 0 8 (dk_at dksX1_putRegion_2 0 rfl rfl)
theorem dX1_putRegion_50 : decode cX1_putRegion 50 = .ok (.aload_n 0, 1) := dk_42 (dk_at dksX1_putRegion_2 3 rfl rfl)
theorem dX1_putRegion_51 : decode cX1_putRegion 51 = .ok (.iconst 1, 1) := dk_4 (dk_at dksX1_putRegion_2 4 rfl rfl)
theorem dX1_putRegion_52 : decode cX1_putRegion 52 = .ok (.invokevirtual 196, 3) := dk_182 0 196 (dk_at dksX1_putRegion_2 5 rfl rfl)
theorem dX1_putRegion_55 : decode cX1_putRegion 55 = .ok (.aload_n 0, 1) := dk_42 (dk_at dksX1_putRegion_2 8 rfl rfl)
theorem dX1_putRegion_56 : decode cX1_putRegion 56 = .ok (.aload_n 1, 1) := dk_43 (dk_at dksX1_putRegion_2 9 rfl rfl)
theorem dX1_putRegion_57 : decode cX1_putRegion 57 = .ok (.iload_n 2, 1) := dk_28 (dk_at dksX1_putRegion_2 10 rfl rfl)
theorem dX1_putRegion_58 : decode cX1_putRegion 58 = .ok (.invokevirtual 206, 3) := dk_182 0 206 (dk_at dksX1_putRegion_2 11 rfl rfl)
theorem dX1_putRegion_61 : decode cX1_putRegion 61 = .ok (.iinc 2 1, 3) := dk_132 2 1 (dk_at dksX1_putRegion_2 14 rfl rfl)
theorem dX1_putRegion_64 : decode cX1_putRegion 64 = .ok (.goto (-29), 3) := dk_167 255 227 (dk_at dksX1_putRegion_2 17 rfl rfl)
theorem dX1_putRegion_67 : decode cX1_putRegion 67 = .ok (.aload_n 1, 1) := dk_43 (dk_at dksX1_putRegion_2 20 rfl rfl)
theorem dX1_putRegion_68 : decode cX1_putRegion 68 = .ok (.invokevirtual 203, 3) := dk_182 0 203 (dk_at dksX1_putRegion_2 21 rfl rfl)
theorem dX1_putRegion_71 : decode cX1_putRegion 71 = .ok (.ifCond .eq 25, 3) := dk_153 0 25 (dk_at dksX1_putRegion_3 0 rfl rfl)
theorem dX1_putRegion_74 : decode cX1_putRegion 74 = .ok (.aload_n 0, 1) := dk_42 (dk_at dksX1_putRegion_3 3 rfl rfl)
theorem dX1_putRegion_75 : decode cX1_putRegion 75 = .ok (.sipush 255, 3) := dk_17 0 255 (dk_at dksX1_putRegion_3 4 rfl rfl)
theorem dX1_putRegion_78 : decode cX1_putRegion 78 = .ok (.invokevirtual 196, 3) := dk_182 0 196 (dk_at dksX1_putRegion_3 7 rfl rfl)
theorem dX1_putRegion_81 : decode cX1_putRegion 81 = .ok (.aload_n 0, 1) := dk_42 (dk_at dksX1_putRegion_3 10 rfl rfl)
theorem dX1_putRegion_82 : decode cX1_putRegion 82 = .ok (.sipush 172, 3) := dk_17 0 172 (dk_at dksX1_putRegion_3 11 rfl rfl)
theorem dX1_putRegion_85 : decode cX1_putRegion 85 = .ok (.invokevirtual 196, 3) := dk_182 0 196 (dk_at dksX1_putRegion_3 14 rfl rfl)
theorem dX1_putRegion_88 : decode cX1_putRegion 88 = .ok (.aload_n 0, 1) := dk_42 (dk_at dksX1_putRegion_3 17 rfl rfl)
theorem dX1_putRegion_89 : decode cX1_putRegion 89 = .ok (.aload_n 1, 1) := dk_43 (dk_at dksX1_putRegion_3 18 rfl rfl)
theorem dX1_putRegion_90 : decode cX1_putRegion 90 = .ok (.invokevirtual 187, 3) := dk_182 0 187 (dk_at dksX1_putRegion_3 19 rfl rfl)
theorem dX1_putRegion_93 : decode cX1_putRegion 93 = .ok (.invokevirtual 200, 3) := dk_182 0 200 (dk_at dksX1_putRegion_4 0 rfl rfl)
theorem dX1_putRegion_96 : decode cX1_putRegion 96 = .ok (.return_, 1) := dk_177 (dk_at dksX1_putRegion_4 3 rfl rfl)
abbrev cX1_putRow : ByteArray := prog_1_method_18_code
def yX1_putRow : MethodName := ⟨RX1, "putRow", "(LBilevelPages$Segment;I)V"⟩
def dkwX1_putRow_3 : List UInt8 := [132, 3, 8, 167, 255, 187, 177]
abbrev dktX1_putRow_3 : List UInt8 := dkwX1_putRow_3 ++ []
def dkwX1_putRow_2 : List UInt8 := [122, 4, 126, 167, 0, 4, 3, 128, 54, 4, 132, 5, 1, 167, 255, 213, 42, 21, 4, 182, 0, 196]
abbrev dktX1_putRow_2 : List UInt8 := dkwX1_putRow_2 ++ dktX1_putRow_3
def dkwX1_putRow_1 : List UInt8 := [162, 0, 40, 21, 4, 4, 120, 21, 5, 43, 182, 0, 184, 162, 0, 17, 43, 180, 0, 190, 28, 46, 21, 5]
abbrev dktX1_putRow_1 : List UInt8 := dkwX1_putRow_1 ++ dktX1_putRow_2
def dkwX1_putRow_0 : List UInt8 := [3, 62, 29, 43, 182, 0, 184, 162, 0, 67, 3, 54, 4, 29, 54, 5, 21, 5, 29, 16, 8, 96]
abbrev dktX1_putRow_0 : List UInt8 := dkwX1_putRow_0 ++ dktX1_putRow_1
theorem dksX1_putRow_0 : cX1_putRow.data.toList.drop 0 = dktX1_putRow_0 := by decide +kernel
theorem dksX1_putRow_1 : cX1_putRow.data.toList.drop 22 = dktX1_putRow_1 := dk_seg dksX1_putRow_0 22 rfl rfl
theorem dksX1_putRow_2 : cX1_putRow.data.toList.drop 46 = dktX1_putRow_2 := dk_seg dksX1_putRow_1 24 rfl rfl
theorem dksX1_putRow_3 : cX1_putRow.data.toList.drop 68 = dktX1_putRow_3 := dk_seg dksX1_putRow_2 22 rfl rfl
theorem dX1_putRow_0 : decode cX1_putRow 0 = .ok (.iconst 0, 1) := dk_3 (dk_at dksX1_putRow_0 0 rfl rfl)
theorem dX1_putRow_1 : decode cX1_putRow 1 = .ok (.istore_n 3, 1) := dk_62 (dk_at dksX1_putRow_0 1 rfl rfl)
theorem dX1_putRow_2 : decode cX1_putRow 2 = .ok (.iload_n 3, 1) := dk_29 (dk_at dksX1_putRow_0 2 rfl rfl)
theorem dX1_putRow_3 : decode cX1_putRow 3 = .ok (.aload_n 1, 1) := dk_43 (dk_at dksX1_putRow_0 3 rfl rfl)
theorem dX1_putRow_4 : decode cX1_putRow 4 = .ok (.invokevirtual 184, 3) := dk_182 0 184 (dk_at dksX1_putRow_0 4 rfl rfl)
theorem dX1_putRow_7 : decode cX1_putRow 7 = .ok (.if_icmp .ge 67, 3) := dk_162 0 67 (dk_at dksX1_putRow_0 7 rfl rfl)
theorem dX1_putRow_10 : decode cX1_putRow 10 = .ok (.iconst 0, 1) := dk_3 (dk_at dksX1_putRow_0 10 rfl rfl)
theorem dX1_putRow_11 : decode cX1_putRow 11 = .ok (.istore 4, 2) := dk_54 4 (dk_at dksX1_putRow_0 11 rfl rfl)
theorem dX1_putRow_13 : decode cX1_putRow 13 = .ok (.iload_n 3, 1) := dk_29 (dk_at dksX1_putRow_0 13 rfl rfl)
theorem dX1_putRow_14 : decode cX1_putRow 14 = .ok (.istore 5, 2) := dk_54 5 (dk_at dksX1_putRow_0 14 rfl rfl)
theorem dX1_putRow_16 : decode cX1_putRow 16 = .ok (.iload 5, 2) := dk_21 5 (dk_at dksX1_putRow_0 16 rfl rfl)
theorem dX1_putRow_18 : decode cX1_putRow 18 = .ok (.iload_n 3, 1) := dk_29 (dk_at dksX1_putRow_0 18 rfl rfl)
theorem dX1_putRow_19 : decode cX1_putRow 19 = .ok (.bipush 8, 2) := dk_16 8 (dk_at dksX1_putRow_0 19 rfl rfl)
theorem dX1_putRow_21 : decode cX1_putRow 21 = .ok (.iadd, 1) := dk_96 (dk_at dksX1_putRow_0 21 rfl rfl)
theorem dX1_putRow_22 : decode cX1_putRow 22 = .ok (.if_icmp .ge 40, 3) := dk_162 0 40 (dk_at dksX1_putRow_1 0 rfl rfl)
theorem dX1_putRow_25 : decode cX1_putRow 25 = .ok (.iload 4, 2) := dk_21 4 (dk_at dksX1_putRow_1 3 rfl rfl)
theorem dX1_putRow_27 : decode cX1_putRow 27 = .ok (.iconst 1, 1) := dk_4 (dk_at dksX1_putRow_1 5 rfl rfl)
theorem dX1_putRow_28 : decode cX1_putRow 28 = .ok (.ishl, 1) := dk_120 (dk_at dksX1_putRow_1 6 rfl rfl)
theorem dX1_putRow_29 : decode cX1_putRow 29 = .ok (.iload 5, 2) := dk_21 5 (dk_at dksX1_putRow_1 7 rfl rfl)
theorem dX1_putRow_31 : decode cX1_putRow 31 = .ok (.aload_n 1, 1) := dk_43 (dk_at dksX1_putRow_1 9 rfl rfl)
theorem dX1_putRow_32 : decode cX1_putRow 32 = .ok (.invokevirtual 184, 3) := dk_182 0 184 (dk_at dksX1_putRow_1 10 rfl rfl)
theorem dX1_putRow_35 : decode cX1_putRow 35 = .ok (.if_icmp .ge 17, 3) := dk_162 0 17 (dk_at dksX1_putRow_1 13 rfl rfl)
theorem dX1_putRow_38 : decode cX1_putRow 38 = .ok (.aload_n 1, 1) := dk_43 (dk_at dksX1_putRow_1 16 rfl rfl)
theorem dX1_putRow_39 : decode cX1_putRow 39 = .ok (.getfield 190, 3) := dk_180 0 190 (dk_at dksX1_putRow_1 17 rfl rfl)
theorem dX1_putRow_42 : decode cX1_putRow 42 = .ok (.iload_n 2, 1) := dk_28 (dk_at dksX1_putRow_1 20 rfl rfl)
theorem dX1_putRow_43 : decode cX1_putRow 43 = .ok (.iaload, 1) := dk_46 (dk_at dksX1_putRow_1 21 rfl rfl)
theorem dX1_putRow_44 : decode cX1_putRow 44 = .ok (.iload 5, 2) := dk_21 5 (dk_at dksX1_putRow_1 22 rfl rfl)
theorem dX1_putRow_46 : decode cX1_putRow 46 = .ok (.ishr, 1) := dk_122 (dk_at dksX1_putRow_2 0 rfl rfl)
theorem dX1_putRow_47 : decode cX1_putRow 47 = .ok (.iconst 1, 1) := dk_4 (dk_at dksX1_putRow_2 1 rfl rfl)
theorem dX1_putRow_48 : decode cX1_putRow 48 = .ok (.iand, 1) := dk_126 (dk_at dksX1_putRow_2 2 rfl rfl)
theorem dX1_putRow_49 : decode cX1_putRow 49 = .ok (.goto 4, 3) := dk_167 0 4 (dk_at dksX1_putRow_2 3 rfl rfl)
theorem dX1_putRow_52 : decode cX1_putRow 52 = .ok (.iconst 0, 1) := dk_3 (dk_at dksX1_putRow_2 6 rfl rfl)
theorem dX1_putRow_53 : decode cX1_putRow 53 = .ok (.ior, 1) := dk_128 (dk_at dksX1_putRow_2 7 rfl rfl)
theorem dX1_putRow_54 : decode cX1_putRow 54 = .ok (.istore 4, 2) := dk_54 4 (dk_at dksX1_putRow_2 8 rfl rfl)
theorem dX1_putRow_56 : decode cX1_putRow 56 = .ok (.iinc 5 1, 3) := dk_132 5 1 (dk_at dksX1_putRow_2 10 rfl rfl)
theorem dX1_putRow_59 : decode cX1_putRow 59 = .ok (.goto (-43), 3) := dk_167 255 213 (dk_at dksX1_putRow_2 13 rfl rfl)
theorem dX1_putRow_62 : decode cX1_putRow 62 = .ok (.aload_n 0, 1) := dk_42 (dk_at dksX1_putRow_2 16 rfl rfl)
theorem dX1_putRow_63 : decode cX1_putRow 63 = .ok (.iload 4, 2) := dk_21 4 (dk_at dksX1_putRow_2 17 rfl rfl)
theorem dX1_putRow_65 : decode cX1_putRow 65 = .ok (.invokevirtual 196, 3) := dk_182 0 196 (dk_at dksX1_putRow_2 19 rfl rfl)
theorem dX1_putRow_68 : decode cX1_putRow 68 = .ok (.iinc 3 8, 3) := dk_132 3 8 (dk_at dksX1_putRow_3 0 rfl rfl)
theorem dX1_putRow_71 : decode cX1_putRow 71 = .ok (.goto (-69), 3) := dk_167 255 187 (dk_at dksX1_putRow_3 3 rfl rfl)
theorem dX1_putRow_74 : decode cX1_putRow 74 = .ok (.return_, 1) := dk_177 (dk_at dksX1_putRow_3 6 rfl rfl)
abbrev cX1_byteAt : ByteArray := prog_1_method_24_code
def yX1_byteAt : MethodName := ⟨RX1, "byteAt", "(I)I"⟩
def dkwX1_byteAt_1 : List UInt8 := [17, 0, 255, 126, 172]
abbrev dktX1_byteAt_1 : List UInt8 := dkwX1_byteAt_1 ++ []
def dkwX1_byteAt_0 : List UInt8 := [27, 133, 9, 42, 180, 0, 193, 133, 10, 101, 184, 0, 100, 184, 0, 123, 42, 180, 0, 52, 27, 51]
abbrev dktX1_byteAt_0 : List UInt8 := dkwX1_byteAt_0 ++ dktX1_byteAt_1
theorem dksX1_byteAt_0 : cX1_byteAt.data.toList.drop 0 = dktX1_byteAt_0 := by decide +kernel
theorem dksX1_byteAt_1 : cX1_byteAt.data.toList.drop 22 = dktX1_byteAt_1 := dk_seg dksX1_byteAt_0 22 rfl rfl
theorem dX1_byteAt_0 : decode cX1_byteAt 0 = .ok (.iload_n 1, 1) := dk_27 (dk_at dksX1_byteAt_0 0 rfl rfl)
theorem dX1_byteAt_1 : decode cX1_byteAt 1 = .ok (.i2l, 1) := dk_133 (dk_at dksX1_byteAt_0 1 rfl rfl)
theorem dX1_byteAt_2 : decode cX1_byteAt 2 = .ok (.lconst 0, 1) := dk_9 (dk_at dksX1_byteAt_0 2 rfl rfl)
theorem dX1_byteAt_3 : decode cX1_byteAt 3 = .ok (.aload_n 0, 1) := dk_42 (dk_at dksX1_byteAt_0 3 rfl rfl)
theorem dX1_byteAt_4 : decode cX1_byteAt 4 = .ok (.getfield 193, 3) := dk_180 0 193 (dk_at dksX1_byteAt_0 4 rfl rfl)
theorem dX1_byteAt_7 : decode cX1_byteAt 7 = .ok (.i2l, 1) := dk_133 (dk_at dksX1_byteAt_0 7 rfl rfl)
theorem dX1_byteAt_8 : decode cX1_byteAt 8 = .ok (.lconst 1, 1) := dk_10 (dk_at dksX1_byteAt_0 8 rfl rfl)
theorem dX1_byteAt_9 : decode cX1_byteAt 9 = .ok (.lsub, 1) := dk_101 (dk_at dksX1_byteAt_0 9 rfl rfl)
theorem dX1_byteAt_10 : decode cX1_byteAt 10 = .ok (.invokestatic 100, 3) := dk_184 0 100 (dk_at dksX1_byteAt_0 10 rfl rfl)
theorem dX1_byteAt_13 : decode cX1_byteAt 13 = .ok (.invokestatic 123, 3) := dk_184 0 123 (dk_at dksX1_byteAt_0 13 rfl rfl)
theorem dX1_byteAt_16 : decode cX1_byteAt 16 = .ok (.aload_n 0, 1) := dk_42 (dk_at dksX1_byteAt_0 16 rfl rfl)
theorem dX1_byteAt_17 : decode cX1_byteAt 17 = .ok (.getfield 52, 3) := dk_180 0 52 (dk_at dksX1_byteAt_0 17 rfl rfl)
theorem dX1_byteAt_20 : decode cX1_byteAt 20 = .ok (.iload_n 1, 1) := dk_27 (dk_at dksX1_byteAt_0 20 rfl rfl)
theorem dX1_byteAt_21 : decode cX1_byteAt 21 = .ok (.baload, 1) := dk_51 (dk_at dksX1_byteAt_0 21 rfl rfl)
theorem dX1_byteAt_22 : decode cX1_byteAt 22 = .ok (.sipush 255, 3) := dk_17 0 255 (dk_at dksX1_byteAt_1 0 rfl rfl)
theorem dX1_byteAt_25 : decode cX1_byteAt 25 = .ok (.iand, 1) := dk_126 (dk_at dksX1_byteAt_1 3 rfl rfl)
theorem dX1_byteAt_26 : decode cX1_byteAt 26 = .ok (.ireturn, 1) := dk_172 (dk_at dksX1_byteAt_1 4 rfl rfl)
abbrev cX1_feed : ByteArray := prog_1_method_26_code
def yX1_feed : MethodName := ⟨RX1, "feed", "(IZ)I"⟩
def dkwX1_feed_3 : List UInt8 := [42, 180, 1, 0, 172]
abbrev dktX1_feed_3 : List UInt8 := dkwX1_feed_3 ++ []
def dkwX1_feed_2 : List UInt8 := [167, 0, 4, 3, 184, 0, 112, 42, 27, 28, 182, 1, 3, 28, 153, 0, 10, 42, 180, 0, 253, 167, 0, 7]
abbrev dktX1_feed_2 : List UInt8 := dkwX1_feed_2 ++ dktX1_feed_3
def dkwX1_feed_1 : List UInt8 := [4, 167, 0, 4, 3, 184, 0, 104, 42, 180, 1, 0, 42, 180, 0, 253, 96, 17, 11, 184, 162, 0, 7, 4]
abbrev dktX1_feed_1 : List UInt8 := dkwX1_feed_1 ++ dktX1_feed_2
def dkwX1_feed_0 : List UInt8 := [27, 133, 9, 20, 0, 162, 184, 0, 100, 153, 0, 19, 28, 153, 0, 11, 42, 180, 0, 89, 5, 160, 0, 7]
abbrev dktX1_feed_0 : List UInt8 := dkwX1_feed_0 ++ dktX1_feed_1
theorem dksX1_feed_0 : cX1_feed.data.toList.drop 0 = dktX1_feed_0 := by decide +kernel
theorem dksX1_feed_1 : cX1_feed.data.toList.drop 24 = dktX1_feed_1 := dk_seg dksX1_feed_0 24 rfl rfl
theorem dksX1_feed_2 : cX1_feed.data.toList.drop 48 = dktX1_feed_2 := dk_seg dksX1_feed_1 24 rfl rfl
theorem dksX1_feed_3 : cX1_feed.data.toList.drop 72 = dktX1_feed_3 := dk_seg dksX1_feed_2 24 rfl rfl
theorem dX1_feed_0 : decode cX1_feed 0 = .ok (.iload_n 1, 1) := dk_27 (dk_at dksX1_feed_0 0 rfl rfl)
theorem dX1_feed_1 : decode cX1_feed 1 = .ok (.i2l, 1) := dk_133 (dk_at dksX1_feed_0 1 rfl rfl)
theorem dX1_feed_2 : decode cX1_feed 2 = .ok (.lconst 0, 1) := dk_9 (dk_at dksX1_feed_0 2 rfl rfl)
theorem dX1_feed_3 : decode cX1_feed 3 = .ok (.ldc2_w 162, 3) := dk_20 0 162 (dk_at dksX1_feed_0 3 rfl rfl)
theorem dX1_feed_6 : decode cX1_feed 6 = .ok (.invokestatic 100, 3) := dk_184 0 100 (dk_at dksX1_feed_0 6 rfl rfl)
theorem dX1_feed_9 : decode cX1_feed 9 = .ok (.ifCond .eq 19, 3) := dk_153 0 19 (dk_at dksX1_feed_0 9 rfl rfl)
theorem dX1_feed_12 : decode cX1_feed 12 = .ok (.iload_n 2, 1) := dk_28 (dk_at dksX1_feed_0 12 rfl rfl)
theorem dX1_feed_13 : decode cX1_feed 13 = .ok (.ifCond .eq 11, 3) := dk_153 0 11 (dk_at dksX1_feed_0 13 rfl rfl)
theorem dX1_feed_16 : decode cX1_feed 16 = .ok (.aload_n 0, 1) := dk_42 (dk_at dksX1_feed_0 16 rfl rfl)
theorem dX1_feed_17 : decode cX1_feed 17 = .ok (.getfield 89, 3) := dk_180 0 89 (dk_at dksX1_feed_0 17 rfl rfl)
theorem dX1_feed_20 : decode cX1_feed 20 = .ok (.iconst 2, 1) := dk_5 (dk_at dksX1_feed_0 20 rfl rfl)
theorem dX1_feed_21 : decode cX1_feed 21 = .ok (.if_icmp .ne 7, 3) := dk_160 0 7 (dk_at dksX1_feed_0 21 rfl rfl)
theorem dX1_feed_24 : decode cX1_feed 24 = .ok (.iconst 1, 1) := dk_4 (dk_at dksX1_feed_1 0 rfl rfl)
theorem dX1_feed_25 : decode cX1_feed 25 = .ok (.goto 4, 3) := dk_167 0 4 (dk_at dksX1_feed_1 1 rfl rfl)
theorem dX1_feed_28 : decode cX1_feed 28 = .ok (.iconst 0, 1) := dk_3 (dk_at dksX1_feed_1 4 rfl rfl)
theorem dX1_feed_29 : decode cX1_feed 29 = .ok (.invokestatic 104, 3) := dk_184 0 104 (dk_at dksX1_feed_1 5 rfl rfl)
theorem dX1_feed_32 : decode cX1_feed 32 = .ok (.aload_n 0, 1) := dk_42 (dk_at dksX1_feed_1 8 rfl rfl)
theorem dX1_feed_33 : decode cX1_feed 33 = .ok (.getfield 256, 3) := dk_180 1 0 (dk_at dksX1_feed_1 9 rfl rfl)
theorem dX1_feed_36 : decode cX1_feed 36 = .ok (.aload_n 0, 1) := dk_42 (dk_at dksX1_feed_1 12 rfl rfl)
theorem dX1_feed_37 : decode cX1_feed 37 = .ok (.getfield 253, 3) := dk_180 0 253 (dk_at dksX1_feed_1 13 rfl rfl)
theorem dX1_feed_40 : decode cX1_feed 40 = .ok (.iadd, 1) := dk_96 (dk_at dksX1_feed_1 16 rfl rfl)
theorem dX1_feed_41 : decode cX1_feed 41 = .ok (.sipush 3000, 3) := dk_17 11 184 (dk_at dksX1_feed_1 17 rfl rfl)
theorem dX1_feed_44 : decode cX1_feed 44 = .ok (.if_icmp .ge 7, 3) := dk_162 0 7 (dk_at dksX1_feed_1 20 rfl rfl)
theorem dX1_feed_47 : decode cX1_feed 47 = .ok (.iconst 1, 1) := dk_4 (dk_at dksX1_feed_1 23 rfl rfl)
theorem dX1_feed_48 : decode cX1_feed 48 = .ok (.goto 4, 3) := dk_167 0 4 (dk_at dksX1_feed_2 0 rfl rfl)
theorem dX1_feed_51 : decode cX1_feed 51 = .ok (.iconst 0, 1) := dk_3 (dk_at dksX1_feed_2 3 rfl rfl)
theorem dX1_feed_52 : decode cX1_feed 52 = .ok (.invokestatic 112, 3) := dk_184 0 112 (dk_at dksX1_feed_2 4 rfl rfl)
theorem dX1_feed_55 : decode cX1_feed 55 = .ok (.aload_n 0, 1) := dk_42 (dk_at dksX1_feed_2 7 rfl rfl)
theorem dX1_feed_56 : decode cX1_feed 56 = .ok (.iload_n 1, 1) := dk_27 (dk_at dksX1_feed_2 8 rfl rfl)
theorem dX1_feed_57 : decode cX1_feed 57 = .ok (.iload_n 2, 1) := dk_28 (dk_at dksX1_feed_2 9 rfl rfl)
theorem dX1_feed_58 : decode cX1_feed 58 = .ok (.invokevirtual 259, 3) := dk_182 1 3 (dk_at dksX1_feed_2 10 rfl rfl)
theorem dX1_feed_61 : decode cX1_feed 61 = .ok (.iload_n 2, 1) := dk_28 (dk_at dksX1_feed_2 13 rfl rfl)
theorem dX1_feed_62 : decode cX1_feed 62 = .ok (.ifCond .eq 10, 3) := dk_153 0 10 (dk_at dksX1_feed_2 14 rfl rfl)
theorem dX1_feed_65 : decode cX1_feed 65 = .ok (.aload_n 0, 1) := dk_42 (dk_at dksX1_feed_2 17 rfl rfl)
theorem dX1_feed_66 : decode cX1_feed 66 = .ok (.getfield 253, 3) := dk_180 0 253 (dk_at dksX1_feed_2 18 rfl rfl)
theorem dX1_feed_69 : decode cX1_feed 69 = .ok (.goto 7, 3) := dk_167 0 7 (dk_at dksX1_feed_2 21 rfl rfl)
theorem dX1_feed_72 : decode cX1_feed 72 = .ok (.aload_n 0, 1) := dk_42 (dk_at dksX1_feed_3 0 rfl rfl)
theorem dX1_feed_73 : decode cX1_feed 73 = .ok (.getfield 256, 3) := dk_180 1 0 (dk_at dksX1_feed_3 1 rfl rfl)
theorem dX1_feed_76 : decode cX1_feed 76 = .ok (.ireturn, 1) := dk_172 (dk_at dksX1_feed_3 4 rfl rfl)
abbrev cX1_take : ByteArray := prog_1_method_25_code
def yX1_take : MethodName := ⟨RX1, "take", "(IZ)V"⟩
def dkwX1_take_1 : List UInt8 := [167, 0, 21, 42, 180, 0, 56, 42, 89, 180, 1, 0, 90, 4, 96, 181, 1, 0, 27, 145, 84, 177]
abbrev dktX1_take_1 : List UInt8 := dkwX1_take_1 ++ []
def dkwX1_take_0 : List UInt8 := [28, 153, 0, 24, 42, 180, 0, 59, 42, 89, 180, 0, 253, 90, 4, 96, 181, 0, 253, 27, 145, 84]
abbrev dktX1_take_0 : List UInt8 := dkwX1_take_0 ++ dktX1_take_1
theorem dksX1_take_0 : cX1_take.data.toList.drop 0 = dktX1_take_0 := by decide +kernel
theorem dksX1_take_1 : cX1_take.data.toList.drop 22 = dktX1_take_1 := dk_seg dksX1_take_0 22 rfl rfl
theorem dX1_take_0 : decode cX1_take 0 = .ok (.iload_n 2, 1) := dk_28 (dk_at dksX1_take_0 0 rfl rfl)
theorem dX1_take_1 : decode cX1_take 1 = .ok (.ifCond .eq 24, 3) := dk_153 0 24 (dk_at dksX1_take_0 1 rfl rfl)
theorem dX1_take_4 : decode cX1_take 4 = .ok (.aload_n 0, 1) := dk_42 (dk_at dksX1_take_0 4 rfl rfl)
theorem dX1_take_5 : decode cX1_take 5 = .ok (.getfield 59, 3) := dk_180 0 59 (dk_at dksX1_take_0 5 rfl rfl)
theorem dX1_take_8 : decode cX1_take 8 = .ok (.aload_n 0, 1) := dk_42 (dk_at dksX1_take_0 8 rfl rfl)
theorem dX1_take_9 : decode cX1_take 9 = .ok (.dup, 1) := dk_89 (dk_at dksX1_take_0 9 rfl rfl)
theorem dX1_take_10 : decode cX1_take 10 = .ok (.getfield 253, 3) := dk_180 0 253 (dk_at dksX1_take_0 10 rfl rfl)
theorem dX1_take_13 : decode cX1_take 13 = .ok (.dup_x1, 1) := dk_90 (dk_at dksX1_take_0 13 rfl rfl)
theorem dX1_take_14 : decode cX1_take 14 = .ok (.iconst 1, 1) := dk_4 (dk_at dksX1_take_0 14 rfl rfl)
theorem dX1_take_15 : decode cX1_take 15 = .ok (.iadd, 1) := dk_96 (dk_at dksX1_take_0 15 rfl rfl)
theorem dX1_take_16 : decode cX1_take 16 = .ok (.putfield 253, 3) := dk_181 0 253 (dk_at dksX1_take_0 16 rfl rfl)
theorem dX1_take_19 : decode cX1_take 19 = .ok (.iload_n 1, 1) := dk_27 (dk_at dksX1_take_0 19 rfl rfl)
theorem dX1_take_20 : decode cX1_take 20 = .ok (.i2b, 1) := dk_145 (dk_at dksX1_take_0 20 rfl rfl)
theorem dX1_take_21 : decode cX1_take 21 = .ok (.bastore, 1) := dk_84 (dk_at dksX1_take_0 21 rfl rfl)
theorem dX1_take_22 : decode cX1_take 22 = .ok (.goto 21, 3) := dk_167 0 21 (dk_at dksX1_take_1 0 rfl rfl)
theorem dX1_take_25 : decode cX1_take 25 = .ok (.aload_n 0, 1) := dk_42 (dk_at dksX1_take_1 3 rfl rfl)
theorem dX1_take_26 : decode cX1_take 26 = .ok (.getfield 56, 3) := dk_180 0 56 (dk_at dksX1_take_1 4 rfl rfl)
theorem dX1_take_29 : decode cX1_take 29 = .ok (.aload_n 0, 1) := dk_42 (dk_at dksX1_take_1 7 rfl rfl)
theorem dX1_take_30 : decode cX1_take 30 = .ok (.dup, 1) := dk_89 (dk_at dksX1_take_1 8 rfl rfl)
theorem dX1_take_31 : decode cX1_take 31 = .ok (.getfield 256, 3) := dk_180 1 0 (dk_at dksX1_take_1 9 rfl rfl)
theorem dX1_take_34 : decode cX1_take 34 = .ok (.dup_x1, 1) := dk_90 (dk_at dksX1_take_1 12 rfl rfl)
theorem dX1_take_35 : decode cX1_take 35 = .ok (.iconst 1, 1) := dk_4 (dk_at dksX1_take_1 13 rfl rfl)
theorem dX1_take_36 : decode cX1_take 36 = .ok (.iadd, 1) := dk_96 (dk_at dksX1_take_1 14 rfl rfl)
theorem dX1_take_37 : decode cX1_take 37 = .ok (.putfield 256, 3) := dk_181 1 0 (dk_at dksX1_take_1 15 rfl rfl)
theorem dX1_take_40 : decode cX1_take 40 = .ok (.iload_n 1, 1) := dk_27 (dk_at dksX1_take_1 18 rfl rfl)
theorem dX1_take_41 : decode cX1_take 41 = .ok (.i2b, 1) := dk_145 (dk_at dksX1_take_1 19 rfl rfl)
theorem dX1_take_42 : decode cX1_take 42 = .ok (.bastore, 1) := dk_84 (dk_at dksX1_take_1 20 rfl rfl)
theorem dX1_take_43 : decode cX1_take 43 = .ok (.return_, 1) := dk_177 (dk_at dksX1_take_1 21 rfl rfl)
abbrev cX1_pass : ByteArray := prog_1_method_27_code
def yX1_pass : MethodName := ⟨RX1, "pass", "(Z)I"⟩
def dkwX1_pass_3 : List UInt8 := [167, 255, 234, 27, 153, 0, 10, 42, 180, 0, 253, 167, 0, 7, 42, 180, 1, 0, 172]
abbrev dktX1_pass_3 : List UInt8 := dkwX1_pass_3 ++ []
def dkwX1_pass_2 : List UInt8 := [3, 61, 28, 42, 180, 0, 193, 162, 0, 20, 42, 42, 180, 0, 52, 28, 51, 27, 182, 1, 3, 132, 2, 1]
abbrev dktX1_pass_2 : List UInt8 := dkwX1_pass_2 ++ dktX1_pass_3
def dkwX1_pass_1 : List UInt8 := [42, 180, 0, 253, 96, 42, 180, 0, 193, 96, 17, 11, 184, 163, 0, 7, 4, 167, 0, 4, 3, 184, 0, 112]
abbrev dktX1_pass_1 : List UInt8 := dkwX1_pass_1 ++ dktX1_pass_2
def dkwX1_pass_0 : List UInt8 := [27, 153, 0, 11, 42, 180, 0, 89, 5, 160, 0, 7, 4, 167, 0, 4, 3, 184, 0, 104, 42, 180, 1, 0]
abbrev dktX1_pass_0 : List UInt8 := dkwX1_pass_0 ++ dktX1_pass_1
theorem dksX1_pass_0 : cX1_pass.data.toList.drop 0 = dktX1_pass_0 := by decide +kernel
theorem dksX1_pass_1 : cX1_pass.data.toList.drop 24 = dktX1_pass_1 := dk_seg dksX1_pass_0 24 rfl rfl
theorem dksX1_pass_2 : cX1_pass.data.toList.drop 48 = dktX1_pass_2 := dk_seg dksX1_pass_1 24 rfl rfl
theorem dksX1_pass_3 : cX1_pass.data.toList.drop 72 = dktX1_pass_3 := dk_seg dksX1_pass_2 24 rfl rfl
theorem dX1_pass_0 : decode cX1_pass 0 = .ok (.iload_n 1, 1) := dk_27 (dk_at dksX1_pass_0 0 rfl rfl)
theorem dX1_pass_1 : decode cX1_pass 1 = .ok (.ifCond .eq 11, 3) := dk_153 0 11 (dk_at dksX1_pass_0 1 rfl rfl)
theorem dX1_pass_4 : decode cX1_pass 4 = .ok (.aload_n 0, 1) := dk_42 (dk_at dksX1_pass_0 4 rfl rfl)
theorem dX1_pass_5 : decode cX1_pass 5 = .ok (.getfield 89, 3) := dk_180 0 89 (dk_at dksX1_pass_0 5 rfl rfl)
theorem dX1_pass_8 : decode cX1_pass 8 = .ok (.iconst 2, 1) := dk_5 (dk_at dksX1_pass_0 8 rfl rfl)
theorem dX1_pass_9 : decode cX1_pass 9 = .ok (.if_icmp .ne 7, 3) := dk_160 0 7 (dk_at dksX1_pass_0 9 rfl rfl)
theorem dX1_pass_12 : decode cX1_pass 12 = .ok (.iconst 1, 1) := dk_4 (dk_at dksX1_pass_0 12 rfl rfl)
theorem dX1_pass_13 : decode cX1_pass 13 = .ok (.goto 4, 3) := dk_167 0 4 (dk_at dksX1_pass_0 13 rfl rfl)
theorem dX1_pass_16 : decode cX1_pass 16 = .ok (.iconst 0, 1) := dk_3 (dk_at dksX1_pass_0 16 rfl rfl)
theorem dX1_pass_17 : decode cX1_pass 17 = .ok (.invokestatic 104, 3) := dk_184 0 104 (dk_at dksX1_pass_0 17 rfl rfl)
theorem dX1_pass_20 : decode cX1_pass 20 = .ok (.aload_n 0, 1) := dk_42 (dk_at dksX1_pass_0 20 rfl rfl)
theorem dX1_pass_21 : decode cX1_pass 21 = .ok (.getfield 256, 3) := dk_180 1 0 (dk_at dksX1_pass_0 21 rfl rfl)
theorem dX1_pass_24 : decode cX1_pass 24 = .ok (.aload_n 0, 1) := dk_42 (dk_at dksX1_pass_1 0 rfl rfl)
theorem dX1_pass_25 : decode cX1_pass 25 = .ok (.getfield 253, 3) := dk_180 0 253 (dk_at dksX1_pass_1 1 rfl rfl)
theorem dX1_pass_28 : decode cX1_pass 28 = .ok (.iadd, 1) := dk_96 (dk_at dksX1_pass_1 4 rfl rfl)
theorem dX1_pass_29 : decode cX1_pass 29 = .ok (.aload_n 0, 1) := dk_42 (dk_at dksX1_pass_1 5 rfl rfl)
theorem dX1_pass_30 : decode cX1_pass 30 = .ok (.getfield 193, 3) := dk_180 0 193 (dk_at dksX1_pass_1 6 rfl rfl)
theorem dX1_pass_33 : decode cX1_pass 33 = .ok (.iadd, 1) := dk_96 (dk_at dksX1_pass_1 9 rfl rfl)
theorem dX1_pass_34 : decode cX1_pass 34 = .ok (.sipush 3000, 3) := dk_17 11 184 (dk_at dksX1_pass_1 10 rfl rfl)
theorem dX1_pass_37 : decode cX1_pass 37 = .ok (.if_icmp .gt 7, 3) := dk_163 0 7 (dk_at dksX1_pass_1 13 rfl rfl)
theorem dX1_pass_40 : decode cX1_pass 40 = .ok (.iconst 1, 1) := dk_4 (dk_at dksX1_pass_1 16 rfl rfl)
theorem dX1_pass_41 : decode cX1_pass 41 = .ok (.goto 4, 3) := dk_167 0 4 (dk_at dksX1_pass_1 17 rfl rfl)
theorem dX1_pass_44 : decode cX1_pass 44 = .ok (.iconst 0, 1) := dk_3 (dk_at dksX1_pass_1 20 rfl rfl)
theorem dX1_pass_45 : decode cX1_pass 45 = .ok (.invokestatic 112, 3) := dk_184 0 112 (dk_at dksX1_pass_1 21 rfl rfl)
theorem dX1_pass_48 : decode cX1_pass 48 = .ok (.iconst 0, 1) := dk_3 (dk_at dksX1_pass_2 0 rfl rfl)
theorem dX1_pass_49 : decode cX1_pass 49 = .ok (.istore_n 2, 1) := dk_61 (dk_at dksX1_pass_2 1 rfl rfl)
theorem dX1_pass_50 : decode cX1_pass 50 = .ok (.iload_n 2, 1) := dk_28 (dk_at dksX1_pass_2 2 rfl rfl)
theorem dX1_pass_51 : decode cX1_pass 51 = .ok (.aload_n 0, 1) := dk_42 (dk_at dksX1_pass_2 3 rfl rfl)
theorem dX1_pass_52 : decode cX1_pass 52 = .ok (.getfield 193, 3) := dk_180 0 193 (dk_at dksX1_pass_2 4 rfl rfl)
theorem dX1_pass_55 : decode cX1_pass 55 = .ok (.if_icmp .ge 20, 3) := dk_162 0 20 (dk_at dksX1_pass_2 7 rfl rfl)
theorem dX1_pass_58 : decode cX1_pass 58 = .ok (.aload_n 0, 1) := dk_42 (dk_at dksX1_pass_2 10 rfl rfl)
theorem dX1_pass_59 : decode cX1_pass 59 = .ok (.aload_n 0, 1) := dk_42 (dk_at dksX1_pass_2 11 rfl rfl)
theorem dX1_pass_60 : decode cX1_pass 60 = .ok (.getfield 52, 3) := dk_180 0 52 (dk_at dksX1_pass_2 12 rfl rfl)
theorem dX1_pass_63 : decode cX1_pass 63 = .ok (.iload_n 2, 1) := dk_28 (dk_at dksX1_pass_2 15 rfl rfl)
theorem dX1_pass_64 : decode cX1_pass 64 = .ok (.baload, 1) := dk_51 (dk_at dksX1_pass_2 16 rfl rfl)
theorem dX1_pass_65 : decode cX1_pass 65 = .ok (.iload_n 1, 1) := dk_27 (dk_at dksX1_pass_2 17 rfl rfl)
theorem dX1_pass_66 : decode cX1_pass 66 = .ok (.invokevirtual 259, 3) := dk_182 1 3 (dk_at dksX1_pass_2 18 rfl rfl)
theorem dX1_pass_69 : decode cX1_pass 69 = .ok (.iinc 2 1, 3) := dk_132 2 1 (dk_at dksX1_pass_2 21 rfl rfl)
theorem dX1_pass_72 : decode cX1_pass 72 = .ok (.goto (-22), 3) := dk_167 255 234 (dk_at dksX1_pass_3 0 rfl rfl)
theorem dX1_pass_75 : decode cX1_pass 75 = .ok (.iload_n 1, 1) := dk_27 (dk_at dksX1_pass_3 3 rfl rfl)
theorem dX1_pass_76 : decode cX1_pass 76 = .ok (.ifCond .eq 10, 3) := dk_153 0 10 (dk_at dksX1_pass_3 4 rfl rfl)
theorem dX1_pass_79 : decode cX1_pass 79 = .ok (.aload_n 0, 1) := dk_42 (dk_at dksX1_pass_3 7 rfl rfl)
theorem dX1_pass_80 : decode cX1_pass 80 = .ok (.getfield 253, 3) := dk_180 0 253 (dk_at dksX1_pass_3 8 rfl rfl)
theorem dX1_pass_83 : decode cX1_pass 83 = .ok (.goto 7, 3) := dk_167 0 7 (dk_at dksX1_pass_3 11 rfl rfl)
theorem dX1_pass_86 : decode cX1_pass 86 = .ok (.aload_n 0, 1) := dk_42 (dk_at dksX1_pass_3 14 rfl rfl)
theorem dX1_pass_87 : decode cX1_pass 87 = .ok (.getfield 256, 3) := dk_180 1 0 (dk_at dksX1_pass_3 15 rfl rfl)
theorem dX1_pass_90 : decode cX1_pass 90 = .ok (.ireturn, 1) := dk_172 (dk_at dksX1_pass_3 18 rfl rfl)
abbrev cX1_alter : ByteArray := prog_1_method_28_code
def yX1_alter : MethodName := ⟨RX1, "alter", "(II)I"⟩
def dkwX1_alter_2 : List UInt8 := [84, 29, 172]
abbrev dktX1_alter_2 : List UInt8 := dkwX1_alter_2 ++ []
def dkwX1_alter_1 : List UInt8 := [184, 0, 100, 184, 0, 104, 42, 180, 0, 56, 27, 51, 17, 0, 255, 126, 62, 42, 180, 0, 56, 27, 28, 145]
abbrev dktX1_alter_1 : List UInt8 := dkwX1_alter_1 ++ dktX1_alter_2
def dkwX1_alter_0 : List UInt8 := [27, 133, 9, 42, 180, 1, 0, 133, 10, 101, 184, 0, 100, 184, 0, 123, 28, 133, 9, 20, 0, 162]
abbrev dktX1_alter_0 : List UInt8 := dkwX1_alter_0 ++ dktX1_alter_1
theorem dksX1_alter_0 : cX1_alter.data.toList.drop 0 = dktX1_alter_0 := by decide +kernel
theorem dksX1_alter_1 : cX1_alter.data.toList.drop 22 = dktX1_alter_1 := dk_seg dksX1_alter_0 22 rfl rfl
theorem dksX1_alter_2 : cX1_alter.data.toList.drop 46 = dktX1_alter_2 := dk_seg dksX1_alter_1 24 rfl rfl
theorem dX1_alter_0 : decode cX1_alter 0 = .ok (.iload_n 1, 1) := dk_27 (dk_at dksX1_alter_0 0 rfl rfl)
theorem dX1_alter_1 : decode cX1_alter 1 = .ok (.i2l, 1) := dk_133 (dk_at dksX1_alter_0 1 rfl rfl)
theorem dX1_alter_2 : decode cX1_alter 2 = .ok (.lconst 0, 1) := dk_9 (dk_at dksX1_alter_0 2 rfl rfl)
theorem dX1_alter_3 : decode cX1_alter 3 = .ok (.aload_n 0, 1) := dk_42 (dk_at dksX1_alter_0 3 rfl rfl)
theorem dX1_alter_4 : decode cX1_alter 4 = .ok (.getfield 256, 3) := dk_180 1 0 (dk_at dksX1_alter_0 4 rfl rfl)
theorem dX1_alter_7 : decode cX1_alter 7 = .ok (.i2l, 1) := dk_133 (dk_at dksX1_alter_0 7 rfl rfl)
theorem dX1_alter_8 : decode cX1_alter 8 = .ok (.lconst 1, 1) := dk_10 (dk_at dksX1_alter_0 8 rfl rfl)
theorem dX1_alter_9 : decode cX1_alter 9 = .ok (.lsub, 1) := dk_101 (dk_at dksX1_alter_0 9 rfl rfl)
theorem dX1_alter_10 : decode cX1_alter 10 = .ok (.invokestatic 100, 3) := dk_184 0 100 (dk_at dksX1_alter_0 10 rfl rfl)
theorem dX1_alter_13 : decode cX1_alter 13 = .ok (.invokestatic 123, 3) := dk_184 0 123 (dk_at dksX1_alter_0 13 rfl rfl)
theorem dX1_alter_16 : decode cX1_alter 16 = .ok (.iload_n 2, 1) := dk_28 (dk_at dksX1_alter_0 16 rfl rfl)
theorem dX1_alter_17 : decode cX1_alter 17 = .ok (.i2l, 1) := dk_133 (dk_at dksX1_alter_0 17 rfl rfl)
theorem dX1_alter_18 : decode cX1_alter 18 = .ok (.lconst 0, 1) := dk_9 (dk_at dksX1_alter_0 18 rfl rfl)
theorem dX1_alter_19 : decode cX1_alter 19 = .ok (.ldc2_w 162, 3) := dk_20 0 162 (dk_at dksX1_alter_0 19 rfl rfl)
theorem dX1_alter_22 : decode cX1_alter 22 = .ok (.invokestatic 100, 3) := dk_184 0 100 (dk_at dksX1_alter_1 0 rfl rfl)
theorem dX1_alter_25 : decode cX1_alter 25 = .ok (.invokestatic 104, 3) := dk_184 0 104 (dk_at dksX1_alter_1 3 rfl rfl)
theorem dX1_alter_28 : decode cX1_alter 28 = .ok (.aload_n 0, 1) := dk_42 (dk_at dksX1_alter_1 6 rfl rfl)
theorem dX1_alter_29 : decode cX1_alter 29 = .ok (.getfield 56, 3) := dk_180 0 56 (dk_at dksX1_alter_1 7 rfl rfl)
theorem dX1_alter_32 : decode cX1_alter 32 = .ok (.iload_n 1, 1) := dk_27 (dk_at dksX1_alter_1 10 rfl rfl)
theorem dX1_alter_33 : decode cX1_alter 33 = .ok (.baload, 1) := dk_51 (dk_at dksX1_alter_1 11 rfl rfl)
theorem dX1_alter_34 : decode cX1_alter 34 = .ok (.sipush 255, 3) := dk_17 0 255 (dk_at dksX1_alter_1 12 rfl rfl)
theorem dX1_alter_37 : decode cX1_alter 37 = .ok (.iand, 1) := dk_126 (dk_at dksX1_alter_1 15 rfl rfl)
theorem dX1_alter_38 : decode cX1_alter 38 = .ok (.istore_n 3, 1) := dk_62 (dk_at dksX1_alter_1 16 rfl rfl)
theorem dX1_alter_39 : decode cX1_alter 39 = .ok (.aload_n 0, 1) := dk_42 (dk_at dksX1_alter_1 17 rfl rfl)
theorem dX1_alter_40 : decode cX1_alter 40 = .ok (.getfield 56, 3) := dk_180 0 56 (dk_at dksX1_alter_1 18 rfl rfl)
theorem dX1_alter_43 : decode cX1_alter 43 = .ok (.iload_n 1, 1) := dk_27 (dk_at dksX1_alter_1 21 rfl rfl)
theorem dX1_alter_44 : decode cX1_alter 44 = .ok (.iload_n 2, 1) := dk_28 (dk_at dksX1_alter_1 22 rfl rfl)
theorem dX1_alter_45 : decode cX1_alter 45 = .ok (.i2b, 1) := dk_145 (dk_at dksX1_alter_1 23 rfl rfl)
theorem dX1_alter_46 : decode cX1_alter 46 = .ok (.bastore, 1) := dk_84 (dk_at dksX1_alter_2 0 rfl rfl)
theorem dX1_alter_47 : decode cX1_alter 47 = .ok (.iload_n 3, 1) := dk_29 (dk_at dksX1_alter_2 1 rfl rfl)
theorem dX1_alter_48 : decode cX1_alter 48 = .ok (.ireturn, 1) := dk_172 (dk_at dksX1_alter_2 2 rfl rfl)
abbrev cX1_found : ByteArray := prog_1_method_30_code
def yX1_found : MethodName := ⟨RX1, "found", "(II)I"⟩
def dkwX1_found_4 : List UInt8 := [45, 180, 0, 142, 167, 0, 19, 45, 180, 1, 30, 167, 0, 12, 45, 180, 1, 33, 136, 167, 0, 4, 2, 172]
abbrev dktX1_found_4 : List UInt8 := dkwX1_found_4 ++ []
def dkwX1_found_3 : List UInt8 := [45, 180, 0, 220, 167, 0, 43, 45, 180, 0, 151, 180, 0, 7, 167, 0, 33, 45, 180, 0, 224, 167, 0, 26]
abbrev dktX1_found_3 : List UInt8 := dkwX1_found_3 ++ dktX1_found_4
def dkwX1_found_2 : List UInt8 := [170, 0, 0, 0, 83, 0, 0, 0, 0, 0, 0, 0, 5, 0, 0, 0, 37, 0, 0, 0, 44, 0, 0, 0, 54, 0, 0, 0, 61, 0, 0, 0, 68, 0, 0, 0, 75]
abbrev dktX1_found_2 : List UInt8 := dkwX1_found_2 ++ dktX1_found_3
def dkwX1_found_1 : List UInt8 := [184, 0, 123, 42, 180, 0, 68, 27, 182, 0, 126, 192, 0, 43, 78, 28]
abbrev dktX1_found_1 : List UInt8 := dkwX1_found_1 ++ dktX1_found_2
def dkwX1_found_0 : List UInt8 := [42, 180, 1, 10, 184, 0, 159, 27, 133, 9, 42, 180, 0, 68, 182, 0, 108, 133, 10, 101, 184, 0, 100]
abbrev dktX1_found_0 : List UInt8 := dkwX1_found_0 ++ dktX1_found_1
theorem dksX1_found_0 : cX1_found.data.toList.drop 0 = dktX1_found_0 := by decide +kernel
theorem dksX1_found_1 : cX1_found.data.toList.drop 23 = dktX1_found_1 := dk_seg dksX1_found_0 23 rfl rfl
theorem dksX1_found_2 : cX1_found.data.toList.drop 39 = dktX1_found_2 := dk_seg dksX1_found_1 16 rfl rfl
theorem dksX1_found_3 : cX1_found.data.toList.drop 76 = dktX1_found_3 := dk_seg dksX1_found_2 37 rfl rfl
theorem dksX1_found_4 : cX1_found.data.toList.drop 100 = dktX1_found_4 := dk_seg dksX1_found_3 24 rfl rfl
theorem dX1_found_0 : decode cX1_found 0 = .ok (.aload_n 0, 1) := dk_42 (dk_at dksX1_found_0 0 rfl rfl)
theorem dX1_found_1 : decode cX1_found 1 = .ok (.getfield 266, 3) := dk_180 1 10 (dk_at dksX1_found_0 1 rfl rfl)
theorem dX1_found_4 : decode cX1_found 4 = .ok (.invokestatic 159, 3) := dk_184 0 159 (dk_at dksX1_found_0 4 rfl rfl)
theorem dX1_found_7 : decode cX1_found 7 = .ok (.iload_n 1, 1) := dk_27 (dk_at dksX1_found_0 7 rfl rfl)
theorem dX1_found_8 : decode cX1_found 8 = .ok (.i2l, 1) := dk_133 (dk_at dksX1_found_0 8 rfl rfl)
theorem dX1_found_9 : decode cX1_found 9 = .ok (.lconst 0, 1) := dk_9 (dk_at dksX1_found_0 9 rfl rfl)
theorem dX1_found_10 : decode cX1_found 10 = .ok (.aload_n 0, 1) := dk_42 (dk_at dksX1_found_0 10 rfl rfl)
theorem dX1_found_11 : decode cX1_found 11 = .ok (.getfield 68, 3) := dk_180 0 68 (dk_at dksX1_found_0 11 rfl rfl)
theorem dX1_found_14 : decode cX1_found 14 = .ok (.invokevirtual 108, 3) := dk_182 0 108 (dk_at dksX1_found_0 14 rfl rfl)
theorem dX1_found_17 : decode cX1_found 17 = .ok (.i2l, 1) := dk_133 (dk_at dksX1_found_0 17 rfl rfl)
theorem dX1_found_18 : decode cX1_found 18 = .ok (.lconst 1, 1) := dk_10 (dk_at dksX1_found_0 18 rfl rfl)
theorem dX1_found_19 : decode cX1_found 19 = .ok (.lsub, 1) := dk_101 (dk_at dksX1_found_0 19 rfl rfl)
theorem dX1_found_20 : decode cX1_found 20 = .ok (.invokestatic 100, 3) := dk_184 0 100 (dk_at dksX1_found_0 20 rfl rfl)
theorem dX1_found_23 : decode cX1_found 23 = .ok (.invokestatic 123, 3) := dk_184 0 123 (dk_at dksX1_found_1 0 rfl rfl)
theorem dX1_found_26 : decode cX1_found 26 = .ok (.aload_n 0, 1) := dk_42 (dk_at dksX1_found_1 3 rfl rfl)
theorem dX1_found_27 : decode cX1_found 27 = .ok (.getfield 68, 3) := dk_180 0 68 (dk_at dksX1_found_1 4 rfl rfl)
theorem dX1_found_30 : decode cX1_found 30 = .ok (.iload_n 1, 1) := dk_27 (dk_at dksX1_found_1 7 rfl rfl)
theorem dX1_found_31 : decode cX1_found 31 = .ok (.invokevirtual 126, 3) := dk_182 0 126 (dk_at dksX1_found_1 8 rfl rfl)
theorem dX1_found_34 : decode cX1_found 34 = .ok (.checkcast 43, 3) := dk_192 0 43 (dk_at dksX1_found_1 11 rfl rfl)
theorem dX1_found_37 : decode cX1_found 37 = .ok (.astore_n 3, 1) := dk_78 (dk_at dksX1_found_1 14 rfl rfl)
theorem dX1_found_38 : decode cX1_found 38 = .ok (.iload_n 2, 1) := dk_28 (dk_at dksX1_found_1 15 rfl rfl)
theorem dX1_found_39 : decode cX1_found 39 = .ok (.tableswitch 83 0 5 #[37, 44, 54, 61, 68, 75], 37) := by decide +kernel
theorem dX1_found_76 : decode cX1_found 76 = .ok (.aload_n 3, 1) := dk_45 (dk_at dksX1_found_3 0 rfl rfl)
theorem dX1_found_77 : decode cX1_found 77 = .ok (.getfield 220, 3) := dk_180 0 220 (dk_at dksX1_found_3 1 rfl rfl)
theorem dX1_found_80 : decode cX1_found 80 = .ok (.goto 43, 3) := dk_167 0 43 (dk_at dksX1_found_3 4 rfl rfl)
theorem dX1_found_83 : decode cX1_found 83 = .ok (.aload_n 3, 1) := dk_45 (dk_at dksX1_found_3 7 rfl rfl)
theorem dX1_found_84 : decode cX1_found 84 = .ok (.getfield 151, 3) := dk_180 0 151 (dk_at dksX1_found_3 8 rfl rfl)
theorem dX1_found_87 : decode cX1_found 87 = .ok (.getfield 7, 3) := dk_180 0 7 (dk_at dksX1_found_3 11 rfl rfl)
theorem dX1_found_90 : decode cX1_found 90 = .ok (.goto 33, 3) := dk_167 0 33 (dk_at dksX1_found_3 14 rfl rfl)
theorem dX1_found_93 : decode cX1_found 93 = .ok (.aload_n 3, 1) := dk_45 (dk_at dksX1_found_3 17 rfl rfl)
theorem dX1_found_94 : decode cX1_found 94 = .ok (.getfield 224, 3) := dk_180 0 224 (dk_at dksX1_found_3 18 rfl rfl)
theorem dX1_found_97 : decode cX1_found 97 = .ok (.goto 26, 3) := dk_167 0 26 (dk_at dksX1_found_3 21 rfl rfl)
theorem dX1_found_100 : decode cX1_found 100 = .ok (.aload_n 3, 1) := dk_45 (dk_at dksX1_found_4 0 rfl rfl)
theorem dX1_found_101 : decode cX1_found 101 = .ok (.getfield 142, 3) := dk_180 0 142 (dk_at dksX1_found_4 1 rfl rfl)
theorem dX1_found_104 : decode cX1_found 104 = .ok (.goto 19, 3) := dk_167 0 19 (dk_at dksX1_found_4 4 rfl rfl)
theorem dX1_found_107 : decode cX1_found 107 = .ok (.aload_n 3, 1) := dk_45 (dk_at dksX1_found_4 7 rfl rfl)
theorem dX1_found_108 : decode cX1_found 108 = .ok (.getfield 286, 3) := dk_180 1 30 (dk_at dksX1_found_4 8 rfl rfl)
theorem dX1_found_111 : decode cX1_found 111 = .ok (.goto 12, 3) := dk_167 0 12 (dk_at dksX1_found_4 11 rfl rfl)
theorem dX1_found_114 : decode cX1_found 114 = .ok (.aload_n 3, 1) := dk_45 (dk_at dksX1_found_4 14 rfl rfl)
theorem dX1_found_115 : decode cX1_found 115 = .ok (.getfield 289, 3) := dk_180 1 33 (dk_at dksX1_found_4 15 rfl rfl)
theorem dX1_found_118 : decode cX1_found 118 = .ok (.l2i, 1) := dk_136 (dk_at dksX1_found_4 18 rfl rfl)
theorem dX1_found_119 : decode cX1_found 119 = .ok (.goto 4, 3) := dk_167 0 4 (dk_at dksX1_found_4 19 rfl rfl)
theorem dX1_found_122 : decode cX1_found 122 = .ok (.iconst (-1), 1) := dk_2 (dk_at dksX1_found_4 22 rfl rfl)
theorem dX1_found_123 : decode cX1_found 123 = .ok (.ireturn, 1) := dk_172 (dk_at dksX1_found_4 23 rfl rfl)
abbrev cX1_page : ByteArray := prog_1_method_32_code
def yX1_page : MethodName := ⟨RX1, "page", "(II)I"⟩
def dkwX1_page_3 : List UInt8 := [182, 1, 51, 167, 0, 4, 2, 172]
abbrev dktX1_page_3 : List UInt8 := dkwX1_page_3 ++ []
def dkwX1_page_2 : List UInt8 := [45, 180, 1, 44, 167, 0, 25, 45, 180, 1, 46, 167, 0, 18, 45, 180, 1, 48, 167, 0, 11, 45]
abbrev dktX1_page_2 : List UInt8 := dkwX1_page_2 ++ dktX1_page_3
def dkwX1_page_1 : List UInt8 := [170, 0, 0, 0, 57, 0, 0, 0, 0, 0, 0, 0, 3, 0, 0, 0, 29, 0, 0, 0, 36, 0, 0, 0, 43, 0, 0, 0, 50]
abbrev dktX1_page_1 : List UInt8 := dkwX1_page_1 ++ dktX1_page_2
def dkwX1_page_0 : List UInt8 := [42, 27, 182, 1, 40, 78, 28]
abbrev dktX1_page_0 : List UInt8 := dkwX1_page_0 ++ dktX1_page_1
theorem dksX1_page_0 : cX1_page.data.toList.drop 0 = dktX1_page_0 := by decide +kernel
theorem dksX1_page_1 : cX1_page.data.toList.drop 7 = dktX1_page_1 := dk_seg dksX1_page_0 7 rfl rfl
theorem dksX1_page_2 : cX1_page.data.toList.drop 36 = dktX1_page_2 := dk_seg dksX1_page_1 29 rfl rfl
theorem dksX1_page_3 : cX1_page.data.toList.drop 58 = dktX1_page_3 := dk_seg dksX1_page_2 22 rfl rfl
theorem dX1_page_0 : decode cX1_page 0 = .ok (.aload_n 0, 1) := dk_42 (dk_at dksX1_page_0 0 rfl rfl)
theorem dX1_page_1 : decode cX1_page 1 = .ok (.iload_n 1, 1) := dk_27 (dk_at dksX1_page_0 1 rfl rfl)
theorem dX1_page_2 : decode cX1_page 2 = .ok (.invokevirtual 296, 3) := dk_182 1 40 (dk_at dksX1_page_0 2 rfl rfl)
theorem dX1_page_5 : decode cX1_page 5 = .ok (.astore_n 3, 1) := dk_78 (dk_at dksX1_page_0 5 rfl rfl)
theorem dX1_page_6 : decode cX1_page 6 = .ok (.iload_n 2, 1) := dk_28 (dk_at dksX1_page_0 6 rfl rfl)
theorem dX1_page_7 : decode cX1_page 7 = .ok (.tableswitch 57 0 3 #[29, 36, 43, 50], 29) := by decide +kernel
theorem dX1_page_36 : decode cX1_page 36 = .ok (.aload_n 3, 1) := dk_45 (dk_at dksX1_page_2 0 rfl rfl)
theorem dX1_page_37 : decode cX1_page 37 = .ok (.getfield 300, 3) := dk_180 1 44 (dk_at dksX1_page_2 1 rfl rfl)
theorem dX1_page_40 : decode cX1_page 40 = .ok (.goto 25, 3) := dk_167 0 25 (dk_at dksX1_page_2 4 rfl rfl)
theorem dX1_page_43 : decode cX1_page 43 = .ok (.aload_n 3, 1) := dk_45 (dk_at dksX1_page_2 7 rfl rfl)
theorem dX1_page_44 : decode cX1_page 44 = .ok (.getfield 302, 3) := dk_180 1 46 (dk_at dksX1_page_2 8 rfl rfl)
theorem dX1_page_47 : decode cX1_page 47 = .ok (.goto 18, 3) := dk_167 0 18 (dk_at dksX1_page_2 11 rfl rfl)
theorem dX1_page_50 : decode cX1_page 50 = .ok (.aload_n 3, 1) := dk_45 (dk_at dksX1_page_2 14 rfl rfl)
theorem dX1_page_51 : decode cX1_page 51 = .ok (.getfield 304, 3) := dk_180 1 48 (dk_at dksX1_page_2 15 rfl rfl)
theorem dX1_page_54 : decode cX1_page 54 = .ok (.goto 11, 3) := dk_167 0 11 (dk_at dksX1_page_2 18 rfl rfl)
theorem dX1_page_57 : decode cX1_page 57 = .ok (.aload_n 3, 1) := dk_45 (dk_at dksX1_page_2 21 rfl rfl)
theorem dX1_page_58 : decode cX1_page 58 = .ok (.invokevirtual 307, 3) := dk_182 1 51 (dk_at dksX1_page_3 0 rfl rfl)
theorem dX1_page_61 : decode cX1_page 61 = .ok (.goto 4, 3) := dk_167 0 4 (dk_at dksX1_page_3 3 rfl rfl)
theorem dX1_page_64 : decode cX1_page 64 = .ok (.iconst (-1), 1) := dk_2 (dk_at dksX1_page_3 6 rfl rfl)
theorem dX1_page_65 : decode cX1_page 65 = .ok (.ireturn, 1) := dk_172 (dk_at dksX1_page_3 7 rfl rfl)
abbrev cX1_sheet : ByteArray := prog_1_method_31_code
def yX1_sheet : MethodName := ⟨RX1, "sheet", "(I)LBilevelPages$Sheet;"⟩
def dkwX1_sheet_1 : List UInt8 := [50, 180, 1, 37, 153, 0, 7, 4, 167, 0, 4, 3, 184, 0, 123, 42, 180, 0, 64, 27, 50, 176]
abbrev dktX1_sheet_1 : List UInt8 := dkwX1_sheet_1 ++ []
def dkwX1_sheet_0 : List UInt8 := [42, 180, 1, 10, 184, 0, 159, 27, 133, 10, 20, 0, 98, 184, 0, 100, 153, 0, 19, 42, 180, 0, 64, 27]
abbrev dktX1_sheet_0 : List UInt8 := dkwX1_sheet_0 ++ dktX1_sheet_1
theorem dksX1_sheet_0 : cX1_sheet.data.toList.drop 0 = dktX1_sheet_0 := by decide +kernel
theorem dksX1_sheet_1 : cX1_sheet.data.toList.drop 24 = dktX1_sheet_1 := dk_seg dksX1_sheet_0 24 rfl rfl
theorem dX1_sheet_0 : decode cX1_sheet 0 = .ok (.aload_n 0, 1) := dk_42 (dk_at dksX1_sheet_0 0 rfl rfl)
theorem dX1_sheet_1 : decode cX1_sheet 1 = .ok (.getfield 266, 3) := dk_180 1 10 (dk_at dksX1_sheet_0 1 rfl rfl)
theorem dX1_sheet_4 : decode cX1_sheet 4 = .ok (.invokestatic 159, 3) := dk_184 0 159 (dk_at dksX1_sheet_0 4 rfl rfl)
theorem dX1_sheet_7 : decode cX1_sheet 7 = .ok (.iload_n 1, 1) := dk_27 (dk_at dksX1_sheet_0 7 rfl rfl)
theorem dX1_sheet_8 : decode cX1_sheet 8 = .ok (.i2l, 1) := dk_133 (dk_at dksX1_sheet_0 8 rfl rfl)
theorem dX1_sheet_9 : decode cX1_sheet 9 = .ok (.lconst 1, 1) := dk_10 (dk_at dksX1_sheet_0 9 rfl rfl)
theorem dX1_sheet_10 : decode cX1_sheet 10 = .ok (.ldc2_w 98, 3) := dk_20 0 98 (dk_at dksX1_sheet_0 10 rfl rfl)
theorem dX1_sheet_13 : decode cX1_sheet 13 = .ok (.invokestatic 100, 3) := dk_184 0 100 (dk_at dksX1_sheet_0 13 rfl rfl)
theorem dX1_sheet_16 : decode cX1_sheet 16 = .ok (.ifCond .eq 19, 3) := dk_153 0 19 (dk_at dksX1_sheet_0 16 rfl rfl)
theorem dX1_sheet_19 : decode cX1_sheet 19 = .ok (.aload_n 0, 1) := dk_42 (dk_at dksX1_sheet_0 19 rfl rfl)
theorem dX1_sheet_20 : decode cX1_sheet 20 = .ok (.getfield 64, 3) := dk_180 0 64 (dk_at dksX1_sheet_0 20 rfl rfl)
theorem dX1_sheet_23 : decode cX1_sheet 23 = .ok (.iload_n 1, 1) := dk_27 (dk_at dksX1_sheet_0 23 rfl rfl)
theorem dX1_sheet_24 : decode cX1_sheet 24 = .ok (.aaload, 1) := dk_50 (dk_at dksX1_sheet_1 0 rfl rfl)
theorem dX1_sheet_25 : decode cX1_sheet 25 = .ok (.getfield 293, 3) := dk_180 1 37 (dk_at dksX1_sheet_1 1 rfl rfl)
theorem dX1_sheet_28 : decode cX1_sheet 28 = .ok (.ifCond .eq 7, 3) := dk_153 0 7 (dk_at dksX1_sheet_1 4 rfl rfl)
theorem dX1_sheet_31 : decode cX1_sheet 31 = .ok (.iconst 1, 1) := dk_4 (dk_at dksX1_sheet_1 7 rfl rfl)
theorem dX1_sheet_32 : decode cX1_sheet 32 = .ok (.goto 4, 3) := dk_167 0 4 (dk_at dksX1_sheet_1 8 rfl rfl)
theorem dX1_sheet_35 : decode cX1_sheet 35 = .ok (.iconst 0, 1) := dk_3 (dk_at dksX1_sheet_1 11 rfl rfl)
theorem dX1_sheet_36 : decode cX1_sheet 36 = .ok (.invokestatic 123, 3) := dk_184 0 123 (dk_at dksX1_sheet_1 12 rfl rfl)
theorem dX1_sheet_39 : decode cX1_sheet 39 = .ok (.aload_n 0, 1) := dk_42 (dk_at dksX1_sheet_1 15 rfl rfl)
theorem dX1_sheet_40 : decode cX1_sheet 40 = .ok (.getfield 64, 3) := dk_180 0 64 (dk_at dksX1_sheet_1 16 rfl rfl)
theorem dX1_sheet_43 : decode cX1_sheet 43 = .ok (.iload_n 1, 1) := dk_27 (dk_at dksX1_sheet_1 19 rfl rfl)
theorem dX1_sheet_44 : decode cX1_sheet 44 = .ok (.aaload, 1) := dk_50 (dk_at dksX1_sheet_1 20 rfl rfl)
theorem dX1_sheet_45 : decode cX1_sheet 45 = .ok (.areturn, 1) := dk_176 (dk_at dksX1_sheet_1 21 rfl rfl)
abbrev cX1_at_2 : ByteArray := prog_1_method_33_code
def yX1_at_2 : MethodName := ⟨RX1, "at", "(III)Z"⟩
def dkwX1_at_2_2 : List UInt8 := [184, 0, 123, 25, 4, 28, 29, 182, 1, 54, 172]
abbrev dktX1_at_2_2 : List UInt8 := dkwX1_at_2_2 ++ []
def dkwX1_at_2_1 : List UInt8 := [29, 133, 9, 25, 4, 180, 1, 46, 4, 100, 133, 184, 0, 100, 153, 0, 7, 4, 167, 0, 4, 3]
abbrev dktX1_at_2_1 : List UInt8 := dkwX1_at_2_1 ++ dktX1_at_2_2
def dkwX1_at_2_0 : List UInt8 := [42, 27, 182, 1, 40, 58, 4, 28, 133, 9, 25, 4, 180, 1, 44, 4, 100, 133, 184, 0, 100, 153, 0, 24]
abbrev dktX1_at_2_0 : List UInt8 := dkwX1_at_2_0 ++ dktX1_at_2_1
theorem dksX1_at_2_0 : cX1_at_2.data.toList.drop 0 = dktX1_at_2_0 := by decide +kernel
theorem dksX1_at_2_1 : cX1_at_2.data.toList.drop 24 = dktX1_at_2_1 := dk_seg dksX1_at_2_0 24 rfl rfl
theorem dksX1_at_2_2 : cX1_at_2.data.toList.drop 46 = dktX1_at_2_2 := dk_seg dksX1_at_2_1 22 rfl rfl
theorem dX1_at_2_0 : decode cX1_at_2 0 = .ok (.aload_n 0, 1) := dk_42 (dk_at dksX1_at_2_0 0 rfl rfl)
theorem dX1_at_2_1 : decode cX1_at_2 1 = .ok (.iload_n 1, 1) := dk_27 (dk_at dksX1_at_2_0 1 rfl rfl)
theorem dX1_at_2_2 : decode cX1_at_2 2 = .ok (.invokevirtual 296, 3) := dk_182 1 40 (dk_at dksX1_at_2_0 2 rfl rfl)
theorem dX1_at_2_5 : decode cX1_at_2 5 = .ok (.astore 4, 2) := dk_58 4 (dk_at dksX1_at_2_0 5 rfl rfl)
theorem dX1_at_2_7 : decode cX1_at_2 7 = .ok (.iload_n 2, 1) := dk_28 (dk_at dksX1_at_2_0 7 rfl rfl)
theorem dX1_at_2_8 : decode cX1_at_2 8 = .ok (.i2l, 1) := dk_133 (dk_at dksX1_at_2_0 8 rfl rfl)
theorem dX1_at_2_9 : decode cX1_at_2 9 = .ok (.lconst 0, 1) := dk_9 (dk_at dksX1_at_2_0 9 rfl rfl)
theorem dX1_at_2_10 : decode cX1_at_2 10 = .ok (.aload 4, 2) := dk_25 4 (dk_at dksX1_at_2_0 10 rfl rfl)
theorem dX1_at_2_12 : decode cX1_at_2 12 = .ok (.getfield 300, 3) := dk_180 1 44 (dk_at dksX1_at_2_0 12 rfl rfl)
theorem dX1_at_2_15 : decode cX1_at_2 15 = .ok (.iconst 1, 1) := dk_4 (dk_at dksX1_at_2_0 15 rfl rfl)
theorem dX1_at_2_16 : decode cX1_at_2 16 = .ok (.isub, 1) := dk_100 (dk_at dksX1_at_2_0 16 rfl rfl)
theorem dX1_at_2_17 : decode cX1_at_2 17 = .ok (.i2l, 1) := dk_133 (dk_at dksX1_at_2_0 17 rfl rfl)
theorem dX1_at_2_18 : decode cX1_at_2 18 = .ok (.invokestatic 100, 3) := dk_184 0 100 (dk_at dksX1_at_2_0 18 rfl rfl)
theorem dX1_at_2_21 : decode cX1_at_2 21 = .ok (.ifCond .eq 24, 3) := dk_153 0 24 (dk_at dksX1_at_2_0 21 rfl rfl)
theorem dX1_at_2_24 : decode cX1_at_2 24 = .ok (.iload_n 3, 1) := dk_29 (dk_at dksX1_at_2_1 0 rfl rfl)
theorem dX1_at_2_25 : decode cX1_at_2 25 = .ok (.i2l, 1) := dk_133 (dk_at dksX1_at_2_1 1 rfl rfl)
theorem dX1_at_2_26 : decode cX1_at_2 26 = .ok (.lconst 0, 1) := dk_9 (dk_at dksX1_at_2_1 2 rfl rfl)
theorem dX1_at_2_27 : decode cX1_at_2 27 = .ok (.aload 4, 2) := dk_25 4 (dk_at dksX1_at_2_1 3 rfl rfl)
theorem dX1_at_2_29 : decode cX1_at_2 29 = .ok (.getfield 302, 3) := dk_180 1 46 (dk_at dksX1_at_2_1 5 rfl rfl)
theorem dX1_at_2_32 : decode cX1_at_2 32 = .ok (.iconst 1, 1) := dk_4 (dk_at dksX1_at_2_1 8 rfl rfl)
theorem dX1_at_2_33 : decode cX1_at_2 33 = .ok (.isub, 1) := dk_100 (dk_at dksX1_at_2_1 9 rfl rfl)
theorem dX1_at_2_34 : decode cX1_at_2 34 = .ok (.i2l, 1) := dk_133 (dk_at dksX1_at_2_1 10 rfl rfl)
theorem dX1_at_2_35 : decode cX1_at_2 35 = .ok (.invokestatic 100, 3) := dk_184 0 100 (dk_at dksX1_at_2_1 11 rfl rfl)
theorem dX1_at_2_38 : decode cX1_at_2 38 = .ok (.ifCond .eq 7, 3) := dk_153 0 7 (dk_at dksX1_at_2_1 14 rfl rfl)
theorem dX1_at_2_41 : decode cX1_at_2 41 = .ok (.iconst 1, 1) := dk_4 (dk_at dksX1_at_2_1 17 rfl rfl)
theorem dX1_at_2_42 : decode cX1_at_2 42 = .ok (.goto 4, 3) := dk_167 0 4 (dk_at dksX1_at_2_1 18 rfl rfl)
theorem dX1_at_2_45 : decode cX1_at_2 45 = .ok (.iconst 0, 1) := dk_3 (dk_at dksX1_at_2_1 21 rfl rfl)
theorem dX1_at_2_46 : decode cX1_at_2 46 = .ok (.invokestatic 123, 3) := dk_184 0 123 (dk_at dksX1_at_2_2 0 rfl rfl)
theorem dX1_at_2_49 : decode cX1_at_2 49 = .ok (.aload 4, 2) := dk_25 4 (dk_at dksX1_at_2_2 3 rfl rfl)
theorem dX1_at_2_51 : decode cX1_at_2 51 = .ok (.iload_n 2, 1) := dk_28 (dk_at dksX1_at_2_2 5 rfl rfl)
theorem dX1_at_2_52 : decode cX1_at_2 52 = .ok (.iload_n 3, 1) := dk_29 (dk_at dksX1_at_2_2 6 rfl rfl)
theorem dX1_at_2_53 : decode cX1_at_2 53 = .ok (.invokevirtual 310, 3) := dk_182 1 54 (dk_at dksX1_at_2_2 7 rfl rfl)
theorem dX1_at_2_56 : decode cX1_at_2 56 = .ok (.ireturn, 1) := dk_172 (dk_at dksX1_at_2_2 10 rfl rfl)
abbrev cX1_stripe : ByteArray := prog_1_method_34_code
def yX1_stripe : MethodName := ⟨RX1, "stripe", "(II)I"⟩
def dkwX1_stripe_1 : List UInt8 := [180, 1, 58, 28, 46, 172]
abbrev dktX1_stripe_1 : List UInt8 := dkwX1_stripe_1 ++ []
def dkwX1_stripe_0 : List UInt8 := [42, 27, 182, 1, 40, 78, 28, 133, 9, 45, 180, 1, 48, 4, 100, 133, 184, 0, 100, 184, 0, 123, 45]
abbrev dktX1_stripe_0 : List UInt8 := dkwX1_stripe_0 ++ dktX1_stripe_1
theorem dksX1_stripe_0 : cX1_stripe.data.toList.drop 0 = dktX1_stripe_0 := by decide +kernel
theorem dksX1_stripe_1 : cX1_stripe.data.toList.drop 23 = dktX1_stripe_1 := dk_seg dksX1_stripe_0 23 rfl rfl
theorem dX1_stripe_0 : decode cX1_stripe 0 = .ok (.aload_n 0, 1) := dk_42 (dk_at dksX1_stripe_0 0 rfl rfl)
theorem dX1_stripe_1 : decode cX1_stripe 1 = .ok (.iload_n 1, 1) := dk_27 (dk_at dksX1_stripe_0 1 rfl rfl)
theorem dX1_stripe_2 : decode cX1_stripe 2 = .ok (.invokevirtual 296, 3) := dk_182 1 40 (dk_at dksX1_stripe_0 2 rfl rfl)
theorem dX1_stripe_5 : decode cX1_stripe 5 = .ok (.astore_n 3, 1) := dk_78 (dk_at dksX1_stripe_0 5 rfl rfl)
theorem dX1_stripe_6 : decode cX1_stripe 6 = .ok (.iload_n 2, 1) := dk_28 (dk_at dksX1_stripe_0 6 rfl rfl)
theorem dX1_stripe_7 : decode cX1_stripe 7 = .ok (.i2l, 1) := dk_133 (dk_at dksX1_stripe_0 7 rfl rfl)
theorem dX1_stripe_8 : decode cX1_stripe 8 = .ok (.lconst 0, 1) := dk_9 (dk_at dksX1_stripe_0 8 rfl rfl)
theorem dX1_stripe_9 : decode cX1_stripe 9 = .ok (.aload_n 3, 1) := dk_45 (dk_at dksX1_stripe_0 9 rfl rfl)
theorem dX1_stripe_10 : decode cX1_stripe 10 = .ok (.getfield 304, 3) := dk_180 1 48 (dk_at dksX1_stripe_0 10 rfl rfl)
theorem dX1_stripe_13 : decode cX1_stripe 13 = .ok (.iconst 1, 1) := dk_4 (dk_at dksX1_stripe_0 13 rfl rfl)
theorem dX1_stripe_14 : decode cX1_stripe 14 = .ok (.isub, 1) := dk_100 (dk_at dksX1_stripe_0 14 rfl rfl)
theorem dX1_stripe_15 : decode cX1_stripe 15 = .ok (.i2l, 1) := dk_133 (dk_at dksX1_stripe_0 15 rfl rfl)
theorem dX1_stripe_16 : decode cX1_stripe 16 = .ok (.invokestatic 100, 3) := dk_184 0 100 (dk_at dksX1_stripe_0 16 rfl rfl)
theorem dX1_stripe_19 : decode cX1_stripe 19 = .ok (.invokestatic 123, 3) := dk_184 0 123 (dk_at dksX1_stripe_0 19 rfl rfl)
theorem dX1_stripe_22 : decode cX1_stripe 22 = .ok (.aload_n 3, 1) := dk_45 (dk_at dksX1_stripe_0 22 rfl rfl)
theorem dX1_stripe_23 : decode cX1_stripe 23 = .ok (.getfield 314, 3) := dk_180 1 58 (dk_at dksX1_stripe_1 0 rfl rfl)
theorem dX1_stripe_26 : decode cX1_stripe 26 = .ok (.iload_n 2, 1) := dk_28 (dk_at dksX1_stripe_1 3 rfl rfl)
theorem dX1_stripe_27 : decode cX1_stripe 27 = .ok (.iaload, 1) := dk_46 (dk_at dksX1_stripe_1 4 rfl rfl)
theorem dX1_stripe_28 : decode cX1_stripe 28 = .ok (.ireturn, 1) := dk_172 (dk_at dksX1_stripe_1 5 rfl rfl)
theorem q72 : (Jvm.Cond.initialized "BilevelPages") ∈ lw_all := lw_g (lw_at lw_m1 1 rfl) rfl
theorem q100 : (Jvm.Cond.instantiable "BilevelPages" (16 : Nat)) ∈ lw_all := lw_g (lw_at lw_m1 29 rfl) rfl
theorem q102 : (Jvm.Cond.instanceMethod ({ cls := "BilevelPages", name := "<init>", desc := "(I)V" } : Jvm.MethodName)) ∈ lw_all := lw_g (lw_at lw_m1 31 rfl) rfl
theorem q103 : (Jvm.Cond.code ({ cls := "BilevelPages", name := "<init>", desc := "(I)V" } : Jvm.MethodName) prog_1_method_8_code (3 : Nat) (Option.none : Option Jvm.ClassFile.FieldType)) ∈ lw_all := lw_g (lw_at lw_m1 32 rfl) rfl
theorem q104 : (Jvm.Cond.methodLink "BilevelPages" (33 : Nat) ({ cls := "java/lang/Object", name := "<init>", desc := "()V" } : Jvm.MethodName)) ∈ lw_all := lw_g (lw_at lw_m1 33 rfl) rfl
theorem q107 : (Jvm.Cond.classLink "BilevelPages" (36 : Nat) "java/util/ArrayList") ∈ lw_all := lw_g (lw_at lw_m1 36 rfl) rfl
theorem q109 : (Jvm.Cond.methodLink "BilevelPages" (38 : Nat) ({ cls := "java/util/ArrayList", name := "<init>", desc := "()V" } : Jvm.MethodName)) ∈ lw_all := lw_g (lw_at lw_m1 38 rfl) rfl
theorem q136 : (Jvm.Cond.classLink "BilevelPages" (43 : Nat) "BilevelPages$Segment") ∈ lw_all := lw_g (lw_at lw_m1 65 rfl) rfl
theorem q138 : (Jvm.Cond.classLink "BilevelPages" (62 : Nat) "BilevelPages$Sheet") ∈ lw_all := lw_g (lw_at lw_m1 67 rfl) rfl
theorem q140 : (Jvm.Cond.classLink "BilevelPages" (71 : Nat) "BilevelPages$Reader") ∈ lw_all := lw_g (lw_at lw_m1 69 rfl) rfl
theorem q142 : (Jvm.Cond.methodLinkNest "BilevelPages" (73 : Nat) ({ cls := "BilevelPages$Reader", name := "<init>", desc := "(LBilevelPages;)V" } : Jvm.MethodName) "BilevelPages") ∈ lw_tbl := lw_at lw_m1 71 rfl
theorem q152 : (Jvm.Cond.fieldLinkNest "BilevelPages" (282 : Nat) "BilevelPages$Reader" "sheetMany" "I" "BilevelPages") ∈ lw_tbl := lw_at lw_m1 81 rfl
theorem q173 : (Jvm.Cond.methodLink "BilevelPages" (80 : Nat) ({ cls := "java/lang/Math", name := "min", desc := "(II)I" } : Jvm.MethodName)) ∈ lw_all := lw_g (lw_at lw_m1 102 rfl) rfl
theorem q176 : (Jvm.Cond.methodLink "BilevelPages" (86 : Nat) ({ cls := "java/lang/Math", name := "max", desc := "(II)I" } : Jvm.MethodName)) ∈ lw_all := lw_g (lw_at lw_m1 105 rfl) rfl
theorem q180 : (Jvm.Cond.methodLinkNest "BilevelPages" (92 : Nat) ({ cls := "BilevelPages$Sheet", name := "<init>", desc := "()V" } : Jvm.MethodName) "BilevelPages") ∈ lw_tbl := lw_at lw_m1 109 rfl
theorem q187 : (Jvm.Cond.fieldLinkNest "BilevelPages" (314 : Nat) "BilevelPages$Sheet" "stripes" "[I" "BilevelPages") ∈ lw_tbl := lw_at lw_m1 116 rfl
theorem q190 : (Jvm.Cond.fieldLinkNest "BilevelPages" (304 : Nat) "BilevelPages$Sheet" "stripeMany" "I" "BilevelPages") ∈ lw_tbl := lw_at lw_m1 119 rfl
theorem q192 : (Jvm.Cond.fieldLinkNest "BilevelPages" (300 : Nat) "BilevelPages$Sheet" "wide" "I" "BilevelPages") ∈ lw_tbl := lw_at lw_m1 121 rfl
theorem q195 : (Jvm.Cond.fieldLinkNest "BilevelPages" (302 : Nat) "BilevelPages$Sheet" "high" "I" "BilevelPages") ∈ lw_tbl := lw_at lw_m1 124 rfl
theorem q199 : (Jvm.Cond.fieldLinkNest "BilevelPages" (293 : Nat) "BilevelPages$Sheet" "isThere" "Z" "BilevelPages") ∈ lw_tbl := lw_at lw_m1 128 rfl
theorem q217 : (Jvm.Cond.methodLinkNest "BilevelPages" (93 : Nat) ({ cls := "BilevelPages$Segment", name := "<init>", desc := "()V" } : Jvm.MethodName) "BilevelPages") ∈ lw_tbl := lw_at lw_m1 146 rfl
theorem q225 : (Jvm.Cond.fieldLinkNest "BilevelPages" (151 : Nat) "BilevelPages$Segment" "kind" "LBilevelPages$Kind;" "BilevelPages") ∈ lw_tbl := lw_at lw_m1 154 rfl
theorem q228 : (Jvm.Cond.fieldLinkNest "BilevelPages" (224 : Nat) "BilevelPages$Segment" "page" "I" "BilevelPages") ∈ lw_tbl := lw_at lw_m1 157 rfl
theorem q231 : (Jvm.Cond.fieldLinkNest "BilevelPages" (220 : Nat) "BilevelPages$Segment" "number" "I" "BilevelPages") ∈ lw_tbl := lw_at lw_m1 160 rfl
theorem q234 : (Jvm.Cond.fieldLinkNest "BilevelPages" (145 : Nat) "BilevelPages$Segment" "refers" "[I" "BilevelPages") ∈ lw_tbl := lw_at lw_m1 163 rfl
theorem q237 : (Jvm.Cond.fieldLinkNest "BilevelPages" (142 : Nat) "BilevelPages$Segment" "references" "I" "BilevelPages") ∈ lw_tbl := lw_at lw_m1 166 rfl
theorem q240 : (Jvm.Cond.fieldLinkNest "BilevelPages" (149 : Nat) "BilevelPages$Segment" "letsGo" "I" "BilevelPages") ∈ lw_tbl := lw_at lw_m1 169 rfl
theorem q243 : (Jvm.Cond.fieldLinkNest "BilevelPages" (179 : Nat) "BilevelPages$Segment" "numbers" "[I" "BilevelPages") ∈ lw_tbl := lw_at lw_m1 172 rfl
theorem q246 : (Jvm.Cond.fieldLinkNest "BilevelPages" (167 : Nat) "BilevelPages$Segment" "bytes" "[B" "BilevelPages") ∈ lw_tbl := lw_at lw_m1 175 rfl
theorem q248 : (Jvm.Cond.fieldLinkNest "BilevelPages" (164 : Nat) "BilevelPages$Segment" "byteMany" "I" "BilevelPages") ∈ lw_tbl := lw_at lw_m1 177 rfl
theorem q251 : (Jvm.Cond.fieldLinkNest "BilevelPages" (190 : Nat) "BilevelPages$Segment" "rows" "[I" "BilevelPages") ∈ lw_tbl := lw_at lw_m1 180 rfl
theorem q257 : (Jvm.Cond.fieldLinkNest "BilevelPages" (289 : Nat) "BilevelPages$Segment" "length" "J" "BilevelPages") ∈ lw_tbl := lw_at lw_m1 186 rfl
theorem q260 : (Jvm.Cond.fieldLinkNest "BilevelPages" (286 : Nat) "BilevelPages$Segment" "goneBy" "I" "BilevelPages") ∈ lw_tbl := lw_at lw_m1 189 rfl
theorem q289 : (Jvm.Cond.fieldLink "BilevelPages" (89 : Nat) "BilevelPages" "order" "I") ∈ lw_all := lw_g (lw_at lw_m1 218 rfl) rfl
theorem q290 : (Jvm.Cond.fieldLink "BilevelPages" (39 : Nat) "BilevelPages" "segments" "Ljava/util/ArrayList;") ∈ lw_all := lw_g (lw_at lw_m1 219 rfl) rfl
theorem q291 : (Jvm.Cond.fieldLink "BilevelPages" (45 : Nat) "BilevelPages" "tellable" "[LBilevelPages$Segment;") ∈ lw_all := lw_g (lw_at lw_m1 220 rfl) rfl
theorem q292 : (Jvm.Cond.fieldLink "BilevelPages" (49 : Nat) "BilevelPages" "readable" "[LBilevelPages$Segment;") ∈ lw_all := lw_g (lw_at lw_m1 221 rfl) rfl
theorem q294 : (Jvm.Cond.fieldLink "BilevelPages" (52 : Nat) "BilevelPages" "written" "[B") ∈ lw_all := lw_g (lw_at lw_m1 223 rfl) rfl
theorem q295 : (Jvm.Cond.fieldLink "BilevelPages" (193 : Nat) "BilevelPages" "writtenMany" "I") ∈ lw_all := lw_g (lw_at lw_m1 224 rfl) rfl
theorem q297 : (Jvm.Cond.fieldLink "BilevelPages" (56 : Nat) "BilevelPages" "came" "[B") ∈ lw_all := lw_g (lw_at lw_m1 226 rfl) rfl
theorem q299 : (Jvm.Cond.fieldLink "BilevelPages" (256 : Nat) "BilevelPages" "cameMany" "I") ∈ lw_all := lw_g (lw_at lw_m1 228 rfl) rfl
theorem q301 : (Jvm.Cond.fieldLink "BilevelPages" (59 : Nat) "BilevelPages" "globals" "[B") ∈ lw_all := lw_g (lw_at lw_m1 230 rfl) rfl
theorem q303 : (Jvm.Cond.fieldLink "BilevelPages" (253 : Nat) "BilevelPages" "globalMany" "I") ∈ lw_all := lw_g (lw_at lw_m1 232 rfl) rfl
theorem q305 : (Jvm.Cond.fieldLink "BilevelPages" (64 : Nat) "BilevelPages" "sheets" "[LBilevelPages$Sheet;") ∈ lw_all := lw_g (lw_at lw_m1 234 rfl) rfl
theorem q307 : (Jvm.Cond.fieldLink "BilevelPages" (68 : Nat) "BilevelPages" "found" "Ljava/util/ArrayList;") ∈ lw_all := lw_g (lw_at lw_m1 236 rfl) rfl
theorem q308 : (Jvm.Cond.fieldLink "BilevelPages" (76 : Nat) "BilevelPages" "reader" "LBilevelPages$Reader;") ∈ lw_all := lw_g (lw_at lw_m1 237 rfl) rfl
theorem q309 : (Jvm.Cond.fieldLink "BilevelPages" (266 : Nat) "BilevelPages" "isRead" "Z") ∈ lw_all := lw_g (lw_at lw_m1 238 rfl) rfl
theorem q310 : (Jvm.Cond.fieldLink "BilevelPages" (270 : Nat) "BilevelPages" "fault" "I") ∈ lw_all := lw_g (lw_at lw_m1 239 rfl) rfl
theorem q311 : (Jvm.Cond.fieldLink "BilevelPages" (285 : Nat) "BilevelPages" "sheetMany" "I") ∈ lw_all := lw_g (lw_at lw_m2 0 rfl) rfl
theorem q312 : (Jvm.Cond.laysFinal "BilevelPages" "BilevelPages" "order" "I") ∈ lw_all := lw_g (lw_at lw_m2 1 rfl) rfl
theorem q313 : (Jvm.Cond.soleField "BilevelPages" "order") ∈ lw_all := lw_g (lw_at lw_m2 2 rfl) rfl
theorem q314 : (Jvm.Cond.laysFinal "BilevelPages" "BilevelPages" "segments" "Ljava/util/ArrayList;") ∈ lw_all := lw_g (lw_at lw_m2 3 rfl) rfl
theorem q315 : (Jvm.Cond.soleField "BilevelPages" "segments") ∈ lw_all := lw_g (lw_at lw_m2 4 rfl) rfl
theorem q316 : (Jvm.Cond.laysFinal "BilevelPages" "BilevelPages" "tellable" "[LBilevelPages$Segment;") ∈ lw_all := lw_g (lw_at lw_m2 5 rfl) rfl
theorem q317 : (Jvm.Cond.soleField "BilevelPages" "tellable") ∈ lw_all := lw_g (lw_at lw_m2 6 rfl) rfl
theorem q318 : (Jvm.Cond.laysFinal "BilevelPages" "BilevelPages" "readable" "[LBilevelPages$Segment;") ∈ lw_all := lw_g (lw_at lw_m2 7 rfl) rfl
theorem q319 : (Jvm.Cond.soleField "BilevelPages" "readable") ∈ lw_all := lw_g (lw_at lw_m2 8 rfl) rfl
theorem q320 : (Jvm.Cond.laysFinal "BilevelPages" "BilevelPages" "written" "[B") ∈ lw_all := lw_g (lw_at lw_m2 9 rfl) rfl
theorem q321 : (Jvm.Cond.soleField "BilevelPages" "written") ∈ lw_all := lw_g (lw_at lw_m2 10 rfl) rfl
theorem q322 : (Jvm.Cond.lays "BilevelPages" "BilevelPages" "writtenMany" "I") ∈ lw_all := lw_g (lw_at lw_m2 11 rfl) rfl
theorem q323 : (Jvm.Cond.soleField "BilevelPages" "writtenMany") ∈ lw_all := lw_g (lw_at lw_m2 12 rfl) rfl
theorem q324 : (Jvm.Cond.laysFinal "BilevelPages" "BilevelPages" "came" "[B") ∈ lw_all := lw_g (lw_at lw_m2 13 rfl) rfl
theorem q325 : (Jvm.Cond.soleField "BilevelPages" "came") ∈ lw_all := lw_g (lw_at lw_m2 14 rfl) rfl
theorem q326 : (Jvm.Cond.lays "BilevelPages" "BilevelPages" "cameMany" "I") ∈ lw_all := lw_g (lw_at lw_m2 15 rfl) rfl
theorem q327 : (Jvm.Cond.soleField "BilevelPages" "cameMany") ∈ lw_all := lw_g (lw_at lw_m2 16 rfl) rfl
theorem q328 : (Jvm.Cond.laysFinal "BilevelPages" "BilevelPages" "globals" "[B") ∈ lw_all := lw_g (lw_at lw_m2 17 rfl) rfl
theorem q329 : (Jvm.Cond.soleField "BilevelPages" "globals") ∈ lw_all := lw_g (lw_at lw_m2 18 rfl) rfl
theorem q330 : (Jvm.Cond.lays "BilevelPages" "BilevelPages" "globalMany" "I") ∈ lw_all := lw_g (lw_at lw_m2 19 rfl) rfl
theorem q331 : (Jvm.Cond.soleField "BilevelPages" "globalMany") ∈ lw_all := lw_g (lw_at lw_m2 20 rfl) rfl
theorem q332 : (Jvm.Cond.laysFinal "BilevelPages" "BilevelPages" "sheets" "[LBilevelPages$Sheet;") ∈ lw_all := lw_g (lw_at lw_m2 21 rfl) rfl
theorem q333 : (Jvm.Cond.soleField "BilevelPages" "sheets") ∈ lw_all := lw_g (lw_at lw_m2 22 rfl) rfl
theorem q334 : (Jvm.Cond.laysFinal "BilevelPages" "BilevelPages" "found" "Ljava/util/ArrayList;") ∈ lw_all := lw_g (lw_at lw_m2 23 rfl) rfl
theorem q335 : (Jvm.Cond.soleField "BilevelPages" "found") ∈ lw_all := lw_g (lw_at lw_m2 24 rfl) rfl
theorem q336 : (Jvm.Cond.laysFinal "BilevelPages" "BilevelPages" "reader" "LBilevelPages$Reader;") ∈ lw_all := lw_g (lw_at lw_m2 25 rfl) rfl
theorem q337 : (Jvm.Cond.soleField "BilevelPages" "reader") ∈ lw_all := lw_g (lw_at lw_m2 26 rfl) rfl
theorem q338 : (Jvm.Cond.lays "BilevelPages" "BilevelPages" "isRead" "Z") ∈ lw_all := lw_g (lw_at lw_m2 27 rfl) rfl
theorem q339 : (Jvm.Cond.soleField "BilevelPages" "isRead") ∈ lw_all := lw_g (lw_at lw_m2 28 rfl) rfl
theorem q340 : (Jvm.Cond.lays "BilevelPages" "BilevelPages" "fault" "I") ∈ lw_all := lw_g (lw_at lw_m2 29 rfl) rfl
theorem q341 : (Jvm.Cond.soleField "BilevelPages" "fault") ∈ lw_all := lw_g (lw_at lw_m2 30 rfl) rfl
theorem q342 : (Jvm.Cond.lays "BilevelPages" "BilevelPages" "sheetMany" "I") ∈ lw_all := lw_g (lw_at lw_m2 31 rfl) rfl
theorem q343 : (Jvm.Cond.soleField "BilevelPages" "sheetMany") ∈ lw_all := lw_g (lw_at lw_m2 32 rfl) rfl
theorem q344 : (Jvm.Cond.superclass "BilevelPages" "java/lang/Object") ∈ lw_all := lw_g (lw_at lw_m2 33 rfl) rfl
theorem q346 : (Jvm.Cond.instanceMethod ({ cls := "BilevelPages", name := "read", desc := "()I" } : Jvm.MethodName)) ∈ lw_all := lw_g (lw_at lw_m2 35 rfl) rfl
theorem q347 : (Jvm.Cond.selects "BilevelPages" ({ cls := "BilevelPages", name := "read", desc := "()I" } : Jvm.MethodName) ({ cls := "BilevelPages", name := "read", desc := "()I" } : Jvm.MethodName)) ∈ lw_all := lw_g (lw_at lw_m2 36 rfl) rfl
theorem q348 : (Jvm.Cond.codeWith ({ cls := "BilevelPages", name := "read", desc := "()I" } : Jvm.MethodName) prog_1_method_29_code (2 : Nat) (Option.some Jvm.ClassFile.FieldType.int) [((24 : Nat), (31 : Nat), (34 : Nat), (28 : Nat))]) ∈ lw_all := lw_g (lw_at lw_m2 37 rfl) rfl
theorem q349 : (Jvm.Cond.classLink "BilevelPages" (28 : Nat) "BilevelPages$WrongSegment") ∈ lw_all := lw_g (lw_at lw_m2 38 rfl) rfl
theorem q350 : (Jvm.Cond.methodLink "BilevelPages" (263 : Nat) ({ cls := "java/util/ArrayList", name := "clear", desc := "()V" } : Jvm.MethodName)) ∈ lw_all := lw_g (lw_at lw_m2 39 rfl) rfl
theorem q354 : (Jvm.Cond.methodLink "BilevelPages" (273 : Nat) ({ cls := "BilevelPages$Reader", name := "begin", desc := "()V" } : Jvm.MethodName)) ∈ lw_all := lw_g (lw_at lw_m2 43 rfl) rfl
theorem q361 : (Jvm.Cond.methodLink "BilevelPages" (275 : Nat) ({ cls := "BilevelPages$Reader", name := "readAll", desc := "()V" } : Jvm.MethodName)) ∈ lw_all := lw_g (lw_at lw_m2 50 rfl) rfl
theorem q379 : (Jvm.Cond.static ({ cls := "BilevelPages", name := "need", desc := "(ZII)V" } : Jvm.MethodName)) ∈ lw_all := lw_g (lw_at lw_m2 68 rfl) rfl
theorem q380 : (Jvm.Cond.code ({ cls := "BilevelPages", name := "need", desc := "(ZII)V" } : Jvm.MethodName) prog_1_method_7_code (3 : Nat) (Option.none : Option Jvm.ClassFile.FieldType)) ∈ lw_all := lw_g (lw_at lw_m2 69 rfl) rfl
theorem q422 : (Jvm.Cond.methodLink "BilevelPages" (30 : Nat) ({ cls := "BilevelPages$WrongSegment", name := "<init>", desc := "(II)V" } : Jvm.MethodName)) ∈ lw_all := lw_g (lw_at lw_m2 111 rfl) rfl
theorem q432 : (Jvm.Cond.fieldLinkNest "BilevelPages" (278 : Nat) "BilevelPages$WrongSegment" "fault" "I" "BilevelPages") ∈ lw_tbl := lw_at lw_m2 121 rfl
theorem q434 : (Jvm.Cond.fieldLinkNest "BilevelPages" (279 : Nat) "BilevelPages$WrongSegment" "place" "I" "BilevelPages") ∈ lw_tbl := lw_at lw_m2 123 rfl
theorem q463 : (Jvm.Cond.static ({ cls := "BilevelPages", name := "kindOf", desc := "(I)LBilevelPages$Kind;" } : Jvm.MethodName)) ∈ lw_all := lw_g (lw_at lw_m2 152 rfl) rfl
theorem q464 : (Jvm.Cond.code ({ cls := "BilevelPages", name := "kindOf", desc := "(I)LBilevelPages$Kind;" } : Jvm.MethodName) prog_1_method_1_code (5 : Nat) (Option.some (Jvm.ClassFile.FieldType.object "BilevelPages$Kind"))) ∈ lw_all := lw_g (lw_at lw_m2 153 rfl) rfl
theorem q465 : (Jvm.Cond.fieldLink "BilevelPages" (1 : Nat) "BilevelPages" "KINDS" "[LBilevelPages$Kind;") ∈ lw_all := lw_g (lw_at lw_m2 154 rfl) rfl
theorem q466 : (Jvm.Cond.laysStatic "BilevelPages" "KINDS" "[LBilevelPages$Kind;") ∈ lw_tbl := lw_at lw_m2 155 rfl
theorem q472 : (Jvm.Cond.static ({ cls := "BilevelPages", name := "within", desc := "(JJJ)Z" } : Jvm.MethodName)) ∈ lw_all := lw_g (lw_at lw_m2 161 rfl) rfl
theorem q473 : (Jvm.Cond.code ({ cls := "BilevelPages", name := "within", desc := "(JJJ)Z" } : Jvm.MethodName) prog_1_method_2_code (6 : Nat) (Option.some Jvm.ClassFile.FieldType.boolean)) ∈ lw_all := lw_g (lw_at lw_m2 162 rfl) rfl
theorem q491 : (Jvm.Cond.laysStatic "BilevelPages" "PAGE_LEAST" "[I") ∈ lw_tbl := lw_at lw_m2 180 rfl
theorem q503 : (Jvm.Cond.laysStatic "BilevelPages" "REGION_LEAST" "[I") ∈ lw_tbl := lw_at lw_m2 192 rfl
theorem q505 : (Jvm.Cond.laysStatic "BilevelPages" "OTHER_LEAST" "[I") ∈ lw_tbl := lw_at lw_m2 194 rfl
theorem q538 : (Jvm.Cond.selects "BilevelPages" ({ cls := "java/lang/Object", name := "getClass", desc := "()Ljava/lang/Class;" } : Jvm.MethodName) ({ cls := "java/lang/Object", name := "getClass", desc := "()Ljava/lang/Class;" } : Jvm.MethodName)) ∈ lw_all := lw_g (lw_at lw_m2 227 rfl) rfl
theorem q646 : (Jvm.Cond.laysStatic "BilevelPages" "PAGE_MOST" "[I") ∈ lw_tbl := lw_at lw_m3 95 rfl
theorem q648 : (Jvm.Cond.laysStatic "BilevelPages" "REGION_MOST" "[I") ∈ lw_tbl := lw_at lw_m3 97 rfl
theorem q650 : (Jvm.Cond.laysStatic "BilevelPages" "OTHER_MOST" "[I") ∈ lw_tbl := lw_at lw_m3 99 rfl
theorem q714 : (Jvm.Cond.laysStatic "BilevelPages" "FIRST" "[I") ∈ lw_tbl := lw_at lw_m3 163 rfl
theorem q719 : (Jvm.Cond.methodLink "BilevelPages" (108 : Nat) ({ cls := "java/util/ArrayList", name := "size", desc := "()I" } : Jvm.MethodName)) ∈ lw_all := lw_g (lw_at lw_m3 168 rfl) rfl
theorem q721 : (Jvm.Cond.instanceMethod ({ cls := "BilevelPages", name := "told", desc := "(I)I" } : Jvm.MethodName)) ∈ lw_all := lw_g (lw_at lw_m3 170 rfl) rfl
theorem q722 : (Jvm.Cond.selects "BilevelPages" ({ cls := "BilevelPages", name := "told", desc := "(I)I" } : Jvm.MethodName) ({ cls := "BilevelPages", name := "told", desc := "(I)I" } : Jvm.MethodName)) ∈ lw_all := lw_g (lw_at lw_m3 171 rfl) rfl
theorem q723 : (Jvm.Cond.code ({ cls := "BilevelPages", name := "told", desc := "(I)I" } : Jvm.MethodName) prog_1_method_35_code (2 : Nat) (Option.some Jvm.ClassFile.FieldType.int)) ∈ lw_all := lw_g (lw_at lw_m3 172 rfl) rfl
theorem q725 : (Jvm.Cond.instanceMethod ({ cls := "BilevelPages", name := "drop", desc := "()V" } : Jvm.MethodName)) ∈ lw_all := lw_g (lw_at lw_m3 174 rfl) rfl
theorem q726 : (Jvm.Cond.selects "BilevelPages" ({ cls := "BilevelPages", name := "drop", desc := "()V" } : Jvm.MethodName) ({ cls := "BilevelPages", name := "drop", desc := "()V" } : Jvm.MethodName)) ∈ lw_all := lw_g (lw_at lw_m3 175 rfl) rfl
theorem q727 : (Jvm.Cond.code ({ cls := "BilevelPages", name := "drop", desc := "()V" } : Jvm.MethodName) prog_1_method_36_code (1 : Nat) (Option.none : Option Jvm.ClassFile.FieldType)) ∈ lw_all := lw_g (lw_at lw_m3 176 rfl) rfl
theorem q729 : (Jvm.Cond.instanceMethod ({ cls := "BilevelPages", name := "clear", desc := "()V" } : Jvm.MethodName)) ∈ lw_all := lw_g (lw_at lw_m3 178 rfl) rfl
theorem q730 : (Jvm.Cond.selects "BilevelPages" ({ cls := "BilevelPages", name := "clear", desc := "()V" } : Jvm.MethodName) ({ cls := "BilevelPages", name := "clear", desc := "()V" } : Jvm.MethodName)) ∈ lw_all := lw_g (lw_at lw_m3 179 rfl) rfl
theorem q731 : (Jvm.Cond.code ({ cls := "BilevelPages", name := "clear", desc := "()V" } : Jvm.MethodName) prog_1_method_37_code (1 : Nat) (Option.none : Option Jvm.ClassFile.FieldType)) ∈ lw_all := lw_g (lw_at lw_m3 180 rfl) rfl
theorem q741 : (Jvm.Cond.instanceMethod ({ cls := "BilevelPages", name := "segment", desc := "(II)I" } : Jvm.MethodName)) ∈ lw_all := lw_g (lw_at lw_m3 190 rfl) rfl
theorem q742 : (Jvm.Cond.selects "BilevelPages" ({ cls := "BilevelPages", name := "segment", desc := "(II)I" } : Jvm.MethodName) ({ cls := "BilevelPages", name := "segment", desc := "(II)I" } : Jvm.MethodName)) ∈ lw_all := lw_g (lw_at lw_m3 191 rfl) rfl
theorem q743 : (Jvm.Cond.code ({ cls := "BilevelPages", name := "segment", desc := "(II)I" } : Jvm.MethodName) prog_1_method_9_code (4 : Nat) (Option.some Jvm.ClassFile.FieldType.int)) ∈ lw_all := lw_g (lw_at lw_m3 192 rfl) rfl
theorem q744 : (Jvm.Cond.methodLink "BilevelPages" (94 : Nat) ({ cls := "BilevelPages", name := "kindOf", desc := "(I)LBilevelPages$Kind;" } : Jvm.MethodName)) ∈ lw_all := lw_g (lw_at lw_m3 193 rfl) rfl
theorem q745 : (Jvm.Cond.constantLong "BilevelPages" (98 : Nat) (9 : Int64)) ∈ lw_all := lw_g (lw_at lw_m3 194 rfl) rfl
theorem q746 : (Jvm.Cond.methodLink "BilevelPages" (100 : Nat) ({ cls := "BilevelPages", name := "within", desc := "(JJJ)Z" } : Jvm.MethodName)) ∈ lw_all := lw_g (lw_at lw_m3 195 rfl) rfl
theorem q747 : (Jvm.Cond.methodLink "BilevelPages" (104 : Nat) ({ cls := "BilevelPages", name := "want", desc := "(Z)V" } : Jvm.MethodName)) ∈ lw_all := lw_g (lw_at lw_m3 196 rfl) rfl
theorem q748 : (Jvm.Cond.static ({ cls := "BilevelPages", name := "want", desc := "(Z)V" } : Jvm.MethodName)) ∈ lw_all := lw_g (lw_at lw_m3 197 rfl) rfl
theorem q749 : (Jvm.Cond.code ({ cls := "BilevelPages", name := "want", desc := "(Z)V" } : Jvm.MethodName) prog_1_method_3_code (1 : Nat) (Option.none : Option Jvm.ClassFile.FieldType)) ∈ lw_all := lw_g (lw_at lw_m3 198 rfl) rfl
theorem q750 : (Jvm.Cond.classLink "BilevelPages" (13 : Nat) "java/lang/IllegalArgumentException") ∈ lw_all := lw_g (lw_at lw_m3 199 rfl) rfl
theorem q761 : (Jvm.Cond.methodLink "BilevelPages" (15 : Nat) ({ cls := "java/lang/IllegalArgumentException", name := "<init>", desc := "()V" } : Jvm.MethodName)) ∈ lw_all := lw_g (lw_at lw_m3 210 rfl) rfl
theorem q773 : (Jvm.Cond.methodLink "BilevelPages" (112 : Nat) ({ cls := "BilevelPages", name := "wantRoom", desc := "(Z)V" } : Jvm.MethodName)) ∈ lw_all := lw_g (lw_at lw_m3 222 rfl) rfl
theorem q774 : (Jvm.Cond.static ({ cls := "BilevelPages", name := "wantRoom", desc := "(Z)V" } : Jvm.MethodName)) ∈ lw_all := lw_g (lw_at lw_m3 223 rfl) rfl
theorem q775 : (Jvm.Cond.code ({ cls := "BilevelPages", name := "wantRoom", desc := "(Z)V" } : Jvm.MethodName) prog_1_method_6_code (1 : Nat) (Option.none : Option Jvm.ClassFile.FieldType)) ∈ lw_all := lw_g (lw_at lw_m3 224 rfl) rfl
theorem q776 : (Jvm.Cond.classLink "BilevelPages" (25 : Nat) "java/lang/UnsupportedOperationException") ∈ lw_all := lw_g (lw_at lw_m3 225 rfl) rfl
theorem q785 : (Jvm.Cond.methodLink "BilevelPages" (27 : Nat) ({ cls := "java/lang/UnsupportedOperationException", name := "<init>", desc := "()V" } : Jvm.MethodName)) ∈ lw_all := lw_g (lw_at lw_m3 234 rfl) rfl
theorem q791 : (Jvm.Cond.methodLink "BilevelPages" (115 : Nat) ({ cls := "BilevelPages$Segment", name := "begin", desc := "(LBilevelPages$Kind;II)LBilevelPages$Segment;" } : Jvm.MethodName)) ∈ lw_all := lw_g (lw_at lw_m4 0 rfl) rfl
theorem q792 : (Jvm.Cond.methodLink "BilevelPages" (119 : Nat) ({ cls := "java/util/ArrayList", name := "add", desc := "(Ljava/lang/Object;)Z" } : Jvm.MethodName)) ∈ lw_all := lw_g (lw_at lw_m4 1 rfl) rfl
theorem q829 : (Jvm.Cond.instanceMethod ({ cls := "BilevelPages", name := "refers", desc := "(II)Z" } : Jvm.MethodName)) ∈ lw_all := lw_g (lw_at lw_m4 38 rfl) rfl
theorem q830 : (Jvm.Cond.selects "BilevelPages" ({ cls := "BilevelPages", name := "refers", desc := "(II)Z" } : Jvm.MethodName) ({ cls := "BilevelPages", name := "refers", desc := "(II)Z" } : Jvm.MethodName)) ∈ lw_all := lw_g (lw_at lw_m4 39 rfl) rfl
theorem q831 : (Jvm.Cond.code ({ cls := "BilevelPages", name := "refers", desc := "(II)Z" } : Jvm.MethodName) prog_1_method_11_code (6 : Nat) (Option.some Jvm.ClassFile.FieldType.boolean)) ∈ lw_all := lw_g (lw_at lw_m4 40 rfl) rfl
theorem q832 : (Jvm.Cond.methodLink "BilevelPages" (130 : Nat) ({ cls := "BilevelPages", name := "at", desc := "(I)LBilevelPages$Segment;" } : Jvm.MethodName)) ∈ lw_all := lw_g (lw_at lw_m4 41 rfl) rfl
theorem q833 : (Jvm.Cond.privateMethod ({ cls := "BilevelPages", name := "at", desc := "(I)LBilevelPages$Segment;" } : Jvm.MethodName)) ∈ lw_tbl := lw_at lw_m4 42 rfl
theorem q834 : (Jvm.Cond.instanceMethod ({ cls := "BilevelPages", name := "at", desc := "(I)LBilevelPages$Segment;" } : Jvm.MethodName)) ∈ lw_all := lw_g (lw_at lw_m4 43 rfl) rfl
theorem q835 : (Jvm.Cond.code ({ cls := "BilevelPages", name := "at", desc := "(I)LBilevelPages$Segment;" } : Jvm.MethodName) prog_1_method_10_code (2 : Nat) (Option.some (Jvm.ClassFile.FieldType.object "BilevelPages$Segment"))) ∈ lw_all := lw_g (lw_at lw_m4 44 rfl) rfl
theorem q836 : (Jvm.Cond.methodLink "BilevelPages" (123 : Nat) ({ cls := "BilevelPages", name := "wantIndex", desc := "(Z)V" } : Jvm.MethodName)) ∈ lw_all := lw_g (lw_at lw_m4 45 rfl) rfl
theorem q837 : (Jvm.Cond.static ({ cls := "BilevelPages", name := "wantIndex", desc := "(Z)V" } : Jvm.MethodName)) ∈ lw_all := lw_g (lw_at lw_m4 46 rfl) rfl
theorem q838 : (Jvm.Cond.code ({ cls := "BilevelPages", name := "wantIndex", desc := "(Z)V" } : Jvm.MethodName) prog_1_method_4_code (1 : Nat) (Option.none : Option Jvm.ClassFile.FieldType)) ∈ lw_all := lw_g (lw_at lw_m4 47 rfl) rfl
theorem q839 : (Jvm.Cond.classLink "BilevelPages" (19 : Nat) "java/lang/IndexOutOfBoundsException") ∈ lw_all := lw_g (lw_at lw_m4 48 rfl) rfl
theorem q848 : (Jvm.Cond.methodLink "BilevelPages" (21 : Nat) ({ cls := "java/lang/IndexOutOfBoundsException", name := "<init>", desc := "()V" } : Jvm.MethodName)) ∈ lw_all := lw_g (lw_at lw_m4 57 rfl) rfl
theorem q854 : (Jvm.Cond.methodLink "BilevelPages" (126 : Nat) ({ cls := "java/util/ArrayList", name := "get", desc := "(I)Ljava/lang/Object;" } : Jvm.MethodName)) ∈ lw_all := lw_g (lw_at lw_m4 63 rfl) rfl
theorem q855 : (Jvm.Cond.methodLink "BilevelPages" (134 : Nat) ({ cls := "BilevelPages$Segment", name := "placeOf", desc := "(I)I" } : Jvm.MethodName)) ∈ lw_all := lw_g (lw_at lw_m4 64 rfl) rfl
theorem q856 : (Jvm.Cond.methodLink "BilevelPages" (138 : Nat) ({ cls := "BilevelPages$Segment", name := "letsGo", desc := "(I)Z" } : Jvm.MethodName)) ∈ lw_all := lw_g (lw_at lw_m4 65 rfl) rfl
theorem q865 : (Jvm.Cond.instanceMethod ({ cls := "BilevelPages", name := "letGo", desc := "(II)Z" } : Jvm.MethodName)) ∈ lw_all := lw_g (lw_at lw_m4 74 rfl) rfl
theorem q866 : (Jvm.Cond.selects "BilevelPages" ({ cls := "BilevelPages", name := "letGo", desc := "(II)Z" } : Jvm.MethodName) ({ cls := "BilevelPages", name := "letGo", desc := "(II)Z" } : Jvm.MethodName)) ∈ lw_all := lw_g (lw_at lw_m4 75 rfl) rfl
theorem q867 : (Jvm.Cond.code ({ cls := "BilevelPages", name := "letGo", desc := "(II)Z" } : Jvm.MethodName) prog_1_method_12_code (5 : Nat) (Option.some Jvm.ClassFile.FieldType.boolean)) ∈ lw_all := lw_g (lw_at lw_m4 76 rfl) rfl
theorem q873 : (Jvm.Cond.instanceMethod ({ cls := "BilevelPages", name := "byteOf", desc := "(II)I" } : Jvm.MethodName)) ∈ lw_all := lw_g (lw_at lw_m4 82 rfl) rfl
theorem q874 : (Jvm.Cond.selects "BilevelPages" ({ cls := "BilevelPages", name := "byteOf", desc := "(II)I" } : Jvm.MethodName) ({ cls := "BilevelPages", name := "byteOf", desc := "(II)I" } : Jvm.MethodName)) ∈ lw_all := lw_g (lw_at lw_m4 83 rfl) rfl
theorem q875 : (Jvm.Cond.code ({ cls := "BilevelPages", name := "byteOf", desc := "(II)I" } : Jvm.MethodName) prog_1_method_13_code (4 : Nat) (Option.some Jvm.ClassFile.FieldType.int)) ∈ lw_all := lw_g (lw_at lw_m4 84 rfl) rfl
theorem q876 : (Jvm.Cond.methodLink "BilevelPages" (155 : Nat) ({ cls := "BilevelPages$Kind", name := "hasBytes", desc := "()Z" } : Jvm.MethodName)) ∈ lw_all := lw_g (lw_at lw_m4 85 rfl) rfl
theorem q877 : (Jvm.Cond.methodLink "BilevelPages" (159 : Nat) ({ cls := "BilevelPages", name := "allow", desc := "(Z)V" } : Jvm.MethodName)) ∈ lw_all := lw_g (lw_at lw_m4 86 rfl) rfl
theorem q878 : (Jvm.Cond.static ({ cls := "BilevelPages", name := "allow", desc := "(Z)V" } : Jvm.MethodName)) ∈ lw_all := lw_g (lw_at lw_m4 87 rfl) rfl
theorem q879 : (Jvm.Cond.code ({ cls := "BilevelPages", name := "allow", desc := "(Z)V" } : Jvm.MethodName) prog_1_method_5_code (1 : Nat) (Option.none : Option Jvm.ClassFile.FieldType)) ∈ lw_all := lw_g (lw_at lw_m4 88 rfl) rfl
theorem q880 : (Jvm.Cond.classLink "BilevelPages" (22 : Nat) "java/lang/IllegalStateException") ∈ lw_all := lw_g (lw_at lw_m4 89 rfl) rfl
theorem q889 : (Jvm.Cond.methodLink "BilevelPages" (24 : Nat) ({ cls := "java/lang/IllegalStateException", name := "<init>", desc := "()V" } : Jvm.MethodName)) ∈ lw_all := lw_g (lw_at lw_m4 98 rfl) rfl
theorem q895 : (Jvm.Cond.constantLong "BilevelPages" (162 : Nat) (255 : Int64)) ∈ lw_all := lw_g (lw_at lw_m4 104 rfl) rfl
theorem q900 : (Jvm.Cond.instanceMethod ({ cls := "BilevelPages", name := "number", desc := "(III)I" } : Jvm.MethodName)) ∈ lw_all := lw_g (lw_at lw_m4 109 rfl) rfl
theorem q901 : (Jvm.Cond.selects "BilevelPages" ({ cls := "BilevelPages", name := "number", desc := "(III)I" } : Jvm.MethodName) ({ cls := "BilevelPages", name := "number", desc := "(III)I" } : Jvm.MethodName)) ∈ lw_all := lw_g (lw_at lw_m4 110 rfl) rfl
theorem q902 : (Jvm.Cond.code ({ cls := "BilevelPages", name := "number", desc := "(III)I" } : Jvm.MethodName) prog_1_method_14_code (6 : Nat) (Option.some Jvm.ClassFile.FieldType.int)) ∈ lw_all := lw_g (lw_at lw_m4 111 rfl) rfl
theorem q903 : (Jvm.Cond.methodLink "BilevelPages" (173 : Nat) ({ cls := "BilevelPages$Kind", name := "least", desc := "(I)I" } : Jvm.MethodName)) ∈ lw_all := lw_g (lw_at lw_m4 112 rfl) rfl
theorem q904 : (Jvm.Cond.methodLink "BilevelPages" (176 : Nat) ({ cls := "BilevelPages$Kind", name := "most", desc := "(I)I" } : Jvm.MethodName)) ∈ lw_all := lw_g (lw_at lw_m4 113 rfl) rfl
theorem q909 : (Jvm.Cond.instanceMethod ({ cls := "BilevelPages", name := "pixel", desc := "(IIIZ)Z" } : Jvm.MethodName)) ∈ lw_all := lw_g (lw_at lw_m4 118 rfl) rfl
theorem q910 : (Jvm.Cond.selects "BilevelPages" ({ cls := "BilevelPages", name := "pixel", desc := "(IIIZ)Z" } : Jvm.MethodName) ({ cls := "BilevelPages", name := "pixel", desc := "(IIIZ)Z" } : Jvm.MethodName)) ∈ lw_all := lw_g (lw_at lw_m4 119 rfl) rfl
theorem q911 : (Jvm.Cond.code ({ cls := "BilevelPages", name := "pixel", desc := "(IIIZ)Z" } : Jvm.MethodName) prog_1_method_15_code (7 : Nat) (Option.some Jvm.ClassFile.FieldType.boolean)) ∈ lw_all := lw_g (lw_at lw_m4 120 rfl) rfl
theorem q912 : (Jvm.Cond.methodLink "BilevelPages" (181 : Nat) ({ cls := "BilevelPages$Kind", name := "isRegion", desc := "()Z" } : Jvm.MethodName)) ∈ lw_all := lw_g (lw_at lw_m4 121 rfl) rfl
theorem q913 : (Jvm.Cond.methodLink "BilevelPages" (184 : Nat) ({ cls := "BilevelPages$Segment", name := "wide", desc := "()I" } : Jvm.MethodName)) ∈ lw_all := lw_g (lw_at lw_m4 122 rfl) rfl
theorem q914 : (Jvm.Cond.methodLink "BilevelPages" (187 : Nat) ({ cls := "BilevelPages$Segment", name := "high", desc := "()I" } : Jvm.MethodName)) ∈ lw_all := lw_g (lw_at lw_m4 123 rfl) rfl
theorem q919 : (Jvm.Cond.instanceMethod ({ cls := "BilevelPages", name := "write", desc := "(I)I" } : Jvm.MethodName)) ∈ lw_all := lw_g (lw_at lw_m4 128 rfl) rfl
theorem q920 : (Jvm.Cond.selects "BilevelPages" ({ cls := "BilevelPages", name := "write", desc := "(I)I" } : Jvm.MethodName) ({ cls := "BilevelPages", name := "write", desc := "(I)I" } : Jvm.MethodName)) ∈ lw_all := lw_g (lw_at lw_m4 129 rfl) rfl
theorem q921 : (Jvm.Cond.code ({ cls := "BilevelPages", name := "write", desc := "(I)I" } : Jvm.MethodName) prog_1_method_23_code (6 : Nat) (Option.some Jvm.ClassFile.FieldType.int)) ∈ lw_all := lw_g (lw_at lw_m4 130 rfl) rfl
theorem q922 : (Jvm.Cond.fieldLink "BilevelPages" (231 : Nat) "BilevelPages" "FIRST" "[I") ∈ lw_all := lw_g (lw_at lw_m4 131 rfl) rfl
theorem q923 : (Jvm.Cond.methodLink "BilevelPages" (196 : Nat) ({ cls := "BilevelPages", name := "put", desc := "(I)V" } : Jvm.MethodName)) ∈ lw_all := lw_g (lw_at lw_m4 132 rfl) rfl
theorem q924 : (Jvm.Cond.privateMethod ({ cls := "BilevelPages", name := "put", desc := "(I)V" } : Jvm.MethodName)) ∈ lw_tbl := lw_at lw_m4 133 rfl
theorem q925 : (Jvm.Cond.instanceMethod ({ cls := "BilevelPages", name := "put", desc := "(I)V" } : Jvm.MethodName)) ∈ lw_all := lw_g (lw_at lw_m4 134 rfl) rfl
theorem q926 : (Jvm.Cond.code ({ cls := "BilevelPages", name := "put", desc := "(I)V" } : Jvm.MethodName) prog_1_method_16_code (2 : Nat) (Option.none : Option Jvm.ClassFile.FieldType)) ∈ lw_all := lw_g (lw_at lw_m4 135 rfl) rfl
theorem q927 : (Jvm.Cond.methodLink "BilevelPages" (234 : Nat) ({ cls := "java/util/ArrayList", name := "iterator", desc := "()Ljava/util/Iterator;" } : Jvm.MethodName)) ∈ lw_all := lw_g (lw_at lw_m4 136 rfl) rfl
theorem q950 : (Jvm.Cond.interfaceEntry "BilevelPages" (238 : Nat)) ∈ lw_tbl := lw_at lw_m4 159 rfl
theorem q951 : (Jvm.Cond.methodLink "BilevelPages" (238 : Nat) ({ cls := "java/util/Iterator", name := "hasNext", desc := "()Z" } : Jvm.MethodName)) ∈ lw_all := lw_g (lw_at lw_m4 160 rfl) rfl
theorem q960 : (Jvm.Cond.interfaceEntry "BilevelPages" (243 : Nat)) ∈ lw_tbl := lw_at lw_m4 169 rfl
theorem q961 : (Jvm.Cond.methodLink "BilevelPages" (243 : Nat) ({ cls := "java/util/Iterator", name := "next", desc := "()Ljava/lang/Object;" } : Jvm.MethodName)) ∈ lw_all := lw_g (lw_at lw_m4 170 rfl) rfl
theorem q973 : (Jvm.Cond.fieldLink "BilevelPages" (247 : Nat) "BilevelPages$Kind" "SHEET" "LBilevelPages$Kind;") ∈ lw_all := lw_g (lw_at lw_m4 182 rfl) rfl
theorem q974 : (Jvm.Cond.methodLink "BilevelPages" (200 : Nat) ({ cls := "BilevelPages", name := "putFour", desc := "(I)V" } : Jvm.MethodName)) ∈ lw_all := lw_g (lw_at lw_m4 183 rfl) rfl
theorem q975 : (Jvm.Cond.privateMethod ({ cls := "BilevelPages", name := "putFour", desc := "(I)V" } : Jvm.MethodName)) ∈ lw_tbl := lw_at lw_m4 184 rfl
theorem q976 : (Jvm.Cond.instanceMethod ({ cls := "BilevelPages", name := "putFour", desc := "(I)V" } : Jvm.MethodName)) ∈ lw_all := lw_g (lw_at lw_m4 185 rfl) rfl
theorem q977 : (Jvm.Cond.code ({ cls := "BilevelPages", name := "putFour", desc := "(I)V" } : Jvm.MethodName) prog_1_method_17_code (3 : Nat) (Option.none : Option Jvm.ClassFile.FieldType)) ∈ lw_all := lw_g (lw_at lw_m4 186 rfl) rfl
theorem q978 : (Jvm.Cond.methodLink "BilevelPages" (250 : Nat) ({ cls := "BilevelPages", name := "putHead", desc := "(LBilevelPages$Segment;)V" } : Jvm.MethodName)) ∈ lw_all := lw_g (lw_at lw_m4 187 rfl) rfl
theorem q979 : (Jvm.Cond.privateMethod ({ cls := "BilevelPages", name := "putHead", desc := "(LBilevelPages$Segment;)V" } : Jvm.MethodName)) ∈ lw_tbl := lw_at lw_m4 188 rfl
theorem q980 : (Jvm.Cond.instanceMethod ({ cls := "BilevelPages", name := "putHead", desc := "(LBilevelPages$Segment;)V" } : Jvm.MethodName)) ∈ lw_all := lw_g (lw_at lw_m4 189 rfl) rfl
theorem q981 : (Jvm.Cond.code ({ cls := "BilevelPages", name := "putHead", desc := "(LBilevelPages$Segment;)V" } : Jvm.MethodName) prog_1_method_22_code (4 : Nat) (Option.none : Option Jvm.ClassFile.FieldType)) ∈ lw_all := lw_g (lw_at lw_m4 190 rfl) rfl
theorem q982 : (Jvm.Cond.constant "BilevelPages" (223 : Nat) (-536870912 : Int32)) ∈ lw_all := lw_g (lw_at lw_m4 191 rfl) rfl
theorem q983 : (Jvm.Cond.methodLink "BilevelPages" (227 : Nat) ({ cls := "BilevelPages", name := "sizeOf", desc := "(LBilevelPages$Segment;)I" } : Jvm.MethodName)) ∈ lw_all := lw_g (lw_at lw_m4 192 rfl) rfl
theorem q984 : (Jvm.Cond.privateMethod ({ cls := "BilevelPages", name := "sizeOf", desc := "(LBilevelPages$Segment;)I" } : Jvm.MethodName)) ∈ lw_tbl := lw_at lw_m4 193 rfl
theorem q985 : (Jvm.Cond.instanceMethod ({ cls := "BilevelPages", name := "sizeOf", desc := "(LBilevelPages$Segment;)I" } : Jvm.MethodName)) ∈ lw_all := lw_g (lw_at lw_m4 194 rfl) rfl
theorem q986 : (Jvm.Cond.code ({ cls := "BilevelPages", name := "sizeOf", desc := "(LBilevelPages$Segment;)I" } : Jvm.MethodName) prog_1_method_21_code (4 : Nat) (Option.some Jvm.ClassFile.FieldType.int)) ∈ lw_all := lw_g (lw_at lw_m4 195 rfl) rfl
theorem q987 : (Jvm.Cond.methodLink "BilevelPages" (203 : Nat) ({ cls := "BilevelPages$Segment", name := "isOpen", desc := "()Z" } : Jvm.MethodName)) ∈ lw_all := lw_g (lw_at lw_m4 196 rfl) rfl
theorem q992 : (Jvm.Cond.methodLink "BilevelPages" (217 : Nat) ({ cls := "BilevelPages", name := "putData", desc := "(LBilevelPages$Segment;)V" } : Jvm.MethodName)) ∈ lw_all := lw_g (lw_at lw_m4 201 rfl) rfl
theorem q993 : (Jvm.Cond.privateMethod ({ cls := "BilevelPages", name := "putData", desc := "(LBilevelPages$Segment;)V" } : Jvm.MethodName)) ∈ lw_tbl := lw_at lw_m4 202 rfl
theorem q994 : (Jvm.Cond.instanceMethod ({ cls := "BilevelPages", name := "putData", desc := "(LBilevelPages$Segment;)V" } : Jvm.MethodName)) ∈ lw_all := lw_g (lw_at lw_m4 203 rfl) rfl
theorem q995 : (Jvm.Cond.code ({ cls := "BilevelPages", name := "putData", desc := "(LBilevelPages$Segment;)V" } : Jvm.MethodName) prog_1_method_20_code (3 : Nat) (Option.none : Option Jvm.ClassFile.FieldType)) ∈ lw_all := lw_g (lw_at lw_m4 204 rfl) rfl
theorem q996 : (Jvm.Cond.methodLink "BilevelPages" (210 : Nat) ({ cls := "BilevelPages$Kind", name := "ordinal", desc := "()I" } : Jvm.MethodName)) ∈ lw_all := lw_g (lw_at lw_m4 205 rfl) rfl
theorem q997 : (Jvm.Cond.methodLink "BilevelPages" (213 : Nat) ({ cls := "BilevelPages", name := "putRegion", desc := "(LBilevelPages$Segment;)V" } : Jvm.MethodName)) ∈ lw_all := lw_g (lw_at lw_m4 206 rfl) rfl
theorem q998 : (Jvm.Cond.privateMethod ({ cls := "BilevelPages", name := "putRegion", desc := "(LBilevelPages$Segment;)V" } : Jvm.MethodName)) ∈ lw_tbl := lw_at lw_m4 207 rfl
theorem q999 : (Jvm.Cond.instanceMethod ({ cls := "BilevelPages", name := "putRegion", desc := "(LBilevelPages$Segment;)V" } : Jvm.MethodName)) ∈ lw_all := lw_g (lw_at lw_m4 208 rfl) rfl
theorem q1000 : (Jvm.Cond.code ({ cls := "BilevelPages", name := "putRegion", desc := "(LBilevelPages$Segment;)V" } : Jvm.MethodName) prog_1_method_19_code (3 : Nat) (Option.none : Option Jvm.ClassFile.FieldType)) ∈ lw_all := lw_g (lw_at lw_m4 209 rfl) rfl
theorem q1001 : (Jvm.Cond.methodLink "BilevelPages" (206 : Nat) ({ cls := "BilevelPages", name := "putRow", desc := "(LBilevelPages$Segment;I)V" } : Jvm.MethodName)) ∈ lw_all := lw_g (lw_at lw_m4 210 rfl) rfl
theorem q1002 : (Jvm.Cond.privateMethod ({ cls := "BilevelPages", name := "putRow", desc := "(LBilevelPages$Segment;I)V" } : Jvm.MethodName)) ∈ lw_tbl := lw_at lw_m4 211 rfl
theorem q1003 : (Jvm.Cond.instanceMethod ({ cls := "BilevelPages", name := "putRow", desc := "(LBilevelPages$Segment;I)V" } : Jvm.MethodName)) ∈ lw_all := lw_g (lw_at lw_m4 212 rfl) rfl
theorem q1004 : (Jvm.Cond.code ({ cls := "BilevelPages", name := "putRow", desc := "(LBilevelPages$Segment;I)V" } : Jvm.MethodName) prog_1_method_18_code (6 : Nat) (Option.none : Option Jvm.ClassFile.FieldType)) ∈ lw_all := lw_g (lw_at lw_m4 213 rfl) rfl
theorem q1009 : (Jvm.Cond.instanceMethod ({ cls := "BilevelPages", name := "byteAt", desc := "(I)I" } : Jvm.MethodName)) ∈ lw_all := lw_g (lw_at lw_m4 218 rfl) rfl
theorem q1010 : (Jvm.Cond.selects "BilevelPages" ({ cls := "BilevelPages", name := "byteAt", desc := "(I)I" } : Jvm.MethodName) ({ cls := "BilevelPages", name := "byteAt", desc := "(I)I" } : Jvm.MethodName)) ∈ lw_all := lw_g (lw_at lw_m4 219 rfl) rfl
theorem q1011 : (Jvm.Cond.code ({ cls := "BilevelPages", name := "byteAt", desc := "(I)I" } : Jvm.MethodName) prog_1_method_24_code (2 : Nat) (Option.some Jvm.ClassFile.FieldType.int)) ∈ lw_all := lw_g (lw_at lw_m4 220 rfl) rfl
theorem q1016 : (Jvm.Cond.instanceMethod ({ cls := "BilevelPages", name := "feed", desc := "(IZ)I" } : Jvm.MethodName)) ∈ lw_all := lw_g (lw_at lw_m4 225 rfl) rfl
theorem q1017 : (Jvm.Cond.selects "BilevelPages" ({ cls := "BilevelPages", name := "feed", desc := "(IZ)I" } : Jvm.MethodName) ({ cls := "BilevelPages", name := "feed", desc := "(IZ)I" } : Jvm.MethodName)) ∈ lw_all := lw_g (lw_at lw_m4 226 rfl) rfl
theorem q1018 : (Jvm.Cond.code ({ cls := "BilevelPages", name := "feed", desc := "(IZ)I" } : Jvm.MethodName) prog_1_method_26_code (3 : Nat) (Option.some Jvm.ClassFile.FieldType.int)) ∈ lw_all := lw_g (lw_at lw_m4 227 rfl) rfl
theorem q1019 : (Jvm.Cond.methodLink "BilevelPages" (259 : Nat) ({ cls := "BilevelPages", name := "take", desc := "(IZ)V" } : Jvm.MethodName)) ∈ lw_all := lw_g (lw_at lw_m4 228 rfl) rfl
theorem q1020 : (Jvm.Cond.privateMethod ({ cls := "BilevelPages", name := "take", desc := "(IZ)V" } : Jvm.MethodName)) ∈ lw_tbl := lw_at lw_m4 229 rfl
theorem q1021 : (Jvm.Cond.instanceMethod ({ cls := "BilevelPages", name := "take", desc := "(IZ)V" } : Jvm.MethodName)) ∈ lw_all := lw_g (lw_at lw_m4 230 rfl) rfl
theorem q1022 : (Jvm.Cond.code ({ cls := "BilevelPages", name := "take", desc := "(IZ)V" } : Jvm.MethodName) prog_1_method_25_code (3 : Nat) (Option.none : Option Jvm.ClassFile.FieldType)) ∈ lw_all := lw_g (lw_at lw_m4 231 rfl) rfl
theorem q1027 : (Jvm.Cond.instanceMethod ({ cls := "BilevelPages", name := "pass", desc := "(Z)I" } : Jvm.MethodName)) ∈ lw_all := lw_g (lw_at lw_m4 236 rfl) rfl
theorem q1028 : (Jvm.Cond.selects "BilevelPages" ({ cls := "BilevelPages", name := "pass", desc := "(Z)I" } : Jvm.MethodName) ({ cls := "BilevelPages", name := "pass", desc := "(Z)I" } : Jvm.MethodName)) ∈ lw_all := lw_g (lw_at lw_m4 237 rfl) rfl
theorem q1029 : (Jvm.Cond.code ({ cls := "BilevelPages", name := "pass", desc := "(Z)I" } : Jvm.MethodName) prog_1_method_27_code (3 : Nat) (Option.some Jvm.ClassFile.FieldType.int)) ∈ lw_all := lw_g (lw_at lw_m4 238 rfl) rfl
theorem q1034 : (Jvm.Cond.instanceMethod ({ cls := "BilevelPages", name := "alter", desc := "(II)I" } : Jvm.MethodName)) ∈ lw_all := lw_g (lw_at lw_m5 3 rfl) rfl
theorem q1035 : (Jvm.Cond.selects "BilevelPages" ({ cls := "BilevelPages", name := "alter", desc := "(II)I" } : Jvm.MethodName) ({ cls := "BilevelPages", name := "alter", desc := "(II)I" } : Jvm.MethodName)) ∈ lw_all := lw_g (lw_at lw_m5 4 rfl) rfl
theorem q1036 : (Jvm.Cond.code ({ cls := "BilevelPages", name := "alter", desc := "(II)I" } : Jvm.MethodName) prog_1_method_28_code (4 : Nat) (Option.some Jvm.ClassFile.FieldType.int)) ∈ lw_all := lw_g (lw_at lw_m5 5 rfl) rfl
theorem q1041 : (Jvm.Cond.instanceMethod ({ cls := "BilevelPages", name := "found", desc := "(II)I" } : Jvm.MethodName)) ∈ lw_all := lw_g (lw_at lw_m5 10 rfl) rfl
theorem q1042 : (Jvm.Cond.selects "BilevelPages" ({ cls := "BilevelPages", name := "found", desc := "(II)I" } : Jvm.MethodName) ({ cls := "BilevelPages", name := "found", desc := "(II)I" } : Jvm.MethodName)) ∈ lw_all := lw_g (lw_at lw_m5 11 rfl) rfl
theorem q1043 : (Jvm.Cond.code ({ cls := "BilevelPages", name := "found", desc := "(II)I" } : Jvm.MethodName) prog_1_method_30_code (4 : Nat) (Option.some Jvm.ClassFile.FieldType.int)) ∈ lw_all := lw_g (lw_at lw_m5 12 rfl) rfl
theorem q1048 : (Jvm.Cond.instanceMethod ({ cls := "BilevelPages", name := "page", desc := "(II)I" } : Jvm.MethodName)) ∈ lw_all := lw_g (lw_at lw_m5 17 rfl) rfl
theorem q1049 : (Jvm.Cond.selects "BilevelPages" ({ cls := "BilevelPages", name := "page", desc := "(II)I" } : Jvm.MethodName) ({ cls := "BilevelPages", name := "page", desc := "(II)I" } : Jvm.MethodName)) ∈ lw_all := lw_g (lw_at lw_m5 18 rfl) rfl
theorem q1050 : (Jvm.Cond.code ({ cls := "BilevelPages", name := "page", desc := "(II)I" } : Jvm.MethodName) prog_1_method_32_code (4 : Nat) (Option.some Jvm.ClassFile.FieldType.int)) ∈ lw_all := lw_g (lw_at lw_m5 19 rfl) rfl
theorem q1051 : (Jvm.Cond.methodLink "BilevelPages" (296 : Nat) ({ cls := "BilevelPages", name := "sheet", desc := "(I)LBilevelPages$Sheet;" } : Jvm.MethodName)) ∈ lw_all := lw_g (lw_at lw_m5 20 rfl) rfl
theorem q1052 : (Jvm.Cond.privateMethod ({ cls := "BilevelPages", name := "sheet", desc := "(I)LBilevelPages$Sheet;" } : Jvm.MethodName)) ∈ lw_tbl := lw_at lw_m5 21 rfl
theorem q1053 : (Jvm.Cond.instanceMethod ({ cls := "BilevelPages", name := "sheet", desc := "(I)LBilevelPages$Sheet;" } : Jvm.MethodName)) ∈ lw_all := lw_g (lw_at lw_m5 22 rfl) rfl
theorem q1054 : (Jvm.Cond.code ({ cls := "BilevelPages", name := "sheet", desc := "(I)LBilevelPages$Sheet;" } : Jvm.MethodName) prog_1_method_31_code (2 : Nat) (Option.some (Jvm.ClassFile.FieldType.object "BilevelPages$Sheet"))) ∈ lw_all := lw_g (lw_at lw_m5 23 rfl) rfl
theorem q1055 : (Jvm.Cond.methodLink "BilevelPages" (307 : Nat) ({ cls := "BilevelPages$Sheet", name := "dark", desc := "()I" } : Jvm.MethodName)) ∈ lw_all := lw_g (lw_at lw_m5 24 rfl) rfl
theorem q1063 : (Jvm.Cond.instanceMethod ({ cls := "BilevelPages", name := "at", desc := "(III)Z" } : Jvm.MethodName)) ∈ lw_all := lw_g (lw_at lw_m5 32 rfl) rfl
theorem q1064 : (Jvm.Cond.selects "BilevelPages" ({ cls := "BilevelPages", name := "at", desc := "(III)Z" } : Jvm.MethodName) ({ cls := "BilevelPages", name := "at", desc := "(III)Z" } : Jvm.MethodName)) ∈ lw_all := lw_g (lw_at lw_m5 33 rfl) rfl
theorem q1065 : (Jvm.Cond.code ({ cls := "BilevelPages", name := "at", desc := "(III)Z" } : Jvm.MethodName) prog_1_method_33_code (5 : Nat) (Option.some Jvm.ClassFile.FieldType.boolean)) ∈ lw_all := lw_g (lw_at lw_m5 34 rfl) rfl
theorem q1066 : (Jvm.Cond.methodLinkNest "BilevelPages" (310 : Nat) ({ cls := "BilevelPages$Sheet", name := "isDark", desc := "(II)Z" } : Jvm.MethodName) "BilevelPages") ∈ lw_tbl := lw_at lw_m5 35 rfl
theorem q1071 : (Jvm.Cond.instanceMethod ({ cls := "BilevelPages", name := "stripe", desc := "(II)I" } : Jvm.MethodName)) ∈ lw_all := lw_g (lw_at lw_m5 40 rfl) rfl
theorem q1072 : (Jvm.Cond.selects "BilevelPages" ({ cls := "BilevelPages", name := "stripe", desc := "(II)I" } : Jvm.MethodName) ({ cls := "BilevelPages", name := "stripe", desc := "(II)I" } : Jvm.MethodName)) ∈ lw_all := lw_g (lw_at lw_m5 41 rfl) rfl
theorem q1073 : (Jvm.Cond.code ({ cls := "BilevelPages", name := "stripe", desc := "(II)I" } : Jvm.MethodName) prog_1_method_34_code (4 : Nat) (Option.some Jvm.ClassFile.FieldType.int)) ∈ lw_all := lw_g (lw_at lw_m5 42 rfl) rfl
theorem q1500 : (Jvm.Cond.castable "BilevelPages" "java/lang/Object") ∈ lw_tbl := lw_at lw_m6 229 rfl
theorem q1524 : (Jvm.Cond.fieldLinkNest "BilevelPages" (7 : Nat) "BilevelPages$Kind" "code" "I" "BilevelPages") ∈ lw_tbl := lw_at lw_m7 13 rfl
theorem q1526 : (Jvm.Cond.fieldLinkNest "BilevelPages" (170 : Nat) "BilevelPages$Kind" "numbers" "I" "BilevelPages") ∈ lw_tbl := lw_at lw_m7 15 rfl
theorem in_X1 : ∀ w ∈ wsX10, w ∈ lw_all := lw_in wsX10 [312, 314, 316, 318, 320, 322, 324, 326, 328, 330, 332, 334, 336, 338, 340, 342] (by decide +kernel) (by decide +kernel)
