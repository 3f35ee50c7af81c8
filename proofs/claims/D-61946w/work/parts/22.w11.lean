/-! programs and walks -/
set_option maxRecDepth 100000
/-- BilevelPagesModel.readOpen(II)I -/
abbrev iX6_readOpen : bp_MI := (yX6_readOpen, cX6_readOpen, 8, some (Jvm.ClassFile.FieldType.int), [], 1, 28)
def BX6_readOpen_19 (a0 : Nat) (xp1 : Int32) (x3 : Int32) (k6 : Int32 → Int32 → bp_M Int32) (k32 : bp_M Int32) (k36 : bp_M Int32) (k39 : bp_M Int32) (k45 : Int32 → Int32 → bp_M Int32) : Int32 → Int32 → bp_M Int32 :=
  fun x43 x44 =>
  bp_getI 4 20 a0 fun x46 =>
  bp_if (x46 ≤ x43) (
  k6 x43 x44) (
  bp_getN 4 18 a0 fun a47 =>
  bp_aldI 20 a47 x43 fun x48 =>
  bp_if (x48 = (1 : Int32)) (
  bp_getN 4 37 a0 fun a49 =>
  bp_aldI 20 a49 xp1 fun x50 =>
  bp_if (x44 = x50) (
  k39) (
  bp_getI 4 20 a0 fun x51 =>
  bp_if (((x43 + (1 : Int32)) + x3) ≤ x51) (
  bp_bind (bp_is 4 a0 (PX6_takeRow a0 xp1 x44 (x43 + (1 : Int32)))) fun x52 =>
  bp_if (x52 = 0) (
  k32) (
  bp_letI (x44 + (1 : Int32)) fun x53 =>
  bp_letI (x43 + ((1 : Int32) + x3)) fun x54 =>
  k45 x54 x53)) (
  k36))) (
  k6 x43 x44))
def PX6_readOpen (a0 : Nat) (xp1 : Int32) (xp2 : Int32) : bp_M Int32 :=
  bp_getN 4 36 a0 fun a1 =>
  bp_aldI 20 a1 xp1 fun x2 =>
  bp_nz (8 : Int32) <|
  bp_letI ((x2 + (7 : Int32)) / (8 : Int32)) fun x3 =>
  bp_jn (fun (k6 : Int32 → Int32 → bp_M Int32) =>
  bp_jn (fun (k32 : bp_M Int32) =>
  bp_jn (fun (k36 : bp_M Int32) =>
  bp_jn (fun (k39 : bp_M Int32) =>
  bp_loop (fun _ _ => bp_no) (BX6_readOpen_19 a0 xp1 x3 k6 k32 k36 k39) (fun k => k xp2 (0 : Int32))) (bp_getN 4 26 a0 fun a40 =>
  bp_aldI 20 a40 xp1 fun x41 =>
  bp_bind (bp_is 4 a0 (PX6_fail a0 (8 : Int32) x41)) fun x42 =>
  bp_ret (-1 : Int32))) (bp_getI 4 20 a0 fun x37 =>
  bp_bind (bp_is 4 a0 (PX6_fail a0 (1 : Int32) x37)) fun x38 =>
  bp_ret (-1 : Int32))) (bp_getN 4 26 a0 fun a33 =>
  bp_aldI 20 a33 xp1 fun x34 =>
  bp_bind (bp_is 4 a0 (PX6_fail a0 (8 : Int32) x34)) fun x35 =>
  bp_ret (-1 : Int32))) (fun (x4 : Int32) (x5 : Int32) =>
  bp_getI 4 20 a0 fun x7 =>
  bp_jn (fun (k9 : Int32 → bp_M Int32) =>
  bp_if (x7 ≤ x4) (
  k9 (1 : Int32)) (
  bp_getN 4 18 a0 fun a30 =>
  bp_aldI 20 a30 x4 fun x31 =>
  bp_if (x31 = (255 : Int32)) (
  k9 (1 : Int32)) (
  k9 (0 : Int32)))) (fun (x8 : Int32) =>
  bp_getI 4 20 a0 fun x10 =>
  bp_jn (fun (k12 : Int32 → bp_M Int32) =>
  bp_if (x10 ≤ (x4 + (1 : Int32))) (
  k12 (1 : Int32)) (
  bp_getN 4 18 a0 fun a28 =>
  bp_aldI 20 a28 (x4 + (1 : Int32)) fun x29 =>
  bp_if (x29 = (172 : Int32)) (
  k12 (1 : Int32)) (
  k12 (0 : Int32)))) (fun (x11 : Int32) =>
  bp_jn (fun (k13 : bp_M Int32) =>
  bp_if (x8 = 0) (
  k13) (
  bp_getI 4 20 a0 fun x17 =>
  bp_jn (fun (k18 : bp_M Int32) =>
  bp_if (x17 ≤ x4) (
  k18) (
  bp_if (x11 = 0) (
  k13) (
  k18))) (bp_getI 4 20 a0 fun x19 =>
  bp_if ((x4 + (6 : Int32)) ≤ x19) (
  bp_jn (fun (k20 : bp_M Int32) =>
  bp_if (x5 = 0) (
  k20) (
  bp_bind (bp_is 4 a0 (PX6_four a0 (x4 + (2 : Int32)))) fun x24 =>
  bp_if (x24 = x5) (
  bp_getN 4 37 a0 fun a25 =>
  bp_astI a25 xp1 x5 <|
  bp_ret (x4 + (6 : Int32))) (
  k20))) (bp_getN 4 26 a0 fun a21 =>
  bp_aldI 20 a21 xp1 fun x22 =>
  bp_bind (bp_is 4 a0 (PX6_fail a0 (8 : Int32) x22)) fun x23 =>
  bp_ret (-1 : Int32))) (
  bp_getI 4 20 a0 fun x26 =>
  bp_bind (bp_is 4 a0 (PX6_fail a0 (1 : Int32) x26)) fun x27 =>
  bp_ret (-1 : Int32))))) (bp_getN 4 26 a0 fun a14 =>
  bp_aldI 20 a14 xp1 fun x15 =>
  bp_bind (bp_is 4 a0 (PX6_fail a0 (8 : Int32) x15)) fun x16 =>
  bp_ret (-1 : Int32)))))
set_option maxHeartbeats 4000000 in
set_option maxRecDepth 100000 in
theorem cnX6_readOpen {G : bp_GT} (a0 : Nat) (xp1 : Int32) (xp2 : Int32) : bp_Con G iX6_readOpen (ws_ iX6_readOpen.1 iX6_readOpen.2.1 iX6_readOpen.2.2.1 iX6_readOpen.2.2.2.1) [.ref a0, .int xp1, .int xp2] (PX6_readOpen a0 xp1 xp2) bp_eI := by
  refine bp_con_of [(0, .ref a0), (1, .int xp1), (2, .int xp2)] rfl (by decide) (Nat.le_of_ble_eq_true rfl) rfl ?_
  unfold PX6_readOpen
  refine bp_j_aload_n 0 dX6_readOpen_0 rfl ?_
  refine bp_j_getN (t := 4) (k := 36) rfl (by decide) (bp_lk q1116) dX6_readOpen_1 (fun _ _ _ => rfl) (fun a1 => ?_)
  refine bp_j_iload_n 1 dX6_readOpen_4 rfl ?_
  refine bp_j_iaload dX6_readOpen_5 (fun x2 => ?_)
  refine bp_j_bipush (v := 7) dX6_readOpen_6 (by decide) ?_
  refine bp_j_iadd dX6_readOpen_8 ?_
  refine bp_j_bipush (v := 8) dX6_readOpen_9 (by decide) ?_
  refine bp_j_idiv dX6_readOpen_11 ?_
  refine bp_j_letI (fun x3 => ?_)
  refine bp_j_istore_n (lv' := [(3, .int x3), (0, .ref a0), (1, .int xp1), (2, .int xp2)]) dX6_readOpen_12 (by decide) rfl ?_
  refine bp_j_iload_n 3 dX6_readOpen_13 rfl ?_
  refine bp_j_istore (lv' := [(4, .int xp2), (3, .int x3), (0, .ref a0), (1, .int xp1), (2, .int xp2)]) dX6_readOpen_14 (by decide) rfl ?_
  refine bp_j_iconst (v := 0) dX6_readOpen_16 (by decide) ?_
  refine bp_j_istore (lv' := [(5, .int (0 : Int32)), (4, .int xp2), (3, .int x3), (0, .ref a0), (1, .int xp1), (2, .int xp2)]) dX6_readOpen_17 (by decide) rfl ?_
  refine bp_j_jm (fun k => ∀ (x4 : Int32) (x5 : Int32), bp_J G iX6_readOpen (bp_Qn G bp_eI) (k x4 x5) 133 [(0, .ref a0), (1, .int xp1), (4, .int x4), (5, .int x5)] []) (fun k6 hk6 => ?_) (fun x4 x5 => ?_)
  · refine bp_j_jm (fun k => bp_J G iX6_readOpen (bp_Qn G bp_eI) (k) 104 [(0, .ref a0), (1, .int xp1)] []) (fun k32 hk32 => ?_) ?_
    · refine bp_j_jm (fun k => bp_J G iX6_readOpen (bp_Qn G bp_eI) (k) 78 [(0, .ref a0)] []) (fun k36 hk36 => ?_) ?_
      · refine bp_j_jm (fun k => bp_J G iX6_readOpen (bp_Qn G bp_eI) (k) 50 [(0, .ref a0), (1, .int xp1)] []) (fun k39 hk39 => ?_) ?_
        · refine bp_j_loop (fun k => ∀ (x43 : Int32) (x44 : Int32), bp_J G iX6_readOpen (bp_Qn G bp_eI) (k x43 x44) 19 [(0, .ref a0), (1, .int xp1), (3, .int x3), (4, .int x43), (5, .int x44)] []) (fun _ _ => bp_j_no) (fun k45 hk45 x43 x44 => ?_) (fun k h => bp_j_sub [3, 4, 2, 1, 0] rfl (h xp2 (0 : Int32)))
          unfold BX6_readOpen_19
          refine bp_j_iload 3 dX6_readOpen_19 rfl ?_
          refine bp_j_aload_n 0 dX6_readOpen_21 rfl ?_
          refine bp_j_getI (t := 4) (k := 20) rfl (by decide) (bp_lk q1100) dX6_readOpen_22 (fun _ _ _ => rfl) (fun x46 => ?_)
          refine bp_j_icmp_ge (tgt := 133) dX6_readOpen_25 (by decide) ?_ ?_
          · exact bp_j_sub [0, 1, 3, 4] rfl (hk6 x43 x44)
          refine bp_j_aload_n 0 dX6_readOpen_28 rfl ?_
          refine bp_j_getN (t := 4) (k := 18) rfl (by decide) (bp_lk q1098) dX6_readOpen_29 (fun _ _ _ => rfl) (fun a47 => ?_)
          refine bp_j_iload 3 dX6_readOpen_32 rfl ?_
          refine bp_j_iaload dX6_readOpen_34 (fun x48 => ?_)
          refine bp_j_iconst (v := 1) dX6_readOpen_35 (by decide) ?_
          refine bp_j_icmp_ne (tgt := 133) dX6_readOpen_36 (by decide) ?_ ?_
          · exact bp_j_sub [0, 1, 3, 4] rfl (hk6 x43 x44)
          refine bp_j_iload 4 dX6_readOpen_39 rfl ?_
          refine bp_j_aload_n 0 dX6_readOpen_41 rfl ?_
          refine bp_j_getN (t := 4) (k := 37) rfl (by decide) (bp_lk q1117) dX6_readOpen_42 (fun _ _ _ => rfl) (fun a49 => ?_)
          refine bp_j_iload_n 1 dX6_readOpen_45 rfl ?_
          refine bp_j_iaload dX6_readOpen_46 (fun x50 => ?_)
          refine bp_j_icmp_ne (tgt := 65) dX6_readOpen_47 (by decide) ?_ ?_
          · refine bp_j_iload 3 dX6_readOpen_65 rfl ?_
            refine bp_j_iconst (v := 1) dX6_readOpen_67 (by decide) ?_
            refine bp_j_iadd dX6_readOpen_68 ?_
            refine bp_j_iload_n 2 dX6_readOpen_69 rfl ?_
            refine bp_j_iadd dX6_readOpen_70 ?_
            refine bp_j_aload_n 0 dX6_readOpen_71 rfl ?_
            refine bp_j_getI (t := 4) (k := 20) rfl (by decide) (bp_lk q1100) dX6_readOpen_72 (fun _ _ _ => rfl) (fun x51 => ?_)
            refine bp_j_icmp_le (tgt := 90) dX6_readOpen_75 (by decide) ?_ ?_
            · refine bp_j_aload_n 0 dX6_readOpen_90 rfl ?_
              refine bp_j_iload_n 1 dX6_readOpen_91 rfl ?_
              refine bp_j_iload 4 dX6_readOpen_92 rfl ?_
              refine bp_j_iload 3 dX6_readOpen_94 rfl ?_
              refine bp_j_iconst (v := 1) dX6_readOpen_96 (by decide) ?_
              refine bp_j_iadd dX6_readOpen_97 ?_
              refine bp_j_cl_I (bp_ranV (t := 4) (n := 3) (As := [.int xp1, .int x44, .int (x43 + (1 : Int32))]) (cnX6_takeRow (G := G) a0 xp1 x44 (x43 + (1 : Int32))) rfl (lw_V q1431 q1433 qs63 q82 q1434) ⟨rfl, by decide +kernel, by decide +kernel, by decide +kernel⟩ ⟨by decide, by decide⟩ (rest := []) rfl rfl (Nat.le_of_ble_eq_true rfl) dX6_readOpen_98) (by decide) (fun x52 => ?_)
              refine bp_j_if_ne (tgt := 119) dX6_readOpen_101 (by decide) ?_ ?_
              · refine bp_j_iincL (lv' := fun x53 => [(5, .int x53), (0, .ref a0), (1, .int xp1), (3, .int x3), (4, .int x43)]) 4 dX6_readOpen_119 rfl (by decide) (by decide) (fun _ => rfl) (fun x53 => ?_)
                refine bp_j_iload 4 dX6_readOpen_122 rfl ?_
                refine bp_j_iconst (v := 1) dX6_readOpen_124 (by decide) ?_
                refine bp_j_iload_n 3 dX6_readOpen_125 rfl ?_
                refine bp_j_iadd dX6_readOpen_126 ?_
                refine bp_j_iadd dX6_readOpen_127 ?_
                refine bp_j_letI (fun x54 => ?_)
                refine bp_j_istore (lv' := [(4, .int x54), (5, .int x53), (0, .ref a0), (1, .int xp1), (3, .int x3)]) dX6_readOpen_128 (by decide) rfl ?_
                refine bp_j_goto (tgt := 19) dX6_readOpen_130 (by decide) ?_
                exact bp_j_sub [2, 3, 4, 0, 1] rfl (hk45 x54 x53)
              exact bp_j_sub [0, 1] rfl (hk32)
            exact bp_j_sub [0] rfl (hk36)
          exact bp_j_sub [0, 1] rfl (hk39)
        refine bp_j_aload_n 0 dX6_readOpen_50 rfl ?_
        refine bp_j_bipush (v := 8) dX6_readOpen_51 (by decide) ?_
        refine bp_j_aload_n 0 dX6_readOpen_53 rfl ?_
        refine bp_j_getN (t := 4) (k := 26) rfl (by decide) (bp_lk q1106) dX6_readOpen_54 (fun _ _ _ => rfl) (fun a40 => ?_)
        refine bp_j_iload_n 1 dX6_readOpen_57 rfl ?_
        refine bp_j_iaload dX6_readOpen_58 (fun x41 => ?_)
        refine bp_j_cl_I (bp_ranV (t := 4) (n := 2) (As := [.int (8 : Int32), .int x41]) (cnX6_fail (G := G) a0 (8 : Int32) x41) rfl (lw_V q1367 q1369 qs49 q82 q1370) ⟨rfl, by decide +kernel, by decide +kernel, by decide +kernel⟩ ⟨by decide, by decide⟩ (rest := []) rfl rfl (Nat.le_of_ble_eq_true rfl) dX6_readOpen_59) (by decide) (fun x42 => ?_)
        refine bp_j_pop dX6_readOpen_62 rfl ?_
        refine bp_j_iconst (v := -1) dX6_readOpen_63 (by decide) ?_
        exact bp_j_iret rfl dX6_readOpen_64
      refine bp_j_aload_n 0 dX6_readOpen_78 rfl ?_
      refine bp_j_iconst (v := 1) dX6_readOpen_79 (by decide) ?_
      refine bp_j_aload_n 0 dX6_readOpen_80 rfl ?_
      refine bp_j_getI (t := 4) (k := 20) rfl (by decide) (bp_lk q1100) dX6_readOpen_81 (fun _ _ _ => rfl) (fun x37 => ?_)
      refine bp_j_cl_I (bp_ranV (t := 4) (n := 2) (As := [.int (1 : Int32), .int x37]) (cnX6_fail (G := G) a0 (1 : Int32) x37) rfl (lw_V q1367 q1369 qs49 q82 q1370) ⟨rfl, by decide +kernel, by decide +kernel, by decide +kernel⟩ ⟨by decide, by decide⟩ (rest := []) rfl rfl (Nat.le_of_ble_eq_true rfl) dX6_readOpen_84) (by decide) (fun x38 => ?_)
      refine bp_j_pop dX6_readOpen_87 rfl ?_
      refine bp_j_iconst (v := -1) dX6_readOpen_88 (by decide) ?_
      exact bp_j_iret rfl dX6_readOpen_89
    refine bp_j_aload_n 0 dX6_readOpen_104 rfl ?_
    refine bp_j_bipush (v := 8) dX6_readOpen_105 (by decide) ?_
    refine bp_j_aload_n 0 dX6_readOpen_107 rfl ?_
    refine bp_j_getN (t := 4) (k := 26) rfl (by decide) (bp_lk q1106) dX6_readOpen_108 (fun _ _ _ => rfl) (fun a33 => ?_)
    refine bp_j_iload_n 1 dX6_readOpen_111 rfl ?_
    refine bp_j_iaload dX6_readOpen_112 (fun x34 => ?_)
    refine bp_j_cl_I (bp_ranV (t := 4) (n := 2) (As := [.int (8 : Int32), .int x34]) (cnX6_fail (G := G) a0 (8 : Int32) x34) rfl (lw_V q1367 q1369 qs49 q82 q1370) ⟨rfl, by decide +kernel, by decide +kernel, by decide +kernel⟩ ⟨by decide, by decide⟩ (rest := []) rfl rfl (Nat.le_of_ble_eq_true rfl) dX6_readOpen_113) (by decide) (fun x35 => ?_)
    refine bp_j_pop dX6_readOpen_116 rfl ?_
    refine bp_j_iconst (v := -1) dX6_readOpen_117 (by decide) ?_
    exact bp_j_iret rfl dX6_readOpen_118
  refine bp_j_iload 2 dX6_readOpen_133 rfl ?_
  refine bp_j_aload_n 0 dX6_readOpen_135 rfl ?_
  refine bp_j_getI (t := 4) (k := 20) rfl (by decide) (bp_lk q1100) dX6_readOpen_136 (fun _ _ _ => rfl) (fun x7 => ?_)
  refine bp_j_jm (fun k => ∀ (x8 : Int32), bp_J G iX6_readOpen (bp_Qn G bp_eI) (k x8) 160 [(0, .ref a0), (1, .int xp1), (4, .int x4), (5, .int x5)] [.int x8]) (fun k9 hk9 => ?_) (fun x8 => ?_)
  · refine bp_j_icmp_ge (tgt := 155) dX6_readOpen_139 (by decide) ?_ ?_
    · refine bp_j_iconst (v := 1) dX6_readOpen_155 (by decide) ?_
      refine bp_j_goto (tgt := 160) dX6_readOpen_156 (by decide) ?_
      exact hk9 (1 : Int32)
    refine bp_j_aload_n 0 dX6_readOpen_142 rfl ?_
    refine bp_j_getN (t := 4) (k := 18) rfl (by decide) (bp_lk q1098) dX6_readOpen_143 (fun _ _ _ => rfl) (fun a30 => ?_)
    refine bp_j_iload 2 dX6_readOpen_146 rfl ?_
    refine bp_j_iaload dX6_readOpen_148 (fun x31 => ?_)
    refine bp_j_sipush (v := 255) dX6_readOpen_149 (by decide) ?_
    refine bp_j_icmp_ne (tgt := 159) dX6_readOpen_152 (by decide) ?_ ?_
    · refine bp_j_iconst (v := 0) dX6_readOpen_159 (by decide) ?_
      exact hk9 (0 : Int32)
    refine bp_j_iconst (v := 1) dX6_readOpen_155 (by decide) ?_
    refine bp_j_goto (tgt := 160) dX6_readOpen_156 (by decide) ?_
    exact hk9 (1 : Int32)
  refine bp_j_istore (lv' := [(6, .int x8), (0, .ref a0), (1, .int xp1), (4, .int x4), (5, .int x5)]) dX6_readOpen_160 (by decide) rfl ?_
  refine bp_j_iload 3 dX6_readOpen_162 rfl ?_
  refine bp_j_iconst (v := 1) dX6_readOpen_164 (by decide) ?_
  refine bp_j_iadd dX6_readOpen_165 ?_
  refine bp_j_aload_n 1 dX6_readOpen_166 rfl ?_
  refine bp_j_getI (t := 4) (k := 20) rfl (by decide) (bp_lk q1100) dX6_readOpen_167 (fun _ _ _ => rfl) (fun x10 => ?_)
  refine bp_j_jm (fun k => ∀ (x11 : Int32), bp_J G iX6_readOpen (bp_Qn G bp_eI) (k x11) 193 [(0, .ref a0), (1, .int xp1), (4, .int x4), (5, .int x5), (6, .int x8)] [.int x11]) (fun k12 hk12 => ?_) (fun x11 => ?_)
  · refine bp_j_icmp_ge (tgt := 188) dX6_readOpen_170 (by decide) ?_ ?_
    · refine bp_j_iconst (v := 1) dX6_readOpen_188 (by decide) ?_
      refine bp_j_goto (tgt := 193) dX6_readOpen_189 (by decide) ?_
      exact bp_j_sub [1, 2, 3, 4, 0] rfl (hk12 (1 : Int32))
    refine bp_j_aload_n 1 dX6_readOpen_173 rfl ?_
    refine bp_j_getN (t := 4) (k := 18) rfl (by decide) (bp_lk q1098) dX6_readOpen_174 (fun _ _ _ => rfl) (fun a28 => ?_)
    refine bp_j_iload 3 dX6_readOpen_177 rfl ?_
    refine bp_j_iconst (v := 1) dX6_readOpen_179 (by decide) ?_
    refine bp_j_iadd dX6_readOpen_180 ?_
    refine bp_j_iaload dX6_readOpen_181 (fun x29 => ?_)
    refine bp_j_sipush (v := 172) dX6_readOpen_182 (by decide) ?_
    refine bp_j_icmp_ne (tgt := 192) dX6_readOpen_185 (by decide) ?_ ?_
    · refine bp_j_iconst (v := 0) dX6_readOpen_192 (by decide) ?_
      exact bp_j_sub [1, 2, 3, 4, 0] rfl (hk12 (0 : Int32))
    refine bp_j_iconst (v := 1) dX6_readOpen_188 (by decide) ?_
    refine bp_j_goto (tgt := 193) dX6_readOpen_189 (by decide) ?_
    exact bp_j_sub [1, 2, 3, 4, 0] rfl (hk12 (1 : Int32))
  refine bp_j_istore (lv' := [(7, .int x11), (0, .ref a0), (1, .int xp1), (4, .int x4), (5, .int x5), (6, .int x8)]) dX6_readOpen_193 (by decide) rfl ?_
  refine bp_j_iload 5 dX6_readOpen_195 rfl ?_
  refine bp_j_jm (fun k => bp_J G iX6_readOpen (bp_Qn G bp_eI) (k) 214 [(0, .ref a0), (1, .int xp1)] []) (fun k13 hk13 => ?_) ?_
  · refine bp_j_if_eq (tgt := 214) dX6_readOpen_197 (by decide) ?_ ?_
    · exact bp_j_sub [1, 2] rfl (hk13)
    refine bp_j_iload 3 dX6_readOpen_200 rfl ?_
    refine bp_j_aload_n 1 dX6_readOpen_202 rfl ?_
    refine bp_j_getI (t := 4) (k := 20) rfl (by decide) (bp_lk q1100) dX6_readOpen_203 (fun _ _ _ => rfl) (fun x17 => ?_)
    refine bp_j_jm (fun k => bp_J G iX6_readOpen (bp_Qn G bp_eI) (k) 229 [(0, .ref a0), (1, .int xp1), (4, .int x4), (5, .int x5)] []) (fun k18 hk18 => ?_) ?_
    · refine bp_j_icmp_ge (tgt := 229) dX6_readOpen_206 (by decide) ?_ ?_
      · exact bp_j_sub [1, 2, 3, 4] rfl (hk18)
      refine bp_j_iload 0 dX6_readOpen_209 rfl ?_
      refine bp_j_if_ne (tgt := 229) dX6_readOpen_211 (by decide) ?_ ?_
      · exact bp_j_sub [1, 2, 3, 4] rfl (hk18)
      exact bp_j_sub [1, 2] rfl (hk13)
    refine bp_j_iload 2 dX6_readOpen_229 rfl ?_
    refine bp_j_bipush (v := 6) dX6_readOpen_231 (by decide) ?_
    refine bp_j_iadd dX6_readOpen_233 ?_
    refine bp_j_aload_n 0 dX6_readOpen_234 rfl ?_
    refine bp_j_getI (t := 4) (k := 20) rfl (by decide) (bp_lk q1100) dX6_readOpen_235 (fun _ _ _ => rfl) (fun x19 => ?_)
    refine bp_j_icmp_le (tgt := 253) dX6_readOpen_238 (by decide) ?_ ?_
    · refine bp_j_iload 3 dX6_readOpen_253 rfl ?_
      refine bp_j_jm (fun k => bp_J G iX6_readOpen (bp_Qn G bp_eI) (k) 271 [(0, .ref a0), (1, .int xp1)] []) (fun k20 hk20 => ?_) ?_
      · refine bp_j_if_eq (tgt := 271) dX6_readOpen_255 (by decide) ?_ ?_
        · exact bp_j_sub [0, 1] rfl (hk20)
        refine bp_j_aload_n 0 dX6_readOpen_258 rfl ?_
        refine bp_j_iload 2 dX6_readOpen_259 rfl ?_
        refine bp_j_iconst (v := 2) dX6_readOpen_261 (by decide) ?_
        refine bp_j_iadd dX6_readOpen_262 ?_
        refine bp_j_cl_I (bp_ranV (t := 4) (n := 1) (As := [.int (x4 + (2 : Int32))]) (cnX6_four (G := G) a0 (x4 + (2 : Int32))) rfl (lw_V q1372 q1374 qs50 q82 q1375) ⟨rfl, by decide +kernel, by decide +kernel, by decide +kernel⟩ ⟨by decide, by decide⟩ (rest := []) rfl rfl (Nat.le_of_ble_eq_true rfl) dX6_readOpen_263) (by decide) (fun x24 => ?_)
        refine bp_j_iload 3 dX6_readOpen_266 rfl ?_
        refine bp_j_icmp_eq (tgt := 286) dX6_readOpen_268 (by decide) ?_ ?_
        · refine bp_j_aload_n 0 dX6_readOpen_286 rfl ?_
          refine bp_j_getN (t := 4) (k := 37) rfl (by decide) (bp_lk q1117) dX6_readOpen_287 (fun _ _ _ => rfl) (fun a25 => ?_)
          refine bp_j_iload_n 1 dX6_readOpen_290 rfl ?_
          refine bp_j_iload 3 dX6_readOpen_291 rfl ?_
          refine bp_j_iastore dX6_readOpen_293 ?_
          refine bp_j_iload 2 dX6_readOpen_294 rfl ?_
          refine bp_j_bipush (v := 6) dX6_readOpen_296 (by decide) ?_
          refine bp_j_iadd dX6_readOpen_298 ?_
          exact bp_j_iret rfl dX6_readOpen_299
        exact bp_j_sub [0, 1] rfl (hk20)
      refine bp_j_aload_n 0 dX6_readOpen_271 rfl ?_
      refine bp_j_bipush (v := 8) dX6_readOpen_272 (by decide) ?_
      refine bp_j_aload_n 0 dX6_readOpen_274 rfl ?_
      refine bp_j_getN (t := 4) (k := 26) rfl (by decide) (bp_lk q1106) dX6_readOpen_275 (fun _ _ _ => rfl) (fun a21 => ?_)
      refine bp_j_iload_n 1 dX6_readOpen_278 rfl ?_
      refine bp_j_iaload dX6_readOpen_279 (fun x22 => ?_)
      refine bp_j_cl_I (bp_ranV (t := 4) (n := 2) (As := [.int (8 : Int32), .int x22]) (cnX6_fail (G := G) a0 (8 : Int32) x22) rfl (lw_V q1367 q1369 qs49 q82 q1370) ⟨rfl, by decide +kernel, by decide +kernel, by decide +kernel⟩ ⟨by decide, by decide⟩ (rest := []) rfl rfl (Nat.le_of_ble_eq_true rfl) dX6_readOpen_280) (by decide) (fun x23 => ?_)
      refine bp_j_pop dX6_readOpen_283 rfl ?_
      refine bp_j_iconst (v := -1) dX6_readOpen_284 (by decide) ?_
      exact bp_j_iret rfl dX6_readOpen_285
    refine bp_j_aload_n 0 dX6_readOpen_241 rfl ?_
    refine bp_j_iconst (v := 1) dX6_readOpen_242 (by decide) ?_
    refine bp_j_aload_n 0 dX6_readOpen_243 rfl ?_
    refine bp_j_getI (t := 4) (k := 20) rfl (by decide) (bp_lk q1100) dX6_readOpen_244 (fun _ _ _ => rfl) (fun x26 => ?_)
    refine bp_j_cl_I (bp_ranV (t := 4) (n := 2) (As := [.int (1 : Int32), .int x26]) (cnX6_fail (G := G) a0 (1 : Int32) x26) rfl (lw_V q1367 q1369 qs49 q82 q1370) ⟨rfl, by decide +kernel, by decide +kernel, by decide +kernel⟩ ⟨by decide, by decide⟩ (rest := []) rfl rfl (Nat.le_of_ble_eq_true rfl) dX6_readOpen_247) (by decide) (fun x27 => ?_)
    refine bp_j_pop dX6_readOpen_250 rfl ?_
    refine bp_j_iconst (v := -1) dX6_readOpen_251 (by decide) ?_
    exact bp_j_iret rfl dX6_readOpen_252
  refine bp_j_aload_n 0 dX6_readOpen_214 rfl ?_
  refine bp_j_bipush (v := 8) dX6_readOpen_215 (by decide) ?_
  refine bp_j_aload_n 0 dX6_readOpen_217 rfl ?_
  refine bp_j_getN (t := 4) (k := 26) rfl (by decide) (bp_lk q1106) dX6_readOpen_218 (fun _ _ _ => rfl) (fun a14 => ?_)
  refine bp_j_iload_n 1 dX6_readOpen_221 rfl ?_
  refine bp_j_iaload dX6_readOpen_222 (fun x15 => ?_)
  refine bp_j_cl_I (bp_ranV (t := 4) (n := 2) (As := [.int (8 : Int32), .int x15]) (cnX6_fail (G := G) a0 (8 : Int32) x15) rfl (lw_V q1367 q1369 qs49 q82 q1370) ⟨rfl, by decide +kernel, by decide +kernel, by decide +kernel⟩ ⟨by decide, by decide⟩ (rest := []) rfl rfl (Nat.le_of_ble_eq_true rfl) dX6_readOpen_223) (by decide) (fun x16 => ?_)
  refine bp_j_pop dX6_readOpen_226 rfl ?_
  refine bp_j_iconst (v := -1) dX6_readOpen_227 (by decide) ?_
  exact bp_j_iret rfl dX6_readOpen_228
/-- BilevelPagesModel.readRows(I)Z -/
abbrev iX6_readRows : bp_MI := (yX6_readRows, cX6_readRows, 5, some (Jvm.ClassFile.FieldType.boolean), [], 2, 45)
def BX6_readRows_59 (a0 : Nat) (xp1 : Int32) (x3 : Int32) (k12 : Int32 → bp_M Int32) (k16 : Int32 → Int32 → bp_M Int32) : Int32 → Int32 → bp_M Int32 :=
  fun x14 x15 =>
  bp_getN 4 37 a0 fun a17 =>
  bp_aldI 20 a17 xp1 fun x18 =>
  bp_if (x18 ≤ x15) (
  k12 x14) (
  bp_jn (fun (k20 : Int32 → bp_M Int32) =>
  bp_if (x14 = 0) (
  k20 (0 : Int32)) (
  bp_getI 4 21 a0 fun x22 =>
  bp_bind (bp_is 4 a0 (PX6_takeRow a0 xp1 x15 ((x22 + (17 : Int32)) + (x3 * x15)))) fun x23 =>
  bp_if (x23 = 0) (
  k20 (0 : Int32)) (
  k20 (1 : Int32)))) (fun (x19 : Int32) =>
  bp_letI (x15 + (1 : Int32)) fun x21 =>
  k16 x19 x21))
def PX6_readRows (a0 : Nat) (xp1 : Int32) : bp_M Int32 :=
  bp_getN 4 36 a0 fun a1 =>
  bp_aldI 20 a1 xp1 fun x2 =>
  bp_nz (8 : Int32) <|
  bp_letI ((x2 + (7 : Int32)) / (8 : Int32)) fun x3 =>
  bp_getN 4 33 a0 fun a4 =>
  bp_aldL a4 xp1 fun l5 =>
  bp_getN 4 37 a0 fun a6 =>
  bp_aldI 20 a6 xp1 fun x7 =>
  bp_jn (fun (k9 : Int32 → bp_M Int32) =>
  bp_if ((lg_cmp l5 ((17 : Int64) + (x3.toInt64 * x7.toInt64))) = 0) (
  k9 (1 : Int32)) (
  k9 (0 : Int32))) (fun (x8 : Int32) =>
  bp_bind (bp_is 4 a0 (PX6_needs a0 x8 (7 : Int32) xp1)) fun x10 =>
  bp_if (x10 = 0) (
  bp_retZ (0 : Int32)) (
  bp_jn (fun (k12 : Int32 → bp_M Int32) =>
  bp_loop (fun _ _ => bp_no) (BX6_readRows_59 a0 xp1 x3 k12) (fun k => k (1 : Int32) (0 : Int32))) (fun (x11 : Int32) =>
  bp_bind (bp_is 4 a0 (PX6_needs a0 x11 (8 : Int32) xp1)) fun x13 =>
  bp_retZ x13)))
set_option maxHeartbeats 4000000 in
set_option maxRecDepth 100000 in
theorem cnX6_readRows {G : bp_GT} (a0 : Nat) (xp1 : Int32) : bp_Con G iX6_readRows (ws_ iX6_readRows.1 iX6_readRows.2.1 iX6_readRows.2.2.1 iX6_readRows.2.2.2.1) [.ref a0, .int xp1] (PX6_readRows a0 xp1) bp_eI := by
  refine bp_con_of [(0, .ref a0), (1, .int xp1)] rfl (by decide) (Nat.le_of_ble_eq_true rfl) rfl ?_
  unfold PX6_readRows
  refine bp_j_aload_n 0 dX6_readRows_0 rfl ?_
  refine bp_j_getN (t := 4) (k := 36) rfl (by decide) (bp_lk q1116) dX6_readRows_1 (fun _ _ _ => rfl) (fun a1 => ?_)
  refine bp_j_iload_n 1 dX6_readRows_4 rfl ?_
  refine bp_j_iaload dX6_readRows_5 (fun x2 => ?_)
  refine bp_j_bipush (v := 7) dX6_readRows_6 (by decide) ?_
  refine bp_j_iadd dX6_readRows_8 ?_
  refine bp_j_bipush (v := 8) dX6_readRows_9 (by decide) ?_
  refine bp_j_idiv dX6_readRows_11 ?_
  refine bp_j_letI (fun x3 => ?_)
  refine bp_j_istore_n (lv' := [(2, .int x3), (0, .ref a0), (1, .int xp1)]) dX6_readRows_12 (by decide) rfl ?_
  refine bp_j_aload_n 1 dX6_readRows_13 rfl ?_
  refine bp_j_aload_n 1 dX6_readRows_14 rfl ?_
  refine bp_j_getN (t := 4) (k := 33) rfl (by decide) (bp_lk q1113) dX6_readRows_15 (fun _ _ _ => rfl) (fun a4 => ?_)
  refine bp_j_iload_n 2 dX6_readRows_18 rfl ?_
  refine bp_j_laload dX6_readRows_19 (fun l5 => ?_)
  refine bp_j_ldc2 q1410 dX6_readRows_20 ?_
  refine bp_j_iload_n 0 dX6_readRows_23 rfl ?_
  refine bp_j_i2l dX6_readRows_24 ?_
  refine bp_j_aload_n 1 dX6_readRows_25 rfl ?_
  refine bp_j_getN (t := 4) (k := 37) rfl (by decide) (bp_lk q1117) dX6_readRows_26 (fun _ _ _ => rfl) (fun a6 => ?_)
  refine bp_j_iload_n 2 dX6_readRows_29 rfl ?_
  refine bp_j_iaload dX6_readRows_30 (fun x7 => ?_)
  refine bp_j_i2l dX6_readRows_31 ?_
  refine bp_j_lmul dX6_readRows_32 ?_
  refine bp_j_ladd dX6_readRows_33 ?_
  refine bp_j_lcmp dX6_readRows_34 ?_
  refine bp_j_jm (fun k => ∀ (x8 : Int32), bp_J G iX6_readRows (bp_Qn G bp_eI) (k x8) 43 [(0, .ref a0), (1, .int xp1), (2, .int x3)] [.int x8, .ref a0]) (fun k9 hk9 => ?_) (fun x8 => ?_)
  · refine bp_j_if_ne (tgt := 42) dX6_readRows_35 (by decide) ?_ ?_
    · refine bp_j_iconst (v := 0) dX6_readRows_42 (by decide) ?_
      exact bp_j_sub [1, 2, 0] rfl (hk9 (0 : Int32))
    refine bp_j_iconst (v := 1) dX6_readRows_38 (by decide) ?_
    refine bp_j_goto (tgt := 43) dX6_readRows_39 (by decide) ?_
    exact bp_j_sub [1, 2, 0] rfl (hk9 (1 : Int32))
  refine bp_j_bipush (v := 7) dX6_readRows_43 (by decide) ?_
  refine bp_j_iload_n 1 dX6_readRows_45 rfl ?_
  refine bp_j_cl_I (bp_ranV (t := 4) (n := 3) (As := [.int x8, .int (7 : Int32), .int xp1]) (cnX6_needs (G := G) a0 x8 (7 : Int32) xp1) rfl (lw_V q1398 q1400 qs56 q82 q1401) ⟨rfl, by decide +kernel, by decide +kernel, by decide +kernel⟩ ⟨by decide, by decide⟩ (rest := []) rfl rfl (Nat.le_of_ble_eq_true rfl) dX6_readRows_46) (by decide) (fun x10 => ?_)
  refine bp_j_if_ne (tgt := 54) dX6_readRows_49 (by decide) ?_ ?_
  · refine bp_j_iconst (v := 1) dX6_readRows_54 (by decide) ?_
    refine bp_j_istore_n (lv' := [(3, .int (1 : Int32)), (0, .ref a0), (1, .int xp1), (2, .int x3)]) dX6_readRows_55 (by decide) rfl ?_
    refine bp_j_iconst (v := 0) dX6_readRows_56 (by decide) ?_
    refine bp_j_istore (lv' := [(4, .int (0 : Int32)), (3, .int (1 : Int32)), (0, .ref a0), (1, .int xp1), (2, .int x3)]) dX6_readRows_57 (by decide) rfl ?_
    refine bp_j_jm (fun k => ∀ (x11 : Int32), bp_J G iX6_readRows (bp_Qn G bp_eI) (k x11) 108 [(0, .ref a0), (1, .int xp1), (3, .int x11)] []) (fun k12 hk12 => ?_) (fun x11 => ?_)
    · refine bp_j_loop (fun k => ∀ (x14 : Int32) (x15 : Int32), bp_J G iX6_readRows (bp_Qn G bp_eI) (k x14 x15) 59 [(0, .ref a0), (1, .int xp1), (2, .int x3), (3, .int x14), (4, .int x15)] []) (fun _ _ => bp_j_no) (fun k16 hk16 x14 x15 => ?_) (fun k h => bp_j_sub [2, 3, 4, 1, 0] rfl (h (1 : Int32) (0 : Int32)))
      unfold BX6_readRows_59
      refine bp_j_iload 4 dX6_readRows_59 rfl ?_
      refine bp_j_aload_n 0 dX6_readRows_61 rfl ?_
      refine bp_j_getN (t := 4) (k := 37) rfl (by decide) (bp_lk q1117) dX6_readRows_62 (fun _ _ _ => rfl) (fun a17 => ?_)
      refine bp_j_iload_n 1 dX6_readRows_65 rfl ?_
      refine bp_j_iaload dX6_readRows_66 (fun x18 => ?_)
      refine bp_j_icmp_ge (tgt := 108) dX6_readRows_67 (by decide) ?_ ?_
      · exact bp_j_sub [0, 1, 3] rfl (hk12 x14)
      refine bp_j_iload_n 3 dX6_readRows_70 rfl ?_
      refine bp_j_jm (fun k => ∀ (x19 : Int32), bp_J G iX6_readRows (bp_Qn G bp_eI) (k x19) 101 [(0, .ref a0), (1, .int xp1), (2, .int x3), (4, .int x15)] [.int x19]) (fun k20 hk20 => ?_) (fun x19 => ?_)
      · refine bp_j_if_eq (tgt := 100) dX6_readRows_71 (by decide) ?_ ?_
        · refine bp_j_iconst (v := 0) dX6_readRows_100 (by decide) ?_
          exact bp_j_sub [0, 1, 2, 4] rfl (hk20 (0 : Int32))
        refine bp_j_aload_n 0 dX6_readRows_74 rfl ?_
        refine bp_j_iload_n 1 dX6_readRows_75 rfl ?_
        refine bp_j_iload 4 dX6_readRows_76 rfl ?_
        refine bp_j_aload_n 0 dX6_readRows_78 rfl ?_
        refine bp_j_getI (t := 4) (k := 21) rfl (by decide) (bp_lk q1101) dX6_readRows_79 (fun _ _ _ => rfl) (fun x22 => ?_)
        refine bp_j_bipush (v := 17) dX6_readRows_82 (by decide) ?_
        refine bp_j_iadd dX6_readRows_84 ?_
        refine bp_j_iload_n 2 dX6_readRows_85 rfl ?_
        refine bp_j_iload 4 dX6_readRows_86 rfl ?_
        refine bp_j_imul dX6_readRows_88 ?_
        refine bp_j_iadd dX6_readRows_89 ?_
        refine bp_j_cl_I (bp_ranV (t := 4) (n := 3) (As := [.int xp1, .int x15, .int ((x22 + (17 : Int32)) + (x3 * x15))]) (cnX6_takeRow (G := G) a0 xp1 x15 ((x22 + (17 : Int32)) + (x3 * x15))) rfl (lw_V q1431 q1433 qs63 q82 q1434) ⟨rfl, by decide +kernel, by decide +kernel, by decide +kernel⟩ ⟨by decide, by decide⟩ (rest := []) rfl rfl (Nat.le_of_ble_eq_true rfl) dX6_readRows_90) (by decide) (fun x23 => ?_)
        refine bp_j_if_eq (tgt := 100) dX6_readRows_93 (by decide) ?_ ?_
        · refine bp_j_iconst (v := 0) dX6_readRows_100 (by decide) ?_
          exact bp_j_sub [0, 1, 2, 4] rfl (hk20 (0 : Int32))
        refine bp_j_iconst (v := 1) dX6_readRows_96 (by decide) ?_
        refine bp_j_goto (tgt := 101) dX6_readRows_97 (by decide) ?_
        exact bp_j_sub [0, 1, 2, 4] rfl (hk20 (1 : Int32))
      refine bp_j_istore_n (lv' := [(3, .int x19), (0, .ref a0), (1, .int xp1), (2, .int x3), (4, .int x15)]) dX6_readRows_101 (by decide) rfl ?_
      refine bp_j_iincL (lv' := fun x21 => [(4, .int x21), (3, .int x19), (0, .ref a0), (1, .int xp1), (2, .int x3)]) 4 dX6_readRows_102 rfl (by decide) (by decide) (fun _ => rfl) (fun x21 => ?_)
      refine bp_j_goto (tgt := 59) dX6_readRows_105 (by decide) ?_
      exact bp_j_sub [2, 3, 4, 1, 0] rfl (hk16 x19 x21)
    refine bp_j_aload_n 0 dX6_readRows_108 rfl ?_
    refine bp_j_iload_n 2 dX6_readRows_109 rfl ?_
    refine bp_j_bipush (v := 8) dX6_readRows_110 (by decide) ?_
    refine bp_j_iload_n 1 dX6_readRows_112 rfl ?_
    refine bp_j_cl_I (bp_ranV (t := 4) (n := 3) (As := [.int x11, .int (8 : Int32), .int xp1]) (cnX6_needs (G := G) a0 x11 (8 : Int32) xp1) rfl (lw_V q1398 q1400 qs56 q82 q1401) ⟨rfl, by decide +kernel, by decide +kernel, by decide +kernel⟩ ⟨by decide, by decide⟩ (rest := []) rfl rfl (Nat.le_of_ble_eq_true rfl) dX6_readRows_113) (by decide) (fun x13 => ?_)
    exact bp_j_zret rfl dX6_readRows_116
  refine bp_j_iconst (v := 0) dX6_readRows_52 (by decide) ?_
  exact bp_j_zret rfl dX6_readRows_53
/-- BilevelPagesModel.readRegion(I)I -/
abbrev iX6_readRegion : bp_MI := (yX6_readRegion, cX6_readRegion, 11, some (Jvm.ClassFile.FieldType.int), [], 3, 69)
def BX6_readRegion_272 (a0 : Nat) (xp1 : Int32) (x24 : Int32) (k26 : bp_M Int32) (k30 : Int32 → bp_M Int32) : Int32 → bp_M Int32 :=
  fun x29 =>
  bp_getN 4 37 a0 fun a31 =>
  bp_aldI 20 a31 xp1 fun x32 =>
  bp_if (x32 ≤ x29) (
  k26) (
  bp_if (x24 < 0) (
  k26) (
  bp_getN 4 38 a0 fun a33 =>
  bp_getN 4 38 a0 fun a34 =>
  bp_aldI 20 a34 (((16 : Int32) * xp1) + x29) fun x35 =>
  bp_getN 4 38 a0 fun a36 =>
  bp_aldI 20 a36 (((16 : Int32) * x24) + x29) fun x37 =>
  bp_astI a33 (((16 : Int32) * xp1) + x29) (x35 ^^^ x37) <|
  bp_letI (x29 + (1 : Int32)) fun x38 =>
  k30 x38))
def PX6_readRegion (a0 : Nat) (xp1 : Int32) : bp_M Int32 :=
  bp_getI 4 21 a0 fun x1 =>
  bp_bind (bp_is 4 a0 (PX6_four a0 x1)) fun x2 =>
  bp_getI 4 21 a0 fun x3 =>
  bp_bind (bp_is 4 a0 (PX6_four a0 (x3 + (4 : Int32)))) fun x4 =>
  bp_getI 4 21 a0 fun x5 =>
  bp_bind (bp_is 4 a0 (PX6_four a0 (x5 + (8 : Int32)))) fun x6 =>
  bp_getI 4 21 a0 fun x7 =>
  bp_bind (bp_is 4 a0 (PX6_four a0 (x7 + (12 : Int32)))) fun x8 =>
  bp_getN 4 18 a0 fun a9 =>
  bp_getI 4 21 a0 fun x10 =>
  bp_aldI 20 a9 (x10 + (16 : Int32)) fun x11 =>
  bp_bind (PX6_isIn x2 (1 : Int32) (16 : Int32)) fun x12 =>
  bp_jn (fun (k14 : Int32 → bp_M Int32) =>
  bp_if (x12 = 0) (
  k14 (0 : Int32)) (
  bp_bind (PX6_isIn x4 (1 : Int32) (16 : Int32)) fun x56 =>
  bp_if (x56 = 0) (
  k14 (0 : Int32)) (
  bp_bind (PX6_isIn x6 (0 : Int32) (31 : Int32)) fun x57 =>
  bp_if (x57 = 0) (
  k14 (0 : Int32)) (
  bp_bind (PX6_isIn x8 (0 : Int32) (31 : Int32)) fun x58 =>
  bp_if (x58 = 0) (
  k14 (0 : Int32)) (
  bp_if ((6 : Int32) ≤ x11) (
  k14 (0 : Int32)) (
  k14 (1 : Int32))))))) (fun (x13 : Int32) =>
  bp_bind (bp_is 4 a0 (PX6_needs a0 x13 (8 : Int32) xp1)) fun x15 =>
  bp_if (x15 = 0) (
  bp_ret (-1 : Int32)) (
  bp_getN 4 36 a0 fun a16 =>
  bp_astI a16 xp1 x2 <|
  bp_getN 4 37 a0 fun a17 =>
  bp_astI a17 xp1 x4 <|
  bp_getI 4 21 a0 fun x18 =>
  bp_letI (x18 + (17 : Int32)) fun x19 =>
  bp_getN 4 33 a0 fun a20 =>
  bp_aldL a20 xp1 fun l21 =>
  bp_jn (fun (k23 : Int32 → bp_M Int32) =>
  bp_if ((lg_cmp l21 (4294967295 : Int64)) = 0) (
  bp_getI 4 21 a0 fun x54 =>
  bp_bind (bp_is 4 a0 (PX6_readOpen a0 xp1 (x54 + (17 : Int32)))) fun x55 =>
  k23 x55) (
  bp_bind (bp_is 4 a0 (PX6_readRows a0 xp1)) fun x48 =>
  bp_jn (fun (k50 : Int32 → bp_M Int32) =>
  bp_if (x48 = 0) (
  k50 (-1 : Int32)) (
  bp_getI 4 21 a0 fun x51 =>
  bp_getN 4 33 a0 fun a52 =>
  bp_aldL a52 xp1 fun l53 =>
  k50 (x51 + l53.toInt32))) (fun (x49 : Int32) =>
  k23 x49))) (fun (x22 : Int32) =>
  bp_bind (bp_is 4 a0 (PX6_keptOf a0 xp1)) fun x24 =>
  bp_if (x22 < 0) (
  bp_ret (-1 : Int32)) (
  bp_jn (fun (k25 : bp_M Int32) =>
  bp_if (x24 < 0) (
  k25) (
  bp_getN 4 36 a0 fun a39 =>
  bp_aldI 20 a39 x24 fun x40 =>
  bp_jn (fun (k42 : Int32 → bp_M Int32) =>
  bp_if (x40 = x2) (
  bp_getN 4 37 a0 fun a44 =>
  bp_aldI 20 a44 x24 fun x45 =>
  bp_getN 4 37 a0 fun a46 =>
  bp_aldI 20 a46 xp1 fun x47 =>
  bp_if (x45 = x47) (
  k42 (1 : Int32)) (
  k42 (0 : Int32))) (
  k42 (0 : Int32))) (fun (x41 : Int32) =>
  bp_bind (bp_is 4 a0 (PX6_needs a0 x41 (5 : Int32) xp1)) fun x43 =>
  bp_if (x43 = 0) (
  bp_ret (-1 : Int32)) (
  k25)))) (bp_jn (fun (k26 : bp_M Int32) =>
  bp_loop (fun _ => bp_no) (BX6_readRegion_272 a0 xp1 x24 k26) (fun k => k (0 : Int32))) (bp_getN 4 28 a0 fun a27 =>
  bp_aldI 20 a27 xp1 fun x28 =>
  bp_if (x28 = (4 : Int32)) (
  bp_ret x22) (
  bp_bind (bp_is 4 a0 (PX6_putUpon a0 xp1 x6 x8 x11)) fun _ =>
  bp_ret x22)))))))
set_option maxHeartbeats 4000000 in
set_option maxRecDepth 100000 in
theorem cnX6_readRegion {G : bp_GT} (a0 : Nat) (xp1 : Int32) : bp_Con G iX6_readRegion (ws_ iX6_readRegion.1 iX6_readRegion.2.1 iX6_readRegion.2.2.1 iX6_readRegion.2.2.2.1) [.ref a0, .int xp1] (PX6_readRegion a0 xp1) bp_eI := by
  refine bp_con_of [(0, .ref a0), (1, .int xp1)] rfl (by decide) (Nat.le_of_ble_eq_true rfl) rfl ?_
  unfold PX6_readRegion
  refine bp_j_aload_n 0 dX6_readRegion_0 rfl ?_
  refine bp_j_aload_n 0 dX6_readRegion_1 rfl ?_
  refine bp_j_getI (t := 4) (k := 21) rfl (by decide) (bp_lk q1101) dX6_readRegion_2 (fun _ _ _ => rfl) (fun x1 => ?_)
  refine bp_j_cl_I (bp_ranV (t := 4) (n := 1) (As := [.int x1]) (cnX6_four (G := G) a0 x1) rfl (lw_V q1372 q1374 qs50 q82 q1375) ⟨rfl, by decide +kernel, by decide +kernel, by decide +kernel⟩ ⟨by decide, by decide⟩ (rest := []) rfl rfl (Nat.le_of_ble_eq_true rfl) dX6_readRegion_5) (by decide) (fun x2 => ?_)
  refine bp_j_istore_n (lv' := [(2, .int x2), (0, .ref a0), (1, .int xp1)]) dX6_readRegion_8 (by decide) rfl ?_
  refine bp_j_aload_n 1 dX6_readRegion_9 rfl ?_
  refine bp_j_aload_n 1 dX6_readRegion_10 rfl ?_
  refine bp_j_getI (t := 4) (k := 21) rfl (by decide) (bp_lk q1101) dX6_readRegion_11 (fun _ _ _ => rfl) (fun x3 => ?_)
  refine bp_j_iconst (v := 4) dX6_readRegion_14 (by decide) ?_
  refine bp_j_iadd dX6_readRegion_15 ?_
  refine bp_j_cl_I (bp_ranV (t := 4) (n := 1) (As := [.int (x3 + (4 : Int32))]) (cnX6_four (G := G) a0 (x3 + (4 : Int32))) rfl (lw_V q1372 q1374 qs50 q82 q1375) ⟨rfl, by decide +kernel, by decide +kernel, by decide +kernel⟩ ⟨by decide, by decide⟩ (rest := []) rfl rfl (Nat.le_of_ble_eq_true rfl) dX6_readRegion_16) (by decide) (fun x4 => ?_)
  refine bp_j_istore_n (lv' := [(3, .int x4), (2, .int x2), (0, .ref a0), (1, .int xp1)]) dX6_readRegion_19 (by decide) rfl ?_
  refine bp_j_aload_n 2 dX6_readRegion_20 rfl ?_
  refine bp_j_aload_n 2 dX6_readRegion_21 rfl ?_
  refine bp_j_getI (t := 4) (k := 21) rfl (by decide) (bp_lk q1101) dX6_readRegion_22 (fun _ _ _ => rfl) (fun x5 => ?_)
  refine bp_j_bipush (v := 8) dX6_readRegion_25 (by decide) ?_
  refine bp_j_iadd dX6_readRegion_27 ?_
  refine bp_j_cl_I (bp_ranV (t := 4) (n := 1) (As := [.int (x5 + (8 : Int32))]) (cnX6_four (G := G) a0 (x5 + (8 : Int32))) rfl (lw_V q1372 q1374 qs50 q82 q1375) ⟨rfl, by decide +kernel, by decide +kernel, by decide +kernel⟩ ⟨by decide, by decide⟩ (rest := []) rfl rfl (Nat.le_of_ble_eq_true rfl) dX6_readRegion_28) (by decide) (fun x6 => ?_)
  refine bp_j_istore (lv' := [(4, .int x6), (3, .int x4), (2, .int x2), (0, .ref a0), (1, .int xp1)]) dX6_readRegion_31 (by decide) rfl ?_
  refine bp_j_aload_n 3 dX6_readRegion_33 rfl ?_
  refine bp_j_aload_n 3 dX6_readRegion_34 rfl ?_
  refine bp_j_getI (t := 4) (k := 21) rfl (by decide) (bp_lk q1101) dX6_readRegion_35 (fun _ _ _ => rfl) (fun x7 => ?_)
  refine bp_j_bipush (v := 12) dX6_readRegion_38 (by decide) ?_
  refine bp_j_iadd dX6_readRegion_40 ?_
  refine bp_j_cl_I (bp_ranV (t := 4) (n := 1) (As := [.int (x7 + (12 : Int32))]) (cnX6_four (G := G) a0 (x7 + (12 : Int32))) rfl (lw_V q1372 q1374 qs50 q82 q1375) ⟨rfl, by decide +kernel, by decide +kernel, by decide +kernel⟩ ⟨by decide, by decide⟩ (rest := []) rfl rfl (Nat.le_of_ble_eq_true rfl) dX6_readRegion_41) (by decide) (fun x8 => ?_)
  refine bp_j_istore (lv' := [(5, .int x8), (4, .int x6), (3, .int x4), (2, .int x2), (0, .ref a0), (1, .int xp1)]) dX6_readRegion_44 (by decide) rfl ?_
  refine bp_j_aload_n 4 dX6_readRegion_46 rfl ?_
  refine bp_j_getN (t := 4) (k := 18) rfl (by decide) (bp_lk q1098) dX6_readRegion_47 (fun _ _ _ => rfl) (fun a9 => ?_)
  refine bp_j_aload_n 4 dX6_readRegion_50 rfl ?_
  refine bp_j_getI (t := 4) (k := 21) rfl (by decide) (bp_lk q1101) dX6_readRegion_51 (fun _ _ _ => rfl) (fun x10 => ?_)
  refine bp_j_bipush (v := 16) dX6_readRegion_54 (by decide) ?_
  refine bp_j_iadd dX6_readRegion_56 ?_
  refine bp_j_iaload dX6_readRegion_57 (fun x11 => ?_)
  refine bp_j_istore (lv' := [(6, .int x11), (5, .int x8), (4, .int x6), (3, .int x4), (2, .int x2), (0, .ref a0), (1, .int xp1)]) dX6_readRegion_58 (by decide) rfl ?_
  refine bp_j_iload_n 4 dX6_readRegion_60 rfl ?_
  refine bp_j_iconst (v := 1) dX6_readRegion_61 (by decide) ?_
  refine bp_j_bipush (v := 16) dX6_readRegion_62 (by decide) ?_
  refine bp_j_cl_I (bp_ranS (n := 3) (As := [.int x2, .int (1 : Int32), .int (16 : Int32)]) (cnX6_isIn (G := G) x2 (1 : Int32) (16 : Int32)) (lw_S q1244 q1245 q82 q1246) ⟨by decide +kernel, by decide +kernel, by decide +kernel⟩ ⟨by decide, by decide⟩ (rest := []) rfl rfl (Nat.le_of_ble_eq_true rfl) dX6_readRegion_64) (by decide) (fun x12 => ?_)
  refine bp_j_jm (fun k => ∀ (x13 : Int32), bp_J G iX6_readRegion (bp_Qn G bp_eI) (k x13) 114 [(0, .ref a0), (1, .int xp1), (2, .int x2), (3, .int x4), (4, .int x6), (5, .int x8), (6, .int x11)] [.int x13]) (fun k14 hk14 => ?_) (fun x13 => ?_)
  · refine bp_j_if_eq (tgt := 113) dX6_readRegion_67 (by decide) ?_ ?_
    · refine bp_j_iconst (v := 0) dX6_readRegion_113 (by decide) ?_
      exact bp_j_sub [5, 6, 4, 3, 2, 1, 0] rfl (hk14 (0 : Int32))
    refine bp_j_iload_n 3 dX6_readRegion_70 rfl ?_
    refine bp_j_iconst (v := 1) dX6_readRegion_71 (by decide) ?_
    refine bp_j_bipush (v := 16) dX6_readRegion_72 (by decide) ?_
    refine bp_j_cl_I (bp_ranS (n := 3) (As := [.int x4, .int (1 : Int32), .int (16 : Int32)]) (cnX6_isIn (G := G) x4 (1 : Int32) (16 : Int32)) (lw_S q1244 q1245 q82 q1246) ⟨by decide +kernel, by decide +kernel, by decide +kernel⟩ ⟨by decide, by decide⟩ (rest := []) rfl rfl (Nat.le_of_ble_eq_true rfl) dX6_readRegion_74) (by decide) (fun x56 => ?_)
    refine bp_j_if_eq (tgt := 113) dX6_readRegion_77 (by decide) ?_ ?_
    · refine bp_j_iconst (v := 0) dX6_readRegion_113 (by decide) ?_
      exact bp_j_sub [5, 6, 4, 3, 2, 1, 0] rfl (hk14 (0 : Int32))
    refine bp_j_iload 2 dX6_readRegion_80 rfl ?_
    refine bp_j_iconst (v := 0) dX6_readRegion_82 (by decide) ?_
    refine bp_j_bipush (v := 31) dX6_readRegion_83 (by decide) ?_
    refine bp_j_cl_I (bp_ranS (n := 3) (As := [.int x6, .int (0 : Int32), .int (31 : Int32)]) (cnX6_isIn (G := G) x6 (0 : Int32) (31 : Int32)) (lw_S q1244 q1245 q82 q1246) ⟨by decide +kernel, by decide +kernel, by decide +kernel⟩ ⟨by decide, by decide⟩ (rest := []) rfl rfl (Nat.le_of_ble_eq_true rfl) dX6_readRegion_85) (by decide) (fun x57 => ?_)
    refine bp_j_if_eq (tgt := 113) dX6_readRegion_88 (by decide) ?_ ?_
    · refine bp_j_iconst (v := 0) dX6_readRegion_113 (by decide) ?_
      exact bp_j_sub [5, 6, 4, 3, 2, 1, 0] rfl (hk14 (0 : Int32))
    refine bp_j_iload 1 dX6_readRegion_91 rfl ?_
    refine bp_j_iconst (v := 0) dX6_readRegion_93 (by decide) ?_
    refine bp_j_bipush (v := 31) dX6_readRegion_94 (by decide) ?_
    refine bp_j_cl_I (bp_ranS (n := 3) (As := [.int x8, .int (0 : Int32), .int (31 : Int32)]) (cnX6_isIn (G := G) x8 (0 : Int32) (31 : Int32)) (lw_S q1244 q1245 q82 q1246) ⟨by decide +kernel, by decide +kernel, by decide +kernel⟩ ⟨by decide, by decide⟩ (rest := []) rfl rfl (Nat.le_of_ble_eq_true rfl) dX6_readRegion_96) (by decide) (fun x58 => ?_)
    refine bp_j_if_eq (tgt := 113) dX6_readRegion_99 (by decide) ?_ ?_
    · refine bp_j_iconst (v := 0) dX6_readRegion_113 (by decide) ?_
      exact bp_j_sub [5, 6, 4, 3, 2, 1, 0] rfl (hk14 (0 : Int32))
    refine bp_j_iload 0 dX6_readRegion_102 rfl ?_
    refine bp_j_bipush (v := 6) dX6_readRegion_104 (by decide) ?_
    refine bp_j_icmp_ge (tgt := 113) dX6_readRegion_106 (by decide) ?_ ?_
    · refine bp_j_iconst (v := 0) dX6_readRegion_113 (by decide) ?_
      exact bp_j_sub [5, 6, 4, 3, 2, 1, 0] rfl (hk14 (0 : Int32))
    refine bp_j_iconst (v := 1) dX6_readRegion_109 (by decide) ?_
    refine bp_j_goto (tgt := 114) dX6_readRegion_110 (by decide) ?_
    exact bp_j_sub [5, 6, 4, 3, 2, 1, 0] rfl (hk14 (1 : Int32))
  refine bp_j_istore (lv' := [(7, .int x13), (0, .ref a0), (1, .int xp1), (2, .int x2), (3, .int x4), (4, .int x6), (5, .int x8), (6, .int x11)]) dX6_readRegion_114 (by decide) rfl ?_
  refine bp_j_aload_n 1 dX6_readRegion_116 rfl ?_
  refine bp_j_iload 0 dX6_readRegion_117 rfl ?_
  refine bp_j_bipush (v := 8) dX6_readRegion_119 (by decide) ?_
  refine bp_j_iload_n 2 dX6_readRegion_121 rfl ?_
  refine bp_j_cl_I (bp_ranV (t := 4) (n := 3) (As := [.int x13, .int (8 : Int32), .int xp1]) (cnX6_needs (G := G) a0 x13 (8 : Int32) xp1) rfl (lw_V q1398 q1400 qs56 q82 q1401) ⟨rfl, by decide +kernel, by decide +kernel, by decide +kernel⟩ ⟨by decide, by decide⟩ (rest := []) rfl rfl (Nat.le_of_ble_eq_true rfl) dX6_readRegion_122) (by decide) (fun x15 => ?_)
  refine bp_j_if_ne (tgt := 130) dX6_readRegion_125 (by decide) ?_ ?_
  · refine bp_j_aload_n 1 dX6_readRegion_130 rfl ?_
    refine bp_j_getN (t := 4) (k := 36) rfl (by decide) (bp_lk q1116) dX6_readRegion_131 (fun _ _ _ => rfl) (fun a16 => ?_)
    refine bp_j_iload_n 2 dX6_readRegion_134 rfl ?_
    refine bp_j_iload_n 3 dX6_readRegion_135 rfl ?_
    refine bp_j_iastore dX6_readRegion_136 ?_
    refine bp_j_aload_n 1 dX6_readRegion_137 rfl ?_
    refine bp_j_getN (t := 4) (k := 37) rfl (by decide) (bp_lk q1117) dX6_readRegion_138 (fun _ _ _ => rfl) (fun a17 => ?_)
    refine bp_j_iload_n 2 dX6_readRegion_141 rfl ?_
    refine bp_j_iload_n 4 dX6_readRegion_142 rfl ?_
    refine bp_j_iastore dX6_readRegion_143 ?_
    refine bp_j_aload_n 1 dX6_readRegion_144 rfl ?_
    refine bp_j_getI (t := 4) (k := 21) rfl (by decide) (bp_lk q1101) dX6_readRegion_145 (fun _ _ _ => rfl) (fun x18 => ?_)
    refine bp_j_bipush (v := 17) dX6_readRegion_148 (by decide) ?_
    refine bp_j_iadd dX6_readRegion_150 ?_
    refine bp_j_letI (fun x19 => ?_)
    refine bp_j_istore (lv' := [(8, .int x19), (7, .int x13), (0, .ref a0), (1, .int xp1), (2, .int x2), (3, .int x4), (4, .int x6), (5, .int x8), (6, .int x11)]) dX6_readRegion_151 (by decide) rfl ?_
    refine bp_j_aload_n 2 dX6_readRegion_153 rfl ?_
    refine bp_j_getN (t := 4) (k := 33) rfl (by decide) (bp_lk q1113) dX6_readRegion_154 (fun _ _ _ => rfl) (fun a20 => ?_)
    refine bp_j_iload_n 3 dX6_readRegion_157 rfl ?_
    refine bp_j_laload dX6_readRegion_158 (fun l21 => ?_)
    refine bp_j_ldc2 q1377 dX6_readRegion_159 ?_
    refine bp_j_lcmp dX6_readRegion_162 ?_
    refine bp_j_jm (fun k => ∀ (x22 : Int32), bp_J G iX6_readRegion (bp_Qn G bp_eI) (k x22) 209 [(0, .ref a0), (1, .int xp1), (2, .int x2), (4, .int x6), (5, .int x8), (6, .int x11), (8, .int x22)] []) (fun k23 hk23 => ?_) (fun x22 => ?_)
    · refine bp_j_if_ne (tgt := 183) dX6_readRegion_163 (by decide) ?_ ?_
      · refine bp_j_aload_n 2 dX6_readRegion_183 rfl ?_
        refine bp_j_iload_n 3 dX6_readRegion_184 rfl ?_
        refine bp_j_cl_I (bp_ranV (t := 4) (n := 1) (As := [.int xp1]) (cnX6_readRows (G := G) a0 xp1) rfl (lw_V q1435 q1437 qs64 q82 q1438) ⟨rfl, by decide +kernel, by decide +kernel, by decide +kernel⟩ ⟨by decide, by decide⟩ (rest := []) rfl rfl (Nat.le_of_ble_eq_true rfl) dX6_readRegion_185) (by decide) (fun x48 => ?_)
        refine bp_j_jm (fun k => ∀ (x49 : Int32), bp_J G iX6_readRegion (bp_Qn G bp_eI) (k x49) 207 [(0, .ref a0), (1, .int xp1), (2, .int x2), (4, .int x6), (5, .int x8), (6, .int x11)] [.int x49]) (fun k50 hk50 => ?_) (fun x49 => ?_)
        · refine bp_j_if_eq (tgt := 206) dX6_readRegion_188 (by decide) ?_ ?_
          · refine bp_j_iconst (v := -1) dX6_readRegion_206 (by decide) ?_
            exact bp_j_sub [2, 3, 4, 6, 7, 8] rfl (hk50 (-1 : Int32))
          refine bp_j_aload_n 2 dX6_readRegion_191 rfl ?_
          refine bp_j_getI (t := 4) (k := 21) rfl (by decide) (bp_lk q1101) dX6_readRegion_192 (fun _ _ _ => rfl) (fun x51 => ?_)
          refine bp_j_aload_n 2 dX6_readRegion_195 rfl ?_
          refine bp_j_getN (t := 4) (k := 33) rfl (by decide) (bp_lk q1113) dX6_readRegion_196 (fun _ _ _ => rfl) (fun a52 => ?_)
          refine bp_j_iload_n 3 dX6_readRegion_199 rfl ?_
          refine bp_j_laload dX6_readRegion_200 (fun l53 => ?_)
          refine bp_j_l2i dX6_readRegion_201 ?_
          refine bp_j_iadd dX6_readRegion_202 ?_
          refine bp_j_goto (tgt := 207) dX6_readRegion_203 (by decide) ?_
          exact bp_j_sub [2, 3, 4, 6, 7, 8] rfl (hk50 (x51 + l53.toInt32))
        refine bp_j_istore (lv' := [(8, .int x49), (0, .ref a0), (1, .int xp1), (2, .int x2), (4, .int x6), (5, .int x8), (6, .int x11)]) dX6_readRegion_207 (by decide) rfl ?_
        exact bp_j_sub [1, 2, 3, 4, 5, 6, 0] rfl (hk23 x49)
      refine bp_j_aload_n 2 dX6_readRegion_166 rfl ?_
      refine bp_j_iload_n 3 dX6_readRegion_167 rfl ?_
      refine bp_j_aload_n 2 dX6_readRegion_168 rfl ?_
      refine bp_j_getI (t := 4) (k := 21) rfl (by decide) (bp_lk q1101) dX6_readRegion_169 (fun _ _ _ => rfl) (fun x54 => ?_)
      refine bp_j_bipush (v := 17) dX6_readRegion_172 (by decide) ?_
      refine bp_j_iadd dX6_readRegion_174 ?_
      refine bp_j_cl_I (bp_ranV (t := 4) (n := 2) (As := [.int xp1, .int (x54 + (17 : Int32))]) (cnX6_readOpen (G := G) a0 xp1 (x54 + (17 : Int32))) rfl (lw_V q1427 q1429 qs62 q82 q1430) ⟨rfl, by decide +kernel, by decide +kernel, by decide +kernel⟩ ⟨by decide, by decide⟩ (rest := []) rfl rfl (Nat.le_of_ble_eq_true rfl) dX6_readRegion_175) (by decide) (fun x55 => ?_)
      refine bp_j_istore (lv' := [(8, .int x55), (7, .int x13), (0, .ref a0), (1, .int xp1), (2, .int x2), (3, .int x4), (4, .int x6), (5, .int x8), (6, .int x11)]) dX6_readRegion_178 (by decide) rfl ?_
      refine bp_j_goto (tgt := 209) dX6_readRegion_180 (by decide) ?_
      exact bp_j_sub [2, 3, 4, 6, 7, 8, 0] rfl (hk23 x55)
    refine bp_j_aload_n 0 dX6_readRegion_209 rfl ?_
    refine bp_j_iload_n 1 dX6_readRegion_210 rfl ?_
    refine bp_j_cl_I (bp_ranV (t := 4) (n := 1) (As := [.int xp1]) (cnX6_keptOf (G := G) a0 xp1) rfl (lw_V q1439 q1441 qs65 q82 q1442) ⟨rfl, by decide +kernel, by decide +kernel, by decide +kernel⟩ ⟨by decide, by decide⟩ (rest := []) rfl rfl (Nat.le_of_ble_eq_true rfl) dX6_readRegion_211) (by decide) (fun x24 => ?_)
    refine bp_j_istore (lv' := [(9, .int x24), (0, .ref a0), (1, .int xp1), (2, .int x2), (4, .int x6), (5, .int x8), (6, .int x11), (8, .int x22)]) dX6_readRegion_214 (by decide) rfl ?_
    refine bp_j_iload 7 dX6_readRegion_216 rfl ?_
    refine bp_j_if_lt (tgt := 267) dX6_readRegion_218 (by decide) ?_ ?_
    · refine bp_j_iconst (v := -1) dX6_readRegion_267 (by decide) ?_
      exact bp_j_iret rfl dX6_readRegion_268
    refine bp_j_iload 0 dX6_readRegion_221 rfl ?_
    refine bp_j_jm (fun k => bp_J G iX6_readRegion (bp_Qn G bp_eI) (k) 269 [(0, .ref a0), (1, .int xp1), (4, .int x6), (5, .int x8), (6, .int x11), (8, .int x22), (9, .int x24)] []) (fun k25 hk25 => ?_) ?_
    · refine bp_j_if_lt (tgt := 269) dX6_readRegion_223 (by decide) ?_ ?_
      · exact bp_j_sub [1, 2, 4, 5, 6, 7, 0] rfl (hk25)
      refine bp_j_aload_n 1 dX6_readRegion_226 rfl ?_
      refine bp_j_aload_n 1 dX6_readRegion_227 rfl ?_
      refine bp_j_getN (t := 4) (k := 36) rfl (by decide) (bp_lk q1116) dX6_readRegion_228 (fun _ _ _ => rfl) (fun a39 => ?_)
      refine bp_j_iload 0 dX6_readRegion_231 rfl ?_
      refine bp_j_iaload dX6_readRegion_233 (fun x40 => ?_)
      refine bp_j_iload_n 3 dX6_readRegion_234 rfl ?_
      refine bp_j_jm (fun k => ∀ (x41 : Int32), bp_J G iX6_readRegion (bp_Qn G bp_eI) (k x41) 259 [(0, .ref a0), (1, .int xp1), (4, .int x6), (5, .int x8), (6, .int x11), (8, .int x22), (9, .int x24)] [.int x41, .ref a0]) (fun k42 hk42 => ?_) (fun x41 => ?_)
      · refine bp_j_icmp_ne (tgt := 258) dX6_readRegion_235 (by decide) ?_ ?_
        · refine bp_j_iconst (v := 0) dX6_readRegion_258 (by decide) ?_
          exact bp_j_sub [1, 2, 4, 5, 6, 7, 0] rfl (hk42 (0 : Int32))
        refine bp_j_aload_n 1 dX6_readRegion_238 rfl ?_
        refine bp_j_getN (t := 4) (k := 37) rfl (by decide) (bp_lk q1117) dX6_readRegion_239 (fun _ _ _ => rfl) (fun a44 => ?_)
        refine bp_j_iload 0 dX6_readRegion_242 rfl ?_
        refine bp_j_iaload dX6_readRegion_244 (fun x45 => ?_)
        refine bp_j_aload_n 1 dX6_readRegion_245 rfl ?_
        refine bp_j_getN (t := 4) (k := 37) rfl (by decide) (bp_lk q1117) dX6_readRegion_246 (fun _ _ _ => rfl) (fun a46 => ?_)
        refine bp_j_iload_n 2 dX6_readRegion_249 rfl ?_
        refine bp_j_iaload dX6_readRegion_250 (fun x47 => ?_)
        refine bp_j_icmp_ne (tgt := 258) dX6_readRegion_251 (by decide) ?_ ?_
        · refine bp_j_iconst (v := 0) dX6_readRegion_258 (by decide) ?_
          exact bp_j_sub [1, 2, 4, 5, 6, 7, 0] rfl (hk42 (0 : Int32))
        refine bp_j_iconst (v := 1) dX6_readRegion_254 (by decide) ?_
        refine bp_j_goto (tgt := 259) dX6_readRegion_255 (by decide) ?_
        exact bp_j_sub [1, 2, 4, 5, 6, 7, 0] rfl (hk42 (1 : Int32))
      refine bp_j_iconst (v := 5) dX6_readRegion_259 (by decide) ?_
      refine bp_j_iload_n 1 dX6_readRegion_260 rfl ?_
      refine bp_j_cl_I (bp_ranV (t := 4) (n := 3) (As := [.int x41, .int (5 : Int32), .int xp1]) (cnX6_needs (G := G) a0 x41 (5 : Int32) xp1) rfl (lw_V q1398 q1400 qs56 q82 q1401) ⟨rfl, by decide +kernel, by decide +kernel, by decide +kernel⟩ ⟨by decide, by decide⟩ (rest := []) rfl rfl (Nat.le_of_ble_eq_true rfl) dX6_readRegion_261) (by decide) (fun x43 => ?_)
      refine bp_j_if_ne (tgt := 269) dX6_readRegion_264 (by decide) ?_ ?_
      · exact hk25
      refine bp_j_iconst (v := -1) dX6_readRegion_267 (by decide) ?_
      exact bp_j_iret rfl dX6_readRegion_268
    refine bp_j_iconst (v := 0) dX6_readRegion_269 (by decide) ?_
    refine bp_j_istore (lv' := [(10, .int (0 : Int32)), (0, .ref a0), (1, .int xp1), (4, .int x6), (5, .int x8), (6, .int x11), (8, .int x22), (9, .int x24)]) dX6_readRegion_270 (by decide) rfl ?_
    refine bp_j_jm (fun k => bp_J G iX6_readRegion (bp_Qn G bp_eI) (k) 332 [(0, .ref a0), (1, .int xp1), (4, .int x6), (5, .int x8), (6, .int x11), (8, .int x22)] []) (fun k26 hk26 => ?_) ?_
    · refine bp_j_loop (fun k => ∀ (x29 : Int32), bp_J G iX6_readRegion (bp_Qn G bp_eI) (k x29) 272 [(0, .ref a0), (1, .int xp1), (4, .int x6), (5, .int x8), (6, .int x11), (8, .int x22), (9, .int x24), (10, .int x29)] []) (fun _ => bp_j_no) (fun k30 hk30 x29 => ?_) (fun k h => bp_j_sub [1, 2, 3, 4, 5, 6, 7, 0] rfl (h (0 : Int32)))
      unfold BX6_readRegion_272
      refine bp_j_iload 7 dX6_readRegion_272 rfl ?_
      refine bp_j_aload_n 0 dX6_readRegion_274 rfl ?_
      refine bp_j_getN (t := 4) (k := 37) rfl (by decide) (bp_lk q1117) dX6_readRegion_275 (fun _ _ _ => rfl) (fun a31 => ?_)
      refine bp_j_iload_n 1 dX6_readRegion_278 rfl ?_
      refine bp_j_iaload dX6_readRegion_279 (fun x32 => ?_)
      refine bp_j_icmp_ge (tgt := 332) dX6_readRegion_280 (by decide) ?_ ?_
      · exact bp_j_sub [0, 1, 2, 3, 4, 5] rfl (hk26)
      refine bp_j_iload 6 dX6_readRegion_283 rfl ?_
      refine bp_j_if_lt (tgt := 332) dX6_readRegion_285 (by decide) ?_ ?_
      · exact bp_j_sub [0, 1, 2, 3, 4, 5] rfl (hk26)
      refine bp_j_aload_n 0 dX6_readRegion_288 rfl ?_
      refine bp_j_getN (t := 4) (k := 38) rfl (by decide) (bp_lk q1118) dX6_readRegion_289 (fun _ _ _ => rfl) (fun a33 => ?_)
      refine bp_j_bipush (v := 16) dX6_readRegion_292 (by decide) ?_
      refine bp_j_iload_n 1 dX6_readRegion_294 rfl ?_
      refine bp_j_imul dX6_readRegion_295 ?_
      refine bp_j_iload 7 dX6_readRegion_296 rfl ?_
      refine bp_j_iadd dX6_readRegion_298 ?_
      refine bp_j_aload_n 0 dX6_readRegion_299 rfl ?_
      refine bp_j_getN (t := 4) (k := 38) rfl (by decide) (bp_lk q1118) dX6_readRegion_300 (fun _ _ _ => rfl) (fun a34 => ?_)
      refine bp_j_bipush (v := 16) dX6_readRegion_303 (by decide) ?_
      refine bp_j_iload_n 1 dX6_readRegion_305 rfl ?_
      refine bp_j_imul dX6_readRegion_306 ?_
      refine bp_j_iload 7 dX6_readRegion_307 rfl ?_
      refine bp_j_iadd dX6_readRegion_309 ?_
      refine bp_j_iaload dX6_readRegion_310 (fun x35 => ?_)
      refine bp_j_aload_n 0 dX6_readRegion_311 rfl ?_
      refine bp_j_getN (t := 4) (k := 38) rfl (by decide) (bp_lk q1118) dX6_readRegion_312 (fun _ _ _ => rfl) (fun a36 => ?_)
      refine bp_j_bipush (v := 16) dX6_readRegion_315 (by decide) ?_
      refine bp_j_iload 6 dX6_readRegion_317 rfl ?_
      refine bp_j_imul dX6_readRegion_319 ?_
      refine bp_j_iload 7 dX6_readRegion_320 rfl ?_
      refine bp_j_iadd dX6_readRegion_322 ?_
      refine bp_j_iaload dX6_readRegion_323 (fun x37 => ?_)
      refine bp_j_ixor dX6_readRegion_324 ?_
      refine bp_j_iastore dX6_readRegion_325 ?_
      refine bp_j_iincL (lv' := fun x38 => [(10, .int x38), (0, .ref a0), (1, .int xp1), (4, .int x6), (5, .int x8), (6, .int x11), (8, .int x22), (9, .int x24)]) 7 dX6_readRegion_326 rfl (by decide) (by decide) (fun _ => rfl) (fun x38 => ?_)
      refine bp_j_goto (tgt := 272) dX6_readRegion_329 (by decide) ?_
      exact bp_j_sub [1, 2, 3, 4, 5, 6, 7, 0] rfl (hk30 x38)
    refine bp_j_aload_n 0 dX6_readRegion_332 rfl ?_
    refine bp_j_getN (t := 4) (k := 28) rfl (by decide) (bp_lk q1108) dX6_readRegion_333 (fun _ _ _ => rfl) (fun a27 => ?_)
    refine bp_j_iload_n 1 dX6_readRegion_336 rfl ?_
    refine bp_j_iaload dX6_readRegion_337 (fun x28 => ?_)
    refine bp_j_iconst (v := 4) dX6_readRegion_338 (by decide) ?_
    refine bp_j_icmp_eq (tgt := 353) dX6_readRegion_339 (by decide) ?_ ?_
    · refine bp_j_iload 5 dX6_readRegion_353 rfl ?_
      exact bp_j_iret rfl dX6_readRegion_355
    refine bp_j_aload_n 0 dX6_readRegion_342 rfl ?_
    refine bp_j_iload_n 1 dX6_readRegion_343 rfl ?_
    refine bp_j_iload 2 dX6_readRegion_344 rfl ?_
    refine bp_j_iload 3 dX6_readRegion_346 rfl ?_
    refine bp_j_iload 4 dX6_readRegion_348 rfl ?_
    refine bp_j_cl_U (bp_ranV (t := 4) (n := 4) (As := [.int xp1, .int x6, .int x8, .int x11]) (cnX6_putUpon (G := G) a0 xp1 x6 x8 x11) rfl (lw_V q1443 q1445 qs66 q82 q1446) ⟨rfl, by decide +kernel, by decide +kernel, by decide +kernel⟩ ⟨by decide, by decide⟩ (rest := []) rfl rfl (Nat.le_of_ble_eq_true rfl) dX6_readRegion_350) (by decide) (fun _ => ?_)
    refine bp_j_iload 5 dX6_readRegion_353 rfl ?_
    exact bp_j_iret rfl dX6_readRegion_355
  refine bp_j_iconst (v := -1) dX6_readRegion_128 (by decide) ?_
  exact bp_j_iret rfl dX6_readRegion_129
/-- BilevelPagesModel.readStripe(I)Z -/
abbrev iX6_readStripe : bp_MI := (yX6_readStripe, cX6_readStripe, 6, some (Jvm.ClassFile.FieldType.boolean), [], 2, 45)
def PX6_readStripe (a0 : Nat) (xp1 : Int32) : bp_M Int32 :=
  bp_getN 4 29 a0 fun a1 =>
  bp_aldI 20 a1 xp1 fun x2 =>
  bp_getI 4 21 a0 fun x3 =>
  bp_bind (bp_is 4 a0 (PX6_four a0 x3)) fun x4 =>
  bp_getN 4 42 a0 fun a5 =>
  bp_aldI 20 a5 x2 fun x6 =>
  bp_jn (fun (k8 : Int32 → bp_M Int32) =>
  bp_if (x6 < 0) (
  k8 (1 : Int32)) (
  bp_getN 4 42 a0 fun a26 =>
  bp_aldI 20 a26 x2 fun x27 =>
  bp_if (x27 ≤ x4) (
  k8 (0 : Int32)) (
  k8 (1 : Int32)))) (fun (x7 : Int32) =>
  bp_getN 4 44 a0 fun a9 =>
  bp_aldI 20 a9 x2 fun x10 =>
  bp_jn (fun (k12 : Int32 → bp_M Int32) =>
  bp_if (x10 = 0) (
  k12 (1 : Int32)) (
  bp_getN 4 45 a0 fun a22 =>
  bp_getN 4 44 a0 fun a23 =>
  bp_aldI 20 a23 x2 fun x24 =>
  bp_aldI 20 a22 ((((32 : Int32) * x2) + x24) - (1 : Int32)) fun x25 =>
  bp_if (x4 ≤ x25) (
  k12 (0 : Int32)) (
  k12 (1 : Int32)))) (fun (x11 : Int32) =>
  bp_bind (PX6_isIn x4 (0 : Int32) (31 : Int32)) fun x13 =>
  bp_jn (fun (k15 : Int32 → bp_M Int32) =>
  bp_if (x13 = 0) (
  k15 (0 : Int32)) (
  bp_if (x7 = 0) (
  k15 (0 : Int32)) (
  bp_if (x11 = 0) (
  k15 (0 : Int32)) (
  k15 (1 : Int32))))) (fun (x14 : Int32) =>
  bp_bind (bp_is 4 a0 (PX6_needs a0 x14 (8 : Int32) xp1)) fun x16 =>
  bp_if (x16 = 0) (
  bp_retZ (0 : Int32)) (
  bp_getN 4 45 a0 fun a17 =>
  bp_getN 4 44 a0 fun a18 =>
  bp_aldI 20 a18 x2 fun x19 =>
  bp_astI a17 (((32 : Int32) * x2) + x19) x4 <|
  bp_getN 4 44 a0 fun a20 =>
  bp_aldI 20 a20 x2 fun x21 =>
  bp_astI a20 x2 (x21 + (1 : Int32)) <|
  bp_retZ (1 : Int32)))))
set_option maxHeartbeats 4000000 in
set_option maxRecDepth 100000 in
theorem cnX6_readStripe {G : bp_GT} (a0 : Nat) (xp1 : Int32) : bp_Con G iX6_readStripe (ws_ iX6_readStripe.1 iX6_readStripe.2.1 iX6_readStripe.2.2.1 iX6_readStripe.2.2.2.1) [.ref a0, .int xp1] (PX6_readStripe a0 xp1) bp_eI := by
  refine bp_con_of [(0, .ref a0), (1, .int xp1)] rfl (by decide) (Nat.le_of_ble_eq_true rfl) rfl ?_
  unfold PX6_readStripe
  refine bp_j_aload_n 0 dX6_readStripe_0 rfl ?_
  refine bp_j_getN (t := 4) (k := 29) rfl (by decide) (bp_lk q1109) dX6_readStripe_1 (fun _ _ _ => rfl) (fun a1 => ?_)
  refine bp_j_iload_n 1 dX6_readStripe_4 rfl ?_
  refine bp_j_iaload dX6_readStripe_5 (fun x2 => ?_)
  refine bp_j_istore_n (lv' := [(2, .int x2), (0, .ref a0), (1, .int xp1)]) dX6_readStripe_6 (by decide) rfl ?_
  refine bp_j_aload_n 1 dX6_readStripe_7 rfl ?_
  refine bp_j_aload_n 1 dX6_readStripe_8 rfl ?_
  refine bp_j_getI (t := 4) (k := 21) rfl (by decide) (bp_lk q1101) dX6_readStripe_9 (fun _ _ _ => rfl) (fun x3 => ?_)
  refine bp_j_cl_I (bp_ranV (t := 4) (n := 1) (As := [.int x3]) (cnX6_four (G := G) a0 x3) rfl (lw_V q1372 q1374 qs50 q82 q1375) ⟨rfl, by decide +kernel, by decide +kernel, by decide +kernel⟩ ⟨by decide, by decide⟩ (rest := []) rfl rfl (Nat.le_of_ble_eq_true rfl) dX6_readStripe_12) (by decide) (fun x4 => ?_)
  refine bp_j_istore_n (lv' := [(3, .int x4), (2, .int x2), (0, .ref a0), (1, .int xp1)]) dX6_readStripe_15 (by decide) rfl ?_
  refine bp_j_aload_n 2 dX6_readStripe_16 rfl ?_
  refine bp_j_getN (t := 4) (k := 42) rfl (by decide) (bp_lk q1122) dX6_readStripe_17 (fun _ _ _ => rfl) (fun a5 => ?_)
  refine bp_j_iload_n 1 dX6_readStripe_20 rfl ?_
  refine bp_j_iaload dX6_readStripe_21 (fun x6 => ?_)
  refine bp_j_jm (fun k => ∀ (x7 : Int32), bp_J G iX6_readStripe (bp_Qn G bp_eI) (k x7) 40 [(0, .ref a0), (1, .int xp1), (2, .int x2), (3, .int x4)] [.int x7]) (fun k8 hk8 => ?_) (fun x7 => ?_)
  · refine bp_j_if_lt (tgt := 35) dX6_readStripe_22 (by decide) ?_ ?_
    · refine bp_j_iconst (v := 1) dX6_readStripe_35 (by decide) ?_
      refine bp_j_goto (tgt := 40) dX6_readStripe_36 (by decide) ?_
      exact bp_j_sub [2, 3, 1, 0] rfl (hk8 (1 : Int32))
    refine bp_j_iload_n 0 dX6_readStripe_25 rfl ?_
    refine bp_j_aload_n 2 dX6_readStripe_26 rfl ?_
    refine bp_j_getN (t := 4) (k := 42) rfl (by decide) (bp_lk q1122) dX6_readStripe_27 (fun _ _ _ => rfl) (fun a26 => ?_)
    refine bp_j_iload_n 1 dX6_readStripe_30 rfl ?_
    refine bp_j_iaload dX6_readStripe_31 (fun x27 => ?_)
    refine bp_j_icmp_ge (tgt := 39) dX6_readStripe_32 (by decide) ?_ ?_
    · refine bp_j_iconst (v := 0) dX6_readStripe_39 (by decide) ?_
      exact bp_j_sub [2, 3, 1, 0] rfl (hk8 (0 : Int32))
    refine bp_j_iconst (v := 1) dX6_readStripe_35 (by decide) ?_
    refine bp_j_goto (tgt := 40) dX6_readStripe_36 (by decide) ?_
    exact bp_j_sub [2, 3, 1, 0] rfl (hk8 (1 : Int32))
  refine bp_j_istore (lv' := [(4, .int x7), (0, .ref a0), (1, .int xp1), (2, .int x2), (3, .int x4)]) dX6_readStripe_40 (by decide) rfl ?_
  refine bp_j_aload_n 1 dX6_readStripe_42 rfl ?_
  refine bp_j_getN (t := 4) (k := 44) rfl (by decide) (bp_lk q1124) dX6_readStripe_43 (fun _ _ _ => rfl) (fun a9 => ?_)
  refine bp_j_iload_n 3 dX6_readStripe_46 rfl ?_
  refine bp_j_iaload dX6_readStripe_47 (fun x10 => ?_)
  refine bp_j_jm (fun k => ∀ (x11 : Int32), bp_J G iX6_readStripe (bp_Qn G bp_eI) (k x11) 78 [(0, .ref a0), (1, .int xp1), (2, .int x2), (3, .int x4), (4, .int x7)] [.int x11]) (fun k12 hk12 => ?_) (fun x11 => ?_)
  · refine bp_j_if_eq (tgt := 73) dX6_readStripe_48 (by decide) ?_ ?_
    · refine bp_j_iconst (v := 1) dX6_readStripe_73 (by decide) ?_
      refine bp_j_goto (tgt := 78) dX6_readStripe_74 (by decide) ?_
      exact bp_j_sub [1, 2, 3, 4, 0] rfl (hk12 (1 : Int32))
    refine bp_j_iload_n 4 dX6_readStripe_51 rfl ?_
    refine bp_j_aload_n 1 dX6_readStripe_52 rfl ?_
    refine bp_j_getN (t := 4) (k := 45) rfl (by decide) (bp_lk q1125) dX6_readStripe_53 (fun _ _ _ => rfl) (fun a22 => ?_)
    refine bp_j_bipush (v := 32) dX6_readStripe_56 (by decide) ?_
    refine bp_j_iload_n 3 dX6_readStripe_58 rfl ?_
    refine bp_j_imul dX6_readStripe_59 ?_
    refine bp_j_aload_n 1 dX6_readStripe_60 rfl ?_
    refine bp_j_getN (t := 4) (k := 44) rfl (by decide) (bp_lk q1124) dX6_readStripe_61 (fun _ _ _ => rfl) (fun a23 => ?_)
    refine bp_j_iload_n 3 dX6_readStripe_64 rfl ?_
    refine bp_j_iaload dX6_readStripe_65 (fun x24 => ?_)
    refine bp_j_iadd dX6_readStripe_66 ?_
    refine bp_j_iconst (v := 1) dX6_readStripe_67 (by decide) ?_
    refine bp_j_isub dX6_readStripe_68 ?_
    refine bp_j_iaload dX6_readStripe_69 (fun x25 => ?_)
    refine bp_j_icmp_le (tgt := 77) dX6_readStripe_70 (by decide) ?_ ?_
    · refine bp_j_iconst (v := 0) dX6_readStripe_77 (by decide) ?_
      exact bp_j_sub [1, 2, 3, 4, 0] rfl (hk12 (0 : Int32))
    refine bp_j_iconst (v := 1) dX6_readStripe_73 (by decide) ?_
    refine bp_j_goto (tgt := 78) dX6_readStripe_74 (by decide) ?_
    exact bp_j_sub [1, 2, 3, 4, 0] rfl (hk12 (1 : Int32))
  refine bp_j_istore (lv' := [(5, .int x11), (0, .ref a0), (1, .int xp1), (2, .int x2), (3, .int x4), (4, .int x7)]) dX6_readStripe_78 (by decide) rfl ?_
  refine bp_j_aload_n 1 dX6_readStripe_80 rfl ?_
  refine bp_j_iload_n 4 dX6_readStripe_81 rfl ?_
  refine bp_j_iconst (v := 0) dX6_readStripe_82 (by decide) ?_
  refine bp_j_bipush (v := 31) dX6_readStripe_83 (by decide) ?_
  refine bp_j_cl_I (bp_ranS (n := 3) (As := [.int x4, .int (0 : Int32), .int (31 : Int32)]) (cnX6_isIn (G := G) x4 (0 : Int32) (31 : Int32)) (lw_S q1244 q1245 q82 q1246) ⟨by decide +kernel, by decide +kernel, by decide +kernel⟩ ⟨by decide, by decide⟩ (rest := [.ref a0]) rfl rfl (Nat.le_of_ble_eq_true rfl) dX6_readStripe_85) (by decide) (fun x13 => ?_)
  refine bp_j_jm (fun k => ∀ (x14 : Int32), bp_J G iX6_readStripe (bp_Qn G bp_eI) (k x14) 106 [(0, .ref a0), (1, .int xp1), (2, .int x2), (3, .int x4)] [.int x14, .ref a0]) (fun k15 hk15 => ?_) (fun x14 => ?_)
  · refine bp_j_if_eq (tgt := 105) dX6_readStripe_88 (by decide) ?_ ?_
    · refine bp_j_iconst (v := 0) dX6_readStripe_105 (by decide) ?_
      exact bp_j_sub [1, 2, 3, 4] rfl (hk15 (0 : Int32))
    refine bp_j_iload 5 dX6_readStripe_91 rfl ?_
    refine bp_j_if_eq (tgt := 105) dX6_readStripe_93 (by decide) ?_ ?_
    · refine bp_j_iconst (v := 0) dX6_readStripe_105 (by decide) ?_
      exact bp_j_sub [1, 2, 3, 4] rfl (hk15 (0 : Int32))
    refine bp_j_iload 0 dX6_readStripe_96 rfl ?_
    refine bp_j_if_eq (tgt := 105) dX6_readStripe_98 (by decide) ?_ ?_
    · refine bp_j_iconst (v := 0) dX6_readStripe_105 (by decide) ?_
      exact bp_j_sub [1, 2, 3, 4] rfl (hk15 (0 : Int32))
    refine bp_j_iconst (v := 1) dX6_readStripe_101 (by decide) ?_
    refine bp_j_goto (tgt := 106) dX6_readStripe_102 (by decide) ?_
    exact bp_j_sub [1, 2, 3, 4] rfl (hk15 (1 : Int32))
  refine bp_j_bipush (v := 8) dX6_readStripe_106 (by decide) ?_
  refine bp_j_iload_n 1 dX6_readStripe_108 rfl ?_
  refine bp_j_cl_I (bp_ranV (t := 4) (n := 3) (As := [.int x14, .int (8 : Int32), .int xp1]) (cnX6_needs (G := G) a0 x14 (8 : Int32) xp1) rfl (lw_V q1398 q1400 qs56 q82 q1401) ⟨rfl, by decide +kernel, by decide +kernel, by decide +kernel⟩ ⟨by decide, by decide⟩ (rest := []) rfl rfl (Nat.le_of_ble_eq_true rfl) dX6_readStripe_109) (by decide) (fun x16 => ?_)
  refine bp_j_if_ne (tgt := 117) dX6_readStripe_112 (by decide) ?_ ?_
  · refine bp_j_aload_n 0 dX6_readStripe_117 rfl ?_
    refine bp_j_getN (t := 4) (k := 45) rfl (by decide) (bp_lk q1125) dX6_readStripe_118 (fun _ _ _ => rfl) (fun a17 => ?_)
    refine bp_j_bipush (v := 32) dX6_readStripe_121 (by decide) ?_
    refine bp_j_iload_n 2 dX6_readStripe_123 rfl ?_
    refine bp_j_imul dX6_readStripe_124 ?_
    refine bp_j_aload_n 0 dX6_readStripe_125 rfl ?_
    refine bp_j_getN (t := 4) (k := 44) rfl (by decide) (bp_lk q1124) dX6_readStripe_126 (fun _ _ _ => rfl) (fun a18 => ?_)
    refine bp_j_iload_n 2 dX6_readStripe_129 rfl ?_
    refine bp_j_iaload dX6_readStripe_130 (fun x19 => ?_)
    refine bp_j_iadd dX6_readStripe_131 ?_
    refine bp_j_iload_n 3 dX6_readStripe_132 rfl ?_
    refine bp_j_iastore dX6_readStripe_133 ?_
    refine bp_j_aload_n 0 dX6_readStripe_134 rfl ?_
    refine bp_j_getN (t := 4) (k := 44) rfl (by decide) (bp_lk q1124) dX6_readStripe_135 (fun _ _ _ => rfl) (fun a20 => ?_)
    refine bp_j_iload_n 2 dX6_readStripe_138 rfl ?_
    refine bp_j_dup2 dX6_readStripe_139 rfl rfl ?_
    refine bp_j_iaload dX6_readStripe_140 (fun x21 => ?_)
    refine bp_j_iconst (v := 1) dX6_readStripe_141 (by decide) ?_
    refine bp_j_iadd dX6_readStripe_142 ?_
    refine bp_j_iastore dX6_readStripe_143 ?_
    refine bp_j_iconst (v := 1) dX6_readStripe_144 (by decide) ?_
    exact bp_j_zret rfl dX6_readStripe_145
  refine bp_j_iconst (v := 0) dX6_readStripe_115 (by decide) ?_
  exact bp_j_zret rfl dX6_readStripe_116
/-- BilevelPagesModel.readSegment(I)Z -/
abbrev iX6_readSegment : bp_MI := (yX6_readSegment, cX6_readSegment, 5, some (Jvm.ClassFile.FieldType.boolean), [], 4, 99)
def PX6_readSegment (a0 : Nat) (xp1 : Int32) : bp_M Int32 :=
  bp_bind (bp_is 4 a0 (PX6_checkRefs a0 xp1)) fun x1 =>
  bp_if (x1 = 0) (
  bp_retZ (0 : Int32)) (
  bp_bind (bp_is 4 a0 (PX6_checkPage a0 xp1)) fun x2 =>
  bp_if (x2 = 0) (
  bp_retZ (0 : Int32)) (
  bp_bind (bp_is 4 a0 (PX6_checkLength a0 xp1)) fun x3 =>
  bp_if (x3 = 0) (
  bp_retZ (0 : Int32)) (
  bp_getN 4 28 a0 fun a4 =>
  bp_aldI 20 a4 xp1 fun x5 =>
  bp_getI 4 21 a0 fun x6 =>
  bp_getN 4 33 a0 fun a7 =>
  bp_aldL a7 xp1 fun l8 =>
  bp_letI (x6 + l8.toInt32) fun x9 =>
  bp_jn (fun (k12 : Int32 → Int32 → bp_M Int32) =>
  bp_if (x5 = (48 : Int32)) (
  bp_bind (bp_is 4 a0 (PX6_readPage a0 xp1)) fun x30 =>
  k12 x9 x30) (
  bp_if (x5 = (50 : Int32)) (
  bp_bind (bp_is 4 a0 (PX6_readStripe a0 xp1)) fun x29 =>
  k12 x9 x29) (
  bp_if (x5 = (49 : Int32)) (
  bp_bind (bp_is 4 a0 (PX6_endPage a0 xp1)) fun x28 =>
  k12 x9 x28) (
  bp_bind (PX6_isRegion x5) fun x15 =>
  bp_if (x15 = 0) (
  bp_if (x5 = (62 : Int32)) (
  bp_getI 4 21 a0 fun x20 =>
  bp_bind (bp_is 4 a0 (PX6_four a0 x20)) fun x21 =>
  bp_jn (fun (k23 : Int32 → bp_M Int32) =>
  bp_if (x21 < 0) (
  k23 (0 : Int32)) (
  k23 (1 : Int32))) (fun (x22 : Int32) =>
  bp_bind (bp_is 4 a0 (PX6_needs a0 x22 (9 : Int32) xp1)) fun x24 =>
  k12 x9 x24)) (
  bp_if (x5 = (51 : Int32)) (
  bp_getI 4 39 a0 fun x16 =>
  bp_jn (fun (k18 : Int32 → bp_M Int32) =>
  bp_if (x16 = 0) (
  k18 (1 : Int32)) (
  k18 (0 : Int32))) (fun (x17 : Int32) =>
  bp_bind (bp_is 4 a0 (PX6_needs a0 x17 (10 : Int32) xp1)) fun x19 =>
  k12 x9 x19)) (
  k12 x9 (1 : Int32)))) (
  bp_bind (bp_is 4 a0 (PX6_readRegion a0 xp1)) fun x25 =>
  bp_jn (fun (k27 : Int32 → bp_M Int32) =>
  bp_if (x25 < 0) (
  k27 (0 : Int32)) (
  k27 (1 : Int32))) (fun (x26 : Int32) =>
  k12 x25 x26)))))) (fun (x10 : Int32) (x11 : Int32) =>
  bp_if (x11 = 0) (
  bp_retZ (0 : Int32)) (
  bp_getN 4 34 a0 fun a13 =>
  bp_getI 4 21 a0 fun x14 =>
  bp_astI a13 xp1 (x10 - x14) <|
  bp_putI 4 21 a0 x10 <|
  bp_bind (bp_is 4 a0 (PX6_letAllGo a0 xp1)) fun _ =>
  bp_putI 4 25 a0 (xp1 + (1 : Int32)) <|
  bp_retZ (1 : Int32))))))
set_option maxHeartbeats 4000000 in
set_option maxRecDepth 100000 in
theorem cnX6_readSegment {G : bp_GT} (a0 : Nat) (xp1 : Int32) : bp_Con G iX6_readSegment (ws_ iX6_readSegment.1 iX6_readSegment.2.1 iX6_readSegment.2.2.1 iX6_readSegment.2.2.2.1) [.ref a0, .int xp1] (PX6_readSegment a0 xp1) bp_eI := by
  refine bp_con_of [(0, .ref a0), (1, .int xp1)] rfl (by decide) (Nat.le_of_ble_eq_true rfl) rfl ?_
  unfold PX6_readSegment
  refine bp_j_aload_n 0 dX6_readSegment_0 rfl ?_
  refine bp_j_iload_n 1 dX6_readSegment_1 rfl ?_
  refine bp_j_cl_I (bp_ranV (t := 4) (n := 1) (As := [.int xp1]) (cnX6_checkRefs (G := G) a0 xp1) rfl (lw_V q1382 q1384 qs52 q82 q1385) ⟨rfl, by decide +kernel, by decide +kernel, by decide +kernel⟩ ⟨by decide, by decide⟩ (rest := []) rfl rfl (Nat.le_of_ble_eq_true rfl) dX6_readSegment_2) (by decide) (fun x1 => ?_)
  refine bp_j_if_eq (tgt := 24) dX6_readSegment_5 (by decide) ?_ ?_
  · refine bp_j_iconst (v := 0) dX6_readSegment_24 (by decide) ?_
    exact bp_j_zret rfl dX6_readSegment_25
  refine bp_j_aload_n 0 dX6_readSegment_8 rfl ?_
  refine bp_j_iload_n 1 dX6_readSegment_9 rfl ?_
  refine bp_j_cl_I (bp_ranV (t := 4) (n := 1) (As := [.int xp1]) (cnX6_checkPage (G := G) a0 xp1) rfl (lw_V q1394 q1396 qs55 q82 q1397) ⟨rfl, by decide +kernel, by decide +kernel, by decide +kernel⟩ ⟨by decide, by decide⟩ (rest := []) rfl rfl (Nat.le_of_ble_eq_true rfl) dX6_readSegment_10) (by decide) (fun x2 => ?_)
  refine bp_j_if_eq (tgt := 24) dX6_readSegment_13 (by decide) ?_ ?_
  · refine bp_j_iconst (v := 0) dX6_readSegment_24 (by decide) ?_
    exact bp_j_zret rfl dX6_readSegment_25
  refine bp_j_aload_n 0 dX6_readSegment_16 rfl ?_
  refine bp_j_iload_n 1 dX6_readSegment_17 rfl ?_
  refine bp_j_cl_I (bp_ranV (t := 4) (n := 1) (As := [.int xp1]) (cnX6_checkLength (G := G) a0 xp1) rfl (lw_V q1402 q1404 qs57 q82 q1405) ⟨rfl, by decide +kernel, by decide +kernel, by decide +kernel⟩ ⟨by decide, by decide⟩ (rest := []) rfl rfl (Nat.le_of_ble_eq_true rfl) dX6_readSegment_18) (by decide) (fun x3 => ?_)
  refine bp_j_if_ne (tgt := 26) dX6_readSegment_21 (by decide) ?_ ?_
  · refine bp_j_aload_n 0 dX6_readSegment_26 rfl ?_
    refine bp_j_getN (t := 4) (k := 28) rfl (by decide) (bp_lk q1108) dX6_readSegment_27 (fun _ _ _ => rfl) (fun a4 => ?_)
    refine bp_j_iload_n 1 dX6_readSegment_30 rfl ?_
    refine bp_j_iaload dX6_readSegment_31 (fun x5 => ?_)
    refine bp_j_istore_n (lv' := [(2, .int x5), (0, .ref a0), (1, .int xp1)]) dX6_readSegment_32 (by decide) rfl ?_
    refine bp_j_aload_n 1 dX6_readSegment_33 rfl ?_
    refine bp_j_getI (t := 4) (k := 21) rfl (by decide) (bp_lk q1101) dX6_readSegment_34 (fun _ _ _ => rfl) (fun x6 => ?_)
    refine bp_j_aload_n 1 dX6_readSegment_37 rfl ?_
    refine bp_j_getN (t := 4) (k := 33) rfl (by decide) (bp_lk q1113) dX6_readSegment_38 (fun _ _ _ => rfl) (fun a7 => ?_)
    refine bp_j_iload_n 2 dX6_readSegment_41 rfl ?_
    refine bp_j_laload dX6_readSegment_42 (fun l8 => ?_)
    refine bp_j_l2i dX6_readSegment_43 ?_
    refine bp_j_iadd dX6_readSegment_44 ?_
    refine bp_j_letI (fun x9 => ?_)
    refine bp_j_istore_n (lv' := [(3, .int x9), (2, .int x5), (0, .ref a0), (1, .int xp1)]) dX6_readSegment_45 (by decide) rfl ?_
    refine bp_j_iconst (v := 1) dX6_readSegment_46 (by decide) ?_
    refine bp_j_istore (lv' := [(4, .int (1 : Int32)), (3, .int x9), (2, .int x5), (0, .ref a0), (1, .int xp1)]) dX6_readSegment_47 (by decide) rfl ?_
    refine bp_j_iload_n 2 dX6_readSegment_49 rfl ?_
    refine bp_j_bipush (v := 48) dX6_readSegment_50 (by decide) ?_
    refine bp_j_jm (fun k => ∀ (x10 : Int32) (x11 : Int32), bp_J G iX6_readSegment (bp_Qn G bp_eI) (k x10 x11) 185 [(0, .ref a0), (1, .int xp1), (3, .int x10), (4, .int x11)] []) (fun k12 hk12 => ?_) (fun x10 x11 => ?_)
    · refine bp_j_icmp_ne (tgt := 65) dX6_readSegment_52 (by decide) ?_ ?_
      · refine bp_j_iload_n 2 dX6_readSegment_65 rfl ?_
        refine bp_j_bipush (v := 50) dX6_readSegment_66 (by decide) ?_
        refine bp_j_icmp_ne (tgt := 81) dX6_readSegment_68 (by decide) ?_ ?_
        · refine bp_j_iload_n 2 dX6_readSegment_81 rfl ?_
          refine bp_j_bipush (v := 49) dX6_readSegment_82 (by decide) ?_
          refine bp_j_icmp_ne (tgt := 97) dX6_readSegment_84 (by decide) ?_ ?_
          · refine bp_j_iload_n 2 dX6_readSegment_97 rfl ?_
            refine bp_j_cl_I (bp_ranS (n := 1) (As := [.int x5]) (cnX6_isRegion (G := G) x5) (lw_S q1254 q1255 q82 q1256) ⟨by decide +kernel, by decide +kernel, by decide +kernel⟩ ⟨by decide, by decide⟩ (rest := []) rfl rfl (Nat.le_of_ble_eq_true rfl) dX6_readSegment_98) (by decide) (fun x15 => ?_)
            refine bp_j_if_eq (tgt := 124) dX6_readSegment_101 (by decide) ?_ ?_
            · refine bp_j_iload_n 2 dX6_readSegment_124 rfl ?_
              refine bp_j_bipush (v := 62) dX6_readSegment_125 (by decide) ?_
              refine bp_j_icmp_ne (tgt := 158) dX6_readSegment_127 (by decide) ?_ ?_
              · refine bp_j_iload_n 2 dX6_readSegment_158 rfl ?_
                refine bp_j_bipush (v := 51) dX6_readSegment_159 (by decide) ?_
                refine bp_j_icmp_ne (tgt := 185) dX6_readSegment_161 (by decide) ?_ ?_
                · exact bp_j_sub [3, 4, 1, 0] rfl (hk12 x9 (1 : Int32))
                refine bp_j_aload_n 3 dX6_readSegment_164 rfl ?_
                refine bp_j_aload_n 3 dX6_readSegment_165 rfl ?_
                refine bp_j_getI (t := 4) (k := 39) rfl (by decide) (bp_lk q1119) dX6_readSegment_166 (fun _ _ _ => rfl) (fun x16 => ?_)
                refine bp_j_jm (fun k => ∀ (x17 : Int32), bp_J G iX6_readSegment (bp_Qn G bp_eI) (k x17) 177 [(0, .ref a0), (1, .int xp1), (3, .int x9)] [.int x17, .ref a0]) (fun k18 hk18 => ?_) (fun x17 => ?_)
                · refine bp_j_if_ne (tgt := 176) dX6_readSegment_169 (by decide) ?_ ?_
                  · refine bp_j_iconst (v := 0) dX6_readSegment_176 (by decide) ?_
                    exact bp_j_sub [3, 4, 1] rfl (hk18 (0 : Int32))
                  refine bp_j_iconst (v := 1) dX6_readSegment_172 (by decide) ?_
                  refine bp_j_goto (tgt := 177) dX6_readSegment_173 (by decide) ?_
                  exact bp_j_sub [3, 4, 1] rfl (hk18 (1 : Int32))
                refine bp_j_bipush (v := 10) dX6_readSegment_177 (by decide) ?_
                refine bp_j_iload_n 1 dX6_readSegment_179 rfl ?_
                refine bp_j_cl_I (bp_ranV (t := 4) (n := 3) (As := [.int x17, .int (10 : Int32), .int xp1]) (cnX6_needs (G := G) a0 x17 (10 : Int32) xp1) rfl (lw_V q1398 q1400 qs56 q82 q1401) ⟨rfl, by decide +kernel, by decide +kernel, by decide +kernel⟩ ⟨by decide, by decide⟩ (rest := []) rfl rfl (Nat.le_of_ble_eq_true rfl) dX6_readSegment_180) (by decide) (fun x19 => ?_)
                refine bp_j_istore (lv' := [(4, .int x19), (0, .ref a0), (1, .int xp1), (3, .int x9)]) dX6_readSegment_183 (by decide) rfl ?_
                exact bp_j_sub [1, 2, 3, 0] rfl (hk12 x9 x19)
              refine bp_j_aload_n 3 dX6_readSegment_130 rfl ?_
              refine bp_j_aload_n 3 dX6_readSegment_131 rfl ?_
              refine bp_j_aload_n 3 dX6_readSegment_132 rfl ?_
              refine bp_j_getI (t := 4) (k := 21) rfl (by decide) (bp_lk q1101) dX6_readSegment_133 (fun _ _ _ => rfl) (fun x20 => ?_)
              refine bp_j_cl_I (bp_ranV (t := 4) (n := 1) (As := [.int x20]) (cnX6_four (G := G) a0 x20) rfl (lw_V q1372 q1374 qs50 q82 q1375) ⟨rfl, by decide +kernel, by decide +kernel, by decide +kernel⟩ ⟨by decide, by decide⟩ (rest := [.ref a0]) rfl rfl (Nat.le_of_ble_eq_true rfl) dX6_readSegment_136) (by decide) (fun x21 => ?_)
              refine bp_j_jm (fun k => ∀ (x22 : Int32), bp_J G iX6_readSegment (bp_Qn G bp_eI) (k x22) 147 [(0, .ref a0), (1, .int xp1), (3, .int x9)] [.int x22, .ref a0]) (fun k23 hk23 => ?_) (fun x22 => ?_)
              · refine bp_j_if_lt (tgt := 146) dX6_readSegment_139 (by decide) ?_ ?_
                · refine bp_j_iconst (v := 0) dX6_readSegment_146 (by decide) ?_
                  exact bp_j_sub [3, 4, 1] rfl (hk23 (0 : Int32))
                refine bp_j_iconst (v := 1) dX6_readSegment_142 (by decide) ?_
                refine bp_j_goto (tgt := 147) dX6_readSegment_143 (by decide) ?_
                exact bp_j_sub [3, 4, 1] rfl (hk23 (1 : Int32))
              refine bp_j_bipush (v := 9) dX6_readSegment_147 (by decide) ?_
              refine bp_j_iload_n 1 dX6_readSegment_149 rfl ?_
              refine bp_j_cl_I (bp_ranV (t := 4) (n := 3) (As := [.int x22, .int (9 : Int32), .int xp1]) (cnX6_needs (G := G) a0 x22 (9 : Int32) xp1) rfl (lw_V q1398 q1400 qs56 q82 q1401) ⟨rfl, by decide +kernel, by decide +kernel, by decide +kernel⟩ ⟨by decide, by decide⟩ (rest := []) rfl rfl (Nat.le_of_ble_eq_true rfl) dX6_readSegment_150) (by decide) (fun x24 => ?_)
              refine bp_j_istore (lv' := [(4, .int x24), (0, .ref a0), (1, .int xp1), (3, .int x9)]) dX6_readSegment_153 (by decide) rfl ?_
              refine bp_j_goto (tgt := 185) dX6_readSegment_155 (by decide) ?_
              exact bp_j_sub [1, 2, 3, 0] rfl (hk12 x9 x24)
            refine bp_j_aload_n 3 dX6_readSegment_104 rfl ?_
            refine bp_j_iload_n 4 dX6_readSegment_105 rfl ?_
            refine bp_j_cl_I (bp_ranV (t := 4) (n := 1) (As := [.int xp1]) (cnX6_readRegion (G := G) a0 xp1) rfl (lw_V q1423 q1425 qs61 q82 q1426) ⟨rfl, by decide +kernel, by decide +kernel, by decide +kernel⟩ ⟨by decide, by decide⟩ (rest := []) rfl rfl (Nat.le_of_ble_eq_true rfl) dX6_readSegment_106) (by decide) (fun x25 => ?_)
            refine bp_j_istore_n (lv' := [(3, .int x25), (4, .int (1 : Int32)), (2, .int x5), (0, .ref a0), (1, .int xp1)]) dX6_readSegment_109 (by decide) rfl ?_
            refine bp_j_iload_n 0 dX6_readSegment_110 rfl ?_
            refine bp_j_jm (fun k => ∀ (x26 : Int32), bp_J G iX6_readSegment (bp_Qn G bp_eI) (k x26) 119 [(0, .ref a0), (1, .int xp1), (3, .int x25)] [.int x26]) (fun k27 hk27 => ?_) (fun x26 => ?_)
            · refine bp_j_if_lt (tgt := 118) dX6_readSegment_111 (by decide) ?_ ?_
              · refine bp_j_iconst (v := 0) dX6_readSegment_118 (by decide) ?_
                exact bp_j_sub [3, 4, 0] rfl (hk27 (0 : Int32))
              refine bp_j_iconst (v := 1) dX6_readSegment_114 (by decide) ?_
              refine bp_j_goto (tgt := 119) dX6_readSegment_115 (by decide) ?_
              exact bp_j_sub [3, 4, 0] rfl (hk27 (1 : Int32))
            refine bp_j_istore (lv' := [(4, .int x26), (0, .ref a0), (1, .int xp1), (3, .int x25)]) dX6_readSegment_119 (by decide) rfl ?_
            refine bp_j_goto (tgt := 185) dX6_readSegment_121 (by decide) ?_
            exact bp_j_sub [1, 2, 3, 0] rfl (hk12 x25 x26)
          refine bp_j_aload_n 3 dX6_readSegment_87 rfl ?_
          refine bp_j_iload_n 4 dX6_readSegment_88 rfl ?_
          refine bp_j_cl_I (bp_ranV (t := 4) (n := 1) (As := [.int xp1]) (cnX6_endPage (G := G) a0 xp1) rfl (lw_V q1419 q1421 qs60 q82 q1422) ⟨rfl, by decide +kernel, by decide +kernel, by decide +kernel⟩ ⟨by decide, by decide⟩ (rest := []) rfl rfl (Nat.le_of_ble_eq_true rfl) dX6_readSegment_89) (by decide) (fun x28 => ?_)
          refine bp_j_istore (lv' := [(4, .int x28), (3, .int x9), (2, .int x5), (0, .ref a0), (1, .int xp1)]) dX6_readSegment_92 (by decide) rfl ?_
          refine bp_j_goto (tgt := 185) dX6_readSegment_94 (by decide) ?_
          exact bp_j_sub [3, 4, 1, 0] rfl (hk12 x9 x28)
        refine bp_j_aload_n 3 dX6_readSegment_71 rfl ?_
        refine bp_j_iload_n 4 dX6_readSegment_72 rfl ?_
        refine bp_j_cl_I (bp_ranV (t := 4) (n := 1) (As := [.int xp1]) (cnX6_readStripe (G := G) a0 xp1) rfl (lw_V q1415 q1417 qs59 q82 q1418) ⟨rfl, by decide +kernel, by decide +kernel, by decide +kernel⟩ ⟨by decide, by decide⟩ (rest := []) rfl rfl (Nat.le_of_ble_eq_true rfl) dX6_readSegment_73) (by decide) (fun x29 => ?_)
        refine bp_j_istore (lv' := [(4, .int x29), (3, .int x9), (2, .int x5), (0, .ref a0), (1, .int xp1)]) dX6_readSegment_76 (by decide) rfl ?_
        refine bp_j_goto (tgt := 185) dX6_readSegment_78 (by decide) ?_
        exact bp_j_sub [3, 4, 1, 0] rfl (hk12 x9 x29)
      refine bp_j_aload_n 3 dX6_readSegment_55 rfl ?_
      refine bp_j_iload_n 4 dX6_readSegment_56 rfl ?_
      refine bp_j_cl_I (bp_ranV (t := 4) (n := 1) (As := [.int xp1]) (cnX6_readPage (G := G) a0 xp1) rfl (lw_V q1411 q1413 qs58 q82 q1414) ⟨rfl, by decide +kernel, by decide +kernel, by decide +kernel⟩ ⟨by decide, by decide⟩ (rest := []) rfl rfl (Nat.le_of_ble_eq_true rfl) dX6_readSegment_57) (by decide) (fun x30 => ?_)
      refine bp_j_istore (lv' := [(4, .int x30), (3, .int x9), (2, .int x5), (0, .ref a0), (1, .int xp1)]) dX6_readSegment_60 (by decide) rfl ?_
      refine bp_j_goto (tgt := 185) dX6_readSegment_62 (by decide) ?_
      exact bp_j_sub [3, 4, 1, 0] rfl (hk12 x9 x30)
    refine bp_j_iload 3 dX6_readSegment_185 rfl ?_
    refine bp_j_if_ne (tgt := 192) dX6_readSegment_187 (by decide) ?_ ?_
    · refine bp_j_aload_n 0 dX6_readSegment_192 rfl ?_
      refine bp_j_getN (t := 4) (k := 34) rfl (by decide) (bp_lk q1114) dX6_readSegment_193 (fun _ _ _ => rfl) (fun a13 => ?_)
      refine bp_j_iload_n 1 dX6_readSegment_196 rfl ?_
      refine bp_j_iload_n 2 dX6_readSegment_197 rfl ?_
      refine bp_j_aload_n 0 dX6_readSegment_198 rfl ?_
      refine bp_j_getI (t := 4) (k := 21) rfl (by decide) (bp_lk q1101) dX6_readSegment_199 (fun _ _ _ => rfl) (fun x14 => ?_)
      refine bp_j_isub dX6_readSegment_202 ?_
      refine bp_j_iastore dX6_readSegment_203 ?_
      refine bp_j_aload_n 0 dX6_readSegment_204 rfl ?_
      refine bp_j_iload_n 2 dX6_readSegment_205 rfl ?_
      refine bp_j_putI (t := 4) (k := 21) rfl (by decide) (by decide) (bp_lk q1101) rfl dX6_readSegment_206 rfl ?_
      refine bp_j_aload_n 0 dX6_readSegment_209 rfl ?_
      refine bp_j_iload_n 1 dX6_readSegment_210 rfl ?_
      refine bp_j_cl_U (bp_ranV (t := 4) (n := 1) (As := [.int xp1]) (cnX6_letAllGo (G := G) a0 xp1) rfl (lw_V q1450 q1452 qs67 q82 q1453) ⟨rfl, by decide +kernel, by decide +kernel, by decide +kernel⟩ ⟨by decide, by decide⟩ (rest := []) rfl rfl (Nat.le_of_ble_eq_true rfl) dX6_readSegment_211) (by decide) (fun _ => ?_)
      refine bp_j_aload_n 0 dX6_readSegment_214 rfl ?_
      refine bp_j_iload_n 1 dX6_readSegment_215 rfl ?_
      refine bp_j_iconst (v := 1) dX6_readSegment_216 (by decide) ?_
      refine bp_j_iadd dX6_readSegment_217 ?_
      refine bp_j_putI (t := 4) (k := 25) rfl (by decide) (by decide) (bp_lk q1105) rfl dX6_readSegment_218 rfl ?_
      refine bp_j_iconst (v := 1) dX6_readSegment_221 (by decide) ?_
      exact bp_j_zret rfl dX6_readSegment_222
    refine bp_j_iconst (v := 0) dX6_readSegment_190 (by decide) ?_
    exact bp_j_zret rfl dX6_readSegment_191
  refine bp_j_iconst (v := 0) dX6_readSegment_24 (by decide) ?_
  exact bp_j_zret rfl dX6_readSegment_25
/-- BilevelPagesModel.readEmbedded()V -/
abbrev iX6_readEmbedded : bp_MI := (yX6_readEmbedded, cX6_readEmbedded, 2, none, [], 5, 123)
def BX6_readEmbedded_2 (a0 : Nat) (k2 : Int32 → bp_M Unit) (k7 : Int32 → bp_M Unit) : Int32 → bp_M Unit :=
  fun x6 =>
  bp_if (x6 = 0) (
  k2 x6) (
  bp_getI 4 21 a0 fun x8 =>
  bp_getI 4 19 a0 fun x9 =>
  bp_if (x9 ≤ x8) (
  k2 x6) (
  bp_getI 4 21 a0 fun x10 =>
  bp_getI 4 15 a0 fun x11 =>
  bp_jn (fun (k13 : Int32 → bp_M Unit) =>
  bp_if (x11 ≤ x10) (
  bp_getI 4 19 a0 fun x19 =>
  k13 x19) (
  bp_getI 4 15 a0 fun x20 =>
  k13 x20)) (fun (x12 : Int32) =>
  bp_putI 4 20 a0 x12 <|
  bp_bind (bp_is 4 a0 (PX6_readHead a0)) fun x14 =>
  bp_jn (fun (k16 : Int32 → bp_M Unit) =>
  bp_if (x14 = 0) (
  k16 (0 : Int32)) (
  bp_getI 4 24 a0 fun x17 =>
  bp_bind (bp_is 4 a0 (PX6_readSegment a0 (x17 - (1 : Int32)))) fun x18 =>
  bp_if (x18 = 0) (
  k16 (0 : Int32)) (
  k16 (1 : Int32)))) (fun (x15 : Int32) =>
  k7 x15))))
def PX6_readEmbedded (a0 : Nat) : bp_M Unit :=
  bp_jn (fun (k2 : Int32 → bp_M Unit) =>
  bp_loop (fun _ => bp_no) (BX6_readEmbedded_2 a0 k2) (fun k => k (1 : Int32))) (fun (x1 : Int32) =>
  bp_if (x1 = 0) (
  bp_ret ()) (
  bp_getI 4 39 a0 fun x3 =>
  bp_if (x3 ≤ 0) (
  bp_ret ()) (
  bp_getI 4 19 a0 fun x4 =>
  bp_bind (bp_is 4 a0 (PX6_fail a0 (10 : Int32) x4)) fun x5 =>
  bp_ret ())))
set_option maxHeartbeats 4000000 in
set_option maxRecDepth 100000 in
theorem cnX6_readEmbedded {G : bp_GT} (a0 : Nat) : bp_Con G iX6_readEmbedded (ws_ iX6_readEmbedded.1 iX6_readEmbedded.2.1 iX6_readEmbedded.2.2.1 iX6_readEmbedded.2.2.2.1) [.ref a0] (PX6_readEmbedded a0) bp_eU := by
  refine bp_con_of [(0, .ref a0)] rfl (by decide) (Nat.le_of_ble_eq_true rfl) rfl ?_
  unfold PX6_readEmbedded
  refine bp_j_iconst (v := 1) dX6_readEmbedded_0 (by decide) ?_
  refine bp_j_istore_n (lv' := [(1, .int (1 : Int32)), (0, .ref a0)]) dX6_readEmbedded_1 (by decide) rfl ?_
  refine bp_j_jm (fun k => ∀ (x1 : Int32), bp_J G iX6_readEmbedded (bp_Qn G bp_eU) (k x1) 72 [(0, .ref a0), (1, .int x1)] []) (fun k2 hk2 => ?_) (fun x1 => ?_)
  · refine bp_j_loop (fun k => ∀ (x6 : Int32), bp_J G iX6_readEmbedded (bp_Qn G bp_eU) (k x6) 2 [(0, .ref a0), (1, .int x6)] []) (fun _ => bp_j_no) (fun k7 hk7 x6 => ?_) (fun k h => bp_j_sub [1, 0] rfl (h (1 : Int32)))
    unfold BX6_readEmbedded_2
    refine bp_j_iload_n 1 dX6_readEmbedded_2 rfl ?_
    refine bp_j_if_eq (tgt := 72) dX6_readEmbedded_3 (by decide) ?_ ?_
    · exact hk2 x6
    refine bp_j_aload_n 0 dX6_readEmbedded_6 rfl ?_
    refine bp_j_getI (t := 4) (k := 21) rfl (by decide) (bp_lk q1101) dX6_readEmbedded_7 (fun _ _ _ => rfl) (fun x8 => ?_)
    refine bp_j_aload_n 0 dX6_readEmbedded_10 rfl ?_
    refine bp_j_getI (t := 4) (k := 19) rfl (by decide) (bp_lk q1099) dX6_readEmbedded_11 (fun _ _ _ => rfl) (fun x9 => ?_)
    refine bp_j_icmp_ge (tgt := 72) dX6_readEmbedded_14 (by decide) ?_ ?_
    · exact hk2 x6
    refine bp_j_aload_n 0 dX6_readEmbedded_17 rfl ?_
    refine bp_j_aload_n 0 dX6_readEmbedded_18 rfl ?_
    refine bp_j_getI (t := 4) (k := 21) rfl (by decide) (bp_lk q1101) dX6_readEmbedded_19 (fun _ _ _ => rfl) (fun x10 => ?_)
    refine bp_j_aload_n 0 dX6_readEmbedded_22 rfl ?_
    refine bp_j_getI (t := 4) (k := 15) rfl (by decide) (bp_lk q1095) dX6_readEmbedded_23 (fun _ _ _ => rfl) (fun x11 => ?_)
    refine bp_j_jm (fun k => ∀ (x12 : Int32), bp_J G iX6_readEmbedded (bp_Qn G bp_eU) (k x12) 40 [(0, .ref a0)] [.int x12, .ref a0]) (fun k13 hk13 => ?_) (fun x12 => ?_)
    · refine bp_j_icmp_ge (tgt := 36) dX6_readEmbedded_26 (by decide) ?_ ?_
      · refine bp_j_aload_n 0 dX6_readEmbedded_36 rfl ?_
        refine bp_j_getI (t := 4) (k := 19) rfl (by decide) (bp_lk q1099) dX6_readEmbedded_37 (fun _ _ _ => rfl) (fun x19 => ?_)
        exact bp_j_sub [0] rfl (hk13 x19)
      refine bp_j_aload_n 0 dX6_readEmbedded_29 rfl ?_
      refine bp_j_getI (t := 4) (k := 15) rfl (by decide) (bp_lk q1095) dX6_readEmbedded_30 (fun _ _ _ => rfl) (fun x20 => ?_)
      refine bp_j_goto (tgt := 40) dX6_readEmbedded_33 (by decide) ?_
      exact bp_j_sub [0] rfl (hk13 x20)
    refine bp_j_putI (t := 4) (k := 20) rfl (by decide) (by decide) (bp_lk q1100) rfl dX6_readEmbedded_40 rfl ?_
    refine bp_j_aload_n 0 dX6_readEmbedded_43 rfl ?_
    refine bp_j_cl_I (bp_ranV (t := 4) (n := 0) (As := []) (cnX6_readHead (G := G) a0 ) rfl (lw_V q1358 q1360 qs47 q82 q1361) ⟨rfl, by decide +kernel, by decide +kernel, by decide +kernel⟩ ⟨by decide, by decide⟩ (rest := []) rfl rfl (Nat.le_of_ble_eq_true rfl) dX6_readEmbedded_44) (by decide) (fun x14 => ?_)
    refine bp_j_jm (fun k => ∀ (x15 : Int32), bp_J G iX6_readEmbedded (bp_Qn G bp_eU) (k x15) 68 [(0, .ref a0)] [.int x15]) (fun k16 hk16 => ?_) (fun x15 => ?_)
    · refine bp_j_if_eq (tgt := 67) dX6_readEmbedded_47 (by decide) ?_ ?_
      · refine bp_j_iconst (v := 0) dX6_readEmbedded_67 (by decide) ?_
        exact hk16 (0 : Int32)
      refine bp_j_aload_n 0 dX6_readEmbedded_50 rfl ?_
      refine bp_j_aload_n 0 dX6_readEmbedded_51 rfl ?_
      refine bp_j_getI (t := 4) (k := 24) rfl (by decide) (bp_lk q1104) dX6_readEmbedded_52 (fun _ _ _ => rfl) (fun x17 => ?_)
      refine bp_j_iconst (v := 1) dX6_readEmbedded_55 (by decide) ?_
      refine bp_j_isub dX6_readEmbedded_56 ?_
      refine bp_j_cl_I (bp_ranV (t := 4) (n := 1) (As := [.int (x17 - (1 : Int32))]) (cnX6_readSegment (G := G) a0 (x17 - (1 : Int32))) rfl (lw_V q1378 q1380 qs51 q82 q1381) ⟨rfl, by decide +kernel, by decide +kernel, by decide +kernel⟩ ⟨by decide, by decide⟩ (rest := []) rfl rfl (Nat.le_of_ble_eq_true rfl) dX6_readEmbedded_57) (by decide) (fun x18 => ?_)
      refine bp_j_if_eq (tgt := 67) dX6_readEmbedded_60 (by decide) ?_ ?_
      · refine bp_j_iconst (v := 0) dX6_readEmbedded_67 (by decide) ?_
        exact hk16 (0 : Int32)
      refine bp_j_iconst (v := 1) dX6_readEmbedded_63 (by decide) ?_
      refine bp_j_goto (tgt := 68) dX6_readEmbedded_64 (by decide) ?_
      exact hk16 (1 : Int32)
    refine bp_j_istore_n (lv' := [(1, .int x15), (0, .ref a0)]) dX6_readEmbedded_68 (by decide) rfl ?_
    refine bp_j_goto (tgt := 2) dX6_readEmbedded_69 (by decide) ?_
    exact bp_j_sub [1, 0] rfl (hk7 x15)
  refine bp_j_iload_n 1 dX6_readEmbedded_72 rfl ?_
  refine bp_j_if_eq (tgt := 94) dX6_readEmbedded_73 (by decide) ?_ ?_
  · exact bp_j_vret rfl dX6_readEmbedded_94
  refine bp_j_aload_n 0 dX6_readEmbedded_76 rfl ?_
  refine bp_j_getI (t := 4) (k := 39) rfl (by decide) (bp_lk q1119) dX6_readEmbedded_77 (fun _ _ _ => rfl) (fun x3 => ?_)
  refine bp_j_if_le (tgt := 94) dX6_readEmbedded_80 (by decide) ?_ ?_
  · exact bp_j_vret rfl dX6_readEmbedded_94
  refine bp_j_aload_n 0 dX6_readEmbedded_83 rfl ?_
  refine bp_j_bipush (v := 10) dX6_readEmbedded_84 (by decide) ?_
  refine bp_j_aload_n 0 dX6_readEmbedded_86 rfl ?_
  refine bp_j_getI (t := 4) (k := 19) rfl (by decide) (bp_lk q1099) dX6_readEmbedded_87 (fun _ _ _ => rfl) (fun x4 => ?_)
  refine bp_j_cl_I (bp_ranV (t := 4) (n := 2) (As := [.int (10 : Int32), .int x4]) (cnX6_fail (G := G) a0 (10 : Int32) x4) rfl (lw_V q1367 q1369 qs49 q82 q1370) ⟨rfl, by decide +kernel, by decide +kernel, by decide +kernel⟩ ⟨by decide, by decide⟩ (rest := []) rfl rfl (Nat.le_of_ble_eq_true rfl) dX6_readEmbedded_90) (by decide) (fun x5 => ?_)
  refine bp_j_pop dX6_readEmbedded_93 rfl ?_
  exact bp_j_vret rfl dX6_readEmbedded_94
/-- BilevelPagesModel.magic(I)I -/
abbrev iX6_magic : bp_MI := (yX6_magic, cX6_magic, 1, some (Jvm.ClassFile.FieldType.int), [], 0, 0)
def PX6_magic (xp0 : Int32) : bp_M Int32 :=
  bp_sw (xp0).toInt [(0, (
  bp_ret (151 : Int32))), (1, (
  bp_ret (74 : Int32))), (2, (
  bp_ret (66 : Int32))), (3, (
  bp_ret (50 : Int32))), (4, (
  bp_ret (13 : Int32))), (5, (
  bp_ret (10 : Int32))), (6, (
  bp_ret (26 : Int32)))] (
  bp_ret (10 : Int32))
set_option maxHeartbeats 4000000 in
set_option maxRecDepth 100000 in
theorem cnX6_magic {G : bp_GT} (xp0 : Int32) : bp_Con G iX6_magic (ws_ iX6_magic.1 iX6_magic.2.1 iX6_magic.2.2.1 iX6_magic.2.2.2.1) [.int xp0] (PX6_magic xp0) bp_eI := by
  refine bp_con_of [(0, .int xp0)] rfl (by decide) (Nat.le_of_ble_eq_true rfl) rfl ?_
  unfold PX6_magic
  refine bp_j_iload_n 0 dX6_magic_0 rfl ?_
  refine bp_j_tsw (tgt := 66) [44, 48, 51, 54, 57, 60, 63] dX6_magic_1 rfl rfl rfl (by decide) (bp_JSc ?_ (bp_JSc ?_ (bp_JSc ?_ (bp_JSc ?_ (bp_JSc ?_ (bp_JSc ?_ (bp_JSc ?_ bp_JSn))))))) ?_
  · refine bp_j_sipush (v := 151) dX6_magic_44 (by decide) ?_
    exact bp_j_iret rfl dX6_magic_47
  · refine bp_j_bipush (v := 74) dX6_magic_48 (by decide) ?_
    exact bp_j_iret rfl dX6_magic_50
  · refine bp_j_bipush (v := 66) dX6_magic_51 (by decide) ?_
    exact bp_j_iret rfl dX6_magic_53
  · refine bp_j_bipush (v := 50) dX6_magic_54 (by decide) ?_
    exact bp_j_iret rfl dX6_magic_56
  · refine bp_j_bipush (v := 13) dX6_magic_57 (by decide) ?_
    exact bp_j_iret rfl dX6_magic_59
  · refine bp_j_bipush (v := 10) dX6_magic_60 (by decide) ?_
    exact bp_j_iret rfl dX6_magic_62
  · refine bp_j_bipush (v := 26) dX6_magic_63 (by decide) ?_
    exact bp_j_iret rfl dX6_magic_65
  refine bp_j_bipush (v := 10) dX6_magic_66 (by decide) ?_
  exact bp_j_iret rfl dX6_magic_68
