/-! programs and walks -/
set_option maxRecDepth 100000
/-- BilevelPagesModel.writeRegion(I)V -/
abbrev iX6_writeRegion : bp_MI := (yX6_writeRegion, cX6_writeRegion, 8, none, [], 2, 43)
def BX6_writeRegion_115 (a0 : Nat) (xp1 : Int32) (x2 : Int32) (x13 : Int32) (x19 : Int32) (k22 : Int32 → bp_M Unit) (k26 : Int32 → Int32 → bp_M Unit) : Int32 → Int32 → bp_M Unit :=
  fun x24 x25 =>
  bp_if ((x19 + (8 : Int32)) ≤ x25) (
  k22 x24) (
  bp_jn (fun (k28 : Int32 → bp_M Unit) =>
  bp_if (x2 ≤ x25) (
  k28 (0 : Int32)) (
  bp_getN 4 11 a0 fun a31 =>
  bp_aldI 20 a31 (((16 : Int32) * xp1) + x13) fun x32 =>
  k28 ((x32 >>> (x25 &&& 31)) &&& (1 : Int32)))) (fun (x27 : Int32) =>
  bp_letI (((2 : Int32) * x24) + x27) fun x29 =>
  bp_letI (x25 + (1 : Int32)) fun x30 =>
  k26 x29 x30))
def BX6_writeRegion_102 (a0 : Nat) (xp1 : Int32) (x2 : Int32) (x13 : Int32) (k17 : bp_M Unit) (k20 : Int32 → bp_M Unit) : Int32 → bp_M Unit :=
  fun x19 =>
  bp_if (x2 ≤ x19) (
  k17) (
  bp_jn (fun (k22 : Int32 → bp_M Unit) =>
  bp_loop (fun _ _ => bp_no) (BX6_writeRegion_115 a0 xp1 x2 x13 x19 k22) (fun k => k (0 : Int32) x19)) (fun (x21 : Int32) =>
  bp_bind (bp_is 4 a0 (PX6_put a0 x21)) fun _ =>
  bp_letI (x19 + (8 : Int32)) fun x23 =>
  k20 x23))
def BX6_writeRegion_80 (a0 : Nat) (xp1 : Int32) (x2 : Int32) (x4 : Int32) (k11 : bp_M Unit) (k14 : Int32 → bp_M Unit) : Int32 → bp_M Unit :=
  fun x13 =>
  bp_if (x4 ≤ x13) (
  k11) (
  bp_bind (bp_is 4 a0 (PX6_isOpen a0 xp1)) fun x15 =>
  bp_jn (fun (k16 : bp_M Unit) =>
  bp_if (x15 = 0) (
  k16) (
  bp_bind (bp_is 4 a0 (PX6_put a0 (1 : Int32))) fun _ =>
  k16)) (bp_jn (fun (k17 : bp_M Unit) =>
  bp_loop (fun _ => bp_no) (BX6_writeRegion_102 a0 xp1 x2 x13 k17) (fun k => k (0 : Int32))) (bp_letI (x13 + (1 : Int32)) fun x18 =>
  k14 x18)))
def PX6_writeRegion (a0 : Nat) (xp1 : Int32) : bp_M Unit :=
  bp_getN 4 10 a0 fun a1 =>
  bp_aldI 20 a1 ((6 : Int32) * xp1) fun x2 =>
  bp_getN 4 10 a0 fun a3 =>
  bp_aldI 20 a3 (((6 : Int32) * xp1) + (1 : Int32)) fun x4 =>
  bp_bind (bp_is 4 a0 (PX6_putFour a0 x2)) fun _ =>
  bp_bind (bp_is 4 a0 (PX6_putFour a0 x4)) fun _ =>
  bp_getN 4 10 a0 fun a5 =>
  bp_aldI 20 a5 (((6 : Int32) * xp1) + (2 : Int32)) fun x6 =>
  bp_bind (bp_is 4 a0 (PX6_putFour a0 x6)) fun _ =>
  bp_getN 4 10 a0 fun a7 =>
  bp_aldI 20 a7 (((6 : Int32) * xp1) + (3 : Int32)) fun x8 =>
  bp_bind (bp_is 4 a0 (PX6_putFour a0 x8)) fun _ =>
  bp_getN 4 10 a0 fun a9 =>
  bp_aldI 20 a9 (((6 : Int32) * xp1) + (4 : Int32)) fun x10 =>
  bp_bind (bp_is 4 a0 (PX6_put a0 x10)) fun _ =>
  bp_jn (fun (k11 : bp_M Unit) =>
  bp_loop (fun _ => bp_no) (BX6_writeRegion_80 a0 xp1 x2 x4 k11) (fun k => k (0 : Int32))) (bp_bind (bp_is 4 a0 (PX6_isOpen a0 xp1)) fun x12 =>
  bp_if (x12 = 0) (
  bp_ret ()) (
  bp_bind (bp_is 4 a0 (PX6_put a0 (255 : Int32))) fun _ =>
  bp_bind (bp_is 4 a0 (PX6_put a0 (172 : Int32))) fun _ =>
  bp_bind (bp_is 4 a0 (PX6_putFour a0 x4)) fun _ =>
  bp_ret ()))
set_option maxHeartbeats 4000000 in
set_option maxRecDepth 100000 in
theorem cnX6_writeRegion {G : bp_GT} (a0 : Nat) (xp1 : Int32) : bp_Con G iX6_writeRegion (ws_ iX6_writeRegion.1 iX6_writeRegion.2.1 iX6_writeRegion.2.2.1 iX6_writeRegion.2.2.2.1) [.ref a0, .int xp1] (PX6_writeRegion a0 xp1) bp_eU := by
  refine bp_con_of [(0, .ref a0), (1, .int xp1)] rfl (by decide) (Nat.le_of_ble_eq_true rfl) rfl ?_
  unfold PX6_writeRegion
  refine bp_j_aload_n 0 dX6_writeRegion_0 rfl ?_
  refine bp_j_getN (t := 4) (k := 10) rfl (by decide) (bp_lk q1090) dX6_writeRegion_1 (fun _ _ _ => rfl) (fun a1 => ?_)
  refine bp_j_bipush (v := 6) dX6_writeRegion_4 (by decide) ?_
  refine bp_j_iload_n 1 dX6_writeRegion_6 rfl ?_
  refine bp_j_imul dX6_writeRegion_7 ?_
  refine bp_j_iaload dX6_writeRegion_8 (fun x2 => ?_)
  refine bp_j_istore_n (lv' := [(2, .int x2), (0, .ref a0), (1, .int xp1)]) dX6_writeRegion_9 (by decide) rfl ?_
  refine bp_j_aload_n 1 dX6_writeRegion_10 rfl ?_
  refine bp_j_getN (t := 4) (k := 10) rfl (by decide) (bp_lk q1090) dX6_writeRegion_11 (fun _ _ _ => rfl) (fun a3 => ?_)
  refine bp_j_bipush (v := 6) dX6_writeRegion_14 (by decide) ?_
  refine bp_j_iload_n 2 dX6_writeRegion_16 rfl ?_
  refine bp_j_imul dX6_writeRegion_17 ?_
  refine bp_j_iconst (v := 1) dX6_writeRegion_18 (by decide) ?_
  refine bp_j_iadd dX6_writeRegion_19 ?_
  refine bp_j_iaload dX6_writeRegion_20 (fun x4 => ?_)
  refine bp_j_istore_n (lv' := [(3, .int x4), (2, .int x2), (0, .ref a0), (1, .int xp1)]) dX6_writeRegion_21 (by decide) rfl ?_
  refine bp_j_aload_n 2 dX6_writeRegion_22 rfl ?_
  refine bp_j_iload_n 1 dX6_writeRegion_23 rfl ?_
  refine bp_j_cl_U (bp_ranV (t := 4) (n := 1) (As := [.int x2]) (cnX6_putFour (G := G) a0 x2) rfl (lw_V q1310 q1312 qs40 q82 q1313) ⟨rfl, by decide +kernel, by decide +kernel, by decide +kernel⟩ ⟨by decide, by decide⟩ (rest := []) rfl rfl (Nat.le_of_ble_eq_true rfl) dX6_writeRegion_24) (by decide) (fun _ => ?_)
  refine bp_j_aload_n 2 dX6_writeRegion_27 rfl ?_
  refine bp_j_iload_n 0 dX6_writeRegion_28 rfl ?_
  refine bp_j_cl_U (bp_ranV (t := 4) (n := 1) (As := [.int x4]) (cnX6_putFour (G := G) a0 x4) rfl (lw_V q1310 q1312 qs40 q82 q1313) ⟨rfl, by decide +kernel, by decide +kernel, by decide +kernel⟩ ⟨by decide, by decide⟩ (rest := []) rfl rfl (Nat.le_of_ble_eq_true rfl) dX6_writeRegion_29) (by decide) (fun _ => ?_)
  refine bp_j_aload_n 2 dX6_writeRegion_32 rfl ?_
  refine bp_j_aload_n 2 dX6_writeRegion_33 rfl ?_
  refine bp_j_getN (t := 4) (k := 10) rfl (by decide) (bp_lk q1090) dX6_writeRegion_34 (fun _ _ _ => rfl) (fun a5 => ?_)
  refine bp_j_bipush (v := 6) dX6_writeRegion_37 (by decide) ?_
  refine bp_j_iload_n 3 dX6_writeRegion_39 rfl ?_
  refine bp_j_imul dX6_writeRegion_40 ?_
  refine bp_j_iconst (v := 2) dX6_writeRegion_41 (by decide) ?_
  refine bp_j_iadd dX6_writeRegion_42 ?_
  refine bp_j_iaload dX6_writeRegion_43 (fun x6 => ?_)
  refine bp_j_cl_U (bp_ranV (t := 4) (n := 1) (As := [.int x6]) (cnX6_putFour (G := G) a0 x6) rfl (lw_V q1310 q1312 qs40 q82 q1313) ⟨rfl, by decide +kernel, by decide +kernel, by decide +kernel⟩ ⟨by decide, by decide⟩ (rest := []) rfl rfl (Nat.le_of_ble_eq_true rfl) dX6_writeRegion_44) (by decide) (fun _ => ?_)
  refine bp_j_aload_n 2 dX6_writeRegion_47 rfl ?_
  refine bp_j_aload_n 2 dX6_writeRegion_48 rfl ?_
  refine bp_j_getN (t := 4) (k := 10) rfl (by decide) (bp_lk q1090) dX6_writeRegion_49 (fun _ _ _ => rfl) (fun a7 => ?_)
  refine bp_j_bipush (v := 6) dX6_writeRegion_52 (by decide) ?_
  refine bp_j_iload_n 3 dX6_writeRegion_54 rfl ?_
  refine bp_j_imul dX6_writeRegion_55 ?_
  refine bp_j_iconst (v := 3) dX6_writeRegion_56 (by decide) ?_
  refine bp_j_iadd dX6_writeRegion_57 ?_
  refine bp_j_iaload dX6_writeRegion_58 (fun x8 => ?_)
  refine bp_j_cl_U (bp_ranV (t := 4) (n := 1) (As := [.int x8]) (cnX6_putFour (G := G) a0 x8) rfl (lw_V q1310 q1312 qs40 q82 q1313) ⟨rfl, by decide +kernel, by decide +kernel, by decide +kernel⟩ ⟨by decide, by decide⟩ (rest := []) rfl rfl (Nat.le_of_ble_eq_true rfl) dX6_writeRegion_59) (by decide) (fun _ => ?_)
  refine bp_j_aload_n 2 dX6_writeRegion_62 rfl ?_
  refine bp_j_aload_n 2 dX6_writeRegion_63 rfl ?_
  refine bp_j_getN (t := 4) (k := 10) rfl (by decide) (bp_lk q1090) dX6_writeRegion_64 (fun _ _ _ => rfl) (fun a9 => ?_)
  refine bp_j_bipush (v := 6) dX6_writeRegion_67 (by decide) ?_
  refine bp_j_iload_n 3 dX6_writeRegion_69 rfl ?_
  refine bp_j_imul dX6_writeRegion_70 ?_
  refine bp_j_iconst (v := 4) dX6_writeRegion_71 (by decide) ?_
  refine bp_j_iadd dX6_writeRegion_72 ?_
  refine bp_j_iaload dX6_writeRegion_73 (fun x10 => ?_)
  refine bp_j_cl_U (bp_ranV (t := 4) (n := 1) (As := [.int x10]) (cnX6_put (G := G) a0 x10) rfl (lw_V q1306 q1308 qs39 q82 q1309) ⟨rfl, by decide +kernel, by decide +kernel, by decide +kernel⟩ ⟨by decide, by decide⟩ (rest := []) rfl rfl (Nat.le_of_ble_eq_true rfl) dX6_writeRegion_74) (by decide) (fun _ => ?_)
  refine bp_j_iconst (v := 0) dX6_writeRegion_77 (by decide) ?_
  refine bp_j_istore (lv' := [(4, .int (0 : Int32)), (3, .int x4), (2, .int x2), (0, .ref a0), (1, .int xp1)]) dX6_writeRegion_78 (by decide) rfl ?_
  refine bp_j_jm (fun k => bp_J G iX6_writeRegion (bp_Qn G bp_eU) (k) 183 [(0, .ref a0), (1, .int xp1), (3, .int x4)] []) (fun k11 hk11 => ?_) ?_
  · refine bp_j_loop (fun k => ∀ (x13 : Int32), bp_J G iX6_writeRegion (bp_Qn G bp_eU) (k x13) 80 [(0, .ref a0), (1, .int xp1), (2, .int x2), (3, .int x4), (4, .int x13)] []) (fun _ => bp_j_no) (fun k14 hk14 x13 => ?_) (fun k h => bp_j_sub [3, 4, 2, 1, 0] rfl (h (0 : Int32)))
    unfold BX6_writeRegion_80
    refine bp_j_iload 4 dX6_writeRegion_80 rfl ?_
    refine bp_j_iload_n 3 dX6_writeRegion_82 rfl ?_
    refine bp_j_icmp_ge (tgt := 183) dX6_writeRegion_83 (by decide) ?_ ?_
    · exact bp_j_sub [0, 1, 3] rfl (hk11)
    refine bp_j_aload_n 0 dX6_writeRegion_86 rfl ?_
    refine bp_j_iload_n 1 dX6_writeRegion_87 rfl ?_
    refine bp_j_cl_I (bp_ranV (t := 4) (n := 1) (As := [.int xp1]) (cnX6_isOpen (G := G) a0 xp1) rfl (lw_V q1318 q1320 qs42 q82 q1321) ⟨rfl, by decide +kernel, by decide +kernel, by decide +kernel⟩ ⟨by decide, by decide⟩ (rest := []) rfl rfl (Nat.le_of_ble_eq_true rfl) dX6_writeRegion_88) (by decide) (fun x15 => ?_)
    refine bp_j_jm (fun k => bp_J G iX6_writeRegion (bp_Qn G bp_eU) (k) 99 [(0, .ref a0), (1, .int xp1), (2, .int x2), (3, .int x4), (4, .int x13)] []) (fun k16 hk16 => ?_) ?_
    · refine bp_j_if_eq (tgt := 99) dX6_writeRegion_91 (by decide) ?_ ?_
      · exact hk16
      refine bp_j_aload_n 0 dX6_writeRegion_94 rfl ?_
      refine bp_j_iconst (v := 1) dX6_writeRegion_95 (by decide) ?_
      refine bp_j_cl_U (bp_ranV (t := 4) (n := 1) (As := [.int (1 : Int32)]) (cnX6_put (G := G) a0 (1 : Int32)) rfl (lw_V q1306 q1308 qs39 q82 q1309) ⟨rfl, by decide +kernel, by decide +kernel, by decide +kernel⟩ ⟨by decide, by decide⟩ (rest := []) rfl rfl (Nat.le_of_ble_eq_true rfl) dX6_writeRegion_96) (by decide) (fun _ => ?_)
      exact hk16
    refine bp_j_iconst (v := 0) dX6_writeRegion_99 (by decide) ?_
    refine bp_j_istore (lv' := [(5, .int (0 : Int32)), (0, .ref a0), (1, .int xp1), (2, .int x2), (3, .int x4), (4, .int x13)]) dX6_writeRegion_100 (by decide) rfl ?_
    refine bp_j_jm (fun k => bp_J G iX6_writeRegion (bp_Qn G bp_eU) (k) 177 [(0, .ref a0), (1, .int xp1), (2, .int x2), (3, .int x4), (4, .int x13)] []) (fun k17 hk17 => ?_) ?_
    · refine bp_j_loop (fun k => ∀ (x19 : Int32), bp_J G iX6_writeRegion (bp_Qn G bp_eU) (k x19) 102 [(0, .ref a0), (1, .int xp1), (2, .int x2), (3, .int x4), (4, .int x13), (5, .int x19)] []) (fun _ => bp_j_no) (fun k20 hk20 x19 => ?_) (fun k h => bp_j_sub [1, 2, 3, 4, 5, 0] rfl (h (0 : Int32)))
      unfold BX6_writeRegion_102
      refine bp_j_iload 5 dX6_writeRegion_102 rfl ?_
      refine bp_j_iload_n 2 dX6_writeRegion_104 rfl ?_
      refine bp_j_icmp_ge (tgt := 177) dX6_writeRegion_105 (by decide) ?_ ?_
      · exact bp_j_sub [0, 1, 2, 3, 4] rfl (hk17)
      refine bp_j_iconst (v := 0) dX6_writeRegion_108 (by decide) ?_
      refine bp_j_istore (lv' := [(6, .int (0 : Int32)), (0, .ref a0), (1, .int xp1), (2, .int x2), (3, .int x4), (4, .int x13), (5, .int x19)]) dX6_writeRegion_109 (by decide) rfl ?_
      refine bp_j_iload 6 dX6_writeRegion_111 rfl ?_
      refine bp_j_istore (lv' := [(7, .int x19), (6, .int (0 : Int32)), (0, .ref a0), (1, .int xp1), (2, .int x2), (3, .int x4), (4, .int x13), (5, .int x19)]) dX6_writeRegion_113 (by decide) rfl ?_
      refine bp_j_jm (fun k => ∀ (x21 : Int32), bp_J G iX6_writeRegion (bp_Qn G bp_eU) (k x21) 165 [(0, .ref a0), (1, .int xp1), (2, .int x2), (3, .int x4), (4, .int x13), (5, .int x19), (6, .int x21)] []) (fun k22 hk22 => ?_) (fun x21 => ?_)
      · refine bp_j_loop (fun k => ∀ (x24 : Int32) (x25 : Int32), bp_J G iX6_writeRegion (bp_Qn G bp_eU) (k x24 x25) 115 [(0, .ref a0), (1, .int xp1), (2, .int x2), (3, .int x4), (4, .int x13), (5, .int x19), (6, .int x24), (7, .int x25)] []) (fun _ _ => bp_j_no) (fun k26 hk26 x24 x25 => ?_) (fun k h => bp_j_sub [2, 3, 4, 5, 6, 7, 1, 0] rfl (h (0 : Int32) x19))
        unfold BX6_writeRegion_115
        refine bp_j_iload 7 dX6_writeRegion_115 rfl ?_
        refine bp_j_iload 5 dX6_writeRegion_117 rfl ?_
        refine bp_j_bipush (v := 8) dX6_writeRegion_119 (by decide) ?_
        refine bp_j_iadd dX6_writeRegion_121 ?_
        refine bp_j_icmp_ge (tgt := 165) dX6_writeRegion_122 (by decide) ?_ ?_
        · exact bp_j_sub [0, 1, 2, 3, 4, 5, 6] rfl (hk22 x24)
        refine bp_j_iconst (v := 2) dX6_writeRegion_125 (by decide) ?_
        refine bp_j_iload 6 dX6_writeRegion_126 rfl ?_
        refine bp_j_imul dX6_writeRegion_128 ?_
        refine bp_j_iload 7 dX6_writeRegion_129 rfl ?_
        refine bp_j_iload_n 2 dX6_writeRegion_131 rfl ?_
        refine bp_j_jm (fun k => ∀ (x27 : Int32), bp_J G iX6_writeRegion (bp_Qn G bp_eU) (k x27) 156 [(0, .ref a0), (1, .int xp1), (2, .int x2), (3, .int x4), (4, .int x13), (5, .int x19), (7, .int x25)] [.int x27, .int ((2 : Int32) * x24)]) (fun k28 hk28 => ?_) (fun x27 => ?_)
        · refine bp_j_icmp_ge (tgt := 155) dX6_writeRegion_132 (by decide) ?_ ?_
          · refine bp_j_iconst (v := 0) dX6_writeRegion_155 (by decide) ?_
            exact bp_j_sub [0, 1, 2, 3, 4, 5, 7] rfl (hk28 (0 : Int32))
          refine bp_j_aload_n 0 dX6_writeRegion_135 rfl ?_
          refine bp_j_getN (t := 4) (k := 11) rfl (by decide) (bp_lk q1091) dX6_writeRegion_136 (fun _ _ _ => rfl) (fun a31 => ?_)
          refine bp_j_bipush (v := 16) dX6_writeRegion_139 (by decide) ?_
          refine bp_j_iload_n 1 dX6_writeRegion_141 rfl ?_
          refine bp_j_imul dX6_writeRegion_142 ?_
          refine bp_j_iload 4 dX6_writeRegion_143 rfl ?_
          refine bp_j_iadd dX6_writeRegion_145 ?_
          refine bp_j_iaload dX6_writeRegion_146 (fun x32 => ?_)
          refine bp_j_iload 7 dX6_writeRegion_147 rfl ?_
          refine bp_j_ishr dX6_writeRegion_149 ?_
          refine bp_j_iconst (v := 1) dX6_writeRegion_150 (by decide) ?_
          refine bp_j_iand dX6_writeRegion_151 ?_
          refine bp_j_goto (tgt := 156) dX6_writeRegion_152 (by decide) ?_
          exact bp_j_sub [0, 1, 2, 3, 4, 5, 7] rfl (hk28 ((x32 >>> (x25 &&& 31)) &&& (1 : Int32)))
        refine bp_j_iadd dX6_writeRegion_156 ?_
        refine bp_j_letI (fun x29 => ?_)
        refine bp_j_istore (lv' := [(6, .int x29), (0, .ref a0), (1, .int xp1), (2, .int x2), (3, .int x4), (4, .int x13), (5, .int x19), (7, .int x25)]) dX6_writeRegion_157 (by decide) rfl ?_
        refine bp_j_iincL (lv' := fun x30 => [(7, .int x30), (6, .int x29), (0, .ref a0), (1, .int xp1), (2, .int x2), (3, .int x4), (4, .int x13), (5, .int x19)]) 7 dX6_writeRegion_159 rfl (by decide) (by decide) (fun _ => rfl) (fun x30 => ?_)
        refine bp_j_goto (tgt := 115) dX6_writeRegion_162 (by decide) ?_
        exact bp_j_sub [2, 3, 4, 5, 6, 7, 1, 0] rfl (hk26 x29 x30)
      refine bp_j_aload_n 0 dX6_writeRegion_165 rfl ?_
      refine bp_j_iload 6 dX6_writeRegion_166 rfl ?_
      refine bp_j_cl_U (bp_ranV (t := 4) (n := 1) (As := [.int x21]) (cnX6_put (G := G) a0 x21) rfl (lw_V q1306 q1308 qs39 q82 q1309) ⟨rfl, by decide +kernel, by decide +kernel, by decide +kernel⟩ ⟨by decide, by decide⟩ (rest := []) rfl rfl (Nat.le_of_ble_eq_true rfl) dX6_writeRegion_168) (by decide) (fun _ => ?_)
      refine bp_j_iincL (lv' := fun x23 => [(5, .int x23), (0, .ref a0), (1, .int xp1), (2, .int x2), (3, .int x4), (4, .int x13), (6, .int x21)]) 5 dX6_writeRegion_171 rfl (by decide) (by decide) (fun _ => rfl) (fun x23 => ?_)
      refine bp_j_goto (tgt := 102) dX6_writeRegion_174 (by decide) ?_
      exact bp_j_sub [1, 2, 3, 4, 5, 0] rfl (hk20 x23)
    refine bp_j_iincL (lv' := fun x18 => [(4, .int x18), (0, .ref a0), (1, .int xp1), (2, .int x2), (3, .int x4)]) 4 dX6_writeRegion_177 rfl (by decide) (by decide) (fun _ => rfl) (fun x18 => ?_)
    refine bp_j_goto (tgt := 80) dX6_writeRegion_180 (by decide) ?_
    exact bp_j_sub [1, 2, 3, 4, 0] rfl (hk14 x18)
  refine bp_j_aload_n 0 dX6_writeRegion_183 rfl ?_
  refine bp_j_iload_n 1 dX6_writeRegion_184 rfl ?_
  refine bp_j_cl_I (bp_ranV (t := 4) (n := 1) (As := [.int xp1]) (cnX6_isOpen (G := G) a0 xp1) rfl (lw_V q1318 q1320 qs42 q82 q1321) ⟨rfl, by decide +kernel, by decide +kernel, by decide +kernel⟩ ⟨by decide, by decide⟩ (rest := []) rfl rfl (Nat.le_of_ble_eq_true rfl) dX6_writeRegion_185) (by decide) (fun x12 => ?_)
  refine bp_j_if_eq (tgt := 210) dX6_writeRegion_188 (by decide) ?_ ?_
  · exact bp_j_vret rfl dX6_writeRegion_210
  refine bp_j_aload_n 0 dX6_writeRegion_191 rfl ?_
  refine bp_j_sipush (v := 255) dX6_writeRegion_192 (by decide) ?_
  refine bp_j_cl_U (bp_ranV (t := 4) (n := 1) (As := [.int (255 : Int32)]) (cnX6_put (G := G) a0 (255 : Int32)) rfl (lw_V q1306 q1308 qs39 q82 q1309) ⟨rfl, by decide +kernel, by decide +kernel, by decide +kernel⟩ ⟨by decide, by decide⟩ (rest := []) rfl rfl (Nat.le_of_ble_eq_true rfl) dX6_writeRegion_195) (by decide) (fun _ => ?_)
  refine bp_j_aload_n 0 dX6_writeRegion_198 rfl ?_
  refine bp_j_sipush (v := 172) dX6_writeRegion_199 (by decide) ?_
  refine bp_j_cl_U (bp_ranV (t := 4) (n := 1) (As := [.int (172 : Int32)]) (cnX6_put (G := G) a0 (172 : Int32)) rfl (lw_V q1306 q1308 qs39 q82 q1309) ⟨rfl, by decide +kernel, by decide +kernel, by decide +kernel⟩ ⟨by decide, by decide⟩ (rest := []) rfl rfl (Nat.le_of_ble_eq_true rfl) dX6_writeRegion_202) (by decide) (fun _ => ?_)
  refine bp_j_aload_n 0 dX6_writeRegion_205 rfl ?_
  refine bp_j_iload_n 2 dX6_writeRegion_206 rfl ?_
  refine bp_j_cl_U (bp_ranV (t := 4) (n := 1) (As := [.int x4]) (cnX6_putFour (G := G) a0 x4) rfl (lw_V q1310 q1312 qs40 q82 q1313) ⟨rfl, by decide +kernel, by decide +kernel, by decide +kernel⟩ ⟨by decide, by decide⟩ (rest := []) rfl rfl (Nat.le_of_ble_eq_true rfl) dX6_writeRegion_207) (by decide) (fun _ => ?_)
  exact bp_j_vret rfl dX6_writeRegion_210
/-- BilevelPagesModel.writeData(I)V -/
abbrev iX6_writeData : bp_MI := (yX6_writeData, cX6_writeData, 4, none, [], 3, 70)
def BX6_writeData_134 (a0 : Nat) (xp1 : Int32) (k6 : Int32 → bp_M Unit) : Int32 → bp_M Unit :=
  fun x5 =>
  bp_getN 4 8 a0 fun a7 =>
  bp_aldI 20 a7 xp1 fun x8 =>
  bp_if (x8 ≤ x5) (
  bp_ret ()) (
  bp_getN 4 9 a0 fun a9 =>
  bp_aldI 20 a9 (((20 : Int32) * xp1) + x5) fun x10 =>
  bp_bind (bp_is 4 a0 (PX6_put a0 x10)) fun _ =>
  bp_letI (x5 + (1 : Int32)) fun x11 =>
  k6 x11)
def PX6_writeData (a0 : Nat) (xp1 : Int32) : bp_M Unit :=
  bp_getN 4 3 a0 fun a1 =>
  bp_aldI 20 a1 xp1 fun x2 =>
  bp_bind (PX6_isRegion x2) fun x3 =>
  bp_jn (fun (k4 : bp_M Unit) =>
  bp_if (x3 = 0) (
  bp_if (x2 = (48 : Int32)) (
  bp_getN 4 10 a0 fun a15 =>
  bp_aldI 20 a15 ((6 : Int32) * xp1) fun x16 =>
  bp_bind (bp_is 4 a0 (PX6_putFour a0 x16)) fun _ =>
  bp_getN 4 10 a0 fun a17 =>
  bp_aldI 20 a17 (((6 : Int32) * xp1) + (1 : Int32)) fun x18 =>
  bp_jn (fun (k20 : Int32 → bp_M Unit) =>
  bp_if (x18 = 0) (
  k20 (-1 : Int32)) (
  bp_getN 4 10 a0 fun a25 =>
  bp_aldI 20 a25 (((6 : Int32) * xp1) + (1 : Int32)) fun x26 =>
  k20 x26)) (fun (x19 : Int32) =>
  bp_bind (bp_is 4 a0 (PX6_putFour a0 x19)) fun _ =>
  bp_getN 4 10 a0 fun a21 =>
  bp_aldI 20 a21 (((6 : Int32) * xp1) + (2 : Int32)) fun x22 =>
  bp_bind (bp_is 4 a0 (PX6_put a0 x22)) fun _ =>
  bp_getN 4 10 a0 fun a23 =>
  bp_aldI 20 a23 (((6 : Int32) * xp1) + (3 : Int32)) fun x24 =>
  bp_bind (bp_is 4 a0 (PX6_put a0 x24)) fun _ =>
  k4)) (
  bp_jn (fun (k12 : bp_M Unit) =>
  bp_if (x2 = (50 : Int32)) (
  k12) (
  bp_if (x2 = (62 : Int32)) (
  k12) (
  k4))) (bp_getN 4 10 a0 fun a13 =>
  bp_aldI 20 a13 ((6 : Int32) * xp1) fun x14 =>
  bp_bind (bp_is 4 a0 (PX6_putFour a0 x14)) fun _ =>
  k4))) (
  bp_bind (bp_is 4 a0 (PX6_writeRegion a0 xp1)) fun _ =>
  k4)) (bp_loop (fun _ => bp_no) (BX6_writeData_134 a0 xp1) (fun k => k (0 : Int32)))
set_option maxHeartbeats 4000000 in
set_option maxRecDepth 100000 in
theorem cnX6_writeData {G : bp_GT} (a0 : Nat) (xp1 : Int32) : bp_Con G iX6_writeData (ws_ iX6_writeData.1 iX6_writeData.2.1 iX6_writeData.2.2.1 iX6_writeData.2.2.2.1) [.ref a0, .int xp1] (PX6_writeData a0 xp1) bp_eU := by
  refine bp_con_of [(0, .ref a0), (1, .int xp1)] rfl (by decide) (Nat.le_of_ble_eq_true rfl) rfl ?_
  unfold PX6_writeData
  refine bp_j_aload_n 0 dX6_writeData_0 rfl ?_
  refine bp_j_getN (t := 4) (k := 3) rfl (by decide) (bp_lk q1083) dX6_writeData_1 (fun _ _ _ => rfl) (fun a1 => ?_)
  refine bp_j_iload_n 1 dX6_writeData_4 rfl ?_
  refine bp_j_iaload dX6_writeData_5 (fun x2 => ?_)
  refine bp_j_istore_n (lv' := [(2, .int x2), (0, .ref a0), (1, .int xp1)]) dX6_writeData_6 (by decide) rfl ?_
  refine bp_j_iload_n 0 dX6_writeData_7 rfl ?_
  refine bp_j_cl_I (bp_ranS (n := 1) (As := [.int x2]) (cnX6_isRegion (G := G) x2) (lw_S q1254 q1255 q82 q1256) ⟨by decide +kernel, by decide +kernel, by decide +kernel⟩ ⟨by decide, by decide⟩ (rest := []) rfl rfl (Nat.le_of_ble_eq_true rfl) dX6_writeData_8) (by decide) (fun x3 => ?_)
  refine bp_j_jm (fun k => bp_J G iX6_writeData (bp_Qn G bp_eU) (k) 132 [(0, .ref a0), (1, .int xp1)] []) (fun k4 hk4 => ?_) ?_
  · refine bp_j_if_eq (tgt := 22) dX6_writeData_11 (by decide) ?_ ?_
    · refine bp_j_iload_n 0 dX6_writeData_22 rfl ?_
      refine bp_j_bipush (v := 48) dX6_writeData_23 (by decide) ?_
      refine bp_j_icmp_ne (tgt := 107) dX6_writeData_25 (by decide) ?_ ?_
      · refine bp_j_iload_n 0 dX6_writeData_107 rfl ?_
        refine bp_j_bipush (v := 50) dX6_writeData_108 (by decide) ?_
        refine bp_j_jm (fun k => bp_J G iX6_writeData (bp_Qn G bp_eU) (k) 119 [(0, .ref a0), (1, .int xp1)] []) (fun k12 hk12 => ?_) ?_
        · refine bp_j_icmp_eq (tgt := 119) dX6_writeData_110 (by decide) ?_ ?_
          · exact bp_j_sub [1, 2] rfl (hk12)
          refine bp_j_iload_n 0 dX6_writeData_113 rfl ?_
          refine bp_j_bipush (v := 62) dX6_writeData_114 (by decide) ?_
          refine bp_j_icmp_ne (tgt := 132) dX6_writeData_116 (by decide) ?_ ?_
          · exact bp_j_sub [1, 2] rfl (hk4)
          exact bp_j_sub [1, 2] rfl (hk12)
        refine bp_j_aload_n 0 dX6_writeData_119 rfl ?_
        refine bp_j_aload_n 0 dX6_writeData_120 rfl ?_
        refine bp_j_getN (t := 4) (k := 10) rfl (by decide) (bp_lk q1090) dX6_writeData_121 (fun _ _ _ => rfl) (fun a13 => ?_)
        refine bp_j_bipush (v := 6) dX6_writeData_124 (by decide) ?_
        refine bp_j_iload_n 1 dX6_writeData_126 rfl ?_
        refine bp_j_imul dX6_writeData_127 ?_
        refine bp_j_iaload dX6_writeData_128 (fun x14 => ?_)
        refine bp_j_cl_U (bp_ranV (t := 4) (n := 1) (As := [.int x14]) (cnX6_putFour (G := G) a0 x14) rfl (lw_V q1310 q1312 qs40 q82 q1313) ⟨rfl, by decide +kernel, by decide +kernel, by decide +kernel⟩ ⟨by decide, by decide⟩ (rest := []) rfl rfl (Nat.le_of_ble_eq_true rfl) dX6_writeData_129) (by decide) (fun _ => ?_)
        exact hk4
      refine bp_j_aload_n 1 dX6_writeData_28 rfl ?_
      refine bp_j_aload_n 1 dX6_writeData_29 rfl ?_
      refine bp_j_getN (t := 4) (k := 10) rfl (by decide) (bp_lk q1090) dX6_writeData_30 (fun _ _ _ => rfl) (fun a15 => ?_)
      refine bp_j_bipush (v := 6) dX6_writeData_33 (by decide) ?_
      refine bp_j_iload_n 2 dX6_writeData_35 rfl ?_
      refine bp_j_imul dX6_writeData_36 ?_
      refine bp_j_iaload dX6_writeData_37 (fun x16 => ?_)
      refine bp_j_cl_U (bp_ranV (t := 4) (n := 1) (As := [.int x16]) (cnX6_putFour (G := G) a0 x16) rfl (lw_V q1310 q1312 qs40 q82 q1313) ⟨rfl, by decide +kernel, by decide +kernel, by decide +kernel⟩ ⟨by decide, by decide⟩ (rest := []) rfl rfl (Nat.le_of_ble_eq_true rfl) dX6_writeData_38) (by decide) (fun _ => ?_)
      refine bp_j_aload_n 1 dX6_writeData_41 rfl ?_
      refine bp_j_aload_n 1 dX6_writeData_42 rfl ?_
      refine bp_j_getN (t := 4) (k := 10) rfl (by decide) (bp_lk q1090) dX6_writeData_43 (fun _ _ _ => rfl) (fun a17 => ?_)
      refine bp_j_bipush (v := 6) dX6_writeData_46 (by decide) ?_
      refine bp_j_iload_n 2 dX6_writeData_48 rfl ?_
      refine bp_j_imul dX6_writeData_49 ?_
      refine bp_j_iconst (v := 1) dX6_writeData_50 (by decide) ?_
      refine bp_j_iadd dX6_writeData_51 ?_
      refine bp_j_iaload dX6_writeData_52 (fun x18 => ?_)
      refine bp_j_jm (fun k => ∀ (x19 : Int32), bp_J G iX6_writeData (bp_Qn G bp_eU) (k x19) 71 [(0, .ref a0), (1, .int xp1)] [.int x19, .ref a0]) (fun k20 hk20 => ?_) (fun x19 => ?_)
      · refine bp_j_if_ne (tgt := 60) dX6_writeData_53 (by decide) ?_ ?_
        · refine bp_j_aload_n 1 dX6_writeData_60 rfl ?_
          refine bp_j_getN (t := 4) (k := 10) rfl (by decide) (bp_lk q1090) dX6_writeData_61 (fun _ _ _ => rfl) (fun a25 => ?_)
          refine bp_j_bipush (v := 6) dX6_writeData_64 (by decide) ?_
          refine bp_j_iload_n 2 dX6_writeData_66 rfl ?_
          refine bp_j_imul dX6_writeData_67 ?_
          refine bp_j_iconst (v := 1) dX6_writeData_68 (by decide) ?_
          refine bp_j_iadd dX6_writeData_69 ?_
          refine bp_j_iaload dX6_writeData_70 (fun x26 => ?_)
          exact bp_j_sub [1, 2] rfl (hk20 x26)
        refine bp_j_iconst (v := -1) dX6_writeData_56 (by decide) ?_
        refine bp_j_goto (tgt := 71) dX6_writeData_57 (by decide) ?_
        exact bp_j_sub [1, 2] rfl (hk20 (-1 : Int32))
      refine bp_j_cl_U (bp_ranV (t := 4) (n := 1) (As := [.int x19]) (cnX6_putFour (G := G) a0 x19) rfl (lw_V q1310 q1312 qs40 q82 q1313) ⟨rfl, by decide +kernel, by decide +kernel, by decide +kernel⟩ ⟨by decide, by decide⟩ (rest := []) rfl rfl (Nat.le_of_ble_eq_true rfl) dX6_writeData_71) (by decide) (fun _ => ?_)
      refine bp_j_aload_n 0 dX6_writeData_74 rfl ?_
      refine bp_j_aload_n 0 dX6_writeData_75 rfl ?_
      refine bp_j_getN (t := 4) (k := 10) rfl (by decide) (bp_lk q1090) dX6_writeData_76 (fun _ _ _ => rfl) (fun a21 => ?_)
      refine bp_j_bipush (v := 6) dX6_writeData_79 (by decide) ?_
      refine bp_j_iload_n 1 dX6_writeData_81 rfl ?_
      refine bp_j_imul dX6_writeData_82 ?_
      refine bp_j_iconst (v := 2) dX6_writeData_83 (by decide) ?_
      refine bp_j_iadd dX6_writeData_84 ?_
      refine bp_j_iaload dX6_writeData_85 (fun x22 => ?_)
      refine bp_j_cl_U (bp_ranV (t := 4) (n := 1) (As := [.int x22]) (cnX6_put (G := G) a0 x22) rfl (lw_V q1306 q1308 qs39 q82 q1309) ⟨rfl, by decide +kernel, by decide +kernel, by decide +kernel⟩ ⟨by decide, by decide⟩ (rest := []) rfl rfl (Nat.le_of_ble_eq_true rfl) dX6_writeData_86) (by decide) (fun _ => ?_)
      refine bp_j_aload_n 0 dX6_writeData_89 rfl ?_
      refine bp_j_aload_n 0 dX6_writeData_90 rfl ?_
      refine bp_j_getN (t := 4) (k := 10) rfl (by decide) (bp_lk q1090) dX6_writeData_91 (fun _ _ _ => rfl) (fun a23 => ?_)
      refine bp_j_bipush (v := 6) dX6_writeData_94 (by decide) ?_
      refine bp_j_iload_n 1 dX6_writeData_96 rfl ?_
      refine bp_j_imul dX6_writeData_97 ?_
      refine bp_j_iconst (v := 3) dX6_writeData_98 (by decide) ?_
      refine bp_j_iadd dX6_writeData_99 ?_
      refine bp_j_iaload dX6_writeData_100 (fun x24 => ?_)
      refine bp_j_cl_U (bp_ranV (t := 4) (n := 1) (As := [.int x24]) (cnX6_put (G := G) a0 x24) rfl (lw_V q1306 q1308 qs39 q82 q1309) ⟨rfl, by decide +kernel, by decide +kernel, by decide +kernel⟩ ⟨by decide, by decide⟩ (rest := []) rfl rfl (Nat.le_of_ble_eq_true rfl) dX6_writeData_101) (by decide) (fun _ => ?_)
      refine bp_j_goto (tgt := 132) dX6_writeData_104 (by decide) ?_
      exact hk4
    refine bp_j_aload_n 1 dX6_writeData_14 rfl ?_
    refine bp_j_iload_n 2 dX6_writeData_15 rfl ?_
    refine bp_j_cl_U (bp_ranV (t := 4) (n := 1) (As := [.int xp1]) (cnX6_writeRegion (G := G) a0 xp1) rfl (lw_V q1330 q1332 qs45 q82 q1333) ⟨rfl, by decide +kernel, by decide +kernel, by decide +kernel⟩ ⟨by decide, by decide⟩ (rest := []) rfl rfl (Nat.le_of_ble_eq_true rfl) dX6_writeData_16) (by decide) (fun _ => ?_)
    refine bp_j_goto (tgt := 132) dX6_writeData_19 (by decide) ?_
    exact bp_j_sub [1, 2] rfl (hk4)
  refine bp_j_iconst (v := 0) dX6_writeData_132 (by decide) ?_
  refine bp_j_istore_n (lv' := [(3, .int (0 : Int32)), (0, .ref a0), (1, .int xp1)]) dX6_writeData_133 (by decide) rfl ?_
  refine bp_j_loop (fun k => ∀ (x5 : Int32), bp_J G iX6_writeData (bp_Qn G bp_eU) (k x5) 134 [(0, .ref a0), (1, .int xp1), (3, .int x5)] []) (fun _ => bp_j_no) (fun k6 hk6 x5 => ?_) (fun k h => bp_j_sub [1, 2, 0] rfl (h (0 : Int32)))
  unfold BX6_writeData_134
  refine bp_j_iload_n 2 dX6_writeData_134 rfl ?_
  refine bp_j_aload_n 0 dX6_writeData_135 rfl ?_
  refine bp_j_getN (t := 4) (k := 8) rfl (by decide) (bp_lk q1088) dX6_writeData_136 (fun _ _ _ => rfl) (fun a7 => ?_)
  refine bp_j_iload_n 1 dX6_writeData_139 rfl ?_
  refine bp_j_iaload dX6_writeData_140 (fun x8 => ?_)
  refine bp_j_icmp_ge (tgt := 165) dX6_writeData_141 (by decide) ?_ ?_
  · exact bp_j_vret rfl dX6_writeData_165
  refine bp_j_aload_n 0 dX6_writeData_144 rfl ?_
  refine bp_j_aload_n 0 dX6_writeData_145 rfl ?_
  refine bp_j_getN (t := 4) (k := 9) rfl (by decide) (bp_lk q1089) dX6_writeData_146 (fun _ _ _ => rfl) (fun a9 => ?_)
  refine bp_j_bipush (v := 20) dX6_writeData_149 (by decide) ?_
  refine bp_j_iload_n 1 dX6_writeData_151 rfl ?_
  refine bp_j_imul dX6_writeData_152 ?_
  refine bp_j_iload_n 2 dX6_writeData_153 rfl ?_
  refine bp_j_iadd dX6_writeData_154 ?_
  refine bp_j_iaload dX6_writeData_155 (fun x10 => ?_)
  refine bp_j_cl_U (bp_ranV (t := 4) (n := 1) (As := [.int x10]) (cnX6_put (G := G) a0 x10) rfl (lw_V q1306 q1308 qs39 q82 q1309) ⟨rfl, by decide +kernel, by decide +kernel, by decide +kernel⟩ ⟨by decide, by decide⟩ (rest := []) rfl rfl (Nat.le_of_ble_eq_true rfl) dX6_writeData_156) (by decide) (fun _ => ?_)
  refine bp_j_iincL (lv' := fun x11 => [(3, .int x11), (0, .ref a0), (1, .int xp1)]) 2 dX6_writeData_159 rfl (by decide) (by decide) (fun _ => rfl) (fun x11 => ?_)
  refine bp_j_goto (tgt := 134) dX6_writeData_162 (by decide) ?_
  exact bp_j_sub [1, 2, 0] rfl (hk6 x11)
/-- BilevelPagesModel.dataSize(I)I -/
abbrev iX6_dataSize : bp_MI := (yX6_dataSize, cX6_dataSize, 4, some (Jvm.ClassFile.FieldType.int), [], 1, 20)
def PX6_dataSize (a0 : Nat) (xp1 : Int32) : bp_M Int32 :=
  bp_getN 4 10 a0 fun a1 =>
  bp_aldI 20 a1 ((6 : Int32) * xp1) fun x2 =>
  bp_getN 4 3 a0 fun a3 =>
  bp_aldI 20 a3 xp1 fun x4 =>
  bp_bind (PX6_isRegion x4) fun x5 =>
  bp_if (x5 = 0) (
  bp_if (x4 = (48 : Int32)) (
  bp_ret (10 : Int32)) (
  bp_if (x4 = (50 : Int32)) (
  bp_ret (4 : Int32)) (
  bp_if (x4 = (62 : Int32)) (
  bp_getN 4 8 a0 fun a9 =>
  bp_aldI 20 a9 xp1 fun x10 =>
  bp_ret ((4 : Int32) + x10)) (
  bp_bind (PX6_hasBytes x4) fun x6 =>
  bp_if (x6 = 0) (
  bp_ret (0 : Int32)) (
  bp_getN 4 8 a0 fun a7 =>
  bp_aldI 20 a7 xp1 fun x8 =>
  bp_ret x8))))) (
  bp_getN 4 10 a0 fun a11 =>
  bp_aldI 20 a11 (((6 : Int32) * xp1) + (1 : Int32)) fun x12 =>
  bp_nz (8 : Int32) <|
  bp_ret ((17 : Int32) + (x12 * ((x2 + (7 : Int32)) / (8 : Int32)))))
set_option maxHeartbeats 4000000 in
set_option maxRecDepth 100000 in
theorem cnX6_dataSize {G : bp_GT} (a0 : Nat) (xp1 : Int32) : bp_Con G iX6_dataSize (ws_ iX6_dataSize.1 iX6_dataSize.2.1 iX6_dataSize.2.2.1 iX6_dataSize.2.2.2.1) [.ref a0, .int xp1] (PX6_dataSize a0 xp1) bp_eI := by
  refine bp_con_of [(0, .ref a0), (1, .int xp1)] rfl (by decide) (Nat.le_of_ble_eq_true rfl) rfl ?_
  unfold PX6_dataSize
  refine bp_j_aload_n 0 dX6_dataSize_0 rfl ?_
  refine bp_j_getN (t := 4) (k := 10) rfl (by decide) (bp_lk q1090) dX6_dataSize_1 (fun _ _ _ => rfl) (fun a1 => ?_)
  refine bp_j_bipush (v := 6) dX6_dataSize_4 (by decide) ?_
  refine bp_j_iload_n 1 dX6_dataSize_6 rfl ?_
  refine bp_j_imul dX6_dataSize_7 ?_
  refine bp_j_iaload dX6_dataSize_8 (fun x2 => ?_)
  refine bp_j_istore_n (lv' := [(2, .int x2), (0, .ref a0), (1, .int xp1)]) dX6_dataSize_9 (by decide) rfl ?_
  refine bp_j_aload_n 1 dX6_dataSize_10 rfl ?_
  refine bp_j_getN (t := 4) (k := 3) rfl (by decide) (bp_lk q1083) dX6_dataSize_11 (fun _ _ _ => rfl) (fun a3 => ?_)
  refine bp_j_iload_n 2 dX6_dataSize_14 rfl ?_
  refine bp_j_iaload dX6_dataSize_15 (fun x4 => ?_)
  refine bp_j_istore_n (lv' := [(3, .int x4), (2, .int x2), (0, .ref a0), (1, .int xp1)]) dX6_dataSize_16 (by decide) rfl ?_
  refine bp_j_iload_n 0 dX6_dataSize_17 rfl ?_
  refine bp_j_cl_I (bp_ranS (n := 1) (As := [.int x4]) (cnX6_isRegion (G := G) x4) (lw_S q1254 q1255 q82 q1256) ⟨by decide +kernel, by decide +kernel, by decide +kernel⟩ ⟨by decide, by decide⟩ (rest := []) rfl rfl (Nat.le_of_ble_eq_true rfl) dX6_dataSize_18) (by decide) (fun x5 => ?_)
  refine bp_j_if_eq (tgt := 47) dX6_dataSize_21 (by decide) ?_ ?_
  · refine bp_j_iload_n 0 dX6_dataSize_47 rfl ?_
    refine bp_j_bipush (v := 48) dX6_dataSize_48 (by decide) ?_
    refine bp_j_icmp_ne (tgt := 58) dX6_dataSize_50 (by decide) ?_ ?_
    · refine bp_j_iload_n 0 dX6_dataSize_58 rfl ?_
      refine bp_j_bipush (v := 50) dX6_dataSize_59 (by decide) ?_
      refine bp_j_icmp_ne (tgt := 68) dX6_dataSize_61 (by decide) ?_ ?_
      · refine bp_j_iload_n 0 dX6_dataSize_68 rfl ?_
        refine bp_j_bipush (v := 62) dX6_dataSize_69 (by decide) ?_
        refine bp_j_icmp_ne (tgt := 85) dX6_dataSize_71 (by decide) ?_ ?_
        · refine bp_j_iload_n 0 dX6_dataSize_85 rfl ?_
          refine bp_j_cl_I (bp_ranS (n := 1) (As := [.int x4]) (cnX6_hasBytes (G := G) x4) (lw_S q1285 q1286 q82 q1287) ⟨by decide +kernel, by decide +kernel, by decide +kernel⟩ ⟨by decide, by decide⟩ (rest := []) rfl rfl (Nat.le_of_ble_eq_true rfl) dX6_dataSize_86) (by decide) (fun x6 => ?_)
          refine bp_j_if_eq (tgt := 101) dX6_dataSize_89 (by decide) ?_ ?_
          · refine bp_j_iconst (v := 0) dX6_dataSize_101 (by decide) ?_
            exact bp_j_iret rfl dX6_dataSize_102
          refine bp_j_aload_n 2 dX6_dataSize_92 rfl ?_
          refine bp_j_getN (t := 4) (k := 8) rfl (by decide) (bp_lk q1088) dX6_dataSize_93 (fun _ _ _ => rfl) (fun a7 => ?_)
          refine bp_j_iload_n 3 dX6_dataSize_96 rfl ?_
          refine bp_j_iaload dX6_dataSize_97 (fun x8 => ?_)
          refine bp_j_goto (tgt := 102) dX6_dataSize_98 (by decide) ?_
          exact bp_j_iret rfl dX6_dataSize_102
        refine bp_j_iconst (v := 4) dX6_dataSize_74 (by decide) ?_
        refine bp_j_aload_n 2 dX6_dataSize_75 rfl ?_
        refine bp_j_getN (t := 4) (k := 8) rfl (by decide) (bp_lk q1088) dX6_dataSize_76 (fun _ _ _ => rfl) (fun a9 => ?_)
        refine bp_j_iload_n 3 dX6_dataSize_79 rfl ?_
        refine bp_j_iaload dX6_dataSize_80 (fun x10 => ?_)
        refine bp_j_iadd dX6_dataSize_81 ?_
        refine bp_j_goto (tgt := 102) dX6_dataSize_82 (by decide) ?_
        exact bp_j_iret rfl dX6_dataSize_102
      refine bp_j_iconst (v := 4) dX6_dataSize_64 (by decide) ?_
      refine bp_j_goto (tgt := 102) dX6_dataSize_65 (by decide) ?_
      exact bp_j_iret rfl dX6_dataSize_102
    refine bp_j_bipush (v := 10) dX6_dataSize_53 (by decide) ?_
    refine bp_j_goto (tgt := 102) dX6_dataSize_55 (by decide) ?_
    exact bp_j_iret rfl dX6_dataSize_102
  refine bp_j_bipush (v := 17) dX6_dataSize_24 (by decide) ?_
  refine bp_j_aload_n 2 dX6_dataSize_26 rfl ?_
  refine bp_j_getN (t := 4) (k := 10) rfl (by decide) (bp_lk q1090) dX6_dataSize_27 (fun _ _ _ => rfl) (fun a11 => ?_)
  refine bp_j_bipush (v := 6) dX6_dataSize_30 (by decide) ?_
  refine bp_j_iload_n 3 dX6_dataSize_32 rfl ?_
  refine bp_j_imul dX6_dataSize_33 ?_
  refine bp_j_iconst (v := 1) dX6_dataSize_34 (by decide) ?_
  refine bp_j_iadd dX6_dataSize_35 ?_
  refine bp_j_iaload dX6_dataSize_36 (fun x12 => ?_)
  refine bp_j_iload_n 1 dX6_dataSize_37 rfl ?_
  refine bp_j_bipush (v := 7) dX6_dataSize_38 (by decide) ?_
  refine bp_j_iadd dX6_dataSize_40 ?_
  refine bp_j_bipush (v := 8) dX6_dataSize_41 (by decide) ?_
  refine bp_j_idiv dX6_dataSize_43 ?_
  refine bp_j_imul dX6_dataSize_44 ?_
  refine bp_j_iadd dX6_dataSize_45 ?_
  exact bp_j_iret rfl dX6_dataSize_46
/-- BilevelPagesModel.writeHead(I)V -/
abbrev iX6_writeHead : bp_MI := (yX6_writeHead, cX6_writeHead, 5, none, [], 2, 43)
def BX6_writeHead_95 (a0 : Nat) (xp1 : Int32) (x2 : Int32) (k9 : bp_M Unit) (k17 : Int32 → bp_M Unit) : Int32 → bp_M Unit :=
  fun x16 =>
  bp_if (x2 ≤ x16) (
  k9) (
  bp_getN 4 6 a0 fun a18 =>
  bp_aldI 20 a18 (((10 : Int32) * xp1) + x16) fun x19 =>
  bp_bind (bp_is 4 a0 (PX6_put a0 x19)) fun _ =>
  bp_letI (x16 + (1 : Int32)) fun x20 =>
  k17 x20)
def PX6_writeHead (a0 : Nat) (xp1 : Int32) : bp_M Unit :=
  bp_getN 4 5 a0 fun a1 =>
  bp_aldI 20 a1 xp1 fun x2 =>
  bp_getN 4 7 a0 fun a3 =>
  bp_aldI 20 a3 xp1 fun x4 =>
  bp_letI ((((1 : Int32) <<< ((x2 + (1 : Int32)) &&& 31)) - (1 : Int32)) &&& (x4 ^^^ (-1 : Int32))) fun x5 =>
  bp_bind (bp_is 4 a0 (PX6_putFour a0 xp1)) fun _ =>
  bp_getN 4 3 a0 fun a6 =>
  bp_aldI 20 a6 xp1 fun x7 =>
  bp_bind (bp_is 4 a0 (PX6_put a0 x7)) fun _ =>
  bp_jn (fun (k8 : bp_M Unit) =>
  bp_if ((5 : Int32) ≤ x2) (
  bp_bind (bp_is 4 a0 (PX6_put a0 (224 : Int32))) fun _ =>
  bp_bind (bp_is 4 a0 (PX6_put a0 (0 : Int32))) fun _ =>
  bp_bind (bp_is 4 a0 (PX6_put a0 (0 : Int32))) fun _ =>
  bp_bind (bp_is 4 a0 (PX6_put a0 x2)) fun _ =>
  bp_bind (bp_is 4 a0 (PX6_put a0 x5)) fun _ =>
  bp_bind (bp_is 4 a0 (PX6_put a0 (x5 >>> ((8 : Int32) &&& 31)))) fun _ =>
  k8) (
  bp_bind (bp_is 4 a0 (PX6_put a0 (((32 : Int32) * x2) + x5))) fun _ =>
  k8)) (bp_jn (fun (k9 : bp_M Unit) =>
  bp_loop (fun _ => bp_no) (BX6_writeHead_95 a0 xp1 x2 k9) (fun k => k (0 : Int32))) (bp_getN 4 4 a0 fun a10 =>
  bp_aldI 20 a10 xp1 fun x11 =>
  bp_bind (bp_is 4 a0 (PX6_put a0 x11)) fun _ =>
  bp_bind (bp_is 4 a0 (PX6_isOpen a0 xp1)) fun x12 =>
  bp_jn (fun (k14 : Int32 → bp_M Unit) =>
  bp_if (x12 = 0) (
  bp_bind (bp_is 4 a0 (PX6_dataSize a0 xp1)) fun x15 =>
  k14 x15) (
  k14 (-1 : Int32))) (fun (x13 : Int32) =>
  bp_bind (bp_is 4 a0 (PX6_putFour a0 x13)) fun _ =>
  bp_ret ())))
set_option maxHeartbeats 4000000 in
set_option maxRecDepth 100000 in
theorem cnX6_writeHead {G : bp_GT} (a0 : Nat) (xp1 : Int32) : bp_Con G iX6_writeHead (ws_ iX6_writeHead.1 iX6_writeHead.2.1 iX6_writeHead.2.2.1 iX6_writeHead.2.2.2.1) [.ref a0, .int xp1] (PX6_writeHead a0 xp1) bp_eU := by
  refine bp_con_of [(0, .ref a0), (1, .int xp1)] rfl (by decide) (Nat.le_of_ble_eq_true rfl) rfl ?_
  unfold PX6_writeHead
  refine bp_j_aload_n 0 dX6_writeHead_0 rfl ?_
  refine bp_j_getN (t := 4) (k := 5) rfl (by decide) (bp_lk q1085) dX6_writeHead_1 (fun _ _ _ => rfl) (fun a1 => ?_)
  refine bp_j_iload_n 1 dX6_writeHead_4 rfl ?_
  refine bp_j_iaload dX6_writeHead_5 (fun x2 => ?_)
  refine bp_j_istore_n (lv' := [(2, .int x2), (0, .ref a0), (1, .int xp1)]) dX6_writeHead_6 (by decide) rfl ?_
  refine bp_j_iconst (v := 1) dX6_writeHead_7 (by decide) ?_
  refine bp_j_iload_n 0 dX6_writeHead_8 rfl ?_
  refine bp_j_iconst (v := 1) dX6_writeHead_9 (by decide) ?_
  refine bp_j_iadd dX6_writeHead_10 ?_
  refine bp_j_ishl dX6_writeHead_11 ?_
  refine bp_j_iconst (v := 1) dX6_writeHead_12 (by decide) ?_
  refine bp_j_isub dX6_writeHead_13 ?_
  refine bp_j_aload_n 1 dX6_writeHead_14 rfl ?_
  refine bp_j_getN (t := 4) (k := 7) rfl (by decide) (bp_lk q1087) dX6_writeHead_15 (fun _ _ _ => rfl) (fun a3 => ?_)
  refine bp_j_iload_n 2 dX6_writeHead_18 rfl ?_
  refine bp_j_iaload dX6_writeHead_19 (fun x4 => ?_)
  refine bp_j_iconst (v := -1) dX6_writeHead_20 (by decide) ?_
  refine bp_j_ixor dX6_writeHead_21 ?_
  refine bp_j_iand dX6_writeHead_22 ?_
  refine bp_j_letI (fun x5 => ?_)
  refine bp_j_istore_n (lv' := [(3, .int x5), (2, .int x2), (0, .ref a0), (1, .int xp1)]) dX6_writeHead_23 (by decide) rfl ?_
  refine bp_j_aload_n 2 dX6_writeHead_24 rfl ?_
  refine bp_j_iload_n 3 dX6_writeHead_25 rfl ?_
  refine bp_j_cl_U (bp_ranV (t := 4) (n := 1) (As := [.int xp1]) (cnX6_putFour (G := G) a0 xp1) rfl (lw_V q1310 q1312 qs40 q82 q1313) ⟨rfl, by decide +kernel, by decide +kernel, by decide +kernel⟩ ⟨by decide, by decide⟩ (rest := []) rfl rfl (Nat.le_of_ble_eq_true rfl) dX6_writeHead_26) (by decide) (fun _ => ?_)
  refine bp_j_aload_n 2 dX6_writeHead_29 rfl ?_
  refine bp_j_aload_n 2 dX6_writeHead_30 rfl ?_
  refine bp_j_getN (t := 4) (k := 3) rfl (by decide) (bp_lk q1083) dX6_writeHead_31 (fun _ _ _ => rfl) (fun a6 => ?_)
  refine bp_j_iload_n 3 dX6_writeHead_34 rfl ?_
  refine bp_j_iaload dX6_writeHead_35 (fun x7 => ?_)
  refine bp_j_cl_U (bp_ranV (t := 4) (n := 1) (As := [.int x7]) (cnX6_put (G := G) a0 x7) rfl (lw_V q1306 q1308 qs39 q82 q1309) ⟨rfl, by decide +kernel, by decide +kernel, by decide +kernel⟩ ⟨by decide, by decide⟩ (rest := []) rfl rfl (Nat.le_of_ble_eq_true rfl) dX6_writeHead_36) (by decide) (fun _ => ?_)
  refine bp_j_iload_n 1 dX6_writeHead_39 rfl ?_
  refine bp_j_iconst (v := 5) dX6_writeHead_40 (by decide) ?_
  refine bp_j_jm (fun k => bp_J G iX6_writeHead (bp_Qn G bp_eU) (k) 92 [(0, .ref a0), (1, .int xp1), (2, .int x2)] []) (fun k8 hk8 => ?_) ?_
  · refine bp_j_icmp_ge (tgt := 57) dX6_writeHead_41 (by decide) ?_ ?_
    · refine bp_j_aload_n 2 dX6_writeHead_57 rfl ?_
      refine bp_j_sipush (v := 224) dX6_writeHead_58 (by decide) ?_
      refine bp_j_cl_U (bp_ranV (t := 4) (n := 1) (As := [.int (224 : Int32)]) (cnX6_put (G := G) a0 (224 : Int32)) rfl (lw_V q1306 q1308 qs39 q82 q1309) ⟨rfl, by decide +kernel, by decide +kernel, by decide +kernel⟩ ⟨by decide, by decide⟩ (rest := []) rfl rfl (Nat.le_of_ble_eq_true rfl) dX6_writeHead_61) (by decide) (fun _ => ?_)
      refine bp_j_aload_n 2 dX6_writeHead_64 rfl ?_
      refine bp_j_iconst (v := 0) dX6_writeHead_65 (by decide) ?_
      refine bp_j_cl_U (bp_ranV (t := 4) (n := 1) (As := [.int (0 : Int32)]) (cnX6_put (G := G) a0 (0 : Int32)) rfl (lw_V q1306 q1308 qs39 q82 q1309) ⟨rfl, by decide +kernel, by decide +kernel, by decide +kernel⟩ ⟨by decide, by decide⟩ (rest := []) rfl rfl (Nat.le_of_ble_eq_true rfl) dX6_writeHead_66) (by decide) (fun _ => ?_)
      refine bp_j_aload_n 2 dX6_writeHead_69 rfl ?_
      refine bp_j_iconst (v := 0) dX6_writeHead_70 (by decide) ?_
      refine bp_j_cl_U (bp_ranV (t := 4) (n := 1) (As := [.int (0 : Int32)]) (cnX6_put (G := G) a0 (0 : Int32)) rfl (lw_V q1306 q1308 qs39 q82 q1309) ⟨rfl, by decide +kernel, by decide +kernel, by decide +kernel⟩ ⟨by decide, by decide⟩ (rest := []) rfl rfl (Nat.le_of_ble_eq_true rfl) dX6_writeHead_71) (by decide) (fun _ => ?_)
      refine bp_j_aload_n 2 dX6_writeHead_74 rfl ?_
      refine bp_j_iload_n 1 dX6_writeHead_75 rfl ?_
      refine bp_j_cl_U (bp_ranV (t := 4) (n := 1) (As := [.int x2]) (cnX6_put (G := G) a0 x2) rfl (lw_V q1306 q1308 qs39 q82 q1309) ⟨rfl, by decide +kernel, by decide +kernel, by decide +kernel⟩ ⟨by decide, by decide⟩ (rest := []) rfl rfl (Nat.le_of_ble_eq_true rfl) dX6_writeHead_76) (by decide) (fun _ => ?_)
      refine bp_j_aload_n 2 dX6_writeHead_79 rfl ?_
      refine bp_j_iload_n 0 dX6_writeHead_80 rfl ?_
      refine bp_j_cl_U (bp_ranV (t := 4) (n := 1) (As := [.int x5]) (cnX6_put (G := G) a0 x5) rfl (lw_V q1306 q1308 qs39 q82 q1309) ⟨rfl, by decide +kernel, by decide +kernel, by decide +kernel⟩ ⟨by decide, by decide⟩ (rest := []) rfl rfl (Nat.le_of_ble_eq_true rfl) dX6_writeHead_81) (by decide) (fun _ => ?_)
      refine bp_j_aload_n 2 dX6_writeHead_84 rfl ?_
      refine bp_j_iload_n 0 dX6_writeHead_85 rfl ?_
      refine bp_j_bipush (v := 8) dX6_writeHead_86 (by decide) ?_
      refine bp_j_ishr dX6_writeHead_88 ?_
      refine bp_j_cl_U (bp_ranV (t := 4) (n := 1) (As := [.int (x5 >>> ((8 : Int32) &&& 31))]) (cnX6_put (G := G) a0 (x5 >>> ((8 : Int32) &&& 31))) rfl (lw_V q1306 q1308 qs39 q82 q1309) ⟨rfl, by decide +kernel, by decide +kernel, by decide +kernel⟩ ⟨by decide, by decide⟩ (rest := []) rfl rfl (Nat.le_of_ble_eq_true rfl) dX6_writeHead_89) (by decide) (fun _ => ?_)
      exact bp_j_sub [2, 3, 1] rfl (hk8)
    refine bp_j_aload_n 2 dX6_writeHead_44 rfl ?_
    refine bp_j_bipush (v := 32) dX6_writeHead_45 (by decide) ?_
    refine bp_j_iload_n 1 dX6_writeHead_47 rfl ?_
    refine bp_j_imul dX6_writeHead_48 ?_
    refine bp_j_iload_n 0 dX6_writeHead_49 rfl ?_
    refine bp_j_iadd dX6_writeHead_50 ?_
    refine bp_j_cl_U (bp_ranV (t := 4) (n := 1) (As := [.int (((32 : Int32) * x2) + x5)]) (cnX6_put (G := G) a0 (((32 : Int32) * x2) + x5)) rfl (lw_V q1306 q1308 qs39 q82 q1309) ⟨rfl, by decide +kernel, by decide +kernel, by decide +kernel⟩ ⟨by decide, by decide⟩ (rest := []) rfl rfl (Nat.le_of_ble_eq_true rfl) dX6_writeHead_51) (by decide) (fun _ => ?_)
    refine bp_j_goto (tgt := 92) dX6_writeHead_54 (by decide) ?_
    exact bp_j_sub [2, 3, 1] rfl (hk8)
  refine bp_j_iconst (v := 0) dX6_writeHead_92 (by decide) ?_
  refine bp_j_istore (lv' := [(4, .int (0 : Int32)), (0, .ref a0), (1, .int xp1), (2, .int x2)]) dX6_writeHead_93 (by decide) rfl ?_
  refine bp_j_jm (fun k => bp_J G iX6_writeHead (bp_Qn G bp_eU) (k) 123 [(0, .ref a0), (1, .int xp1)] []) (fun k9 hk9 => ?_) ?_
  · refine bp_j_loop (fun k => ∀ (x16 : Int32), bp_J G iX6_writeHead (bp_Qn G bp_eU) (k x16) 95 [(0, .ref a0), (1, .int xp1), (2, .int x2), (4, .int x16)] []) (fun _ => bp_j_no) (fun k17 hk17 x16 => ?_) (fun k h => bp_j_sub [1, 2, 3, 0] rfl (h (0 : Int32)))
    unfold BX6_writeHead_95
    refine bp_j_iload 3 dX6_writeHead_95 rfl ?_
    refine bp_j_iload_n 2 dX6_writeHead_97 rfl ?_
    refine bp_j_icmp_ge (tgt := 123) dX6_writeHead_98 (by decide) ?_ ?_
    · exact bp_j_sub [0, 1] rfl (hk9)
    refine bp_j_aload_n 0 dX6_writeHead_101 rfl ?_
    refine bp_j_aload_n 0 dX6_writeHead_102 rfl ?_
    refine bp_j_getN (t := 4) (k := 6) rfl (by decide) (bp_lk q1086) dX6_writeHead_103 (fun _ _ _ => rfl) (fun a18 => ?_)
    refine bp_j_bipush (v := 10) dX6_writeHead_106 (by decide) ?_
    refine bp_j_iload_n 1 dX6_writeHead_108 rfl ?_
    refine bp_j_imul dX6_writeHead_109 ?_
    refine bp_j_iload 3 dX6_writeHead_110 rfl ?_
    refine bp_j_iadd dX6_writeHead_112 ?_
    refine bp_j_iaload dX6_writeHead_113 (fun x19 => ?_)
    refine bp_j_cl_U (bp_ranV (t := 4) (n := 1) (As := [.int x19]) (cnX6_put (G := G) a0 x19) rfl (lw_V q1306 q1308 qs39 q82 q1309) ⟨rfl, by decide +kernel, by decide +kernel, by decide +kernel⟩ ⟨by decide, by decide⟩ (rest := []) rfl rfl (Nat.le_of_ble_eq_true rfl) dX6_writeHead_114) (by decide) (fun _ => ?_)
    refine bp_j_iincL (lv' := fun x20 => [(4, .int x20), (0, .ref a0), (1, .int xp1), (2, .int x2)]) 3 dX6_writeHead_117 rfl (by decide) (by decide) (fun _ => rfl) (fun x20 => ?_)
    refine bp_j_goto (tgt := 95) dX6_writeHead_120 (by decide) ?_
    exact bp_j_sub [1, 2, 3, 0] rfl (hk17 x20)
  refine bp_j_aload_n 0 dX6_writeHead_123 rfl ?_
  refine bp_j_aload_n 0 dX6_writeHead_124 rfl ?_
  refine bp_j_getN (t := 4) (k := 4) rfl (by decide) (bp_lk q1084) dX6_writeHead_125 (fun _ _ _ => rfl) (fun a10 => ?_)
  refine bp_j_iload_n 1 dX6_writeHead_128 rfl ?_
  refine bp_j_iaload dX6_writeHead_129 (fun x11 => ?_)
  refine bp_j_cl_U (bp_ranV (t := 4) (n := 1) (As := [.int x11]) (cnX6_put (G := G) a0 x11) rfl (lw_V q1306 q1308 qs39 q82 q1309) ⟨rfl, by decide +kernel, by decide +kernel, by decide +kernel⟩ ⟨by decide, by decide⟩ (rest := []) rfl rfl (Nat.le_of_ble_eq_true rfl) dX6_writeHead_130) (by decide) (fun _ => ?_)
  refine bp_j_aload_n 0 dX6_writeHead_133 rfl ?_
  refine bp_j_aload_n 0 dX6_writeHead_134 rfl ?_
  refine bp_j_iload_n 1 dX6_writeHead_135 rfl ?_
  refine bp_j_cl_I (bp_ranV (t := 4) (n := 1) (As := [.int xp1]) (cnX6_isOpen (G := G) a0 xp1) rfl (lw_V q1318 q1320 qs42 q82 q1321) ⟨rfl, by decide +kernel, by decide +kernel, by decide +kernel⟩ ⟨by decide, by decide⟩ (rest := [.ref a0]) rfl rfl (Nat.le_of_ble_eq_true rfl) dX6_writeHead_136) (by decide) (fun x12 => ?_)
  refine bp_j_jm (fun k => ∀ (x13 : Int32), bp_J G iX6_writeHead (bp_Qn G bp_eU) (k x13) 151 [] [.int x13, .ref a0]) (fun k14 hk14 => ?_) (fun x13 => ?_)
  · refine bp_j_if_eq (tgt := 146) dX6_writeHead_139 (by decide) ?_ ?_
    · refine bp_j_aload_n 0 dX6_writeHead_146 rfl ?_
      refine bp_j_iload_n 1 dX6_writeHead_147 rfl ?_
      refine bp_j_cl_I (bp_ranV (t := 4) (n := 1) (As := [.int xp1]) (cnX6_dataSize (G := G) a0 xp1) rfl (lw_V q1322 q1324 qs43 q82 q1325) ⟨rfl, by decide +kernel, by decide +kernel, by decide +kernel⟩ ⟨by decide, by decide⟩ (rest := [.ref a0]) rfl rfl (Nat.le_of_ble_eq_true rfl) dX6_writeHead_148) (by decide) (fun x15 => ?_)
      exact bp_j_sub [] rfl (hk14 x15)
    refine bp_j_iconst (v := -1) dX6_writeHead_142 (by decide) ?_
    refine bp_j_goto (tgt := 151) dX6_writeHead_143 (by decide) ?_
    exact bp_j_sub [] rfl (hk14 (-1 : Int32))
  refine bp_j_cl_U (bp_ranV (t := 4) (n := 1) (As := [.int x13]) (cnX6_putFour (G := G) a0 x13) rfl (lw_V q1310 q1312 qs40 q82 q1313) ⟨rfl, by decide +kernel, by decide +kernel, by decide +kernel⟩ ⟨by decide, by decide⟩ (rest := []) rfl rfl (Nat.le_of_ble_eq_true rfl) dX6_writeHead_151) (by decide) (fun _ => ?_)
  exact bp_j_vret rfl dX6_writeHead_154
/-- BilevelPagesModel.write(I)I -/
abbrev iX6_write : bp_MI := (yX6_write, cX6_write, 6, some (Jvm.ClassFile.FieldType.int), [], 4, 93)
def BX6_write_143 (a0 : Nat) (xp1 : Int32) (x10 : Int32) (k15 : bp_M Int32) (k18 : Int32 → bp_M Int32) : Int32 → bp_M Int32 :=
  fun x17 =>
  bp_getI 4 2 a0 fun x19 =>
  bp_if (x19 ≤ x17) (
  k15) (
  bp_getI 4 1 a0 fun x20 =>
  bp_jn (fun (k22 : Int32 → bp_M Int32) =>
  bp_if (x20 < (2 : Int32)) (
  k22 (1 : Int32)) (
  bp_jn (fun (k29 : Int32 → bp_M Int32) =>
  bp_if (xp1 = (1 : Int32)) (
  k29 (1 : Int32)) (
  k29 (0 : Int32))) (fun (x28 : Int32) =>
  bp_getN 4 4 a0 fun a30 =>
  bp_aldI 20 a30 x17 fun x31 =>
  bp_jn (fun (k33 : Int32 → bp_M Int32) =>
  bp_if (x31 = 0) (
  k33 (1 : Int32)) (
  k33 (0 : Int32))) (fun (x32 : Int32) =>
  bp_if (x28 = x32) (
  k22 (1 : Int32)) (
  k22 (0 : Int32)))))) (fun (x21 : Int32) =>
  bp_jn (fun (k23 : bp_M Int32) =>
  bp_if (x21 = 0) (
  k23) (
  bp_if (x10 = 0) (
  bp_bind (bp_is 4 a0 (PX6_writeHead a0 x17)) fun _ =>
  k23) (
  k23))) (bp_jn (fun (k24 : bp_M Int32) =>
  bp_if (x21 = 0) (
  k24) (
  bp_getI 4 1 a0 fun x26 =>
  bp_jn (fun (k27 : bp_M Int32) =>
  bp_if (x26 = (1 : Int32)) (
  bp_if (x10 = (1 : Int32)) (
  k27) (
  k24)) (
  k27)) (bp_bind (bp_is 4 a0 (PX6_writeData a0 x17)) fun _ =>
  k24))) (bp_letI (x17 + (1 : Int32)) fun x25 =>
  k18 x25))))
def BX6_write_123 (a0 : Nat) (xp1 : Int32) (k8 : bp_M Int32) (k11 : Int32 → bp_M Int32) : Int32 → bp_M Int32 :=
  fun x10 =>
  bp_getI 4 1 a0 fun x12 =>
  bp_jn (fun (k14 : Int32 → bp_M Int32) =>
  bp_if (x12 = (1 : Int32)) (
  k14 (2 : Int32)) (
  k14 (1 : Int32))) (fun (x13 : Int32) =>
  bp_if (x13 ≤ x10) (
  k8) (
  bp_jn (fun (k15 : bp_M Int32) =>
  bp_loop (fun _ => bp_no) (BX6_write_143 a0 xp1 x10 k15) (fun k => k (0 : Int32))) (bp_letI (x10 + (1 : Int32)) fun x16 =>
  k11 x16)))
def BX6_write_86 (a0 : Nat) (k34 : bp_M Int32) (k37 : Int32 → bp_M Int32) : Int32 → bp_M Int32 :=
  fun x36 =>
  bp_if ((8 : Int32) ≤ x36) (
  k34) (
  bp_bind (PX6_magic x36) fun x38 =>
  bp_bind (bp_is 4 a0 (PX6_put a0 x38)) fun _ =>
  bp_letI (x36 + (1 : Int32)) fun x39 =>
  k37 x39)
def BX6_write_43 (a0 : Nat) (k5 : Int32 → bp_M Int32) (k42 : Int32 → Int32 → bp_M Int32) : Int32 → Int32 → bp_M Int32 :=
  fun x40 x41 =>
  bp_getI 4 2 a0 fun x43 =>
  bp_if (x43 ≤ x41) (
  k5 x40) (
  bp_getN 4 3 a0 fun a44 =>
  bp_aldI 20 a44 x41 fun x45 =>
  bp_jn (fun (k47 : Int32 → bp_M Int32) =>
  bp_if (x45 = (48 : Int32)) (
  k47 (1 : Int32)) (
  k47 (0 : Int32))) (fun (x46 : Int32) =>
  bp_letI (x40 + x46) fun x48 =>
  bp_letI (x41 + (1 : Int32)) fun x49 =>
  k42 x48 x49))
def PX6_write (a0 : Nat) (xp1 : Int32) : bp_M Int32 :=
  bp_jn (fun (k2 : Int32 → bp_M Int32) =>
  bp_if (xp1 = 0) (
  k2 (1 : Int32)) (
  bp_if (xp1 = (1 : Int32)) (
  bp_getI 4 1 a0 fun x50 =>
  bp_if (x50 = (2 : Int32)) (
  k2 (1 : Int32)) (
  k2 (0 : Int32))) (
  k2 (0 : Int32)))) (fun (x1 : Int32) =>
  bp_bind (bp_is 4 a0 (PX6_may a0 x1 (1 : Int32) (1 : Int32) (1 : Int32))) fun x3 =>
  bp_if (x3 = 0) (
  bp_ret (0 : Int32)) (
  bp_putI 4 13 a0 (0 : Int32) <|
  bp_jn (fun (k5 : Int32 → bp_M Int32) =>
  bp_loop (fun _ _ => bp_no) (BX6_write_43 a0 k5) (fun k => k (0 : Int32) (0 : Int32))) (fun (x4 : Int32) =>
  bp_getI 4 1 a0 fun x6 =>
  bp_jn (fun (k7 : bp_M Int32) =>
  bp_if ((2 : Int32) ≤ x6) (
  k7) (
  bp_jn (fun (k34 : bp_M Int32) =>
  bp_loop (fun _ => bp_no) (BX6_write_86 a0 k34) (fun k => k (0 : Int32))) (bp_getI 4 1 a0 fun x35 =>
  bp_bind (bp_is 4 a0 (PX6_put a0 ((1 : Int32) - x35))) fun _ =>
  bp_bind (bp_is 4 a0 (PX6_putFour a0 x4)) fun _ =>
  k7))) (bp_jn (fun (k8 : bp_M Int32) =>
  bp_loop (fun _ => bp_no) (BX6_write_123 a0 xp1 k8) (fun k => k (0 : Int32))) (bp_getI 4 13 a0 fun x9 =>
  bp_ret x9)))))
set_option maxHeartbeats 4000000 in
set_option maxRecDepth 100000 in
theorem cnX6_write {G : bp_GT} (a0 : Nat) (xp1 : Int32) : bp_Con G iX6_write (ws_ iX6_write.1 iX6_write.2.1 iX6_write.2.2.1 iX6_write.2.2.2.1) [.ref a0, .int xp1] (PX6_write a0 xp1) bp_eI := by
  refine bp_con_of [(0, .ref a0), (1, .int xp1)] rfl (by decide) (Nat.le_of_ble_eq_true rfl) rfl ?_
  unfold PX6_write
  refine bp_j_aload_n 0 dX6_write_0 rfl ?_
  refine bp_j_iload_n 1 dX6_write_1 rfl ?_
  refine bp_j_jm (fun k => ∀ (x1 : Int32), bp_J G iX6_write (bp_Qn G bp_eI) (k x1) 23 [(0, .ref a0), (1, .int xp1)] [.int x1, .ref a0]) (fun k2 hk2 => ?_) (fun x1 => ?_)
  · refine bp_j_if_eq (tgt := 18) dX6_write_2 (by decide) ?_ ?_
    · refine bp_j_iconst (v := 1) dX6_write_18 (by decide) ?_
      refine bp_j_goto (tgt := 23) dX6_write_19 (by decide) ?_
      exact hk2 (1 : Int32)
    refine bp_j_iload_n 1 dX6_write_5 rfl ?_
    refine bp_j_iconst (v := 1) dX6_write_6 (by decide) ?_
    refine bp_j_icmp_ne (tgt := 22) dX6_write_7 (by decide) ?_ ?_
    · refine bp_j_iconst (v := 0) dX6_write_22 (by decide) ?_
      exact hk2 (0 : Int32)
    refine bp_j_aload_n 0 dX6_write_10 rfl ?_
    refine bp_j_getI (t := 4) (k := 1) rfl (by decide) (bp_lk q1081) dX6_write_11 (fun _ _ _ => rfl) (fun x50 => ?_)
    refine bp_j_iconst (v := 2) dX6_write_14 (by decide) ?_
    refine bp_j_icmp_ne (tgt := 22) dX6_write_15 (by decide) ?_ ?_
    · refine bp_j_iconst (v := 0) dX6_write_22 (by decide) ?_
      exact hk2 (0 : Int32)
    refine bp_j_iconst (v := 1) dX6_write_18 (by decide) ?_
    refine bp_j_goto (tgt := 23) dX6_write_19 (by decide) ?_
    exact hk2 (1 : Int32)
  refine bp_j_iconst (v := 1) dX6_write_23 (by decide) ?_
  refine bp_j_iconst (v := 1) dX6_write_24 (by decide) ?_
  refine bp_j_iconst (v := 1) dX6_write_25 (by decide) ?_
  refine bp_j_cl_I (bp_ranV (t := 4) (n := 4) (As := [.int x1, .int (1 : Int32), .int (1 : Int32), .int (1 : Int32)]) (cnX6_may (G := G) a0 x1 (1 : Int32) (1 : Int32) (1 : Int32)) rfl (lw_V q1247 q1249 qs34 q82 q1250) ⟨rfl, by decide +kernel, by decide +kernel, by decide +kernel⟩ ⟨by decide, by decide⟩ (rest := []) rfl rfl (Nat.le_of_ble_eq_true rfl) dX6_write_26) (by decide) (fun x3 => ?_)
  refine bp_j_if_ne (tgt := 34) dX6_write_29 (by decide) ?_ ?_
  · refine bp_j_aload_n 0 dX6_write_34 rfl ?_
    refine bp_j_iconst (v := 0) dX6_write_35 (by decide) ?_
    refine bp_j_putI (t := 4) (k := 13) rfl (by decide) (by decide) (bp_lk q1093) rfl dX6_write_36 rfl ?_
    refine bp_j_iconst (v := 0) dX6_write_39 (by decide) ?_
    refine bp_j_istore_n (lv' := [(2, .int (0 : Int32)), (0, .ref a0), (1, .int xp1)]) dX6_write_40 (by decide) rfl ?_
    refine bp_j_iconst (v := 0) dX6_write_41 (by decide) ?_
    refine bp_j_istore_n (lv' := [(3, .int (0 : Int32)), (2, .int (0 : Int32)), (0, .ref a0), (1, .int xp1)]) dX6_write_42 (by decide) rfl ?_
    refine bp_j_jm (fun k => ∀ (x4 : Int32), bp_J G iX6_write (bp_Qn G bp_eI) (k x4) 76 [(0, .ref a0), (1, .int xp1), (2, .int x4)] []) (fun k5 hk5 => ?_) (fun x4 => ?_)
    · refine bp_j_loop (fun k => ∀ (x40 : Int32) (x41 : Int32), bp_J G iX6_write (bp_Qn G bp_eI) (k x40 x41) 43 [(0, .ref a0), (1, .int xp1), (2, .int x40), (3, .int x41)] []) (fun _ _ => bp_j_no) (fun k42 hk42 x40 x41 => ?_) (fun k h => bp_j_sub [2, 3, 1, 0] rfl (h (0 : Int32) (0 : Int32)))
      unfold BX6_write_43
      refine bp_j_iload_n 3 dX6_write_43 rfl ?_
      refine bp_j_aload_n 0 dX6_write_44 rfl ?_
      refine bp_j_getI (t := 4) (k := 2) rfl (by decide) (bp_lk q1082) dX6_write_45 (fun _ _ _ => rfl) (fun x43 => ?_)
      refine bp_j_icmp_ge (tgt := 76) dX6_write_48 (by decide) ?_ ?_
      · exact bp_j_sub [0, 1, 2] rfl (hk5 x40)
      refine bp_j_iload_n 2 dX6_write_51 rfl ?_
      refine bp_j_aload_n 0 dX6_write_52 rfl ?_
      refine bp_j_getN (t := 4) (k := 3) rfl (by decide) (bp_lk q1083) dX6_write_53 (fun _ _ _ => rfl) (fun a44 => ?_)
      refine bp_j_iload_n 3 dX6_write_56 rfl ?_
      refine bp_j_iaload dX6_write_57 (fun x45 => ?_)
      refine bp_j_bipush (v := 48) dX6_write_58 (by decide) ?_
      refine bp_j_jm (fun k => ∀ (x46 : Int32), bp_J G iX6_write (bp_Qn G bp_eI) (k x46) 68 [(0, .ref a0), (1, .int xp1), (3, .int x41)] [.int x46, .int x40]) (fun k47 hk47 => ?_) (fun x46 => ?_)
      · refine bp_j_icmp_ne (tgt := 67) dX6_write_60 (by decide) ?_ ?_
        · refine bp_j_iconst (v := 0) dX6_write_67 (by decide) ?_
          exact bp_j_sub [0, 1, 3] rfl (hk47 (0 : Int32))
        refine bp_j_iconst (v := 1) dX6_write_63 (by decide) ?_
        refine bp_j_goto (tgt := 68) dX6_write_64 (by decide) ?_
        exact bp_j_sub [0, 1, 3] rfl (hk47 (1 : Int32))
      refine bp_j_iadd dX6_write_68 ?_
      refine bp_j_letI (fun x48 => ?_)
      refine bp_j_istore_n (lv' := [(2, .int x48), (0, .ref a0), (1, .int xp1), (3, .int x41)]) dX6_write_69 (by decide) rfl ?_
      refine bp_j_iincL (lv' := fun x49 => [(3, .int x49), (2, .int x48), (0, .ref a0), (1, .int xp1)]) 3 dX6_write_70 rfl (by decide) (by decide) (fun _ => rfl) (fun x49 => ?_)
      refine bp_j_goto (tgt := 43) dX6_write_73 (by decide) ?_
      exact bp_j_sub [2, 3, 1, 0] rfl (hk42 x48 x49)
    refine bp_j_aload_n 0 dX6_write_76 rfl ?_
    refine bp_j_getI (t := 4) (k := 1) rfl (by decide) (bp_lk q1081) dX6_write_77 (fun _ _ _ => rfl) (fun x6 => ?_)
    refine bp_j_iconst (v := 2) dX6_write_80 (by decide) ?_
    refine bp_j_jm (fun k => bp_J G iX6_write (bp_Qn G bp_eI) (k) 121 [(0, .ref a0), (1, .int xp1)] []) (fun k7 hk7 => ?_) ?_
    · refine bp_j_icmp_ge (tgt := 121) dX6_write_81 (by decide) ?_ ?_
      · exact bp_j_sub [0, 1] rfl (hk7)
      refine bp_j_iconst (v := 0) dX6_write_84 (by decide) ?_
      refine bp_j_istore_n (lv' := [(3, .int (0 : Int32)), (0, .ref a0), (1, .int xp1), (2, .int x4)]) dX6_write_85 (by decide) rfl ?_
      refine bp_j_jm (fun k => bp_J G iX6_write (bp_Qn G bp_eI) (k) 106 [(0, .ref a0), (1, .int xp1), (2, .int x4)] []) (fun k34 hk34 => ?_) ?_
      · refine bp_j_loop (fun k => ∀ (x36 : Int32), bp_J G iX6_write (bp_Qn G bp_eI) (k x36) 86 [(0, .ref a0), (1, .int xp1), (2, .int x4), (3, .int x36)] []) (fun _ => bp_j_no) (fun k37 hk37 x36 => ?_) (fun k h => bp_j_sub [1, 2, 3, 0] rfl (h (0 : Int32)))
        unfold BX6_write_86
        refine bp_j_iload_n 3 dX6_write_86 rfl ?_
        refine bp_j_bipush (v := 8) dX6_write_87 (by decide) ?_
        refine bp_j_icmp_ge (tgt := 106) dX6_write_89 (by decide) ?_ ?_
        · exact bp_j_sub [0, 1, 2] rfl (hk34)
        refine bp_j_aload_n 0 dX6_write_92 rfl ?_
        refine bp_j_iload_n 3 dX6_write_93 rfl ?_
        refine bp_j_cl_I (bp_ranS (n := 1) (As := [.int x36]) (cnX6_magic (G := G) x36) (lw_S q1303 q1304 q82 q1305) ⟨by decide +kernel, by decide +kernel, by decide +kernel⟩ ⟨by decide, by decide⟩ (rest := [.ref a0]) rfl rfl (Nat.le_of_ble_eq_true rfl) dX6_write_94) (by decide) (fun x38 => ?_)
        refine bp_j_cl_U (bp_ranV (t := 4) (n := 1) (As := [.int x38]) (cnX6_put (G := G) a0 x38) rfl (lw_V q1306 q1308 qs39 q82 q1309) ⟨rfl, by decide +kernel, by decide +kernel, by decide +kernel⟩ ⟨by decide, by decide⟩ (rest := []) rfl rfl (Nat.le_of_ble_eq_true rfl) dX6_write_97) (by decide) (fun _ => ?_)
        refine bp_j_iincL (lv' := fun x39 => [(3, .int x39), (0, .ref a0), (1, .int xp1), (2, .int x4)]) 3 dX6_write_100 rfl (by decide) (by decide) (fun _ => rfl) (fun x39 => ?_)
        refine bp_j_goto (tgt := 86) dX6_write_103 (by decide) ?_
        exact bp_j_sub [1, 2, 3, 0] rfl (hk37 x39)
      refine bp_j_aload_n 0 dX6_write_106 rfl ?_
      refine bp_j_iconst (v := 1) dX6_write_107 (by decide) ?_
      refine bp_j_aload_n 0 dX6_write_108 rfl ?_
      refine bp_j_getI (t := 4) (k := 1) rfl (by decide) (bp_lk q1081) dX6_write_109 (fun _ _ _ => rfl) (fun x35 => ?_)
      refine bp_j_isub dX6_write_112 ?_
      refine bp_j_cl_U (bp_ranV (t := 4) (n := 1) (As := [.int ((1 : Int32) - x35)]) (cnX6_put (G := G) a0 ((1 : Int32) - x35)) rfl (lw_V q1306 q1308 qs39 q82 q1309) ⟨rfl, by decide +kernel, by decide +kernel, by decide +kernel⟩ ⟨by decide, by decide⟩ (rest := []) rfl rfl (Nat.le_of_ble_eq_true rfl) dX6_write_113) (by decide) (fun _ => ?_)
      refine bp_j_aload_n 0 dX6_write_116 rfl ?_
      refine bp_j_iload_n 2 dX6_write_117 rfl ?_
      refine bp_j_cl_U (bp_ranV (t := 4) (n := 1) (As := [.int x4]) (cnX6_putFour (G := G) a0 x4) rfl (lw_V q1310 q1312 qs40 q82 q1313) ⟨rfl, by decide +kernel, by decide +kernel, by decide +kernel⟩ ⟨by decide, by decide⟩ (rest := []) rfl rfl (Nat.le_of_ble_eq_true rfl) dX6_write_118) (by decide) (fun _ => ?_)
      exact bp_j_sub [0, 1] rfl (hk7)
    refine bp_j_iconst (v := 0) dX6_write_121 (by decide) ?_
    refine bp_j_istore_n (lv' := [(3, .int (0 : Int32)), (0, .ref a0), (1, .int xp1)]) dX6_write_122 (by decide) rfl ?_
    refine bp_j_jm (fun k => bp_J G iX6_write (bp_Qn G bp_eI) (k) 246 [(0, .ref a0)] []) (fun k8 hk8 => ?_) ?_
    · refine bp_j_loop (fun k => ∀ (x10 : Int32), bp_J G iX6_write (bp_Qn G bp_eI) (k x10) 123 [(0, .ref a0), (1, .int xp1), (3, .int x10)] []) (fun _ => bp_j_no) (fun k11 hk11 x10 => ?_) (fun k h => bp_j_sub [1, 2, 0] rfl (h (0 : Int32)))
      unfold BX6_write_123
      refine bp_j_iload_n 2 dX6_write_123 rfl ?_
      refine bp_j_aload_n 0 dX6_write_124 rfl ?_
      refine bp_j_getI (t := 4) (k := 1) rfl (by decide) (bp_lk q1081) dX6_write_125 (fun _ _ _ => rfl) (fun x12 => ?_)
      refine bp_j_iconst (v := 1) dX6_write_128 (by decide) ?_
      refine bp_j_jm (fun k => ∀ (x13 : Int32), bp_J G iX6_write (bp_Qn G bp_eI) (k x13) 137 [(0, .ref a0), (1, .int xp1), (3, .int x10)] [.int x13, .int x10]) (fun k14 hk14 => ?_) (fun x13 => ?_)
      · refine bp_j_icmp_ne (tgt := 136) dX6_write_129 (by decide) ?_ ?_
        · refine bp_j_iconst (v := 1) dX6_write_136 (by decide) ?_
          exact hk14 (1 : Int32)
        refine bp_j_iconst (v := 2) dX6_write_132 (by decide) ?_
        refine bp_j_goto (tgt := 137) dX6_write_133 (by decide) ?_
        exact hk14 (2 : Int32)
      refine bp_j_icmp_ge (tgt := 246) dX6_write_137 (by decide) ?_ ?_
      · exact bp_j_sub [0] rfl (hk8)
      refine bp_j_iconst (v := 0) dX6_write_140 (by decide) ?_
      refine bp_j_istore (lv' := [(4, .int (0 : Int32)), (0, .ref a0), (1, .int xp1), (3, .int x10)]) dX6_write_141 (by decide) rfl ?_
      refine bp_j_jm (fun k => bp_J G iX6_write (bp_Qn G bp_eI) (k) 240 [(0, .ref a0), (1, .int xp1), (3, .int x10)] []) (fun k15 hk15 => ?_) ?_
      · refine bp_j_loop (fun k => ∀ (x17 : Int32), bp_J G iX6_write (bp_Qn G bp_eI) (k x17) 143 [(0, .ref a0), (1, .int xp1), (3, .int x10), (4, .int x17)] []) (fun _ => bp_j_no) (fun k18 hk18 x17 => ?_) (fun k h => bp_j_sub [1, 2, 3, 0] rfl (h (0 : Int32)))
        unfold BX6_write_143
        refine bp_j_iload 3 dX6_write_143 rfl ?_
        refine bp_j_aload_n 0 dX6_write_145 rfl ?_
        refine bp_j_getI (t := 4) (k := 2) rfl (by decide) (bp_lk q1082) dX6_write_146 (fun _ _ _ => rfl) (fun x19 => ?_)
        refine bp_j_icmp_ge (tgt := 240) dX6_write_149 (by decide) ?_ ?_
        · exact bp_j_sub [0, 1, 2] rfl (hk15)
        refine bp_j_aload_n 0 dX6_write_152 rfl ?_
        refine bp_j_getI (t := 4) (k := 1) rfl (by decide) (bp_lk q1081) dX6_write_153 (fun _ _ _ => rfl) (fun x20 => ?_)
        refine bp_j_iconst (v := 2) dX6_write_156 (by decide) ?_
        refine bp_j_jm (fun k => ∀ (x21 : Int32), bp_J G iX6_write (bp_Qn G bp_eI) (k x21) 193 [(0, .ref a0), (1, .int xp1), (3, .int x10), (4, .int x17)] [.int x21]) (fun k22 hk22 => ?_) (fun x21 => ?_)
        · refine bp_j_icmp_lt (tgt := 188) dX6_write_157 (by decide) ?_ ?_
          · refine bp_j_iconst (v := 1) dX6_write_188 (by decide) ?_
            refine bp_j_goto (tgt := 193) dX6_write_189 (by decide) ?_
            exact hk22 (1 : Int32)
          refine bp_j_iload_n 1 dX6_write_160 rfl ?_
          refine bp_j_iconst (v := 1) dX6_write_161 (by decide) ?_
          refine bp_j_jm (fun k => ∀ (x28 : Int32), bp_J G iX6_write (bp_Qn G bp_eI) (k x28) 170 [(0, .ref a0), (1, .int xp1), (3, .int x10), (4, .int x17)] [.int x28]) (fun k29 hk29 => ?_) (fun x28 => ?_)
          · refine bp_j_icmp_ne (tgt := 169) dX6_write_162 (by decide) ?_ ?_
            · refine bp_j_iconst (v := 0) dX6_write_169 (by decide) ?_
              exact hk29 (0 : Int32)
            refine bp_j_iconst (v := 1) dX6_write_165 (by decide) ?_
            refine bp_j_goto (tgt := 170) dX6_write_166 (by decide) ?_
            exact hk29 (1 : Int32)
          refine bp_j_aload_n 0 dX6_write_170 rfl ?_
          refine bp_j_getN (t := 4) (k := 4) rfl (by decide) (bp_lk q1084) dX6_write_171 (fun _ _ _ => rfl) (fun a30 => ?_)
          refine bp_j_iload 3 dX6_write_174 rfl ?_
          refine bp_j_iaload dX6_write_176 (fun x31 => ?_)
          refine bp_j_jm (fun k => ∀ (x32 : Int32), bp_J G iX6_write (bp_Qn G bp_eI) (k x32) 185 [(0, .ref a0), (1, .int xp1), (3, .int x10), (4, .int x17)] [.int x32, .int x28]) (fun k33 hk33 => ?_) (fun x32 => ?_)
          · refine bp_j_if_ne (tgt := 184) dX6_write_177 (by decide) ?_ ?_
            · refine bp_j_iconst (v := 0) dX6_write_184 (by decide) ?_
              exact hk33 (0 : Int32)
            refine bp_j_iconst (v := 1) dX6_write_180 (by decide) ?_
            refine bp_j_goto (tgt := 185) dX6_write_181 (by decide) ?_
            exact hk33 (1 : Int32)
          refine bp_j_icmp_ne (tgt := 192) dX6_write_185 (by decide) ?_ ?_
          · refine bp_j_iconst (v := 0) dX6_write_192 (by decide) ?_
            exact hk22 (0 : Int32)
          refine bp_j_iconst (v := 1) dX6_write_188 (by decide) ?_
          refine bp_j_goto (tgt := 193) dX6_write_189 (by decide) ?_
          exact hk22 (1 : Int32)
        refine bp_j_istore (lv' := [(5, .int x21), (0, .ref a0), (1, .int xp1), (3, .int x10), (4, .int x17)]) dX6_write_193 (by decide) rfl ?_
        refine bp_j_iload 0 dX6_write_195 rfl ?_
        refine bp_j_jm (fun k => bp_J G iX6_write (bp_Qn G bp_eI) (k) 210 [(0, .ref a0), (1, .int xp1), (3, .int x10), (4, .int x17), (5, .int x21)] []) (fun k23 hk23 => ?_) ?_
        · refine bp_j_if_eq (tgt := 210) dX6_write_197 (by decide) ?_ ?_
          · exact bp_j_sub [1, 2, 3, 4, 0] rfl (hk23)
          refine bp_j_iload_n 3 dX6_write_200 rfl ?_
          refine bp_j_if_ne (tgt := 210) dX6_write_201 (by decide) ?_ ?_
          · exact bp_j_sub [1, 2, 3, 4, 0] rfl (hk23)
          refine bp_j_aload_n 1 dX6_write_204 rfl ?_
          refine bp_j_iload 4 dX6_write_205 rfl ?_
          refine bp_j_cl_U (bp_ranV (t := 4) (n := 1) (As := [.int x17]) (cnX6_writeHead (G := G) a0 x17) rfl (lw_V q1314 q1316 qs41 q82 q1317) ⟨rfl, by decide +kernel, by decide +kernel, by decide +kernel⟩ ⟨by decide, by decide⟩ (rest := []) rfl rfl (Nat.le_of_ble_eq_true rfl) dX6_write_207) (by decide) (fun _ => ?_)
          exact bp_j_sub [1, 2, 3, 4, 0] rfl (hk23)
        refine bp_j_iload 4 dX6_write_210 rfl ?_
        refine bp_j_jm (fun k => bp_J G iX6_write (bp_Qn G bp_eI) (k) 234 [(0, .ref a0), (1, .int xp1), (3, .int x10), (4, .int x17)] []) (fun k24 hk24 => ?_) ?_
        · refine bp_j_if_eq (tgt := 234) dX6_write_212 (by decide) ?_ ?_
          · exact bp_j_sub [0, 1, 2, 3] rfl (hk24)
          refine bp_j_aload_n 0 dX6_write_215 rfl ?_
          refine bp_j_getI (t := 4) (k := 1) rfl (by decide) (bp_lk q1081) dX6_write_216 (fun _ _ _ => rfl) (fun x26 => ?_)
          refine bp_j_iconst (v := 1) dX6_write_219 (by decide) ?_
          refine bp_j_jm (fun k => bp_J G iX6_write (bp_Qn G bp_eI) (k) 228 [(0, .ref a0), (1, .int xp1), (3, .int x10), (4, .int x17)] []) (fun k27 hk27 => ?_) ?_
          · refine bp_j_icmp_ne (tgt := 228) dX6_write_220 (by decide) ?_ ?_
            · exact bp_j_sub [0, 1, 2, 3] rfl (hk27)
            refine bp_j_iload_n 2 dX6_write_223 rfl ?_
            refine bp_j_iconst (v := 1) dX6_write_224 (by decide) ?_
            refine bp_j_icmp_ne (tgt := 234) dX6_write_225 (by decide) ?_ ?_
            · exact bp_j_sub [0, 1, 2, 3] rfl (hk24)
            exact bp_j_sub [0, 1, 2, 3] rfl (hk27)
          refine bp_j_aload_n 0 dX6_write_228 rfl ?_
          refine bp_j_iload 3 dX6_write_229 rfl ?_
          refine bp_j_cl_U (bp_ranV (t := 4) (n := 1) (As := [.int x17]) (cnX6_writeData (G := G) a0 x17) rfl (lw_V q1326 q1328 qs44 q82 q1329) ⟨rfl, by decide +kernel, by decide +kernel, by decide +kernel⟩ ⟨by decide, by decide⟩ (rest := []) rfl rfl (Nat.le_of_ble_eq_true rfl) dX6_write_231) (by decide) (fun _ => ?_)
          exact hk24
        refine bp_j_iincL (lv' := fun x25 => [(4, .int x25), (0, .ref a0), (1, .int xp1), (3, .int x10)]) 3 dX6_write_234 rfl (by decide) (by decide) (fun _ => rfl) (fun x25 => ?_)
        refine bp_j_goto (tgt := 143) dX6_write_237 (by decide) ?_
        exact bp_j_sub [1, 2, 3, 0] rfl (hk18 x25)
      refine bp_j_iincL (lv' := fun x16 => [(3, .int x16), (0, .ref a0), (1, .int xp1)]) 2 dX6_write_240 rfl (by decide) (by decide) (fun _ => rfl) (fun x16 => ?_)
      refine bp_j_goto (tgt := 123) dX6_write_243 (by decide) ?_
      exact bp_j_sub [1, 2, 0] rfl (hk11 x16)
    refine bp_j_aload_n 0 dX6_write_246 rfl ?_
    refine bp_j_getI (t := 4) (k := 13) rfl (by decide) (bp_lk q1093) dX6_write_247 (fun _ _ _ => rfl) (fun x9 => ?_)
    exact bp_j_iret rfl dX6_write_250
  refine bp_j_iconst (v := 0) dX6_write_32 (by decide) ?_
  exact bp_j_iret rfl dX6_write_33
