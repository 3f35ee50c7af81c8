/-! programs and walks -/
set_option maxRecDepth 100000
/-- BilevelPagesModel.checkRefs(I)Z -/
abbrev iX6_checkRefs : bp_MI := (yX6_checkRefs, cX6_checkRefs, 7, some (Jvm.ClassFile.FieldType.boolean), [], 1, 26)
def BX6_checkRefs_95 (a0 : Nat) (xp1 : Int32) (x6 : Int32) (k16 : Int32 → bp_M Int32) (k24 : Int32 → Int32 → bp_M Int32) : Int32 → Int32 → bp_M Int32 :=
  fun x22 x23 =>
  bp_if (x6 ≤ x23) (
  k16 x22) (
  bp_jn (fun (k26 : Int32 → bp_M Int32) =>
  bp_if (x22 = 0) (
  k26 (0 : Int32)) (
  bp_getN 4 31 a0 fun a28 =>
  bp_aldI 20 a28 (((10 : Int32) * xp1) + x23) fun x29 =>
  bp_getN 4 31 a0 fun a30 =>
  bp_aldI 20 a30 (((10 : Int32) * xp1) + x6) fun x31 =>
  bp_if (x29 = x31) (
  k26 (0 : Int32)) (
  k26 (1 : Int32)))) (fun (x25 : Int32) =>
  bp_letI (x23 + (1 : Int32)) fun x27 =>
  k24 x25 x27))
def BX6_checkRefs_4 (a0 : Nat) (xp1 : Int32) (k1 : bp_M Int32) (k7 : Int32 → Int32 → bp_M Int32) : Int32 → Int32 → bp_M Int32 :=
  fun x5 x6 =>
  bp_getN 4 30 a0 fun a8 =>
  bp_aldI 20 a8 xp1 fun x9 =>
  bp_if (x9 ≤ x6) (
  bp_retZ (1 : Int32)) (
  bp_getN 4 31 a0 fun a10 =>
  bp_aldI 20 a10 (((10 : Int32) * xp1) + x6) fun x11 =>
  bp_bind (bp_is 4 a0 (PX6_segmentOf a0 x11 xp1)) fun x12 =>
  bp_jn (fun (k14 : Int32 → bp_M Int32) =>
  bp_if (x12 < 0) (
  k14 (0 : Int32)) (
  bp_getN 4 35 a0 fun a32 =>
  bp_aldI 20 a32 x12 fun x33 =>
  bp_if (x33 = (-1 : Int32)) (
  bp_getN 4 29 a0 fun a34 =>
  bp_aldI 20 a34 x12 fun x35 =>
  bp_jn (fun (k36 : bp_M Int32) =>
  bp_if (x35 = 0) (
  k36) (
  bp_getN 4 29 a0 fun a38 =>
  bp_aldI 20 a38 x12 fun x39 =>
  bp_getN 4 29 a0 fun a40 =>
  bp_aldI 20 a40 xp1 fun x41 =>
  bp_if (x39 = x41) (
  k36) (
  k14 (0 : Int32)))) (bp_bind (bp_is 4 a0 (PX6_mayRefer a0 xp1 x12 x5)) fun x37 =>
  bp_if (x37 = 0) (
  k14 (0 : Int32)) (
  k14 (1 : Int32)))) (
  k14 (0 : Int32)))) (fun (x13 : Int32) =>
  bp_jn (fun (k16 : Int32 → bp_M Int32) =>
  bp_loop (fun _ _ => bp_no) (BX6_checkRefs_95 a0 xp1 x6 k16) (fun k => k x13 (0 : Int32))) (fun (x15 : Int32) =>
  bp_if (x15 = 0) (
  k1) (
  bp_jn (fun (k18 : Int32 → bp_M Int32) =>
  bp_if (x5 = 0) (
  bp_getN 4 28 a0 fun a20 =>
  bp_aldI 20 a20 x12 fun x21 =>
  bp_if (x21 = (4 : Int32)) (
  k18 (1 : Int32)) (
  k18 (0 : Int32))) (
  k18 (1 : Int32))) (fun (x17 : Int32) =>
  bp_letI (x6 + (1 : Int32)) fun x19 =>
  k7 x17 x19)))))
def PX6_checkRefs (a0 : Nat) (xp1 : Int32) : bp_M Int32 :=
  bp_jn (fun (k1 : bp_M Int32) =>
  bp_loop (fun _ _ => bp_no) (BX6_checkRefs_4 a0 xp1 k1) (fun k => k (0 : Int32) (0 : Int32))) (bp_getN 4 26 a0 fun a2 =>
  bp_aldI 20 a2 xp1 fun x3 =>
  bp_bind (bp_is 4 a0 (PX6_fail a0 (5 : Int32) x3)) fun x4 =>
  bp_retZ x4)
set_option maxHeartbeats 4000000 in
set_option maxRecDepth 100000 in
theorem cnX6_checkRefs {G : bp_GT} (a0 : Nat) (xp1 : Int32) : bp_Con G iX6_checkRefs (ws_ iX6_checkRefs.1 iX6_checkRefs.2.1 iX6_checkRefs.2.2.1 iX6_checkRefs.2.2.2.1) [.ref a0, .int xp1] (PX6_checkRefs a0 xp1) bp_eI := by
  refine bp_con_of [(0, .ref a0), (1, .int xp1)] rfl (by decide) (Nat.le_of_ble_eq_true rfl) rfl ?_
  unfold PX6_checkRefs
  refine bp_j_iconst (v := 0) dX6_checkRefs_0 (by decide) ?_
  refine bp_j_istore_n (lv' := [(2, .int (0 : Int32)), (0, .ref a0), (1, .int xp1)]) dX6_checkRefs_1 (by decide) rfl ?_
  refine bp_j_iconst (v := 0) dX6_checkRefs_2 (by decide) ?_
  refine bp_j_istore_n (lv' := [(3, .int (0 : Int32)), (2, .int (0 : Int32)), (0, .ref a0), (1, .int xp1)]) dX6_checkRefs_3 (by decide) rfl ?_
  refine bp_j_jm (fun k => bp_J G iX6_checkRefs (bp_Qn G bp_eI) (k) 150 [(0, .ref a0), (1, .int xp1)] []) (fun k1 hk1 => ?_) ?_
  · refine bp_j_loop (fun k => ∀ (x5 : Int32) (x6 : Int32), bp_J G iX6_checkRefs (bp_Qn G bp_eI) (k x5 x6) 4 [(0, .ref a0), (1, .int xp1), (2, .int x5), (3, .int x6)] []) (fun _ _ => bp_j_no) (fun k7 hk7 x5 x6 => ?_) (fun k h => bp_j_sub [2, 3, 1, 0] rfl (h (0 : Int32) (0 : Int32)))
    unfold BX6_checkRefs_4
    refine bp_j_iload_n 3 dX6_checkRefs_4 rfl ?_
    refine bp_j_aload_n 0 dX6_checkRefs_5 rfl ?_
    refine bp_j_getN (t := 4) (k := 30) rfl (by decide) (bp_lk q1110) dX6_checkRefs_6 (fun _ _ _ => rfl) (fun a8 => ?_)
    refine bp_j_iload_n 1 dX6_checkRefs_9 rfl ?_
    refine bp_j_iaload dX6_checkRefs_10 (fun x9 => ?_)
    refine bp_j_icmp_ge (tgt := 189) dX6_checkRefs_11 (by decide) ?_ ?_
    · refine bp_j_iconst (v := 1) dX6_checkRefs_189 (by decide) ?_
      exact bp_j_zret rfl dX6_checkRefs_190
    refine bp_j_aload_n 0 dX6_checkRefs_14 rfl ?_
    refine bp_j_aload_n 0 dX6_checkRefs_15 rfl ?_
    refine bp_j_getN (t := 4) (k := 31) rfl (by decide) (bp_lk q1111) dX6_checkRefs_16 (fun _ _ _ => rfl) (fun a10 => ?_)
    refine bp_j_bipush (v := 10) dX6_checkRefs_19 (by decide) ?_
    refine bp_j_iload_n 1 dX6_checkRefs_21 rfl ?_
    refine bp_j_imul dX6_checkRefs_22 ?_
    refine bp_j_iload_n 3 dX6_checkRefs_23 rfl ?_
    refine bp_j_iadd dX6_checkRefs_24 ?_
    refine bp_j_iaload dX6_checkRefs_25 (fun x11 => ?_)
    refine bp_j_iload_n 1 dX6_checkRefs_26 rfl ?_
    refine bp_j_cl_I (bp_ranV (t := 4) (n := 2) (As := [.int x11, .int xp1]) (cnX6_segmentOf (G := G) a0 x11 xp1) rfl (lw_V q1386 q1388 qs53 q82 q1389) ⟨rfl, by decide +kernel, by decide +kernel, by decide +kernel⟩ ⟨by decide, by decide⟩ (rest := []) rfl rfl (Nat.le_of_ble_eq_true rfl) dX6_checkRefs_27) (by decide) (fun x12 => ?_)
    refine bp_j_istore (lv' := [(4, .int x12), (0, .ref a0), (1, .int xp1), (2, .int x5), (3, .int x6)]) dX6_checkRefs_30 (by decide) rfl ?_
    refine bp_j_iload 0 dX6_checkRefs_32 rfl ?_
    refine bp_j_jm (fun k => ∀ (x13 : Int32), bp_J G iX6_checkRefs (bp_Qn G bp_eI) (k x13) 90 [(0, .ref a0), (1, .int xp1), (2, .int x5), (3, .int x6), (4, .int x12)] [.int x13]) (fun k14 hk14 => ?_) (fun x13 => ?_)
    · refine bp_j_if_lt (tgt := 89) dX6_checkRefs_34 (by decide) ?_ ?_
      · refine bp_j_iconst (v := 0) dX6_checkRefs_89 (by decide) ?_
        exact bp_j_sub [1, 2, 3, 4, 0] rfl (hk14 (0 : Int32))
      refine bp_j_aload_n 1 dX6_checkRefs_37 rfl ?_
      refine bp_j_getN (t := 4) (k := 35) rfl (by decide) (bp_lk q1115) dX6_checkRefs_38 (fun _ _ _ => rfl) (fun a32 => ?_)
      refine bp_j_iload 0 dX6_checkRefs_41 rfl ?_
      refine bp_j_iaload dX6_checkRefs_43 (fun x33 => ?_)
      refine bp_j_iconst (v := -1) dX6_checkRefs_44 (by decide) ?_
      refine bp_j_icmp_ne (tgt := 89) dX6_checkRefs_45 (by decide) ?_ ?_
      · refine bp_j_iconst (v := 0) dX6_checkRefs_89 (by decide) ?_
        exact bp_j_sub [1, 2, 3, 4, 0] rfl (hk14 (0 : Int32))
      refine bp_j_aload_n 1 dX6_checkRefs_48 rfl ?_
      refine bp_j_getN (t := 4) (k := 29) rfl (by decide) (bp_lk q1109) dX6_checkRefs_49 (fun _ _ _ => rfl) (fun a34 => ?_)
      refine bp_j_iload 0 dX6_checkRefs_52 rfl ?_
      refine bp_j_iaload dX6_checkRefs_54 (fun x35 => ?_)
      refine bp_j_jm (fun k => bp_J G iX6_checkRefs (bp_Qn G bp_eI) (k) 74 [(0, .ref a0), (1, .int xp1), (2, .int x5), (3, .int x6), (4, .int x12)] []) (fun k36 hk36 => ?_) ?_
      · refine bp_j_if_eq (tgt := 74) dX6_checkRefs_55 (by decide) ?_ ?_
        · exact bp_j_sub [1, 2, 3, 4, 0] rfl (hk36)
        refine bp_j_aload_n 1 dX6_checkRefs_58 rfl ?_
        refine bp_j_getN (t := 4) (k := 29) rfl (by decide) (bp_lk q1109) dX6_checkRefs_59 (fun _ _ _ => rfl) (fun a38 => ?_)
        refine bp_j_iload 0 dX6_checkRefs_62 rfl ?_
        refine bp_j_iaload dX6_checkRefs_64 (fun x39 => ?_)
        refine bp_j_aload_n 1 dX6_checkRefs_65 rfl ?_
        refine bp_j_getN (t := 4) (k := 29) rfl (by decide) (bp_lk q1109) dX6_checkRefs_66 (fun _ _ _ => rfl) (fun a40 => ?_)
        refine bp_j_iload_n 2 dX6_checkRefs_69 rfl ?_
        refine bp_j_iaload dX6_checkRefs_70 (fun x41 => ?_)
        refine bp_j_icmp_ne (tgt := 89) dX6_checkRefs_71 (by decide) ?_ ?_
        · refine bp_j_iconst (v := 0) dX6_checkRefs_89 (by decide) ?_
          exact bp_j_sub [1, 2, 3, 4, 0] rfl (hk14 (0 : Int32))
        exact bp_j_sub [1, 2, 3, 4, 0] rfl (hk36)
      refine bp_j_aload_n 0 dX6_checkRefs_74 rfl ?_
      refine bp_j_iload_n 1 dX6_checkRefs_75 rfl ?_
      refine bp_j_iload 4 dX6_checkRefs_76 rfl ?_
      refine bp_j_iload_n 2 dX6_checkRefs_78 rfl ?_
      refine bp_j_cl_I (bp_ranV (t := 4) (n := 3) (As := [.int xp1, .int x12, .int x5]) (cnX6_mayRefer (G := G) a0 xp1 x12 x5) rfl (lw_V q1390 q1392 qs54 q82 q1393) ⟨rfl, by decide +kernel, by decide +kernel, by decide +kernel⟩ ⟨by decide, by decide⟩ (rest := []) rfl rfl (Nat.le_of_ble_eq_true rfl) dX6_checkRefs_79) (by decide) (fun x37 => ?_)
      refine bp_j_if_eq (tgt := 89) dX6_checkRefs_82 (by decide) ?_ ?_
      · refine bp_j_iconst (v := 0) dX6_checkRefs_89 (by decide) ?_
        exact hk14 (0 : Int32)
      refine bp_j_iconst (v := 1) dX6_checkRefs_85 (by decide) ?_
      refine bp_j_goto (tgt := 90) dX6_checkRefs_86 (by decide) ?_
      exact hk14 (1 : Int32)
    refine bp_j_istore (lv' := [(5, .int x13), (0, .ref a0), (1, .int xp1), (2, .int x5), (3, .int x6), (4, .int x12)]) dX6_checkRefs_90 (by decide) rfl ?_
    refine bp_j_iconst (v := 0) dX6_checkRefs_92 (by decide) ?_
    refine bp_j_istore (lv' := [(6, .int (0 : Int32)), (5, .int x13), (0, .ref a0), (1, .int xp1), (2, .int x5), (3, .int x6), (4, .int x12)]) dX6_checkRefs_93 (by decide) rfl ?_
    refine bp_j_jm (fun k => ∀ (x15 : Int32), bp_J G iX6_checkRefs (bp_Qn G bp_eI) (k x15) 145 [(0, .ref a0), (1, .int xp1), (2, .int x5), (3, .int x6), (4, .int x12), (5, .int x15)] []) (fun k16 hk16 => ?_) (fun x15 => ?_)
    · refine bp_j_loop (fun k => ∀ (x22 : Int32) (x23 : Int32), bp_J G iX6_checkRefs (bp_Qn G bp_eI) (k x22 x23) 95 [(0, .ref a0), (1, .int xp1), (2, .int x5), (3, .int x6), (4, .int x12), (5, .int x22), (6, .int x23)] []) (fun _ _ => bp_j_no) (fun k24 hk24 x22 x23 => ?_) (fun k h => bp_j_sub [2, 3, 4, 5, 6, 1, 0] rfl (h x13 (0 : Int32)))
      unfold BX6_checkRefs_95
      refine bp_j_iload 6 dX6_checkRefs_95 rfl ?_
      refine bp_j_iload_n 3 dX6_checkRefs_97 rfl ?_
      refine bp_j_icmp_ge (tgt := 145) dX6_checkRefs_98 (by decide) ?_ ?_
      · exact bp_j_sub [0, 1, 2, 3, 4, 5] rfl (hk16 x22)
      refine bp_j_iload 5 dX6_checkRefs_101 rfl ?_
      refine bp_j_jm (fun k => ∀ (x25 : Int32), bp_J G iX6_checkRefs (bp_Qn G bp_eI) (k x25) 137 [(0, .ref a0), (1, .int xp1), (2, .int x5), (3, .int x6), (4, .int x12), (6, .int x23)] [.int x25]) (fun k26 hk26 => ?_) (fun x25 => ?_)
      · refine bp_j_if_eq (tgt := 136) dX6_checkRefs_103 (by decide) ?_ ?_
        · refine bp_j_iconst (v := 0) dX6_checkRefs_136 (by decide) ?_
          exact bp_j_sub [0, 1, 2, 3, 4, 6] rfl (hk26 (0 : Int32))
        refine bp_j_aload_n 0 dX6_checkRefs_106 rfl ?_
        refine bp_j_getN (t := 4) (k := 31) rfl (by decide) (bp_lk q1111) dX6_checkRefs_107 (fun _ _ _ => rfl) (fun a28 => ?_)
        refine bp_j_bipush (v := 10) dX6_checkRefs_110 (by decide) ?_
        refine bp_j_iload_n 1 dX6_checkRefs_112 rfl ?_
        refine bp_j_imul dX6_checkRefs_113 ?_
        refine bp_j_iload 6 dX6_checkRefs_114 rfl ?_
        refine bp_j_iadd dX6_checkRefs_116 ?_
        refine bp_j_iaload dX6_checkRefs_117 (fun x29 => ?_)
        refine bp_j_aload_n 0 dX6_checkRefs_118 rfl ?_
        refine bp_j_getN (t := 4) (k := 31) rfl (by decide) (bp_lk q1111) dX6_checkRefs_119 (fun _ _ _ => rfl) (fun a30 => ?_)
        refine bp_j_bipush (v := 10) dX6_checkRefs_122 (by decide) ?_
        refine bp_j_iload_n 1 dX6_checkRefs_124 rfl ?_
        refine bp_j_imul dX6_checkRefs_125 ?_
        refine bp_j_iload_n 3 dX6_checkRefs_126 rfl ?_
        refine bp_j_iadd dX6_checkRefs_127 ?_
        refine bp_j_iaload dX6_checkRefs_128 (fun x31 => ?_)
        refine bp_j_icmp_eq (tgt := 136) dX6_checkRefs_129 (by decide) ?_ ?_
        · refine bp_j_iconst (v := 0) dX6_checkRefs_136 (by decide) ?_
          exact bp_j_sub [0, 1, 2, 3, 4, 6] rfl (hk26 (0 : Int32))
        refine bp_j_iconst (v := 1) dX6_checkRefs_132 (by decide) ?_
        refine bp_j_goto (tgt := 137) dX6_checkRefs_133 (by decide) ?_
        exact bp_j_sub [0, 1, 2, 3, 4, 6] rfl (hk26 (1 : Int32))
      refine bp_j_istore (lv' := [(5, .int x25), (0, .ref a0), (1, .int xp1), (2, .int x5), (3, .int x6), (4, .int x12), (6, .int x23)]) dX6_checkRefs_137 (by decide) rfl ?_
      refine bp_j_iincL (lv' := fun x27 => [(6, .int x27), (5, .int x25), (0, .ref a0), (1, .int xp1), (2, .int x5), (3, .int x6), (4, .int x12)]) 6 dX6_checkRefs_139 rfl (by decide) (by decide) (fun _ => rfl) (fun x27 => ?_)
      refine bp_j_goto (tgt := 95) dX6_checkRefs_142 (by decide) ?_
      exact bp_j_sub [2, 3, 4, 5, 6, 1, 0] rfl (hk24 x25 x27)
    refine bp_j_iload 5 dX6_checkRefs_145 rfl ?_
    refine bp_j_if_ne (tgt := 162) dX6_checkRefs_147 (by decide) ?_ ?_
    · refine bp_j_iload_n 2 dX6_checkRefs_162 rfl ?_
      refine bp_j_jm (fun k => ∀ (x17 : Int32), bp_J G iX6_checkRefs (bp_Qn G bp_eI) (k x17) 182 [(0, .ref a0), (1, .int xp1), (3, .int x6)] [.int x17]) (fun k18 hk18 => ?_) (fun x17 => ?_)
      · refine bp_j_if_ne (tgt := 177) dX6_checkRefs_163 (by decide) ?_ ?_
        · refine bp_j_iconst (v := 1) dX6_checkRefs_177 (by decide) ?_
          refine bp_j_goto (tgt := 182) dX6_checkRefs_178 (by decide) ?_
          exact bp_j_sub [0, 1, 3] rfl (hk18 (1 : Int32))
        refine bp_j_aload_n 0 dX6_checkRefs_166 rfl ?_
        refine bp_j_getN (t := 4) (k := 28) rfl (by decide) (bp_lk q1108) dX6_checkRefs_167 (fun _ _ _ => rfl) (fun a20 => ?_)
        refine bp_j_iload 4 dX6_checkRefs_170 rfl ?_
        refine bp_j_iaload dX6_checkRefs_172 (fun x21 => ?_)
        refine bp_j_iconst (v := 4) dX6_checkRefs_173 (by decide) ?_
        refine bp_j_icmp_ne (tgt := 181) dX6_checkRefs_174 (by decide) ?_ ?_
        · refine bp_j_iconst (v := 0) dX6_checkRefs_181 (by decide) ?_
          exact bp_j_sub [0, 1, 3] rfl (hk18 (0 : Int32))
        refine bp_j_iconst (v := 1) dX6_checkRefs_177 (by decide) ?_
        refine bp_j_goto (tgt := 182) dX6_checkRefs_178 (by decide) ?_
        exact bp_j_sub [0, 1, 3] rfl (hk18 (1 : Int32))
      refine bp_j_istore_n (lv' := [(2, .int x17), (0, .ref a0), (1, .int xp1), (3, .int x6)]) dX6_checkRefs_182 (by decide) rfl ?_
      refine bp_j_iincL (lv' := fun x19 => [(3, .int x19), (2, .int x17), (0, .ref a0), (1, .int xp1)]) 3 dX6_checkRefs_183 rfl (by decide) (by decide) (fun _ => rfl) (fun x19 => ?_)
      refine bp_j_goto (tgt := 4) dX6_checkRefs_186 (by decide) ?_
      exact bp_j_sub [2, 3, 1, 0] rfl (hk7 x17 x19)
    exact bp_j_sub [0, 1] rfl (hk1)
  refine bp_j_aload_n 0 dX6_checkRefs_150 rfl ?_
  refine bp_j_iconst (v := 5) dX6_checkRefs_151 (by decide) ?_
  refine bp_j_aload_n 0 dX6_checkRefs_152 rfl ?_
  refine bp_j_getN (t := 4) (k := 26) rfl (by decide) (bp_lk q1106) dX6_checkRefs_153 (fun _ _ _ => rfl) (fun a2 => ?_)
  refine bp_j_iload_n 1 dX6_checkRefs_156 rfl ?_
  refine bp_j_iaload dX6_checkRefs_157 (fun x3 => ?_)
  refine bp_j_cl_I (bp_ranV (t := 4) (n := 2) (As := [.int (5 : Int32), .int x3]) (cnX6_fail (G := G) a0 (5 : Int32) x3) rfl (lw_V q1367 q1369 qs49 q82 q1370) ⟨rfl, by decide +kernel, by decide +kernel, by decide +kernel⟩ ⟨by decide, by decide⟩ (rest := []) rfl rfl (Nat.le_of_ble_eq_true rfl) dX6_checkRefs_158) (by decide) (fun x4 => ?_)
  exact bp_j_zret rfl dX6_checkRefs_161
/-- BilevelPagesModel.endPage(I)Z -/
abbrev iX6_endPage : bp_MI := (yX6_endPage, cX6_endPage, 3, some (Jvm.ClassFile.FieldType.boolean), [], 2, 45)
def PX6_endPage (a0 : Nat) (xp1 : Int32) : bp_M Int32 :=
  bp_getN 4 29 a0 fun a1 =>
  bp_aldI 20 a1 xp1 fun x2 =>
  bp_getN 4 42 a0 fun a3 =>
  bp_aldI 20 a3 x2 fun x4 =>
  bp_jn (fun (k6 : Int32 → bp_M Int32) =>
  bp_if (0 ≤ x4) (
  k6 (1 : Int32)) (
  bp_getN 4 44 a0 fun a19 =>
  bp_aldI 20 a19 x2 fun x20 =>
  bp_if (x20 ≤ 0) (
  k6 (0 : Int32)) (
  k6 (1 : Int32)))) (fun (x5 : Int32) =>
  bp_bind (bp_is 4 a0 (PX6_needs a0 x5 (8 : Int32) xp1)) fun x7 =>
  bp_if (x7 = 0) (
  bp_retZ (0 : Int32)) (
  bp_getN 4 42 a0 fun a8 =>
  bp_getN 4 42 a0 fun a9 =>
  bp_aldI 20 a9 x2 fun x10 =>
  bp_jn (fun (k12 : Int32 → bp_M Int32) =>
  bp_if (0 ≤ x10) (
  bp_getN 4 42 a0 fun a13 =>
  bp_aldI 20 a13 x2 fun x14 =>
  k12 x14) (
  bp_getN 4 45 a0 fun a15 =>
  bp_getN 4 44 a0 fun a16 =>
  bp_aldI 20 a16 x2 fun x17 =>
  bp_aldI 20 a15 ((((32 : Int32) * x2) + x17) - (1 : Int32)) fun x18 =>
  k12 (x18 + (1 : Int32)))) (fun (x11 : Int32) =>
  bp_astI a8 x2 x11 <|
  bp_putI 4 39 a0 (0 : Int32) <|
  bp_retZ (1 : Int32))))
set_option maxHeartbeats 4000000 in
set_option maxRecDepth 100000 in
theorem cnX6_endPage {G : bp_GT} (a0 : Nat) (xp1 : Int32) : bp_Con G iX6_endPage (ws_ iX6_endPage.1 iX6_endPage.2.1 iX6_endPage.2.2.1 iX6_endPage.2.2.2.1) [.ref a0, .int xp1] (PX6_endPage a0 xp1) bp_eI := by
  refine bp_con_of [(0, .ref a0), (1, .int xp1)] rfl (by decide) (Nat.le_of_ble_eq_true rfl) rfl ?_
  unfold PX6_endPage
  refine bp_j_aload_n 0 dX6_endPage_0 rfl ?_
  refine bp_j_getN (t := 4) (k := 29) rfl (by decide) (bp_lk q1109) dX6_endPage_1 (fun _ _ _ => rfl) (fun a1 => ?_)
  refine bp_j_iload_n 1 dX6_endPage_4 rfl ?_
  refine bp_j_iaload dX6_endPage_5 (fun x2 => ?_)
  refine bp_j_istore_n (lv' := [(2, .int x2), (0, .ref a0), (1, .int xp1)]) dX6_endPage_6 (by decide) rfl ?_
  refine bp_j_aload_n 1 dX6_endPage_7 rfl ?_
  refine bp_j_aload_n 1 dX6_endPage_8 rfl ?_
  refine bp_j_getN (t := 4) (k := 42) rfl (by decide) (bp_lk q1122) dX6_endPage_9 (fun _ _ _ => rfl) (fun a3 => ?_)
  refine bp_j_iload_n 0 dX6_endPage_12 rfl ?_
  refine bp_j_iaload dX6_endPage_13 (fun x4 => ?_)
  refine bp_j_jm (fun k => ∀ (x5 : Int32), bp_J G iX6_endPage (bp_Qn G bp_eI) (k x5) 31 [(0, .ref a0), (1, .int xp1), (2, .int x2)] [.int x5, .ref a0]) (fun k6 hk6 => ?_) (fun x5 => ?_)
  · refine bp_j_if_ge (tgt := 26) dX6_endPage_14 (by decide) ?_ ?_
    · refine bp_j_iconst (v := 1) dX6_endPage_26 (by decide) ?_
      refine bp_j_goto (tgt := 31) dX6_endPage_27 (by decide) ?_
      exact bp_j_sub [1, 2, 0] rfl (hk6 (1 : Int32))
    refine bp_j_aload_n 1 dX6_endPage_17 rfl ?_
    refine bp_j_getN (t := 4) (k := 44) rfl (by decide) (bp_lk q1124) dX6_endPage_18 (fun _ _ _ => rfl) (fun a19 => ?_)
    refine bp_j_iload_n 0 dX6_endPage_21 rfl ?_
    refine bp_j_iaload dX6_endPage_22 (fun x20 => ?_)
    refine bp_j_if_le (tgt := 30) dX6_endPage_23 (by decide) ?_ ?_
    · refine bp_j_iconst (v := 0) dX6_endPage_30 (by decide) ?_
      exact bp_j_sub [1, 2, 0] rfl (hk6 (0 : Int32))
    refine bp_j_iconst (v := 1) dX6_endPage_26 (by decide) ?_
    refine bp_j_goto (tgt := 31) dX6_endPage_27 (by decide) ?_
    exact bp_j_sub [1, 2, 0] rfl (hk6 (1 : Int32))
  refine bp_j_bipush (v := 8) dX6_endPage_31 (by decide) ?_
  refine bp_j_iload_n 1 dX6_endPage_33 rfl ?_
  refine bp_j_cl_I (bp_ranV (t := 4) (n := 3) (As := [.int x5, .int (8 : Int32), .int xp1]) (cnX6_needs (G := G) a0 x5 (8 : Int32) xp1) rfl (lw_V q1398 q1400 qs56 q82 q1401) ⟨rfl, by decide +kernel, by decide +kernel, by decide +kernel⟩ ⟨by decide, by decide⟩ (rest := []) rfl rfl (Nat.le_of_ble_eq_true rfl) dX6_endPage_34) (by decide) (fun x7 => ?_)
  refine bp_j_if_ne (tgt := 42) dX6_endPage_37 (by decide) ?_ ?_
  · refine bp_j_aload_n 0 dX6_endPage_42 rfl ?_
    refine bp_j_getN (t := 4) (k := 42) rfl (by decide) (bp_lk q1122) dX6_endPage_43 (fun _ _ _ => rfl) (fun a8 => ?_)
    refine bp_j_iload_n 2 dX6_endPage_46 rfl ?_
    refine bp_j_aload_n 0 dX6_endPage_47 rfl ?_
    refine bp_j_getN (t := 4) (k := 42) rfl (by decide) (bp_lk q1122) dX6_endPage_48 (fun _ _ _ => rfl) (fun a9 => ?_)
    refine bp_j_iload_n 2 dX6_endPage_51 rfl ?_
    refine bp_j_iaload dX6_endPage_52 (fun x10 => ?_)
    refine bp_j_jm (fun k => ∀ (x11 : Int32), bp_J G iX6_endPage (bp_Qn G bp_eI) (k x11) 85 [(0, .ref a0)] [.int x11, .int x2, .ref a8]) (fun k12 hk12 => ?_) (fun x11 => ?_)
    · refine bp_j_if_ge (tgt := 79) dX6_endPage_53 (by decide) ?_ ?_
      · refine bp_j_aload_n 0 dX6_endPage_79 rfl ?_
        refine bp_j_getN (t := 4) (k := 42) rfl (by decide) (bp_lk q1122) dX6_endPage_80 (fun _ _ _ => rfl) (fun a13 => ?_)
        refine bp_j_iload_n 2 dX6_endPage_83 rfl ?_
        refine bp_j_iaload dX6_endPage_84 (fun x14 => ?_)
        exact bp_j_sub [0] rfl (hk12 x14)
      refine bp_j_aload_n 0 dX6_endPage_56 rfl ?_
      refine bp_j_getN (t := 4) (k := 45) rfl (by decide) (bp_lk q1125) dX6_endPage_57 (fun _ _ _ => rfl) (fun a15 => ?_)
      refine bp_j_bipush (v := 32) dX6_endPage_60 (by decide) ?_
      refine bp_j_iload_n 2 dX6_endPage_62 rfl ?_
      refine bp_j_imul dX6_endPage_63 ?_
      refine bp_j_aload_n 0 dX6_endPage_64 rfl ?_
      refine bp_j_getN (t := 4) (k := 44) rfl (by decide) (bp_lk q1124) dX6_endPage_65 (fun _ _ _ => rfl) (fun a16 => ?_)
      refine bp_j_iload_n 2 dX6_endPage_68 rfl ?_
      refine bp_j_iaload dX6_endPage_69 (fun x17 => ?_)
      refine bp_j_iadd dX6_endPage_70 ?_
      refine bp_j_iconst (v := 1) dX6_endPage_71 (by decide) ?_
      refine bp_j_isub dX6_endPage_72 ?_
      refine bp_j_iaload dX6_endPage_73 (fun x18 => ?_)
      refine bp_j_iconst (v := 1) dX6_endPage_74 (by decide) ?_
      refine bp_j_iadd dX6_endPage_75 ?_
      refine bp_j_goto (tgt := 85) dX6_endPage_76 (by decide) ?_
      exact bp_j_sub [0] rfl (hk12 (x18 + (1 : Int32)))
    refine bp_j_iastore dX6_endPage_85 ?_
    refine bp_j_aload_n 0 dX6_endPage_86 rfl ?_
    refine bp_j_iconst (v := 0) dX6_endPage_87 (by decide) ?_
    refine bp_j_putI (t := 4) (k := 39) rfl (by decide) (by decide) (bp_lk q1119) rfl dX6_endPage_88 rfl ?_
    refine bp_j_iconst (v := 1) dX6_endPage_91 (by decide) ?_
    exact bp_j_zret rfl dX6_endPage_92
  refine bp_j_iconst (v := 0) dX6_endPage_40 (by decide) ?_
  exact bp_j_zret rfl dX6_endPage_41
/-- BilevelPagesModel.letAllGo(I)V -/
abbrev iX6_letAllGo : bp_MI := (yX6_letAllGo, cX6_letAllGo, 3, none, [], 1, 23)
def BX6_letAllGo_25 (a0 : Nat) (xp1 : Int32) (k5 : Int32 → bp_M Unit) : Int32 → bp_M Unit :=
  fun x4 =>
  bp_getN 4 30 a0 fun a6 =>
  bp_aldI 20 a6 xp1 fun x7 =>
  bp_if (x7 ≤ x4) (
  bp_ret ()) (
  bp_getN 4 32 a0 fun a8 =>
  bp_aldI 20 a8 xp1 fun x9 =>
  bp_jn (fun (k10 : bp_M Unit) =>
  bp_if (((x9 >>> ((x4 + (1 : Int32)) &&& 31)) &&& (1 : Int32)) = 0) (
  bp_getN 4 35 a0 fun a12 =>
  bp_getN 4 31 a0 fun a13 =>
  bp_aldI 20 a13 (((10 : Int32) * xp1) + x4) fun x14 =>
  bp_bind (bp_is 4 a0 (PX6_segmentOf a0 x14 xp1)) fun x15 =>
  bp_getN 4 27 a0 fun a16 =>
  bp_aldI 20 a16 xp1 fun x17 =>
  bp_astI a12 x15 x17 <|
  k10) (
  k10)) (bp_letI (x4 + (1 : Int32)) fun x11 =>
  k5 x11))
def PX6_letAllGo (a0 : Nat) (xp1 : Int32) : bp_M Unit :=
  bp_getN 4 32 a0 fun a1 =>
  bp_aldI 20 a1 xp1 fun x2 =>
  bp_jn (fun (k3 : bp_M Unit) =>
  bp_if ((x2 &&& (1 : Int32)) = 0) (
  bp_getN 4 35 a0 fun a18 =>
  bp_getN 4 27 a0 fun a19 =>
  bp_aldI 20 a19 xp1 fun x20 =>
  bp_astI a18 xp1 x20 <|
  k3) (
  k3)) (bp_loop (fun _ => bp_no) (BX6_letAllGo_25 a0 xp1) (fun k => k (0 : Int32)))
set_option maxHeartbeats 4000000 in
set_option maxRecDepth 100000 in
theorem cnX6_letAllGo {G : bp_GT} (a0 : Nat) (xp1 : Int32) : bp_Con G iX6_letAllGo (ws_ iX6_letAllGo.1 iX6_letAllGo.2.1 iX6_letAllGo.2.2.1 iX6_letAllGo.2.2.2.1) [.ref a0, .int xp1] (PX6_letAllGo a0 xp1) bp_eU := by
  refine bp_con_of [(0, .ref a0), (1, .int xp1)] rfl (by decide) (Nat.le_of_ble_eq_true rfl) rfl ?_
  unfold PX6_letAllGo
  refine bp_j_aload_n 0 dX6_letAllGo_0 rfl ?_
  refine bp_j_getN (t := 4) (k := 32) rfl (by decide) (bp_lk q1112) dX6_letAllGo_1 (fun _ _ _ => rfl) (fun a1 => ?_)
  refine bp_j_iload_n 1 dX6_letAllGo_4 rfl ?_
  refine bp_j_iaload dX6_letAllGo_5 (fun x2 => ?_)
  refine bp_j_iconst (v := 1) dX6_letAllGo_6 (by decide) ?_
  refine bp_j_iand dX6_letAllGo_7 ?_
  refine bp_j_jm (fun k => bp_J G iX6_letAllGo (bp_Qn G bp_eU) (k) 23 [(0, .ref a0), (1, .int xp1)] []) (fun k3 hk3 => ?_) ?_
  · refine bp_j_if_ne (tgt := 23) dX6_letAllGo_8 (by decide) ?_ ?_
    · exact hk3
    refine bp_j_aload_n 0 dX6_letAllGo_11 rfl ?_
    refine bp_j_getN (t := 4) (k := 35) rfl (by decide) (bp_lk q1115) dX6_letAllGo_12 (fun _ _ _ => rfl) (fun a18 => ?_)
    refine bp_j_iload_n 1 dX6_letAllGo_15 rfl ?_
    refine bp_j_aload_n 0 dX6_letAllGo_16 rfl ?_
    refine bp_j_getN (t := 4) (k := 27) rfl (by decide) (bp_lk q1107) dX6_letAllGo_17 (fun _ _ _ => rfl) (fun a19 => ?_)
    refine bp_j_iload_n 1 dX6_letAllGo_20 rfl ?_
    refine bp_j_iaload dX6_letAllGo_21 (fun x20 => ?_)
    refine bp_j_iastore dX6_letAllGo_22 ?_
    exact hk3
  refine bp_j_iconst (v := 0) dX6_letAllGo_23 (by decide) ?_
  refine bp_j_istore_n (lv' := [(2, .int (0 : Int32)), (0, .ref a0), (1, .int xp1)]) dX6_letAllGo_24 (by decide) rfl ?_
  refine bp_j_loop (fun k => ∀ (x4 : Int32), bp_J G iX6_letAllGo (bp_Qn G bp_eU) (k x4) 25 [(0, .ref a0), (1, .int xp1), (2, .int x4)] []) (fun _ => bp_j_no) (fun k5 hk5 x4 => ?_) (fun k h => bp_j_sub [1, 2, 0] rfl (h (0 : Int32)))
  unfold BX6_letAllGo_25
  refine bp_j_iload_n 2 dX6_letAllGo_25 rfl ?_
  refine bp_j_aload_n 0 dX6_letAllGo_26 rfl ?_
  refine bp_j_getN (t := 4) (k := 30) rfl (by decide) (bp_lk q1110) dX6_letAllGo_27 (fun _ _ _ => rfl) (fun a6 => ?_)
  refine bp_j_iload_n 1 dX6_letAllGo_30 rfl ?_
  refine bp_j_iaload dX6_letAllGo_31 (fun x7 => ?_)
  refine bp_j_icmp_ge (tgt := 83) dX6_letAllGo_32 (by decide) ?_ ?_
  · exact bp_j_vret rfl dX6_letAllGo_83
  refine bp_j_aload_n 0 dX6_letAllGo_35 rfl ?_
  refine bp_j_getN (t := 4) (k := 32) rfl (by decide) (bp_lk q1112) dX6_letAllGo_36 (fun _ _ _ => rfl) (fun a8 => ?_)
  refine bp_j_iload_n 1 dX6_letAllGo_39 rfl ?_
  refine bp_j_iaload dX6_letAllGo_40 (fun x9 => ?_)
  refine bp_j_iload_n 2 dX6_letAllGo_41 rfl ?_
  refine bp_j_iconst (v := 1) dX6_letAllGo_42 (by decide) ?_
  refine bp_j_iadd dX6_letAllGo_43 ?_
  refine bp_j_ishr dX6_letAllGo_44 ?_
  refine bp_j_iconst (v := 1) dX6_letAllGo_45 (by decide) ?_
  refine bp_j_iand dX6_letAllGo_46 ?_
  refine bp_j_jm (fun k => bp_J G iX6_letAllGo (bp_Qn G bp_eU) (k) 77 [(0, .ref a0), (1, .int xp1), (2, .int x4)] []) (fun k10 hk10 => ?_) ?_
  · refine bp_j_if_ne (tgt := 77) dX6_letAllGo_47 (by decide) ?_ ?_
    · exact hk10
    refine bp_j_aload_n 0 dX6_letAllGo_50 rfl ?_
    refine bp_j_getN (t := 4) (k := 35) rfl (by decide) (bp_lk q1115) dX6_letAllGo_51 (fun _ _ _ => rfl) (fun a12 => ?_)
    refine bp_j_aload_n 0 dX6_letAllGo_54 rfl ?_
    refine bp_j_aload_n 0 dX6_letAllGo_55 rfl ?_
    refine bp_j_getN (t := 4) (k := 31) rfl (by decide) (bp_lk q1111) dX6_letAllGo_56 (fun _ _ _ => rfl) (fun a13 => ?_)
    refine bp_j_bipush (v := 10) dX6_letAllGo_59 (by decide) ?_
    refine bp_j_iload_n 1 dX6_letAllGo_61 rfl ?_
    refine bp_j_imul dX6_letAllGo_62 ?_
    refine bp_j_iload_n 2 dX6_letAllGo_63 rfl ?_
    refine bp_j_iadd dX6_letAllGo_64 ?_
    refine bp_j_iaload dX6_letAllGo_65 (fun x14 => ?_)
    refine bp_j_iload_n 1 dX6_letAllGo_66 rfl ?_
    refine bp_j_cl_I (bp_ranV (t := 4) (n := 2) (As := [.int x14, .int xp1]) (cnX6_segmentOf (G := G) a0 x14 xp1) rfl (lw_V q1386 q1388 qs53 q82 q1389) ⟨rfl, by decide +kernel, by decide +kernel, by decide +kernel⟩ ⟨by decide, by decide⟩ (rest := [.ref a12]) rfl rfl (Nat.le_of_ble_eq_true rfl) dX6_letAllGo_67) (by decide) (fun x15 => ?_)
    refine bp_j_aload_n 0 dX6_letAllGo_70 rfl ?_
    refine bp_j_getN (t := 4) (k := 27) rfl (by decide) (bp_lk q1107) dX6_letAllGo_71 (fun _ _ _ => rfl) (fun a16 => ?_)
    refine bp_j_iload_n 1 dX6_letAllGo_74 rfl ?_
    refine bp_j_iaload dX6_letAllGo_75 (fun x17 => ?_)
    refine bp_j_iastore dX6_letAllGo_76 ?_
    exact hk10
  refine bp_j_iincL (lv' := fun x11 => [(2, .int x11), (0, .ref a0), (1, .int xp1)]) 2 dX6_letAllGo_77 rfl (by decide) (by decide) (fun _ => rfl) (fun x11 => ?_)
  refine bp_j_goto (tgt := 25) dX6_letAllGo_80 (by decide) ?_
  exact bp_j_sub [1, 2, 0] rfl (hk5 x11)
/-- BilevelPagesModel.readPage(I)Z -/
abbrev iX6_readPage : bp_MI := (yX6_readPage, cX6_readPage, 7, some (Jvm.ClassFile.FieldType.boolean), [], 2, 45)
def BX6_readPage_166 (a0 : Nat) (x10 : Int32) (k20 : Int32 → bp_M Int32) : Int32 → bp_M Int32 :=
  fun x19 =>
  bp_if ((1024 : Int32) ≤ x19) (
  bp_retZ (1 : Int32)) (
  bp_getN 4 46 a0 fun a21 =>
  bp_getN 4 18 a0 fun a22 =>
  bp_getI 4 21 a0 fun x23 =>
  bp_aldI 20 a22 (x23 + (8 : Int32)) fun x24 =>
  bp_jn (fun (k26 : Int32 → bp_M Int32) =>
  bp_if (x24 = (1 : Int32)) (
  k26 (1 : Int32)) (
  k26 (0 : Int32))) (fun (x25 : Int32) =>
  bp_astZ a21 (((1024 : Int32) * x10) + x19) x25 <|
  bp_letI (x19 + (1 : Int32)) fun x27 =>
  k20 x27))
def PX6_readPage (a0 : Nat) (xp1 : Int32) : bp_M Int32 :=
  bp_getI 4 21 a0 fun x1 =>
  bp_bind (bp_is 4 a0 (PX6_four a0 x1)) fun x2 =>
  bp_getI 4 21 a0 fun x3 =>
  bp_bind (bp_is 4 a0 (PX6_four a0 (x3 + (4 : Int32)))) fun x4 =>
  bp_bind (PX6_isIn x2 (1 : Int32) (32 : Int32)) fun x5 =>
  bp_jn (fun (k7 : Int32 → bp_M Int32) =>
  bp_if (x5 = 0) (
  k7 (0 : Int32)) (
  bp_jn (fun (k28 : bp_M Int32) =>
  bp_if (x4 = (-1 : Int32)) (
  k28) (
  bp_bind (PX6_isIn x4 (1 : Int32) (32 : Int32)) fun x35 =>
  bp_if (x35 = 0) (
  k7 (0 : Int32)) (
  k28))) (bp_getN 4 18 a0 fun a29 =>
  bp_getI 4 21 a0 fun x30 =>
  bp_aldI 20 a29 (x30 + (8 : Int32)) fun x31 =>
  bp_if ((2 : Int32) ≤ x31) (
  k7 (0 : Int32)) (
  bp_getN 4 18 a0 fun a32 =>
  bp_getI 4 21 a0 fun x33 =>
  bp_aldI 20 a32 (x33 + (9 : Int32)) fun x34 =>
  bp_if ((5 : Int32) ≤ x34) (
  k7 (0 : Int32)) (
  k7 (1 : Int32)))))) (fun (x6 : Int32) =>
  bp_bind (bp_is 4 a0 (PX6_needs a0 x6 (8 : Int32) xp1)) fun x8 =>
  bp_if (x8 = 0) (
  bp_retZ (0 : Int32)) (
  bp_getN 4 29 a0 fun a9 =>
  bp_aldI 20 a9 xp1 fun x10 =>
  bp_getN 4 40 a0 fun a11 =>
  bp_astZ a11 x10 (1 : Int32) <|
  bp_putI 4 39 a0 x10 <|
  bp_getN 4 41 a0 fun a12 =>
  bp_astI a12 x10 x2 <|
  bp_getN 4 42 a0 fun a13 =>
  bp_astI a13 x10 x4 <|
  bp_getN 4 43 a0 fun a14 =>
  bp_getN 4 18 a0 fun a15 =>
  bp_getI 4 21 a0 fun x16 =>
  bp_aldI 20 a15 (x16 + (9 : Int32)) fun x17 =>
  bp_astI a14 x10 x17 <|
  bp_getN 4 44 a0 fun a18 =>
  bp_astI a18 x10 (0 : Int32) <|
  bp_loop (fun _ => bp_no) (BX6_readPage_166 a0 x10) (fun k => k (0 : Int32))))
set_option maxHeartbeats 4000000 in
set_option maxRecDepth 100000 in
theorem cnX6_readPage {G : bp_GT} (a0 : Nat) (xp1 : Int32) : bp_Con G iX6_readPage (ws_ iX6_readPage.1 iX6_readPage.2.1 iX6_readPage.2.2.1 iX6_readPage.2.2.2.1) [.ref a0, .int xp1] (PX6_readPage a0 xp1) bp_eI := by
  refine bp_con_of [(0, .ref a0), (1, .int xp1)] rfl (by decide) (Nat.le_of_ble_eq_true rfl) rfl ?_
  unfold PX6_readPage
  refine bp_j_aload_n 0 dX6_readPage_0 rfl ?_
  refine bp_j_aload_n 0 dX6_readPage_1 rfl ?_
  refine bp_j_getI (t := 4) (k := 21) rfl (by decide) (bp_lk q1101) dX6_readPage_2 (fun _ _ _ => rfl) (fun x1 => ?_)
  refine bp_j_cl_I (bp_ranV (t := 4) (n := 1) (As := [.int x1]) (cnX6_four (G := G) a0 x1) rfl (lw_V q1372 q1374 qs50 q82 q1375) ⟨rfl, by decide +kernel, by decide +kernel, by decide +kernel⟩ ⟨by decide, by decide⟩ (rest := []) rfl rfl (Nat.le_of_ble_eq_true rfl) dX6_readPage_5) (by decide) (fun x2 => ?_)
  refine bp_j_istore_n (lv' := [(2, .int x2), (0, .ref a0), (1, .int xp1)]) dX6_readPage_8 (by decide) rfl ?_
  refine bp_j_aload_n 1 dX6_readPage_9 rfl ?_
  refine bp_j_aload_n 1 dX6_readPage_10 rfl ?_
  refine bp_j_getI (t := 4) (k := 21) rfl (by decide) (bp_lk q1101) dX6_readPage_11 (fun _ _ _ => rfl) (fun x3 => ?_)
  refine bp_j_iconst (v := 4) dX6_readPage_14 (by decide) ?_
  refine bp_j_iadd dX6_readPage_15 ?_
  refine bp_j_cl_I (bp_ranV (t := 4) (n := 1) (As := [.int (x3 + (4 : Int32))]) (cnX6_four (G := G) a0 (x3 + (4 : Int32))) rfl (lw_V q1372 q1374 qs50 q82 q1375) ⟨rfl, by decide +kernel, by decide +kernel, by decide +kernel⟩ ⟨by decide, by decide⟩ (rest := []) rfl rfl (Nat.le_of_ble_eq_true rfl) dX6_readPage_16) (by decide) (fun x4 => ?_)
  refine bp_j_istore_n (lv' := [(3, .int x4), (2, .int x2), (0, .ref a0), (1, .int xp1)]) dX6_readPage_19 (by decide) rfl ?_
  refine bp_j_iload_n 1 dX6_readPage_20 rfl ?_
  refine bp_j_iconst (v := 1) dX6_readPage_21 (by decide) ?_
  refine bp_j_bipush (v := 32) dX6_readPage_22 (by decide) ?_
  refine bp_j_cl_I (bp_ranS (n := 3) (As := [.int x2, .int (1 : Int32), .int (32 : Int32)]) (cnX6_isIn (G := G) x2 (1 : Int32) (32 : Int32)) (lw_S q1244 q1245 q82 q1246) ⟨by decide +kernel, by decide +kernel, by decide +kernel⟩ ⟨by decide, by decide⟩ (rest := []) rfl rfl (Nat.le_of_ble_eq_true rfl) dX6_readPage_24) (by decide) (fun x5 => ?_)
  refine bp_j_jm (fun k => ∀ (x6 : Int32), bp_J G iX6_readPage (bp_Qn G bp_eI) (k x6) 82 [(0, .ref a0), (1, .int xp1), (2, .int x2), (3, .int x4)] [.int x6]) (fun k7 hk7 => ?_) (fun x6 => ?_)
  · refine bp_j_if_eq (tgt := 81) dX6_readPage_27 (by decide) ?_ ?_
    · refine bp_j_iconst (v := 0) dX6_readPage_81 (by decide) ?_
      exact bp_j_sub [2, 3, 1, 0] rfl (hk7 (0 : Int32))
    refine bp_j_iload_n 0 dX6_readPage_30 rfl ?_
    refine bp_j_iconst (v := -1) dX6_readPage_31 (by decide) ?_
    refine bp_j_jm (fun k => bp_J G iX6_readPage (bp_Qn G bp_eI) (k) 45 [(0, .ref a0), (1, .int xp1), (2, .int x2), (3, .int x4)] []) (fun k28 hk28 => ?_) ?_
    · refine bp_j_icmp_eq (tgt := 45) dX6_readPage_32 (by decide) ?_ ?_
      · exact bp_j_sub [2, 3, 1, 0] rfl (hk28)
      refine bp_j_iload_n 0 dX6_readPage_35 rfl ?_
      refine bp_j_iconst (v := 1) dX6_readPage_36 (by decide) ?_
      refine bp_j_bipush (v := 32) dX6_readPage_37 (by decide) ?_
      refine bp_j_cl_I (bp_ranS (n := 3) (As := [.int x4, .int (1 : Int32), .int (32 : Int32)]) (cnX6_isIn (G := G) x4 (1 : Int32) (32 : Int32)) (lw_S q1244 q1245 q82 q1246) ⟨by decide +kernel, by decide +kernel, by decide +kernel⟩ ⟨by decide, by decide⟩ (rest := []) rfl rfl (Nat.le_of_ble_eq_true rfl) dX6_readPage_39) (by decide) (fun x35 => ?_)
      refine bp_j_if_eq (tgt := 81) dX6_readPage_42 (by decide) ?_ ?_
      · refine bp_j_iconst (v := 0) dX6_readPage_81 (by decide) ?_
        exact bp_j_sub [2, 3, 1, 0] rfl (hk7 (0 : Int32))
      exact bp_j_sub [2, 3, 1, 0] rfl (hk28)
    refine bp_j_aload_n 0 dX6_readPage_45 rfl ?_
    refine bp_j_getN (t := 4) (k := 18) rfl (by decide) (bp_lk q1098) dX6_readPage_46 (fun _ _ _ => rfl) (fun a29 => ?_)
    refine bp_j_aload_n 0 dX6_readPage_49 rfl ?_
    refine bp_j_getI (t := 4) (k := 21) rfl (by decide) (bp_lk q1101) dX6_readPage_50 (fun _ _ _ => rfl) (fun x30 => ?_)
    refine bp_j_bipush (v := 8) dX6_readPage_53 (by decide) ?_
    refine bp_j_iadd dX6_readPage_55 ?_
    refine bp_j_iaload dX6_readPage_56 (fun x31 => ?_)
    refine bp_j_iconst (v := 2) dX6_readPage_57 (by decide) ?_
    refine bp_j_icmp_ge (tgt := 81) dX6_readPage_58 (by decide) ?_ ?_
    · refine bp_j_iconst (v := 0) dX6_readPage_81 (by decide) ?_
      exact hk7 (0 : Int32)
    refine bp_j_aload_n 0 dX6_readPage_61 rfl ?_
    refine bp_j_getN (t := 4) (k := 18) rfl (by decide) (bp_lk q1098) dX6_readPage_62 (fun _ _ _ => rfl) (fun a32 => ?_)
    refine bp_j_aload_n 0 dX6_readPage_65 rfl ?_
    refine bp_j_getI (t := 4) (k := 21) rfl (by decide) (bp_lk q1101) dX6_readPage_66 (fun _ _ _ => rfl) (fun x33 => ?_)
    refine bp_j_bipush (v := 9) dX6_readPage_69 (by decide) ?_
    refine bp_j_iadd dX6_readPage_71 ?_
    refine bp_j_iaload dX6_readPage_72 (fun x34 => ?_)
    refine bp_j_iconst (v := 5) dX6_readPage_73 (by decide) ?_
    refine bp_j_icmp_ge (tgt := 81) dX6_readPage_74 (by decide) ?_ ?_
    · refine bp_j_iconst (v := 0) dX6_readPage_81 (by decide) ?_
      exact hk7 (0 : Int32)
    refine bp_j_iconst (v := 1) dX6_readPage_77 (by decide) ?_
    refine bp_j_goto (tgt := 82) dX6_readPage_78 (by decide) ?_
    exact hk7 (1 : Int32)
  refine bp_j_istore (lv' := [(4, .int x6), (0, .ref a0), (1, .int xp1), (2, .int x2), (3, .int x4)]) dX6_readPage_82 (by decide) rfl ?_
  refine bp_j_aload_n 1 dX6_readPage_84 rfl ?_
  refine bp_j_iload 0 dX6_readPage_85 rfl ?_
  refine bp_j_bipush (v := 8) dX6_readPage_87 (by decide) ?_
  refine bp_j_iload_n 2 dX6_readPage_89 rfl ?_
  refine bp_j_cl_I (bp_ranV (t := 4) (n := 3) (As := [.int x6, .int (8 : Int32), .int xp1]) (cnX6_needs (G := G) a0 x6 (8 : Int32) xp1) rfl (lw_V q1398 q1400 qs56 q82 q1401) ⟨rfl, by decide +kernel, by decide +kernel, by decide +kernel⟩ ⟨by decide, by decide⟩ (rest := []) rfl rfl (Nat.le_of_ble_eq_true rfl) dX6_readPage_90) (by decide) (fun x8 => ?_)
  refine bp_j_if_ne (tgt := 98) dX6_readPage_93 (by decide) ?_ ?_
  · refine bp_j_aload_n 1 dX6_readPage_98 rfl ?_
    refine bp_j_getN (t := 4) (k := 29) rfl (by decide) (bp_lk q1109) dX6_readPage_99 (fun _ _ _ => rfl) (fun a9 => ?_)
    refine bp_j_iload_n 2 dX6_readPage_102 rfl ?_
    refine bp_j_iaload dX6_readPage_103 (fun x10 => ?_)
    refine bp_j_istore (lv' := [(5, .int x10), (4, .int x6), (0, .ref a0), (1, .int xp1), (2, .int x2), (3, .int x4)]) dX6_readPage_104 (by decide) rfl ?_
    refine bp_j_aload_n 2 dX6_readPage_106 rfl ?_
    refine bp_j_getN (t := 4) (k := 40) rfl (by decide) (bp_lk q1120) dX6_readPage_107 (fun _ _ _ => rfl) (fun a11 => ?_)
    refine bp_j_iload 0 dX6_readPage_110 rfl ?_
    refine bp_j_iconst (v := 1) dX6_readPage_112 (by decide) ?_
    refine bp_j_bastoreZ dX6_readPage_113 ?_
    refine bp_j_aload_n 2 dX6_readPage_114 rfl ?_
    refine bp_j_iload 0 dX6_readPage_115 rfl ?_
    refine bp_j_putI (t := 4) (k := 39) rfl (by decide) (by decide) (bp_lk q1119) rfl dX6_readPage_117 rfl ?_
    refine bp_j_aload_n 2 dX6_readPage_120 rfl ?_
    refine bp_j_getN (t := 4) (k := 41) rfl (by decide) (bp_lk q1121) dX6_readPage_121 (fun _ _ _ => rfl) (fun a12 => ?_)
    refine bp_j_iload 0 dX6_readPage_124 rfl ?_
    refine bp_j_iload_n 4 dX6_readPage_126 rfl ?_
    refine bp_j_iastore dX6_readPage_127 ?_
    refine bp_j_aload_n 2 dX6_readPage_128 rfl ?_
    refine bp_j_getN (t := 4) (k := 42) rfl (by decide) (bp_lk q1122) dX6_readPage_129 (fun _ _ _ => rfl) (fun a13 => ?_)
    refine bp_j_iload 0 dX6_readPage_132 rfl ?_
    refine bp_j_iload_n 5 dX6_readPage_134 rfl ?_
    refine bp_j_iastore dX6_readPage_135 ?_
    refine bp_j_aload_n 2 dX6_readPage_136 rfl ?_
    refine bp_j_getN (t := 4) (k := 43) rfl (by decide) (bp_lk q1123) dX6_readPage_137 (fun _ _ _ => rfl) (fun a14 => ?_)
    refine bp_j_iload 0 dX6_readPage_140 rfl ?_
    refine bp_j_aload_n 2 dX6_readPage_142 rfl ?_
    refine bp_j_getN (t := 4) (k := 18) rfl (by decide) (bp_lk q1098) dX6_readPage_143 (fun _ _ _ => rfl) (fun a15 => ?_)
    refine bp_j_aload_n 2 dX6_readPage_146 rfl ?_
    refine bp_j_getI (t := 4) (k := 21) rfl (by decide) (bp_lk q1101) dX6_readPage_147 (fun _ _ _ => rfl) (fun x16 => ?_)
    refine bp_j_bipush (v := 9) dX6_readPage_150 (by decide) ?_
    refine bp_j_iadd dX6_readPage_152 ?_
    refine bp_j_iaload dX6_readPage_153 (fun x17 => ?_)
    refine bp_j_iastore dX6_readPage_154 ?_
    refine bp_j_aload_n 2 dX6_readPage_155 rfl ?_
    refine bp_j_getN (t := 4) (k := 44) rfl (by decide) (bp_lk q1124) dX6_readPage_156 (fun _ _ _ => rfl) (fun a18 => ?_)
    refine bp_j_iload 0 dX6_readPage_159 rfl ?_
    refine bp_j_iconst (v := 0) dX6_readPage_161 (by decide) ?_
    refine bp_j_iastore dX6_readPage_162 ?_
    refine bp_j_iconst (v := 0) dX6_readPage_163 (by decide) ?_
    refine bp_j_istore (lv' := [(6, .int (0 : Int32)), (5, .int x10), (4, .int x6), (0, .ref a0), (1, .int xp1), (2, .int x2), (3, .int x4)]) dX6_readPage_164 (by decide) rfl ?_
    refine bp_j_loop (fun k => ∀ (x19 : Int32), bp_J G iX6_readPage (bp_Qn G bp_eI) (k x19) 166 [(0, .ref a0), (5, .int x10), (6, .int x19)] []) (fun _ => bp_j_no) (fun k20 hk20 x19 => ?_) (fun k h => bp_j_sub [3, 1, 0] rfl (h (0 : Int32)))
    unfold BX6_readPage_166
    refine bp_j_iload 2 dX6_readPage_166 rfl ?_
    refine bp_j_sipush (v := 1024) dX6_readPage_168 (by decide) ?_
    refine bp_j_icmp_ge (tgt := 215) dX6_readPage_171 (by decide) ?_ ?_
    · refine bp_j_iconst (v := 1) dX6_readPage_215 (by decide) ?_
      exact bp_j_zret rfl dX6_readPage_216
    refine bp_j_aload_n 0 dX6_readPage_174 rfl ?_
    refine bp_j_getN (t := 4) (k := 46) rfl (by decide) (bp_lk q1126) dX6_readPage_175 (fun _ _ _ => rfl) (fun a21 => ?_)
    refine bp_j_sipush (v := 1024) dX6_readPage_178 (by decide) ?_
    refine bp_j_iload 1 dX6_readPage_181 rfl ?_
    refine bp_j_imul dX6_readPage_183 ?_
    refine bp_j_iload 2 dX6_readPage_184 rfl ?_
    refine bp_j_iadd dX6_readPage_186 ?_
    refine bp_j_aload_n 0 dX6_readPage_187 rfl ?_
    refine bp_j_getN (t := 4) (k := 18) rfl (by decide) (bp_lk q1098) dX6_readPage_188 (fun _ _ _ => rfl) (fun a22 => ?_)
    refine bp_j_aload_n 0 dX6_readPage_191 rfl ?_
    refine bp_j_getI (t := 4) (k := 21) rfl (by decide) (bp_lk q1101) dX6_readPage_192 (fun _ _ _ => rfl) (fun x23 => ?_)
    refine bp_j_bipush (v := 8) dX6_readPage_195 (by decide) ?_
    refine bp_j_iadd dX6_readPage_197 ?_
    refine bp_j_iaload dX6_readPage_198 (fun x24 => ?_)
    refine bp_j_iconst (v := 1) dX6_readPage_199 (by decide) ?_
    refine bp_j_jm (fun k => ∀ (x25 : Int32), bp_J G iX6_readPage (bp_Qn G bp_eI) (k x25) 208 [(0, .ref a0), (5, .int x10), (6, .int x19)] [.int x25, .int (((1024 : Int32) * x10) + x19), .ref a21]) (fun k26 hk26 => ?_) (fun x25 => ?_)
    · refine bp_j_icmp_ne (tgt := 207) dX6_readPage_200 (by decide) ?_ ?_
      · refine bp_j_iconst (v := 0) dX6_readPage_207 (by decide) ?_
        exact hk26 (0 : Int32)
      refine bp_j_iconst (v := 1) dX6_readPage_203 (by decide) ?_
      refine bp_j_goto (tgt := 208) dX6_readPage_204 (by decide) ?_
      exact hk26 (1 : Int32)
    refine bp_j_bastoreZ dX6_readPage_208 ?_
    refine bp_j_iincL (lv' := fun x27 => [(6, .int x27), (0, .ref a0), (5, .int x10)]) 2 dX6_readPage_209 rfl (by decide) (by decide) (fun _ => rfl) (fun x27 => ?_)
    refine bp_j_goto (tgt := 166) dX6_readPage_212 (by decide) ?_
    exact bp_j_sub [1, 2, 0] rfl (hk20 x27)
  refine bp_j_iconst (v := 0) dX6_readPage_96 (by decide) ?_
  exact bp_j_zret rfl dX6_readPage_97
/-- BilevelPagesModel.keptOf(I)I -/
abbrev iX6_keptOf : bp_MI := (yX6_keptOf, cX6_keptOf, 4, some (Jvm.ClassFile.FieldType.int), [], 1, 23)
def BX6_keptOf_2 (a0 : Nat) (xp1 : Int32) (k2 : Int32 → bp_M Int32) : Int32 → bp_M Int32 :=
  fun x1 =>
  bp_getN 4 30 a0 fun a3 =>
  bp_aldI 20 a3 xp1 fun x4 =>
  bp_if (x4 ≤ x1) (
  bp_ret (-1 : Int32)) (
  bp_getN 4 31 a0 fun a5 =>
  bp_aldI 20 a5 (((10 : Int32) * xp1) + x1) fun x6 =>
  bp_bind (bp_is 4 a0 (PX6_segmentOf a0 x6 xp1)) fun x7 =>
  bp_jn (fun (k8 : bp_M Int32) =>
  bp_if (x7 < 0) (
  k8) (
  bp_getN 4 28 a0 fun a10 =>
  bp_aldI 20 a10 x7 fun x11 =>
  bp_if (x11 = (4 : Int32)) (
  bp_ret x7) (
  k8))) (bp_letI (x1 + (1 : Int32)) fun x9 =>
  k2 x9))
def PX6_keptOf (a0 : Nat) (xp1 : Int32) : bp_M Int32 :=
  bp_loop (fun _ => bp_no) (BX6_keptOf_2 a0 xp1) (fun k => k (0 : Int32))
set_option maxHeartbeats 4000000 in
set_option maxRecDepth 100000 in
theorem cnX6_keptOf {G : bp_GT} (a0 : Nat) (xp1 : Int32) : bp_Con G iX6_keptOf (ws_ iX6_keptOf.1 iX6_keptOf.2.1 iX6_keptOf.2.2.1 iX6_keptOf.2.2.2.1) [.ref a0, .int xp1] (PX6_keptOf a0 xp1) bp_eI := by
  refine bp_con_of [(0, .ref a0), (1, .int xp1)] rfl (by decide) (Nat.le_of_ble_eq_true rfl) rfl ?_
  unfold PX6_keptOf
  refine bp_j_iconst (v := 0) dX6_keptOf_0 (by decide) ?_
  refine bp_j_istore_n (lv' := [(2, .int (0 : Int32)), (0, .ref a0), (1, .int xp1)]) dX6_keptOf_1 (by decide) rfl ?_
  refine bp_j_loop (fun k => ∀ (x1 : Int32), bp_J G iX6_keptOf (bp_Qn G bp_eI) (k x1) 2 [(0, .ref a0), (1, .int xp1), (2, .int x1)] []) (fun _ => bp_j_no) (fun k2 hk2 x1 => ?_) (fun k h => bp_j_sub [1, 2, 0] rfl (h (0 : Int32)))
  unfold BX6_keptOf_2
  refine bp_j_iload_n 2 dX6_keptOf_2 rfl ?_
  refine bp_j_aload_n 0 dX6_keptOf_3 rfl ?_
  refine bp_j_getN (t := 4) (k := 30) rfl (by decide) (bp_lk q1110) dX6_keptOf_4 (fun _ _ _ => rfl) (fun a3 => ?_)
  refine bp_j_iload_n 1 dX6_keptOf_7 rfl ?_
  refine bp_j_iaload dX6_keptOf_8 (fun x4 => ?_)
  refine bp_j_icmp_ge (tgt := 51) dX6_keptOf_9 (by decide) ?_ ?_
  · refine bp_j_iconst (v := -1) dX6_keptOf_51 (by decide) ?_
    exact bp_j_iret rfl dX6_keptOf_52
  refine bp_j_aload_n 0 dX6_keptOf_12 rfl ?_
  refine bp_j_aload_n 0 dX6_keptOf_13 rfl ?_
  refine bp_j_getN (t := 4) (k := 31) rfl (by decide) (bp_lk q1111) dX6_keptOf_14 (fun _ _ _ => rfl) (fun a5 => ?_)
  refine bp_j_bipush (v := 10) dX6_keptOf_17 (by decide) ?_
  refine bp_j_iload_n 1 dX6_keptOf_19 rfl ?_
  refine bp_j_imul dX6_keptOf_20 ?_
  refine bp_j_iload_n 2 dX6_keptOf_21 rfl ?_
  refine bp_j_iadd dX6_keptOf_22 ?_
  refine bp_j_iaload dX6_keptOf_23 (fun x6 => ?_)
  refine bp_j_iload_n 1 dX6_keptOf_24 rfl ?_
  refine bp_j_cl_I (bp_ranV (t := 4) (n := 2) (As := [.int x6, .int xp1]) (cnX6_segmentOf (G := G) a0 x6 xp1) rfl (lw_V q1386 q1388 qs53 q82 q1389) ⟨rfl, by decide +kernel, by decide +kernel, by decide +kernel⟩ ⟨by decide, by decide⟩ (rest := []) rfl rfl (Nat.le_of_ble_eq_true rfl) dX6_keptOf_25) (by decide) (fun x7 => ?_)
  refine bp_j_istore_n (lv' := [(3, .int x7), (0, .ref a0), (1, .int xp1), (2, .int x1)]) dX6_keptOf_28 (by decide) rfl ?_
  refine bp_j_iload_n 0 dX6_keptOf_29 rfl ?_
  refine bp_j_jm (fun k => bp_J G iX6_keptOf (bp_Qn G bp_eI) (k) 45 [(0, .ref a0), (1, .int xp1), (2, .int x1)] []) (fun k8 hk8 => ?_) ?_
  · refine bp_j_if_lt (tgt := 45) dX6_keptOf_30 (by decide) ?_ ?_
    · exact bp_j_sub [1, 2, 3] rfl (hk8)
    refine bp_j_aload_n 1 dX6_keptOf_33 rfl ?_
    refine bp_j_getN (t := 4) (k := 28) rfl (by decide) (bp_lk q1108) dX6_keptOf_34 (fun _ _ _ => rfl) (fun a10 => ?_)
    refine bp_j_iload_n 0 dX6_keptOf_37 rfl ?_
    refine bp_j_iaload dX6_keptOf_38 (fun x11 => ?_)
    refine bp_j_iconst (v := 4) dX6_keptOf_39 (by decide) ?_
    refine bp_j_icmp_ne (tgt := 45) dX6_keptOf_40 (by decide) ?_ ?_
    · exact bp_j_sub [1, 2, 3] rfl (hk8)
    refine bp_j_iload_n 0 dX6_keptOf_43 rfl ?_
    exact bp_j_iret rfl dX6_keptOf_44
  refine bp_j_iincL (lv' := fun x9 => [(2, .int x9), (0, .ref a0), (1, .int xp1)]) 2 dX6_keptOf_45 rfl (by decide) (by decide) (fun _ => rfl) (fun x9 => ?_)
  refine bp_j_goto (tgt := 2) dX6_keptOf_48 (by decide) ?_
  exact bp_j_sub [1, 2, 0] rfl (hk2 x9)
/-- BilevelPagesModel.joined(IZZ)Z -/
abbrev iX6_joined : bp_MI := (yX6_joined, cX6_joined, 3, some (Jvm.ClassFile.FieldType.boolean), [], 0, 0)
def PX6_joined (xp0 : Int32) (xp1 : Int32) (xp2 : Int32) : bp_M Int32 :=
  bp_sw (xp0).toInt [(0, (
  bp_if (xp1 = 0) (
  bp_if (xp2 = 0) (
  bp_retZ (0 : Int32)) (
  bp_retZ (1 : Int32))) (
  bp_retZ (1 : Int32)))), (1, (
  bp_if (xp1 = 0) (
  bp_retZ (0 : Int32)) (
  bp_if (xp2 = 0) (
  bp_retZ (0 : Int32)) (
  bp_retZ (1 : Int32))))), (2, (
  bp_if (xp1 = xp2) (
  bp_retZ (0 : Int32)) (
  bp_retZ (1 : Int32)))), (3, (
  bp_if (xp1 = xp2) (
  bp_retZ (1 : Int32)) (
  bp_retZ (0 : Int32))))] (
  bp_retZ xp2)
set_option maxHeartbeats 4000000 in
set_option maxRecDepth 100000 in
theorem cnX6_joined {G : bp_GT} (xp0 : Int32) (xp1 : Int32) (xp2 : Int32) : bp_Con G iX6_joined (ws_ iX6_joined.1 iX6_joined.2.1 iX6_joined.2.2.1 iX6_joined.2.2.2.1) [.int xp0, .int xp1, .int xp2] (PX6_joined xp0 xp1 xp2) bp_eI := by
  refine bp_con_of [(0, .int xp0), (1, .int xp1), (2, .int xp2)] rfl (by decide) (Nat.le_of_ble_eq_true rfl) rfl ?_
  unfold PX6_joined
  refine bp_j_iload_n 0 dX6_joined_0 rfl ?_
  refine bp_j_tsw (tgt := 82) [32, 46, 60, 71] dX6_joined_1 rfl rfl rfl (by decide) (bp_JSc ?_ (bp_JSc ?_ (bp_JSc ?_ (bp_JSc ?_ bp_JSn)))) ?_
  · refine bp_j_iload_n 1 dX6_joined_32 rfl ?_
    refine bp_j_if_ne (tgt := 40) dX6_joined_33 (by decide) ?_ ?_
    · refine bp_j_iconst (v := 1) dX6_joined_40 (by decide) ?_
      refine bp_j_goto (tgt := 45) dX6_joined_41 (by decide) ?_
      exact bp_j_zret rfl dX6_joined_45
    refine bp_j_iload_n 2 dX6_joined_36 rfl ?_
    refine bp_j_if_eq (tgt := 44) dX6_joined_37 (by decide) ?_ ?_
    · refine bp_j_iconst (v := 0) dX6_joined_44 (by decide) ?_
      exact bp_j_zret rfl dX6_joined_45
    refine bp_j_iconst (v := 1) dX6_joined_40 (by decide) ?_
    refine bp_j_goto (tgt := 45) dX6_joined_41 (by decide) ?_
    exact bp_j_zret rfl dX6_joined_45
  · refine bp_j_iload_n 1 dX6_joined_46 rfl ?_
    refine bp_j_if_eq (tgt := 58) dX6_joined_47 (by decide) ?_ ?_
    · refine bp_j_iconst (v := 0) dX6_joined_58 (by decide) ?_
      exact bp_j_zret rfl dX6_joined_59
    refine bp_j_iload_n 2 dX6_joined_50 rfl ?_
    refine bp_j_if_eq (tgt := 58) dX6_joined_51 (by decide) ?_ ?_
    · refine bp_j_iconst (v := 0) dX6_joined_58 (by decide) ?_
      exact bp_j_zret rfl dX6_joined_59
    refine bp_j_iconst (v := 1) dX6_joined_54 (by decide) ?_
    refine bp_j_goto (tgt := 59) dX6_joined_55 (by decide) ?_
    exact bp_j_zret rfl dX6_joined_59
  · refine bp_j_iload_n 1 dX6_joined_60 rfl ?_
    refine bp_j_iload_n 2 dX6_joined_61 rfl ?_
    refine bp_j_icmp_eq (tgt := 69) dX6_joined_62 (by decide) ?_ ?_
    · refine bp_j_iconst (v := 0) dX6_joined_69 (by decide) ?_
      exact bp_j_zret rfl dX6_joined_70
    refine bp_j_iconst (v := 1) dX6_joined_65 (by decide) ?_
    refine bp_j_goto (tgt := 70) dX6_joined_66 (by decide) ?_
    exact bp_j_zret rfl dX6_joined_70
  · refine bp_j_iload_n 1 dX6_joined_71 rfl ?_
    refine bp_j_iload_n 2 dX6_joined_72 rfl ?_
    refine bp_j_icmp_ne (tgt := 80) dX6_joined_73 (by decide) ?_ ?_
    · refine bp_j_iconst (v := 0) dX6_joined_80 (by decide) ?_
      exact bp_j_zret rfl dX6_joined_81
    refine bp_j_iconst (v := 1) dX6_joined_76 (by decide) ?_
    refine bp_j_goto (tgt := 81) dX6_joined_77 (by decide) ?_
    exact bp_j_zret rfl dX6_joined_81
  refine bp_j_iload_n 2 dX6_joined_82 rfl ?_
  exact bp_j_zret rfl dX6_joined_83
/-- BilevelPagesModel.putUpon(IIII)V -/
abbrev iX6_putUpon : bp_MI := (yX6_putUpon, cX6_putUpon, 11, none, [], 1, 22)
def BX6_putUpon_69 (a0 : Nat) (xp1 : Int32) (xp2 : Int32) (xp3 : Int32) (x2 : Int32) (x5 : Int32) (x7 : Int32) (x9 : Int32) (k13 : bp_M Unit) (k16 : Int32 → bp_M Unit) : Int32 → bp_M Unit :=
  fun x15 =>
  bp_getN 4 36 a0 fun a17 =>
  bp_aldI 20 a17 xp1 fun x18 =>
  bp_if (x18 ≤ x15) (
  k13) (
  bp_getN 4 41 a0 fun a19 =>
  bp_aldI 20 a19 x2 fun x20 =>
  bp_jn (fun (k21 : bp_M Unit) =>
  bp_if (x20 ≤ (xp2 + x15)) (
  k21) (
  bp_if (x5 ≤ (xp3 + x9)) (
  k21) (
  bp_letI (((((1024 : Int32) * x2) + ((32 : Int32) * (xp3 + x9))) + xp2) + x15) fun x23 =>
  bp_getN 4 46 a0 fun a24 =>
  bp_getN 4 46 a0 fun a25 =>
  bp_aldI 22 a25 x23 fun x26 =>
  bp_getN 4 38 a0 fun a27 =>
  bp_aldI 20 a27 (((16 : Int32) * xp1) + x9) fun x28 =>
  bp_jn (fun (k30 : Int32 → bp_M Unit) =>
  bp_if (((x28 >>> (x15 &&& 31)) &&& (1 : Int32)) = (1 : Int32)) (
  k30 (1 : Int32)) (
  k30 (0 : Int32))) (fun (x29 : Int32) =>
  bp_bind (PX6_joined x7 x26 x29) fun x31 =>
  bp_astZ a24 x23 x31 <|
  k21)))) (bp_letI (x15 + (1 : Int32)) fun x22 =>
  k16 x22))
def BX6_putUpon_55 (a0 : Nat) (xp1 : Int32) (xp2 : Int32) (xp3 : Int32) (x2 : Int32) (x5 : Int32) (x7 : Int32) (k10 : Int32 → bp_M Unit) : Int32 → bp_M Unit :=
  fun x9 =>
  bp_getN 4 37 a0 fun a11 =>
  bp_aldI 20 a11 xp1 fun x12 =>
  bp_if (x12 ≤ x9) (
  bp_ret ()) (
  bp_jn (fun (k13 : bp_M Unit) =>
  bp_loop (fun _ => bp_no) (BX6_putUpon_69 a0 xp1 xp2 xp3 x2 x5 x7 x9 k13) (fun k => k (0 : Int32))) (bp_letI (x9 + (1 : Int32)) fun x14 =>
  k10 x14))
def PX6_putUpon (a0 : Nat) (xp1 : Int32) (xp2 : Int32) (xp3 : Int32) (xp4 : Int32) : bp_M Unit :=
  bp_getN 4 29 a0 fun a1 =>
  bp_aldI 20 a1 xp1 fun x2 =>
  bp_getN 4 42 a0 fun a3 =>
  bp_aldI 20 a3 x2 fun x4 =>
  bp_jn (fun (k6 : Int32 → bp_M Unit) =>
  bp_if (0 ≤ x4) (
  bp_getN 4 42 a0 fun a34 =>
  bp_aldI 20 a34 x2 fun x35 =>
  k6 x35) (
  k6 (32 : Int32))) (fun (x5 : Int32) =>
  bp_jn (fun (k8 : Int32 → bp_M Unit) =>
  bp_if (xp4 = (5 : Int32)) (
  bp_getN 4 43 a0 fun a32 =>
  bp_aldI 20 a32 x2 fun x33 =>
  k8 x33) (
  k8 xp4)) (fun (x7 : Int32) =>
  bp_loop (fun _ => bp_no) (BX6_putUpon_55 a0 xp1 xp2 xp3 x2 x5 x7) (fun k => k (0 : Int32))))
set_option maxHeartbeats 4000000 in
set_option maxRecDepth 100000 in
theorem cnX6_putUpon {G : bp_GT} (a0 : Nat) (xp1 : Int32) (xp2 : Int32) (xp3 : Int32) (xp4 : Int32) : bp_Con G iX6_putUpon (ws_ iX6_putUpon.1 iX6_putUpon.2.1 iX6_putUpon.2.2.1 iX6_putUpon.2.2.2.1) [.ref a0, .int xp1, .int xp2, .int xp3, .int xp4] (PX6_putUpon a0 xp1 xp2 xp3 xp4) bp_eU := by
  refine bp_con_of [(0, .ref a0), (1, .int xp1), (2, .int xp2), (3, .int xp3), (4, .int xp4)] rfl (by decide) (Nat.le_of_ble_eq_true rfl) rfl ?_
  unfold PX6_putUpon
  refine bp_j_aload_n 0 dX6_putUpon_0 rfl ?_
  refine bp_j_getN (t := 4) (k := 29) rfl (by decide) (bp_lk q1109) dX6_putUpon_1 (fun _ _ _ => rfl) (fun a1 => ?_)
  refine bp_j_iload_n 1 dX6_putUpon_4 rfl ?_
  refine bp_j_iaload dX6_putUpon_5 (fun x2 => ?_)
  refine bp_j_istore (lv' := [(5, .int x2), (0, .ref a0), (1, .int xp1), (2, .int xp2), (3, .int xp3), (4, .int xp4)]) dX6_putUpon_6 (by decide) rfl ?_
  refine bp_j_aload_n 1 dX6_putUpon_8 rfl ?_
  refine bp_j_getN (t := 4) (k := 42) rfl (by decide) (bp_lk q1122) dX6_putUpon_9 (fun _ _ _ => rfl) (fun a3 => ?_)
  refine bp_j_iload 0 dX6_putUpon_12 rfl ?_
  refine bp_j_iaload dX6_putUpon_14 (fun x4 => ?_)
  refine bp_j_jm (fun k => ∀ (x5 : Int32), bp_J G iX6_putUpon (bp_Qn G bp_eU) (k x5) 30 [(0, .ref a0), (1, .int xp1), (2, .int xp2), (3, .int xp3), (4, .int xp4), (5, .int x2)] [.int x5]) (fun k6 hk6 => ?_) (fun x5 => ?_)
  · refine bp_j_if_ge (tgt := 23) dX6_putUpon_15 (by decide) ?_ ?_
    · refine bp_j_aload_n 1 dX6_putUpon_23 rfl ?_
      refine bp_j_getN (t := 4) (k := 42) rfl (by decide) (bp_lk q1122) dX6_putUpon_24 (fun _ _ _ => rfl) (fun a34 => ?_)
      refine bp_j_iload 0 dX6_putUpon_27 rfl ?_
      refine bp_j_iaload dX6_putUpon_29 (fun x35 => ?_)
      exact bp_j_sub [1, 2, 3, 4, 5, 0] rfl (hk6 x35)
    refine bp_j_bipush (v := 32) dX6_putUpon_18 (by decide) ?_
    refine bp_j_goto (tgt := 30) dX6_putUpon_20 (by decide) ?_
    exact bp_j_sub [1, 2, 3, 4, 5, 0] rfl (hk6 (32 : Int32))
  refine bp_j_istore (lv' := [(6, .int x5), (0, .ref a0), (1, .int xp1), (2, .int xp2), (3, .int xp3), (4, .int xp4), (5, .int x2)]) dX6_putUpon_30 (by decide) rfl ?_
  refine bp_j_iload 5 dX6_putUpon_32 rfl ?_
  refine bp_j_iconst (v := 5) dX6_putUpon_34 (by decide) ?_
  refine bp_j_jm (fun k => ∀ (x7 : Int32), bp_J G iX6_putUpon (bp_Qn G bp_eU) (k x7) 50 [(0, .ref a0), (1, .int xp1), (2, .int xp2), (3, .int xp3), (5, .int x2), (6, .int x5)] [.int x7]) (fun k8 hk8 => ?_) (fun x7 => ?_)
  · refine bp_j_icmp_ne (tgt := 48) dX6_putUpon_35 (by decide) ?_ ?_
    · refine bp_j_iload 5 dX6_putUpon_48 rfl ?_
      exact bp_j_sub [1, 2, 3, 4, 6, 0] rfl (hk8 xp4)
    refine bp_j_aload_n 1 dX6_putUpon_38 rfl ?_
    refine bp_j_getN (t := 4) (k := 43) rfl (by decide) (bp_lk q1123) dX6_putUpon_39 (fun _ _ _ => rfl) (fun a32 => ?_)
    refine bp_j_iload 6 dX6_putUpon_42 rfl ?_
    refine bp_j_iaload dX6_putUpon_44 (fun x33 => ?_)
    refine bp_j_goto (tgt := 50) dX6_putUpon_45 (by decide) ?_
    exact bp_j_sub [1, 2, 3, 4, 6, 0] rfl (hk8 x33)
  refine bp_j_istore (lv' := [(7, .int x7), (0, .ref a0), (1, .int xp1), (2, .int xp2), (3, .int xp3), (5, .int x2), (6, .int x5)]) dX6_putUpon_50 (by decide) rfl ?_
  refine bp_j_iconst (v := 0) dX6_putUpon_52 (by decide) ?_
  refine bp_j_istore (lv' := [(8, .int (0 : Int32)), (7, .int x7), (0, .ref a0), (1, .int xp1), (2, .int xp2), (3, .int xp3), (5, .int x2), (6, .int x5)]) dX6_putUpon_53 (by decide) rfl ?_
  refine bp_j_loop (fun k => ∀ (x9 : Int32), bp_J G iX6_putUpon (bp_Qn G bp_eU) (k x9) 55 [(0, .ref a0), (1, .int xp1), (2, .int xp2), (3, .int xp3), (5, .int x2), (6, .int x5), (7, .int x7), (8, .int x9)] []) (fun _ => bp_j_no) (fun k10 hk10 x9 => ?_) (fun k h => bp_j_sub [2, 3, 4, 5, 6, 7, 1, 0] rfl (h (0 : Int32)))
  unfold BX6_putUpon_55
  refine bp_j_iload 7 dX6_putUpon_55 rfl ?_
  refine bp_j_aload_n 0 dX6_putUpon_57 rfl ?_
  refine bp_j_getN (t := 4) (k := 37) rfl (by decide) (bp_lk q1117) dX6_putUpon_58 (fun _ _ _ => rfl) (fun a11 => ?_)
  refine bp_j_iload_n 1 dX6_putUpon_61 rfl ?_
  refine bp_j_iaload dX6_putUpon_62 (fun x12 => ?_)
  refine bp_j_icmp_ge (tgt := 181) dX6_putUpon_63 (by decide) ?_ ?_
  · exact bp_j_vret rfl dX6_putUpon_181
  refine bp_j_iconst (v := 0) dX6_putUpon_66 (by decide) ?_
  refine bp_j_istore (lv' := [(9, .int (0 : Int32)), (0, .ref a0), (1, .int xp1), (2, .int xp2), (3, .int xp3), (5, .int x2), (6, .int x5), (7, .int x7), (8, .int x9)]) dX6_putUpon_67 (by decide) rfl ?_
  refine bp_j_jm (fun k => bp_J G iX6_putUpon (bp_Qn G bp_eU) (k) 175 [(0, .ref a0), (1, .int xp1), (2, .int xp2), (3, .int xp3), (5, .int x2), (6, .int x5), (7, .int x7), (8, .int x9)] []) (fun k13 hk13 => ?_) ?_
  · refine bp_j_loop (fun k => ∀ (x15 : Int32), bp_J G iX6_putUpon (bp_Qn G bp_eU) (k x15) 69 [(0, .ref a0), (1, .int xp1), (2, .int xp2), (3, .int xp3), (5, .int x2), (6, .int x5), (7, .int x7), (8, .int x9), (9, .int x15)] []) (fun _ => bp_j_no) (fun k16 hk16 x15 => ?_) (fun k h => bp_j_sub [1, 2, 3, 4, 5, 6, 7, 8, 0] rfl (h (0 : Int32)))
    unfold BX6_putUpon_69
    refine bp_j_iload 8 dX6_putUpon_69 rfl ?_
    refine bp_j_aload_n 0 dX6_putUpon_71 rfl ?_
    refine bp_j_getN (t := 4) (k := 36) rfl (by decide) (bp_lk q1116) dX6_putUpon_72 (fun _ _ _ => rfl) (fun a17 => ?_)
    refine bp_j_iload_n 1 dX6_putUpon_75 rfl ?_
    refine bp_j_iaload dX6_putUpon_76 (fun x18 => ?_)
    refine bp_j_icmp_ge (tgt := 175) dX6_putUpon_77 (by decide) ?_ ?_
    · exact bp_j_sub [0, 1, 2, 3, 4, 5, 6, 7] rfl (hk13)
    refine bp_j_iload_n 2 dX6_putUpon_80 rfl ?_
    refine bp_j_iload 8 dX6_putUpon_81 rfl ?_
    refine bp_j_iadd dX6_putUpon_83 ?_
    refine bp_j_aload_n 0 dX6_putUpon_84 rfl ?_
    refine bp_j_getN (t := 4) (k := 41) rfl (by decide) (bp_lk q1121) dX6_putUpon_85 (fun _ _ _ => rfl) (fun a19 => ?_)
    refine bp_j_iload 4 dX6_putUpon_88 rfl ?_
    refine bp_j_iaload dX6_putUpon_90 (fun x20 => ?_)
    refine bp_j_jm (fun k => bp_J G iX6_putUpon (bp_Qn G bp_eU) (k) 169 [(0, .ref a0), (1, .int xp1), (2, .int xp2), (3, .int xp3), (5, .int x2), (6, .int x5), (7, .int x7), (8, .int x9), (9, .int x15)] []) (fun k21 hk21 => ?_) ?_
    · refine bp_j_icmp_ge (tgt := 169) dX6_putUpon_91 (by decide) ?_ ?_
      · exact hk21
      refine bp_j_iload_n 3 dX6_putUpon_94 rfl ?_
      refine bp_j_iload 7 dX6_putUpon_95 rfl ?_
      refine bp_j_iadd dX6_putUpon_97 ?_
      refine bp_j_iload 5 dX6_putUpon_98 rfl ?_
      refine bp_j_icmp_ge (tgt := 169) dX6_putUpon_100 (by decide) ?_ ?_
      · exact hk21
      refine bp_j_sipush (v := 1024) dX6_putUpon_103 (by decide) ?_
      refine bp_j_iload 4 dX6_putUpon_106 rfl ?_
      refine bp_j_imul dX6_putUpon_108 ?_
      refine bp_j_bipush (v := 32) dX6_putUpon_109 (by decide) ?_
      refine bp_j_iload_n 3 dX6_putUpon_111 rfl ?_
      refine bp_j_iload 7 dX6_putUpon_112 rfl ?_
      refine bp_j_iadd dX6_putUpon_114 ?_
      refine bp_j_imul dX6_putUpon_115 ?_
      refine bp_j_iadd dX6_putUpon_116 ?_
      refine bp_j_iload_n 2 dX6_putUpon_117 rfl ?_
      refine bp_j_iadd dX6_putUpon_118 ?_
      refine bp_j_iload 8 dX6_putUpon_119 rfl ?_
      refine bp_j_iadd dX6_putUpon_121 ?_
      refine bp_j_letI (fun x23 => ?_)
      refine bp_j_istore (lv' := [(10, .int x23), (0, .ref a0), (1, .int xp1), (2, .int xp2), (3, .int xp3), (5, .int x2), (6, .int x5), (7, .int x7), (8, .int x9), (9, .int x15)]) dX6_putUpon_122 (by decide) rfl ?_
      refine bp_j_aload_n 1 dX6_putUpon_124 rfl ?_
      refine bp_j_getN (t := 4) (k := 46) rfl (by decide) (bp_lk q1126) dX6_putUpon_125 (fun _ _ _ => rfl) (fun a24 => ?_)
      refine bp_j_iload 0 dX6_putUpon_128 rfl ?_
      refine bp_j_iload 7 dX6_putUpon_130 rfl ?_
      refine bp_j_aload_n 1 dX6_putUpon_132 rfl ?_
      refine bp_j_getN (t := 4) (k := 46) rfl (by decide) (bp_lk q1126) dX6_putUpon_133 (fun _ _ _ => rfl) (fun a25 => ?_)
      refine bp_j_iload 0 dX6_putUpon_136 rfl ?_
      refine bp_j_baloadZ dX6_putUpon_138 (fun x26 => ?_)
      refine bp_j_aload_n 1 dX6_putUpon_139 rfl ?_
      refine bp_j_getN (t := 4) (k := 38) rfl (by decide) (bp_lk q1118) dX6_putUpon_140 (fun _ _ _ => rfl) (fun a27 => ?_)
      refine bp_j_bipush (v := 16) dX6_putUpon_143 (by decide) ?_
      refine bp_j_iload_n 2 dX6_putUpon_145 rfl ?_
      refine bp_j_imul dX6_putUpon_146 ?_
      refine bp_j_iload 8 dX6_putUpon_147 rfl ?_
      refine bp_j_iadd dX6_putUpon_149 ?_
      refine bp_j_iaload dX6_putUpon_150 (fun x28 => ?_)
      refine bp_j_iload 9 dX6_putUpon_151 rfl ?_
      refine bp_j_ishr dX6_putUpon_153 ?_
      refine bp_j_iconst (v := 1) dX6_putUpon_154 (by decide) ?_
      refine bp_j_iand dX6_putUpon_155 ?_
      refine bp_j_iconst (v := 1) dX6_putUpon_156 (by decide) ?_
      refine bp_j_jm (fun k => ∀ (x29 : Int32), bp_J G iX6_putUpon (bp_Qn G bp_eU) (k x29) 165 [(0, .ref a0), (1, .int xp1), (2, .int xp2), (3, .int xp3), (5, .int x2), (6, .int x5), (7, .int x7), (8, .int x9), (9, .int x15)] [.int x29, .int x26, .int x7, .int x23, .ref a24]) (fun k30 hk30 => ?_) (fun x29 => ?_)
      · refine bp_j_icmp_ne (tgt := 164) dX6_putUpon_157 (by decide) ?_ ?_
        · refine bp_j_iconst (v := 0) dX6_putUpon_164 (by decide) ?_
          exact bp_j_sub [1, 2, 3, 4, 5, 6, 7, 8, 9] rfl (hk30 (0 : Int32))
        refine bp_j_iconst (v := 1) dX6_putUpon_160 (by decide) ?_
        refine bp_j_goto (tgt := 165) dX6_putUpon_161 (by decide) ?_
        exact bp_j_sub [1, 2, 3, 4, 5, 6, 7, 8, 9] rfl (hk30 (1 : Int32))
      refine bp_j_cl_I (bp_ranS (n := 3) (As := [.int x7, .int x26, .int x29]) (cnX6_joined (G := G) x7 x26 x29) (lw_S q1447 q1448 q82 q1449) ⟨by decide +kernel, by decide +kernel, by decide +kernel⟩ ⟨by decide, by decide⟩ (rest := [.int x23, .ref a24]) rfl rfl (Nat.le_of_ble_eq_true rfl) dX6_putUpon_165) (by decide) (fun x31 => ?_)
      refine bp_j_bastoreZ dX6_putUpon_168 ?_
      exact hk21
    refine bp_j_iincL (lv' := fun x22 => [(9, .int x22), (0, .ref a0), (1, .int xp1), (2, .int xp2), (3, .int xp3), (5, .int x2), (6, .int x5), (7, .int x7), (8, .int x9)]) 8 dX6_putUpon_169 rfl (by decide) (by decide) (fun _ => rfl) (fun x22 => ?_)
    refine bp_j_goto (tgt := 69) dX6_putUpon_172 (by decide) ?_
    exact bp_j_sub [1, 2, 3, 4, 5, 6, 7, 8, 0] rfl (hk16 x22)
  refine bp_j_iincL (lv' := fun x14 => [(8, .int x14), (0, .ref a0), (1, .int xp1), (2, .int xp2), (3, .int xp3), (5, .int x2), (6, .int x5), (7, .int x7)]) 7 dX6_putUpon_175 rfl (by decide) (by decide) (fun _ => rfl) (fun x14 => ?_)
  refine bp_j_goto (tgt := 55) dX6_putUpon_178 (by decide) ?_
  exact bp_j_sub [1, 2, 3, 4, 5, 6, 7, 0] rfl (hk10 x14)
/-- BilevelPagesModel.takeRow(III)Z -/
abbrev iX6_takeRow : bp_MI := (yX6_takeRow, cX6_takeRow, 9, some (Jvm.ClassFile.FieldType.boolean), [], 0, 0)
def BX6_takeRow_17 (a0 : Nat) (xp3 : Int32) (x2 : Int32) (k5 : Int32 → Int32 → bp_M Int32) (k10 : Int32 → Int32 → Int32 → bp_M Int32) : Int32 → Int32 → Int32 → bp_M Int32 :=
  fun x7 x8 x9 =>
  bp_nz (8 : Int32) <|
  bp_if ((((x2 + (7 : Int32)) / (8 : Int32)) * (8 : Int32)) ≤ x9) (
  k5 x7 x8) (
  bp_getN 4 18 a0 fun a11 =>
  bp_nz (8 : Int32) <|
  bp_aldI 20 a11 (xp3 + (x9 / (8 : Int32))) fun x12 =>
  bp_nz (8 : Int32) <|
  bp_letI ((x12 >>> (((7 : Int32) - (x9 - x9 / (8 : Int32) * (8 : Int32))) &&& 31)) &&& (1 : Int32)) fun x13 =>
  bp_jn (fun (k15 : Int32 → bp_M Int32) =>
  bp_if (x8 = 0) (
  k15 (0 : Int32)) (
  bp_if (x9 < x2) (
  k15 (1 : Int32)) (
  bp_if (x13 = 0) (
  k15 (1 : Int32)) (
  k15 (0 : Int32))))) (fun (x14 : Int32) =>
  bp_jn (fun (k17 : Int32 → bp_M Int32) =>
  bp_if (x2 ≤ x9) (
  k17 x7) (
  k17 (x7 ||| (x13 <<< (x9 &&& 31))))) (fun (x16 : Int32) =>
  bp_letI (x9 + (1 : Int32)) fun x18 =>
  k10 x16 x14 x18)))
def PX6_takeRow (a0 : Nat) (xp1 : Int32) (xp2 : Int32) (xp3 : Int32) : bp_M Int32 :=
  bp_getN 4 36 a0 fun a1 =>
  bp_aldI 20 a1 xp1 fun x2 =>
  bp_jn (fun (k5 : Int32 → Int32 → bp_M Int32) =>
  bp_loop (fun _ _ _ => bp_no) (BX6_takeRow_17 a0 xp3 x2 k5) (fun k => k (0 : Int32) (1 : Int32) (0 : Int32))) (fun (x3 : Int32) (x4 : Int32) =>
  bp_getN 4 38 a0 fun a6 =>
  bp_astI a6 (((16 : Int32) * xp1) + xp2) x3 <|
  bp_retZ x4)
set_option maxHeartbeats 4000000 in
set_option maxRecDepth 100000 in
theorem cnX6_takeRow {G : bp_GT} (a0 : Nat) (xp1 : Int32) (xp2 : Int32) (xp3 : Int32) : bp_Con G iX6_takeRow (ws_ iX6_takeRow.1 iX6_takeRow.2.1 iX6_takeRow.2.2.1 iX6_takeRow.2.2.2.1) [.ref a0, .int xp1, .int xp2, .int xp3] (PX6_takeRow a0 xp1 xp2 xp3) bp_eI := by
  refine bp_con_of [(0, .ref a0), (1, .int xp1), (2, .int xp2), (3, .int xp3)] rfl (by decide) (Nat.le_of_ble_eq_true rfl) rfl ?_
  unfold PX6_takeRow
  refine bp_j_iconst (v := 0) dX6_takeRow_0 (by decide) ?_
  refine bp_j_istore (lv' := [(4, .int (0 : Int32)), (0, .ref a0), (1, .int xp1), (2, .int xp2), (3, .int xp3)]) dX6_takeRow_1 (by decide) rfl ?_
  refine bp_j_aload_n 1 dX6_takeRow_3 rfl ?_
  refine bp_j_getN (t := 4) (k := 36) rfl (by decide) (bp_lk q1116) dX6_takeRow_4 (fun _ _ _ => rfl) (fun a1 => ?_)
  refine bp_j_iload_n 2 dX6_takeRow_7 rfl ?_
  refine bp_j_iaload dX6_takeRow_8 (fun x2 => ?_)
  refine bp_j_istore (lv' := [(5, .int x2), (4, .int (0 : Int32)), (0, .ref a0), (1, .int xp1), (2, .int xp2), (3, .int xp3)]) dX6_takeRow_9 (by decide) rfl ?_
  refine bp_j_iconst (v := 1) dX6_takeRow_11 (by decide) ?_
  refine bp_j_istore (lv' := [(6, .int (1 : Int32)), (5, .int x2), (4, .int (0 : Int32)), (0, .ref a0), (1, .int xp1), (2, .int xp2), (3, .int xp3)]) dX6_takeRow_12 (by decide) rfl ?_
  refine bp_j_iconst (v := 0) dX6_takeRow_14 (by decide) ?_
  refine bp_j_istore (lv' := [(7, .int (0 : Int32)), (6, .int (1 : Int32)), (5, .int x2), (4, .int (0 : Int32)), (0, .ref a0), (1, .int xp1), (2, .int xp2), (3, .int xp3)]) dX6_takeRow_15 (by decide) rfl ?_
  refine bp_j_jm (fun k => ∀ (x3 : Int32) (x4 : Int32), bp_J G iX6_takeRow (bp_Qn G bp_eI) (k x3 x4) 110 [(0, .ref a0), (1, .int xp1), (2, .int xp2), (4, .int x3), (6, .int x4)] []) (fun k5 hk5 => ?_) (fun x3 x4 => ?_)
  · refine bp_j_loop (fun k => ∀ (x7 : Int32) (x8 : Int32) (x9 : Int32), bp_J G iX6_takeRow (bp_Qn G bp_eI) (k x7 x8 x9) 17 [(0, .ref a0), (1, .int xp1), (2, .int xp2), (3, .int xp3), (4, .int x7), (5, .int x2), (6, .int x8), (7, .int x9)] []) (fun _ _ _ => bp_j_no) (fun k10 hk10 x7 x8 x9 => ?_) (fun k h => bp_j_sub [4, 5, 6, 7, 3, 2, 1, 0] rfl (h (0 : Int32) (1 : Int32) (0 : Int32)))
    unfold BX6_takeRow_17
    refine bp_j_iload 7 dX6_takeRow_17 rfl ?_
    refine bp_j_iload 5 dX6_takeRow_19 rfl ?_
    refine bp_j_bipush (v := 7) dX6_takeRow_21 (by decide) ?_
    refine bp_j_iadd dX6_takeRow_23 ?_
    refine bp_j_bipush (v := 8) dX6_takeRow_24 (by decide) ?_
    refine bp_j_idiv dX6_takeRow_26 ?_
    refine bp_j_bipush (v := 8) dX6_takeRow_27 (by decide) ?_
    refine bp_j_imul dX6_takeRow_29 ?_
    refine bp_j_icmp_ge (tgt := 110) dX6_takeRow_30 (by decide) ?_ ?_
    · exact bp_j_sub [0, 1, 2, 4, 6] rfl (hk5 x7 x8)
    refine bp_j_aload_n 0 dX6_takeRow_33 rfl ?_
    refine bp_j_getN (t := 4) (k := 18) rfl (by decide) (bp_lk q1098) dX6_takeRow_34 (fun _ _ _ => rfl) (fun a11 => ?_)
    refine bp_j_iload_n 3 dX6_takeRow_37 rfl ?_
    refine bp_j_iload 7 dX6_takeRow_38 rfl ?_
    refine bp_j_bipush (v := 8) dX6_takeRow_40 (by decide) ?_
    refine bp_j_idiv dX6_takeRow_42 ?_
    refine bp_j_iadd dX6_takeRow_43 ?_
    refine bp_j_iaload dX6_takeRow_44 (fun x12 => ?_)
    refine bp_j_bipush (v := 7) dX6_takeRow_45 (by decide) ?_
    refine bp_j_iload 7 dX6_takeRow_47 rfl ?_
    refine bp_j_bipush (v := 8) dX6_takeRow_49 (by decide) ?_
    refine bp_j_irem dX6_takeRow_51 ?_
    refine bp_j_isub dX6_takeRow_52 ?_
    refine bp_j_ishr dX6_takeRow_53 ?_
    refine bp_j_iconst (v := 1) dX6_takeRow_54 (by decide) ?_
    refine bp_j_iand dX6_takeRow_55 ?_
    refine bp_j_letI (fun x13 => ?_)
    refine bp_j_istore (lv' := [(8, .int x13), (0, .ref a0), (1, .int xp1), (2, .int xp2), (3, .int xp3), (4, .int x7), (5, .int x2), (6, .int x8), (7, .int x9)]) dX6_takeRow_56 (by decide) rfl ?_
    refine bp_j_iload 7 dX6_takeRow_58 rfl ?_
    refine bp_j_jm (fun k => ∀ (x14 : Int32), bp_J G iX6_takeRow (bp_Qn G bp_eI) (k x14) 80 [(0, .ref a0), (1, .int xp1), (2, .int xp2), (3, .int xp3), (4, .int x7), (5, .int x2), (7, .int x9), (8, .int x13)] [.int x14]) (fun k15 hk15 => ?_) (fun x14 => ?_)
    · refine bp_j_if_eq (tgt := 79) dX6_takeRow_60 (by decide) ?_ ?_
      · refine bp_j_iconst (v := 0) dX6_takeRow_79 (by decide) ?_
        exact bp_j_sub [1, 2, 3, 4, 5, 6, 8, 0] rfl (hk15 (0 : Int32))
      refine bp_j_iload 8 dX6_takeRow_63 rfl ?_
      refine bp_j_iload 6 dX6_takeRow_65 rfl ?_
      refine bp_j_icmp_lt (tgt := 75) dX6_takeRow_67 (by decide) ?_ ?_
      · refine bp_j_iconst (v := 1) dX6_takeRow_75 (by decide) ?_
        refine bp_j_goto (tgt := 80) dX6_takeRow_76 (by decide) ?_
        exact bp_j_sub [1, 2, 3, 4, 5, 6, 8, 0] rfl (hk15 (1 : Int32))
      refine bp_j_iload 0 dX6_takeRow_70 rfl ?_
      refine bp_j_if_ne (tgt := 79) dX6_takeRow_72 (by decide) ?_ ?_
      · refine bp_j_iconst (v := 0) dX6_takeRow_79 (by decide) ?_
        exact bp_j_sub [1, 2, 3, 4, 5, 6, 8, 0] rfl (hk15 (0 : Int32))
      refine bp_j_iconst (v := 1) dX6_takeRow_75 (by decide) ?_
      refine bp_j_goto (tgt := 80) dX6_takeRow_76 (by decide) ?_
      exact bp_j_sub [1, 2, 3, 4, 5, 6, 8, 0] rfl (hk15 (1 : Int32))
    refine bp_j_istore (lv' := [(6, .int x14), (0, .ref a0), (1, .int xp1), (2, .int xp2), (3, .int xp3), (4, .int x7), (5, .int x2), (7, .int x9), (8, .int x13)]) dX6_takeRow_80 (by decide) rfl ?_
    refine bp_j_iload 7 dX6_takeRow_82 rfl ?_
    refine bp_j_iload 6 dX6_takeRow_84 rfl ?_
    refine bp_j_jm (fun k => ∀ (x16 : Int32), bp_J G iX6_takeRow (bp_Qn G bp_eI) (k x16) 102 [(0, .ref a0), (1, .int xp1), (2, .int xp2), (3, .int xp3), (5, .int x2), (6, .int x14), (7, .int x9)] [.int x16]) (fun k17 hk17 => ?_) (fun x16 => ?_)
    · refine bp_j_icmp_ge (tgt := 100) dX6_takeRow_86 (by decide) ?_ ?_
      · refine bp_j_iload 5 dX6_takeRow_100 rfl ?_
        exact bp_j_sub [1, 2, 3, 4, 6, 0, 7] rfl (hk17 x7)
      refine bp_j_iload 5 dX6_takeRow_89 rfl ?_
      refine bp_j_iload 8 dX6_takeRow_91 rfl ?_
      refine bp_j_iload 7 dX6_takeRow_93 rfl ?_
      refine bp_j_ishl dX6_takeRow_95 ?_
      refine bp_j_ior dX6_takeRow_96 ?_
      refine bp_j_goto (tgt := 102) dX6_takeRow_97 (by decide) ?_
      exact bp_j_sub [1, 2, 3, 4, 6, 0, 7] rfl (hk17 (x7 ||| (x13 <<< (x9 &&& 31))))
    refine bp_j_istore (lv' := [(4, .int x16), (0, .ref a0), (1, .int xp1), (2, .int xp2), (3, .int xp3), (5, .int x2), (6, .int x14), (7, .int x9)]) dX6_takeRow_102 (by decide) rfl ?_
    refine bp_j_iincL (lv' := fun x18 => [(7, .int x18), (4, .int x16), (0, .ref a0), (1, .int xp1), (2, .int xp2), (3, .int xp3), (5, .int x2), (6, .int x14)]) 7 dX6_takeRow_104 rfl (by decide) (by decide) (fun _ => rfl) (fun x18 => ?_)
    refine bp_j_goto (tgt := 17) dX6_takeRow_107 (by decide) ?_
    exact bp_j_sub [2, 3, 4, 5, 1, 6, 7, 0] rfl (hk10 x16 x14 x18)
  refine bp_j_aload_n 0 dX6_takeRow_110 rfl ?_
  refine bp_j_getN (t := 4) (k := 38) rfl (by decide) (bp_lk q1118) dX6_takeRow_111 (fun _ _ _ => rfl) (fun a6 => ?_)
  refine bp_j_bipush (v := 16) dX6_takeRow_114 (by decide) ?_
  refine bp_j_iload_n 1 dX6_takeRow_116 rfl ?_
  refine bp_j_imul dX6_takeRow_117 ?_
  refine bp_j_iload_n 2 dX6_takeRow_118 rfl ?_
  refine bp_j_iadd dX6_takeRow_119 ?_
  refine bp_j_iload 3 dX6_takeRow_120 rfl ?_
  refine bp_j_iastore dX6_takeRow_122 ?_
  refine bp_j_iload 4 dX6_takeRow_123 rfl ?_
  exact bp_j_zret rfl dX6_takeRow_125
