/-! programs and walks -/
set_option maxRecDepth 100000
/-- BilevelPages$Reader.isOnPage(LBilevelPages$Segment;)Z -/
abbrev iX2_isOnPage : bp_MI := (yX2_isOnPage, cX2_isOnPage, 2, some (Jvm.ClassFile.FieldType.boolean), [], 1, 25)
def PX2_isOnPage (a0 : Nat) (bp1 : Nat) : bp_M Int32 :=
  bp_getI 1 6 a0 fun x1 =>
  bp_if (x1 = 0) (
  bp_getN 3 0 bp1 fun a2 =>
  bp_bind (bp_is 8 a2 (PJ4_ordinal a2)) fun x3 =>
  bp_jn (fun (k4 : bp_M Int32) =>
  bp_jn (fun (k8 : bp_M Int32) =>
  bp_sw (x3).toInt [(0, (
  k4)), (1, (
  k8)), (2, (
  k8)), (3, (
  k8)), (4, (
  bp_getI 3 1 bp1 fun x12 =>
  bp_bind (PX1_within x12.toInt64 (1 : Int64) (9 : Int64)) fun x13 =>
  bp_if (x13 = 0) (
  bp_retZ (0 : Int32)) (
  bp_getN 1 7 a0 fun a14 =>
  bp_getN 0 10 a14 fun a15 =>
  bp_getI 3 1 bp1 fun x16 =>
  bp_aldN 25 a15 x16 fun a17 =>
  bp_getI 2 6 a17 fun x18 =>
  bp_if (x18 = 0) (
  bp_getI 1 4 a0 fun x19 =>
  bp_if (x19 = (-1 : Int32)) (
  bp_retZ (1 : Int32)) (
  bp_retZ (0 : Int32))) (
  bp_retZ (0 : Int32))))), (5, (
  k8)), (6, (
  k8)), (7, (
  bp_getI 3 1 bp1 fun x20 =>
  bp_if (x20 = 0) (
  bp_retZ (1 : Int32)) (
  bp_retZ (0 : Int32)))), (8, (
  k4)), (9, (
  k4))] (
  k8)) (bp_getI 1 4 a0 fun x9 =>
  bp_if (x9 = (-1 : Int32)) (
  bp_retZ (0 : Int32)) (
  bp_getI 3 1 bp1 fun x10 =>
  bp_getI 1 4 a0 fun x11 =>
  bp_if (x10 = x11) (
  bp_retZ (1 : Int32)) (
  bp_retZ (0 : Int32))))) (bp_getI 3 1 bp1 fun x5 =>
  bp_if (x5 = 0) (
  bp_retZ (1 : Int32)) (
  bp_getI 3 1 bp1 fun x6 =>
  bp_getI 1 4 a0 fun x7 =>
  bp_if (x6 = x7) (
  bp_retZ (1 : Int32)) (
  bp_retZ (0 : Int32))))) (
  bp_getI 3 1 bp1 fun x21 =>
  bp_if (x21 = 0) (
  bp_retZ (1 : Int32)) (
  bp_retZ (0 : Int32)))
set_option maxHeartbeats 4000000 in
set_option maxRecDepth 100000 in
theorem cnX2_isOnPage {G : bp_GT} (a0 : Nat) (bp1 : Nat) : bp_Con G iX2_isOnPage (ws_ iX2_isOnPage.1 iX2_isOnPage.2.1 iX2_isOnPage.2.2.1 iX2_isOnPage.2.2.2.1) [.ref a0, .ref bp1] (PX2_isOnPage a0 bp1) bp_eI := by
  refine bp_con_of [(0, .ref a0), (1, .ref bp1)] rfl (by decide) (Nat.le_of_ble_eq_true rfl) rfl ?_
  unfold PX2_isOnPage
  refine bp_j_aload_n 0 dX2_isOnPage_0 rfl ?_
  refine bp_j_getI (t := 1) (k := 6) rfl (by decide) (bp_lk q153) dX2_isOnPage_1 (fun _ _ _ => rfl) (fun x1 => ?_)
  refine bp_j_if_eq (tgt := 20) dX2_isOnPage_4 (by decide) ?_ ?_
  · refine bp_j_aload_n 1 dX2_isOnPage_20 rfl ?_
    refine bp_j_getN (t := 3) (k := 0) rfl (by decide) (bp_lkN q224) dX2_isOnPage_21 (fun _ _ _ => rfl) (fun a2 => ?_)
    refine bp_j_cl_I (bp_ranU (t := 8) (n := 0) (As := []) (owner := "java/lang/Enum") (x := ⟨"BilevelPages$Kind", "ordinal", "()I"⟩) (cnJ4_ordinal (G := G) a2 ) rfl (List.forall_mem_cons.mpr ⟨q613, List.forall_mem_cons.mpr ⟨q599, List.forall_mem_cons.mpr ⟨q601, List.forall_mem_cons.mpr ⟨q602, List.forall_mem_cons.mpr ⟨q80, fun _ h => nomatch h⟩⟩⟩⟩⟩) q603 rfl ⟨by decide +kernel, by decide +kernel, by decide +kernel⟩ ⟨by decide, by decide⟩ (rest := []) rfl rfl (Nat.le_of_ble_eq_true rfl) dX2_isOnPage_24) (by decide) (fun x3 => ?_)
    refine bp_j_jm (fun k => bp_J G iX2_isOnPage (bp_Qn G bp_eI) (k) 129 [(0, .ref a0), (1, .ref bp1)] []) (fun k4 hk4 => ?_) ?_
    · refine bp_j_jm (fun k => bp_J G iX2_isOnPage (bp_Qn G bp_eI) (k) 170 [(0, .ref a0), (1, .ref bp1)] []) (fun k8 hk8 => ?_) ?_
      · refine bp_j_tsw (tgt := 170) [129, 170, 170, 170, 80, 170, 170, 155, 129, 129] dX2_isOnPage_27 rfl rfl rfl (by decide) (bp_JSc ?_ (bp_JSc ?_ (bp_JSc ?_ (bp_JSc ?_ (bp_JSc ?_ (bp_JSc ?_ (bp_JSc ?_ (bp_JSc ?_ (bp_JSc ?_ (bp_JSc ?_ bp_JSn)))))))))) ?_
        · exact hk4
        · exact hk8
        · exact hk8
        · exact hk8
        · refine bp_j_aload_n 1 dX2_isOnPage_80 rfl ?_
          refine bp_j_getI (t := 3) (k := 1) rfl (by decide) (bp_lkN q227) dX2_isOnPage_81 (fun _ _ _ => rfl) (fun x12 => ?_)
          refine bp_j_i2l dX2_isOnPage_84 ?_
          refine bp_j_lconst (v := 1) dX2_isOnPage_85 (by decide) ?_
          refine bp_j_ldc2 q456 dX2_isOnPage_86 ?_
          refine bp_j_cl_I (bp_ranSN (n := 3) (As := [.long x12.toInt64, .long (1 : Int64), .long (9 : Int64)]) (cnX1_within (G := G) x12.toInt64 (1 : Int64) (9 : Int64)) q473 q72 q471 q472 ⟨by decide +kernel, by decide +kernel, by decide +kernel⟩ ⟨by decide, by decide⟩ (rest := []) rfl rfl (Nat.le_of_ble_eq_true rfl) dX2_isOnPage_89) (by decide) (fun x13 => ?_)
          refine bp_j_if_eq (tgt := 125) dX2_isOnPage_92 (by decide) ?_ ?_
          · refine bp_j_iconst (v := 0) dX2_isOnPage_125 (by decide) ?_
            refine bp_j_goto (tgt := 194) dX2_isOnPage_126 (by decide) ?_
            exact bp_j_zret rfl dX2_isOnPage_194
          refine bp_j_aload_n 0 dX2_isOnPage_95 rfl ?_
          refine bp_j_getN (t := 1) (k := 7) rfl (by decide) (bp_lk q154) dX2_isOnPage_96 (fun _ _ _ => rfl) (fun a14 => ?_)
          refine bp_j_getN (t := 0) (k := 10) rfl (by decide) (bp_lkN q304) dX2_isOnPage_99 (fun _ _ _ => rfl) (fun a15 => ?_)
          refine bp_j_aload_n 1 dX2_isOnPage_102 rfl ?_
          refine bp_j_getI (t := 3) (k := 1) rfl (by decide) (bp_lkN q227) dX2_isOnPage_103 (fun _ _ _ => rfl) (fun x16 => ?_)
          refine bp_j_aaloadN (t := 25) rfl dX2_isOnPage_106 (fun a17 => ?_)
          refine bp_j_getI (t := 2) (k := 6) rfl (by decide) (bp_lkN q198) dX2_isOnPage_107 (fun _ _ _ => rfl) (fun x18 => ?_)
          refine bp_j_if_ne (tgt := 125) dX2_isOnPage_110 (by decide) ?_ ?_
          · refine bp_j_iconst (v := 0) dX2_isOnPage_125 (by decide) ?_
            refine bp_j_goto (tgt := 194) dX2_isOnPage_126 (by decide) ?_
            exact bp_j_zret rfl dX2_isOnPage_194
          refine bp_j_aload_n 0 dX2_isOnPage_113 rfl ?_
          refine bp_j_getI (t := 1) (k := 4) rfl (by decide) (bp_lk q150) dX2_isOnPage_114 (fun _ _ _ => rfl) (fun x19 => ?_)
          refine bp_j_iconst (v := -1) dX2_isOnPage_117 (by decide) ?_
          refine bp_j_icmp_ne (tgt := 125) dX2_isOnPage_118 (by decide) ?_ ?_
          · refine bp_j_iconst (v := 0) dX2_isOnPage_125 (by decide) ?_
            refine bp_j_goto (tgt := 194) dX2_isOnPage_126 (by decide) ?_
            exact bp_j_zret rfl dX2_isOnPage_194
          refine bp_j_iconst (v := 1) dX2_isOnPage_121 (by decide) ?_
          refine bp_j_goto (tgt := 194) dX2_isOnPage_122 (by decide) ?_
          exact bp_j_zret rfl dX2_isOnPage_194
        · exact hk8
        · exact hk8
        · refine bp_j_aload_n 1 dX2_isOnPage_155 rfl ?_
          refine bp_j_getI (t := 3) (k := 1) rfl (by decide) (bp_lkN q227) dX2_isOnPage_156 (fun _ _ _ => rfl) (fun x20 => ?_)
          refine bp_j_if_ne (tgt := 166) dX2_isOnPage_159 (by decide) ?_ ?_
          · refine bp_j_iconst (v := 0) dX2_isOnPage_166 (by decide) ?_
            refine bp_j_goto (tgt := 194) dX2_isOnPage_167 (by decide) ?_
            exact bp_j_zret rfl dX2_isOnPage_194
          refine bp_j_iconst (v := 1) dX2_isOnPage_162 (by decide) ?_
          refine bp_j_goto (tgt := 194) dX2_isOnPage_163 (by decide) ?_
          exact bp_j_zret rfl dX2_isOnPage_194
        · exact hk4
        · exact hk4
        exact hk8
      refine bp_j_aload_n 0 dX2_isOnPage_170 rfl ?_
      refine bp_j_getI (t := 1) (k := 4) rfl (by decide) (bp_lk q150) dX2_isOnPage_171 (fun _ _ _ => rfl) (fun x9 => ?_)
      refine bp_j_iconst (v := -1) dX2_isOnPage_174 (by decide) ?_
      refine bp_j_icmp_eq (tgt := 193) dX2_isOnPage_175 (by decide) ?_ ?_
      · refine bp_j_iconst (v := 0) dX2_isOnPage_193 (by decide) ?_
        exact bp_j_zret rfl dX2_isOnPage_194
      refine bp_j_aload_n 1 dX2_isOnPage_178 rfl ?_
      refine bp_j_getI (t := 3) (k := 1) rfl (by decide) (bp_lkN q227) dX2_isOnPage_179 (fun _ _ _ => rfl) (fun x10 => ?_)
      refine bp_j_aload_n 0 dX2_isOnPage_182 rfl ?_
      refine bp_j_getI (t := 1) (k := 4) rfl (by decide) (bp_lk q150) dX2_isOnPage_183 (fun _ _ _ => rfl) (fun x11 => ?_)
      refine bp_j_icmp_ne (tgt := 193) dX2_isOnPage_186 (by decide) ?_ ?_
      · refine bp_j_iconst (v := 0) dX2_isOnPage_193 (by decide) ?_
        exact bp_j_zret rfl dX2_isOnPage_194
      refine bp_j_iconst (v := 1) dX2_isOnPage_189 (by decide) ?_
      refine bp_j_goto (tgt := 194) dX2_isOnPage_190 (by decide) ?_
      exact bp_j_zret rfl dX2_isOnPage_194
    refine bp_j_aload_n 1 dX2_isOnPage_129 rfl ?_
    refine bp_j_getI (t := 3) (k := 1) rfl (by decide) (bp_lkN q227) dX2_isOnPage_130 (fun _ _ _ => rfl) (fun x5 => ?_)
    refine bp_j_if_eq (tgt := 147) dX2_isOnPage_133 (by decide) ?_ ?_
    · refine bp_j_iconst (v := 1) dX2_isOnPage_147 (by decide) ?_
      refine bp_j_goto (tgt := 194) dX2_isOnPage_148 (by decide) ?_
      exact bp_j_zret rfl dX2_isOnPage_194
    refine bp_j_aload_n 1 dX2_isOnPage_136 rfl ?_
    refine bp_j_getI (t := 3) (k := 1) rfl (by decide) (bp_lkN q227) dX2_isOnPage_137 (fun _ _ _ => rfl) (fun x6 => ?_)
    refine bp_j_aload_n 0 dX2_isOnPage_140 rfl ?_
    refine bp_j_getI (t := 1) (k := 4) rfl (by decide) (bp_lk q150) dX2_isOnPage_141 (fun _ _ _ => rfl) (fun x7 => ?_)
    refine bp_j_icmp_ne (tgt := 151) dX2_isOnPage_144 (by decide) ?_ ?_
    · refine bp_j_iconst (v := 0) dX2_isOnPage_151 (by decide) ?_
      refine bp_j_goto (tgt := 194) dX2_isOnPage_152 (by decide) ?_
      exact bp_j_zret rfl dX2_isOnPage_194
    refine bp_j_iconst (v := 1) dX2_isOnPage_147 (by decide) ?_
    refine bp_j_goto (tgt := 194) dX2_isOnPage_148 (by decide) ?_
    exact bp_j_zret rfl dX2_isOnPage_194
  refine bp_j_aload_n 1 dX2_isOnPage_7 rfl ?_
  refine bp_j_getI (t := 3) (k := 1) rfl (by decide) (bp_lkN q227) dX2_isOnPage_8 (fun _ _ _ => rfl) (fun x21 => ?_)
  refine bp_j_if_ne (tgt := 18) dX2_isOnPage_11 (by decide) ?_ ?_
  · refine bp_j_iconst (v := 0) dX2_isOnPage_18 (by decide) ?_
    exact bp_j_zret rfl dX2_isOnPage_19
  refine bp_j_iconst (v := 1) dX2_isOnPage_14 (by decide) ?_
  refine bp_j_goto (tgt := 19) dX2_isOnPage_15 (by decide) ?_
  exact bp_j_zret rfl dX2_isOnPage_19
/-- BilevelPages$Reader.letGo(LBilevelPages$Segment;I)V -/
abbrev iX2_letGo : bp_MI := (yX2_letGo, cX2_letGo, 5, none, [], 4, 87)
def BX2_letGo_2 (a0 : Nat) (bp1 : Nat) (xp2 : Int32) (k2 : Int32 → bp_M Unit) : Int32 → bp_M Unit :=
  fun x1 =>
  bp_getI 3 4 bp1 fun x3 =>
  bp_if (x3 < x1) (
  bp_ret ()) (
  bp_getI 3 5 bp1 fun x4 =>
  bp_jn (fun (k5 : bp_M Unit) =>
  bp_if (((x4 >>> (x1 &&& 31)) &&& (1 : Int32)) = (1 : Int32)) (
  bp_jn (fun (k8 : Option Nat → bp_M Unit) =>
  bp_if (x1 = 0) (
  k8 (some bp1)) (
  bp_getN 3 3 bp1 fun a11 =>
  bp_aldI 20 a11 (x1 - (1 : Int32)) fun x12 =>
  bp_bind (bp_is 1 a0 (PX2_find a0 x12 xp2)) fun r13 =>
  k8 r13)) (fun (r7 : Option Nat) =>
  bp_getI 3 2 bp1 fun x9 =>
  bp_nn r7 fun a10 =>
  bp_putI 3 12 a10 x9 <|
  k5)) (
  k5)) (bp_letI (x1 + (1 : Int32)) fun x6 =>
  k2 x6))
def PX2_letGo (a0 : Nat) (bp1 : Nat) (xp2 : Int32) : bp_M Unit :=
  bp_loop (fun _ => bp_no) (BX2_letGo_2 a0 bp1 xp2) (fun k => k (0 : Int32))
set_option maxHeartbeats 4000000 in
set_option maxRecDepth 100000 in
theorem cnX2_letGo {G : bp_GT} (a0 : Nat) (bp1 : Nat) (xp2 : Int32) : bp_Con G iX2_letGo (ws_ iX2_letGo.1 iX2_letGo.2.1 iX2_letGo.2.2.1 iX2_letGo.2.2.2.1) [.ref a0, .ref bp1, .int xp2] (PX2_letGo a0 bp1 xp2) bp_eU := by
  refine bp_con_of [(0, .ref a0), (1, .ref bp1), (2, .int xp2)] rfl (by decide) (Nat.le_of_ble_eq_true rfl) rfl ?_
  unfold PX2_letGo
  refine bp_j_iconst (v := 0) dX2_letGo_0 (by decide) ?_
  refine bp_j_istore_n (lv' := [(3, .int (0 : Int32)), (0, .ref a0), (1, .ref bp1), (2, .int xp2)]) dX2_letGo_1 (by decide) rfl ?_
  refine bp_j_loop (fun k => ∀ (x1 : Int32), bp_J G iX2_letGo (bp_Qn G bp_eU) (k x1) 2 [(0, .ref a0), (1, .ref bp1), (2, .int xp2), (3, .int x1)] []) (fun _ => bp_j_no) (fun k2 hk2 x1 => ?_) (fun k h => bp_j_sub [1, 2, 3, 0] rfl (h (0 : Int32)))
  unfold BX2_letGo_2
  refine bp_j_iload_n 3 dX2_letGo_2 rfl ?_
  refine bp_j_aload_n 1 dX2_letGo_3 rfl ?_
  refine bp_j_getI (t := 3) (k := 4) rfl (by decide) (bp_lkN q236) dX2_letGo_4 (fun _ _ _ => rfl) (fun x3 => ?_)
  refine bp_j_icmp_gt (tgt := 60) dX2_letGo_7 (by decide) ?_ ?_
  · exact bp_j_vret rfl dX2_letGo_60
  refine bp_j_aload_n 1 dX2_letGo_10 rfl ?_
  refine bp_j_getI (t := 3) (k := 5) rfl (by decide) (bp_lkN q239) dX2_letGo_11 (fun _ _ _ => rfl) (fun x4 => ?_)
  refine bp_j_iload_n 3 dX2_letGo_14 rfl ?_
  refine bp_j_ishr dX2_letGo_15 ?_
  refine bp_j_iconst (v := 1) dX2_letGo_16 (by decide) ?_
  refine bp_j_iand dX2_letGo_17 ?_
  refine bp_j_iconst (v := 1) dX2_letGo_18 (by decide) ?_
  refine bp_j_jm (fun k => bp_J G iX2_letGo (bp_Qn G bp_eU) (k) 54 [(0, .ref a0), (1, .ref bp1), (2, .int xp2), (3, .int x1)] []) (fun k5 hk5 => ?_) ?_
  · refine bp_j_icmp_ne (tgt := 54) dX2_letGo_19 (by decide) ?_ ?_
    · exact hk5
    refine bp_j_iload_n 3 dX2_letGo_22 rfl ?_
    refine bp_j_jm (fun k => ∀ (r7 : Option Nat), bp_J G iX2_letGo (bp_Qn G bp_eU) (k r7) 43 [(0, .ref a0), (1, .ref bp1), (2, .int xp2), (3, .int x1)] [va_rf r7]) (fun k8 hk8 => ?_) (fun r7 => ?_)
    · refine bp_j_if_ne (tgt := 30) dX2_letGo_23 (by decide) ?_ ?_
      · refine bp_j_aload_n 0 dX2_letGo_30 rfl ?_
        refine bp_j_aload_n 1 dX2_letGo_31 rfl ?_
        refine bp_j_getN (t := 3) (k := 3) rfl (by decide) (bp_lkN q233) dX2_letGo_32 (fun _ _ _ => rfl) (fun a11 => ?_)
        refine bp_j_iload_n 3 dX2_letGo_35 rfl ?_
        refine bp_j_iconst (v := 1) dX2_letGo_36 (by decide) ?_
        refine bp_j_isub dX2_letGo_37 ?_
        refine bp_j_iaload dX2_letGo_38 (fun x12 => ?_)
        refine bp_j_iload_n 2 dX2_letGo_39 rfl ?_
        refine bp_j_cl_R (bp_ranV (t := 1) (n := 2) (As := [.int x12, .int xp2]) (cnX2_find (G := G) a0 x12 xp2) rfl (lw_V q571 q573 qs11 q76 q574) ⟨rfl, by decide +kernel, by decide +kernel, by decide +kernel⟩ ⟨by decide, by decide⟩ (rest := []) rfl rfl (Nat.le_of_ble_eq_true rfl) dX2_letGo_40) (by decide) (fun r13 => ?_)
        exact hk8 r13
      refine bp_j_aload_n 1 dX2_letGo_26 rfl ?_
      refine bp_j_goto (tgt := 43) dX2_letGo_27 (by decide) ?_
      exact hk8 (some bp1)
    refine bp_j_astoreR (lv' := [(4, va_rf r7), (0, .ref a0), (1, .ref bp1), (2, .int xp2), (3, .int x1)]) dX2_letGo_43 (by decide) rfl ?_
    refine bp_j_aloadR 0 dX2_letGo_45 rfl ?_
    refine bp_j_aload_n 2 dX2_letGo_47 rfl ?_
    refine bp_j_getI (t := 3) (k := 2) rfl (by decide) (bp_lkN q230) dX2_letGo_48 (fun _ _ _ => rfl) (fun x9 => ?_)
    refine bp_j_nz (fun a10 ea10 => ?_)
    subst ea10
    refine bp_j_putI (t := 3) (k := 12) rfl (by decide) (by decide) (bp_lkN q259) rfl dX2_letGo_51 rfl ?_
    exact bp_j_sub [1, 2, 3, 4] rfl (hk5)
  refine bp_j_iincL (lv' := fun x6 => [(3, .int x6), (0, .ref a0), (1, .ref bp1), (2, .int xp2)]) 3 dX2_letGo_54 rfl (by decide) (by decide) (fun _ => rfl) (fun x6 => ?_)
  refine bp_j_goto (tgt := 2) dX2_letGo_57 (by decide) ?_
  exact bp_j_sub [1, 2, 3, 0] rfl (hk2 x6)
/-- BilevelPages$Reader.readRow(LBilevelPages$Segment;I)I -/
abbrev iX2_readRow : bp_MI := (yX2_readRow, cX2_readRow, 6, some (Jvm.ClassFile.FieldType.int), [], 5, 132)
def BX2_readRow_5 (a0 : Nat) (bp1 : Nat) (xp2 : Int32) (k3 : Int32 → Int32 → bp_M Int32) : Int32 → Int32 → bp_M Int32 :=
  fun x1 x2 =>
  bp_bind (bp_is 3 bp1 (PX4_rowBytes bp1)) fun x4 =>
  bp_if (((8 : Int32) * x4) ≤ x2) (
  bp_ret x1) (
  bp_nz (8 : Int32) <|
  bp_bind (bp_is 1 a0 (PX2_byteAt a0 (xp2 + (x2 / (8 : Int32))))) fun x5 =>
  bp_nz (8 : Int32) <|
  bp_letI ((x5 >>> (((7 : Int32) - (x2 - x2 / (8 : Int32) * (8 : Int32))) &&& 31)) &&& (1 : Int32)) fun x6 =>
  bp_jn (fun (k8 : Int32 → bp_M Int32) =>
  bp_if (x6 = 0) (
  k8 (1 : Int32)) (
  bp_bind (bp_is 3 bp1 (PX4_wide bp1)) fun x12 =>
  bp_if (x12 ≤ x2) (
  k8 (0 : Int32)) (
  k8 (1 : Int32)))) (fun (x7 : Int32) =>
  bp_getI 3 10 bp1 fun x9 =>
  bp_bind (PX1_need x7 (8 : Int32) x9) fun _ =>
  bp_letI (x1 ||| (x6 <<< (x2 &&& 31))) fun x10 =>
  bp_letI (x2 + (1 : Int32)) fun x11 =>
  k3 x10 x11))
def PX2_readRow (a0 : Nat) (bp1 : Nat) (xp2 : Int32) : bp_M Int32 :=
  bp_loop (fun _ _ => bp_no) (BX2_readRow_5 a0 bp1 xp2) (fun k => k (0 : Int32) (0 : Int32))
set_option maxHeartbeats 4000000 in
set_option maxRecDepth 100000 in
theorem cnX2_readRow {G : bp_GT} (a0 : Nat) (bp1 : Nat) (xp2 : Int32) : bp_Con G iX2_readRow (ws_ iX2_readRow.1 iX2_readRow.2.1 iX2_readRow.2.2.1 iX2_readRow.2.2.2.1) [.ref a0, .ref bp1, .int xp2] (PX2_readRow a0 bp1 xp2) bp_eI := by
  refine bp_con_of [(0, .ref a0), (1, .ref bp1), (2, .int xp2)] rfl (by decide) (Nat.le_of_ble_eq_true rfl) rfl ?_
  unfold PX2_readRow
  refine bp_j_iconst (v := 0) dX2_readRow_0 (by decide) ?_
  refine bp_j_istore_n (lv' := [(3, .int (0 : Int32)), (0, .ref a0), (1, .ref bp1), (2, .int xp2)]) dX2_readRow_1 (by decide) rfl ?_
  refine bp_j_iconst (v := 0) dX2_readRow_2 (by decide) ?_
  refine bp_j_istore (lv' := [(4, .int (0 : Int32)), (3, .int (0 : Int32)), (0, .ref a0), (1, .ref bp1), (2, .int xp2)]) dX2_readRow_3 (by decide) rfl ?_
  refine bp_j_loop (fun k => ∀ (x1 : Int32) (x2 : Int32), bp_J G iX2_readRow (bp_Qn G bp_eI) (k x1 x2) 5 [(0, .ref a0), (1, .ref bp1), (2, .int xp2), (3, .int x1), (4, .int x2)] []) (fun _ _ => bp_j_no) (fun k3 hk3 x1 x2 => ?_) (fun k h => bp_j_sub [2, 3, 4, 1, 0] rfl (h (0 : Int32) (0 : Int32)))
  unfold BX2_readRow_5
  refine bp_j_iload 4 dX2_readRow_5 rfl ?_
  refine bp_j_bipush (v := 8) dX2_readRow_7 (by decide) ?_
  refine bp_j_aload_n 1 dX2_readRow_9 rfl ?_
  refine bp_j_cl_I (bp_ranV (t := 3) (n := 0) (As := []) (cnX4_rowBytes (G := G) bp1 ) rfl (lw_V q659 q660 q661 q79 q662) ⟨rfl, by decide +kernel, by decide +kernel, by decide +kernel⟩ ⟨by decide, by decide⟩ (rest := [.int (8 : Int32), .int x2]) rfl rfl (Nat.le_of_ble_eq_true rfl) dX2_readRow_10) (by decide) (fun x4 => ?_)
  refine bp_j_imul dX2_readRow_13 ?_
  refine bp_j_icmp_ge (tgt := 83) dX2_readRow_14 (by decide) ?_ ?_
  · refine bp_j_iload_n 3 dX2_readRow_83 rfl ?_
    exact bp_j_iret rfl dX2_readRow_84
  refine bp_j_aload_n 0 dX2_readRow_17 rfl ?_
  refine bp_j_iload_n 2 dX2_readRow_18 rfl ?_
  refine bp_j_iload 4 dX2_readRow_19 rfl ?_
  refine bp_j_bipush (v := 8) dX2_readRow_21 (by decide) ?_
  refine bp_j_idiv dX2_readRow_23 ?_
  refine bp_j_iadd dX2_readRow_24 ?_
  refine bp_j_cl_I (bp_ranV (t := 1) (n := 1) (As := [.int (xp2 + (x2 / (8 : Int32)))]) (cnX2_byteAt (G := G) a0 (xp2 + (x2 / (8 : Int32)))) rfl (lw_V q452 q454 qs4 q76 q455) ⟨rfl, by decide +kernel, by decide +kernel, by decide +kernel⟩ ⟨by decide, by decide⟩ (rest := []) rfl rfl (Nat.le_of_ble_eq_true rfl) dX2_readRow_25) (by decide) (fun x5 => ?_)
  refine bp_j_bipush (v := 7) dX2_readRow_28 (by decide) ?_
  refine bp_j_iload 4 dX2_readRow_30 rfl ?_
  refine bp_j_bipush (v := 8) dX2_readRow_32 (by decide) ?_
  refine bp_j_irem dX2_readRow_34 ?_
  refine bp_j_isub dX2_readRow_35 ?_
  refine bp_j_ishr dX2_readRow_36 ?_
  refine bp_j_iconst (v := 1) dX2_readRow_37 (by decide) ?_
  refine bp_j_iand dX2_readRow_38 ?_
  refine bp_j_letI (fun x6 => ?_)
  refine bp_j_istore (lv' := [(5, .int x6), (0, .ref a0), (1, .ref bp1), (2, .int xp2), (3, .int x1), (4, .int x2)]) dX2_readRow_39 (by decide) rfl ?_
  refine bp_j_iload 0 dX2_readRow_41 rfl ?_
  refine bp_j_jm (fun k => ∀ (x7 : Int32), bp_J G iX2_readRow (bp_Qn G bp_eI) (k x7) 60 [(0, .ref a0), (1, .ref bp1), (2, .int xp2), (3, .int x1), (4, .int x2), (5, .int x6)] [.int x7]) (fun k8 hk8 => ?_) (fun x7 => ?_)
  · refine bp_j_if_eq (tgt := 55) dX2_readRow_43 (by decide) ?_ ?_
    · refine bp_j_iconst (v := 1) dX2_readRow_55 (by decide) ?_
      refine bp_j_goto (tgt := 60) dX2_readRow_56 (by decide) ?_
      exact bp_j_sub [1, 2, 3, 4, 5, 0] rfl (hk8 (1 : Int32))
    refine bp_j_iload 5 dX2_readRow_46 rfl ?_
    refine bp_j_aload_n 2 dX2_readRow_48 rfl ?_
    refine bp_j_cl_I (bp_ranV (t := 3) (n := 0) (As := []) (cnX4_wide (G := G) bp1 ) rfl (lw_V q671 q664 q665 q79 q666) ⟨rfl, by decide +kernel, by decide +kernel, by decide +kernel⟩ ⟨by decide, by decide⟩ (rest := [.int x2]) rfl rfl (Nat.le_of_ble_eq_true rfl) dX2_readRow_49) (by decide) (fun x12 => ?_)
    refine bp_j_icmp_ge (tgt := 59) dX2_readRow_52 (by decide) ?_ ?_
    · refine bp_j_iconst (v := 0) dX2_readRow_59 (by decide) ?_
      exact bp_j_sub [1, 2, 3, 4, 5, 0] rfl (hk8 (0 : Int32))
    refine bp_j_iconst (v := 1) dX2_readRow_55 (by decide) ?_
    refine bp_j_goto (tgt := 60) dX2_readRow_56 (by decide) ?_
    exact bp_j_sub [1, 2, 3, 4, 5, 0] rfl (hk8 (1 : Int32))
  refine bp_j_bipush (v := 8) dX2_readRow_60 (by decide) ?_
  refine bp_j_aload_n 1 dX2_readRow_62 rfl ?_
  refine bp_j_getI (t := 3) (k := 10) rfl (by decide) (bp_lkN q254) dX2_readRow_63 (fun _ _ _ => rfl) (fun x9 => ?_)
  refine bp_j_cl_U (bp_ranSN (n := 3) (As := [.int x7, .int (8 : Int32), .int x9]) (cnX1_need (G := G) x7 (8 : Int32) x9) q380 q72 q378 q379 ⟨by decide +kernel, by decide +kernel, by decide +kernel⟩ ⟨by decide, by decide⟩ (rest := []) rfl rfl (Nat.le_of_ble_eq_true rfl) dX2_readRow_66) (by decide) (fun _ => ?_)
  refine bp_j_iload_n 3 dX2_readRow_69 rfl ?_
  refine bp_j_iload 5 dX2_readRow_70 rfl ?_
  refine bp_j_iload 4 dX2_readRow_72 rfl ?_
  refine bp_j_ishl dX2_readRow_74 ?_
  refine bp_j_ior dX2_readRow_75 ?_
  refine bp_j_letI (fun x10 => ?_)
  refine bp_j_istore_n (lv' := [(3, .int x10), (0, .ref a0), (1, .ref bp1), (2, .int xp2), (4, .int x2), (5, .int x6)]) dX2_readRow_76 (by decide) rfl ?_
  refine bp_j_iincL (lv' := fun x11 => [(4, .int x11), (3, .int x10), (0, .ref a0), (1, .ref bp1), (2, .int xp2), (5, .int x6)]) 4 dX2_readRow_77 rfl (by decide) (by decide) (fun _ => rfl) (fun x11 => ?_)
  refine bp_j_goto (tgt := 5) dX2_readRow_80 (by decide) ?_
  exact bp_j_sub [2, 3, 4, 1, 0] rfl (hk3 x10 x11)
/-- BilevelPages$Reader.readOpenRows(LBilevelPages$Segment;)V -/
abbrev iX2_readOpenRows : bp_MI := (yX2_readOpenRows, cX2_readOpenRows, 3, none, [], 6, 157)
def BX2_readOpenRows_7 (a0 : Nat) (bp1 : Nat) (k2 : Int32 → bp_M Unit) (k23 : Int32 → bp_M Unit) : Int32 → bp_M Unit :=
  fun x22 =>
  bp_getI 1 2 a0 fun x24 =>
  bp_bind (bp_is 1 a0 (PX2_byteAt a0 x24)) fun x25 =>
  bp_if (x25 = (1 : Int32)) (
  bp_bind (bp_is 3 bp1 (PX4_high bp1)) fun x26 =>
  bp_jn (fun (k28 : Int32 → bp_M Unit) =>
  bp_if (x26 ≤ x22) (
  k28 (0 : Int32)) (
  k28 (1 : Int32))) (fun (x27 : Int32) =>
  bp_getI 3 10 bp1 fun x29 =>
  bp_bind (PX1_need x27 (8 : Int32) x29) fun _ =>
  bp_getI 1 2 a0 fun x30 =>
  bp_putI 1 2 a0 (x30 + (1 : Int32)) <|
  bp_bind (bp_is 3 bp1 (PX4_rowBytes bp1)) fun x31 =>
  bp_bind (bp_is 1 a0 (PX2_needBytes a0 x31.toInt64)) fun _ =>
  bp_getN 3 9 bp1 fun a32 =>
  bp_letI (x22 + (1 : Int32)) fun x33 =>
  bp_getI 1 2 a0 fun x34 =>
  bp_bind (bp_is 1 a0 (PX2_readRow a0 bp1 x34)) fun x35 =>
  bp_astI a32 x22 x35 <|
  bp_getI 1 2 a0 fun x36 =>
  bp_bind (bp_is 3 bp1 (PX4_rowBytes bp1)) fun x37 =>
  bp_putI 1 2 a0 (x36 + x37) <|
  bp_bind (bp_is 1 a0 (PX2_needBytes a0 (1 : Int64))) fun _ =>
  k23 x33)) (
  k2 x22)
def PX2_readOpenRows (a0 : Nat) (bp1 : Nat) : bp_M Unit :=
  bp_bind (bp_is 1 a0 (PX2_needBytes a0 (1 : Int64))) fun _ =>
  bp_jn (fun (k2 : Int32 → bp_M Unit) =>
  bp_loop (fun _ => bp_no) (BX2_readOpenRows_7 a0 bp1 k2) (fun k => k (0 : Int32))) (fun (x1 : Int32) =>
  bp_getI 1 2 a0 fun x3 =>
  bp_bind (bp_is 1 a0 (PX2_byteAt a0 x3)) fun x4 =>
  bp_jn (fun (k6 : Int32 → bp_M Unit) =>
  bp_if (x4 = (255 : Int32)) (
  k6 (1 : Int32)) (
  k6 (0 : Int32))) (fun (x5 : Int32) =>
  bp_getI 3 10 bp1 fun x7 =>
  bp_bind (PX1_need x5 (8 : Int32) x7) fun _ =>
  bp_getI 1 2 a0 fun x8 =>
  bp_putI 1 2 a0 (x8 + (1 : Int32)) <|
  bp_bind (bp_is 1 a0 (PX2_needBytes a0 (1 : Int64))) fun _ =>
  bp_getI 1 2 a0 fun x9 =>
  bp_bind (bp_is 1 a0 (PX2_byteAt a0 x9)) fun x10 =>
  bp_jn (fun (k12 : Int32 → bp_M Unit) =>
  bp_if (x10 = (172 : Int32)) (
  k12 (1 : Int32)) (
  k12 (0 : Int32))) (fun (x11 : Int32) =>
  bp_getI 3 10 bp1 fun x13 =>
  bp_bind (PX1_need x11 (8 : Int32) x13) fun _ =>
  bp_getI 1 2 a0 fun x14 =>
  bp_putI 1 2 a0 (x14 + (1 : Int32)) <|
  bp_bind (bp_is 1 a0 (PX2_needBytes a0 (4 : Int64))) fun _ =>
  bp_getI 1 2 a0 fun x15 =>
  bp_bind (bp_is 1 a0 (PX2_four a0 x15)) fun l16 =>
  bp_jn (fun (k18 : Int32 → bp_M Unit) =>
  bp_if ((lg_cmp l16 x1.toInt64) = 0) (
  bp_if (x1 ≤ 0) (
  k18 (0 : Int32)) (
  k18 (1 : Int32))) (
  k18 (0 : Int32))) (fun (x17 : Int32) =>
  bp_getI 3 10 bp1 fun x19 =>
  bp_bind (PX1_need x17 (8 : Int32) x19) fun _ =>
  bp_getI 1 2 a0 fun x20 =>
  bp_putI 1 2 a0 (x20 + (4 : Int32)) <|
  bp_getN 3 6 bp1 fun a21 =>
  bp_astI a21 (1 : Int32) x1 <|
  bp_ret ()))))
set_option maxHeartbeats 4000000 in
set_option maxRecDepth 100000 in
theorem cnX2_readOpenRows {G : bp_GT} (a0 : Nat) (bp1 : Nat) : bp_Con G iX2_readOpenRows (ws_ iX2_readOpenRows.1 iX2_readOpenRows.2.1 iX2_readOpenRows.2.2.1 iX2_readOpenRows.2.2.2.1) [.ref a0, .ref bp1] (PX2_readOpenRows a0 bp1) bp_eU := by
  refine bp_con_of [(0, .ref a0), (1, .ref bp1)] rfl (by decide) (Nat.le_of_ble_eq_true rfl) rfl ?_
  unfold PX2_readOpenRows
  refine bp_j_iconst (v := 0) dX2_readOpenRows_0 (by decide) ?_
  refine bp_j_istore_n (lv' := [(2, .int (0 : Int32)), (0, .ref a0), (1, .ref bp1)]) dX2_readOpenRows_1 (by decide) rfl ?_
  refine bp_j_aload_n 1 dX2_readOpenRows_2 rfl ?_
  refine bp_j_lconst (v := 1) dX2_readOpenRows_3 (by decide) ?_
  refine bp_j_cl_U (bp_ranV (t := 1) (n := 1) (As := [.long (1 : Int64)]) (cnX2_needBytes (G := G) a0 (1 : Int64)) rfl (lw_V q374 q376 qs2 q76 q377) ⟨rfl, by decide +kernel, by decide +kernel, by decide +kernel⟩ ⟨by decide, by decide⟩ (rest := []) rfl rfl (Nat.le_of_ble_eq_true rfl) dX2_readOpenRows_4) (by decide) (fun _ => ?_)
  refine bp_j_jm (fun k => ∀ (x1 : Int32), bp_J G iX2_readOpenRows (bp_Qn G bp_eU) (k x1) 99 [(0, .ref a0), (1, .ref bp1), (2, .int x1)] []) (fun k2 hk2 => ?_) (fun x1 => ?_)
  · refine bp_j_loop (fun k => ∀ (x22 : Int32), bp_J G iX2_readOpenRows (bp_Qn G bp_eU) (k x22) 7 [(0, .ref a0), (1, .ref bp1), (2, .int x22)] []) (fun _ => bp_j_no) (fun k23 hk23 x22 => ?_) (fun k h => bp_j_sub [1, 2, 0] rfl (h (0 : Int32)))
    unfold BX2_readOpenRows_7
    refine bp_j_aload_n 0 dX2_readOpenRows_7 rfl ?_
    refine bp_j_aload_n 0 dX2_readOpenRows_8 rfl ?_
    refine bp_j_getI (t := 1) (k := 2) rfl (by decide) (bp_lk q148) dX2_readOpenRows_9 (fun _ _ _ => rfl) (fun x24 => ?_)
    refine bp_j_cl_I (bp_ranV (t := 1) (n := 1) (As := [.int x24]) (cnX2_byteAt (G := G) a0 x24) rfl (lw_V q452 q454 qs4 q76 q455) ⟨rfl, by decide +kernel, by decide +kernel, by decide +kernel⟩ ⟨by decide, by decide⟩ (rest := []) rfl rfl (Nat.le_of_ble_eq_true rfl) dX2_readOpenRows_12) (by decide) (fun x25 => ?_)
    refine bp_j_iconst (v := 1) dX2_readOpenRows_15 (by decide) ?_
    refine bp_j_icmp_ne (tgt := 99) dX2_readOpenRows_16 (by decide) ?_ ?_
    · exact hk2 x22
    refine bp_j_iload_n 2 dX2_readOpenRows_19 rfl ?_
    refine bp_j_aload_n 1 dX2_readOpenRows_20 rfl ?_
    refine bp_j_cl_I (bp_ranV (t := 3) (n := 0) (As := []) (cnX4_high (G := G) bp1 ) rfl (lw_V q655 q656 q657 q79 q658) ⟨rfl, by decide +kernel, by decide +kernel, by decide +kernel⟩ ⟨by decide, by decide⟩ (rest := [.int x22]) rfl rfl (Nat.le_of_ble_eq_true rfl) dX2_readOpenRows_21) (by decide) (fun x26 => ?_)
    refine bp_j_jm (fun k => ∀ (x27 : Int32), bp_J G iX2_readOpenRows (bp_Qn G bp_eU) (k x27) 32 [(0, .ref a0), (1, .ref bp1), (2, .int x22)] [.int x27]) (fun k28 hk28 => ?_) (fun x27 => ?_)
    · refine bp_j_icmp_ge (tgt := 31) dX2_readOpenRows_24 (by decide) ?_ ?_
      · refine bp_j_iconst (v := 0) dX2_readOpenRows_31 (by decide) ?_
        exact hk28 (0 : Int32)
      refine bp_j_iconst (v := 1) dX2_readOpenRows_27 (by decide) ?_
      refine bp_j_goto (tgt := 32) dX2_readOpenRows_28 (by decide) ?_
      exact hk28 (1 : Int32)
    refine bp_j_bipush (v := 8) dX2_readOpenRows_32 (by decide) ?_
    refine bp_j_aload_n 1 dX2_readOpenRows_34 rfl ?_
    refine bp_j_getI (t := 3) (k := 10) rfl (by decide) (bp_lkN q254) dX2_readOpenRows_35 (fun _ _ _ => rfl) (fun x29 => ?_)
    refine bp_j_cl_U (bp_ranSN (n := 3) (As := [.int x27, .int (8 : Int32), .int x29]) (cnX1_need (G := G) x27 (8 : Int32) x29) q380 q72 q378 q379 ⟨by decide +kernel, by decide +kernel, by decide +kernel⟩ ⟨by decide, by decide⟩ (rest := []) rfl rfl (Nat.le_of_ble_eq_true rfl) dX2_readOpenRows_38) (by decide) (fun _ => ?_)
    refine bp_j_aload_n 0 dX2_readOpenRows_41 rfl ?_
    refine bp_j_dup dX2_readOpenRows_42 rfl ?_
    refine bp_j_getI (t := 1) (k := 2) rfl (by decide) (bp_lk q148) dX2_readOpenRows_43 (fun _ _ _ => rfl) (fun x30 => ?_)
    refine bp_j_iconst (v := 1) dX2_readOpenRows_46 (by decide) ?_
    refine bp_j_iadd dX2_readOpenRows_47 ?_
    refine bp_j_putI (t := 1) (k := 2) rfl (by decide) (by decide) (bp_lk q148) rfl dX2_readOpenRows_48 rfl ?_
    refine bp_j_aload_n 0 dX2_readOpenRows_51 rfl ?_
    refine bp_j_aload_n 1 dX2_readOpenRows_52 rfl ?_
    refine bp_j_cl_I (bp_ranV (t := 3) (n := 0) (As := []) (cnX4_rowBytes (G := G) bp1 ) rfl (lw_V q659 q660 q661 q79 q662) ⟨rfl, by decide +kernel, by decide +kernel, by decide +kernel⟩ ⟨by decide, by decide⟩ (rest := [.ref a0]) rfl rfl (Nat.le_of_ble_eq_true rfl) dX2_readOpenRows_53) (by decide) (fun x31 => ?_)
    refine bp_j_i2l dX2_readOpenRows_56 ?_
    refine bp_j_cl_U (bp_ranV (t := 1) (n := 1) (As := [.long x31.toInt64]) (cnX2_needBytes (G := G) a0 x31.toInt64) rfl (lw_V q374 q376 qs2 q76 q377) ⟨rfl, by decide +kernel, by decide +kernel, by decide +kernel⟩ ⟨by decide, by decide⟩ (rest := []) rfl rfl (Nat.le_of_ble_eq_true rfl) dX2_readOpenRows_57) (by decide) (fun _ => ?_)
    refine bp_j_aload_n 1 dX2_readOpenRows_60 rfl ?_
    refine bp_j_getN (t := 3) (k := 9) rfl (by decide) (bp_lkN q252) dX2_readOpenRows_61 (fun _ _ _ => rfl) (fun a32 => ?_)
    refine bp_j_iload_n 2 dX2_readOpenRows_64 rfl ?_
    refine bp_j_iincL (lv' := fun x33 => [(2, .int x33), (0, .ref a0), (1, .ref bp1)]) 2 dX2_readOpenRows_65 rfl (by decide) (by decide) (fun _ => rfl) (fun x33 => ?_)
    refine bp_j_aload_n 1 dX2_readOpenRows_68 rfl ?_
    refine bp_j_aload_n 2 dX2_readOpenRows_69 rfl ?_
    refine bp_j_aload_n 1 dX2_readOpenRows_70 rfl ?_
    refine bp_j_getI (t := 1) (k := 2) rfl (by decide) (bp_lk q148) dX2_readOpenRows_71 (fun _ _ _ => rfl) (fun x34 => ?_)
    refine bp_j_cl_I (bp_ranV (t := 1) (n := 2) (As := [.ref bp1, .int x34]) (cnX2_readRow (G := G) a0 bp1 x34) rfl (lw_V q667 q669 qs16 q76 q670) ⟨rfl, by decide +kernel, by decide +kernel, by decide +kernel⟩ ⟨by decide, by decide⟩ (rest := [.int x22, .ref a32]) rfl rfl (Nat.le_of_ble_eq_true rfl) dX2_readOpenRows_74) (by decide) (fun x35 => ?_)
    refine bp_j_iastore dX2_readOpenRows_77 ?_
    refine bp_j_aload_n 1 dX2_readOpenRows_78 rfl ?_
    refine bp_j_dup dX2_readOpenRows_79 rfl ?_
    refine bp_j_getI (t := 1) (k := 2) rfl (by decide) (bp_lk q148) dX2_readOpenRows_80 (fun _ _ _ => rfl) (fun x36 => ?_)
    refine bp_j_aload_n 2 dX2_readOpenRows_83 rfl ?_
    refine bp_j_cl_I (bp_ranV (t := 3) (n := 0) (As := []) (cnX4_rowBytes (G := G) bp1 ) rfl (lw_V q659 q660 q661 q79 q662) ⟨rfl, by decide +kernel, by decide +kernel, by decide +kernel⟩ ⟨by decide, by decide⟩ (rest := [.int x36, .ref a0]) rfl rfl (Nat.le_of_ble_eq_true rfl) dX2_readOpenRows_84) (by decide) (fun x37 => ?_)
    refine bp_j_iadd dX2_readOpenRows_87 ?_
    refine bp_j_putI (t := 1) (k := 2) rfl (by decide) (by decide) (bp_lk q148) rfl dX2_readOpenRows_88 rfl ?_
    refine bp_j_aload_n 1 dX2_readOpenRows_91 rfl ?_
    refine bp_j_lconst (v := 1) dX2_readOpenRows_92 (by decide) ?_
    refine bp_j_cl_U (bp_ranV (t := 1) (n := 1) (As := [.long (1 : Int64)]) (cnX2_needBytes (G := G) a0 (1 : Int64)) rfl (lw_V q374 q376 qs2 q76 q377) ⟨rfl, by decide +kernel, by decide +kernel, by decide +kernel⟩ ⟨by decide, by decide⟩ (rest := []) rfl rfl (Nat.le_of_ble_eq_true rfl) dX2_readOpenRows_93) (by decide) (fun _ => ?_)
    refine bp_j_goto (tgt := 7) dX2_readOpenRows_96 (by decide) ?_
    exact bp_j_sub [1, 2, 0] rfl (hk23 x33)
  refine bp_j_aload_n 0 dX2_readOpenRows_99 rfl ?_
  refine bp_j_aload_n 0 dX2_readOpenRows_100 rfl ?_
  refine bp_j_getI (t := 1) (k := 2) rfl (by decide) (bp_lk q148) dX2_readOpenRows_101 (fun _ _ _ => rfl) (fun x3 => ?_)
  refine bp_j_cl_I (bp_ranV (t := 1) (n := 1) (As := [.int x3]) (cnX2_byteAt (G := G) a0 x3) rfl (lw_V q452 q454 qs4 q76 q455) ⟨rfl, by decide +kernel, by decide +kernel, by decide +kernel⟩ ⟨by decide, by decide⟩ (rest := []) rfl rfl (Nat.le_of_ble_eq_true rfl) dX2_readOpenRows_104) (by decide) (fun x4 => ?_)
  refine bp_j_sipush (v := 255) dX2_readOpenRows_107 (by decide) ?_
  refine bp_j_jm (fun k => ∀ (x5 : Int32), bp_J G iX2_readOpenRows (bp_Qn G bp_eU) (k x5) 118 [(0, .ref a0), (1, .ref bp1), (2, .int x1)] [.int x5]) (fun k6 hk6 => ?_) (fun x5 => ?_)
  · refine bp_j_icmp_ne (tgt := 117) dX2_readOpenRows_110 (by decide) ?_ ?_
    · refine bp_j_iconst (v := 0) dX2_readOpenRows_117 (by decide) ?_
      exact hk6 (0 : Int32)
    refine bp_j_iconst (v := 1) dX2_readOpenRows_113 (by decide) ?_
    refine bp_j_goto (tgt := 118) dX2_readOpenRows_114 (by decide) ?_
    exact hk6 (1 : Int32)
  refine bp_j_bipush (v := 8) dX2_readOpenRows_118 (by decide) ?_
  refine bp_j_aload_n 1 dX2_readOpenRows_120 rfl ?_
  refine bp_j_getI (t := 3) (k := 10) rfl (by decide) (bp_lkN q254) dX2_readOpenRows_121 (fun _ _ _ => rfl) (fun x7 => ?_)
  refine bp_j_cl_U (bp_ranSN (n := 3) (As := [.int x5, .int (8 : Int32), .int x7]) (cnX1_need (G := G) x5 (8 : Int32) x7) q380 q72 q378 q379 ⟨by decide +kernel, by decide +kernel, by decide +kernel⟩ ⟨by decide, by decide⟩ (rest := []) rfl rfl (Nat.le_of_ble_eq_true rfl) dX2_readOpenRows_124) (by decide) (fun _ => ?_)
  refine bp_j_aload_n 0 dX2_readOpenRows_127 rfl ?_
  refine bp_j_dup dX2_readOpenRows_128 rfl ?_
  refine bp_j_getI (t := 1) (k := 2) rfl (by decide) (bp_lk q148) dX2_readOpenRows_129 (fun _ _ _ => rfl) (fun x8 => ?_)
  refine bp_j_iconst (v := 1) dX2_readOpenRows_132 (by decide) ?_
  refine bp_j_iadd dX2_readOpenRows_133 ?_
  refine bp_j_putI (t := 1) (k := 2) rfl (by decide) (by decide) (bp_lk q148) rfl dX2_readOpenRows_134 rfl ?_
  refine bp_j_aload_n 0 dX2_readOpenRows_137 rfl ?_
  refine bp_j_lconst (v := 1) dX2_readOpenRows_138 (by decide) ?_
  refine bp_j_cl_U (bp_ranV (t := 1) (n := 1) (As := [.long (1 : Int64)]) (cnX2_needBytes (G := G) a0 (1 : Int64)) rfl (lw_V q374 q376 qs2 q76 q377) ⟨rfl, by decide +kernel, by decide +kernel, by decide +kernel⟩ ⟨by decide, by decide⟩ (rest := []) rfl rfl (Nat.le_of_ble_eq_true rfl) dX2_readOpenRows_139) (by decide) (fun _ => ?_)
  refine bp_j_aload_n 0 dX2_readOpenRows_142 rfl ?_
  refine bp_j_aload_n 0 dX2_readOpenRows_143 rfl ?_
  refine bp_j_getI (t := 1) (k := 2) rfl (by decide) (bp_lk q148) dX2_readOpenRows_144 (fun _ _ _ => rfl) (fun x9 => ?_)
  refine bp_j_cl_I (bp_ranV (t := 1) (n := 1) (As := [.int x9]) (cnX2_byteAt (G := G) a0 x9) rfl (lw_V q452 q454 qs4 q76 q455) ⟨rfl, by decide +kernel, by decide +kernel, by decide +kernel⟩ ⟨by decide, by decide⟩ (rest := []) rfl rfl (Nat.le_of_ble_eq_true rfl) dX2_readOpenRows_147) (by decide) (fun x10 => ?_)
  refine bp_j_sipush (v := 172) dX2_readOpenRows_150 (by decide) ?_
  refine bp_j_jm (fun k => ∀ (x11 : Int32), bp_J G iX2_readOpenRows (bp_Qn G bp_eU) (k x11) 161 [(0, .ref a0), (1, .ref bp1), (2, .int x1)] [.int x11]) (fun k12 hk12 => ?_) (fun x11 => ?_)
  · refine bp_j_icmp_ne (tgt := 160) dX2_readOpenRows_153 (by decide) ?_ ?_
    · refine bp_j_iconst (v := 0) dX2_readOpenRows_160 (by decide) ?_
      exact hk12 (0 : Int32)
    refine bp_j_iconst (v := 1) dX2_readOpenRows_156 (by decide) ?_
    refine bp_j_goto (tgt := 161) dX2_readOpenRows_157 (by decide) ?_
    exact hk12 (1 : Int32)
  refine bp_j_bipush (v := 8) dX2_readOpenRows_161 (by decide) ?_
  refine bp_j_aload_n 1 dX2_readOpenRows_163 rfl ?_
  refine bp_j_getI (t := 3) (k := 10) rfl (by decide) (bp_lkN q254) dX2_readOpenRows_164 (fun _ _ _ => rfl) (fun x13 => ?_)
  refine bp_j_cl_U (bp_ranSN (n := 3) (As := [.int x11, .int (8 : Int32), .int x13]) (cnX1_need (G := G) x11 (8 : Int32) x13) q380 q72 q378 q379 ⟨by decide +kernel, by decide +kernel, by decide +kernel⟩ ⟨by decide, by decide⟩ (rest := []) rfl rfl (Nat.le_of_ble_eq_true rfl) dX2_readOpenRows_167) (by decide) (fun _ => ?_)
  refine bp_j_aload_n 0 dX2_readOpenRows_170 rfl ?_
  refine bp_j_dup dX2_readOpenRows_171 rfl ?_
  refine bp_j_getI (t := 1) (k := 2) rfl (by decide) (bp_lk q148) dX2_readOpenRows_172 (fun _ _ _ => rfl) (fun x14 => ?_)
  refine bp_j_iconst (v := 1) dX2_readOpenRows_175 (by decide) ?_
  refine bp_j_iadd dX2_readOpenRows_176 ?_
  refine bp_j_putI (t := 1) (k := 2) rfl (by decide) (by decide) (bp_lk q148) rfl dX2_readOpenRows_177 rfl ?_
  refine bp_j_aload_n 0 dX2_readOpenRows_180 rfl ?_
  refine bp_j_ldc2 q672 dX2_readOpenRows_181 ?_
  refine bp_j_cl_U (bp_ranV (t := 1) (n := 1) (As := [.long (4 : Int64)]) (cnX2_needBytes (G := G) a0 (4 : Int64)) rfl (lw_V q374 q376 qs2 q76 q377) ⟨rfl, by decide +kernel, by decide +kernel, by decide +kernel⟩ ⟨by decide, by decide⟩ (rest := []) rfl rfl (Nat.le_of_ble_eq_true rfl) dX2_readOpenRows_184) (by decide) (fun _ => ?_)
  refine bp_j_aload_n 0 dX2_readOpenRows_187 rfl ?_
  refine bp_j_aload_n 0 dX2_readOpenRows_188 rfl ?_
  refine bp_j_getI (t := 1) (k := 2) rfl (by decide) (bp_lk q148) dX2_readOpenRows_189 (fun _ _ _ => rfl) (fun x15 => ?_)
  refine bp_j_cl_L (bp_ranV (t := 1) (n := 1) (As := [.int x15]) (cnX2_four (G := G) a0 x15) rfl (lw_V q457 q459 qs5 q76 q460) ⟨rfl, by decide +kernel, by decide +kernel, by decide +kernel⟩ ⟨by decide, by decide⟩ (rest := []) rfl rfl (Nat.le_of_ble_eq_true rfl) dX2_readOpenRows_192) (by decide) (fun l16 => ?_)
  refine bp_j_iload_n 2 dX2_readOpenRows_195 rfl ?_
  refine bp_j_i2l dX2_readOpenRows_196 ?_
  refine bp_j_lcmp dX2_readOpenRows_197 ?_
  refine bp_j_jm (fun k => ∀ (x17 : Int32), bp_J G iX2_readOpenRows (bp_Qn G bp_eU) (k x17) 210 [(0, .ref a0), (1, .ref bp1), (2, .int x1)] [.int x17]) (fun k18 hk18 => ?_) (fun x17 => ?_)
  · refine bp_j_if_ne (tgt := 209) dX2_readOpenRows_198 (by decide) ?_ ?_
    · refine bp_j_iconst (v := 0) dX2_readOpenRows_209 (by decide) ?_
      exact hk18 (0 : Int32)
    refine bp_j_iload_n 2 dX2_readOpenRows_201 rfl ?_
    refine bp_j_if_le (tgt := 209) dX2_readOpenRows_202 (by decide) ?_ ?_
    · refine bp_j_iconst (v := 0) dX2_readOpenRows_209 (by decide) ?_
      exact hk18 (0 : Int32)
    refine bp_j_iconst (v := 1) dX2_readOpenRows_205 (by decide) ?_
    refine bp_j_goto (tgt := 210) dX2_readOpenRows_206 (by decide) ?_
    exact hk18 (1 : Int32)
  refine bp_j_bipush (v := 8) dX2_readOpenRows_210 (by decide) ?_
  refine bp_j_aload_n 1 dX2_readOpenRows_212 rfl ?_
  refine bp_j_getI (t := 3) (k := 10) rfl (by decide) (bp_lkN q254) dX2_readOpenRows_213 (fun _ _ _ => rfl) (fun x19 => ?_)
  refine bp_j_cl_U (bp_ranSN (n := 3) (As := [.int x17, .int (8 : Int32), .int x19]) (cnX1_need (G := G) x17 (8 : Int32) x19) q380 q72 q378 q379 ⟨by decide +kernel, by decide +kernel, by decide +kernel⟩ ⟨by decide, by decide⟩ (rest := []) rfl rfl (Nat.le_of_ble_eq_true rfl) dX2_readOpenRows_216) (by decide) (fun _ => ?_)
  refine bp_j_aload_n 0 dX2_readOpenRows_219 rfl ?_
  refine bp_j_dup dX2_readOpenRows_220 rfl ?_
  refine bp_j_getI (t := 1) (k := 2) rfl (by decide) (bp_lk q148) dX2_readOpenRows_221 (fun _ _ _ => rfl) (fun x20 => ?_)
  refine bp_j_iconst (v := 4) dX2_readOpenRows_224 (by decide) ?_
  refine bp_j_iadd dX2_readOpenRows_225 ?_
  refine bp_j_putI (t := 1) (k := 2) rfl (by decide) (by decide) (bp_lk q148) rfl dX2_readOpenRows_226 rfl ?_
  refine bp_j_aload_n 1 dX2_readOpenRows_229 rfl ?_
  refine bp_j_getN (t := 3) (k := 6) rfl (by decide) (bp_lkN q244) dX2_readOpenRows_230 (fun _ _ _ => rfl) (fun a21 => ?_)
  refine bp_j_iconst (v := 1) dX2_readOpenRows_233 (by decide) ?_
  refine bp_j_iload_n 2 dX2_readOpenRows_234 rfl ?_
  refine bp_j_iastore dX2_readOpenRows_235 ?_
  exact bp_j_vret rfl dX2_readOpenRows_236
/-- BilevelPages$Reader.value(LBilevelPages$Segment;IJ)I -/
abbrev iX2_value : bp_MI := (yX2_value, cX2_value, 5, some (Jvm.ClassFile.FieldType.int), [], 5, 132)
def PX2_value (a0 : Nat) (bp1 : Nat) (xp2 : Int32) (lp3 : Int64) : bp_M Int32 :=
  bp_getN 3 0 bp1 fun a1 =>
  bp_bind (bp_is 8 a1 (PX5_least a1 xp2)) fun x2 =>
  bp_getN 3 0 bp1 fun a3 =>
  bp_bind (bp_is 8 a3 (PX5_most a3 xp2)) fun x4 =>
  bp_bind (PX1_within lp3 x2.toInt64 x4.toInt64) fun x5 =>
  bp_getI 3 10 bp1 fun x6 =>
  bp_bind (PX1_need x5 (8 : Int32) x6) fun _ =>
  bp_ret lp3.toInt32
set_option maxHeartbeats 4000000 in
set_option maxRecDepth 100000 in
theorem cnX2_value {G : bp_GT} (a0 : Nat) (bp1 : Nat) (xp2 : Int32) (lp3 : Int64) : bp_Con G iX2_value (ws_ iX2_value.1 iX2_value.2.1 iX2_value.2.2.1 iX2_value.2.2.2.1) [.ref a0, .ref bp1, .int xp2, .long lp3] (PX2_value a0 bp1 xp2 lp3) bp_eI := by
  refine bp_con_of [(0, .ref a0), (1, .ref bp1), (2, .int xp2), (3, .long lp3)] rfl (by decide) (Nat.le_of_ble_eq_true rfl) rfl ?_
  unfold PX2_value
  refine bp_j_lload_n 3 dX2_value_0 rfl ?_
  refine bp_j_aload_n 1 dX2_value_1 rfl ?_
  refine bp_j_getN (t := 3) (k := 0) rfl (by decide) (bp_lkN q224) dX2_value_2 (fun _ _ _ => rfl) (fun a1 => ?_)
  refine bp_j_iload_n 2 dX2_value_5 rfl ?_
  refine bp_j_cl_I (bp_ranV (t := 8) (n := 1) (As := [.int xp2]) (cnX5_least (G := G) a1 xp2) rfl (lw_V q640 q485 q486 q81 q487) ⟨rfl, by decide +kernel, by decide +kernel, by decide +kernel⟩ ⟨by decide, by decide⟩ (rest := [.long lp3]) rfl rfl (Nat.le_of_ble_eq_true rfl) dX2_value_6) (by decide) (fun x2 => ?_)
  refine bp_j_i2l dX2_value_9 ?_
  refine bp_j_aload_n 1 dX2_value_10 rfl ?_
  refine bp_j_getN (t := 3) (k := 0) rfl (by decide) (bp_lkN q224) dX2_value_11 (fun _ _ _ => rfl) (fun a3 => ?_)
  refine bp_j_iload_n 2 dX2_value_14 rfl ?_
  refine bp_j_cl_I (bp_ranV (t := 8) (n := 1) (As := [.int xp2]) (cnX5_most (G := G) a3 xp2) rfl (lw_V q641 q642 q643 q81 q644) ⟨rfl, by decide +kernel, by decide +kernel, by decide +kernel⟩ ⟨by decide, by decide⟩ (rest := [.long x2.toInt64, .long lp3]) rfl rfl (Nat.le_of_ble_eq_true rfl) dX2_value_15) (by decide) (fun x4 => ?_)
  refine bp_j_i2l dX2_value_18 ?_
  refine bp_j_cl_I (bp_ranSN (n := 3) (As := [.long lp3, .long x2.toInt64, .long x4.toInt64]) (cnX1_within (G := G) lp3 x2.toInt64 x4.toInt64) q473 q72 q471 q472 ⟨by decide +kernel, by decide +kernel, by decide +kernel⟩ ⟨by decide, by decide⟩ (rest := []) rfl rfl (Nat.le_of_ble_eq_true rfl) dX2_value_19) (by decide) (fun x5 => ?_)
  refine bp_j_bipush (v := 8) dX2_value_22 (by decide) ?_
  refine bp_j_aload_n 1 dX2_value_24 rfl ?_
  refine bp_j_getI (t := 3) (k := 10) rfl (by decide) (bp_lkN q254) dX2_value_25 (fun _ _ _ => rfl) (fun x6 => ?_)
  refine bp_j_cl_U (bp_ranSN (n := 3) (As := [.int x5, .int (8 : Int32), .int x6]) (cnX1_need (G := G) x5 (8 : Int32) x6) q380 q72 q378 q379 ⟨by decide +kernel, by decide +kernel, by decide +kernel⟩ ⟨by decide, by decide⟩ (rest := []) rfl rfl (Nat.le_of_ble_eq_true rfl) dX2_value_28) (by decide) (fun _ => ?_)
  refine bp_j_lload_n 3 dX2_value_31 rfl ?_
  refine bp_j_l2i dX2_value_32 ?_
  exact bp_j_iret rfl dX2_value_33
/-- BilevelPages$Reader.readRegion(LBilevelPages$Segment;ZLBilevelPages$Segment;)V -/
abbrev iX2_readRegion : bp_MI := (yX2_readRegion, cX2_readRegion, 5, none, [], 7, 179)
def BX2_readRegion_205 (bp1 : Nat) (k4 : bp_M Unit) (a11 : Nat) (k18 : Int32 → bp_M Unit) : Int32 → bp_M Unit :=
  fun x17 =>
  bp_bind (bp_is 3 bp1 (PX4_high bp1)) fun x19 =>
  bp_if (x19 ≤ x17) (
  k4) (
  bp_getN 3 9 bp1 fun a20 =>
  bp_aldI 20 a20 x17 fun x21 =>
  bp_getN 3 9 a11 fun a22 =>
  bp_aldI 20 a22 x17 fun x23 =>
  bp_astI a20 x17 (x21 ^^^ x23) <|
  bp_letI (x17 + (1 : Int32)) fun x24 =>
  k18 x24)
def BX2_readRegion_124 (a0 : Nat) (bp1 : Nat) (k3 : bp_M Unit) (k34 : Int32 → bp_M Unit) : Int32 → bp_M Unit :=
  fun x33 =>
  bp_bind (bp_is 3 bp1 (PX4_high bp1)) fun x35 =>
  bp_if (x35 ≤ x33) (
  k3) (
  bp_getN 3 9 bp1 fun a36 =>
  bp_getI 1 2 a0 fun x37 =>
  bp_bind (bp_is 3 bp1 (PX4_rowBytes bp1)) fun x38 =>
  bp_bind (bp_is 1 a0 (PX2_readRow a0 bp1 (x37 + (x33 * x38)))) fun x39 =>
  bp_astI a36 x33 x39 <|
  bp_letI (x33 + (1 : Int32)) fun x40 =>
  k34 x40)
def BX2_readRegion_3 (a0 : Nat) (bp1 : Nat) (k1 : bp_M Unit) (k42 : Int32 → bp_M Unit) : Int32 → bp_M Unit :=
  fun x41 =>
  bp_if ((5 : Int32) ≤ x41) (
  k1) (
  bp_getN 3 6 bp1 fun a43 =>
  bp_jn (fun (k45 : Int64 → bp_M Unit) =>
  bp_if ((4 : Int32) ≤ x41) (
  bp_getI 1 2 a0 fun x48 =>
  bp_bind (bp_is 1 a0 (PX2_byteAt a0 (x48 + (16 : Int32)))) fun x49 =>
  k45 x49.toInt64) (
  bp_getI 1 2 a0 fun x50 =>
  bp_bind (bp_is 1 a0 (PX2_four a0 (x50 + ((4 : Int32) * x41)))) fun l51 =>
  k45 l51)) (fun (l44 : Int64) =>
  bp_bind (bp_is 1 a0 (PX2_value a0 bp1 x41 l44)) fun x46 =>
  bp_astI a43 x41 x46 <|
  bp_letI (x41 + (1 : Int32)) fun x47 =>
  k42 x47))
def PX2_readRegion (a0 : Nat) (bp1 : Nat) (xp2 : Int32) (rp3 : Option Nat) : bp_M Unit :=
  bp_jn (fun (k1 : bp_M Unit) =>
  bp_loop (fun _ => bp_no) (BX2_readRegion_3 a0 bp1 k1) (fun k => k (0 : Int32))) (bp_getI 1 2 a0 fun x2 =>
  bp_putI 1 2 a0 (x2 + (17 : Int32)) <|
  bp_jn (fun (k3 : bp_M Unit) =>
  bp_if (xp2 = 0) (
  bp_getL 3 11 bp1 fun l27 =>
  bp_bind (bp_is 3 bp1 (PX4_high bp1)) fun x28 =>
  bp_bind (bp_is 3 bp1 (PX4_rowBytes bp1)) fun x29 =>
  bp_jn (fun (k31 : Int32 → bp_M Unit) =>
  bp_if ((lg_cmp l27 (((17 : Int32) + (x28 * x29)).toInt64)) = 0) (
  k31 (1 : Int32)) (
  k31 (0 : Int32))) (fun (x30 : Int32) =>
  bp_getI 3 10 bp1 fun x32 =>
  bp_bind (PX1_need x30 (7 : Int32) x32) fun _ =>
  bp_loop (fun _ => bp_no) (BX2_readRegion_124 a0 bp1 k3) (fun k => k (0 : Int32)))) (
  bp_bind (bp_is 1 a0 (PX2_readOpenRows a0 bp1)) fun _ =>
  k3)) (bp_jn (fun (k4 : bp_M Unit) =>
  bp_if (rp3 = none) (
  k4) (
  bp_nn rp3 fun a11 =>
  bp_bind (bp_is 3 a11 (PX4_wide a11)) fun x12 =>
  bp_bind (bp_is 3 bp1 (PX4_wide bp1)) fun x13 =>
  bp_jn (fun (k15 : Int32 → bp_M Unit) =>
  bp_if (x12 = x13) (
  bp_bind (bp_is 3 a11 (PX4_high a11)) fun x25 =>
  bp_bind (bp_is 3 bp1 (PX4_high bp1)) fun x26 =>
  bp_if (x25 = x26) (
  k15 (1 : Int32)) (
  k15 (0 : Int32))) (
  k15 (0 : Int32))) (fun (x14 : Int32) =>
  bp_getI 3 10 bp1 fun x16 =>
  bp_bind (PX1_need x14 (5 : Int32) x16) fun _ =>
  bp_loop (fun _ => bp_no) (BX2_readRegion_205 bp1 k4 a11) (fun k => k (0 : Int32))))) (bp_getN 3 0 bp1 fun a5 =>
  bp_gets 12 fun a6 =>
  bp_if ((some a5) = (some a6)) (
  bp_ret ()) (
  bp_getN 1 7 a0 fun a7 =>
  bp_getN 0 10 a7 fun a8 =>
  bp_getI 1 4 a0 fun x9 =>
  bp_aldN 25 a8 x9 fun a10 =>
  bp_bind (bp_is 2 a10 (PX3_draw a10 bp1)) fun _ =>
  bp_ret ()))))
set_option maxHeartbeats 4000000 in
set_option maxRecDepth 100000 in
theorem cnX2_readRegion {G : bp_GT} (a0 : Nat) (bp1 : Nat) (xp2 : Int32) (rp3 : Option Nat) : bp_Con G iX2_readRegion (ws_ iX2_readRegion.1 iX2_readRegion.2.1 iX2_readRegion.2.2.1 iX2_readRegion.2.2.2.1) [.ref a0, .ref bp1, .int xp2, va_rf rp3] (PX2_readRegion a0 bp1 xp2 rp3) bp_eU := by
  refine bp_con_of [(0, .ref a0), (1, .ref bp1), (2, .int xp2), (3, va_rf rp3)] rfl (by decide) (by cases rp3 <;> exact Nat.le_of_ble_eq_true rfl) (by cases rp3 <;> rfl) ?_
  unfold PX2_readRegion
  refine bp_j_iconst (v := 0) dX2_readRegion_0 (by decide) ?_
  refine bp_j_istore (lv' := [(4, .int (0 : Int32)), (0, .ref a0), (1, .ref bp1), (2, .int xp2), (3, va_rf rp3)]) dX2_readRegion_1 (by decide) (by cases rp3 <;> rfl) ?_
  refine bp_j_jm (fun k => bp_J G iX2_readRegion (bp_Qn G bp_eU) (k) 63 [(0, .ref a0), (1, .ref bp1), (2, .int xp2), (3, va_rf rp3)] []) (fun k1 hk1 => ?_) ?_
  · refine bp_j_loop (fun k => ∀ (x41 : Int32), bp_J G iX2_readRegion (bp_Qn G bp_eU) (k x41) 3 [(0, .ref a0), (1, .ref bp1), (2, .int xp2), (3, va_rf rp3), (4, .int x41)] []) (fun _ => bp_j_no) (fun k42 hk42 x41 => ?_) (fun k h => bp_j_sub [1, 2, 3, 4, 0] rfl (h (0 : Int32)))
    unfold BX2_readRegion_3
    refine bp_j_iload 4 dX2_readRegion_3 rfl ?_
    refine bp_j_iconst (v := 5) dX2_readRegion_5 (by decide) ?_
    refine bp_j_icmp_ge (tgt := 63) dX2_readRegion_6 (by decide) ?_ ?_
    · exact bp_j_sub [0, 1, 2, 3] rfl (hk1)
    refine bp_j_aload_n 1 dX2_readRegion_9 rfl ?_
    refine bp_j_getN (t := 3) (k := 6) rfl (by decide) (bp_lkN q244) dX2_readRegion_10 (fun _ _ _ => rfl) (fun a43 => ?_)
    refine bp_j_iload 4 dX2_readRegion_13 rfl ?_
    refine bp_j_aload_n 0 dX2_readRegion_15 rfl ?_
    refine bp_j_aload_n 1 dX2_readRegion_16 rfl ?_
    refine bp_j_iload 4 dX2_readRegion_17 rfl ?_
    refine bp_j_iload 4 dX2_readRegion_19 rfl ?_
    refine bp_j_iconst (v := 4) dX2_readRegion_21 (by decide) ?_
    refine bp_j_jm (fun k => ∀ (l44 : Int64), bp_J G iX2_readRegion (bp_Qn G bp_eU) (k l44) 53 [(0, .ref a0), (1, .ref bp1), (2, .int xp2), (3, va_rf rp3), (4, .int x41)] [.long l44, .int x41, .ref bp1, .ref a0, .int x41, .ref a43]) (fun k45 hk45 => ?_) (fun l44 => ?_)
    · refine bp_j_icmp_ge (tgt := 41) dX2_readRegion_22 (by decide) ?_ ?_
      · refine bp_j_aload_n 0 dX2_readRegion_41 rfl ?_
        refine bp_j_aload_n 0 dX2_readRegion_42 rfl ?_
        refine bp_j_getI (t := 1) (k := 2) rfl (by decide) (bp_lk q148) dX2_readRegion_43 (fun _ _ _ => rfl) (fun x48 => ?_)
        refine bp_j_bipush (v := 16) dX2_readRegion_46 (by decide) ?_
        refine bp_j_iadd dX2_readRegion_48 ?_
        refine bp_j_cl_I (bp_ranV (t := 1) (n := 1) (As := [.int (x48 + (16 : Int32))]) (cnX2_byteAt (G := G) a0 (x48 + (16 : Int32))) rfl (lw_V q452 q454 qs4 q76 q455) ⟨rfl, by decide +kernel, by decide +kernel, by decide +kernel⟩ ⟨by decide, by decide⟩ (rest := [.int x41, .ref bp1, .ref a0, .int x41, .ref a43]) rfl rfl (Nat.le_of_ble_eq_true rfl) dX2_readRegion_49) (by decide) (fun x49 => ?_)
        refine bp_j_i2l dX2_readRegion_52 ?_
        exact hk45 x49.toInt64
      refine bp_j_aload_n 0 dX2_readRegion_25 rfl ?_
      refine bp_j_aload_n 0 dX2_readRegion_26 rfl ?_
      refine bp_j_getI (t := 1) (k := 2) rfl (by decide) (bp_lk q148) dX2_readRegion_27 (fun _ _ _ => rfl) (fun x50 => ?_)
      refine bp_j_iconst (v := 4) dX2_readRegion_30 (by decide) ?_
      refine bp_j_iload 4 dX2_readRegion_31 rfl ?_
      refine bp_j_imul dX2_readRegion_33 ?_
      refine bp_j_iadd dX2_readRegion_34 ?_
      refine bp_j_cl_L (bp_ranV (t := 1) (n := 1) (As := [.int (x50 + ((4 : Int32) * x41))]) (cnX2_four (G := G) a0 (x50 + ((4 : Int32) * x41))) rfl (lw_V q457 q459 qs5 q76 q460) ⟨rfl, by decide +kernel, by decide +kernel, by decide +kernel⟩ ⟨by decide, by decide⟩ (rest := [.int x41, .ref bp1, .ref a0, .int x41, .ref a43]) rfl rfl (Nat.le_of_ble_eq_true rfl) dX2_readRegion_35) (by decide) (fun l51 => ?_)
      refine bp_j_goto (tgt := 53) dX2_readRegion_38 (by decide) ?_
      exact hk45 l51
    refine bp_j_cl_I (bp_ranV (t := 1) (n := 3) (As := [.ref bp1, .int x41, .long l44]) (cnX2_value (G := G) a0 bp1 x41 l44) rfl (lw_V q636 q638 qs14 q76 q639) ⟨rfl, by decide +kernel, by decide +kernel, by decide +kernel⟩ ⟨by decide, by decide⟩ (rest := [.int x41, .ref a43]) rfl rfl (Nat.le_of_ble_eq_true rfl) dX2_readRegion_53) (by decide) (fun x46 => ?_)
    refine bp_j_iastore dX2_readRegion_56 ?_
    refine bp_j_iincL (lv' := fun x47 => [(4, .int x47), (0, .ref a0), (1, .ref bp1), (2, .int xp2), (3, va_rf rp3)]) 4 dX2_readRegion_57 rfl (by decide) (by decide) (fun _ => by cases rp3 <;> rfl) (fun x47 => ?_)
    refine bp_j_goto (tgt := 3) dX2_readRegion_60 (by decide) ?_
    exact bp_j_sub [1, 2, 3, 4, 0] rfl (hk42 x47)
  refine bp_j_aload_n 0 dX2_readRegion_63 rfl ?_
  refine bp_j_dup dX2_readRegion_64 rfl ?_
  refine bp_j_getI (t := 1) (k := 2) rfl (by decide) (bp_lk q148) dX2_readRegion_65 (fun _ _ _ => rfl) (fun x2 => ?_)
  refine bp_j_bipush (v := 17) dX2_readRegion_68 (by decide) ?_
  refine bp_j_iadd dX2_readRegion_70 ?_
  refine bp_j_putI (t := 1) (k := 2) rfl (by decide) (by decide) (bp_lk q148) rfl dX2_readRegion_71 rfl ?_
  refine bp_j_iload_n 2 dX2_readRegion_74 rfl ?_
  refine bp_j_jm (fun k => bp_J G iX2_readRegion (bp_Qn G bp_eU) (k) 163 [(0, .ref a0), (1, .ref bp1), (3, va_rf rp3)] []) (fun k3 hk3 => ?_) ?_
  · refine bp_j_if_eq (tgt := 86) dX2_readRegion_75 (by decide) ?_ ?_
    · refine bp_j_aload_n 1 dX2_readRegion_86 rfl ?_
      refine bp_j_getL (t := 3) (k := 11) rfl (by decide) (bp_lkN q256) dX2_readRegion_87 (fun _ _ _ => rfl) (fun l27 => ?_)
      refine bp_j_bipush (v := 17) dX2_readRegion_90 (by decide) ?_
      refine bp_j_aload_n 1 dX2_readRegion_92 rfl ?_
      refine bp_j_cl_I (bp_ranV (t := 3) (n := 0) (As := []) (cnX4_high (G := G) bp1 ) rfl (lw_V q655 q656 q657 q79 q658) ⟨rfl, by decide +kernel, by decide +kernel, by decide +kernel⟩ ⟨by decide, by decide⟩ (rest := [.int (17 : Int32), .long l27]) rfl rfl (Nat.le_of_ble_eq_true rfl) dX2_readRegion_93) (by decide) (fun x28 => ?_)
      refine bp_j_aload_n 1 dX2_readRegion_96 rfl ?_
      refine bp_j_cl_I (bp_ranV (t := 3) (n := 0) (As := []) (cnX4_rowBytes (G := G) bp1 ) rfl (lw_V q659 q660 q661 q79 q662) ⟨rfl, by decide +kernel, by decide +kernel, by decide +kernel⟩ ⟨by decide, by decide⟩ (rest := [.int x28, .int (17 : Int32), .long l27]) rfl rfl (Nat.le_of_ble_eq_true rfl) dX2_readRegion_97) (by decide) (fun x29 => ?_)
      refine bp_j_imul dX2_readRegion_100 ?_
      refine bp_j_iadd dX2_readRegion_101 ?_
      refine bp_j_i2l dX2_readRegion_102 ?_
      refine bp_j_lcmp dX2_readRegion_103 ?_
      refine bp_j_jm (fun k => ∀ (x30 : Int32), bp_J G iX2_readRegion (bp_Qn G bp_eU) (k x30) 112 [(0, .ref a0), (1, .ref bp1), (3, va_rf rp3)] [.int x30]) (fun k31 hk31 => ?_) (fun x30 => ?_)
      · refine bp_j_if_ne (tgt := 111) dX2_readRegion_104 (by decide) ?_ ?_
        · refine bp_j_iconst (v := 0) dX2_readRegion_111 (by decide) ?_
          exact bp_j_sub [0, 1, 3] rfl (hk31 (0 : Int32))
        refine bp_j_iconst (v := 1) dX2_readRegion_107 (by decide) ?_
        refine bp_j_goto (tgt := 112) dX2_readRegion_108 (by decide) ?_
        exact bp_j_sub [0, 1, 3] rfl (hk31 (1 : Int32))
      refine bp_j_bipush (v := 7) dX2_readRegion_112 (by decide) ?_
      refine bp_j_aload_n 1 dX2_readRegion_114 rfl ?_
      refine bp_j_getI (t := 3) (k := 10) rfl (by decide) (bp_lkN q254) dX2_readRegion_115 (fun _ _ _ => rfl) (fun x32 => ?_)
      refine bp_j_cl_U (bp_ranSN (n := 3) (As := [.int x30, .int (7 : Int32), .int x32]) (cnX1_need (G := G) x30 (7 : Int32) x32) q380 q72 q378 q379 ⟨by decide +kernel, by decide +kernel, by decide +kernel⟩ ⟨by decide, by decide⟩ (rest := []) rfl rfl (Nat.le_of_ble_eq_true rfl) dX2_readRegion_118) (by decide) (fun _ => ?_)
      refine bp_j_iconst (v := 0) dX2_readRegion_121 (by decide) ?_
      refine bp_j_istore (lv' := [(4, .int (0 : Int32)), (0, .ref a0), (1, .ref bp1), (3, va_rf rp3)]) dX2_readRegion_122 (by decide) (by cases rp3 <;> rfl) ?_
      refine bp_j_loop (fun k => ∀ (x33 : Int32), bp_J G iX2_readRegion (bp_Qn G bp_eU) (k x33) 124 [(0, .ref a0), (1, .ref bp1), (3, va_rf rp3), (4, .int x33)] []) (fun _ => bp_j_no) (fun k34 hk34 x33 => ?_) (fun k h => bp_j_sub [1, 2, 3, 0] rfl (h (0 : Int32)))
      unfold BX2_readRegion_124
      refine bp_j_iload 3 dX2_readRegion_124 rfl ?_
      refine bp_j_aload_n 1 dX2_readRegion_126 rfl ?_
      refine bp_j_cl_I (bp_ranV (t := 3) (n := 0) (As := []) (cnX4_high (G := G) bp1 ) rfl (lw_V q655 q656 q657 q79 q658) ⟨rfl, by decide +kernel, by decide +kernel, by decide +kernel⟩ ⟨by decide, by decide⟩ (rest := [.int x33]) rfl rfl (Nat.le_of_ble_eq_true rfl) dX2_readRegion_127) (by decide) (fun x35 => ?_)
      refine bp_j_icmp_ge (tgt := 163) dX2_readRegion_130 (by decide) ?_ ?_
      · exact bp_j_sub [0, 1, 2] rfl (hk3)
      refine bp_j_aload_n 1 dX2_readRegion_133 rfl ?_
      refine bp_j_getN (t := 3) (k := 9) rfl (by decide) (bp_lkN q252) dX2_readRegion_134 (fun _ _ _ => rfl) (fun a36 => ?_)
      refine bp_j_iload 3 dX2_readRegion_137 rfl ?_
      refine bp_j_aload_n 0 dX2_readRegion_139 rfl ?_
      refine bp_j_aload_n 1 dX2_readRegion_140 rfl ?_
      refine bp_j_aload_n 0 dX2_readRegion_141 rfl ?_
      refine bp_j_getI (t := 1) (k := 2) rfl (by decide) (bp_lk q148) dX2_readRegion_142 (fun _ _ _ => rfl) (fun x37 => ?_)
      refine bp_j_iload 3 dX2_readRegion_145 rfl ?_
      refine bp_j_aload_n 1 dX2_readRegion_147 rfl ?_
      refine bp_j_cl_I (bp_ranV (t := 3) (n := 0) (As := []) (cnX4_rowBytes (G := G) bp1 ) rfl (lw_V q659 q660 q661 q79 q662) ⟨rfl, by decide +kernel, by decide +kernel, by decide +kernel⟩ ⟨by decide, by decide⟩ (rest := [.int x33, .int x37, .ref bp1, .ref a0, .int x33, .ref a36]) rfl rfl (Nat.le_of_ble_eq_true rfl) dX2_readRegion_148) (by decide) (fun x38 => ?_)
      refine bp_j_imul dX2_readRegion_151 ?_
      refine bp_j_iadd dX2_readRegion_152 ?_
      refine bp_j_cl_I (bp_ranV (t := 1) (n := 2) (As := [.ref bp1, .int (x37 + (x33 * x38))]) (cnX2_readRow (G := G) a0 bp1 (x37 + (x33 * x38))) rfl (lw_V q667 q669 qs16 q76 q670) ⟨rfl, by decide +kernel, by decide +kernel, by decide +kernel⟩ ⟨by decide, by decide⟩ (rest := [.int x33, .ref a36]) rfl rfl (Nat.le_of_ble_eq_true rfl) dX2_readRegion_153) (by decide) (fun x39 => ?_)
      refine bp_j_iastore dX2_readRegion_156 ?_
      refine bp_j_iincL (lv' := fun x40 => [(4, .int x40), (0, .ref a0), (1, .ref bp1), (3, va_rf rp3)]) 3 dX2_readRegion_157 rfl (by decide) (by decide) (fun _ => by cases rp3 <;> rfl) (fun x40 => ?_)
      refine bp_j_goto (tgt := 124) dX2_readRegion_160 (by decide) ?_
      exact bp_j_sub [1, 2, 3, 0] rfl (hk34 x40)
    refine bp_j_aload_n 0 dX2_readRegion_78 rfl ?_
    refine bp_j_aload_n 1 dX2_readRegion_79 rfl ?_
    refine bp_j_cl_U (bp_ranV (t := 1) (n := 1) (As := [.ref bp1]) (cnX2_readOpenRows (G := G) a0 bp1) rfl (lw_V q651 q653 qs15 q76 q654) ⟨rfl, by decide +kernel, by decide +kernel, by decide +kernel⟩ ⟨by decide, by decide⟩ (rest := []) rfl rfl (Nat.le_of_ble_eq_true rfl) dX2_readRegion_80) (by decide) (fun _ => ?_)
    refine bp_j_goto (tgt := 163) dX2_readRegion_83 (by decide) ?_
    exact bp_j_sub [0, 1, 3] rfl (hk3)
  refine bp_j_aload_nR 2 dX2_readRegion_163 rfl ?_
  refine bp_j_jm (fun k => bp_J G iX2_readRegion (bp_Qn G bp_eU) (k) 237 [(0, .ref a0), (1, .ref bp1)] []) (fun k4 hk4 => ?_) ?_
  · refine bp_j_ifnull (x := rp3) (tgt := 237) dX2_readRegion_164 (by decide) ?_ ?_
    · exact bp_j_sub [0, 1] rfl (hk4)
    refine bp_j_aload_nR 2 dX2_readRegion_167 rfl ?_
    refine bp_j_nz (fun a11 ea11 => ?_)
    subst ea11
    refine bp_j_cl_I (bp_ranV (t := 3) (n := 0) (As := []) (cnX4_wide (G := G) a11 ) rfl (lw_V q671 q664 q665 q79 q666) ⟨rfl, by decide +kernel, by decide +kernel, by decide +kernel⟩ ⟨by decide, by decide⟩ (rest := []) rfl rfl (Nat.le_of_ble_eq_true rfl) dX2_readRegion_168) (by decide) (fun x12 => ?_)
    refine bp_j_aload_n 1 dX2_readRegion_171 rfl ?_
    refine bp_j_cl_I (bp_ranV (t := 3) (n := 0) (As := []) (cnX4_wide (G := G) bp1 ) rfl (lw_V q671 q664 q665 q79 q666) ⟨rfl, by decide +kernel, by decide +kernel, by decide +kernel⟩ ⟨by decide, by decide⟩ (rest := [.int x12]) rfl rfl (Nat.le_of_ble_eq_true rfl) dX2_readRegion_172) (by decide) (fun x13 => ?_)
    refine bp_j_jm (fun k => ∀ (x14 : Int32), bp_J G iX2_readRegion (bp_Qn G bp_eU) (k x14) 194 [(0, .ref a0), (1, .ref bp1), (3, .ref a11)] [.int x14]) (fun k15 hk15 => ?_) (fun x14 => ?_)
    · refine bp_j_icmp_ne (tgt := 193) dX2_readRegion_175 (by decide) ?_ ?_
      · refine bp_j_iconst (v := 0) dX2_readRegion_193 (by decide) ?_
        exact hk15 (0 : Int32)
      refine bp_j_aload_n 2 dX2_readRegion_178 rfl ?_
      refine bp_j_cl_I (bp_ranV (t := 3) (n := 0) (As := []) (cnX4_high (G := G) a11 ) rfl (lw_V q655 q656 q657 q79 q658) ⟨rfl, by decide +kernel, by decide +kernel, by decide +kernel⟩ ⟨by decide, by decide⟩ (rest := []) rfl rfl (Nat.le_of_ble_eq_true rfl) dX2_readRegion_179) (by decide) (fun x25 => ?_)
      refine bp_j_aload_n 1 dX2_readRegion_182 rfl ?_
      refine bp_j_cl_I (bp_ranV (t := 3) (n := 0) (As := []) (cnX4_high (G := G) bp1 ) rfl (lw_V q655 q656 q657 q79 q658) ⟨rfl, by decide +kernel, by decide +kernel, by decide +kernel⟩ ⟨by decide, by decide⟩ (rest := [.int x25]) rfl rfl (Nat.le_of_ble_eq_true rfl) dX2_readRegion_183) (by decide) (fun x26 => ?_)
      refine bp_j_icmp_ne (tgt := 193) dX2_readRegion_186 (by decide) ?_ ?_
      · refine bp_j_iconst (v := 0) dX2_readRegion_193 (by decide) ?_
        exact hk15 (0 : Int32)
      refine bp_j_iconst (v := 1) dX2_readRegion_189 (by decide) ?_
      refine bp_j_goto (tgt := 194) dX2_readRegion_190 (by decide) ?_
      exact hk15 (1 : Int32)
    refine bp_j_iconst (v := 5) dX2_readRegion_194 (by decide) ?_
    refine bp_j_aload_n 1 dX2_readRegion_195 rfl ?_
    refine bp_j_getI (t := 3) (k := 10) rfl (by decide) (bp_lkN q254) dX2_readRegion_196 (fun _ _ _ => rfl) (fun x16 => ?_)
    refine bp_j_cl_U (bp_ranSN (n := 3) (As := [.int x14, .int (5 : Int32), .int x16]) (cnX1_need (G := G) x14 (5 : Int32) x16) q380 q72 q378 q379 ⟨by decide +kernel, by decide +kernel, by decide +kernel⟩ ⟨by decide, by decide⟩ (rest := []) rfl rfl (Nat.le_of_ble_eq_true rfl) dX2_readRegion_199) (by decide) (fun _ => ?_)
    refine bp_j_iconst (v := 0) dX2_readRegion_202 (by decide) ?_
    refine bp_j_istore (lv' := [(4, .int (0 : Int32)), (0, .ref a0), (1, .ref bp1), (3, .ref a11)]) dX2_readRegion_203 (by decide) rfl ?_
    refine bp_j_loop (fun k => ∀ (x17 : Int32), bp_J G iX2_readRegion (bp_Qn G bp_eU) (k x17) 205 [(0, .ref a0), (1, .ref bp1), (3, .ref a11), (4, .int x17)] []) (fun _ => bp_j_no) (fun k18 hk18 x17 => ?_) (fun k h => bp_j_sub [1, 2, 3, 0] rfl (h (0 : Int32)))
    unfold BX2_readRegion_205
    refine bp_j_iload 3 dX2_readRegion_205 rfl ?_
    refine bp_j_aload_n 1 dX2_readRegion_207 rfl ?_
    refine bp_j_cl_I (bp_ranV (t := 3) (n := 0) (As := []) (cnX4_high (G := G) bp1 ) rfl (lw_V q655 q656 q657 q79 q658) ⟨rfl, by decide +kernel, by decide +kernel, by decide +kernel⟩ ⟨by decide, by decide⟩ (rest := [.int x17]) rfl rfl (Nat.le_of_ble_eq_true rfl) dX2_readRegion_208) (by decide) (fun x19 => ?_)
    refine bp_j_icmp_ge (tgt := 237) dX2_readRegion_211 (by decide) ?_ ?_
    · exact bp_j_sub [0, 1] rfl (hk4)
    refine bp_j_aload_n 1 dX2_readRegion_214 rfl ?_
    refine bp_j_getN (t := 3) (k := 9) rfl (by decide) (bp_lkN q252) dX2_readRegion_215 (fun _ _ _ => rfl) (fun a20 => ?_)
    refine bp_j_iload 3 dX2_readRegion_218 rfl ?_
    refine bp_j_dup2 dX2_readRegion_220 rfl rfl ?_
    refine bp_j_iaload dX2_readRegion_221 (fun x21 => ?_)
    refine bp_j_aload_n 2 dX2_readRegion_222 rfl ?_
    refine bp_j_getN (t := 3) (k := 9) rfl (by decide) (bp_lkN q252) dX2_readRegion_223 (fun _ _ _ => rfl) (fun a22 => ?_)
    refine bp_j_iload 3 dX2_readRegion_226 rfl ?_
    refine bp_j_iaload dX2_readRegion_228 (fun x23 => ?_)
    refine bp_j_ixor dX2_readRegion_229 ?_
    refine bp_j_iastore dX2_readRegion_230 ?_
    refine bp_j_iincL (lv' := fun x24 => [(4, .int x24), (0, .ref a0), (1, .ref bp1), (3, .ref a11)]) 3 dX2_readRegion_231 rfl (by decide) (by decide) (fun _ => rfl) (fun x24 => ?_)
    refine bp_j_goto (tgt := 205) dX2_readRegion_234 (by decide) ?_
    exact bp_j_sub [1, 2, 3, 0] rfl (hk18 x24)
  refine bp_j_aload_n 1 dX2_readRegion_237 rfl ?_
  refine bp_j_getN (t := 3) (k := 0) rfl (by decide) (bp_lkN q224) dX2_readRegion_238 (fun _ _ _ => rfl) (fun a5 => ?_)
  refine bp_j_gets (j := 12) rfl (bp_lk q608) dX2_readRegion_241 (fun a6 => ?_)
  refine bp_j_acmp_eq (x := (some a5)) (y := (some a6)) (tgt := 263) dX2_readRegion_244 (by decide) ?_ ?_
  · exact bp_j_vret rfl dX2_readRegion_263
  refine bp_j_aload_n 0 dX2_readRegion_247 rfl ?_
  refine bp_j_getN (t := 1) (k := 7) rfl (by decide) (bp_lk q154) dX2_readRegion_248 (fun _ _ _ => rfl) (fun a7 => ?_)
  refine bp_j_getN (t := 0) (k := 10) rfl (by decide) (bp_lkN q304) dX2_readRegion_251 (fun _ _ _ => rfl) (fun a8 => ?_)
  refine bp_j_aload_n 0 dX2_readRegion_254 rfl ?_
  refine bp_j_getI (t := 1) (k := 4) rfl (by decide) (bp_lk q150) dX2_readRegion_255 (fun _ _ _ => rfl) (fun x9 => ?_)
  refine bp_j_aaloadN (t := 25) rfl dX2_readRegion_258 (fun a10 => ?_)
  refine bp_j_aload_n 1 dX2_readRegion_259 rfl ?_
  refine bp_j_cl_U (bp_ranV (t := 2) (n := 1) (As := [.ref bp1]) (cnX3_draw (G := G) a10 bp1) rfl (lw_V q673 q674 q675 q78 q676) ⟨rfl, by decide +kernel, by decide +kernel, by decide +kernel⟩ ⟨by decide, by decide⟩ (rest := []) rfl rfl (Nat.le_of_ble_eq_true rfl) dX2_readRegion_260) (by decide) (fun _ => ?_)
  exact bp_j_vret rfl dX2_readRegion_263
/-- BilevelPages$Reader.readSheet(LBilevelPages$Segment;)V -/
abbrev iX2_readSheet : bp_MI := (yX2_readSheet, cX2_readSheet, 4, none, [], 6, 156)
def PX2_readSheet (a0 : Nat) (bp1 : Nat) : bp_M Unit :=
  bp_getI 1 2 a0 fun x1 =>
  bp_bind (bp_is 1 a0 (PX2_four a0 (x1 + (4 : Int32)))) fun l2 =>
  bp_getN 3 6 bp1 fun a3 =>
  bp_getI 1 2 a0 fun x4 =>
  bp_bind (bp_is 1 a0 (PX2_four a0 x4)) fun l5 =>
  bp_bind (bp_is 1 a0 (PX2_value a0 bp1 (0 : Int32) l5)) fun x6 =>
  bp_astI a3 (0 : Int32) x6 <|
  bp_jn (fun (k8 : Int32 → bp_M Unit) =>
  bp_if ((lg_cmp l2 (0 : Int64)) = 0) (
  k8 (0 : Int32)) (
  k8 (1 : Int32))) (fun (x7 : Int32) =>
  bp_getI 3 10 bp1 fun x9 =>
  bp_bind (PX1_need x7 (8 : Int32) x9) fun _ =>
  bp_getN 3 6 bp1 fun a10 =>
  bp_jn (fun (k12 : Int32 → bp_M Unit) =>
  bp_if ((lg_cmp l2 (4294967295 : Int64)) = 0) (
  k12 (0 : Int32)) (
  bp_bind (bp_is 1 a0 (PX2_value a0 bp1 (1 : Int32) l2)) fun x27 =>
  k12 x27)) (fun (x11 : Int32) =>
  bp_astI a10 (1 : Int32) x11 <|
  bp_getN 3 6 bp1 fun a13 =>
  bp_getI 1 2 a0 fun x14 =>
  bp_bind (bp_is 1 a0 (PX2_byteAt a0 (x14 + (8 : Int32)))) fun x15 =>
  bp_bind (bp_is 1 a0 (PX2_value a0 bp1 (2 : Int32) x15.toInt64)) fun x16 =>
  bp_astI a13 (2 : Int32) x16 <|
  bp_getN 3 6 bp1 fun a17 =>
  bp_getI 1 2 a0 fun x18 =>
  bp_bind (bp_is 1 a0 (PX2_byteAt a0 (x18 + (9 : Int32)))) fun x19 =>
  bp_bind (bp_is 1 a0 (PX2_value a0 bp1 (3 : Int32) x19.toInt64)) fun x20 =>
  bp_astI a17 (3 : Int32) x20 <|
  bp_getN 1 7 a0 fun a21 =>
  bp_getN 0 10 a21 fun a22 =>
  bp_getI 3 1 bp1 fun x23 =>
  bp_aldN 25 a22 x23 fun a24 =>
  bp_bind (bp_is 2 a24 (PX3_begin a24 bp1)) fun _ =>
  bp_getI 3 1 bp1 fun x25 =>
  bp_putI 1 4 a0 x25 <|
  bp_getI 1 5 a0 fun x26 =>
  bp_putI 1 5 a0 (x26 + (1 : Int32)) <|
  bp_ret ()))
set_option maxHeartbeats 4000000 in
set_option maxRecDepth 100000 in
theorem cnX2_readSheet {G : bp_GT} (a0 : Nat) (bp1 : Nat) : bp_Con G iX2_readSheet (ws_ iX2_readSheet.1 iX2_readSheet.2.1 iX2_readSheet.2.2.1 iX2_readSheet.2.2.2.1) [.ref a0, .ref bp1] (PX2_readSheet a0 bp1) bp_eU := by
  refine bp_con_of [(0, .ref a0), (1, .ref bp1)] rfl (by decide) (Nat.le_of_ble_eq_true rfl) rfl ?_
  unfold PX2_readSheet
  refine bp_j_aload_n 0 dX2_readSheet_0 rfl ?_
  refine bp_j_aload_n 0 dX2_readSheet_1 rfl ?_
  refine bp_j_getI (t := 1) (k := 2) rfl (by decide) (bp_lk q148) dX2_readSheet_2 (fun _ _ _ => rfl) (fun x1 => ?_)
  refine bp_j_iconst (v := 4) dX2_readSheet_5 (by decide) ?_
  refine bp_j_iadd dX2_readSheet_6 ?_
  refine bp_j_cl_L (bp_ranV (t := 1) (n := 1) (As := [.int (x1 + (4 : Int32))]) (cnX2_four (G := G) a0 (x1 + (4 : Int32))) rfl (lw_V q457 q459 qs5 q76 q460) ⟨rfl, by decide +kernel, by decide +kernel, by decide +kernel⟩ ⟨by decide, by decide⟩ (rest := []) rfl rfl (Nat.le_of_ble_eq_true rfl) dX2_readSheet_7) (by decide) (fun l2 => ?_)
  refine bp_j_lstore_n (lv' := [(2, .long l2), (0, .ref a0), (1, .ref bp1)]) dX2_readSheet_10 (by decide) rfl ?_
  refine bp_j_aload_n 2 dX2_readSheet_11 rfl ?_
  refine bp_j_getN (t := 3) (k := 6) rfl (by decide) (bp_lkN q244) dX2_readSheet_12 (fun _ _ _ => rfl) (fun a3 => ?_)
  refine bp_j_iconst (v := 0) dX2_readSheet_15 (by decide) ?_
  refine bp_j_aload_n 1 dX2_readSheet_16 rfl ?_
  refine bp_j_aload_n 2 dX2_readSheet_17 rfl ?_
  refine bp_j_iconst (v := 0) dX2_readSheet_18 (by decide) ?_
  refine bp_j_aload_n 1 dX2_readSheet_19 rfl ?_
  refine bp_j_aload_n 1 dX2_readSheet_20 rfl ?_
  refine bp_j_getI (t := 1) (k := 2) rfl (by decide) (bp_lk q148) dX2_readSheet_21 (fun _ _ _ => rfl) (fun x4 => ?_)
  refine bp_j_cl_L (bp_ranV (t := 1) (n := 1) (As := [.int x4]) (cnX2_four (G := G) a0 x4) rfl (lw_V q457 q459 qs5 q76 q460) ⟨rfl, by decide +kernel, by decide +kernel, by decide +kernel⟩ ⟨by decide, by decide⟩ (rest := [.int (0 : Int32), .ref bp1, .ref a0, .int (0 : Int32), .ref a3]) rfl rfl (Nat.le_of_ble_eq_true rfl) dX2_readSheet_24) (by decide) (fun l5 => ?_)
  refine bp_j_cl_I (bp_ranV (t := 1) (n := 3) (As := [.ref bp1, .int (0 : Int32), .long l5]) (cnX2_value (G := G) a0 bp1 (0 : Int32) l5) rfl (lw_V q636 q638 qs14 q76 q639) ⟨rfl, by decide +kernel, by decide +kernel, by decide +kernel⟩ ⟨by decide, by decide⟩ (rest := [.int (0 : Int32), .ref a3]) rfl rfl (Nat.le_of_ble_eq_true rfl) dX2_readSheet_27) (by decide) (fun x6 => ?_)
  refine bp_j_iastore dX2_readSheet_30 ?_
  refine bp_j_lload_n 0 dX2_readSheet_31 rfl ?_
  refine bp_j_lconst (v := 0) dX2_readSheet_32 (by decide) ?_
  refine bp_j_lcmp dX2_readSheet_33 ?_
  refine bp_j_jm (fun k => ∀ (x7 : Int32), bp_J G iX2_readSheet (bp_Qn G bp_eU) (k x7) 42 [(0, .ref a0), (1, .ref bp1), (2, .long l2)] [.int x7]) (fun k8 hk8 => ?_) (fun x7 => ?_)
  · refine bp_j_if_eq (tgt := 41) dX2_readSheet_34 (by decide) ?_ ?_
    · refine bp_j_iconst (v := 0) dX2_readSheet_41 (by decide) ?_
      exact bp_j_sub [1, 2, 0] rfl (hk8 (0 : Int32))
    refine bp_j_iconst (v := 1) dX2_readSheet_37 (by decide) ?_
    refine bp_j_goto (tgt := 42) dX2_readSheet_38 (by decide) ?_
    exact bp_j_sub [1, 2, 0] rfl (hk8 (1 : Int32))
  refine bp_j_bipush (v := 8) dX2_readSheet_42 (by decide) ?_
  refine bp_j_aload_n 1 dX2_readSheet_44 rfl ?_
  refine bp_j_getI (t := 3) (k := 10) rfl (by decide) (bp_lkN q254) dX2_readSheet_45 (fun _ _ _ => rfl) (fun x9 => ?_)
  refine bp_j_cl_U (bp_ranSN (n := 3) (As := [.int x7, .int (8 : Int32), .int x9]) (cnX1_need (G := G) x7 (8 : Int32) x9) q380 q72 q378 q379 ⟨by decide +kernel, by decide +kernel, by decide +kernel⟩ ⟨by decide, by decide⟩ (rest := []) rfl rfl (Nat.le_of_ble_eq_true rfl) dX2_readSheet_48) (by decide) (fun _ => ?_)
  refine bp_j_aload_n 1 dX2_readSheet_51 rfl ?_
  refine bp_j_getN (t := 3) (k := 6) rfl (by decide) (bp_lkN q244) dX2_readSheet_52 (fun _ _ _ => rfl) (fun a10 => ?_)
  refine bp_j_iconst (v := 1) dX2_readSheet_55 (by decide) ?_
  refine bp_j_lload_n 2 dX2_readSheet_56 rfl ?_
  refine bp_j_ldc2 q620 dX2_readSheet_57 ?_
  refine bp_j_lcmp dX2_readSheet_60 ?_
  refine bp_j_jm (fun k => ∀ (x11 : Int32), bp_J G iX2_readSheet (bp_Qn G bp_eU) (k x11) 75 [(0, .ref a0), (1, .ref bp1)] [.int x11, .int (1 : Int32), .ref a10]) (fun k12 hk12 => ?_) (fun x11 => ?_)
  · refine bp_j_if_ne (tgt := 68) dX2_readSheet_61 (by decide) ?_ ?_
    · refine bp_j_aload_n 0 dX2_readSheet_68 rfl ?_
      refine bp_j_aload_n 1 dX2_readSheet_69 rfl ?_
      refine bp_j_iconst (v := 1) dX2_readSheet_70 (by decide) ?_
      refine bp_j_lload_n 2 dX2_readSheet_71 rfl ?_
      refine bp_j_cl_I (bp_ranV (t := 1) (n := 3) (As := [.ref bp1, .int (1 : Int32), .long l2]) (cnX2_value (G := G) a0 bp1 (1 : Int32) l2) rfl (lw_V q636 q638 qs14 q76 q639) ⟨rfl, by decide +kernel, by decide +kernel, by decide +kernel⟩ ⟨by decide, by decide⟩ (rest := [.int (1 : Int32), .ref a10]) rfl rfl (Nat.le_of_ble_eq_true rfl) dX2_readSheet_72) (by decide) (fun x27 => ?_)
      exact bp_j_sub [0, 1] rfl (hk12 x27)
    refine bp_j_iconst (v := 0) dX2_readSheet_64 (by decide) ?_
    refine bp_j_goto (tgt := 75) dX2_readSheet_65 (by decide) ?_
    exact bp_j_sub [0, 1] rfl (hk12 (0 : Int32))
  refine bp_j_iastore dX2_readSheet_75 ?_
  refine bp_j_aload_n 1 dX2_readSheet_76 rfl ?_
  refine bp_j_getN (t := 3) (k := 6) rfl (by decide) (bp_lkN q244) dX2_readSheet_77 (fun _ _ _ => rfl) (fun a13 => ?_)
  refine bp_j_iconst (v := 2) dX2_readSheet_80 (by decide) ?_
  refine bp_j_aload_n 0 dX2_readSheet_81 rfl ?_
  refine bp_j_aload_n 1 dX2_readSheet_82 rfl ?_
  refine bp_j_iconst (v := 2) dX2_readSheet_83 (by decide) ?_
  refine bp_j_aload_n 0 dX2_readSheet_84 rfl ?_
  refine bp_j_aload_n 0 dX2_readSheet_85 rfl ?_
  refine bp_j_getI (t := 1) (k := 2) rfl (by decide) (bp_lk q148) dX2_readSheet_86 (fun _ _ _ => rfl) (fun x14 => ?_)
  refine bp_j_bipush (v := 8) dX2_readSheet_89 (by decide) ?_
  refine bp_j_iadd dX2_readSheet_91 ?_
  refine bp_j_cl_I (bp_ranV (t := 1) (n := 1) (As := [.int (x14 + (8 : Int32))]) (cnX2_byteAt (G := G) a0 (x14 + (8 : Int32))) rfl (lw_V q452 q454 qs4 q76 q455) ⟨rfl, by decide +kernel, by decide +kernel, by decide +kernel⟩ ⟨by decide, by decide⟩ (rest := [.int (2 : Int32), .ref bp1, .ref a0, .int (2 : Int32), .ref a13]) rfl rfl (Nat.le_of_ble_eq_true rfl) dX2_readSheet_92) (by decide) (fun x15 => ?_)
  refine bp_j_i2l dX2_readSheet_95 ?_
  refine bp_j_cl_I (bp_ranV (t := 1) (n := 3) (As := [.ref bp1, .int (2 : Int32), .long x15.toInt64]) (cnX2_value (G := G) a0 bp1 (2 : Int32) x15.toInt64) rfl (lw_V q636 q638 qs14 q76 q639) ⟨rfl, by decide +kernel, by decide +kernel, by decide +kernel⟩ ⟨by decide, by decide⟩ (rest := [.int (2 : Int32), .ref a13]) rfl rfl (Nat.le_of_ble_eq_true rfl) dX2_readSheet_96) (by decide) (fun x16 => ?_)
  refine bp_j_iastore dX2_readSheet_99 ?_
  refine bp_j_aload_n 1 dX2_readSheet_100 rfl ?_
  refine bp_j_getN (t := 3) (k := 6) rfl (by decide) (bp_lkN q244) dX2_readSheet_101 (fun _ _ _ => rfl) (fun a17 => ?_)
  refine bp_j_iconst (v := 3) dX2_readSheet_104 (by decide) ?_
  refine bp_j_aload_n 0 dX2_readSheet_105 rfl ?_
  refine bp_j_aload_n 1 dX2_readSheet_106 rfl ?_
  refine bp_j_iconst (v := 3) dX2_readSheet_107 (by decide) ?_
  refine bp_j_aload_n 0 dX2_readSheet_108 rfl ?_
  refine bp_j_aload_n 0 dX2_readSheet_109 rfl ?_
  refine bp_j_getI (t := 1) (k := 2) rfl (by decide) (bp_lk q148) dX2_readSheet_110 (fun _ _ _ => rfl) (fun x18 => ?_)
  refine bp_j_bipush (v := 9) dX2_readSheet_113 (by decide) ?_
  refine bp_j_iadd dX2_readSheet_115 ?_
  refine bp_j_cl_I (bp_ranV (t := 1) (n := 1) (As := [.int (x18 + (9 : Int32))]) (cnX2_byteAt (G := G) a0 (x18 + (9 : Int32))) rfl (lw_V q452 q454 qs4 q76 q455) ⟨rfl, by decide +kernel, by decide +kernel, by decide +kernel⟩ ⟨by decide, by decide⟩ (rest := [.int (3 : Int32), .ref bp1, .ref a0, .int (3 : Int32), .ref a17]) rfl rfl (Nat.le_of_ble_eq_true rfl) dX2_readSheet_116) (by decide) (fun x19 => ?_)
  refine bp_j_i2l dX2_readSheet_119 ?_
  refine bp_j_cl_I (bp_ranV (t := 1) (n := 3) (As := [.ref bp1, .int (3 : Int32), .long x19.toInt64]) (cnX2_value (G := G) a0 bp1 (3 : Int32) x19.toInt64) rfl (lw_V q636 q638 qs14 q76 q639) ⟨rfl, by decide +kernel, by decide +kernel, by decide +kernel⟩ ⟨by decide, by decide⟩ (rest := [.int (3 : Int32), .ref a17]) rfl rfl (Nat.le_of_ble_eq_true rfl) dX2_readSheet_120) (by decide) (fun x20 => ?_)
  refine bp_j_iastore dX2_readSheet_123 ?_
  refine bp_j_aload_n 0 dX2_readSheet_124 rfl ?_
  refine bp_j_getN (t := 1) (k := 7) rfl (by decide) (bp_lk q154) dX2_readSheet_125 (fun _ _ _ => rfl) (fun a21 => ?_)
  refine bp_j_getN (t := 0) (k := 10) rfl (by decide) (bp_lkN q304) dX2_readSheet_128 (fun _ _ _ => rfl) (fun a22 => ?_)
  refine bp_j_aload_n 1 dX2_readSheet_131 rfl ?_
  refine bp_j_getI (t := 3) (k := 1) rfl (by decide) (bp_lkN q227) dX2_readSheet_132 (fun _ _ _ => rfl) (fun x23 => ?_)
  refine bp_j_aaloadN (t := 25) rfl dX2_readSheet_135 (fun a24 => ?_)
  refine bp_j_aload_n 1 dX2_readSheet_136 rfl ?_
  refine bp_j_cl_U (bp_ranV (t := 2) (n := 1) (As := [.ref bp1]) (cnX3_begin (G := G) a24 bp1) rfl (lw_V q691 q692 q693 q78 q694) ⟨rfl, by decide +kernel, by decide +kernel, by decide +kernel⟩ ⟨by decide, by decide⟩ (rest := []) rfl rfl (Nat.le_of_ble_eq_true rfl) dX2_readSheet_137) (by decide) (fun _ => ?_)
  refine bp_j_aload_n 0 dX2_readSheet_140 rfl ?_
  refine bp_j_aload_n 1 dX2_readSheet_141 rfl ?_
  refine bp_j_getI (t := 3) (k := 1) rfl (by decide) (bp_lkN q227) dX2_readSheet_142 (fun _ _ _ => rfl) (fun x25 => ?_)
  refine bp_j_putI (t := 1) (k := 4) rfl (by decide) (by decide) (bp_lk q150) rfl dX2_readSheet_145 rfl ?_
  refine bp_j_aload_n 0 dX2_readSheet_148 rfl ?_
  refine bp_j_dup dX2_readSheet_149 rfl ?_
  refine bp_j_getI (t := 1) (k := 5) rfl (by decide) (bp_lk q151) dX2_readSheet_150 (fun _ _ _ => rfl) (fun x26 => ?_)
  refine bp_j_iconst (v := 1) dX2_readSheet_153 (by decide) ?_
  refine bp_j_iadd dX2_readSheet_154 ?_
  refine bp_j_putI (t := 1) (k := 5) rfl (by decide) (by decide) (bp_lk q151) rfl dX2_readSheet_155 rfl ?_
  exact bp_j_vret rfl dX2_readSheet_158
/-- BilevelPages$Reader.readStripe(LBilevelPages$Segment;)V -/
abbrev iX2_readStripe : bp_MI := (yX2_readStripe, cX2_readStripe, 4, none, [], 6, 156)
def PX2_readStripe (a0 : Nat) (bp1 : Nat) : bp_M Unit :=
  bp_getN 1 7 a0 fun a1 =>
  bp_getN 0 10 a1 fun a2 =>
  bp_getI 1 4 a0 fun x3 =>
  bp_aldN 25 a2 x3 fun a4 =>
  bp_getI 1 2 a0 fun x5 =>
  bp_bind (bp_is 1 a0 (PX2_four a0 x5)) fun l6 =>
  bp_bind (bp_is 1 a0 (PX2_value a0 bp1 (0 : Int32) l6)) fun x7 =>
  bp_getI 2 4 a4 fun x8 =>
  bp_jn (fun (k10 : Int32 → bp_M Unit) =>
  bp_jn (fun (k14 : bp_M Unit) =>
  bp_if (x8 = 0) (
  k14) (
  bp_getI 2 4 a4 fun x16 =>
  bp_if (x16 ≤ x7) (
  k10 (0 : Int32)) (
  k14))) (bp_bind (bp_is 2 a4 (PX3_lastRow a4)) fun x15 =>
  bp_if (x7 ≤ x15) (
  k10 (0 : Int32)) (
  k10 (1 : Int32)))) (fun (x9 : Int32) =>
  bp_getI 3 10 bp1 fun x11 =>
  bp_bind (PX1_need x9 (8 : Int32) x11) fun _ =>
  bp_getN 2 1 a4 fun a12 =>
  bp_getI 2 2 a4 fun x13 =>
  bp_putI 2 2 a4 (x13 + (1 : Int32)) <|
  bp_astI a12 x13 x7 <|
  bp_ret ())
set_option maxHeartbeats 4000000 in
set_option maxRecDepth 100000 in
theorem cnX2_readStripe {G : bp_GT} (a0 : Nat) (bp1 : Nat) : bp_Con G iX2_readStripe (ws_ iX2_readStripe.1 iX2_readStripe.2.1 iX2_readStripe.2.2.1 iX2_readStripe.2.2.2.1) [.ref a0, .ref bp1] (PX2_readStripe a0 bp1) bp_eU := by
  refine bp_con_of [(0, .ref a0), (1, .ref bp1)] rfl (by decide) (Nat.le_of_ble_eq_true rfl) rfl ?_
  unfold PX2_readStripe
  refine bp_j_aload_n 0 dX2_readStripe_0 rfl ?_
  refine bp_j_getN (t := 1) (k := 7) rfl (by decide) (bp_lk q154) dX2_readStripe_1 (fun _ _ _ => rfl) (fun a1 => ?_)
  refine bp_j_getN (t := 0) (k := 10) rfl (by decide) (bp_lkN q304) dX2_readStripe_4 (fun _ _ _ => rfl) (fun a2 => ?_)
  refine bp_j_aload_n 0 dX2_readStripe_7 rfl ?_
  refine bp_j_getI (t := 1) (k := 4) rfl (by decide) (bp_lk q150) dX2_readStripe_8 (fun _ _ _ => rfl) (fun x3 => ?_)
  refine bp_j_aaloadN (t := 25) rfl dX2_readStripe_11 (fun a4 => ?_)
  refine bp_j_astore_n (lv' := [(2, .ref a4), (0, .ref a0), (1, .ref bp1)]) dX2_readStripe_12 (by decide) rfl ?_
  refine bp_j_aload_n 1 dX2_readStripe_13 rfl ?_
  refine bp_j_aload_n 2 dX2_readStripe_14 rfl ?_
  refine bp_j_iconst (v := 0) dX2_readStripe_15 (by decide) ?_
  refine bp_j_aload_n 1 dX2_readStripe_16 rfl ?_
  refine bp_j_aload_n 1 dX2_readStripe_17 rfl ?_
  refine bp_j_getI (t := 1) (k := 2) rfl (by decide) (bp_lk q148) dX2_readStripe_18 (fun _ _ _ => rfl) (fun x5 => ?_)
  refine bp_j_cl_L (bp_ranV (t := 1) (n := 1) (As := [.int x5]) (cnX2_four (G := G) a0 x5) rfl (lw_V q457 q459 qs5 q76 q460) ⟨rfl, by decide +kernel, by decide +kernel, by decide +kernel⟩ ⟨by decide, by decide⟩ (rest := [.int (0 : Int32), .ref bp1, .ref a0]) rfl rfl (Nat.le_of_ble_eq_true rfl) dX2_readStripe_21) (by decide) (fun l6 => ?_)
  refine bp_j_cl_I (bp_ranV (t := 1) (n := 3) (As := [.ref bp1, .int (0 : Int32), .long l6]) (cnX2_value (G := G) a0 bp1 (0 : Int32) l6) rfl (lw_V q636 q638 qs14 q76 q639) ⟨rfl, by decide +kernel, by decide +kernel, by decide +kernel⟩ ⟨by decide, by decide⟩ (rest := []) rfl rfl (Nat.le_of_ble_eq_true rfl) dX2_readStripe_24) (by decide) (fun x7 => ?_)
  refine bp_j_istore_n (lv' := [(3, .int x7), (2, .ref a4), (0, .ref a0), (1, .ref bp1)]) dX2_readStripe_27 (by decide) rfl ?_
  refine bp_j_aload_n 1 dX2_readStripe_28 rfl ?_
  refine bp_j_getI (t := 2) (k := 4) rfl (by decide) (bp_lkN q194) dX2_readStripe_29 (fun _ _ _ => rfl) (fun x8 => ?_)
  refine bp_j_jm (fun k => ∀ (x9 : Int32), bp_J G iX2_readStripe (bp_Qn G bp_eU) (k x9) 56 [(1, .ref bp1), (2, .ref a4), (3, .int x7)] [.int x9]) (fun k10 hk10 => ?_) (fun x9 => ?_)
  · refine bp_j_jm (fun k => bp_J G iX2_readStripe (bp_Qn G bp_eU) (k) 43 [(1, .ref bp1), (2, .ref a4), (3, .int x7)] []) (fun k14 hk14 => ?_) ?_
    · refine bp_j_if_eq (tgt := 43) dX2_readStripe_32 (by decide) ?_ ?_
      · exact bp_j_sub [3, 1, 0] rfl (hk14)
      refine bp_j_iload_n 0 dX2_readStripe_35 rfl ?_
      refine bp_j_aload_n 1 dX2_readStripe_36 rfl ?_
      refine bp_j_getI (t := 2) (k := 4) rfl (by decide) (bp_lkN q194) dX2_readStripe_37 (fun _ _ _ => rfl) (fun x16 => ?_)
      refine bp_j_icmp_ge (tgt := 55) dX2_readStripe_40 (by decide) ?_ ?_
      · refine bp_j_iconst (v := 0) dX2_readStripe_55 (by decide) ?_
        exact bp_j_sub [3, 1, 0] rfl (hk10 (0 : Int32))
      exact bp_j_sub [3, 1, 0] rfl (hk14)
    refine bp_j_iload_n 2 dX2_readStripe_43 rfl ?_
    refine bp_j_aload_n 1 dX2_readStripe_44 rfl ?_
    refine bp_j_cl_I (bp_ranV (t := 2) (n := 0) (As := []) (cnX3_lastRow (G := G) a4 ) rfl (lw_V q699 q700 q701 q78 q702) ⟨rfl, by decide +kernel, by decide +kernel, by decide +kernel⟩ ⟨by decide, by decide⟩ (rest := [.int x7]) rfl rfl (Nat.le_of_ble_eq_true rfl) dX2_readStripe_45) (by decide) (fun x15 => ?_)
    refine bp_j_icmp_le (tgt := 55) dX2_readStripe_48 (by decide) ?_ ?_
    · refine bp_j_iconst (v := 0) dX2_readStripe_55 (by decide) ?_
      exact hk10 (0 : Int32)
    refine bp_j_iconst (v := 1) dX2_readStripe_51 (by decide) ?_
    refine bp_j_goto (tgt := 56) dX2_readStripe_52 (by decide) ?_
    exact hk10 (1 : Int32)
  refine bp_j_bipush (v := 8) dX2_readStripe_56 (by decide) ?_
  refine bp_j_aload_n 0 dX2_readStripe_58 rfl ?_
  refine bp_j_getI (t := 3) (k := 10) rfl (by decide) (bp_lkN q254) dX2_readStripe_59 (fun _ _ _ => rfl) (fun x11 => ?_)
  refine bp_j_cl_U (bp_ranSN (n := 3) (As := [.int x9, .int (8 : Int32), .int x11]) (cnX1_need (G := G) x9 (8 : Int32) x11) q380 q72 q378 q379 ⟨by decide +kernel, by decide +kernel, by decide +kernel⟩ ⟨by decide, by decide⟩ (rest := []) rfl rfl (Nat.le_of_ble_eq_true rfl) dX2_readStripe_62) (by decide) (fun _ => ?_)
  refine bp_j_aload_n 1 dX2_readStripe_65 rfl ?_
  refine bp_j_getN (t := 2) (k := 1) rfl (by decide) (bp_lkN q186) dX2_readStripe_66 (fun _ _ _ => rfl) (fun a12 => ?_)
  refine bp_j_aload_n 1 dX2_readStripe_69 rfl ?_
  refine bp_j_dup dX2_readStripe_70 rfl ?_
  refine bp_j_getI (t := 2) (k := 2) rfl (by decide) (bp_lkN q189) dX2_readStripe_71 (fun _ _ _ => rfl) (fun x13 => ?_)
  refine bp_j_dup_x1 dX2_readStripe_74 rfl rfl ?_
  refine bp_j_iconst (v := 1) dX2_readStripe_75 (by decide) ?_
  refine bp_j_iadd dX2_readStripe_76 ?_
  refine bp_j_putI (t := 2) (k := 2) rfl (by decide) (by decide) (bp_lkN q189) rfl dX2_readStripe_77 rfl ?_
  refine bp_j_iload_n 2 dX2_readStripe_80 rfl ?_
  refine bp_j_iastore dX2_readStripe_81 ?_
  exact bp_j_vret rfl dX2_readStripe_82
