/-! programs and walks -/
set_option maxRecDepth 100000
/-- BilevelPagesModel.readHead()Z -/
abbrev iX6_readHead : bp_MI := (yX6_readHead, cX6_readHead, 12, some (Jvm.ClassFile.FieldType.boolean), [], 2, 44)
def BX6_readHead_459 (a0 : Nat) (x1 : Int32) (x31 : Int32) (x36 : Int32) (k45 : bp_M Int32) (k54 : Int32 → bp_M Int32) : Int32 → bp_M Int32 :=
  fun x53 =>
  bp_if (x31 ≤ x53) (
  k45) (
  bp_getN 4 31 a0 fun a55 =>
  bp_getN 4 18 a0 fun a56 =>
  bp_aldI 20 a56 (x36 + x53) fun x57 =>
  bp_astI a55 (((10 : Int32) * x1) + x53) x57 <|
  bp_letI (x53 + (1 : Int32)) fun x58 =>
  k54 x58)
def PX6_readHead (a0 : Nat) : bp_M Int32 :=
  bp_getI 4 24 a0 fun x1 =>
  bp_getN 4 26 a0 fun a2 =>
  bp_nz (256 : Int32) <|
  bp_getI 4 21 a0 fun x3 =>
  bp_astI a2 (x1 - x1 / (256 : Int32) * (256 : Int32)) x3 <|
  bp_bind (bp_is 4 a0 (PX6_hasLeft a0 (6 : Int64))) fun x4 =>
  bp_if (x4 = 0) (
  bp_retZ (0 : Int32)) (
  bp_getN 4 18 a0 fun a5 =>
  bp_getI 4 21 a0 fun x6 =>
  bp_aldI 20 a5 (x6 + (5 : Int32)) fun x7 =>
  bp_jn (fun (k8 : bp_M Int32) =>
  bp_if (x7 ≤ (223 : Int32)) (
  k8) (
  bp_bind (bp_is 4 a0 (PX6_hasLeft a0 (9 : Int64))) fun x85 =>
  bp_if (x85 = 0) (
  bp_retZ (0 : Int32)) (
  k8))) (bp_getI 4 21 a0 fun x9 =>
  bp_bind (bp_is 4 a0 (PX6_four a0 x9)) fun x10 =>
  bp_jn (fun (k12 : Int32 → bp_M Int32) =>
  bp_if (x1 = 0) (
  k12 (1 : Int32)) (
  bp_getN 4 27 a0 fun a83 =>
  bp_aldI 20 a83 (x1 - (1 : Int32)) fun x84 =>
  bp_if (x10 ≤ x84) (
  k12 (0 : Int32)) (
  k12 (1 : Int32)))) (fun (x11 : Int32) =>
  bp_jn (fun (k13 : bp_M Int32) =>
  bp_if (x10 < 0) (
  k13) (
  bp_if ((255 : Int32) < x10) (
  k13) (
  bp_if (x11 = 0) (
  k13) (
  bp_getN 4 18 a0 fun a16 =>
  bp_getI 4 21 a0 fun x17 =>
  bp_aldI 20 a16 (x17 + (4 : Int32)) fun x18 =>
  bp_bind (PX6_isKind x18) fun x19 =>
  bp_jn (fun (k20 : bp_M Int32) =>
  bp_if (x19 = 0) (
  k20) (
  bp_jn (fun (k23 : bp_M Int32) =>
  bp_if (x18 = (51 : Int32)) (
  bp_getI 4 1 a0 fun x82 =>
  bp_if (x82 = (2 : Int32)) (
  k20) (
  k23)) (
  k23)) (bp_getN 4 18 a0 fun a24 =>
  bp_getI 4 21 a0 fun x25 =>
  bp_aldI 20 a24 (x25 + (5 : Int32)) fun x26 =>
  bp_jn (fun (k28 : Int32 → bp_M Int32) =>
  bp_if (x26 ≤ (223 : Int32)) (
  k28 (0 : Int32)) (
  k28 (1 : Int32))) (fun (x27 : Int32) =>
  bp_jn (fun (k30 : Int32 → bp_M Int32) =>
  bp_if (x27 = 0) (
  bp_if ((160 : Int32) ≤ x26) (
  k30 (0 : Int32)) (
  k30 (1 : Int32))) (
  bp_if (x26 = (224 : Int32)) (
  bp_getN 4 18 a0 fun a72 =>
  bp_getI 4 21 a0 fun x73 =>
  bp_aldI 20 a72 (x73 + (6 : Int32)) fun x74 =>
  bp_if (x74 = 0) (
  bp_getN 4 18 a0 fun a75 =>
  bp_getI 4 21 a0 fun x76 =>
  bp_aldI 20 a75 (x76 + (7 : Int32)) fun x77 =>
  bp_if (x77 = 0) (
  bp_getN 4 18 a0 fun a78 =>
  bp_getI 4 21 a0 fun x79 =>
  bp_aldI 20 a78 (x79 + (8 : Int32)) fun x80 =>
  bp_bind (PX6_isIn x80 (5 : Int32) (10 : Int32)) fun x81 =>
  bp_if (x81 = 0) (
  k30 (0 : Int32)) (
  k30 (1 : Int32))) (
  k30 (0 : Int32))) (
  k30 (0 : Int32))) (
  k30 (0 : Int32)))) (fun (x29 : Int32) =>
  bp_if (x29 = 0) (
  bp_getI 4 21 a0 fun x70 =>
  bp_bind (bp_is 4 a0 (PX6_fail a0 (8 : Int32) x70)) fun x71 =>
  bp_retZ x71) (
  bp_jn (fun (k32 : Int32 → bp_M Int32) =>
  bp_if (x27 = 0) (
  bp_nz (32 : Int32) <|
  k32 (x26 / (32 : Int32))) (
  bp_getN 4 18 a0 fun a67 =>
  bp_getI 4 21 a0 fun x68 =>
  bp_aldI 20 a67 (x68 + (8 : Int32)) fun x69 =>
  k32 x69)) (fun (x31 : Int32) =>
  bp_getI 4 21 a0 fun x33 =>
  bp_jn (fun (k35 : Int32 → bp_M Int32) =>
  bp_if (x27 = 0) (
  k35 (6 : Int32)) (
  k35 (11 : Int32))) (fun (x34 : Int32) =>
  bp_letI (x33 + x34) fun x36 =>
  bp_getI 4 21 a0 fun x37 =>
  bp_bind (bp_is 4 a0 (PX6_hasLeft a0 (((x36 - x37) + x31).toInt64 + (5 : Int64)))) fun x38 =>
  bp_if (x38 = 0) (
  bp_retZ (0 : Int32)) (
  bp_jn (fun (k40 : Int32 → bp_M Int32) =>
  bp_if (x27 = 0) (
  bp_nz (32 : Int32) <|
  k40 (x26 - x26 / (32 : Int32) * (32 : Int32))) (
  bp_getN 4 18 a0 fun a61 =>
  bp_getI 4 21 a0 fun x62 =>
  bp_aldI 20 a61 (x62 + (9 : Int32)) fun x63 =>
  bp_getN 4 18 a0 fun a64 =>
  bp_getI 4 21 a0 fun x65 =>
  bp_aldI 20 a64 (x65 + (10 : Int32)) fun x66 =>
  k40 (x63 ||| (x66 <<< ((8 : Int32) &&& 31))))) (fun (x39 : Int32) =>
  bp_if ((x39 >>> ((x31 + (1 : Int32)) &&& 31)) = 0) (
  bp_getN 4 27 a0 fun a41 =>
  bp_astI a41 x1 x10 <|
  bp_getN 4 28 a0 fun a42 =>
  bp_astI a42 x1 x18 <|
  bp_getN 4 30 a0 fun a43 =>
  bp_astI a43 x1 x31 <|
  bp_getN 4 32 a0 fun a44 =>
  bp_astI a44 x1 x39 <|
  bp_jn (fun (k45 : bp_M Int32) =>
  bp_loop (fun _ => bp_no) (BX6_readHead_459 a0 x1 x31 x36 k45) (fun k => k (0 : Int32))) (bp_getN 4 29 a0 fun a46 =>
  bp_getN 4 18 a0 fun a47 =>
  bp_aldI 20 a47 (x36 + x31) fun x48 =>
  bp_astI a46 x1 x48 <|
  bp_getN 4 33 a0 fun a49 =>
  bp_bind (bp_is 4 a0 (PX6_four a0 ((x36 + x31) + (1 : Int32)))) fun x50 =>
  bp_astL a49 x1 (x50.toInt64 &&& (4294967295 : Int64)) <|
  bp_getN 4 35 a0 fun a51 =>
  bp_astI a51 x1 (-1 : Int32) <|
  bp_putI 4 21 a0 ((x36 + x31) + (5 : Int32)) <|
  bp_getI 4 24 a0 fun x52 =>
  bp_putI 4 24 a0 (x52 + (1 : Int32)) <|
  bp_retZ (1 : Int32))) (
  bp_getI 4 21 a0 fun x59 =>
  bp_bind (bp_is 4 a0 (PX6_fail a0 (8 : Int32) x59)) fun x60 =>
  bp_retZ x60))))))))))) (bp_getI 4 21 a0 fun x21 =>
  bp_bind (bp_is 4 a0 (PX6_fail a0 (4 : Int32) x21)) fun x22 =>
  bp_retZ x22))))) (bp_getI 4 21 a0 fun x14 =>
  bp_bind (bp_is 4 a0 (PX6_fail a0 (3 : Int32) x14)) fun x15 =>
  bp_retZ x15))))
set_option maxHeartbeats 4000000 in
set_option maxRecDepth 100000 in
theorem cnX6_readHead {G : bp_GT} (a0 : Nat) : bp_Con G iX6_readHead (ws_ iX6_readHead.1 iX6_readHead.2.1 iX6_readHead.2.2.1 iX6_readHead.2.2.2.1) [.ref a0] (PX6_readHead a0) bp_eI := by
  refine bp_con_of [(0, .ref a0)] rfl (by decide) (Nat.le_of_ble_eq_true rfl) rfl ?_
  unfold PX6_readHead
  refine bp_j_aload_n 0 dX6_readHead_0 rfl ?_
  refine bp_j_getI (t := 4) (k := 24) rfl (by decide) (bp_lk q1104) dX6_readHead_1 (fun _ _ _ => rfl) (fun x1 => ?_)
  refine bp_j_istore_n (lv' := [(1, .int x1), (0, .ref a0)]) dX6_readHead_4 (by decide) rfl ?_
  refine bp_j_aload_n 1 dX6_readHead_5 rfl ?_
  refine bp_j_getN (t := 4) (k := 26) rfl (by decide) (bp_lk q1106) dX6_readHead_6 (fun _ _ _ => rfl) (fun a2 => ?_)
  refine bp_j_iload_n 0 dX6_readHead_9 rfl ?_
  refine bp_j_sipush (v := 256) dX6_readHead_10 (by decide) ?_
  refine bp_j_irem dX6_readHead_13 ?_
  refine bp_j_aload_n 1 dX6_readHead_14 rfl ?_
  refine bp_j_getI (t := 4) (k := 21) rfl (by decide) (bp_lk q1101) dX6_readHead_15 (fun _ _ _ => rfl) (fun x3 => ?_)
  refine bp_j_iastore dX6_readHead_18 ?_
  refine bp_j_aload_n 1 dX6_readHead_19 rfl ?_
  refine bp_j_ldc2 q1362 dX6_readHead_20 ?_
  refine bp_j_cl_I (bp_ranV (t := 4) (n := 1) (As := [.long (6 : Int64)]) (cnX6_hasLeft (G := G) a0 (6 : Int64)) rfl (lw_V q1363 q1365 qs48 q82 q1366) ⟨rfl, by decide +kernel, by decide +kernel, by decide +kernel⟩ ⟨by decide, by decide⟩ (rest := []) rfl rfl (Nat.le_of_ble_eq_true rfl) dX6_readHead_23) (by decide) (fun x4 => ?_)
  refine bp_j_if_eq (tgt := 56) dX6_readHead_26 (by decide) ?_ ?_
  · refine bp_j_iconst (v := 0) dX6_readHead_56 (by decide) ?_
    exact bp_j_zret rfl dX6_readHead_57
  refine bp_j_aload_n 1 dX6_readHead_29 rfl ?_
  refine bp_j_getN (t := 4) (k := 18) rfl (by decide) (bp_lk q1098) dX6_readHead_30 (fun _ _ _ => rfl) (fun a5 => ?_)
  refine bp_j_aload_n 1 dX6_readHead_33 rfl ?_
  refine bp_j_getI (t := 4) (k := 21) rfl (by decide) (bp_lk q1101) dX6_readHead_34 (fun _ _ _ => rfl) (fun x6 => ?_)
  refine bp_j_iconst (v := 5) dX6_readHead_37 (by decide) ?_
  refine bp_j_iadd dX6_readHead_38 ?_
  refine bp_j_iaload dX6_readHead_39 (fun x7 => ?_)
  refine bp_j_sipush (v := 223) dX6_readHead_40 (by decide) ?_
  refine bp_j_jm (fun k => bp_J G iX6_readHead (bp_Qn G bp_eI) (k) 58 [(0, .ref a0), (1, .int x1)] []) (fun k8 hk8 => ?_) ?_
  · refine bp_j_icmp_le (tgt := 58) dX6_readHead_43 (by decide) ?_ ?_
    · exact bp_j_sub [1, 0] rfl (hk8)
    refine bp_j_aload_n 1 dX6_readHead_46 rfl ?_
    refine bp_j_ldc2 q1371 dX6_readHead_47 ?_
    refine bp_j_cl_I (bp_ranV (t := 4) (n := 1) (As := [.long (9 : Int64)]) (cnX6_hasLeft (G := G) a0 (9 : Int64)) rfl (lw_V q1363 q1365 qs48 q82 q1366) ⟨rfl, by decide +kernel, by decide +kernel, by decide +kernel⟩ ⟨by decide, by decide⟩ (rest := []) rfl rfl (Nat.le_of_ble_eq_true rfl) dX6_readHead_50) (by decide) (fun x85 => ?_)
    refine bp_j_if_ne (tgt := 58) dX6_readHead_53 (by decide) ?_ ?_
    · exact bp_j_sub [1, 0] rfl (hk8)
    refine bp_j_iconst (v := 0) dX6_readHead_56 (by decide) ?_
    exact bp_j_zret rfl dX6_readHead_57
  refine bp_j_aload_n 0 dX6_readHead_58 rfl ?_
  refine bp_j_aload_n 0 dX6_readHead_59 rfl ?_
  refine bp_j_getI (t := 4) (k := 21) rfl (by decide) (bp_lk q1101) dX6_readHead_60 (fun _ _ _ => rfl) (fun x9 => ?_)
  refine bp_j_cl_I (bp_ranV (t := 4) (n := 1) (As := [.int x9]) (cnX6_four (G := G) a0 x9) rfl (lw_V q1372 q1374 qs50 q82 q1375) ⟨rfl, by decide +kernel, by decide +kernel, by decide +kernel⟩ ⟨by decide, by decide⟩ (rest := []) rfl rfl (Nat.le_of_ble_eq_true rfl) dX6_readHead_63) (by decide) (fun x10 => ?_)
  refine bp_j_istore_n (lv' := [(2, .int x10), (0, .ref a0), (1, .int x1)]) dX6_readHead_66 (by decide) rfl ?_
  refine bp_j_iload_n 2 dX6_readHead_67 rfl ?_
  refine bp_j_jm (fun k => ∀ (x11 : Int32), bp_J G iX6_readHead (bp_Qn G bp_eI) (k x11) 88 [(0, .ref a0), (1, .int x1), (2, .int x10)] [.int x11]) (fun k12 hk12 => ?_) (fun x11 => ?_)
  · refine bp_j_if_eq (tgt := 83) dX6_readHead_68 (by decide) ?_ ?_
    · refine bp_j_iconst (v := 1) dX6_readHead_83 (by decide) ?_
      refine bp_j_goto (tgt := 88) dX6_readHead_84 (by decide) ?_
      exact bp_j_sub [1, 2, 0] rfl (hk12 (1 : Int32))
    refine bp_j_iload_n 0 dX6_readHead_71 rfl ?_
    refine bp_j_aload_n 1 dX6_readHead_72 rfl ?_
    refine bp_j_getN (t := 4) (k := 27) rfl (by decide) (bp_lk q1107) dX6_readHead_73 (fun _ _ _ => rfl) (fun a83 => ?_)
    refine bp_j_iload_n 2 dX6_readHead_76 rfl ?_
    refine bp_j_iconst (v := 1) dX6_readHead_77 (by decide) ?_
    refine bp_j_isub dX6_readHead_78 ?_
    refine bp_j_iaload dX6_readHead_79 (fun x84 => ?_)
    refine bp_j_icmp_le (tgt := 87) dX6_readHead_80 (by decide) ?_ ?_
    · refine bp_j_iconst (v := 0) dX6_readHead_87 (by decide) ?_
      exact bp_j_sub [1, 2, 0] rfl (hk12 (0 : Int32))
    refine bp_j_iconst (v := 1) dX6_readHead_83 (by decide) ?_
    refine bp_j_goto (tgt := 88) dX6_readHead_84 (by decide) ?_
    exact bp_j_sub [1, 2, 0] rfl (hk12 (1 : Int32))
  refine bp_j_istore_n (lv' := [(3, .int x11), (0, .ref a0), (1, .int x1), (2, .int x10)]) dX6_readHead_88 (by decide) rfl ?_
  refine bp_j_iload_n 3 dX6_readHead_89 rfl ?_
  refine bp_j_jm (fun k => bp_J G iX6_readHead (bp_Qn G bp_eI) (k) 104 [(0, .ref a0)] []) (fun k13 hk13 => ?_) ?_
  · refine bp_j_if_lt (tgt := 104) dX6_readHead_90 (by decide) ?_ ?_
    · exact bp_j_sub [1] rfl (hk13)
    refine bp_j_iload_n 3 dX6_readHead_93 rfl ?_
    refine bp_j_sipush (v := 255) dX6_readHead_94 (by decide) ?_
    refine bp_j_icmp_gt (tgt := 104) dX6_readHead_97 (by decide) ?_ ?_
    · exact bp_j_sub [1] rfl (hk13)
    refine bp_j_iload_n 0 dX6_readHead_100 rfl ?_
    refine bp_j_if_ne (tgt := 114) dX6_readHead_101 (by decide) ?_ ?_
    · refine bp_j_aload_n 1 dX6_readHead_114 rfl ?_
      refine bp_j_getN (t := 4) (k := 18) rfl (by decide) (bp_lk q1098) dX6_readHead_115 (fun _ _ _ => rfl) (fun a16 => ?_)
      refine bp_j_aload_n 1 dX6_readHead_118 rfl ?_
      refine bp_j_getI (t := 4) (k := 21) rfl (by decide) (bp_lk q1101) dX6_readHead_119 (fun _ _ _ => rfl) (fun x17 => ?_)
      refine bp_j_iconst (v := 4) dX6_readHead_122 (by decide) ?_
      refine bp_j_iadd dX6_readHead_123 ?_
      refine bp_j_iaload dX6_readHead_124 (fun x18 => ?_)
      refine bp_j_istore (lv' := [(4, .int x18), (3, .int x11), (0, .ref a0), (1, .int x1), (2, .int x10)]) dX6_readHead_125 (by decide) rfl ?_
      refine bp_j_iload 0 dX6_readHead_127 rfl ?_
      refine bp_j_cl_I (bp_ranS (n := 1) (As := [.int x18]) (cnX6_isKind (G := G) x18) (lw_S q1241 q1242 q82 q1243) ⟨by decide +kernel, by decide +kernel, by decide +kernel⟩ ⟨by decide, by decide⟩ (rest := []) rfl rfl (Nat.le_of_ble_eq_true rfl) dX6_readHead_129) (by decide) (fun x19 => ?_)
      refine bp_j_jm (fun k => bp_J G iX6_readHead (bp_Qn G bp_eI) (k) 150 [(0, .ref a0)] []) (fun k20 hk20 => ?_) ?_
      · refine bp_j_if_eq (tgt := 150) dX6_readHead_132 (by decide) ?_ ?_
        · exact bp_j_sub [2] rfl (hk20)
        refine bp_j_iload 0 dX6_readHead_135 rfl ?_
        refine bp_j_bipush (v := 51) dX6_readHead_137 (by decide) ?_
        refine bp_j_jm (fun k => bp_J G iX6_readHead (bp_Qn G bp_eI) (k) 160 [(0, .ref a0), (1, .int x1), (2, .int x10), (4, .int x18)] []) (fun k23 hk23 => ?_) ?_
        · refine bp_j_icmp_ne (tgt := 160) dX6_readHead_139 (by decide) ?_ ?_
          · exact bp_j_sub [2, 3, 4, 0] rfl (hk23)
          refine bp_j_aload_n 2 dX6_readHead_142 rfl ?_
          refine bp_j_getI (t := 4) (k := 1) rfl (by decide) (bp_lk q1081) dX6_readHead_143 (fun _ _ _ => rfl) (fun x82 => ?_)
          refine bp_j_iconst (v := 2) dX6_readHead_146 (by decide) ?_
          refine bp_j_icmp_ne (tgt := 160) dX6_readHead_147 (by decide) ?_ ?_
          · exact bp_j_sub [2, 3, 4, 0] rfl (hk23)
          exact bp_j_sub [2] rfl (hk20)
        refine bp_j_aload_n 0 dX6_readHead_160 rfl ?_
        refine bp_j_getN (t := 4) (k := 18) rfl (by decide) (bp_lk q1098) dX6_readHead_161 (fun _ _ _ => rfl) (fun a24 => ?_)
        refine bp_j_aload_n 0 dX6_readHead_164 rfl ?_
        refine bp_j_getI (t := 4) (k := 21) rfl (by decide) (bp_lk q1101) dX6_readHead_165 (fun _ _ _ => rfl) (fun x25 => ?_)
        refine bp_j_iconst (v := 5) dX6_readHead_168 (by decide) ?_
        refine bp_j_iadd dX6_readHead_169 ?_
        refine bp_j_iaload dX6_readHead_170 (fun x26 => ?_)
        refine bp_j_istore (lv' := [(5, .int x26), (0, .ref a0), (1, .int x1), (2, .int x10), (4, .int x18)]) dX6_readHead_171 (by decide) rfl ?_
        refine bp_j_iload 0 dX6_readHead_173 rfl ?_
        refine bp_j_sipush (v := 223) dX6_readHead_175 (by decide) ?_
        refine bp_j_jm (fun k => ∀ (x27 : Int32), bp_J G iX6_readHead (bp_Qn G bp_eI) (k x27) 186 [(0, .ref a0), (1, .int x1), (2, .int x10), (4, .int x18), (5, .int x26)] [.int x27]) (fun k28 hk28 => ?_) (fun x27 => ?_)
        · refine bp_j_icmp_le (tgt := 185) dX6_readHead_178 (by decide) ?_ ?_
          · refine bp_j_iconst (v := 0) dX6_readHead_185 (by decide) ?_
            exact bp_j_sub [1, 2, 3, 4, 0] rfl (hk28 (0 : Int32))
          refine bp_j_iconst (v := 1) dX6_readHead_181 (by decide) ?_
          refine bp_j_goto (tgt := 186) dX6_readHead_182 (by decide) ?_
          exact bp_j_sub [1, 2, 3, 4, 0] rfl (hk28 (1 : Int32))
        refine bp_j_istore (lv' := [(6, .int x27), (0, .ref a0), (1, .int x1), (2, .int x10), (4, .int x18), (5, .int x26)]) dX6_readHead_186 (by decide) rfl ?_
        refine bp_j_iload 0 dX6_readHead_188 rfl ?_
        refine bp_j_jm (fun k => ∀ (x29 : Int32), bp_J G iX6_readHead (bp_Qn G bp_eI) (k x29) 273 [(0, .ref a0), (1, .int x1), (2, .int x10), (4, .int x18), (5, .int x26), (6, .int x27)] [.int x29]) (fun k30 hk30 => ?_) (fun x29 => ?_)
        · refine bp_j_if_eq (tgt := 260) dX6_readHead_190 (by decide) ?_ ?_
          · refine bp_j_iload 5 dX6_readHead_260 rfl ?_
            refine bp_j_sipush (v := 160) dX6_readHead_262 (by decide) ?_
            refine bp_j_icmp_ge (tgt := 272) dX6_readHead_265 (by decide) ?_ ?_
            · refine bp_j_iconst (v := 0) dX6_readHead_272 (by decide) ?_
              exact bp_j_sub [1, 2, 3, 4, 5, 0] rfl (hk30 (0 : Int32))
            refine bp_j_iconst (v := 1) dX6_readHead_268 (by decide) ?_
            refine bp_j_goto (tgt := 273) dX6_readHead_269 (by decide) ?_
            exact bp_j_sub [1, 2, 3, 4, 5, 0] rfl (hk30 (1 : Int32))
          refine bp_j_iload 5 dX6_readHead_193 rfl ?_
          refine bp_j_sipush (v := 224) dX6_readHead_195 (by decide) ?_
          refine bp_j_icmp_ne (tgt := 256) dX6_readHead_198 (by decide) ?_ ?_
          · refine bp_j_iconst (v := 0) dX6_readHead_256 (by decide) ?_
            refine bp_j_goto (tgt := 273) dX6_readHead_257 (by decide) ?_
            exact bp_j_sub [1, 2, 3, 4, 5, 0] rfl (hk30 (0 : Int32))
          refine bp_j_aload_n 1 dX6_readHead_201 rfl ?_
          refine bp_j_getN (t := 4) (k := 18) rfl (by decide) (bp_lk q1098) dX6_readHead_202 (fun _ _ _ => rfl) (fun a72 => ?_)
          refine bp_j_aload_n 1 dX6_readHead_205 rfl ?_
          refine bp_j_getI (t := 4) (k := 21) rfl (by decide) (bp_lk q1101) dX6_readHead_206 (fun _ _ _ => rfl) (fun x73 => ?_)
          refine bp_j_bipush (v := 6) dX6_readHead_209 (by decide) ?_
          refine bp_j_iadd dX6_readHead_211 ?_
          refine bp_j_iaload dX6_readHead_212 (fun x74 => ?_)
          refine bp_j_if_ne (tgt := 256) dX6_readHead_213 (by decide) ?_ ?_
          · refine bp_j_iconst (v := 0) dX6_readHead_256 (by decide) ?_
            refine bp_j_goto (tgt := 273) dX6_readHead_257 (by decide) ?_
            exact bp_j_sub [1, 2, 3, 4, 5, 0] rfl (hk30 (0 : Int32))
          refine bp_j_aload_n 1 dX6_readHead_216 rfl ?_
          refine bp_j_getN (t := 4) (k := 18) rfl (by decide) (bp_lk q1098) dX6_readHead_217 (fun _ _ _ => rfl) (fun a75 => ?_)
          refine bp_j_aload_n 1 dX6_readHead_220 rfl ?_
          refine bp_j_getI (t := 4) (k := 21) rfl (by decide) (bp_lk q1101) dX6_readHead_221 (fun _ _ _ => rfl) (fun x76 => ?_)
          refine bp_j_bipush (v := 7) dX6_readHead_224 (by decide) ?_
          refine bp_j_iadd dX6_readHead_226 ?_
          refine bp_j_iaload dX6_readHead_227 (fun x77 => ?_)
          refine bp_j_if_ne (tgt := 256) dX6_readHead_228 (by decide) ?_ ?_
          · refine bp_j_iconst (v := 0) dX6_readHead_256 (by decide) ?_
            refine bp_j_goto (tgt := 273) dX6_readHead_257 (by decide) ?_
            exact bp_j_sub [1, 2, 3, 4, 5, 0] rfl (hk30 (0 : Int32))
          refine bp_j_aload_n 1 dX6_readHead_231 rfl ?_
          refine bp_j_getN (t := 4) (k := 18) rfl (by decide) (bp_lk q1098) dX6_readHead_232 (fun _ _ _ => rfl) (fun a78 => ?_)
          refine bp_j_aload_n 1 dX6_readHead_235 rfl ?_
          refine bp_j_getI (t := 4) (k := 21) rfl (by decide) (bp_lk q1101) dX6_readHead_236 (fun _ _ _ => rfl) (fun x79 => ?_)
          refine bp_j_bipush (v := 8) dX6_readHead_239 (by decide) ?_
          refine bp_j_iadd dX6_readHead_241 ?_
          refine bp_j_iaload dX6_readHead_242 (fun x80 => ?_)
          refine bp_j_iconst (v := 5) dX6_readHead_243 (by decide) ?_
          refine bp_j_bipush (v := 10) dX6_readHead_244 (by decide) ?_
          refine bp_j_cl_I (bp_ranS (n := 3) (As := [.int x80, .int (5 : Int32), .int (10 : Int32)]) (cnX6_isIn (G := G) x80 (5 : Int32) (10 : Int32)) (lw_S q1244 q1245 q82 q1246) ⟨by decide +kernel, by decide +kernel, by decide +kernel⟩ ⟨by decide, by decide⟩ (rest := []) rfl rfl (Nat.le_of_ble_eq_true rfl) dX6_readHead_246) (by decide) (fun x81 => ?_)
          refine bp_j_if_eq (tgt := 256) dX6_readHead_249 (by decide) ?_ ?_
          · refine bp_j_iconst (v := 0) dX6_readHead_256 (by decide) ?_
            refine bp_j_goto (tgt := 273) dX6_readHead_257 (by decide) ?_
            exact bp_j_sub [1, 2, 3, 4, 5, 0] rfl (hk30 (0 : Int32))
          refine bp_j_iconst (v := 1) dX6_readHead_252 (by decide) ?_
          refine bp_j_goto (tgt := 273) dX6_readHead_253 (by decide) ?_
          exact bp_j_sub [1, 2, 3, 4, 5, 0] rfl (hk30 (1 : Int32))
        refine bp_j_istore (lv' := [(7, .int x29), (0, .ref a0), (1, .int x1), (2, .int x10), (4, .int x18), (5, .int x26), (6, .int x27)]) dX6_readHead_273 (by decide) rfl ?_
        refine bp_j_iload 0 dX6_readHead_275 rfl ?_
        refine bp_j_if_ne (tgt := 291) dX6_readHead_277 (by decide) ?_ ?_
        · refine bp_j_iload 6 dX6_readHead_291 rfl ?_
          refine bp_j_jm (fun k => ∀ (x31 : Int32), bp_J G iX6_readHead (bp_Qn G bp_eI) (k x31) 316 [(0, .ref a0), (1, .int x1), (2, .int x10), (4, .int x18), (5, .int x26), (6, .int x27)] [.int x31]) (fun k32 hk32 => ?_) (fun x31 => ?_)
          · refine bp_j_if_eq (tgt := 311) dX6_readHead_293 (by decide) ?_ ?_
            · refine bp_j_iload 5 dX6_readHead_311 rfl ?_
              refine bp_j_bipush (v := 32) dX6_readHead_313 (by decide) ?_
              refine bp_j_idiv dX6_readHead_315 ?_
              exact bp_j_sub [1, 2, 3, 4, 5, 6] rfl (hk32 (x26 / (32 : Int32)))
            refine bp_j_aload_n 1 dX6_readHead_296 rfl ?_
            refine bp_j_getN (t := 4) (k := 18) rfl (by decide) (bp_lk q1098) dX6_readHead_297 (fun _ _ _ => rfl) (fun a67 => ?_)
            refine bp_j_aload_n 1 dX6_readHead_300 rfl ?_
            refine bp_j_getI (t := 4) (k := 21) rfl (by decide) (bp_lk q1101) dX6_readHead_301 (fun _ _ _ => rfl) (fun x68 => ?_)
            refine bp_j_bipush (v := 8) dX6_readHead_304 (by decide) ?_
            refine bp_j_iadd dX6_readHead_306 ?_
            refine bp_j_iaload dX6_readHead_307 (fun x69 => ?_)
            refine bp_j_goto (tgt := 316) dX6_readHead_308 (by decide) ?_
            exact bp_j_sub [1, 2, 3, 4, 5, 6] rfl (hk32 x69)
          refine bp_j_istore (lv' := [(8, .int x31), (0, .ref a0), (1, .int x1), (2, .int x10), (4, .int x18), (5, .int x26), (6, .int x27)]) dX6_readHead_316 (by decide) rfl ?_
          refine bp_j_aload_n 1 dX6_readHead_318 rfl ?_
          refine bp_j_getI (t := 4) (k := 21) rfl (by decide) (bp_lk q1101) dX6_readHead_319 (fun _ _ _ => rfl) (fun x33 => ?_)
          refine bp_j_iload 6 dX6_readHead_322 rfl ?_
          refine bp_j_jm (fun k => ∀ (x34 : Int32), bp_J G iX6_readHead (bp_Qn G bp_eI) (k x34) 334 [(0, .ref a0), (1, .int x1), (2, .int x10), (4, .int x18), (5, .int x26), (6, .int x27), (8, .int x31)] [.int x34, .int x33]) (fun k35 hk35 => ?_) (fun x34 => ?_)
          · refine bp_j_if_eq (tgt := 332) dX6_readHead_324 (by decide) ?_ ?_
            · refine bp_j_bipush (v := 6) dX6_readHead_332 (by decide) ?_
              exact bp_j_sub [1, 2, 3, 4, 5, 6, 0] rfl (hk35 (6 : Int32))
            refine bp_j_bipush (v := 11) dX6_readHead_327 (by decide) ?_
            refine bp_j_goto (tgt := 334) dX6_readHead_329 (by decide) ?_
            exact bp_j_sub [1, 2, 3, 4, 5, 6, 0] rfl (hk35 (11 : Int32))
          refine bp_j_iadd dX6_readHead_334 ?_
          refine bp_j_letI (fun x36 => ?_)
          refine bp_j_istore (lv' := [(9, .int x36), (0, .ref a0), (1, .int x1), (2, .int x10), (4, .int x18), (5, .int x26), (6, .int x27), (8, .int x31)]) dX6_readHead_335 (by decide) rfl ?_
          refine bp_j_aload_n 1 dX6_readHead_337 rfl ?_
          refine bp_j_iload 0 dX6_readHead_338 rfl ?_
          refine bp_j_aload_n 1 dX6_readHead_340 rfl ?_
          refine bp_j_getI (t := 4) (k := 21) rfl (by decide) (bp_lk q1101) dX6_readHead_341 (fun _ _ _ => rfl) (fun x37 => ?_)
          refine bp_j_isub dX6_readHead_344 ?_
          refine bp_j_iload 7 dX6_readHead_345 rfl ?_
          refine bp_j_iadd dX6_readHead_347 ?_
          refine bp_j_i2l dX6_readHead_348 ?_
          refine bp_j_ldc2 q1376 dX6_readHead_349 ?_
          refine bp_j_ladd dX6_readHead_352 ?_
          refine bp_j_cl_I (bp_ranV (t := 4) (n := 1) (As := [.long (((x36 - x37) + x31).toInt64 + (5 : Int64))]) (cnX6_hasLeft (G := G) a0 (((x36 - x37) + x31).toInt64 + (5 : Int64))) rfl (lw_V q1363 q1365 qs48 q82 q1366) ⟨rfl, by decide +kernel, by decide +kernel, by decide +kernel⟩ ⟨by decide, by decide⟩ (rest := []) rfl rfl (Nat.le_of_ble_eq_true rfl) dX6_readHead_353) (by decide) (fun x38 => ?_)
          refine bp_j_if_ne (tgt := 361) dX6_readHead_356 (by decide) ?_ ?_
          · refine bp_j_iload 6 dX6_readHead_361 rfl ?_
            refine bp_j_jm (fun k => ∀ (x39 : Int32), bp_J G iX6_readHead (bp_Qn G bp_eI) (k x39) 402 [(0, .ref a0), (1, .int x1), (2, .int x10), (4, .int x18), (8, .int x31), (9, .int x36)] [.int x39]) (fun k40 hk40 => ?_) (fun x39 => ?_)
            · refine bp_j_if_eq (tgt := 397) dX6_readHead_363 (by decide) ?_ ?_
              · refine bp_j_iload 5 dX6_readHead_397 rfl ?_
                refine bp_j_bipush (v := 32) dX6_readHead_399 (by decide) ?_
                refine bp_j_irem dX6_readHead_401 ?_
                exact bp_j_sub [1, 2, 3, 4, 7, 0] rfl (hk40 (x26 - x26 / (32 : Int32) * (32 : Int32)))
              refine bp_j_aload_n 1 dX6_readHead_366 rfl ?_
              refine bp_j_getN (t := 4) (k := 18) rfl (by decide) (bp_lk q1098) dX6_readHead_367 (fun _ _ _ => rfl) (fun a61 => ?_)
              refine bp_j_aload_n 1 dX6_readHead_370 rfl ?_
              refine bp_j_getI (t := 4) (k := 21) rfl (by decide) (bp_lk q1101) dX6_readHead_371 (fun _ _ _ => rfl) (fun x62 => ?_)
              refine bp_j_bipush (v := 9) dX6_readHead_374 (by decide) ?_
              refine bp_j_iadd dX6_readHead_376 ?_
              refine bp_j_iaload dX6_readHead_377 (fun x63 => ?_)
              refine bp_j_aload_n 1 dX6_readHead_378 rfl ?_
              refine bp_j_getN (t := 4) (k := 18) rfl (by decide) (bp_lk q1098) dX6_readHead_379 (fun _ _ _ => rfl) (fun a64 => ?_)
              refine bp_j_aload_n 1 dX6_readHead_382 rfl ?_
              refine bp_j_getI (t := 4) (k := 21) rfl (by decide) (bp_lk q1101) dX6_readHead_383 (fun _ _ _ => rfl) (fun x65 => ?_)
              refine bp_j_bipush (v := 10) dX6_readHead_386 (by decide) ?_
              refine bp_j_iadd dX6_readHead_388 ?_
              refine bp_j_iaload dX6_readHead_389 (fun x66 => ?_)
              refine bp_j_bipush (v := 8) dX6_readHead_390 (by decide) ?_
              refine bp_j_ishl dX6_readHead_392 ?_
              refine bp_j_ior dX6_readHead_393 ?_
              refine bp_j_goto (tgt := 402) dX6_readHead_394 (by decide) ?_
              exact bp_j_sub [1, 2, 3, 4, 7, 0] rfl (hk40 (x63 ||| (x66 <<< ((8 : Int32) &&& 31))))
            refine bp_j_istore (lv' := [(10, .int x39), (0, .ref a0), (1, .int x1), (2, .int x10), (4, .int x18), (8, .int x31), (9, .int x36)]) dX6_readHead_402 (by decide) rfl ?_
            refine bp_j_iload 0 dX6_readHead_404 rfl ?_
            refine bp_j_iload 5 dX6_readHead_406 rfl ?_
            refine bp_j_iconst (v := 1) dX6_readHead_408 (by decide) ?_
            refine bp_j_iadd dX6_readHead_409 ?_
            refine bp_j_ishr dX6_readHead_410 ?_
            refine bp_j_if_eq (tgt := 425) dX6_readHead_411 (by decide) ?_ ?_
            · refine bp_j_aload_n 1 dX6_readHead_425 rfl ?_
              refine bp_j_getN (t := 4) (k := 27) rfl (by decide) (bp_lk q1107) dX6_readHead_426 (fun _ _ _ => rfl) (fun a41 => ?_)
              refine bp_j_iload_n 2 dX6_readHead_429 rfl ?_
              refine bp_j_iload_n 3 dX6_readHead_430 rfl ?_
              refine bp_j_iastore dX6_readHead_431 ?_
              refine bp_j_aload_n 1 dX6_readHead_432 rfl ?_
              refine bp_j_getN (t := 4) (k := 28) rfl (by decide) (bp_lk q1108) dX6_readHead_433 (fun _ _ _ => rfl) (fun a42 => ?_)
              refine bp_j_iload_n 2 dX6_readHead_436 rfl ?_
              refine bp_j_iload 4 dX6_readHead_437 rfl ?_
              refine bp_j_iastore dX6_readHead_439 ?_
              refine bp_j_aload_n 1 dX6_readHead_440 rfl ?_
              refine bp_j_getN (t := 4) (k := 30) rfl (by decide) (bp_lk q1110) dX6_readHead_441 (fun _ _ _ => rfl) (fun a43 => ?_)
              refine bp_j_iload_n 2 dX6_readHead_444 rfl ?_
              refine bp_j_iload 5 dX6_readHead_445 rfl ?_
              refine bp_j_iastore dX6_readHead_447 ?_
              refine bp_j_aload_n 1 dX6_readHead_448 rfl ?_
              refine bp_j_getN (t := 4) (k := 32) rfl (by decide) (bp_lk q1112) dX6_readHead_449 (fun _ _ _ => rfl) (fun a44 => ?_)
              refine bp_j_iload_n 2 dX6_readHead_452 rfl ?_
              refine bp_j_iload 0 dX6_readHead_453 rfl ?_
              refine bp_j_iastore dX6_readHead_455 ?_
              refine bp_j_iconst (v := 0) dX6_readHead_456 (by decide) ?_
              refine bp_j_istore (lv' := [(11, .int (0 : Int32)), (10, .int x39), (0, .ref a0), (1, .int x1), (2, .int x10), (4, .int x18), (8, .int x31), (9, .int x36)]) dX6_readHead_457 (by decide) rfl ?_
              refine bp_j_jm (fun k => bp_J G iX6_readHead (bp_Qn G bp_eI) (k) 494 [(0, .ref a0), (1, .int x1), (8, .int x31), (9, .int x36)] []) (fun k45 hk45 => ?_) ?_
              · refine bp_j_loop (fun k => ∀ (x53 : Int32), bp_J G iX6_readHead (bp_Qn G bp_eI) (k x53) 459 [(0, .ref a0), (1, .int x1), (8, .int x31), (9, .int x36), (11, .int x53)] []) (fun _ => bp_j_no) (fun k54 hk54 x53 => ?_) (fun k h => bp_j_sub [2, 3, 6, 7, 0] rfl (h (0 : Int32)))
                unfold BX6_readHead_459
                refine bp_j_iload 4 dX6_readHead_459 rfl ?_
                refine bp_j_iload 2 dX6_readHead_461 rfl ?_
                refine bp_j_icmp_ge (tgt := 494) dX6_readHead_463 (by decide) ?_ ?_
                · exact bp_j_sub [0, 1, 2, 3] rfl (hk45)
                refine bp_j_aload_n 0 dX6_readHead_466 rfl ?_
                refine bp_j_getN (t := 4) (k := 31) rfl (by decide) (bp_lk q1111) dX6_readHead_467 (fun _ _ _ => rfl) (fun a55 => ?_)
                refine bp_j_bipush (v := 10) dX6_readHead_470 (by decide) ?_
                refine bp_j_iload_n 1 dX6_readHead_472 rfl ?_
                refine bp_j_imul dX6_readHead_473 ?_
                refine bp_j_iload 4 dX6_readHead_474 rfl ?_
                refine bp_j_iadd dX6_readHead_476 ?_
                refine bp_j_aload_n 0 dX6_readHead_477 rfl ?_
                refine bp_j_getN (t := 4) (k := 18) rfl (by decide) (bp_lk q1098) dX6_readHead_478 (fun _ _ _ => rfl) (fun a56 => ?_)
                refine bp_j_iload 3 dX6_readHead_481 rfl ?_
                refine bp_j_iload 4 dX6_readHead_483 rfl ?_
                refine bp_j_iadd dX6_readHead_485 ?_
                refine bp_j_iaload dX6_readHead_486 (fun x57 => ?_)
                refine bp_j_iastore dX6_readHead_487 ?_
                refine bp_j_iincL (lv' := fun x58 => [(11, .int x58), (0, .ref a0), (1, .int x1), (8, .int x31), (9, .int x36)]) 4 dX6_readHead_488 rfl (by decide) (by decide) (fun _ => rfl) (fun x58 => ?_)
                refine bp_j_goto (tgt := 459) dX6_readHead_491 (by decide) ?_
                exact bp_j_sub [1, 2, 3, 4, 0] rfl (hk54 x58)
              refine bp_j_aload_n 0 dX6_readHead_494 rfl ?_
              refine bp_j_getN (t := 4) (k := 29) rfl (by decide) (bp_lk q1109) dX6_readHead_495 (fun _ _ _ => rfl) (fun a46 => ?_)
              refine bp_j_iload_n 1 dX6_readHead_498 rfl ?_
              refine bp_j_aload_n 0 dX6_readHead_499 rfl ?_
              refine bp_j_getN (t := 4) (k := 18) rfl (by decide) (bp_lk q1098) dX6_readHead_500 (fun _ _ _ => rfl) (fun a47 => ?_)
              refine bp_j_iload 3 dX6_readHead_503 rfl ?_
              refine bp_j_iload 2 dX6_readHead_505 rfl ?_
              refine bp_j_iadd dX6_readHead_507 ?_
              refine bp_j_iaload dX6_readHead_508 (fun x48 => ?_)
              refine bp_j_iastore dX6_readHead_509 ?_
              refine bp_j_aload_n 0 dX6_readHead_510 rfl ?_
              refine bp_j_getN (t := 4) (k := 33) rfl (by decide) (bp_lk q1113) dX6_readHead_511 (fun _ _ _ => rfl) (fun a49 => ?_)
              refine bp_j_iload_n 1 dX6_readHead_514 rfl ?_
              refine bp_j_aload_n 0 dX6_readHead_515 rfl ?_
              refine bp_j_iload 3 dX6_readHead_516 rfl ?_
              refine bp_j_iload 2 dX6_readHead_518 rfl ?_
              refine bp_j_iadd dX6_readHead_520 ?_
              refine bp_j_iconst (v := 1) dX6_readHead_521 (by decide) ?_
              refine bp_j_iadd dX6_readHead_522 ?_
              refine bp_j_cl_I (bp_ranV (t := 4) (n := 1) (As := [.int ((x36 + x31) + (1 : Int32))]) (cnX6_four (G := G) a0 ((x36 + x31) + (1 : Int32))) rfl (lw_V q1372 q1374 qs50 q82 q1375) ⟨rfl, by decide +kernel, by decide +kernel, by decide +kernel⟩ ⟨by decide, by decide⟩ (rest := [.int x1, .ref a49]) rfl rfl (Nat.le_of_ble_eq_true rfl) dX6_readHead_523) (by decide) (fun x50 => ?_)
              refine bp_j_i2l dX6_readHead_526 ?_
              refine bp_j_ldc2 q1377 dX6_readHead_527 ?_
              refine bp_j_land dX6_readHead_530 ?_
              refine bp_j_lastore dX6_readHead_531 ?_
              refine bp_j_aload_n 0 dX6_readHead_532 rfl ?_
              refine bp_j_getN (t := 4) (k := 35) rfl (by decide) (bp_lk q1115) dX6_readHead_533 (fun _ _ _ => rfl) (fun a51 => ?_)
              refine bp_j_iload_n 1 dX6_readHead_536 rfl ?_
              refine bp_j_iconst (v := -1) dX6_readHead_537 (by decide) ?_
              refine bp_j_iastore dX6_readHead_538 ?_
              refine bp_j_aload_n 0 dX6_readHead_539 rfl ?_
              refine bp_j_iload 3 dX6_readHead_540 rfl ?_
              refine bp_j_iload 2 dX6_readHead_542 rfl ?_
              refine bp_j_iadd dX6_readHead_544 ?_
              refine bp_j_iconst (v := 5) dX6_readHead_545 (by decide) ?_
              refine bp_j_iadd dX6_readHead_546 ?_
              refine bp_j_putI (t := 4) (k := 21) rfl (by decide) (by decide) (bp_lk q1101) rfl dX6_readHead_547 rfl ?_
              refine bp_j_aload_n 0 dX6_readHead_550 rfl ?_
              refine bp_j_dup dX6_readHead_551 rfl ?_
              refine bp_j_getI (t := 4) (k := 24) rfl (by decide) (bp_lk q1104) dX6_readHead_552 (fun _ _ _ => rfl) (fun x52 => ?_)
              refine bp_j_iconst (v := 1) dX6_readHead_555 (by decide) ?_
              refine bp_j_iadd dX6_readHead_556 ?_
              refine bp_j_putI (t := 4) (k := 24) rfl (by decide) (by decide) (bp_lk q1104) rfl dX6_readHead_557 rfl ?_
              refine bp_j_iconst (v := 1) dX6_readHead_560 (by decide) ?_
              exact bp_j_zret rfl dX6_readHead_561
            refine bp_j_aload_n 1 dX6_readHead_414 rfl ?_
            refine bp_j_bipush (v := 8) dX6_readHead_415 (by decide) ?_
            refine bp_j_aload_n 1 dX6_readHead_417 rfl ?_
            refine bp_j_getI (t := 4) (k := 21) rfl (by decide) (bp_lk q1101) dX6_readHead_418 (fun _ _ _ => rfl) (fun x59 => ?_)
            refine bp_j_cl_I (bp_ranV (t := 4) (n := 2) (As := [.int (8 : Int32), .int x59]) (cnX6_fail (G := G) a0 (8 : Int32) x59) rfl (lw_V q1367 q1369 qs49 q82 q1370) ⟨rfl, by decide +kernel, by decide +kernel, by decide +kernel⟩ ⟨by decide, by decide⟩ (rest := []) rfl rfl (Nat.le_of_ble_eq_true rfl) dX6_readHead_421) (by decide) (fun x60 => ?_)
            exact bp_j_zret rfl dX6_readHead_424
          refine bp_j_iconst (v := 0) dX6_readHead_359 (by decide) ?_
          exact bp_j_zret rfl dX6_readHead_360
        refine bp_j_aload_n 1 dX6_readHead_280 rfl ?_
        refine bp_j_bipush (v := 8) dX6_readHead_281 (by decide) ?_
        refine bp_j_aload_n 1 dX6_readHead_283 rfl ?_
        refine bp_j_getI (t := 4) (k := 21) rfl (by decide) (bp_lk q1101) dX6_readHead_284 (fun _ _ _ => rfl) (fun x70 => ?_)
        refine bp_j_cl_I (bp_ranV (t := 4) (n := 2) (As := [.int (8 : Int32), .int x70]) (cnX6_fail (G := G) a0 (8 : Int32) x70) rfl (lw_V q1367 q1369 qs49 q82 q1370) ⟨rfl, by decide +kernel, by decide +kernel, by decide +kernel⟩ ⟨by decide, by decide⟩ (rest := []) rfl rfl (Nat.le_of_ble_eq_true rfl) dX6_readHead_287) (by decide) (fun x71 => ?_)
        exact bp_j_zret rfl dX6_readHead_290
      refine bp_j_aload_n 0 dX6_readHead_150 rfl ?_
      refine bp_j_iconst (v := 4) dX6_readHead_151 (by decide) ?_
      refine bp_j_aload_n 0 dX6_readHead_152 rfl ?_
      refine bp_j_getI (t := 4) (k := 21) rfl (by decide) (bp_lk q1101) dX6_readHead_153 (fun _ _ _ => rfl) (fun x21 => ?_)
      refine bp_j_cl_I (bp_ranV (t := 4) (n := 2) (As := [.int (4 : Int32), .int x21]) (cnX6_fail (G := G) a0 (4 : Int32) x21) rfl (lw_V q1367 q1369 qs49 q82 q1370) ⟨rfl, by decide +kernel, by decide +kernel, by decide +kernel⟩ ⟨by decide, by decide⟩ (rest := []) rfl rfl (Nat.le_of_ble_eq_true rfl) dX6_readHead_156) (by decide) (fun x22 => ?_)
      exact bp_j_zret rfl dX6_readHead_159
    exact bp_j_sub [1] rfl (hk13)
  refine bp_j_aload_n 0 dX6_readHead_104 rfl ?_
  refine bp_j_iconst (v := 3) dX6_readHead_105 (by decide) ?_
  refine bp_j_aload_n 0 dX6_readHead_106 rfl ?_
  refine bp_j_getI (t := 4) (k := 21) rfl (by decide) (bp_lk q1101) dX6_readHead_107 (fun _ _ _ => rfl) (fun x14 => ?_)
  refine bp_j_cl_I (bp_ranV (t := 4) (n := 2) (As := [.int (3 : Int32), .int x14]) (cnX6_fail (G := G) a0 (3 : Int32) x14) rfl (lw_V q1367 q1369 qs49 q82 q1370) ⟨rfl, by decide +kernel, by decide +kernel, by decide +kernel⟩ ⟨by decide, by decide⟩ (rest := []) rfl rfl (Nat.le_of_ble_eq_true rfl) dX6_readHead_110) (by decide) (fun x15 => ?_)
  exact bp_j_zret rfl dX6_readHead_113
/-- BilevelPagesModel.needs(ZII)Z -/
abbrev iX6_needs : bp_MI := (yX6_needs, cX6_needs, 4, some (Jvm.ClassFile.FieldType.boolean), [], 1, 22)
def PX6_needs (a0 : Nat) (xp1 : Int32) (xp2 : Int32) (xp3 : Int32) : bp_M Int32 :=
  bp_if (xp1 = 0) (
  bp_getN 4 26 a0 fun a1 =>
  bp_aldI 20 a1 xp3 fun x2 =>
  bp_bind (bp_is 4 a0 (PX6_fail a0 xp2 x2)) fun x3 =>
  bp_if (x3 = 0) (
  bp_retZ (0 : Int32)) (
  bp_retZ (1 : Int32))) (
  bp_retZ (1 : Int32))
set_option maxHeartbeats 4000000 in
set_option maxRecDepth 100000 in
theorem cnX6_needs {G : bp_GT} (a0 : Nat) (xp1 : Int32) (xp2 : Int32) (xp3 : Int32) : bp_Con G iX6_needs (ws_ iX6_needs.1 iX6_needs.2.1 iX6_needs.2.2.1 iX6_needs.2.2.2.1) [.ref a0, .int xp1, .int xp2, .int xp3] (PX6_needs a0 xp1 xp2 xp3) bp_eI := by
  refine bp_con_of [(0, .ref a0), (1, .int xp1), (2, .int xp2), (3, .int xp3)] rfl (by decide) (Nat.le_of_ble_eq_true rfl) rfl ?_
  unfold PX6_needs
  refine bp_j_iload_n 1 dX6_needs_0 rfl ?_
  refine bp_j_if_ne (tgt := 18) dX6_needs_1 (by decide) ?_ ?_
  · refine bp_j_iconst (v := 1) dX6_needs_18 (by decide) ?_
    refine bp_j_goto (tgt := 23) dX6_needs_19 (by decide) ?_
    exact bp_j_zret rfl dX6_needs_23
  refine bp_j_aload_n 0 dX6_needs_4 rfl ?_
  refine bp_j_iload_n 2 dX6_needs_5 rfl ?_
  refine bp_j_aload_n 0 dX6_needs_6 rfl ?_
  refine bp_j_getN (t := 4) (k := 26) rfl (by decide) (bp_lk q1106) dX6_needs_7 (fun _ _ _ => rfl) (fun a1 => ?_)
  refine bp_j_iload_n 3 dX6_needs_10 rfl ?_
  refine bp_j_iaload dX6_needs_11 (fun x2 => ?_)
  refine bp_j_cl_I (bp_ranV (t := 4) (n := 2) (As := [.int xp2, .int x2]) (cnX6_fail (G := G) a0 xp2 x2) rfl (lw_V q1367 q1369 qs49 q82 q1370) ⟨rfl, by decide +kernel, by decide +kernel, by decide +kernel⟩ ⟨by decide, by decide⟩ (rest := []) rfl rfl (Nat.le_of_ble_eq_true rfl) dX6_needs_12) (by decide) (fun x3 => ?_)
  refine bp_j_if_eq (tgt := 22) dX6_needs_15 (by decide) ?_ ?_
  · refine bp_j_iconst (v := 0) dX6_needs_22 (by decide) ?_
    exact bp_j_zret rfl dX6_needs_23
  refine bp_j_iconst (v := 1) dX6_needs_18 (by decide) ?_
  refine bp_j_goto (tgt := 23) dX6_needs_19 (by decide) ?_
  exact bp_j_zret rfl dX6_needs_23
/-- BilevelPagesModel.checkLength(I)Z -/
abbrev iX6_checkLength : bp_MI := (yX6_checkLength, cX6_checkLength, 7, some (Jvm.ClassFile.FieldType.boolean), [], 2, 45)
def PX6_checkLength (a0 : Nat) (xp1 : Int32) : bp_M Int32 :=
  bp_getN 4 33 a0 fun a1 =>
  bp_aldL a1 xp1 fun l2 =>
  bp_getN 4 28 a0 fun a3 =>
  bp_aldI 20 a3 xp1 fun x4 =>
  bp_jn (fun (k6 : Int32 → bp_M Int32) =>
  bp_if ((lg_cmp l2 (4294967295 : Int64)) = 0) (
  k6 (1 : Int32)) (
  k6 (0 : Int32))) (fun (x5 : Int32) =>
  bp_jn (fun (k8 : Int32 → bp_M Int32) =>
  bp_jn (fun (k13 : bp_M Int32) =>
  bp_if (x4 = 0) (
  k13) (
  bp_if (x4 = (53 : Int32)) (
  k13) (
  bp_if (x4 = (62 : Int32)) (
  bp_if ((lg_cmp l2 (4 : Int64)) < 0) (
  k8 (0 : Int32)) (
  bp_if (0 < (lg_cmp l2 (24 : Int64))) (
  k8 (0 : Int32)) (
  k8 (1 : Int32)))) (
  bp_if (x4 = (48 : Int32)) (
  bp_if ((lg_cmp l2 (10 : Int64)) = 0) (
  k8 (1 : Int32)) (
  k8 (0 : Int32))) (
  bp_if (x4 = (50 : Int32)) (
  bp_if ((lg_cmp l2 (4 : Int64)) = 0) (
  k8 (1 : Int32)) (
  k8 (0 : Int32))) (
  bp_bind (PX6_isRegion x4) fun x14 =>
  bp_if (x14 = 0) (
  bp_if ((lg_cmp l2 (0 : Int64)) = 0) (
  k8 (1 : Int32)) (
  k8 (0 : Int32))) (
  bp_if ((lg_cmp l2 (17 : Int64)) < 0) (
  k8 (0 : Int32)) (
  bp_if (x5 = 0) (
  k8 (1 : Int32)) (
  bp_if (x4 = (38 : Int32)) (
  k8 (1 : Int32)) (
  k8 (0 : Int32))))))))))) (bp_if (0 < (lg_cmp l2 (20 : Int64))) (
  k8 (0 : Int32)) (
  k8 (1 : Int32)))) (fun (x7 : Int32) =>
  bp_bind (bp_is 4 a0 (PX6_needs a0 x7 (7 : Int32) xp1)) fun x9 =>
  bp_if (x9 = 0) (
  bp_retZ (0 : Int32)) (
  bp_jn (fun (k11 : Int64 → bp_M Int32) =>
  bp_if (x5 = 0) (
  k11 l2) (
  k11 (17 : Int64))) (fun (l10 : Int64) =>
  bp_bind (bp_is 4 a0 (PX6_hasLeft a0 l10)) fun x12 =>
  bp_if (x12 = 0) (
  bp_retZ (0 : Int32)) (
  bp_retZ (1 : Int32))))))
set_option maxHeartbeats 4000000 in
set_option maxRecDepth 100000 in
theorem cnX6_checkLength {G : bp_GT} (a0 : Nat) (xp1 : Int32) : bp_Con G iX6_checkLength (ws_ iX6_checkLength.1 iX6_checkLength.2.1 iX6_checkLength.2.2.1 iX6_checkLength.2.2.2.1) [.ref a0, .int xp1] (PX6_checkLength a0 xp1) bp_eI := by
  refine bp_con_of [(0, .ref a0), (1, .int xp1)] rfl (by decide) (Nat.le_of_ble_eq_true rfl) rfl ?_
  unfold PX6_checkLength
  refine bp_j_aload_n 0 dX6_checkLength_0 rfl ?_
  refine bp_j_getN (t := 4) (k := 33) rfl (by decide) (bp_lk q1113) dX6_checkLength_1 (fun _ _ _ => rfl) (fun a1 => ?_)
  refine bp_j_iload_n 1 dX6_checkLength_4 rfl ?_
  refine bp_j_laload dX6_checkLength_5 (fun l2 => ?_)
  refine bp_j_lstore_n (lv' := [(2, .long l2), (0, .ref a0), (1, .int xp1)]) dX6_checkLength_6 (by decide) rfl ?_
  refine bp_j_aload_n 1 dX6_checkLength_7 rfl ?_
  refine bp_j_getN (t := 4) (k := 28) rfl (by decide) (bp_lk q1108) dX6_checkLength_8 (fun _ _ _ => rfl) (fun a3 => ?_)
  refine bp_j_iload_n 2 dX6_checkLength_11 rfl ?_
  refine bp_j_iaload dX6_checkLength_12 (fun x4 => ?_)
  refine bp_j_istore (lv' := [(4, .int x4), (2, .long l2), (0, .ref a0), (1, .int xp1)]) dX6_checkLength_13 (by decide) rfl ?_
  refine bp_j_lload_n 1 dX6_checkLength_15 rfl ?_
  refine bp_j_ldc2 q1377 dX6_checkLength_16 ?_
  refine bp_j_lcmp dX6_checkLength_19 ?_
  refine bp_j_jm (fun k => ∀ (x5 : Int32), bp_J G iX6_checkLength (bp_Qn G bp_eI) (k x5) 28 [(0, .ref a0), (1, .int xp1), (2, .long l2), (4, .int x4)] [.int x5]) (fun k6 hk6 => ?_) (fun x5 => ?_)
  · refine bp_j_if_ne (tgt := 27) dX6_checkLength_20 (by decide) ?_ ?_
    · refine bp_j_iconst (v := 0) dX6_checkLength_27 (by decide) ?_
      exact bp_j_sub [2, 3, 1, 0] rfl (hk6 (0 : Int32))
    refine bp_j_iconst (v := 1) dX6_checkLength_23 (by decide) ?_
    refine bp_j_goto (tgt := 28) dX6_checkLength_24 (by decide) ?_
    exact bp_j_sub [2, 3, 1, 0] rfl (hk6 (1 : Int32))
  refine bp_j_istore (lv' := [(5, .int x5), (0, .ref a0), (1, .int xp1), (2, .long l2), (4, .int x4)]) dX6_checkLength_28 (by decide) rfl ?_
  refine bp_j_iload 4 dX6_checkLength_30 rfl ?_
  refine bp_j_jm (fun k => ∀ (x7 : Int32), bp_J G iX6_checkLength (bp_Qn G bp_eI) (k x7) 182 [(0, .ref a0), (1, .int xp1), (2, .long l2), (5, .int x5)] [.int x7]) (fun k8 hk8 => ?_) (fun x7 => ?_)
  · refine bp_j_jm (fun k => bp_J G iX6_checkLength (bp_Qn G bp_eI) (k) 42 [(0, .ref a0), (1, .int xp1), (2, .long l2), (5, .int x5)] []) (fun k13 hk13 => ?_) ?_
    · refine bp_j_if_eq (tgt := 42) dX6_checkLength_32 (by decide) ?_ ?_
      · exact bp_j_sub [1, 2, 3, 0] rfl (hk13)
      refine bp_j_iload 4 dX6_checkLength_35 rfl ?_
      refine bp_j_bipush (v := 53) dX6_checkLength_37 (by decide) ?_
      refine bp_j_icmp_ne (tgt := 58) dX6_checkLength_39 (by decide) ?_ ?_
      · refine bp_j_iload 4 dX6_checkLength_58 rfl ?_
        refine bp_j_bipush (v := 62) dX6_checkLength_60 (by decide) ?_
        refine bp_j_icmp_ne (tgt := 89) dX6_checkLength_62 (by decide) ?_ ?_
        · refine bp_j_iload 4 dX6_checkLength_89 rfl ?_
          refine bp_j_bipush (v := 48) dX6_checkLength_91 (by decide) ?_
          refine bp_j_icmp_ne (tgt := 112) dX6_checkLength_93 (by decide) ?_ ?_
          · refine bp_j_iload 4 dX6_checkLength_112 rfl ?_
            refine bp_j_bipush (v := 50) dX6_checkLength_114 (by decide) ?_
            refine bp_j_icmp_ne (tgt := 135) dX6_checkLength_116 (by decide) ?_ ?_
            · refine bp_j_iload 4 dX6_checkLength_135 rfl ?_
              refine bp_j_cl_I (bp_ranS (n := 1) (As := [.int x4]) (cnX6_isRegion (G := G) x4) (lw_S q1254 q1255 q82 q1256) ⟨by decide +kernel, by decide +kernel, by decide +kernel⟩ ⟨by decide, by decide⟩ (rest := []) rfl rfl (Nat.le_of_ble_eq_true rfl) dX6_checkLength_137) (by decide) (fun x14 => ?_)
              refine bp_j_if_eq (tgt := 171) dX6_checkLength_140 (by decide) ?_ ?_
              · refine bp_j_lload_n 3 dX6_checkLength_171 rfl ?_
                refine bp_j_lconst (v := 0) dX6_checkLength_172 (by decide) ?_
                refine bp_j_lcmp dX6_checkLength_173 ?_
                refine bp_j_if_ne (tgt := 181) dX6_checkLength_174 (by decide) ?_ ?_
                · refine bp_j_iconst (v := 0) dX6_checkLength_181 (by decide) ?_
                  exact bp_j_sub [1, 2, 3, 0] rfl (hk8 (0 : Int32))
                refine bp_j_iconst (v := 1) dX6_checkLength_177 (by decide) ?_
                refine bp_j_goto (tgt := 182) dX6_checkLength_178 (by decide) ?_
                exact bp_j_sub [1, 2, 3, 0] rfl (hk8 (1 : Int32))
              refine bp_j_lload_n 3 dX6_checkLength_143 rfl ?_
              refine bp_j_ldc2 q1410 dX6_checkLength_144 ?_
              refine bp_j_lcmp dX6_checkLength_147 ?_
              refine bp_j_if_lt (tgt := 167) dX6_checkLength_148 (by decide) ?_ ?_
              · refine bp_j_iconst (v := 0) dX6_checkLength_167 (by decide) ?_
                refine bp_j_goto (tgt := 182) dX6_checkLength_168 (by decide) ?_
                exact bp_j_sub [1, 2, 3, 0] rfl (hk8 (0 : Int32))
              refine bp_j_iload 0 dX6_checkLength_151 rfl ?_
              refine bp_j_if_eq (tgt := 163) dX6_checkLength_153 (by decide) ?_ ?_
              · refine bp_j_iconst (v := 1) dX6_checkLength_163 (by decide) ?_
                refine bp_j_goto (tgt := 182) dX6_checkLength_164 (by decide) ?_
                exact bp_j_sub [1, 2, 3, 0] rfl (hk8 (1 : Int32))
              refine bp_j_iload 4 dX6_checkLength_156 rfl ?_
              refine bp_j_bipush (v := 38) dX6_checkLength_158 (by decide) ?_
              refine bp_j_icmp_ne (tgt := 167) dX6_checkLength_160 (by decide) ?_ ?_
              · refine bp_j_iconst (v := 0) dX6_checkLength_167 (by decide) ?_
                refine bp_j_goto (tgt := 182) dX6_checkLength_168 (by decide) ?_
                exact bp_j_sub [1, 2, 3, 0] rfl (hk8 (0 : Int32))
              refine bp_j_iconst (v := 1) dX6_checkLength_163 (by decide) ?_
              refine bp_j_goto (tgt := 182) dX6_checkLength_164 (by decide) ?_
              exact bp_j_sub [1, 2, 3, 0] rfl (hk8 (1 : Int32))
            refine bp_j_lload_n 3 dX6_checkLength_119 rfl ?_
            refine bp_j_ldc2 q1407 dX6_checkLength_120 ?_
            refine bp_j_lcmp dX6_checkLength_123 ?_
            refine bp_j_if_ne (tgt := 131) dX6_checkLength_124 (by decide) ?_ ?_
            · refine bp_j_iconst (v := 0) dX6_checkLength_131 (by decide) ?_
              refine bp_j_goto (tgt := 182) dX6_checkLength_132 (by decide) ?_
              exact bp_j_sub [1, 2, 3, 0] rfl (hk8 (0 : Int32))
            refine bp_j_iconst (v := 1) dX6_checkLength_127 (by decide) ?_
            refine bp_j_goto (tgt := 182) dX6_checkLength_128 (by decide) ?_
            exact bp_j_sub [1, 2, 3, 0] rfl (hk8 (1 : Int32))
          refine bp_j_lload_n 3 dX6_checkLength_96 rfl ?_
          refine bp_j_ldc2 q1409 dX6_checkLength_97 ?_
          refine bp_j_lcmp dX6_checkLength_100 ?_
          refine bp_j_if_ne (tgt := 108) dX6_checkLength_101 (by decide) ?_ ?_
          · refine bp_j_iconst (v := 0) dX6_checkLength_108 (by decide) ?_
            refine bp_j_goto (tgt := 182) dX6_checkLength_109 (by decide) ?_
            exact bp_j_sub [1, 2, 3, 0] rfl (hk8 (0 : Int32))
          refine bp_j_iconst (v := 1) dX6_checkLength_104 (by decide) ?_
          refine bp_j_goto (tgt := 182) dX6_checkLength_105 (by decide) ?_
          exact bp_j_sub [1, 2, 3, 0] rfl (hk8 (1 : Int32))
        refine bp_j_lload_n 3 dX6_checkLength_65 rfl ?_
        refine bp_j_ldc2 q1407 dX6_checkLength_66 ?_
        refine bp_j_lcmp dX6_checkLength_69 ?_
        refine bp_j_if_lt (tgt := 85) dX6_checkLength_70 (by decide) ?_ ?_
        · refine bp_j_iconst (v := 0) dX6_checkLength_85 (by decide) ?_
          refine bp_j_goto (tgt := 182) dX6_checkLength_86 (by decide) ?_
          exact bp_j_sub [1, 2, 3, 0] rfl (hk8 (0 : Int32))
        refine bp_j_lload_n 3 dX6_checkLength_73 rfl ?_
        refine bp_j_ldc2 q1408 dX6_checkLength_74 ?_
        refine bp_j_lcmp dX6_checkLength_77 ?_
        refine bp_j_if_gt (tgt := 85) dX6_checkLength_78 (by decide) ?_ ?_
        · refine bp_j_iconst (v := 0) dX6_checkLength_85 (by decide) ?_
          refine bp_j_goto (tgt := 182) dX6_checkLength_86 (by decide) ?_
          exact bp_j_sub [1, 2, 3, 0] rfl (hk8 (0 : Int32))
        refine bp_j_iconst (v := 1) dX6_checkLength_81 (by decide) ?_
        refine bp_j_goto (tgt := 182) dX6_checkLength_82 (by decide) ?_
        exact bp_j_sub [1, 2, 3, 0] rfl (hk8 (1 : Int32))
      exact bp_j_sub [1, 2, 3, 0] rfl (hk13)
    refine bp_j_lload_n 2 dX6_checkLength_42 rfl ?_
    refine bp_j_ldc2 q1406 dX6_checkLength_43 ?_
    refine bp_j_lcmp dX6_checkLength_46 ?_
    refine bp_j_if_gt (tgt := 54) dX6_checkLength_47 (by decide) ?_ ?_
    · refine bp_j_iconst (v := 0) dX6_checkLength_54 (by decide) ?_
      refine bp_j_goto (tgt := 182) dX6_checkLength_55 (by decide) ?_
      exact hk8 (0 : Int32)
    refine bp_j_iconst (v := 1) dX6_checkLength_50 (by decide) ?_
    refine bp_j_goto (tgt := 182) dX6_checkLength_51 (by decide) ?_
    exact hk8 (1 : Int32)
  refine bp_j_istore (lv' := [(6, .int x7), (0, .ref a0), (1, .int xp1), (2, .long l2), (5, .int x5)]) dX6_checkLength_182 (by decide) rfl ?_
  refine bp_j_aload_n 1 dX6_checkLength_184 rfl ?_
  refine bp_j_iload 0 dX6_checkLength_185 rfl ?_
  refine bp_j_bipush (v := 7) dX6_checkLength_187 (by decide) ?_
  refine bp_j_iload_n 2 dX6_checkLength_189 rfl ?_
  refine bp_j_cl_I (bp_ranV (t := 4) (n := 3) (As := [.int x7, .int (7 : Int32), .int xp1]) (cnX6_needs (G := G) a0 x7 (7 : Int32) xp1) rfl (lw_V q1398 q1400 qs56 q82 q1401) ⟨rfl, by decide +kernel, by decide +kernel, by decide +kernel⟩ ⟨by decide, by decide⟩ (rest := []) rfl rfl (Nat.le_of_ble_eq_true rfl) dX6_checkLength_190) (by decide) (fun x9 => ?_)
  refine bp_j_if_eq (tgt := 219) dX6_checkLength_193 (by decide) ?_ ?_
  · refine bp_j_iconst (v := 0) dX6_checkLength_219 (by decide) ?_
    exact bp_j_zret rfl dX6_checkLength_220
  refine bp_j_aload_n 1 dX6_checkLength_196 rfl ?_
  refine bp_j_iload 4 dX6_checkLength_197 rfl ?_
  refine bp_j_jm (fun k => ∀ (l10 : Int64), bp_J G iX6_checkLength (bp_Qn G bp_eI) (k l10) 209 [] [.long l10, .ref a0]) (fun k11 hk11 => ?_) (fun l10 => ?_)
  · refine bp_j_if_eq (tgt := 208) dX6_checkLength_199 (by decide) ?_ ?_
    · refine bp_j_lload_n 3 dX6_checkLength_208 rfl ?_
      exact bp_j_sub [] rfl (hk11 l2)
    refine bp_j_ldc2 q1410 dX6_checkLength_202 ?_
    refine bp_j_goto (tgt := 209) dX6_checkLength_205 (by decide) ?_
    exact bp_j_sub [] rfl (hk11 (17 : Int64))
  refine bp_j_cl_I (bp_ranV (t := 4) (n := 1) (As := [.long l10]) (cnX6_hasLeft (G := G) a0 l10) rfl (lw_V q1363 q1365 qs48 q82 q1366) ⟨rfl, by decide +kernel, by decide +kernel, by decide +kernel⟩ ⟨by decide, by decide⟩ (rest := []) rfl rfl (Nat.le_of_ble_eq_true rfl) dX6_checkLength_209) (by decide) (fun x12 => ?_)
  refine bp_j_if_eq (tgt := 219) dX6_checkLength_212 (by decide) ?_ ?_
  · refine bp_j_iconst (v := 0) dX6_checkLength_219 (by decide) ?_
    exact bp_j_zret rfl dX6_checkLength_220
  refine bp_j_iconst (v := 1) dX6_checkLength_215 (by decide) ?_
  refine bp_j_goto (tgt := 220) dX6_checkLength_216 (by decide) ?_
  exact bp_j_zret rfl dX6_checkLength_220
/-- BilevelPagesModel.checkPage(I)Z -/
abbrev iX6_checkPage : bp_MI := (yX6_checkPage, cX6_checkPage, 6, some (Jvm.ClassFile.FieldType.boolean), [], 2, 45)
def PX6_checkPage (a0 : Nat) (xp1 : Int32) : bp_M Int32 :=
  bp_getN 4 29 a0 fun a1 =>
  bp_aldI 20 a1 xp1 fun x2 =>
  bp_getN 4 28 a0 fun a3 =>
  bp_aldI 20 a3 xp1 fun x4 =>
  bp_getI 4 1 a0 fun x5 =>
  bp_jn (fun (k7 : Int32 → bp_M Int32) =>
  bp_if (x5 = (2 : Int32)) (
  bp_getN 4 26 a0 fun a30 =>
  bp_aldI 20 a30 xp1 fun x31 =>
  bp_getI 4 15 a0 fun x32 =>
  bp_if (x32 ≤ x31) (
  k7 (0 : Int32)) (
  k7 (1 : Int32))) (
  k7 (0 : Int32))) (fun (x6 : Int32) =>
  bp_jn (fun (k9 : Int32 → bp_M Int32) =>
  bp_if ((9 : Int32) < x2) (
  k9 (0 : Int32)) (
  k9 (1 : Int32))) (fun (x8 : Int32) =>
  bp_jn (fun (k11 : Int32 → bp_M Int32) =>
  bp_if (x4 = (48 : Int32)) (
  bp_jn (fun (k26 : Int32 → bp_M Int32) =>
  bp_if (x8 = 0) (
  k26 (0 : Int32)) (
  bp_if (x2 ≤ 0) (
  k26 (0 : Int32)) (
  bp_getN 4 40 a0 fun a27 =>
  bp_aldI 22 a27 x2 fun x28 =>
  bp_if (x28 = 0) (
  bp_getI 4 39 a0 fun x29 =>
  bp_if (x29 = 0) (
  k26 (1 : Int32)) (
  k26 (0 : Int32))) (
  k26 (0 : Int32))))) (fun (x25 : Int32) =>
  k11 x25)) (
  bp_bind (PX6_isRegion x4) fun x15 =>
  bp_jn (fun (k16 : bp_M Int32) =>
  bp_if (x15 = 0) (
  bp_if (x4 = (49 : Int32)) (
  k16) (
  bp_if (x4 = (50 : Int32)) (
  k16) (
  bp_if (x4 = (51 : Int32)) (
  bp_jn (fun (k24 : Int32 → bp_M Int32) =>
  bp_if (x2 = 0) (
  k24 (1 : Int32)) (
  k24 (0 : Int32))) (fun (x23 : Int32) =>
  k11 x23)) (
  bp_jn (fun (k21 : Int32 → bp_M Int32) =>
  bp_if (x8 = 0) (
  k21 (0 : Int32)) (
  bp_if (x2 = 0) (
  k21 (1 : Int32)) (
  bp_getI 4 39 a0 fun x22 =>
  bp_if (x2 = x22) (
  k21 (1 : Int32)) (
  k21 (0 : Int32))))) (fun (x20 : Int32) =>
  k11 x20))))) (
  k16)) (bp_jn (fun (k18 : Int32 → bp_M Int32) =>
  bp_if (x8 = 0) (
  k18 (0 : Int32)) (
  bp_if (x2 ≤ 0) (
  k18 (0 : Int32)) (
  bp_getI 4 39 a0 fun x19 =>
  bp_if (x2 = x19) (
  k18 (1 : Int32)) (
  k18 (0 : Int32))))) (fun (x17 : Int32) =>
  k11 x17)))) (fun (x10 : Int32) =>
  bp_jn (fun (k13 : Int32 → bp_M Int32) =>
  bp_if (x10 = 0) (
  k13 (0 : Int32)) (
  bp_if (x6 = 0) (
  k13 (1 : Int32)) (
  bp_if (x2 = 0) (
  k13 (1 : Int32)) (
  k13 (0 : Int32))))) (fun (x12 : Int32) =>
  bp_bind (bp_is 4 a0 (PX6_needs a0 x12 (6 : Int32) xp1)) fun x14 =>
  bp_retZ x14))))
set_option maxHeartbeats 4000000 in
set_option maxRecDepth 100000 in
theorem cnX6_checkPage {G : bp_GT} (a0 : Nat) (xp1 : Int32) : bp_Con G iX6_checkPage (ws_ iX6_checkPage.1 iX6_checkPage.2.1 iX6_checkPage.2.2.1 iX6_checkPage.2.2.2.1) [.ref a0, .int xp1] (PX6_checkPage a0 xp1) bp_eI := by
  refine bp_con_of [(0, .ref a0), (1, .int xp1)] rfl (by decide) (Nat.le_of_ble_eq_true rfl) rfl ?_
  unfold PX6_checkPage
  refine bp_j_aload_n 0 dX6_checkPage_0 rfl ?_
  refine bp_j_getN (t := 4) (k := 29) rfl (by decide) (bp_lk q1109) dX6_checkPage_1 (fun _ _ _ => rfl) (fun a1 => ?_)
  refine bp_j_iload_n 1 dX6_checkPage_4 rfl ?_
  refine bp_j_iaload dX6_checkPage_5 (fun x2 => ?_)
  refine bp_j_istore_n (lv' := [(2, .int x2), (0, .ref a0), (1, .int xp1)]) dX6_checkPage_6 (by decide) rfl ?_
  refine bp_j_aload_n 1 dX6_checkPage_7 rfl ?_
  refine bp_j_getN (t := 4) (k := 28) rfl (by decide) (bp_lk q1108) dX6_checkPage_8 (fun _ _ _ => rfl) (fun a3 => ?_)
  refine bp_j_iload_n 2 dX6_checkPage_11 rfl ?_
  refine bp_j_iaload dX6_checkPage_12 (fun x4 => ?_)
  refine bp_j_istore_n (lv' := [(3, .int x4), (2, .int x2), (0, .ref a0), (1, .int xp1)]) dX6_checkPage_13 (by decide) rfl ?_
  refine bp_j_aload_n 2 dX6_checkPage_14 rfl ?_
  refine bp_j_getI (t := 4) (k := 1) rfl (by decide) (bp_lk q1081) dX6_checkPage_15 (fun _ _ _ => rfl) (fun x5 => ?_)
  refine bp_j_iconst (v := 2) dX6_checkPage_18 (by decide) ?_
  refine bp_j_jm (fun k => ∀ (x6 : Int32), bp_J G iX6_checkPage (bp_Qn G bp_eI) (k x6) 40 [(0, .ref a0), (1, .int xp1), (2, .int x2), (3, .int x4)] [.int x6]) (fun k7 hk7 => ?_) (fun x6 => ?_)
  · refine bp_j_icmp_ne (tgt := 39) dX6_checkPage_19 (by decide) ?_ ?_
    · refine bp_j_iconst (v := 0) dX6_checkPage_39 (by decide) ?_
      exact bp_j_sub [2, 3, 1, 0] rfl (hk7 (0 : Int32))
    refine bp_j_aload_n 2 dX6_checkPage_22 rfl ?_
    refine bp_j_getN (t := 4) (k := 26) rfl (by decide) (bp_lk q1106) dX6_checkPage_23 (fun _ _ _ => rfl) (fun a30 => ?_)
    refine bp_j_iload_n 3 dX6_checkPage_26 rfl ?_
    refine bp_j_iaload dX6_checkPage_27 (fun x31 => ?_)
    refine bp_j_aload_n 2 dX6_checkPage_28 rfl ?_
    refine bp_j_getI (t := 4) (k := 15) rfl (by decide) (bp_lk q1095) dX6_checkPage_29 (fun _ _ _ => rfl) (fun x32 => ?_)
    refine bp_j_icmp_ge (tgt := 39) dX6_checkPage_32 (by decide) ?_ ?_
    · refine bp_j_iconst (v := 0) dX6_checkPage_39 (by decide) ?_
      exact bp_j_sub [2, 3, 1, 0] rfl (hk7 (0 : Int32))
    refine bp_j_iconst (v := 1) dX6_checkPage_35 (by decide) ?_
    refine bp_j_goto (tgt := 40) dX6_checkPage_36 (by decide) ?_
    exact bp_j_sub [2, 3, 1, 0] rfl (hk7 (1 : Int32))
  refine bp_j_istore (lv' := [(4, .int x6), (0, .ref a0), (1, .int xp1), (2, .int x2), (3, .int x4)]) dX6_checkPage_40 (by decide) rfl ?_
  refine bp_j_iload_n 3 dX6_checkPage_42 rfl ?_
  refine bp_j_bipush (v := 9) dX6_checkPage_43 (by decide) ?_
  refine bp_j_jm (fun k => ∀ (x8 : Int32), bp_J G iX6_checkPage (bp_Qn G bp_eI) (k x8) 53 [(0, .ref a0), (1, .int xp1), (2, .int x2), (3, .int x4), (4, .int x6)] [.int x8]) (fun k9 hk9 => ?_) (fun x8 => ?_)
  · refine bp_j_icmp_gt (tgt := 52) dX6_checkPage_45 (by decide) ?_ ?_
    · refine bp_j_iconst (v := 0) dX6_checkPage_52 (by decide) ?_
      exact bp_j_sub [1, 2, 3, 4, 0] rfl (hk9 (0 : Int32))
    refine bp_j_iconst (v := 1) dX6_checkPage_48 (by decide) ?_
    refine bp_j_goto (tgt := 53) dX6_checkPage_49 (by decide) ?_
    exact bp_j_sub [1, 2, 3, 4, 0] rfl (hk9 (1 : Int32))
  refine bp_j_istore (lv' := [(5, .int x8), (0, .ref a0), (1, .int xp1), (2, .int x2), (3, .int x4), (4, .int x6)]) dX6_checkPage_53 (by decide) rfl ?_
  refine bp_j_iload_n 4 dX6_checkPage_55 rfl ?_
  refine bp_j_bipush (v := 48) dX6_checkPage_56 (by decide) ?_
  refine bp_j_jm (fun k => ∀ (x10 : Int32), bp_J G iX6_checkPage (bp_Qn G bp_eI) (k x10) 186 [(0, .ref a0), (1, .int xp1), (2, .int x2), (4, .int x6), (5, .int x10)] []) (fun k11 hk11 => ?_) (fun x10 => ?_)
  · refine bp_j_icmp_ne (tgt := 96) dX6_checkPage_58 (by decide) ?_ ?_
    · refine bp_j_iload_n 4 dX6_checkPage_96 rfl ?_
      refine bp_j_cl_I (bp_ranS (n := 1) (As := [.int x4]) (cnX6_isRegion (G := G) x4) (lw_S q1254 q1255 q82 q1256) ⟨by decide +kernel, by decide +kernel, by decide +kernel⟩ ⟨by decide, by decide⟩ (rest := []) rfl rfl (Nat.le_of_ble_eq_true rfl) dX6_checkPage_97) (by decide) (fun x15 => ?_)
      refine bp_j_jm (fun k => bp_J G iX6_checkPage (bp_Qn G bp_eI) (k) 115 [(0, .ref a0), (1, .int xp1), (2, .int x2), (4, .int x6), (5, .int x8)] []) (fun k16 hk16 => ?_) ?_
      · refine bp_j_if_ne (tgt := 115) dX6_checkPage_100 (by decide) ?_ ?_
        · exact bp_j_sub [1, 2, 3, 5, 0] rfl (hk16)
        refine bp_j_iload_n 4 dX6_checkPage_103 rfl ?_
        refine bp_j_bipush (v := 49) dX6_checkPage_104 (by decide) ?_
        refine bp_j_icmp_eq (tgt := 115) dX6_checkPage_106 (by decide) ?_ ?_
        · exact bp_j_sub [1, 2, 3, 5, 0] rfl (hk16)
        refine bp_j_iload_n 4 dX6_checkPage_109 rfl ?_
        refine bp_j_bipush (v := 50) dX6_checkPage_110 (by decide) ?_
        refine bp_j_icmp_ne (tgt := 142) dX6_checkPage_112 (by decide) ?_ ?_
        · refine bp_j_iload_n 4 dX6_checkPage_142 rfl ?_
          refine bp_j_bipush (v := 51) dX6_checkPage_143 (by decide) ?_
          refine bp_j_icmp_ne (tgt := 162) dX6_checkPage_145 (by decide) ?_ ?_
          · refine bp_j_iload 0 dX6_checkPage_162 rfl ?_
            refine bp_j_jm (fun k => ∀ (x20 : Int32), bp_J G iX6_checkPage (bp_Qn G bp_eI) (k x20) 184 [(0, .ref a0), (1, .int xp1), (2, .int x2), (4, .int x6)] [.int x20]) (fun k21 hk21 => ?_) (fun x20 => ?_)
            · refine bp_j_if_eq (tgt := 183) dX6_checkPage_164 (by decide) ?_ ?_
              · refine bp_j_iconst (v := 0) dX6_checkPage_183 (by decide) ?_
                exact bp_j_sub [1, 2, 3, 5] rfl (hk21 (0 : Int32))
              refine bp_j_iload_n 3 dX6_checkPage_167 rfl ?_
              refine bp_j_if_eq (tgt := 179) dX6_checkPage_168 (by decide) ?_ ?_
              · refine bp_j_iconst (v := 1) dX6_checkPage_179 (by decide) ?_
                refine bp_j_goto (tgt := 184) dX6_checkPage_180 (by decide) ?_
                exact bp_j_sub [1, 2, 3, 5] rfl (hk21 (1 : Int32))
              refine bp_j_iload_n 3 dX6_checkPage_171 rfl ?_
              refine bp_j_aload_n 1 dX6_checkPage_172 rfl ?_
              refine bp_j_getI (t := 4) (k := 39) rfl (by decide) (bp_lk q1119) dX6_checkPage_173 (fun _ _ _ => rfl) (fun x22 => ?_)
              refine bp_j_icmp_ne (tgt := 183) dX6_checkPage_176 (by decide) ?_ ?_
              · refine bp_j_iconst (v := 0) dX6_checkPage_183 (by decide) ?_
                exact bp_j_sub [1, 2, 3, 5] rfl (hk21 (0 : Int32))
              refine bp_j_iconst (v := 1) dX6_checkPage_179 (by decide) ?_
              refine bp_j_goto (tgt := 184) dX6_checkPage_180 (by decide) ?_
              exact bp_j_sub [1, 2, 3, 5] rfl (hk21 (1 : Int32))
            refine bp_j_istore (lv' := [(5, .int x20), (0, .ref a0), (1, .int xp1), (2, .int x2), (4, .int x6)]) dX6_checkPage_184 (by decide) rfl ?_
            exact bp_j_sub [1, 2, 3, 4, 0] rfl (hk11 x20)
          refine bp_j_iload_n 3 dX6_checkPage_148 rfl ?_
          refine bp_j_jm (fun k => ∀ (x23 : Int32), bp_J G iX6_checkPage (bp_Qn G bp_eI) (k x23) 157 [(0, .ref a0), (1, .int xp1), (2, .int x2), (4, .int x6)] [.int x23]) (fun k24 hk24 => ?_) (fun x23 => ?_)
          · refine bp_j_if_ne (tgt := 156) dX6_checkPage_149 (by decide) ?_ ?_
            · refine bp_j_iconst (v := 0) dX6_checkPage_156 (by decide) ?_
              exact bp_j_sub [1, 2, 3, 5] rfl (hk24 (0 : Int32))
            refine bp_j_iconst (v := 1) dX6_checkPage_152 (by decide) ?_
            refine bp_j_goto (tgt := 157) dX6_checkPage_153 (by decide) ?_
            exact bp_j_sub [1, 2, 3, 5] rfl (hk24 (1 : Int32))
          refine bp_j_istore (lv' := [(5, .int x23), (0, .ref a0), (1, .int xp1), (2, .int x2), (4, .int x6)]) dX6_checkPage_157 (by decide) rfl ?_
          refine bp_j_goto (tgt := 186) dX6_checkPage_159 (by decide) ?_
          exact bp_j_sub [1, 2, 3, 4, 0] rfl (hk11 x23)
        exact bp_j_sub [1, 2, 3, 5, 0] rfl (hk16)
      refine bp_j_iload 4 dX6_checkPage_115 rfl ?_
      refine bp_j_jm (fun k => ∀ (x17 : Int32), bp_J G iX6_checkPage (bp_Qn G bp_eI) (k x17) 137 [(0, .ref a0), (1, .int xp1), (2, .int x2), (4, .int x6)] [.int x17]) (fun k18 hk18 => ?_) (fun x17 => ?_)
      · refine bp_j_if_eq (tgt := 136) dX6_checkPage_117 (by decide) ?_ ?_
        · refine bp_j_iconst (v := 0) dX6_checkPage_136 (by decide) ?_
          exact bp_j_sub [0, 1, 2, 3] rfl (hk18 (0 : Int32))
        refine bp_j_iload_n 2 dX6_checkPage_120 rfl ?_
        refine bp_j_if_le (tgt := 136) dX6_checkPage_121 (by decide) ?_ ?_
        · refine bp_j_iconst (v := 0) dX6_checkPage_136 (by decide) ?_
          exact bp_j_sub [0, 1, 2, 3] rfl (hk18 (0 : Int32))
        refine bp_j_iload_n 2 dX6_checkPage_124 rfl ?_
        refine bp_j_aload_n 0 dX6_checkPage_125 rfl ?_
        refine bp_j_getI (t := 4) (k := 39) rfl (by decide) (bp_lk q1119) dX6_checkPage_126 (fun _ _ _ => rfl) (fun x19 => ?_)
        refine bp_j_icmp_ne (tgt := 136) dX6_checkPage_129 (by decide) ?_ ?_
        · refine bp_j_iconst (v := 0) dX6_checkPage_136 (by decide) ?_
          exact bp_j_sub [0, 1, 2, 3] rfl (hk18 (0 : Int32))
        refine bp_j_iconst (v := 1) dX6_checkPage_132 (by decide) ?_
        refine bp_j_goto (tgt := 137) dX6_checkPage_133 (by decide) ?_
        exact bp_j_sub [0, 1, 2, 3] rfl (hk18 (1 : Int32))
      refine bp_j_istore (lv' := [(5, .int x17), (0, .ref a0), (1, .int xp1), (2, .int x2), (4, .int x6)]) dX6_checkPage_137 (by decide) rfl ?_
      refine bp_j_goto (tgt := 186) dX6_checkPage_139 (by decide) ?_
      exact bp_j_sub [1, 2, 3, 4, 0] rfl (hk11 x17)
    refine bp_j_iload 0 dX6_checkPage_61 rfl ?_
    refine bp_j_jm (fun k => ∀ (x25 : Int32), bp_J G iX6_checkPage (bp_Qn G bp_eI) (k x25) 91 [(0, .ref a0), (1, .int xp1), (2, .int x2), (4, .int x6)] [.int x25]) (fun k26 hk26 => ?_) (fun x25 => ?_)
    · refine bp_j_if_eq (tgt := 90) dX6_checkPage_63 (by decide) ?_ ?_
      · refine bp_j_iconst (v := 0) dX6_checkPage_90 (by decide) ?_
        exact bp_j_sub [1, 2, 3, 5] rfl (hk26 (0 : Int32))
      refine bp_j_iload_n 3 dX6_checkPage_66 rfl ?_
      refine bp_j_if_le (tgt := 90) dX6_checkPage_67 (by decide) ?_ ?_
      · refine bp_j_iconst (v := 0) dX6_checkPage_90 (by decide) ?_
        exact bp_j_sub [1, 2, 3, 5] rfl (hk26 (0 : Int32))
      refine bp_j_aload_n 1 dX6_checkPage_70 rfl ?_
      refine bp_j_getN (t := 4) (k := 40) rfl (by decide) (bp_lk q1120) dX6_checkPage_71 (fun _ _ _ => rfl) (fun a27 => ?_)
      refine bp_j_iload_n 3 dX6_checkPage_74 rfl ?_
      refine bp_j_baloadZ dX6_checkPage_75 (fun x28 => ?_)
      refine bp_j_if_ne (tgt := 90) dX6_checkPage_76 (by decide) ?_ ?_
      · refine bp_j_iconst (v := 0) dX6_checkPage_90 (by decide) ?_
        exact bp_j_sub [1, 2, 3, 5] rfl (hk26 (0 : Int32))
      refine bp_j_aload_n 1 dX6_checkPage_79 rfl ?_
      refine bp_j_getI (t := 4) (k := 39) rfl (by decide) (bp_lk q1119) dX6_checkPage_80 (fun _ _ _ => rfl) (fun x29 => ?_)
      refine bp_j_if_ne (tgt := 90) dX6_checkPage_83 (by decide) ?_ ?_
      · refine bp_j_iconst (v := 0) dX6_checkPage_90 (by decide) ?_
        exact bp_j_sub [1, 2, 3, 5] rfl (hk26 (0 : Int32))
      refine bp_j_iconst (v := 1) dX6_checkPage_86 (by decide) ?_
      refine bp_j_goto (tgt := 91) dX6_checkPage_87 (by decide) ?_
      exact bp_j_sub [1, 2, 3, 5] rfl (hk26 (1 : Int32))
    refine bp_j_istore (lv' := [(5, .int x25), (0, .ref a0), (1, .int xp1), (2, .int x2), (4, .int x6)]) dX6_checkPage_91 (by decide) rfl ?_
    refine bp_j_goto (tgt := 186) dX6_checkPage_93 (by decide) ?_
    exact bp_j_sub [1, 2, 3, 4, 0] rfl (hk11 x25)
  refine bp_j_aload_n 0 dX6_checkPage_186 rfl ?_
  refine bp_j_iload 4 dX6_checkPage_187 rfl ?_
  refine bp_j_jm (fun k => ∀ (x12 : Int32), bp_J G iX6_checkPage (bp_Qn G bp_eI) (k x12) 206 [(1, .int xp1)] [.int x12, .ref a0]) (fun k13 hk13 => ?_) (fun x12 => ?_)
  · refine bp_j_if_eq (tgt := 205) dX6_checkPage_189 (by decide) ?_ ?_
    · refine bp_j_iconst (v := 0) dX6_checkPage_205 (by decide) ?_
      exact bp_j_sub [1] rfl (hk13 (0 : Int32))
    refine bp_j_iload 3 dX6_checkPage_192 rfl ?_
    refine bp_j_if_eq (tgt := 201) dX6_checkPage_194 (by decide) ?_ ?_
    · refine bp_j_iconst (v := 1) dX6_checkPage_201 (by decide) ?_
      refine bp_j_goto (tgt := 206) dX6_checkPage_202 (by decide) ?_
      exact bp_j_sub [1] rfl (hk13 (1 : Int32))
    refine bp_j_iload_n 2 dX6_checkPage_197 rfl ?_
    refine bp_j_if_ne (tgt := 205) dX6_checkPage_198 (by decide) ?_ ?_
    · refine bp_j_iconst (v := 0) dX6_checkPage_205 (by decide) ?_
      exact bp_j_sub [1] rfl (hk13 (0 : Int32))
    refine bp_j_iconst (v := 1) dX6_checkPage_201 (by decide) ?_
    refine bp_j_goto (tgt := 206) dX6_checkPage_202 (by decide) ?_
    exact bp_j_sub [1] rfl (hk13 (1 : Int32))
  refine bp_j_bipush (v := 6) dX6_checkPage_206 (by decide) ?_
  refine bp_j_iload_n 0 dX6_checkPage_208 rfl ?_
  refine bp_j_cl_I (bp_ranV (t := 4) (n := 3) (As := [.int x12, .int (6 : Int32), .int xp1]) (cnX6_needs (G := G) a0 x12 (6 : Int32) xp1) rfl (lw_V q1398 q1400 qs56 q82 q1401) ⟨rfl, by decide +kernel, by decide +kernel, by decide +kernel⟩ ⟨by decide, by decide⟩ (rest := []) rfl rfl (Nat.le_of_ble_eq_true rfl) dX6_checkPage_209) (by decide) (fun x14 => ?_)
  exact bp_j_zret rfl dX6_checkPage_212
/-- BilevelPagesModel.mayRefer(IIZ)Z -/
abbrev iX6_mayRefer : bp_MI := (yX6_mayRefer, cX6_mayRefer, 7, some (Jvm.ClassFile.FieldType.boolean), [], 0, 0)
def PX6_mayRefer (a0 : Nat) (xp1 : Int32) (xp2 : Int32) (xp3 : Int32) : bp_M Int32 :=
  bp_getN 4 28 a0 fun a1 =>
  bp_aldI 20 a1 xp2 fun x2 =>
  bp_jn (fun (k4 : Int32 → bp_M Int32) =>
  bp_if (x2 = 0) (
  k4 (1 : Int32)) (
  bp_getN 4 28 a0 fun a11 =>
  bp_aldI 20 a11 xp2 fun x12 =>
  bp_if (x12 = (53 : Int32)) (
  k4 (1 : Int32)) (
  k4 (0 : Int32)))) (fun (x3 : Int32) =>
  bp_getN 4 28 a0 fun a5 =>
  bp_aldI 20 a5 xp2 fun x6 =>
  bp_jn (fun (k8 : Int32 → bp_M Int32) =>
  bp_if (x6 = (4 : Int32)) (
  bp_if (xp3 = 0) (
  k8 (1 : Int32)) (
  k8 (0 : Int32))) (
  k8 (0 : Int32))) (fun (x7 : Int32) =>
  bp_getN 4 28 a0 fun a9 =>
  bp_aldI 20 a9 xp1 fun x10 =>
  bp_if (x10 = 0) (
  bp_retZ x3) (
  bp_if (x10 = (4 : Int32)) (
  bp_retZ x3) (
  bp_if (x10 = (6 : Int32)) (
  bp_if (x3 = 0) (
  bp_if (x7 = 0) (
  bp_retZ (0 : Int32)) (
  bp_retZ (1 : Int32))) (
  bp_retZ (1 : Int32))) (
  bp_retZ (0 : Int32))))))
set_option maxHeartbeats 4000000 in
set_option maxRecDepth 100000 in
theorem cnX6_mayRefer {G : bp_GT} (a0 : Nat) (xp1 : Int32) (xp2 : Int32) (xp3 : Int32) : bp_Con G iX6_mayRefer (ws_ iX6_mayRefer.1 iX6_mayRefer.2.1 iX6_mayRefer.2.2.1 iX6_mayRefer.2.2.2.1) [.ref a0, .int xp1, .int xp2, .int xp3] (PX6_mayRefer a0 xp1 xp2 xp3) bp_eI := by
  refine bp_con_of [(0, .ref a0), (1, .int xp1), (2, .int xp2), (3, .int xp3)] rfl (by decide) (Nat.le_of_ble_eq_true rfl) rfl ?_
  unfold PX6_mayRefer
  refine bp_j_aload_n 0 dX6_mayRefer_0 rfl ?_
  refine bp_j_getN (t := 4) (k := 28) rfl (by decide) (bp_lk q1108) dX6_mayRefer_1 (fun _ _ _ => rfl) (fun a1 => ?_)
  refine bp_j_iload_n 2 dX6_mayRefer_4 rfl ?_
  refine bp_j_iaload dX6_mayRefer_5 (fun x2 => ?_)
  refine bp_j_jm (fun k => ∀ (x3 : Int32), bp_J G iX6_mayRefer (bp_Qn G bp_eI) (k x3) 25 [(0, .ref a0), (1, .int xp1), (2, .int xp2), (3, .int xp3)] [.int x3]) (fun k4 hk4 => ?_) (fun x3 => ?_)
  · refine bp_j_if_eq (tgt := 20) dX6_mayRefer_6 (by decide) ?_ ?_
    · refine bp_j_iconst (v := 1) dX6_mayRefer_20 (by decide) ?_
      refine bp_j_goto (tgt := 25) dX6_mayRefer_21 (by decide) ?_
      exact hk4 (1 : Int32)
    refine bp_j_aload_n 0 dX6_mayRefer_9 rfl ?_
    refine bp_j_getN (t := 4) (k := 28) rfl (by decide) (bp_lk q1108) dX6_mayRefer_10 (fun _ _ _ => rfl) (fun a11 => ?_)
    refine bp_j_iload_n 2 dX6_mayRefer_13 rfl ?_
    refine bp_j_iaload dX6_mayRefer_14 (fun x12 => ?_)
    refine bp_j_bipush (v := 53) dX6_mayRefer_15 (by decide) ?_
    refine bp_j_icmp_ne (tgt := 24) dX6_mayRefer_17 (by decide) ?_ ?_
    · refine bp_j_iconst (v := 0) dX6_mayRefer_24 (by decide) ?_
      exact hk4 (0 : Int32)
    refine bp_j_iconst (v := 1) dX6_mayRefer_20 (by decide) ?_
    refine bp_j_goto (tgt := 25) dX6_mayRefer_21 (by decide) ?_
    exact hk4 (1 : Int32)
  refine bp_j_istore (lv' := [(4, .int x3), (0, .ref a0), (1, .int xp1), (2, .int xp2), (3, .int xp3)]) dX6_mayRefer_25 (by decide) rfl ?_
  refine bp_j_aload_n 1 dX6_mayRefer_27 rfl ?_
  refine bp_j_getN (t := 4) (k := 28) rfl (by decide) (bp_lk q1108) dX6_mayRefer_28 (fun _ _ _ => rfl) (fun a5 => ?_)
  refine bp_j_iload_n 3 dX6_mayRefer_31 rfl ?_
  refine bp_j_iaload dX6_mayRefer_32 (fun x6 => ?_)
  refine bp_j_iconst (v := 4) dX6_mayRefer_33 (by decide) ?_
  refine bp_j_jm (fun k => ∀ (x7 : Int32), bp_J G iX6_mayRefer (bp_Qn G bp_eI) (k x7) 46 [(0, .ref a0), (1, .int xp1), (4, .int x3)] [.int x7]) (fun k8 hk8 => ?_) (fun x7 => ?_)
  · refine bp_j_icmp_ne (tgt := 45) dX6_mayRefer_34 (by decide) ?_ ?_
    · refine bp_j_iconst (v := 0) dX6_mayRefer_45 (by decide) ?_
      exact bp_j_sub [1, 2, 0] rfl (hk8 (0 : Int32))
    refine bp_j_iload_n 4 dX6_mayRefer_37 rfl ?_
    refine bp_j_if_ne (tgt := 45) dX6_mayRefer_38 (by decide) ?_ ?_
    · refine bp_j_iconst (v := 0) dX6_mayRefer_45 (by decide) ?_
      exact bp_j_sub [1, 2, 0] rfl (hk8 (0 : Int32))
    refine bp_j_iconst (v := 1) dX6_mayRefer_41 (by decide) ?_
    refine bp_j_goto (tgt := 46) dX6_mayRefer_42 (by decide) ?_
    exact bp_j_sub [1, 2, 0] rfl (hk8 (1 : Int32))
  refine bp_j_istore (lv' := [(5, .int x7), (0, .ref a0), (1, .int xp1), (4, .int x3)]) dX6_mayRefer_46 (by decide) rfl ?_
  refine bp_j_aload_n 1 dX6_mayRefer_48 rfl ?_
  refine bp_j_getN (t := 4) (k := 28) rfl (by decide) (bp_lk q1108) dX6_mayRefer_49 (fun _ _ _ => rfl) (fun a9 => ?_)
  refine bp_j_iload_n 2 dX6_mayRefer_52 rfl ?_
  refine bp_j_iaload dX6_mayRefer_53 (fun x10 => ?_)
  refine bp_j_istore (lv' := [(6, .int x10), (5, .int x7), (0, .ref a0), (1, .int xp1), (4, .int x3)]) dX6_mayRefer_54 (by decide) rfl ?_
  refine bp_j_iload 0 dX6_mayRefer_56 rfl ?_
  refine bp_j_if_eq (tgt := 67) dX6_mayRefer_58 (by decide) ?_ ?_
  · refine bp_j_iload 4 dX6_mayRefer_67 rfl ?_
    refine bp_j_goto (tgt := 94) dX6_mayRefer_69 (by decide) ?_
    exact bp_j_zret rfl dX6_mayRefer_94
  refine bp_j_iload 0 dX6_mayRefer_61 rfl ?_
  refine bp_j_iconst (v := 4) dX6_mayRefer_63 (by decide) ?_
  refine bp_j_icmp_ne (tgt := 72) dX6_mayRefer_64 (by decide) ?_ ?_
  · refine bp_j_iload 0 dX6_mayRefer_72 rfl ?_
    refine bp_j_bipush (v := 6) dX6_mayRefer_74 (by decide) ?_
    refine bp_j_icmp_ne (tgt := 93) dX6_mayRefer_76 (by decide) ?_ ?_
    · refine bp_j_iconst (v := 0) dX6_mayRefer_93 (by decide) ?_
      exact bp_j_zret rfl dX6_mayRefer_94
    refine bp_j_iload 4 dX6_mayRefer_79 rfl ?_
    refine bp_j_if_ne (tgt := 89) dX6_mayRefer_81 (by decide) ?_ ?_
    · refine bp_j_iconst (v := 1) dX6_mayRefer_89 (by decide) ?_
      refine bp_j_goto (tgt := 94) dX6_mayRefer_90 (by decide) ?_
      exact bp_j_zret rfl dX6_mayRefer_94
    refine bp_j_iload 1 dX6_mayRefer_84 rfl ?_
    refine bp_j_if_eq (tgt := 93) dX6_mayRefer_86 (by decide) ?_ ?_
    · refine bp_j_iconst (v := 0) dX6_mayRefer_93 (by decide) ?_
      exact bp_j_zret rfl dX6_mayRefer_94
    refine bp_j_iconst (v := 1) dX6_mayRefer_89 (by decide) ?_
    refine bp_j_goto (tgt := 94) dX6_mayRefer_90 (by decide) ?_
    exact bp_j_zret rfl dX6_mayRefer_94
  refine bp_j_iload 4 dX6_mayRefer_67 rfl ?_
  refine bp_j_goto (tgt := 94) dX6_mayRefer_69 (by decide) ?_
  exact bp_j_zret rfl dX6_mayRefer_94
/-- BilevelPagesModel.segmentOf(II)I -/
abbrev iX6_segmentOf : bp_MI := (yX6_segmentOf, cX6_segmentOf, 4, some (Jvm.ClassFile.FieldType.int), [], 0, 0)
def BX6_segmentOf_2 (a0 : Nat) (xp1 : Int32) (xp2 : Int32) (k2 : Int32 → bp_M Int32) : Int32 → bp_M Int32 :=
  fun x1 =>
  bp_if (xp2 ≤ x1) (
  bp_ret (-1 : Int32)) (
  bp_getN 4 27 a0 fun a3 =>
  bp_aldI 20 a3 x1 fun x4 =>
  bp_if (x4 = xp1) (
  bp_ret x1) (
  bp_letI (x1 + (1 : Int32)) fun x5 =>
  k2 x5))
def PX6_segmentOf (a0 : Nat) (xp1 : Int32) (xp2 : Int32) : bp_M Int32 :=
  bp_loop (fun _ => bp_no) (BX6_segmentOf_2 a0 xp1 xp2) (fun k => k (0 : Int32))
set_option maxHeartbeats 4000000 in
set_option maxRecDepth 100000 in
theorem cnX6_segmentOf {G : bp_GT} (a0 : Nat) (xp1 : Int32) (xp2 : Int32) : bp_Con G iX6_segmentOf (ws_ iX6_segmentOf.1 iX6_segmentOf.2.1 iX6_segmentOf.2.2.1 iX6_segmentOf.2.2.2.1) [.ref a0, .int xp1, .int xp2] (PX6_segmentOf a0 xp1 xp2) bp_eI := by
  refine bp_con_of [(0, .ref a0), (1, .int xp1), (2, .int xp2)] rfl (by decide) (Nat.le_of_ble_eq_true rfl) rfl ?_
  unfold PX6_segmentOf
  refine bp_j_iconst (v := 0) dX6_segmentOf_0 (by decide) ?_
  refine bp_j_istore_n (lv' := [(3, .int (0 : Int32)), (0, .ref a0), (1, .int xp1), (2, .int xp2)]) dX6_segmentOf_1 (by decide) rfl ?_
  refine bp_j_loop (fun k => ∀ (x1 : Int32), bp_J G iX6_segmentOf (bp_Qn G bp_eI) (k x1) 2 [(0, .ref a0), (1, .int xp1), (2, .int xp2), (3, .int x1)] []) (fun _ => bp_j_no) (fun k2 hk2 x1 => ?_) (fun k h => bp_j_sub [1, 2, 3, 0] rfl (h (0 : Int32)))
  unfold BX6_segmentOf_2
  refine bp_j_iload_n 3 dX6_segmentOf_2 rfl ?_
  refine bp_j_iload_n 2 dX6_segmentOf_3 rfl ?_
  refine bp_j_icmp_ge (tgt := 25) dX6_segmentOf_4 (by decide) ?_ ?_
  · refine bp_j_iconst (v := -1) dX6_segmentOf_25 (by decide) ?_
    exact bp_j_iret rfl dX6_segmentOf_26
  refine bp_j_aload_n 0 dX6_segmentOf_7 rfl ?_
  refine bp_j_getN (t := 4) (k := 27) rfl (by decide) (bp_lk q1107) dX6_segmentOf_8 (fun _ _ _ => rfl) (fun a3 => ?_)
  refine bp_j_iload_n 3 dX6_segmentOf_11 rfl ?_
  refine bp_j_iaload dX6_segmentOf_12 (fun x4 => ?_)
  refine bp_j_iload_n 1 dX6_segmentOf_13 rfl ?_
  refine bp_j_icmp_ne (tgt := 19) dX6_segmentOf_14 (by decide) ?_ ?_
  · refine bp_j_iincL (lv' := fun x5 => [(3, .int x5), (0, .ref a0), (1, .int xp1), (2, .int xp2)]) 3 dX6_segmentOf_19 rfl (by decide) (by decide) (fun _ => rfl) (fun x5 => ?_)
    refine bp_j_goto (tgt := 2) dX6_segmentOf_22 (by decide) ?_
    exact bp_j_sub [1, 2, 3, 0] rfl (hk2 x5)
  refine bp_j_iload_n 3 dX6_segmentOf_17 rfl ?_
  exact bp_j_iret rfl dX6_segmentOf_18
