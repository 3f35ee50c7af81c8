/-! programs and walks -/
set_option maxRecDepth 100000
/-- BilevelPagesModel.readFile()V -/
abbrev iX6_readFile : bp_MI := (yX6_readFile, cX6_readFile, 4, none, [], 5, 123)
def BX6_readFile_197 (a0 : Nat) (k12 : Int32 → bp_M Unit) (k19 : Int32 → Int32 → bp_M Unit) : Int32 → Int32 → bp_M Unit :=
  fun x17 x18 =>
  bp_getI 4 24 a0 fun x20 =>
  bp_if (x20 ≤ x18) (
  k12 x17) (
  bp_if (x17 = 0) (
  k12 x17) (
  bp_getI 4 1 a0 fun x21 =>
  bp_if (x21 = (1 : Int32)) (
  bp_bind (bp_is 4 a0 (PX6_readSegment a0 x18)) fun x22 =>
  bp_letI (x18 + (1 : Int32)) fun x23 =>
  k19 x22 x23) (
  k12 x17)))
def BX6_readFile_124 (a0 : Nat) (k10 : Int32 → bp_M Unit) (k26 : Int32 → Int32 → bp_M Unit) : Int32 → Int32 → bp_M Unit :=
  fun x24 x25 =>
  bp_if (x24 = 0) (
  k10 x24) (
  bp_if (x25 = 0) (
  bp_bind (bp_is 4 a0 (PX6_readHead a0)) fun x27 =>
  bp_jn (fun (k29 : Int32 → bp_M Unit) =>
  bp_if (x27 = 0) (
  k29 (0 : Int32)) (
  bp_getI 4 1 a0 fun x35 =>
  bp_if (x35 = (1 : Int32)) (
  k29 (1 : Int32)) (
  bp_getI 4 24 a0 fun x36 =>
  bp_bind (bp_is 4 a0 (PX6_readSegment a0 (x36 - (1 : Int32)))) fun x37 =>
  bp_if (x37 = 0) (
  k29 (0 : Int32)) (
  k29 (1 : Int32))))) (fun (x28 : Int32) =>
  bp_jn (fun (k31 : Int32 → bp_M Unit) =>
  bp_if (x28 = 0) (
  k31 (0 : Int32)) (
  bp_getN 4 28 a0 fun a32 =>
  bp_getI 4 24 a0 fun x33 =>
  bp_aldI 20 a32 (x33 - (1 : Int32)) fun x34 =>
  bp_if (x34 = (51 : Int32)) (
  k31 (1 : Int32)) (
  k31 (0 : Int32)))) (fun (x30 : Int32) =>
  k26 x28 x30))) (
  k10 x24))
def BX6_readFile_37 (a0 : Nat) (k6 : Int32 → bp_M Unit) (k44 : Int32 → Int32 → bp_M Unit) : Int32 → Int32 → bp_M Unit :=
  fun x42 x43 =>
  bp_if ((8 : Int32) ≤ x43) (
  k6 x42) (
  bp_if (x42 = 0) (
  k6 x42) (
  bp_getN 4 18 a0 fun a45 =>
  bp_aldI 20 a45 x43 fun x46 =>
  bp_bind (PX6_magic x43) fun x47 =>
  bp_jn (fun (k49 : Int32 → bp_M Unit) =>
  bp_if (x46 = x47) (
  k49 (1 : Int32)) (
  bp_bind (bp_is 4 a0 (PX6_fail a0 (2 : Int32) (0 : Int32))) fun x51 =>
  bp_if (x51 = 0) (
  k49 (0 : Int32)) (
  k49 (1 : Int32)))) (fun (x48 : Int32) =>
  bp_letI (x43 + (1 : Int32)) fun x50 =>
  k44 x48 x50)))
def PX6_readFile (a0 : Nat) : bp_M Unit :=
  bp_getI 4 19 a0 fun x1 =>
  bp_putI 4 20 a0 x1 <|
  bp_getI 4 19 a0 fun x2 =>
  bp_jn (fun (k4 : Int32 → bp_M Unit) =>
  bp_if ((13 : Int32) ≤ x2) (
  k4 (1 : Int32)) (
  bp_getI 4 19 a0 fun x52 =>
  bp_bind (bp_is 4 a0 (PX6_fail a0 (1 : Int32) x52)) fun x53 =>
  bp_if (x53 = 0) (
  k4 (0 : Int32)) (
  k4 (1 : Int32)))) (fun (x3 : Int32) =>
  bp_jn (fun (k6 : Int32 → bp_M Unit) =>
  bp_loop (fun _ _ => bp_no) (BX6_readFile_37 a0 k6) (fun k => k x3 (0 : Int32))) (fun (x5 : Int32) =>
  bp_jn (fun (k8 : Int32 → bp_M Unit) =>
  bp_if (x5 = 0) (
  k8 (0 : Int32)) (
  bp_getN 4 18 a0 fun a38 =>
  bp_aldI 20 a38 (8 : Int32) fun x39 =>
  bp_getI 4 1 a0 fun x40 =>
  bp_if (x39 = ((1 : Int32) - x40)) (
  k8 (1 : Int32)) (
  bp_bind (bp_is 4 a0 (PX6_fail a0 (2 : Int32) (0 : Int32))) fun x41 =>
  bp_if (x41 = 0) (
  k8 (0 : Int32)) (
  k8 (1 : Int32))))) (fun (x7 : Int32) =>
  bp_putI 4 21 a0 (13 : Int32) <|
  bp_jn (fun (k10 : Int32 → bp_M Unit) =>
  bp_loop (fun _ _ => bp_no) (BX6_readFile_124 a0 k10) (fun k => k x7 (0 : Int32))) (fun (x9 : Int32) =>
  bp_jn (fun (k12 : Int32 → bp_M Unit) =>
  bp_loop (fun _ _ => bp_no) (BX6_readFile_197 a0 k12) (fun k => k x9 (0 : Int32))) (fun (x11 : Int32) =>
  bp_if (x11 = 0) (
  bp_ret ()) (
  bp_getI 4 21 a0 fun x13 =>
  bp_getI 4 19 a0 fun x14 =>
  bp_if (x14 ≤ x13) (
  bp_ret ()) (
  bp_getI 4 21 a0 fun x15 =>
  bp_bind (bp_is 4 a0 (PX6_fail a0 (10 : Int32) x15)) fun x16 =>
  bp_ret ())))))))
set_option maxHeartbeats 4000000 in
set_option maxRecDepth 100000 in
theorem cnX6_readFile {G : bp_GT} (a0 : Nat) : bp_Con G iX6_readFile (ws_ iX6_readFile.1 iX6_readFile.2.1 iX6_readFile.2.2.1 iX6_readFile.2.2.2.1) [.ref a0] (PX6_readFile a0) bp_eU := by
  refine bp_con_of [(0, .ref a0)] rfl (by decide) (Nat.le_of_ble_eq_true rfl) rfl ?_
  unfold PX6_readFile
  refine bp_j_aload_n 0 dX6_readFile_0 rfl ?_
  refine bp_j_aload_n 0 dX6_readFile_1 rfl ?_
  refine bp_j_getI (t := 4) (k := 19) rfl (by decide) (bp_lk q1099) dX6_readFile_2 (fun _ _ _ => rfl) (fun x1 => ?_)
  refine bp_j_putI (t := 4) (k := 20) rfl (by decide) (by decide) (bp_lk q1100) rfl dX6_readFile_5 rfl ?_
  refine bp_j_aload_n 0 dX6_readFile_8 rfl ?_
  refine bp_j_getI (t := 4) (k := 19) rfl (by decide) (bp_lk q1099) dX6_readFile_9 (fun _ _ _ => rfl) (fun x2 => ?_)
  refine bp_j_bipush (v := 13) dX6_readFile_12 (by decide) ?_
  refine bp_j_jm (fun k => ∀ (x3 : Int32), bp_J G iX6_readFile (bp_Qn G bp_eU) (k x3) 34 [(0, .ref a0)] [.int x3]) (fun k4 hk4 => ?_) (fun x3 => ?_)
  · refine bp_j_icmp_ge (tgt := 29) dX6_readFile_14 (by decide) ?_ ?_
    · refine bp_j_iconst (v := 1) dX6_readFile_29 (by decide) ?_
      refine bp_j_goto (tgt := 34) dX6_readFile_30 (by decide) ?_
      exact hk4 (1 : Int32)
    refine bp_j_aload_n 0 dX6_readFile_17 rfl ?_
    refine bp_j_iconst (v := 1) dX6_readFile_18 (by decide) ?_
    refine bp_j_aload_n 0 dX6_readFile_19 rfl ?_
    refine bp_j_getI (t := 4) (k := 19) rfl (by decide) (bp_lk q1099) dX6_readFile_20 (fun _ _ _ => rfl) (fun x52 => ?_)
    refine bp_j_cl_I (bp_ranV (t := 4) (n := 2) (As := [.int (1 : Int32), .int x52]) (cnX6_fail (G := G) a0 (1 : Int32) x52) rfl (lw_V q1367 q1369 qs49 q82 q1370) ⟨rfl, by decide +kernel, by decide +kernel, by decide +kernel⟩ ⟨by decide, by decide⟩ (rest := []) rfl rfl (Nat.le_of_ble_eq_true rfl) dX6_readFile_23) (by decide) (fun x53 => ?_)
    refine bp_j_if_eq (tgt := 33) dX6_readFile_26 (by decide) ?_ ?_
    · refine bp_j_iconst (v := 0) dX6_readFile_33 (by decide) ?_
      exact hk4 (0 : Int32)
    refine bp_j_iconst (v := 1) dX6_readFile_29 (by decide) ?_
    refine bp_j_goto (tgt := 34) dX6_readFile_30 (by decide) ?_
    exact hk4 (1 : Int32)
  refine bp_j_istore_n (lv' := [(1, .int x3), (0, .ref a0)]) dX6_readFile_34 (by decide) rfl ?_
  refine bp_j_iconst (v := 0) dX6_readFile_35 (by decide) ?_
  refine bp_j_istore_n (lv' := [(2, .int (0 : Int32)), (1, .int x3), (0, .ref a0)]) dX6_readFile_36 (by decide) rfl ?_
  refine bp_j_jm (fun k => ∀ (x5 : Int32), bp_J G iX6_readFile (bp_Qn G bp_eU) (k x5) 81 [(0, .ref a0), (1, .int x5)] []) (fun k6 hk6 => ?_) (fun x5 => ?_)
  · refine bp_j_loop (fun k => ∀ (x42 : Int32) (x43 : Int32), bp_J G iX6_readFile (bp_Qn G bp_eU) (k x42 x43) 37 [(0, .ref a0), (1, .int x42), (2, .int x43)] []) (fun _ _ => bp_j_no) (fun k44 hk44 x42 x43 => ?_) (fun k h => bp_j_sub [2, 1, 0] rfl (h x3 (0 : Int32)))
    unfold BX6_readFile_37
    refine bp_j_iload_n 2 dX6_readFile_37 rfl ?_
    refine bp_j_bipush (v := 8) dX6_readFile_38 (by decide) ?_
    refine bp_j_icmp_ge (tgt := 81) dX6_readFile_40 (by decide) ?_ ?_
    · exact bp_j_sub [0, 1] rfl (hk6 x42)
    refine bp_j_iload_n 1 dX6_readFile_43 rfl ?_
    refine bp_j_if_eq (tgt := 81) dX6_readFile_44 (by decide) ?_ ?_
    · exact bp_j_sub [0, 1] rfl (hk6 x42)
    refine bp_j_aload_n 0 dX6_readFile_47 rfl ?_
    refine bp_j_getN (t := 4) (k := 18) rfl (by decide) (bp_lk q1098) dX6_readFile_48 (fun _ _ _ => rfl) (fun a45 => ?_)
    refine bp_j_iload_n 2 dX6_readFile_51 rfl ?_
    refine bp_j_iaload dX6_readFile_52 (fun x46 => ?_)
    refine bp_j_iload_n 2 dX6_readFile_53 rfl ?_
    refine bp_j_cl_I (bp_ranS (n := 1) (As := [.int x43]) (cnX6_magic (G := G) x43) (lw_S q1303 q1304 q82 q1305) ⟨by decide +kernel, by decide +kernel, by decide +kernel⟩ ⟨by decide, by decide⟩ (rest := [.int x46]) rfl rfl (Nat.le_of_ble_eq_true rfl) dX6_readFile_54) (by decide) (fun x47 => ?_)
    refine bp_j_jm (fun k => ∀ (x48 : Int32), bp_J G iX6_readFile (bp_Qn G bp_eU) (k x48) 74 [(0, .ref a0), (2, .int x43)] [.int x48]) (fun k49 hk49 => ?_) (fun x48 => ?_)
    · refine bp_j_icmp_eq (tgt := 69) dX6_readFile_57 (by decide) ?_ ?_
      · refine bp_j_iconst (v := 1) dX6_readFile_69 (by decide) ?_
        refine bp_j_goto (tgt := 74) dX6_readFile_70 (by decide) ?_
        exact bp_j_sub [0, 2] rfl (hk49 (1 : Int32))
      refine bp_j_aload_n 0 dX6_readFile_60 rfl ?_
      refine bp_j_iconst (v := 2) dX6_readFile_61 (by decide) ?_
      refine bp_j_iconst (v := 0) dX6_readFile_62 (by decide) ?_
      refine bp_j_cl_I (bp_ranV (t := 4) (n := 2) (As := [.int (2 : Int32), .int (0 : Int32)]) (cnX6_fail (G := G) a0 (2 : Int32) (0 : Int32)) rfl (lw_V q1367 q1369 qs49 q82 q1370) ⟨rfl, by decide +kernel, by decide +kernel, by decide +kernel⟩ ⟨by decide, by decide⟩ (rest := []) rfl rfl (Nat.le_of_ble_eq_true rfl) dX6_readFile_63) (by decide) (fun x51 => ?_)
      refine bp_j_if_eq (tgt := 73) dX6_readFile_66 (by decide) ?_ ?_
      · refine bp_j_iconst (v := 0) dX6_readFile_73 (by decide) ?_
        exact bp_j_sub [0, 2] rfl (hk49 (0 : Int32))
      refine bp_j_iconst (v := 1) dX6_readFile_69 (by decide) ?_
      refine bp_j_goto (tgt := 74) dX6_readFile_70 (by decide) ?_
      exact bp_j_sub [0, 2] rfl (hk49 (1 : Int32))
    refine bp_j_istore_n (lv' := [(1, .int x48), (0, .ref a0), (2, .int x43)]) dX6_readFile_74 (by decide) rfl ?_
    refine bp_j_iincL (lv' := fun x50 => [(2, .int x50), (1, .int x48), (0, .ref a0)]) 2 dX6_readFile_75 rfl (by decide) (by decide) (fun _ => rfl) (fun x50 => ?_)
    refine bp_j_goto (tgt := 37) dX6_readFile_78 (by decide) ?_
    exact bp_j_sub [2, 1, 0] rfl (hk44 x48 x50)
  refine bp_j_iload_n 1 dX6_readFile_81 rfl ?_
  refine bp_j_jm (fun k => ∀ (x7 : Int32), bp_J G iX6_readFile (bp_Qn G bp_eU) (k x7) 115 [(0, .ref a0)] [.int x7]) (fun k8 hk8 => ?_) (fun x7 => ?_)
  · refine bp_j_if_eq (tgt := 114) dX6_readFile_82 (by decide) ?_ ?_
    · refine bp_j_iconst (v := 0) dX6_readFile_114 (by decide) ?_
      exact bp_j_sub [0] rfl (hk8 (0 : Int32))
    refine bp_j_aload_n 0 dX6_readFile_85 rfl ?_
    refine bp_j_getN (t := 4) (k := 18) rfl (by decide) (bp_lk q1098) dX6_readFile_86 (fun _ _ _ => rfl) (fun a38 => ?_)
    refine bp_j_bipush (v := 8) dX6_readFile_89 (by decide) ?_
    refine bp_j_iaload dX6_readFile_91 (fun x39 => ?_)
    refine bp_j_iconst (v := 1) dX6_readFile_92 (by decide) ?_
    refine bp_j_aload_n 0 dX6_readFile_93 rfl ?_
    refine bp_j_getI (t := 4) (k := 1) rfl (by decide) (bp_lk q1081) dX6_readFile_94 (fun _ _ _ => rfl) (fun x40 => ?_)
    refine bp_j_isub dX6_readFile_97 ?_
    refine bp_j_icmp_eq (tgt := 110) dX6_readFile_98 (by decide) ?_ ?_
    · refine bp_j_iconst (v := 1) dX6_readFile_110 (by decide) ?_
      refine bp_j_goto (tgt := 115) dX6_readFile_111 (by decide) ?_
      exact bp_j_sub [0] rfl (hk8 (1 : Int32))
    refine bp_j_aload_n 0 dX6_readFile_101 rfl ?_
    refine bp_j_iconst (v := 2) dX6_readFile_102 (by decide) ?_
    refine bp_j_iconst (v := 0) dX6_readFile_103 (by decide) ?_
    refine bp_j_cl_I (bp_ranV (t := 4) (n := 2) (As := [.int (2 : Int32), .int (0 : Int32)]) (cnX6_fail (G := G) a0 (2 : Int32) (0 : Int32)) rfl (lw_V q1367 q1369 qs49 q82 q1370) ⟨rfl, by decide +kernel, by decide +kernel, by decide +kernel⟩ ⟨by decide, by decide⟩ (rest := []) rfl rfl (Nat.le_of_ble_eq_true rfl) dX6_readFile_104) (by decide) (fun x41 => ?_)
    refine bp_j_if_eq (tgt := 114) dX6_readFile_107 (by decide) ?_ ?_
    · refine bp_j_iconst (v := 0) dX6_readFile_114 (by decide) ?_
      exact bp_j_sub [0] rfl (hk8 (0 : Int32))
    refine bp_j_iconst (v := 1) dX6_readFile_110 (by decide) ?_
    refine bp_j_goto (tgt := 115) dX6_readFile_111 (by decide) ?_
    exact bp_j_sub [0] rfl (hk8 (1 : Int32))
  refine bp_j_istore_n (lv' := [(1, .int x7), (0, .ref a0)]) dX6_readFile_115 (by decide) rfl ?_
  refine bp_j_aload_n 1 dX6_readFile_116 rfl ?_
  refine bp_j_bipush (v := 13) dX6_readFile_117 (by decide) ?_
  refine bp_j_putI (t := 4) (k := 21) rfl (by decide) (by decide) (bp_lk q1101) rfl dX6_readFile_119 rfl ?_
  refine bp_j_iconst (v := 0) dX6_readFile_122 (by decide) ?_
  refine bp_j_istore_n (lv' := [(2, .int (0 : Int32)), (1, .int x7), (0, .ref a0)]) dX6_readFile_123 (by decide) rfl ?_
  refine bp_j_jm (fun k => ∀ (x9 : Int32), bp_J G iX6_readFile (bp_Qn G bp_eU) (k x9) 195 [(0, .ref a0), (1, .int x9)] []) (fun k10 hk10 => ?_) (fun x9 => ?_)
  · refine bp_j_loop (fun k => ∀ (x24 : Int32) (x25 : Int32), bp_J G iX6_readFile (bp_Qn G bp_eU) (k x24 x25) 124 [(0, .ref a0), (1, .int x24), (2, .int x25)] []) (fun _ _ => bp_j_no) (fun k26 hk26 x24 x25 => ?_) (fun k h => bp_j_sub [2, 1, 0] rfl (h x7 (0 : Int32)))
    unfold BX6_readFile_124
    refine bp_j_iload_n 1 dX6_readFile_124 rfl ?_
    refine bp_j_if_eq (tgt := 195) dX6_readFile_125 (by decide) ?_ ?_
    · exact bp_j_sub [0, 1] rfl (hk10 x24)
    refine bp_j_iload_n 2 dX6_readFile_128 rfl ?_
    refine bp_j_if_ne (tgt := 195) dX6_readFile_129 (by decide) ?_ ?_
    · exact bp_j_sub [0, 1] rfl (hk10 x24)
    refine bp_j_aload_n 0 dX6_readFile_132 rfl ?_
    refine bp_j_cl_I (bp_ranV (t := 4) (n := 0) (As := []) (cnX6_readHead (G := G) a0 ) rfl (lw_V q1358 q1360 qs47 q82 q1361) ⟨rfl, by decide +kernel, by decide +kernel, by decide +kernel⟩ ⟨by decide, by decide⟩ (rest := []) rfl rfl (Nat.le_of_ble_eq_true rfl) dX6_readFile_133) (by decide) (fun x27 => ?_)
    refine bp_j_jm (fun k => ∀ (x28 : Int32), bp_J G iX6_readFile (bp_Qn G bp_eU) (k x28) 165 [(0, .ref a0)] [.int x28]) (fun k29 hk29 => ?_) (fun x28 => ?_)
    · refine bp_j_if_eq (tgt := 164) dX6_readFile_136 (by decide) ?_ ?_
      · refine bp_j_iconst (v := 0) dX6_readFile_164 (by decide) ?_
        exact bp_j_sub [0] rfl (hk29 (0 : Int32))
      refine bp_j_aload_n 0 dX6_readFile_139 rfl ?_
      refine bp_j_getI (t := 4) (k := 1) rfl (by decide) (bp_lk q1081) dX6_readFile_140 (fun _ _ _ => rfl) (fun x35 => ?_)
      refine bp_j_iconst (v := 1) dX6_readFile_143 (by decide) ?_
      refine bp_j_icmp_eq (tgt := 160) dX6_readFile_144 (by decide) ?_ ?_
      · refine bp_j_iconst (v := 1) dX6_readFile_160 (by decide) ?_
        refine bp_j_goto (tgt := 165) dX6_readFile_161 (by decide) ?_
        exact bp_j_sub [0] rfl (hk29 (1 : Int32))
      refine bp_j_aload_n 0 dX6_readFile_147 rfl ?_
      refine bp_j_aload_n 0 dX6_readFile_148 rfl ?_
      refine bp_j_getI (t := 4) (k := 24) rfl (by decide) (bp_lk q1104) dX6_readFile_149 (fun _ _ _ => rfl) (fun x36 => ?_)
      refine bp_j_iconst (v := 1) dX6_readFile_152 (by decide) ?_
      refine bp_j_isub dX6_readFile_153 ?_
      refine bp_j_cl_I (bp_ranV (t := 4) (n := 1) (As := [.int (x36 - (1 : Int32))]) (cnX6_readSegment (G := G) a0 (x36 - (1 : Int32))) rfl (lw_V q1378 q1380 qs51 q82 q1381) ⟨rfl, by decide +kernel, by decide +kernel, by decide +kernel⟩ ⟨by decide, by decide⟩ (rest := []) rfl rfl (Nat.le_of_ble_eq_true rfl) dX6_readFile_154) (by decide) (fun x37 => ?_)
      refine bp_j_if_eq (tgt := 164) dX6_readFile_157 (by decide) ?_ ?_
      · refine bp_j_iconst (v := 0) dX6_readFile_164 (by decide) ?_
        exact bp_j_sub [0] rfl (hk29 (0 : Int32))
      refine bp_j_iconst (v := 1) dX6_readFile_160 (by decide) ?_
      refine bp_j_goto (tgt := 165) dX6_readFile_161 (by decide) ?_
      exact bp_j_sub [0] rfl (hk29 (1 : Int32))
    refine bp_j_istore_n (lv' := [(1, .int x28), (0, .ref a0)]) dX6_readFile_165 (by decide) rfl ?_
    refine bp_j_iload_n 0 dX6_readFile_166 rfl ?_
    refine bp_j_jm (fun k => ∀ (x30 : Int32), bp_J G iX6_readFile (bp_Qn G bp_eU) (k x30) 191 [(0, .ref a0), (1, .int x28)] [.int x30]) (fun k31 hk31 => ?_) (fun x30 => ?_)
    · refine bp_j_if_eq (tgt := 190) dX6_readFile_167 (by decide) ?_ ?_
      · refine bp_j_iconst (v := 0) dX6_readFile_190 (by decide) ?_
        exact bp_j_sub [1, 0] rfl (hk31 (0 : Int32))
      refine bp_j_aload_n 1 dX6_readFile_170 rfl ?_
      refine bp_j_getN (t := 4) (k := 28) rfl (by decide) (bp_lk q1108) dX6_readFile_171 (fun _ _ _ => rfl) (fun a32 => ?_)
      refine bp_j_aload_n 1 dX6_readFile_174 rfl ?_
      refine bp_j_getI (t := 4) (k := 24) rfl (by decide) (bp_lk q1104) dX6_readFile_175 (fun _ _ _ => rfl) (fun x33 => ?_)
      refine bp_j_iconst (v := 1) dX6_readFile_178 (by decide) ?_
      refine bp_j_isub dX6_readFile_179 ?_
      refine bp_j_iaload dX6_readFile_180 (fun x34 => ?_)
      refine bp_j_bipush (v := 51) dX6_readFile_181 (by decide) ?_
      refine bp_j_icmp_ne (tgt := 190) dX6_readFile_183 (by decide) ?_ ?_
      · refine bp_j_iconst (v := 0) dX6_readFile_190 (by decide) ?_
        exact bp_j_sub [1, 0] rfl (hk31 (0 : Int32))
      refine bp_j_iconst (v := 1) dX6_readFile_186 (by decide) ?_
      refine bp_j_goto (tgt := 191) dX6_readFile_187 (by decide) ?_
      exact bp_j_sub [1, 0] rfl (hk31 (1 : Int32))
    refine bp_j_istore_n (lv' := [(2, .int x30), (0, .ref a0), (1, .int x28)]) dX6_readFile_191 (by decide) rfl ?_
    refine bp_j_goto (tgt := 124) dX6_readFile_192 (by decide) ?_
    exact bp_j_sub [1, 2, 0] rfl (hk26 x28 x30)
  refine bp_j_iconst (v := 0) dX6_readFile_195 (by decide) ?_
  refine bp_j_istore_n (lv' := [(3, .int (0 : Int32)), (0, .ref a0), (1, .int x9)]) dX6_readFile_196 (by decide) rfl ?_
  refine bp_j_jm (fun k => ∀ (x11 : Int32), bp_J G iX6_readFile (bp_Qn G bp_eU) (k x11) 229 [(0, .ref a0), (1, .int x11)] []) (fun k12 hk12 => ?_) (fun x11 => ?_)
  · refine bp_j_loop (fun k => ∀ (x17 : Int32) (x18 : Int32), bp_J G iX6_readFile (bp_Qn G bp_eU) (k x17 x18) 197 [(0, .ref a0), (1, .int x17), (3, .int x18)] []) (fun _ _ => bp_j_no) (fun k19 hk19 x17 x18 => ?_) (fun k h => bp_j_sub [1, 2, 0] rfl (h x9 (0 : Int32)))
    unfold BX6_readFile_197
    refine bp_j_iload_n 2 dX6_readFile_197 rfl ?_
    refine bp_j_aload_n 0 dX6_readFile_198 rfl ?_
    refine bp_j_getI (t := 4) (k := 24) rfl (by decide) (bp_lk q1104) dX6_readFile_199 (fun _ _ _ => rfl) (fun x20 => ?_)
    refine bp_j_icmp_ge (tgt := 229) dX6_readFile_202 (by decide) ?_ ?_
    · exact bp_j_sub [0, 1] rfl (hk12 x17)
    refine bp_j_iload_n 1 dX6_readFile_205 rfl ?_
    refine bp_j_if_eq (tgt := 229) dX6_readFile_206 (by decide) ?_ ?_
    · exact bp_j_sub [0, 1] rfl (hk12 x17)
    refine bp_j_aload_n 0 dX6_readFile_209 rfl ?_
    refine bp_j_getI (t := 4) (k := 1) rfl (by decide) (bp_lk q1081) dX6_readFile_210 (fun _ _ _ => rfl) (fun x21 => ?_)
    refine bp_j_iconst (v := 1) dX6_readFile_213 (by decide) ?_
    refine bp_j_icmp_ne (tgt := 229) dX6_readFile_214 (by decide) ?_ ?_
    · exact bp_j_sub [0, 1] rfl (hk12 x17)
    refine bp_j_aload_n 0 dX6_readFile_217 rfl ?_
    refine bp_j_iload_n 2 dX6_readFile_218 rfl ?_
    refine bp_j_cl_I (bp_ranV (t := 4) (n := 1) (As := [.int x18]) (cnX6_readSegment (G := G) a0 x18) rfl (lw_V q1378 q1380 qs51 q82 q1381) ⟨rfl, by decide +kernel, by decide +kernel, by decide +kernel⟩ ⟨by decide, by decide⟩ (rest := []) rfl rfl (Nat.le_of_ble_eq_true rfl) dX6_readFile_219) (by decide) (fun x22 => ?_)
    refine bp_j_istore_n (lv' := [(1, .int x22), (0, .ref a0), (3, .int x18)]) dX6_readFile_222 (by decide) rfl ?_
    refine bp_j_iincL (lv' := fun x23 => [(3, .int x23), (1, .int x22), (0, .ref a0)]) 2 dX6_readFile_223 rfl (by decide) (by decide) (fun _ => rfl) (fun x23 => ?_)
    refine bp_j_goto (tgt := 197) dX6_readFile_226 (by decide) ?_
    exact bp_j_sub [2, 1, 0] rfl (hk19 x22 x23)
  refine bp_j_iload_n 1 dX6_readFile_229 rfl ?_
  refine bp_j_if_eq (tgt := 255) dX6_readFile_230 (by decide) ?_ ?_
  · exact bp_j_vret rfl dX6_readFile_255
  refine bp_j_aload_n 0 dX6_readFile_233 rfl ?_
  refine bp_j_getI (t := 4) (k := 21) rfl (by decide) (bp_lk q1101) dX6_readFile_234 (fun _ _ _ => rfl) (fun x13 => ?_)
  refine bp_j_aload_n 0 dX6_readFile_237 rfl ?_
  refine bp_j_getI (t := 4) (k := 19) rfl (by decide) (bp_lk q1099) dX6_readFile_238 (fun _ _ _ => rfl) (fun x14 => ?_)
  refine bp_j_icmp_ge (tgt := 255) dX6_readFile_241 (by decide) ?_ ?_
  · exact bp_j_vret rfl dX6_readFile_255
  refine bp_j_aload_n 0 dX6_readFile_244 rfl ?_
  refine bp_j_bipush (v := 10) dX6_readFile_245 (by decide) ?_
  refine bp_j_aload_n 0 dX6_readFile_247 rfl ?_
  refine bp_j_getI (t := 4) (k := 21) rfl (by decide) (bp_lk q1101) dX6_readFile_248 (fun _ _ _ => rfl) (fun x15 => ?_)
  refine bp_j_cl_I (bp_ranV (t := 4) (n := 2) (As := [.int (10 : Int32), .int x15]) (cnX6_fail (G := G) a0 (10 : Int32) x15) rfl (lw_V q1367 q1369 qs49 q82 q1370) ⟨rfl, by decide +kernel, by decide +kernel, by decide +kernel⟩ ⟨by decide, by decide⟩ (rest := []) rfl rfl (Nat.le_of_ble_eq_true rfl) dX6_readFile_251) (by decide) (fun x16 => ?_)
  refine bp_j_pop dX6_readFile_254 rfl ?_
  exact bp_j_vret rfl dX6_readFile_255
/-- BilevelPagesModel.read()I -/
abbrev iX6_read : bp_MI := (yX6_read, cX6_read, 2, some (Jvm.ClassFile.FieldType.int), [], 6, 146)
def BX6_read_119 (a0 : Nat) (k3 : bp_M Int32) (k18 : Int32 → bp_M Int32) : Int32 → bp_M Int32 :=
  fun x17 =>
  bp_if ((10 : Int32) ≤ x17) (
  k3) (
  bp_getN 4 40 a0 fun a19 =>
  bp_astZ a19 x17 (0 : Int32) <|
  bp_letI (x17 + (1 : Int32)) fun x20 =>
  k18 x20)
def BX6_read_53 (a0 : Nat) (k2 : bp_M Int32) (k22 : Int32 → bp_M Int32) : Int32 → bp_M Int32 :=
  fun x21 =>
  bp_getI 4 17 a0 fun x23 =>
  bp_if (x23 ≤ x21) (
  k2) (
  bp_getN 4 18 a0 fun a24 =>
  bp_getI 4 19 a0 fun x25 =>
  bp_getN 4 16 a0 fun a26 =>
  bp_aldI 20 a26 x21 fun x27 =>
  bp_astI a24 x25 x27 <|
  bp_getI 4 19 a0 fun x28 =>
  bp_putI 4 19 a0 (x28 + (1 : Int32)) <|
  bp_letI (x21 + (1 : Int32)) fun x29 =>
  k22 x29)
def BX6_read_12 (a0 : Nat) (k1 : bp_M Int32) (k31 : Int32 → bp_M Int32) : Int32 → bp_M Int32 :=
  fun x30 =>
  bp_getI 4 15 a0 fun x32 =>
  bp_if (x32 ≤ x30) (
  k1) (
  bp_getN 4 18 a0 fun a33 =>
  bp_getI 4 19 a0 fun x34 =>
  bp_getN 4 14 a0 fun a35 =>
  bp_aldI 20 a35 x30 fun x36 =>
  bp_astI a33 x34 x36 <|
  bp_getI 4 19 a0 fun x37 =>
  bp_putI 4 19 a0 (x37 + (1 : Int32)) <|
  bp_letI (x30 + (1 : Int32)) fun x38 =>
  k31 x38)
def PX6_read (a0 : Nat) : bp_M Int32 :=
  bp_putI 4 0 a0 (0 : Int32) <|
  bp_putI 4 19 a0 (0 : Int32) <|
  bp_jn (fun (k1 : bp_M Int32) =>
  bp_loop (fun _ => bp_no) (BX6_read_12 a0 k1) (fun k => k (0 : Int32))) (bp_jn (fun (k2 : bp_M Int32) =>
  bp_loop (fun _ => bp_no) (BX6_read_53 a0 k2) (fun k => k (0 : Int32))) (bp_putI 4 22 a0 (0 : Int32) <|
  bp_putI 4 21 a0 (0 : Int32) <|
  bp_putI 4 24 a0 (0 : Int32) <|
  bp_putI 4 25 a0 (0 : Int32) <|
  bp_putI 4 39 a0 (0 : Int32) <|
  bp_jn (fun (k3 : bp_M Int32) =>
  bp_loop (fun _ => bp_no) (BX6_read_119 a0 k3) (fun k => k (0 : Int32))) (bp_getI 4 1 a0 fun x4 =>
  bp_jn (fun (k5 : bp_M Int32) =>
  bp_if (x4 = (2 : Int32)) (
  bp_bind (bp_is 4 a0 (PX6_readEmbedded a0)) fun _ =>
  k5) (
  bp_bind (bp_is 4 a0 (PX6_readFile a0)) fun _ =>
  k5)) (bp_getI 4 22 a0 fun x6 =>
  bp_putI 4 49 a0 x6 <|
  bp_getI 4 22 a0 fun x7 =>
  bp_jn (fun (k9 : Int32 → bp_M Int32) =>
  bp_if (x7 = 0) (
  k9 (1 : Int32)) (
  k9 (0 : Int32))) (fun (x8 : Int32) =>
  bp_putZ 4 47 a0 x8 <|
  bp_getI 4 47 a0 fun x10 =>
  bp_jn (fun (k12 : Int32 → bp_M Int32) =>
  bp_if (x10 = 0) (
  k12 (0 : Int32)) (
  bp_getI 4 25 a0 fun x16 =>
  k12 x16)) (fun (x11 : Int32) =>
  bp_putI 4 48 a0 x11 <|
  bp_getI 4 47 a0 fun x13 =>
  bp_if (x13 = 0) (
  bp_getI 4 23 a0 fun x14 =>
  bp_ret ((-1 : Int32) - x14)) (
  bp_getI 4 25 a0 fun x15 =>
  bp_ret x15)))))))
set_option maxHeartbeats 4000000 in
set_option maxRecDepth 100000 in
theorem cnX6_read {G : bp_GT} (a0 : Nat) : bp_Con G iX6_read (ws_ iX6_read.1 iX6_read.2.1 iX6_read.2.2.1 iX6_read.2.2.2.1) [.ref a0] (PX6_read a0) bp_eI := by
  refine bp_con_of [(0, .ref a0)] rfl (by decide) (Nat.le_of_ble_eq_true rfl) rfl ?_
  unfold PX6_read
  refine bp_j_aload_n 0 dX6_read_0 rfl ?_
  refine bp_j_iconst (v := 0) dX6_read_1 (by decide) ?_
  refine bp_j_putI (t := 4) (k := 0) rfl (by decide) (by decide) (bp_lk q1080) rfl dX6_read_2 rfl ?_
  refine bp_j_aload_n 0 dX6_read_5 rfl ?_
  refine bp_j_iconst (v := 0) dX6_read_6 (by decide) ?_
  refine bp_j_putI (t := 4) (k := 19) rfl (by decide) (by decide) (bp_lk q1099) rfl dX6_read_7 rfl ?_
  refine bp_j_iconst (v := 0) dX6_read_10 (by decide) ?_
  refine bp_j_istore_n (lv' := [(1, .int (0 : Int32)), (0, .ref a0)]) dX6_read_11 (by decide) rfl ?_
  refine bp_j_jm (fun k => bp_J G iX6_read (bp_Qn G bp_eI) (k) 51 [(0, .ref a0)] []) (fun k1 hk1 => ?_) ?_
  · refine bp_j_loop (fun k => ∀ (x30 : Int32), bp_J G iX6_read (bp_Qn G bp_eI) (k x30) 12 [(0, .ref a0), (1, .int x30)] []) (fun _ => bp_j_no) (fun k31 hk31 x30 => ?_) (fun k h => bp_j_sub [1, 0] rfl (h (0 : Int32)))
    unfold BX6_read_12
    refine bp_j_iload_n 1 dX6_read_12 rfl ?_
    refine bp_j_aload_n 0 dX6_read_13 rfl ?_
    refine bp_j_getI (t := 4) (k := 15) rfl (by decide) (bp_lk q1095) dX6_read_14 (fun _ _ _ => rfl) (fun x32 => ?_)
    refine bp_j_icmp_ge (tgt := 51) dX6_read_17 (by decide) ?_ ?_
    · exact bp_j_sub [0] rfl (hk1)
    refine bp_j_aload_n 0 dX6_read_20 rfl ?_
    refine bp_j_getN (t := 4) (k := 18) rfl (by decide) (bp_lk q1098) dX6_read_21 (fun _ _ _ => rfl) (fun a33 => ?_)
    refine bp_j_aload_n 0 dX6_read_24 rfl ?_
    refine bp_j_getI (t := 4) (k := 19) rfl (by decide) (bp_lk q1099) dX6_read_25 (fun _ _ _ => rfl) (fun x34 => ?_)
    refine bp_j_aload_n 0 dX6_read_28 rfl ?_
    refine bp_j_getN (t := 4) (k := 14) rfl (by decide) (bp_lk q1094) dX6_read_29 (fun _ _ _ => rfl) (fun a35 => ?_)
    refine bp_j_iload_n 1 dX6_read_32 rfl ?_
    refine bp_j_iaload dX6_read_33 (fun x36 => ?_)
    refine bp_j_iastore dX6_read_34 ?_
    refine bp_j_aload_n 0 dX6_read_35 rfl ?_
    refine bp_j_dup dX6_read_36 rfl ?_
    refine bp_j_getI (t := 4) (k := 19) rfl (by decide) (bp_lk q1099) dX6_read_37 (fun _ _ _ => rfl) (fun x37 => ?_)
    refine bp_j_iconst (v := 1) dX6_read_40 (by decide) ?_
    refine bp_j_iadd dX6_read_41 ?_
    refine bp_j_putI (t := 4) (k := 19) rfl (by decide) (by decide) (bp_lk q1099) rfl dX6_read_42 rfl ?_
    refine bp_j_iincL (lv' := fun x38 => [(1, .int x38), (0, .ref a0)]) 1 dX6_read_45 rfl (by decide) (by decide) (fun _ => rfl) (fun x38 => ?_)
    refine bp_j_goto (tgt := 12) dX6_read_48 (by decide) ?_
    exact bp_j_sub [1, 0] rfl (hk31 x38)
  refine bp_j_iconst (v := 0) dX6_read_51 (by decide) ?_
  refine bp_j_istore_n (lv' := [(1, .int (0 : Int32)), (0, .ref a0)]) dX6_read_52 (by decide) rfl ?_
  refine bp_j_jm (fun k => bp_J G iX6_read (bp_Qn G bp_eI) (k) 92 [(0, .ref a0)] []) (fun k2 hk2 => ?_) ?_
  · refine bp_j_loop (fun k => ∀ (x21 : Int32), bp_J G iX6_read (bp_Qn G bp_eI) (k x21) 53 [(0, .ref a0), (1, .int x21)] []) (fun _ => bp_j_no) (fun k22 hk22 x21 => ?_) (fun k h => bp_j_sub [1, 0] rfl (h (0 : Int32)))
    unfold BX6_read_53
    refine bp_j_iload_n 1 dX6_read_53 rfl ?_
    refine bp_j_aload_n 0 dX6_read_54 rfl ?_
    refine bp_j_getI (t := 4) (k := 17) rfl (by decide) (bp_lk q1097) dX6_read_55 (fun _ _ _ => rfl) (fun x23 => ?_)
    refine bp_j_icmp_ge (tgt := 92) dX6_read_58 (by decide) ?_ ?_
    · exact bp_j_sub [0] rfl (hk2)
    refine bp_j_aload_n 0 dX6_read_61 rfl ?_
    refine bp_j_getN (t := 4) (k := 18) rfl (by decide) (bp_lk q1098) dX6_read_62 (fun _ _ _ => rfl) (fun a24 => ?_)
    refine bp_j_aload_n 0 dX6_read_65 rfl ?_
    refine bp_j_getI (t := 4) (k := 19) rfl (by decide) (bp_lk q1099) dX6_read_66 (fun _ _ _ => rfl) (fun x25 => ?_)
    refine bp_j_aload_n 0 dX6_read_69 rfl ?_
    refine bp_j_getN (t := 4) (k := 16) rfl (by decide) (bp_lk q1096) dX6_read_70 (fun _ _ _ => rfl) (fun a26 => ?_)
    refine bp_j_iload_n 1 dX6_read_73 rfl ?_
    refine bp_j_iaload dX6_read_74 (fun x27 => ?_)
    refine bp_j_iastore dX6_read_75 ?_
    refine bp_j_aload_n 0 dX6_read_76 rfl ?_
    refine bp_j_dup dX6_read_77 rfl ?_
    refine bp_j_getI (t := 4) (k := 19) rfl (by decide) (bp_lk q1099) dX6_read_78 (fun _ _ _ => rfl) (fun x28 => ?_)
    refine bp_j_iconst (v := 1) dX6_read_81 (by decide) ?_
    refine bp_j_iadd dX6_read_82 ?_
    refine bp_j_putI (t := 4) (k := 19) rfl (by decide) (by decide) (bp_lk q1099) rfl dX6_read_83 rfl ?_
    refine bp_j_iincL (lv' := fun x29 => [(1, .int x29), (0, .ref a0)]) 1 dX6_read_86 rfl (by decide) (by decide) (fun _ => rfl) (fun x29 => ?_)
    refine bp_j_goto (tgt := 53) dX6_read_89 (by decide) ?_
    exact bp_j_sub [1, 0] rfl (hk22 x29)
  refine bp_j_aload_n 0 dX6_read_92 rfl ?_
  refine bp_j_iconst (v := 0) dX6_read_93 (by decide) ?_
  refine bp_j_putI (t := 4) (k := 22) rfl (by decide) (by decide) (bp_lk q1102) rfl dX6_read_94 rfl ?_
  refine bp_j_aload_n 0 dX6_read_97 rfl ?_
  refine bp_j_iconst (v := 0) dX6_read_98 (by decide) ?_
  refine bp_j_putI (t := 4) (k := 21) rfl (by decide) (by decide) (bp_lk q1101) rfl dX6_read_99 rfl ?_
  refine bp_j_aload_n 0 dX6_read_102 rfl ?_
  refine bp_j_iconst (v := 0) dX6_read_103 (by decide) ?_
  refine bp_j_putI (t := 4) (k := 24) rfl (by decide) (by decide) (bp_lk q1104) rfl dX6_read_104 rfl ?_
  refine bp_j_aload_n 0 dX6_read_107 rfl ?_
  refine bp_j_iconst (v := 0) dX6_read_108 (by decide) ?_
  refine bp_j_putI (t := 4) (k := 25) rfl (by decide) (by decide) (bp_lk q1105) rfl dX6_read_109 rfl ?_
  refine bp_j_aload_n 0 dX6_read_112 rfl ?_
  refine bp_j_iconst (v := 0) dX6_read_113 (by decide) ?_
  refine bp_j_putI (t := 4) (k := 39) rfl (by decide) (by decide) (bp_lk q1119) rfl dX6_read_114 rfl ?_
  refine bp_j_iconst (v := 0) dX6_read_117 (by decide) ?_
  refine bp_j_istore_n (lv' := [(1, .int (0 : Int32)), (0, .ref a0)]) dX6_read_118 (by decide) rfl ?_
  refine bp_j_jm (fun k => bp_J G iX6_read (bp_Qn G bp_eI) (k) 138 [(0, .ref a0)] []) (fun k3 hk3 => ?_) ?_
  · refine bp_j_loop (fun k => ∀ (x17 : Int32), bp_J G iX6_read (bp_Qn G bp_eI) (k x17) 119 [(0, .ref a0), (1, .int x17)] []) (fun _ => bp_j_no) (fun k18 hk18 x17 => ?_) (fun k h => bp_j_sub [1, 0] rfl (h (0 : Int32)))
    unfold BX6_read_119
    refine bp_j_iload_n 1 dX6_read_119 rfl ?_
    refine bp_j_bipush (v := 10) dX6_read_120 (by decide) ?_
    refine bp_j_icmp_ge (tgt := 138) dX6_read_122 (by decide) ?_ ?_
    · exact bp_j_sub [0] rfl (hk3)
    refine bp_j_aload_n 0 dX6_read_125 rfl ?_
    refine bp_j_getN (t := 4) (k := 40) rfl (by decide) (bp_lk q1120) dX6_read_126 (fun _ _ _ => rfl) (fun a19 => ?_)
    refine bp_j_iload_n 1 dX6_read_129 rfl ?_
    refine bp_j_iconst (v := 0) dX6_read_130 (by decide) ?_
    refine bp_j_bastoreZ dX6_read_131 ?_
    refine bp_j_iincL (lv' := fun x20 => [(1, .int x20), (0, .ref a0)]) 1 dX6_read_132 rfl (by decide) (by decide) (fun _ => rfl) (fun x20 => ?_)
    refine bp_j_goto (tgt := 119) dX6_read_135 (by decide) ?_
    exact bp_j_sub [1, 0] rfl (hk18 x20)
  refine bp_j_aload_n 0 dX6_read_138 rfl ?_
  refine bp_j_getI (t := 4) (k := 1) rfl (by decide) (bp_lk q1081) dX6_read_139 (fun _ _ _ => rfl) (fun x4 => ?_)
  refine bp_j_iconst (v := 2) dX6_read_142 (by decide) ?_
  refine bp_j_jm (fun k => bp_J G iX6_read (bp_Qn G bp_eI) (k) 157 [(0, .ref a0)] []) (fun k5 hk5 => ?_) ?_
  · refine bp_j_icmp_ne (tgt := 153) dX6_read_143 (by decide) ?_ ?_
    · refine bp_j_aload_n 0 dX6_read_153 rfl ?_
      refine bp_j_cl_U (bp_ranV (t := 4) (n := 0) (As := []) (cnX6_readFile (G := G) a0 ) rfl (lw_V q1454 q1456 qs68 q82 q1457) ⟨rfl, by decide +kernel, by decide +kernel, by decide +kernel⟩ ⟨by decide, by decide⟩ (rest := []) rfl rfl (Nat.le_of_ble_eq_true rfl) dX6_read_154) (by decide) (fun _ => ?_)
      exact hk5
    refine bp_j_aload_n 0 dX6_read_146 rfl ?_
    refine bp_j_cl_U (bp_ranV (t := 4) (n := 0) (As := []) (cnX6_readEmbedded (G := G) a0 ) rfl (lw_V q1354 q1356 qs46 q82 q1357) ⟨rfl, by decide +kernel, by decide +kernel, by decide +kernel⟩ ⟨by decide, by decide⟩ (rest := []) rfl rfl (Nat.le_of_ble_eq_true rfl) dX6_read_147) (by decide) (fun _ => ?_)
    refine bp_j_goto (tgt := 157) dX6_read_150 (by decide) ?_
    exact hk5
  refine bp_j_aload_n 0 dX6_read_157 rfl ?_
  refine bp_j_aload_n 0 dX6_read_158 rfl ?_
  refine bp_j_getI (t := 4) (k := 22) rfl (by decide) (bp_lk q1102) dX6_read_159 (fun _ _ _ => rfl) (fun x6 => ?_)
  refine bp_j_putI (t := 4) (k := 49) rfl (by decide) (by decide) (bp_lk q1129) rfl dX6_read_162 rfl ?_
  refine bp_j_aload_n 0 dX6_read_165 rfl ?_
  refine bp_j_aload_n 0 dX6_read_166 rfl ?_
  refine bp_j_getI (t := 4) (k := 22) rfl (by decide) (bp_lk q1102) dX6_read_167 (fun _ _ _ => rfl) (fun x7 => ?_)
  refine bp_j_jm (fun k => ∀ (x8 : Int32), bp_J G iX6_read (bp_Qn G bp_eI) (k x8) 178 [(0, .ref a0)] [.int x8, .ref a0]) (fun k9 hk9 => ?_) (fun x8 => ?_)
  · refine bp_j_if_ne (tgt := 177) dX6_read_170 (by decide) ?_ ?_
    · refine bp_j_iconst (v := 0) dX6_read_177 (by decide) ?_
      exact hk9 (0 : Int32)
    refine bp_j_iconst (v := 1) dX6_read_173 (by decide) ?_
    refine bp_j_goto (tgt := 178) dX6_read_174 (by decide) ?_
    exact hk9 (1 : Int32)
  refine bp_j_putZ (t := 4) (k := 47) rfl (by decide) (by decide) (bp_lk q1127) rfl dX6_read_178 rfl ?_
  refine bp_j_aload_n 0 dX6_read_181 rfl ?_
  refine bp_j_aload_n 0 dX6_read_182 rfl ?_
  refine bp_j_getI (t := 4) (k := 47) rfl (by decide) (bp_lk q1127) dX6_read_183 (fun _ _ _ => rfl) (fun x10 => ?_)
  refine bp_j_jm (fun k => ∀ (x11 : Int32), bp_J G iX6_read (bp_Qn G bp_eI) (k x11) 197 [(0, .ref a0)] [.int x11, .ref a0]) (fun k12 hk12 => ?_) (fun x11 => ?_)
  · refine bp_j_if_eq (tgt := 196) dX6_read_186 (by decide) ?_ ?_
    · refine bp_j_iconst (v := 0) dX6_read_196 (by decide) ?_
      exact hk12 (0 : Int32)
    refine bp_j_aload_n 0 dX6_read_189 rfl ?_
    refine bp_j_getI (t := 4) (k := 25) rfl (by decide) (bp_lk q1105) dX6_read_190 (fun _ _ _ => rfl) (fun x16 => ?_)
    refine bp_j_goto (tgt := 197) dX6_read_193 (by decide) ?_
    exact hk12 x16
  refine bp_j_putI (t := 4) (k := 48) rfl (by decide) (by decide) (bp_lk q1128) rfl dX6_read_197 rfl ?_
  refine bp_j_aload_n 0 dX6_read_200 rfl ?_
  refine bp_j_getI (t := 4) (k := 47) rfl (by decide) (bp_lk q1127) dX6_read_201 (fun _ _ _ => rfl) (fun x13 => ?_)
  refine bp_j_if_eq (tgt := 214) dX6_read_204 (by decide) ?_ ?_
  · refine bp_j_iconst (v := -1) dX6_read_214 (by decide) ?_
    refine bp_j_aload_n 0 dX6_read_215 rfl ?_
    refine bp_j_getI (t := 4) (k := 23) rfl (by decide) (bp_lk q1103) dX6_read_216 (fun _ _ _ => rfl) (fun x14 => ?_)
    refine bp_j_isub dX6_read_219 ?_
    exact bp_j_iret rfl dX6_read_220
  refine bp_j_aload_n 0 dX6_read_207 rfl ?_
  refine bp_j_getI (t := 4) (k := 25) rfl (by decide) (bp_lk q1105) dX6_read_208 (fun _ _ _ => rfl) (fun x15 => ?_)
  refine bp_j_goto (tgt := 220) dX6_read_211 (by decide) ?_
  exact bp_j_iret rfl dX6_read_220
/-- BilevelPagesModel.isLetGo(II)Z -/
abbrev iX6_isLetGo : bp_MI := (yX6_isLetGo, cX6_isLetGo, 5, some (Jvm.ClassFile.FieldType.boolean), [], 2, 46)
def BX6_isLetGo_5 (a0 : Nat) (xp1 : Int32) (xp2 : Int32) (k3 : Int32 → Int32 → bp_M Int32) : Int32 → Int32 → bp_M Int32 :=
  fun x1 x2 =>
  bp_if (xp2 ≤ x2) (
  bp_retZ x1) (
  bp_jn (fun (k5 : Int32 → bp_M Int32) =>
  bp_if (x1 = 0) (
  bp_getN 4 7 a0 fun a7 =>
  bp_aldI 20 a7 x2 fun x8 =>
  bp_bind (bp_is 4 a0 (PX6_bitOf a0 x2 xp1)) fun x9 =>
  bp_if ((x8 &&& x9) = 0) (
  k5 (0 : Int32)) (
  k5 (1 : Int32))) (
  k5 (1 : Int32))) (fun (x4 : Int32) =>
  bp_letI (x2 + (1 : Int32)) fun x6 =>
  k3 x4 x6))
def PX6_isLetGo (a0 : Nat) (xp1 : Int32) (xp2 : Int32) : bp_M Int32 :=
  bp_loop (fun _ _ => bp_no) (BX6_isLetGo_5 a0 xp1 xp2) (fun k => k (0 : Int32) (0 : Int32))
set_option maxHeartbeats 4000000 in
set_option maxRecDepth 100000 in
theorem cnX6_isLetGo {G : bp_GT} (a0 : Nat) (xp1 : Int32) (xp2 : Int32) : bp_Con G iX6_isLetGo (ws_ iX6_isLetGo.1 iX6_isLetGo.2.1 iX6_isLetGo.2.2.1 iX6_isLetGo.2.2.2.1) [.ref a0, .int xp1, .int xp2] (PX6_isLetGo a0 xp1 xp2) bp_eI := by
  refine bp_con_of [(0, .ref a0), (1, .int xp1), (2, .int xp2)] rfl (by decide) (Nat.le_of_ble_eq_true rfl) rfl ?_
  unfold PX6_isLetGo
  refine bp_j_iconst (v := 0) dX6_isLetGo_0 (by decide) ?_
  refine bp_j_istore_n (lv' := [(3, .int (0 : Int32)), (0, .ref a0), (1, .int xp1), (2, .int xp2)]) dX6_isLetGo_1 (by decide) rfl ?_
  refine bp_j_iconst (v := 0) dX6_isLetGo_2 (by decide) ?_
  refine bp_j_istore (lv' := [(4, .int (0 : Int32)), (3, .int (0 : Int32)), (0, .ref a0), (1, .int xp1), (2, .int xp2)]) dX6_isLetGo_3 (by decide) rfl ?_
  refine bp_j_loop (fun k => ∀ (x1 : Int32) (x2 : Int32), bp_J G iX6_isLetGo (bp_Qn G bp_eI) (k x1 x2) 5 [(0, .ref a0), (1, .int xp1), (2, .int xp2), (3, .int x1), (4, .int x2)] []) (fun _ _ => bp_j_no) (fun k3 hk3 x1 x2 => ?_) (fun k h => bp_j_sub [2, 3, 4, 1, 0] rfl (h (0 : Int32) (0 : Int32)))
  unfold BX6_isLetGo_5
  refine bp_j_iload 4 dX6_isLetGo_5 rfl ?_
  refine bp_j_iload_n 2 dX6_isLetGo_7 rfl ?_
  refine bp_j_icmp_ge (tgt := 45) dX6_isLetGo_8 (by decide) ?_ ?_
  · refine bp_j_iload_n 3 dX6_isLetGo_45 rfl ?_
    exact bp_j_zret rfl dX6_isLetGo_46
  refine bp_j_iload_n 3 dX6_isLetGo_11 rfl ?_
  refine bp_j_jm (fun k => ∀ (x4 : Int32), bp_J G iX6_isLetGo (bp_Qn G bp_eI) (k x4) 38 [(0, .ref a0), (1, .int xp1), (2, .int xp2), (4, .int x2)] [.int x4]) (fun k5 hk5 => ?_) (fun x4 => ?_)
  · refine bp_j_if_ne (tgt := 33) dX6_isLetGo_12 (by decide) ?_ ?_
    · refine bp_j_iconst (v := 1) dX6_isLetGo_33 (by decide) ?_
      refine bp_j_goto (tgt := 38) dX6_isLetGo_34 (by decide) ?_
      exact bp_j_sub [0, 1, 2, 4] rfl (hk5 (1 : Int32))
    refine bp_j_aload_n 0 dX6_isLetGo_15 rfl ?_
    refine bp_j_getN (t := 4) (k := 7) rfl (by decide) (bp_lk q1087) dX6_isLetGo_16 (fun _ _ _ => rfl) (fun a7 => ?_)
    refine bp_j_iload 4 dX6_isLetGo_19 rfl ?_
    refine bp_j_iaload dX6_isLetGo_21 (fun x8 => ?_)
    refine bp_j_aload_n 0 dX6_isLetGo_22 rfl ?_
    refine bp_j_iload 4 dX6_isLetGo_23 rfl ?_
    refine bp_j_iload_n 1 dX6_isLetGo_25 rfl ?_
    refine bp_j_cl_I (bp_ranV (t := 4) (n := 2) (As := [.int x2, .int xp1]) (cnX6_bitOf (G := G) a0 x2 xp1) rfl (lw_V q1269 q1271 qs37 q82 q1272) ⟨rfl, by decide +kernel, by decide +kernel, by decide +kernel⟩ ⟨by decide, by decide⟩ (rest := [.int x8]) rfl rfl (Nat.le_of_ble_eq_true rfl) dX6_isLetGo_26) (by decide) (fun x9 => ?_)
    refine bp_j_iand dX6_isLetGo_29 ?_
    refine bp_j_if_eq (tgt := 37) dX6_isLetGo_30 (by decide) ?_ ?_
    · refine bp_j_iconst (v := 0) dX6_isLetGo_37 (by decide) ?_
      exact bp_j_sub [0, 1, 2, 4] rfl (hk5 (0 : Int32))
    refine bp_j_iconst (v := 1) dX6_isLetGo_33 (by decide) ?_
    refine bp_j_goto (tgt := 38) dX6_isLetGo_34 (by decide) ?_
    exact bp_j_sub [0, 1, 2, 4] rfl (hk5 (1 : Int32))
  refine bp_j_istore_n (lv' := [(3, .int x4), (0, .ref a0), (1, .int xp1), (2, .int xp2), (4, .int x2)]) dX6_isLetGo_38 (by decide) rfl ?_
  refine bp_j_iincL (lv' := fun x6 => [(4, .int x6), (3, .int x4), (0, .ref a0), (1, .int xp1), (2, .int xp2)]) 4 dX6_isLetGo_39 rfl (by decide) (by decide) (fun _ => rfl) (fun x6 => ?_)
  refine bp_j_goto (tgt := 5) dX6_isLetGo_42 (by decide) ?_
  exact bp_j_sub [2, 3, 4, 1, 0] rfl (hk3 x4 x6)
/-- BilevelPagesModel.refers(II)Z -/
abbrev iX6_refers : bp_MI := (yX6_refers, cX6_refers, 3, some (Jvm.ClassFile.FieldType.boolean), [], 3, 70)
def PX6_refers (a0 : Nat) (xp1 : Int32) (xp2 : Int32) : bp_M Int32 :=
  bp_bind (bp_is 4 a0 (PX6_isSegment a0 xp1)) fun x1 =>
  bp_jn (fun (k3 : Int32 → bp_M Int32) =>
  bp_if (x1 = 0) (
  k3 (1 : Int32)) (
  k3 (0 : Int32))) (fun (x2 : Int32) =>
  bp_putI 4 0 a0 x2 <|
  bp_getI 4 0 a0 fun x4 =>
  bp_if (0 < x4) (
  bp_retZ (0 : Int32)) (
  bp_bind (PX6_isIn xp2 (0 : Int32) (xp1 - (1 : Int32))) fun x5 =>
  bp_if (x5 = 0) (
  bp_retZ (0 : Int32)) (
  bp_bind (bp_is 4 a0 (PX6_isLetGo a0 xp2 xp1)) fun x6 =>
  bp_if (x6 = 0) (
  bp_bind (bp_is 4 a0 (PX6_refPlace a0 xp1 xp2)) fun x7 =>
  bp_if (x7 < 0) (
  bp_getN 4 5 a0 fun a8 =>
  bp_aldI 20 a8 xp1 fun x9 =>
  bp_jn (fun (k11 : Int32 → bp_M Int32) =>
  bp_if ((10 : Int32) ≤ x9) (
  k11 (0 : Int32)) (
  k11 (1 : Int32))) (fun (x10 : Int32) =>
  bp_bind (bp_is 4 a0 (PX6_may a0 (1 : Int32) x10 (1 : Int32) (1 : Int32))) fun x12 =>
  bp_if (x12 = 0) (
  bp_retZ (0 : Int32)) (
  bp_getN 4 6 a0 fun a13 =>
  bp_getN 4 5 a0 fun a14 =>
  bp_aldI 20 a14 xp1 fun x15 =>
  bp_astI a13 (((10 : Int32) * xp1) + x15) xp2 <|
  bp_getN 4 5 a0 fun a16 =>
  bp_aldI 20 a16 xp1 fun x17 =>
  bp_astI a16 xp1 (x17 + (1 : Int32)) <|
  bp_retZ (1 : Int32)))) (
  bp_retZ (0 : Int32))) (
  bp_retZ (0 : Int32)))))
set_option maxHeartbeats 4000000 in
set_option maxRecDepth 100000 in
theorem cnX6_refers {G : bp_GT} (a0 : Nat) (xp1 : Int32) (xp2 : Int32) : bp_Con G iX6_refers (ws_ iX6_refers.1 iX6_refers.2.1 iX6_refers.2.2.1 iX6_refers.2.2.2.1) [.ref a0, .int xp1, .int xp2] (PX6_refers a0 xp1 xp2) bp_eI := by
  refine bp_con_of [(0, .ref a0), (1, .int xp1), (2, .int xp2)] rfl (by decide) (Nat.le_of_ble_eq_true rfl) rfl ?_
  unfold PX6_refers
  refine bp_j_aload_n 0 dX6_refers_0 rfl ?_
  refine bp_j_aload_n 0 dX6_refers_1 rfl ?_
  refine bp_j_iload_n 1 dX6_refers_2 rfl ?_
  refine bp_j_cl_I (bp_ranV (t := 4) (n := 1) (As := [.int xp1]) (cnX6_isSegment (G := G) a0 xp1) rfl (lw_V q1261 q1263 qs35 q82 q1264) ⟨rfl, by decide +kernel, by decide +kernel, by decide +kernel⟩ ⟨by decide, by decide⟩ (rest := [.ref a0]) rfl rfl (Nat.le_of_ble_eq_true rfl) dX6_refers_3) (by decide) (fun x1 => ?_)
  refine bp_j_jm (fun k => ∀ (x2 : Int32), bp_J G iX6_refers (bp_Qn G bp_eI) (k x2) 14 [(0, .ref a0), (1, .int xp1), (2, .int xp2)] [.int x2, .ref a0]) (fun k3 hk3 => ?_) (fun x2 => ?_)
  · refine bp_j_if_eq (tgt := 13) dX6_refers_6 (by decide) ?_ ?_
    · refine bp_j_iconst (v := 1) dX6_refers_13 (by decide) ?_
      exact hk3 (1 : Int32)
    refine bp_j_iconst (v := 0) dX6_refers_9 (by decide) ?_
    refine bp_j_goto (tgt := 14) dX6_refers_10 (by decide) ?_
    exact hk3 (0 : Int32)
  refine bp_j_putI (t := 4) (k := 0) rfl (by decide) (by decide) (bp_lk q1080) rfl dX6_refers_14 rfl ?_
  refine bp_j_aload_n 0 dX6_refers_17 rfl ?_
  refine bp_j_getI (t := 4) (k := 0) rfl (by decide) (bp_lk q1080) dX6_refers_18 (fun _ _ _ => rfl) (fun x4 => ?_)
  refine bp_j_if_gt (tgt := 53) dX6_refers_21 (by decide) ?_ ?_
  · refine bp_j_iconst (v := 0) dX6_refers_53 (by decide) ?_
    exact bp_j_zret rfl dX6_refers_54
  refine bp_j_iload_n 2 dX6_refers_24 rfl ?_
  refine bp_j_iconst (v := 0) dX6_refers_25 (by decide) ?_
  refine bp_j_iload_n 1 dX6_refers_26 rfl ?_
  refine bp_j_iconst (v := 1) dX6_refers_27 (by decide) ?_
  refine bp_j_isub dX6_refers_28 ?_
  refine bp_j_cl_I (bp_ranS (n := 3) (As := [.int xp2, .int (0 : Int32), .int (xp1 - (1 : Int32))]) (cnX6_isIn (G := G) xp2 (0 : Int32) (xp1 - (1 : Int32))) (lw_S q1244 q1245 q82 q1246) ⟨by decide +kernel, by decide +kernel, by decide +kernel⟩ ⟨by decide, by decide⟩ (rest := []) rfl rfl (Nat.le_of_ble_eq_true rfl) dX6_refers_29) (by decide) (fun x5 => ?_)
  refine bp_j_if_eq (tgt := 53) dX6_refers_32 (by decide) ?_ ?_
  · refine bp_j_iconst (v := 0) dX6_refers_53 (by decide) ?_
    exact bp_j_zret rfl dX6_refers_54
  refine bp_j_aload_n 0 dX6_refers_35 rfl ?_
  refine bp_j_iload_n 2 dX6_refers_36 rfl ?_
  refine bp_j_iload_n 1 dX6_refers_37 rfl ?_
  refine bp_j_cl_I (bp_ranV (t := 4) (n := 2) (As := [.int xp2, .int xp1]) (cnX6_isLetGo (G := G) a0 xp2 xp1) rfl (lw_V q1265 q1267 qs36 q82 q1268) ⟨rfl, by decide +kernel, by decide +kernel, by decide +kernel⟩ ⟨by decide, by decide⟩ (rest := []) rfl rfl (Nat.le_of_ble_eq_true rfl) dX6_refers_38) (by decide) (fun x6 => ?_)
  refine bp_j_if_ne (tgt := 53) dX6_refers_41 (by decide) ?_ ?_
  · refine bp_j_iconst (v := 0) dX6_refers_53 (by decide) ?_
    exact bp_j_zret rfl dX6_refers_54
  refine bp_j_aload_n 0 dX6_refers_44 rfl ?_
  refine bp_j_iload_n 1 dX6_refers_45 rfl ?_
  refine bp_j_iload_n 2 dX6_refers_46 rfl ?_
  refine bp_j_cl_I (bp_ranV (t := 4) (n := 2) (As := [.int xp1, .int xp2]) (cnX6_refPlace (G := G) a0 xp1 xp2) rfl (lw_V q1273 q1275 qs38 q82 q1276) ⟨rfl, by decide +kernel, by decide +kernel, by decide +kernel⟩ ⟨by decide, by decide⟩ (rest := []) rfl rfl (Nat.le_of_ble_eq_true rfl) dX6_refers_47) (by decide) (fun x7 => ?_)
  refine bp_j_if_lt (tgt := 55) dX6_refers_50 (by decide) ?_ ?_
  · refine bp_j_aload_n 0 dX6_refers_55 rfl ?_
    refine bp_j_iconst (v := 1) dX6_refers_56 (by decide) ?_
    refine bp_j_aload_n 0 dX6_refers_57 rfl ?_
    refine bp_j_getN (t := 4) (k := 5) rfl (by decide) (bp_lk q1085) dX6_refers_58 (fun _ _ _ => rfl) (fun a8 => ?_)
    refine bp_j_iload_n 1 dX6_refers_61 rfl ?_
    refine bp_j_iaload dX6_refers_62 (fun x9 => ?_)
    refine bp_j_bipush (v := 10) dX6_refers_63 (by decide) ?_
    refine bp_j_jm (fun k => ∀ (x10 : Int32), bp_J G iX6_refers (bp_Qn G bp_eI) (k x10) 73 [(0, .ref a0), (1, .int xp1), (2, .int xp2)] [.int x10, .int (1 : Int32), .ref a0]) (fun k11 hk11 => ?_) (fun x10 => ?_)
    · refine bp_j_icmp_ge (tgt := 72) dX6_refers_65 (by decide) ?_ ?_
      · refine bp_j_iconst (v := 0) dX6_refers_72 (by decide) ?_
        exact hk11 (0 : Int32)
      refine bp_j_iconst (v := 1) dX6_refers_68 (by decide) ?_
      refine bp_j_goto (tgt := 73) dX6_refers_69 (by decide) ?_
      exact hk11 (1 : Int32)
    refine bp_j_iconst (v := 1) dX6_refers_73 (by decide) ?_
    refine bp_j_iconst (v := 1) dX6_refers_74 (by decide) ?_
    refine bp_j_cl_I (bp_ranV (t := 4) (n := 4) (As := [.int (1 : Int32), .int x10, .int (1 : Int32), .int (1 : Int32)]) (cnX6_may (G := G) a0 (1 : Int32) x10 (1 : Int32) (1 : Int32)) rfl (lw_V q1247 q1249 qs34 q82 q1250) ⟨rfl, by decide +kernel, by decide +kernel, by decide +kernel⟩ ⟨by decide, by decide⟩ (rest := []) rfl rfl (Nat.le_of_ble_eq_true rfl) dX6_refers_75) (by decide) (fun x12 => ?_)
    refine bp_j_if_ne (tgt := 83) dX6_refers_78 (by decide) ?_ ?_
    · refine bp_j_aload_n 0 dX6_refers_83 rfl ?_
      refine bp_j_getN (t := 4) (k := 6) rfl (by decide) (bp_lk q1086) dX6_refers_84 (fun _ _ _ => rfl) (fun a13 => ?_)
      refine bp_j_bipush (v := 10) dX6_refers_87 (by decide) ?_
      refine bp_j_iload_n 1 dX6_refers_89 rfl ?_
      refine bp_j_imul dX6_refers_90 ?_
      refine bp_j_aload_n 0 dX6_refers_91 rfl ?_
      refine bp_j_getN (t := 4) (k := 5) rfl (by decide) (bp_lk q1085) dX6_refers_92 (fun _ _ _ => rfl) (fun a14 => ?_)
      refine bp_j_iload_n 1 dX6_refers_95 rfl ?_
      refine bp_j_iaload dX6_refers_96 (fun x15 => ?_)
      refine bp_j_iadd dX6_refers_97 ?_
      refine bp_j_iload_n 2 dX6_refers_98 rfl ?_
      refine bp_j_iastore dX6_refers_99 ?_
      refine bp_j_aload_n 0 dX6_refers_100 rfl ?_
      refine bp_j_getN (t := 4) (k := 5) rfl (by decide) (bp_lk q1085) dX6_refers_101 (fun _ _ _ => rfl) (fun a16 => ?_)
      refine bp_j_iload_n 1 dX6_refers_104 rfl ?_
      refine bp_j_dup2 dX6_refers_105 rfl rfl ?_
      refine bp_j_iaload dX6_refers_106 (fun x17 => ?_)
      refine bp_j_iconst (v := 1) dX6_refers_107 (by decide) ?_
      refine bp_j_iadd dX6_refers_108 ?_
      refine bp_j_iastore dX6_refers_109 ?_
      refine bp_j_iconst (v := 1) dX6_refers_110 (by decide) ?_
      exact bp_j_zret rfl dX6_refers_111
    refine bp_j_iconst (v := 0) dX6_refers_81 (by decide) ?_
    exact bp_j_zret rfl dX6_refers_82
  refine bp_j_iconst (v := 0) dX6_refers_53 (by decide) ?_
  exact bp_j_zret rfl dX6_refers_54
/-- BilevelPagesModel.least(II)I -/
abbrev iX6_least : bp_MI := (yX6_least, cX6_least, 2, some (Jvm.ClassFile.FieldType.int), [], 1, 20)
def PX6_least (xp0 : Int32) (xp1 : Int32) : bp_M Int32 :=
  bp_bind (PX6_isRegion xp0) fun x1 =>
  bp_jn (fun (k2 : bp_M Int32) =>
  bp_if (x1 = 0) (
  k2) (
  bp_if (xp1 < (2 : Int32)) (
  bp_ret (1 : Int32)) (
  k2))) (bp_if (xp0 = (48 : Int32)) (
  bp_if (xp1 = 0) (
  bp_ret (1 : Int32)) (
  bp_ret (0 : Int32))) (
  bp_ret (0 : Int32)))
set_option maxHeartbeats 4000000 in
set_option maxRecDepth 100000 in
theorem cnX6_least {G : bp_GT} (xp0 : Int32) (xp1 : Int32) : bp_Con G iX6_least (ws_ iX6_least.1 iX6_least.2.1 iX6_least.2.2.1 iX6_least.2.2.2.1) [.int xp0, .int xp1] (PX6_least xp0 xp1) bp_eI := by
  refine bp_con_of [(0, .int xp0), (1, .int xp1)] rfl (by decide) (Nat.le_of_ble_eq_true rfl) rfl ?_
  unfold PX6_least
  refine bp_j_iload_n 0 dX6_least_0 rfl ?_
  refine bp_j_cl_I (bp_ranS (n := 1) (As := [.int xp0]) (cnX6_isRegion (G := G) xp0) (lw_S q1254 q1255 q82 q1256) ⟨by decide +kernel, by decide +kernel, by decide +kernel⟩ ⟨by decide, by decide⟩ (rest := []) rfl rfl (Nat.le_of_ble_eq_true rfl) dX6_least_1) (by decide) (fun x1 => ?_)
  refine bp_j_jm (fun k => bp_J G iX6_least (bp_Qn G bp_eI) (k) 12 [(0, .int xp0), (1, .int xp1)] []) (fun k2 hk2 => ?_) ?_
  · refine bp_j_if_eq (tgt := 12) dX6_least_4 (by decide) ?_ ?_
    · exact hk2
    refine bp_j_iload_n 1 dX6_least_7 rfl ?_
    refine bp_j_iconst (v := 2) dX6_least_8 (by decide) ?_
    refine bp_j_icmp_lt (tgt := 22) dX6_least_9 (by decide) ?_ ?_
    · refine bp_j_iconst (v := 1) dX6_least_22 (by decide) ?_
      refine bp_j_goto (tgt := 27) dX6_least_23 (by decide) ?_
      exact bp_j_iret rfl dX6_least_27
    exact hk2
  refine bp_j_iload_n 0 dX6_least_12 rfl ?_
  refine bp_j_bipush (v := 48) dX6_least_13 (by decide) ?_
  refine bp_j_icmp_ne (tgt := 26) dX6_least_15 (by decide) ?_ ?_
  · refine bp_j_iconst (v := 0) dX6_least_26 (by decide) ?_
    exact bp_j_iret rfl dX6_least_27
  refine bp_j_iload_n 1 dX6_least_18 rfl ?_
  refine bp_j_if_ne (tgt := 26) dX6_least_19 (by decide) ?_ ?_
  · refine bp_j_iconst (v := 0) dX6_least_26 (by decide) ?_
    exact bp_j_iret rfl dX6_least_27
  refine bp_j_iconst (v := 1) dX6_least_22 (by decide) ?_
  refine bp_j_goto (tgt := 27) dX6_least_23 (by decide) ?_
  exact bp_j_iret rfl dX6_least_27
/-- BilevelPagesModel.segment(II)I -/
abbrev iX6_segment : bp_MI := (yX6_segment, cX6_segment, 5, some (Jvm.ClassFile.FieldType.int), [], 2, 41)
def BX6_segment_124 (a0 : Nat) (x8 : Int32) (k15 : bp_M Int32) (k18 : Int32 → bp_M Int32) : Int32 → bp_M Int32 :=
  fun x17 =>
  bp_if ((16 : Int32) ≤ x17) (
  k15) (
  bp_getN 4 11 a0 fun a19 =>
  bp_astI a19 (((16 : Int32) * x8) + x17) (0 : Int32) <|
  bp_letI (x17 + (1 : Int32)) fun x20 =>
  k18 x20)
def BX6_segment_90 (a0 : Nat) (xp1 : Int32) (x8 : Int32) (k14 : bp_M Int32) (k22 : Int32 → bp_M Int32) : Int32 → bp_M Int32 :=
  fun x21 =>
  bp_if ((6 : Int32) ≤ x21) (
  k14) (
  bp_getN 4 10 a0 fun a23 =>
  bp_bind (PX6_least xp1 x21) fun x24 =>
  bp_astI a23 (((6 : Int32) * x8) + x21) x24 <|
  bp_letI (x21 + (1 : Int32)) fun x25 =>
  k22 x25)
def PX6_segment (a0 : Nat) (xp1 : Int32) (xp2 : Int32) : bp_M Int32 :=
  bp_bind (PX6_isKind xp1) fun x1 =>
  bp_jn (fun (k3 : Int32 → bp_M Int32) =>
  bp_if (x1 = 0) (
  k3 (0 : Int32)) (
  bp_bind (PX6_isIn xp2 (0 : Int32) (9 : Int32)) fun x26 =>
  bp_if (x26 = 0) (
  k3 (0 : Int32)) (
  k3 (1 : Int32)))) (fun (x2 : Int32) =>
  bp_getI 4 2 a0 fun x4 =>
  bp_jn (fun (k6 : Int32 → bp_M Int32) =>
  bp_if ((30 : Int32) ≤ x4) (
  k6 (0 : Int32)) (
  k6 (1 : Int32))) (fun (x5 : Int32) =>
  bp_bind (bp_is 4 a0 (PX6_may a0 x2 x5 (1 : Int32) (1 : Int32))) fun x7 =>
  bp_if (x7 = 0) (
  bp_ret (0 : Int32)) (
  bp_getI 4 2 a0 fun x8 =>
  bp_getN 4 3 a0 fun a9 =>
  bp_astI a9 x8 xp1 <|
  bp_getN 4 4 a0 fun a10 =>
  bp_astI a10 x8 xp2 <|
  bp_getN 4 5 a0 fun a11 =>
  bp_astI a11 x8 (0 : Int32) <|
  bp_getN 4 7 a0 fun a12 =>
  bp_astI a12 x8 (0 : Int32) <|
  bp_getN 4 8 a0 fun a13 =>
  bp_astI a13 x8 (0 : Int32) <|
  bp_jn (fun (k14 : bp_M Int32) =>
  bp_loop (fun _ => bp_no) (BX6_segment_90 a0 xp1 x8 k14) (fun k => k (0 : Int32))) (bp_jn (fun (k15 : bp_M Int32) =>
  bp_loop (fun _ => bp_no) (BX6_segment_124 a0 x8 k15) (fun k => k (0 : Int32))) (bp_getI 4 2 a0 fun x16 =>
  bp_putI 4 2 a0 (x16 + (1 : Int32)) <|
  bp_ret x8)))))
set_option maxHeartbeats 4000000 in
set_option maxRecDepth 100000 in
theorem cnX6_segment {G : bp_GT} (a0 : Nat) (xp1 : Int32) (xp2 : Int32) : bp_Con G iX6_segment (ws_ iX6_segment.1 iX6_segment.2.1 iX6_segment.2.2.1 iX6_segment.2.2.2.1) [.ref a0, .int xp1, .int xp2] (PX6_segment a0 xp1 xp2) bp_eI := by
  refine bp_con_of [(0, .ref a0), (1, .int xp1), (2, .int xp2)] rfl (by decide) (Nat.le_of_ble_eq_true rfl) rfl ?_
  unfold PX6_segment
  refine bp_j_aload_n 0 dX6_segment_0 rfl ?_
  refine bp_j_iload_n 1 dX6_segment_1 rfl ?_
  refine bp_j_cl_I (bp_ranS (n := 1) (As := [.int xp1]) (cnX6_isKind (G := G) xp1) (lw_S q1241 q1242 q82 q1243) ⟨by decide +kernel, by decide +kernel, by decide +kernel⟩ ⟨by decide, by decide⟩ (rest := [.ref a0]) rfl rfl (Nat.le_of_ble_eq_true rfl) dX6_segment_2) (by decide) (fun x1 => ?_)
  refine bp_j_jm (fun k => ∀ (x2 : Int32), bp_J G iX6_segment (bp_Qn G bp_eI) (k x2) 23 [(0, .ref a0), (1, .int xp1), (2, .int xp2)] [.int x2, .ref a0]) (fun k3 hk3 => ?_) (fun x2 => ?_)
  · refine bp_j_if_eq (tgt := 22) dX6_segment_5 (by decide) ?_ ?_
    · refine bp_j_iconst (v := 0) dX6_segment_22 (by decide) ?_
      exact hk3 (0 : Int32)
    refine bp_j_iload_n 2 dX6_segment_8 rfl ?_
    refine bp_j_iconst (v := 0) dX6_segment_9 (by decide) ?_
    refine bp_j_bipush (v := 9) dX6_segment_10 (by decide) ?_
    refine bp_j_cl_I (bp_ranS (n := 3) (As := [.int xp2, .int (0 : Int32), .int (9 : Int32)]) (cnX6_isIn (G := G) xp2 (0 : Int32) (9 : Int32)) (lw_S q1244 q1245 q82 q1246) ⟨by decide +kernel, by decide +kernel, by decide +kernel⟩ ⟨by decide, by decide⟩ (rest := [.ref a0]) rfl rfl (Nat.le_of_ble_eq_true rfl) dX6_segment_12) (by decide) (fun x26 => ?_)
    refine bp_j_if_eq (tgt := 22) dX6_segment_15 (by decide) ?_ ?_
    · refine bp_j_iconst (v := 0) dX6_segment_22 (by decide) ?_
      exact hk3 (0 : Int32)
    refine bp_j_iconst (v := 1) dX6_segment_18 (by decide) ?_
    refine bp_j_goto (tgt := 23) dX6_segment_19 (by decide) ?_
    exact hk3 (1 : Int32)
  refine bp_j_aload_n 0 dX6_segment_23 rfl ?_
  refine bp_j_getI (t := 4) (k := 2) rfl (by decide) (bp_lk q1082) dX6_segment_24 (fun _ _ _ => rfl) (fun x4 => ?_)
  refine bp_j_bipush (v := 30) dX6_segment_27 (by decide) ?_
  refine bp_j_jm (fun k => ∀ (x5 : Int32), bp_J G iX6_segment (bp_Qn G bp_eI) (k x5) 37 [(0, .ref a0), (1, .int xp1), (2, .int xp2)] [.int x5, .int x2, .ref a0]) (fun k6 hk6 => ?_) (fun x5 => ?_)
  · refine bp_j_icmp_ge (tgt := 36) dX6_segment_29 (by decide) ?_ ?_
    · refine bp_j_iconst (v := 0) dX6_segment_36 (by decide) ?_
      exact hk6 (0 : Int32)
    refine bp_j_iconst (v := 1) dX6_segment_32 (by decide) ?_
    refine bp_j_goto (tgt := 37) dX6_segment_33 (by decide) ?_
    exact hk6 (1 : Int32)
  refine bp_j_iconst (v := 1) dX6_segment_37 (by decide) ?_
  refine bp_j_iconst (v := 1) dX6_segment_38 (by decide) ?_
  refine bp_j_cl_I (bp_ranV (t := 4) (n := 4) (As := [.int x2, .int x5, .int (1 : Int32), .int (1 : Int32)]) (cnX6_may (G := G) a0 x2 x5 (1 : Int32) (1 : Int32)) rfl (lw_V q1247 q1249 qs34 q82 q1250) ⟨rfl, by decide +kernel, by decide +kernel, by decide +kernel⟩ ⟨by decide, by decide⟩ (rest := []) rfl rfl (Nat.le_of_ble_eq_true rfl) dX6_segment_39) (by decide) (fun x7 => ?_)
  refine bp_j_if_ne (tgt := 47) dX6_segment_42 (by decide) ?_ ?_
  · refine bp_j_aload_n 0 dX6_segment_47 rfl ?_
    refine bp_j_getI (t := 4) (k := 2) rfl (by decide) (bp_lk q1082) dX6_segment_48 (fun _ _ _ => rfl) (fun x8 => ?_)
    refine bp_j_istore_n (lv' := [(3, .int x8), (0, .ref a0), (1, .int xp1), (2, .int xp2)]) dX6_segment_51 (by decide) rfl ?_
    refine bp_j_aload_n 1 dX6_segment_52 rfl ?_
    refine bp_j_getN (t := 4) (k := 3) rfl (by decide) (bp_lk q1083) dX6_segment_53 (fun _ _ _ => rfl) (fun a9 => ?_)
    refine bp_j_iload_n 0 dX6_segment_56 rfl ?_
    refine bp_j_iload_n 2 dX6_segment_57 rfl ?_
    refine bp_j_iastore dX6_segment_58 ?_
    refine bp_j_aload_n 1 dX6_segment_59 rfl ?_
    refine bp_j_getN (t := 4) (k := 4) rfl (by decide) (bp_lk q1084) dX6_segment_60 (fun _ _ _ => rfl) (fun a10 => ?_)
    refine bp_j_iload_n 0 dX6_segment_63 rfl ?_
    refine bp_j_iload_n 3 dX6_segment_64 rfl ?_
    refine bp_j_iastore dX6_segment_65 ?_
    refine bp_j_aload_n 1 dX6_segment_66 rfl ?_
    refine bp_j_getN (t := 4) (k := 5) rfl (by decide) (bp_lk q1085) dX6_segment_67 (fun _ _ _ => rfl) (fun a11 => ?_)
    refine bp_j_iload_n 0 dX6_segment_70 rfl ?_
    refine bp_j_iconst (v := 0) dX6_segment_71 (by decide) ?_
    refine bp_j_iastore dX6_segment_72 ?_
    refine bp_j_aload_n 1 dX6_segment_73 rfl ?_
    refine bp_j_getN (t := 4) (k := 7) rfl (by decide) (bp_lk q1087) dX6_segment_74 (fun _ _ _ => rfl) (fun a12 => ?_)
    refine bp_j_iload_n 0 dX6_segment_77 rfl ?_
    refine bp_j_iconst (v := 0) dX6_segment_78 (by decide) ?_
    refine bp_j_iastore dX6_segment_79 ?_
    refine bp_j_aload_n 1 dX6_segment_80 rfl ?_
    refine bp_j_getN (t := 4) (k := 8) rfl (by decide) (bp_lk q1088) dX6_segment_81 (fun _ _ _ => rfl) (fun a13 => ?_)
    refine bp_j_iload_n 0 dX6_segment_84 rfl ?_
    refine bp_j_iconst (v := 0) dX6_segment_85 (by decide) ?_
    refine bp_j_iastore dX6_segment_86 ?_
    refine bp_j_iconst (v := 0) dX6_segment_87 (by decide) ?_
    refine bp_j_istore (lv' := [(4, .int (0 : Int32)), (3, .int x8), (0, .ref a0), (1, .int xp1), (2, .int xp2)]) dX6_segment_88 (by decide) rfl ?_
    refine bp_j_jm (fun k => bp_J G iX6_segment (bp_Qn G bp_eI) (k) 121 [(0, .ref a0), (3, .int x8)] []) (fun k14 hk14 => ?_) ?_
    · refine bp_j_loop (fun k => ∀ (x21 : Int32), bp_J G iX6_segment (bp_Qn G bp_eI) (k x21) 90 [(0, .ref a0), (1, .int xp1), (3, .int x8), (4, .int x21)] []) (fun _ => bp_j_no) (fun k22 hk22 x21 => ?_) (fun k h => bp_j_sub [2, 3, 1, 0] rfl (h (0 : Int32)))
      unfold BX6_segment_90
      refine bp_j_iload 3 dX6_segment_90 rfl ?_
      refine bp_j_bipush (v := 6) dX6_segment_92 (by decide) ?_
      refine bp_j_icmp_ge (tgt := 121) dX6_segment_94 (by decide) ?_ ?_
      · exact bp_j_sub [0, 2] rfl (hk14)
      refine bp_j_aload_n 0 dX6_segment_97 rfl ?_
      refine bp_j_getN (t := 4) (k := 10) rfl (by decide) (bp_lk q1090) dX6_segment_98 (fun _ _ _ => rfl) (fun a23 => ?_)
      refine bp_j_bipush (v := 6) dX6_segment_101 (by decide) ?_
      refine bp_j_iload_n 2 dX6_segment_103 rfl ?_
      refine bp_j_imul dX6_segment_104 ?_
      refine bp_j_iload 3 dX6_segment_105 rfl ?_
      refine bp_j_iadd dX6_segment_107 ?_
      refine bp_j_iload_n 1 dX6_segment_108 rfl ?_
      refine bp_j_iload 3 dX6_segment_109 rfl ?_
      refine bp_j_cl_I (bp_ranS (n := 2) (As := [.int xp1, .int x21]) (cnX6_least (G := G) xp1 x21) (lw_S q1251 q1252 q82 q1253) ⟨by decide +kernel, by decide +kernel, by decide +kernel⟩ ⟨by decide, by decide⟩ (rest := [.int (((6 : Int32) * x8) + x21), .ref a23]) rfl rfl (Nat.le_of_ble_eq_true rfl) dX6_segment_111) (by decide) (fun x24 => ?_)
      refine bp_j_iastore dX6_segment_114 ?_
      refine bp_j_iincL (lv' := fun x25 => [(4, .int x25), (0, .ref a0), (1, .int xp1), (3, .int x8)]) 3 dX6_segment_115 rfl (by decide) (by decide) (fun _ => rfl) (fun x25 => ?_)
      refine bp_j_goto (tgt := 90) dX6_segment_118 (by decide) ?_
      exact bp_j_sub [1, 2, 3, 0] rfl (hk22 x25)
    refine bp_j_iconst (v := 0) dX6_segment_121 (by decide) ?_
    refine bp_j_istore (lv' := [(4, .int (0 : Int32)), (0, .ref a0), (3, .int x8)]) dX6_segment_122 (by decide) rfl ?_
    refine bp_j_jm (fun k => bp_J G iX6_segment (bp_Qn G bp_eI) (k) 150 [(0, .ref a0), (3, .int x8)] []) (fun k15 hk15 => ?_) ?_
    · refine bp_j_loop (fun k => ∀ (x17 : Int32), bp_J G iX6_segment (bp_Qn G bp_eI) (k x17) 124 [(0, .ref a0), (3, .int x8), (4, .int x17)] []) (fun _ => bp_j_no) (fun k18 hk18 x17 => ?_) (fun k h => bp_j_sub [1, 2, 0] rfl (h (0 : Int32)))
      unfold BX6_segment_124
      refine bp_j_iload 2 dX6_segment_124 rfl ?_
      refine bp_j_bipush (v := 16) dX6_segment_126 (by decide) ?_
      refine bp_j_icmp_ge (tgt := 150) dX6_segment_128 (by decide) ?_ ?_
      · exact bp_j_sub [0, 1] rfl (hk15)
      refine bp_j_aload_n 0 dX6_segment_131 rfl ?_
      refine bp_j_getN (t := 4) (k := 11) rfl (by decide) (bp_lk q1091) dX6_segment_132 (fun _ _ _ => rfl) (fun a19 => ?_)
      refine bp_j_bipush (v := 16) dX6_segment_135 (by decide) ?_
      refine bp_j_iload_n 1 dX6_segment_137 rfl ?_
      refine bp_j_imul dX6_segment_138 ?_
      refine bp_j_iload 2 dX6_segment_139 rfl ?_
      refine bp_j_iadd dX6_segment_141 ?_
      refine bp_j_iconst (v := 0) dX6_segment_142 (by decide) ?_
      refine bp_j_iastore dX6_segment_143 ?_
      refine bp_j_iincL (lv' := fun x20 => [(4, .int x20), (0, .ref a0), (3, .int x8)]) 2 dX6_segment_144 rfl (by decide) (by decide) (fun _ => rfl) (fun x20 => ?_)
      refine bp_j_goto (tgt := 124) dX6_segment_147 (by decide) ?_
      exact bp_j_sub [1, 2, 0] rfl (hk18 x20)
    refine bp_j_aload_n 0 dX6_segment_150 rfl ?_
    refine bp_j_dup dX6_segment_151 rfl ?_
    refine bp_j_getI (t := 4) (k := 2) rfl (by decide) (bp_lk q1082) dX6_segment_152 (fun _ _ _ => rfl) (fun x16 => ?_)
    refine bp_j_iconst (v := 1) dX6_segment_155 (by decide) ?_
    refine bp_j_iadd dX6_segment_156 ?_
    refine bp_j_putI (t := 4) (k := 2) rfl (by decide) (by decide) (bp_lk q1082) rfl dX6_segment_157 rfl ?_
    refine bp_j_iload_n 1 dX6_segment_160 rfl ?_
    exact bp_j_iret rfl dX6_segment_161
  refine bp_j_iconst (v := 0) dX6_segment_45 (by decide) ?_
  exact bp_j_iret rfl dX6_segment_46
/-- BilevelPagesModel.stripe(II)I -/
abbrev iX6_stripe : bp_MI := (yX6_stripe, cX6_stripe, 3, some (Jvm.ClassFile.FieldType.int), [], 2, 46)
def PX6_stripe (a0 : Nat) (xp1 : Int32) (xp2 : Int32) : bp_M Int32 :=
  bp_bind (bp_is 4 a0 (PX6_mayPage a0 xp1 (1 : Int32))) fun x1 =>
  bp_if (x1 = 0) (
  bp_ret (0 : Int32)) (
  bp_getN 4 44 a0 fun a2 =>
  bp_aldI 20 a2 xp1 fun x3 =>
  bp_bind (PX6_isIn xp2 (0 : Int32) (x3 - (1 : Int32))) fun x4 =>
  bp_bind (bp_is 4 a0 (PX6_mayPage a0 xp1 x4)) fun x5 =>
  bp_if (x5 = 0) (
  bp_ret (0 : Int32)) (
  bp_getN 4 45 a0 fun a6 =>
  bp_aldI 20 a6 (((32 : Int32) * xp1) + xp2) fun x7 =>
  bp_ret x7))
set_option maxHeartbeats 4000000 in
set_option maxRecDepth 100000 in
theorem cnX6_stripe {G : bp_GT} (a0 : Nat) (xp1 : Int32) (xp2 : Int32) : bp_Con G iX6_stripe (ws_ iX6_stripe.1 iX6_stripe.2.1 iX6_stripe.2.2.1 iX6_stripe.2.2.2.1) [.ref a0, .int xp1, .int xp2] (PX6_stripe a0 xp1 xp2) bp_eI := by
  refine bp_con_of [(0, .ref a0), (1, .int xp1), (2, .int xp2)] rfl (by decide) (Nat.le_of_ble_eq_true rfl) rfl ?_
  unfold PX6_stripe
  refine bp_j_aload_n 0 dX6_stripe_0 rfl ?_
  refine bp_j_iload_n 1 dX6_stripe_1 rfl ?_
  refine bp_j_iconst (v := 1) dX6_stripe_2 (by decide) ?_
  refine bp_j_cl_I (bp_ranV (t := 4) (n := 2) (As := [.int xp1, .int (1 : Int32)]) (cnX6_mayPage (G := G) a0 xp1 (1 : Int32)) rfl (lw_V q1466 q1468 qs69 q82 q1469) ⟨rfl, by decide +kernel, by decide +kernel, by decide +kernel⟩ ⟨by decide, by decide⟩ (rest := []) rfl rfl (Nat.le_of_ble_eq_true rfl) dX6_stripe_3) (by decide) (fun x1 => ?_)
  refine bp_j_if_eq (tgt := 30) dX6_stripe_6 (by decide) ?_ ?_
  · refine bp_j_iconst (v := 0) dX6_stripe_30 (by decide) ?_
    exact bp_j_iret rfl dX6_stripe_31
  refine bp_j_aload_n 0 dX6_stripe_9 rfl ?_
  refine bp_j_iload_n 1 dX6_stripe_10 rfl ?_
  refine bp_j_iload_n 2 dX6_stripe_11 rfl ?_
  refine bp_j_iconst (v := 0) dX6_stripe_12 (by decide) ?_
  refine bp_j_aload_n 0 dX6_stripe_13 rfl ?_
  refine bp_j_getN (t := 4) (k := 44) rfl (by decide) (bp_lk q1124) dX6_stripe_14 (fun _ _ _ => rfl) (fun a2 => ?_)
  refine bp_j_iload_n 1 dX6_stripe_17 rfl ?_
  refine bp_j_iaload dX6_stripe_18 (fun x3 => ?_)
  refine bp_j_iconst (v := 1) dX6_stripe_19 (by decide) ?_
  refine bp_j_isub dX6_stripe_20 ?_
  refine bp_j_cl_I (bp_ranS (n := 3) (As := [.int xp2, .int (0 : Int32), .int (x3 - (1 : Int32))]) (cnX6_isIn (G := G) xp2 (0 : Int32) (x3 - (1 : Int32))) (lw_S q1244 q1245 q82 q1246) ⟨by decide +kernel, by decide +kernel, by decide +kernel⟩ ⟨by decide, by decide⟩ (rest := [.int xp1, .ref a0]) rfl rfl (Nat.le_of_ble_eq_true rfl) dX6_stripe_21) (by decide) (fun x4 => ?_)
  refine bp_j_cl_I (bp_ranV (t := 4) (n := 2) (As := [.int xp1, .int x4]) (cnX6_mayPage (G := G) a0 xp1 x4) rfl (lw_V q1466 q1468 qs69 q82 q1469) ⟨rfl, by decide +kernel, by decide +kernel, by decide +kernel⟩ ⟨by decide, by decide⟩ (rest := []) rfl rfl (Nat.le_of_ble_eq_true rfl) dX6_stripe_24) (by decide) (fun x5 => ?_)
  refine bp_j_if_ne (tgt := 32) dX6_stripe_27 (by decide) ?_ ?_
  · refine bp_j_aload_n 0 dX6_stripe_32 rfl ?_
    refine bp_j_getN (t := 4) (k := 45) rfl (by decide) (bp_lk q1125) dX6_stripe_33 (fun _ _ _ => rfl) (fun a6 => ?_)
    refine bp_j_bipush (v := 32) dX6_stripe_36 (by decide) ?_
    refine bp_j_iload_n 1 dX6_stripe_38 rfl ?_
    refine bp_j_imul dX6_stripe_39 ?_
    refine bp_j_iload_n 2 dX6_stripe_40 rfl ?_
    refine bp_j_iadd dX6_stripe_41 ?_
    refine bp_j_iaload dX6_stripe_42 (fun x7 => ?_)
    exact bp_j_iret rfl dX6_stripe_43
  refine bp_j_iconst (v := 0) dX6_stripe_30 (by decide) ?_
  exact bp_j_iret rfl dX6_stripe_31
/-- BilevelPagesModel.thrown()I -/
abbrev iX6_thrown : bp_MI := (yX6_thrown, cX6_thrown, 1, some (Jvm.ClassFile.FieldType.int), [], 0, 0)
def PX6_thrown (a0 : Nat) : bp_M Int32 :=
  bp_getI 4 0 a0 fun x1 =>
  bp_ret x1
set_option maxHeartbeats 4000000 in
set_option maxRecDepth 100000 in
theorem cnX6_thrown {G : bp_GT} (a0 : Nat) : bp_Con G iX6_thrown (ws_ iX6_thrown.1 iX6_thrown.2.1 iX6_thrown.2.2.1 iX6_thrown.2.2.2.1) [.ref a0] (PX6_thrown a0) bp_eI := by
  refine bp_con_of [(0, .ref a0)] rfl (by decide) (Nat.le_of_ble_eq_true rfl) rfl ?_
  unfold PX6_thrown
  refine bp_j_aload_n 0 dX6_thrown_0 rfl ?_
  refine bp_j_getI (t := 4) (k := 0) rfl (by decide) (bp_lk q1080) dX6_thrown_1 (fun _ _ _ => rfl) (fun x1 => ?_)
  exact bp_j_iret rfl dX6_thrown_4
/-- BilevelPagesModel.told(I)I -/
abbrev iX6_told : bp_MI := (yX6_told, cX6_told, 4, some (Jvm.ClassFile.FieldType.int), [], 0, 0)
def BX6_told_91 (a0 : Nat) (k10 : Int32 → Int32 → bp_M Int32) : Int32 → Int32 → bp_M Int32 :=
  fun x8 x9 =>
  bp_if ((10 : Int32) ≤ x9) (
  bp_ret x8) (
  bp_getI 4 47 a0 fun x11 =>
  bp_if (x11 = 0) (
  bp_ret x8) (
  bp_getN 4 40 a0 fun a12 =>
  bp_aldI 22 a12 x9 fun x13 =>
  bp_jn (fun (k15 : Int32 → bp_M Int32) =>
  bp_if (x13 = 0) (
  k15 (0 : Int32)) (
  k15 (1 : Int32))) (fun (x14 : Int32) =>
  bp_letI (x8 + x14) fun x16 =>
  bp_letI (x9 + (1 : Int32)) fun x17 =>
  k10 x16 x17)))
def PX6_told (a0 : Nat) (xp1 : Int32) : bp_M Int32 :=
  bp_putI 4 0 a0 (0 : Int32) <|
  bp_sw (xp1).toInt [(0, (
  bp_getI 4 1 a0 fun x1 =>
  bp_ret x1)), (1, (
  bp_getI 4 2 a0 fun x2 =>
  bp_ret x2)), (2, (
  bp_getI 4 13 a0 fun x3 =>
  bp_ret x3)), (3, (
  bp_getI 4 17 a0 fun x4 =>
  bp_ret x4)), (4, (
  bp_getI 4 15 a0 fun x5 =>
  bp_ret x5)), (5, (
  bp_getI 4 49 a0 fun x6 =>
  bp_ret x6)), (6, (
  bp_getI 4 48 a0 fun x7 =>
  bp_ret x7)), (7, (
  bp_loop (fun _ _ => bp_no) (BX6_told_91 a0) (fun k => k (0 : Int32) (0 : Int32))))] (
  bp_ret (-1 : Int32))
set_option maxHeartbeats 4000000 in
set_option maxRecDepth 100000 in
theorem cnX6_told {G : bp_GT} (a0 : Nat) (xp1 : Int32) : bp_Con G iX6_told (ws_ iX6_told.1 iX6_told.2.1 iX6_told.2.2.1 iX6_told.2.2.2.1) [.ref a0, .int xp1] (PX6_told a0 xp1) bp_eI := by
  refine bp_con_of [(0, .ref a0), (1, .int xp1)] rfl (by decide) (Nat.le_of_ble_eq_true rfl) rfl ?_
  unfold PX6_told
  refine bp_j_aload_n 0 dX6_told_0 rfl ?_
  refine bp_j_iconst (v := 0) dX6_told_1 (by decide) ?_
  refine bp_j_putI (t := 4) (k := 0) rfl (by decide) (by decide) (bp_lk q1080) rfl dX6_told_2 rfl ?_
  refine bp_j_iload_n 1 dX6_told_5 rfl ?_
  refine bp_j_tsw (tgt := 129) [52, 57, 62, 67, 72, 77, 82, 87] dX6_told_6 rfl rfl rfl (by decide) (bp_JSc ?_ (bp_JSc ?_ (bp_JSc ?_ (bp_JSc ?_ (bp_JSc ?_ (bp_JSc ?_ (bp_JSc ?_ (bp_JSc ?_ bp_JSn)))))))) ?_
  · refine bp_j_aload_n 0 dX6_told_52 rfl ?_
    refine bp_j_getI (t := 4) (k := 1) rfl (by decide) (bp_lk q1081) dX6_told_53 (fun _ _ _ => rfl) (fun x1 => ?_)
    exact bp_j_iret rfl dX6_told_56
  · refine bp_j_aload_n 0 dX6_told_57 rfl ?_
    refine bp_j_getI (t := 4) (k := 2) rfl (by decide) (bp_lk q1082) dX6_told_58 (fun _ _ _ => rfl) (fun x2 => ?_)
    exact bp_j_iret rfl dX6_told_61
  · refine bp_j_aload_n 0 dX6_told_62 rfl ?_
    refine bp_j_getI (t := 4) (k := 13) rfl (by decide) (bp_lk q1093) dX6_told_63 (fun _ _ _ => rfl) (fun x3 => ?_)
    exact bp_j_iret rfl dX6_told_66
  · refine bp_j_aload_n 0 dX6_told_67 rfl ?_
    refine bp_j_getI (t := 4) (k := 17) rfl (by decide) (bp_lk q1097) dX6_told_68 (fun _ _ _ => rfl) (fun x4 => ?_)
    exact bp_j_iret rfl dX6_told_71
  · refine bp_j_aload_n 0 dX6_told_72 rfl ?_
    refine bp_j_getI (t := 4) (k := 15) rfl (by decide) (bp_lk q1095) dX6_told_73 (fun _ _ _ => rfl) (fun x5 => ?_)
    exact bp_j_iret rfl dX6_told_76
  · refine bp_j_aload_n 0 dX6_told_77 rfl ?_
    refine bp_j_getI (t := 4) (k := 49) rfl (by decide) (bp_lk q1129) dX6_told_78 (fun _ _ _ => rfl) (fun x6 => ?_)
    exact bp_j_iret rfl dX6_told_81
  · refine bp_j_aload_n 0 dX6_told_82 rfl ?_
    refine bp_j_getI (t := 4) (k := 48) rfl (by decide) (bp_lk q1128) dX6_told_83 (fun _ _ _ => rfl) (fun x7 => ?_)
    exact bp_j_iret rfl dX6_told_86
  · refine bp_j_iconst (v := 0) dX6_told_87 (by decide) ?_
    refine bp_j_istore_n (lv' := [(2, .int (0 : Int32)), (0, .ref a0), (1, .int xp1)]) dX6_told_88 (by decide) rfl ?_
    refine bp_j_iconst (v := 0) dX6_told_89 (by decide) ?_
    refine bp_j_istore_n (lv' := [(3, .int (0 : Int32)), (2, .int (0 : Int32)), (0, .ref a0), (1, .int xp1)]) dX6_told_90 (by decide) rfl ?_
    refine bp_j_loop (fun k => ∀ (x8 : Int32) (x9 : Int32), bp_J G iX6_told (bp_Qn G bp_eI) (k x8 x9) 91 [(0, .ref a0), (2, .int x8), (3, .int x9)] []) (fun _ _ => bp_j_no) (fun k10 hk10 x8 x9 => ?_) (fun k h => bp_j_sub [2, 1, 0] rfl (h (0 : Int32) (0 : Int32)))
    unfold BX6_told_91
    refine bp_j_iload_n 2 dX6_told_91 rfl ?_
    refine bp_j_bipush (v := 10) dX6_told_92 (by decide) ?_
    refine bp_j_icmp_ge (tgt := 127) dX6_told_94 (by decide) ?_ ?_
    · refine bp_j_iload_n 1 dX6_told_127 rfl ?_
      exact bp_j_iret rfl dX6_told_128
    refine bp_j_aload_n 0 dX6_told_97 rfl ?_
    refine bp_j_getI (t := 4) (k := 47) rfl (by decide) (bp_lk q1127) dX6_told_98 (fun _ _ _ => rfl) (fun x11 => ?_)
    refine bp_j_if_eq (tgt := 127) dX6_told_101 (by decide) ?_ ?_
    · refine bp_j_iload_n 1 dX6_told_127 rfl ?_
      exact bp_j_iret rfl dX6_told_128
    refine bp_j_iload_n 1 dX6_told_104 rfl ?_
    refine bp_j_aload_n 0 dX6_told_105 rfl ?_
    refine bp_j_getN (t := 4) (k := 40) rfl (by decide) (bp_lk q1120) dX6_told_106 (fun _ _ _ => rfl) (fun a12 => ?_)
    refine bp_j_iload_n 2 dX6_told_109 rfl ?_
    refine bp_j_baloadZ dX6_told_110 (fun x13 => ?_)
    refine bp_j_jm (fun k => ∀ (x14 : Int32), bp_J G iX6_told (bp_Qn G bp_eI) (k x14) 119 [(0, .ref a0), (3, .int x9)] [.int x14, .int x8]) (fun k15 hk15 => ?_) (fun x14 => ?_)
    · refine bp_j_if_eq (tgt := 118) dX6_told_111 (by decide) ?_ ?_
      · refine bp_j_iconst (v := 0) dX6_told_118 (by decide) ?_
        exact bp_j_sub [0, 2] rfl (hk15 (0 : Int32))
      refine bp_j_iconst (v := 1) dX6_told_114 (by decide) ?_
      refine bp_j_goto (tgt := 119) dX6_told_115 (by decide) ?_
      exact bp_j_sub [0, 2] rfl (hk15 (1 : Int32))
    refine bp_j_iadd dX6_told_119 ?_
    refine bp_j_letI (fun x16 => ?_)
    refine bp_j_istore_n (lv' := [(2, .int x16), (0, .ref a0), (3, .int x9)]) dX6_told_120 (by decide) rfl ?_
    refine bp_j_iincL (lv' := fun x17 => [(3, .int x17), (2, .int x16), (0, .ref a0)]) 2 dX6_told_121 rfl (by decide) (by decide) (fun _ => rfl) (fun x17 => ?_)
    refine bp_j_goto (tgt := 91) dX6_told_124 (by decide) ?_
    exact bp_j_sub [2, 1, 0] rfl (hk10 x16 x17)
  refine bp_j_iconst (v := -1) dX6_told_129 (by decide) ?_
  exact bp_j_iret rfl dX6_told_130
/-- BilevelPagesModel.put(I)V -/
abbrev iX6_put : bp_MI := (yX6_put, cX6_put, 2, none, [], 0, 0)
def PX6_put (a0 : Nat) (xp1 : Int32) : bp_M Unit :=
  bp_getN 4 12 a0 fun a1 =>
  bp_getI 4 13 a0 fun x2 =>
  bp_astI a1 x2 (xp1 &&& (255 : Int32)) <|
  bp_getI 4 13 a0 fun x3 =>
  bp_putI 4 13 a0 (x3 + (1 : Int32)) <|
  bp_ret ()
set_option maxHeartbeats 4000000 in
set_option maxRecDepth 100000 in
theorem cnX6_put {G : bp_GT} (a0 : Nat) (xp1 : Int32) : bp_Con G iX6_put (ws_ iX6_put.1 iX6_put.2.1 iX6_put.2.2.1 iX6_put.2.2.2.1) [.ref a0, .int xp1] (PX6_put a0 xp1) bp_eU := by
  refine bp_con_of [(0, .ref a0), (1, .int xp1)] rfl (by decide) (Nat.le_of_ble_eq_true rfl) rfl ?_
  unfold PX6_put
  refine bp_j_aload_n 0 dX6_put_0 rfl ?_
  refine bp_j_getN (t := 4) (k := 12) rfl (by decide) (bp_lk q1092) dX6_put_1 (fun _ _ _ => rfl) (fun a1 => ?_)
  refine bp_j_aload_n 0 dX6_put_4 rfl ?_
  refine bp_j_getI (t := 4) (k := 13) rfl (by decide) (bp_lk q1093) dX6_put_5 (fun _ _ _ => rfl) (fun x2 => ?_)
  refine bp_j_iload_n 1 dX6_put_8 rfl ?_
  refine bp_j_sipush (v := 255) dX6_put_9 (by decide) ?_
  refine bp_j_iand dX6_put_12 ?_
  refine bp_j_iastore dX6_put_13 ?_
  refine bp_j_aload_n 0 dX6_put_14 rfl ?_
  refine bp_j_dup dX6_put_15 rfl ?_
  refine bp_j_getI (t := 4) (k := 13) rfl (by decide) (bp_lk q1093) dX6_put_16 (fun _ _ _ => rfl) (fun x3 => ?_)
  refine bp_j_iconst (v := 1) dX6_put_19 (by decide) ?_
  refine bp_j_iadd dX6_put_20 ?_
  refine bp_j_putI (t := 4) (k := 13) rfl (by decide) (by decide) (bp_lk q1093) rfl dX6_put_21 rfl ?_
  exact bp_j_vret rfl dX6_put_24
/-- BilevelPagesModel.putFour(I)V -/
abbrev iX6_putFour : bp_MI := (yX6_putFour, cX6_putFour, 3, none, [], 1, 21)
def BX6_putFour_3 (a0 : Nat) (xp1 : Int32) (k2 : Int32 → bp_M Unit) : Int32 → bp_M Unit :=
  fun x1 =>
  bp_if (x1 < 0) (
  bp_ret ()) (
  bp_bind (bp_is 4 a0 (PX6_put a0 (xp1 >>> (x1 &&& 31)))) fun _ =>
  bp_letI (x1 + (-8 : Int32)) fun x3 =>
  k2 x3)
def PX6_putFour (a0 : Nat) (xp1 : Int32) : bp_M Unit :=
  bp_loop (fun _ => bp_no) (BX6_putFour_3 a0 xp1) (fun k => k (24 : Int32))
set_option maxHeartbeats 4000000 in
set_option maxRecDepth 100000 in
theorem cnX6_putFour {G : bp_GT} (a0 : Nat) (xp1 : Int32) : bp_Con G iX6_putFour (ws_ iX6_putFour.1 iX6_putFour.2.1 iX6_putFour.2.2.1 iX6_putFour.2.2.2.1) [.ref a0, .int xp1] (PX6_putFour a0 xp1) bp_eU := by
  refine bp_con_of [(0, .ref a0), (1, .int xp1)] rfl (by decide) (Nat.le_of_ble_eq_true rfl) rfl ?_
  unfold PX6_putFour
  refine bp_j_bipush (v := 24) dX6_putFour_0 (by decide) ?_
  refine bp_j_istore_n (lv' := [(2, .int (24 : Int32)), (0, .ref a0), (1, .int xp1)]) dX6_putFour_2 (by decide) rfl ?_
  refine bp_j_loop (fun k => ∀ (x1 : Int32), bp_J G iX6_putFour (bp_Qn G bp_eU) (k x1) 3 [(0, .ref a0), (1, .int xp1), (2, .int x1)] []) (fun _ => bp_j_no) (fun k2 hk2 x1 => ?_) (fun k h => bp_j_sub [1, 2, 0] rfl (h (24 : Int32)))
  unfold BX6_putFour_3
  refine bp_j_iload_n 2 dX6_putFour_3 rfl ?_
  refine bp_j_if_lt (tgt := 20) dX6_putFour_4 (by decide) ?_ ?_
  · exact bp_j_vret rfl dX6_putFour_20
  refine bp_j_aload_n 0 dX6_putFour_7 rfl ?_
  refine bp_j_iload_n 1 dX6_putFour_8 rfl ?_
  refine bp_j_iload_n 2 dX6_putFour_9 rfl ?_
  refine bp_j_ishr dX6_putFour_10 ?_
  refine bp_j_cl_U (bp_ranV (t := 4) (n := 1) (As := [.int (xp1 >>> (x1 &&& 31))]) (cnX6_put (G := G) a0 (xp1 >>> (x1 &&& 31))) rfl (lw_V q1306 q1308 qs39 q82 q1309) ⟨rfl, by decide +kernel, by decide +kernel, by decide +kernel⟩ ⟨by decide, by decide⟩ (rest := []) rfl rfl (Nat.le_of_ble_eq_true rfl) dX6_putFour_11) (by decide) (fun _ => ?_)
  refine bp_j_iincL (lv' := fun x3 => [(2, .int x3), (0, .ref a0), (1, .int xp1)]) 2 dX6_putFour_14 rfl (by decide) (by decide) (fun _ => rfl) (fun x3 => ?_)
  refine bp_j_goto (tgt := 3) dX6_putFour_17 (by decide) ?_
  exact bp_j_sub [1, 2, 0] rfl (hk2 x3)
/-- BilevelPagesModel.isOpen(I)Z -/
abbrev iX6_isOpen : bp_MI := (yX6_isOpen, cX6_isOpen, 2, some (Jvm.ClassFile.FieldType.boolean), [], 0, 0)
def PX6_isOpen (a0 : Nat) (xp1 : Int32) : bp_M Int32 :=
  bp_getN 4 3 a0 fun a1 =>
  bp_aldI 20 a1 xp1 fun x2 =>
  bp_if (x2 = (38 : Int32)) (
  bp_getN 4 10 a0 fun a3 =>
  bp_aldI 20 a3 (((6 : Int32) * xp1) + (5 : Int32)) fun x4 =>
  bp_if (x4 = (1 : Int32)) (
  bp_retZ (1 : Int32)) (
  bp_retZ (0 : Int32))) (
  bp_retZ (0 : Int32))
set_option maxHeartbeats 4000000 in
set_option maxRecDepth 100000 in
theorem cnX6_isOpen {G : bp_GT} (a0 : Nat) (xp1 : Int32) : bp_Con G iX6_isOpen (ws_ iX6_isOpen.1 iX6_isOpen.2.1 iX6_isOpen.2.2.1 iX6_isOpen.2.2.2.1) [.ref a0, .int xp1] (PX6_isOpen a0 xp1) bp_eI := by
  refine bp_con_of [(0, .ref a0), (1, .int xp1)] rfl (by decide) (Nat.le_of_ble_eq_true rfl) rfl ?_
  unfold PX6_isOpen
  refine bp_j_aload_n 0 dX6_isOpen_0 rfl ?_
  refine bp_j_getN (t := 4) (k := 3) rfl (by decide) (bp_lk q1083) dX6_isOpen_1 (fun _ _ _ => rfl) (fun a1 => ?_)
  refine bp_j_iload_n 1 dX6_isOpen_4 rfl ?_
  refine bp_j_iaload dX6_isOpen_5 (fun x2 => ?_)
  refine bp_j_bipush (v := 38) dX6_isOpen_6 (by decide) ?_
  refine bp_j_icmp_ne (tgt := 30) dX6_isOpen_8 (by decide) ?_ ?_
  · refine bp_j_iconst (v := 0) dX6_isOpen_30 (by decide) ?_
    exact bp_j_zret rfl dX6_isOpen_31
  refine bp_j_aload_n 0 dX6_isOpen_11 rfl ?_
  refine bp_j_getN (t := 4) (k := 10) rfl (by decide) (bp_lk q1090) dX6_isOpen_12 (fun _ _ _ => rfl) (fun a3 => ?_)
  refine bp_j_bipush (v := 6) dX6_isOpen_15 (by decide) ?_
  refine bp_j_iload_n 1 dX6_isOpen_17 rfl ?_
  refine bp_j_imul dX6_isOpen_18 ?_
  refine bp_j_iconst (v := 5) dX6_isOpen_19 (by decide) ?_
  refine bp_j_iadd dX6_isOpen_20 ?_
  refine bp_j_iaload dX6_isOpen_21 (fun x4 => ?_)
  refine bp_j_iconst (v := 1) dX6_isOpen_22 (by decide) ?_
  refine bp_j_icmp_ne (tgt := 30) dX6_isOpen_23 (by decide) ?_ ?_
  · refine bp_j_iconst (v := 0) dX6_isOpen_30 (by decide) ?_
    exact bp_j_zret rfl dX6_isOpen_31
  refine bp_j_iconst (v := 1) dX6_isOpen_26 (by decide) ?_
  refine bp_j_goto (tgt := 31) dX6_isOpen_27 (by decide) ?_
  exact bp_j_zret rfl dX6_isOpen_31
