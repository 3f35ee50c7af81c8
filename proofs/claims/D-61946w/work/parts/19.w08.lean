/-! programs and walks -/
set_option maxRecDepth 100000
/-- BilevelPagesModel.isNumber(III)Z -/
abbrev iX6_isNumber : bp_MI := (yX6_isNumber, cX6_isNumber, 3, some (Jvm.ClassFile.FieldType.boolean), [], 1, 22)
def PX6_isNumber (xp0 : Int32) (xp1 : Int32) (xp2 : Int32) : bp_M Int32 :=
  bp_bind (PX6_isRegion xp0) fun x1 =>
  bp_if (x1 = 0) (
  bp_if (xp0 = (48 : Int32)) (
  bp_jn (fun (k4 : bp_M Int32) =>
  bp_if (xp1 = 0) (
  bp_bind (PX6_isIn xp2 (1 : Int32) (32 : Int32)) fun x10 =>
  bp_if (x10 = 0) (
  k4) (
  bp_retZ (1 : Int32))) (
  k4)) (bp_jn (fun (k5 : bp_M Int32) =>
  bp_if (xp1 = (1 : Int32)) (
  bp_bind (PX6_isIn xp2 (0 : Int32) (32 : Int32)) fun x9 =>
  bp_if (x9 = 0) (
  k5) (
  bp_retZ (1 : Int32))) (
  k5)) (bp_jn (fun (k6 : bp_M Int32) =>
  bp_if (xp1 = (2 : Int32)) (
  bp_bind (PX6_isIn xp2 (0 : Int32) (1 : Int32)) fun x8 =>
  bp_if (x8 = 0) (
  k6) (
  bp_retZ (1 : Int32))) (
  k6)) (bp_if (xp1 = (3 : Int32)) (
  bp_bind (PX6_isIn xp2 (0 : Int32) (4 : Int32)) fun x7 =>
  bp_if (x7 = 0) (
  bp_retZ (0 : Int32)) (
  bp_retZ (1 : Int32))) (
  bp_retZ (0 : Int32)))))) (
  bp_if (xp1 = 0) (
  bp_jn (fun (k2 : bp_M Int32) =>
  bp_if (xp0 = (50 : Int32)) (
  bp_bind (PX6_isIn xp2 (0 : Int32) (31 : Int32)) fun x3 =>
  bp_if (x3 = 0) (
  k2) (
  bp_retZ (1 : Int32))) (
  k2)) (bp_if (xp0 = (62 : Int32)) (
  bp_retZ (1 : Int32)) (
  bp_retZ (0 : Int32)))) (
  bp_retZ (0 : Int32)))) (
  bp_bind (PX6_isIn xp1 (0 : Int32) (1 : Int32)) fun x11 =>
  bp_jn (fun (k12 : bp_M Int32) =>
  bp_if (x11 = 0) (
  k12) (
  bp_bind (PX6_isIn xp2 (1 : Int32) (16 : Int32)) fun x19 =>
  bp_if (x19 = 0) (
  k12) (
  bp_retZ (1 : Int32)))) (bp_bind (PX6_isIn xp1 (2 : Int32) (3 : Int32)) fun x13 =>
  bp_jn (fun (k14 : bp_M Int32) =>
  bp_if (x13 = 0) (
  k14) (
  bp_bind (PX6_isIn xp2 (0 : Int32) (31 : Int32)) fun x18 =>
  bp_if (x18 = 0) (
  k14) (
  bp_retZ (1 : Int32)))) (bp_jn (fun (k15 : bp_M Int32) =>
  bp_if (xp1 = (4 : Int32)) (
  bp_bind (PX6_isIn xp2 (0 : Int32) (5 : Int32)) fun x17 =>
  bp_if (x17 = 0) (
  k15) (
  bp_retZ (1 : Int32))) (
  k15)) (bp_if (xp0 = (38 : Int32)) (
  bp_if (xp1 = (5 : Int32)) (
  bp_bind (PX6_isIn xp2 (0 : Int32) (1 : Int32)) fun x16 =>
  bp_if (x16 = 0) (
  bp_retZ (0 : Int32)) (
  bp_retZ (1 : Int32))) (
  bp_retZ (0 : Int32))) (
  bp_retZ (0 : Int32))))))
set_option maxHeartbeats 4000000 in
set_option maxRecDepth 100000 in
theorem cnX6_isNumber {G : bp_GT} (xp0 : Int32) (xp1 : Int32) (xp2 : Int32) : bp_Con G iX6_isNumber (ws_ iX6_isNumber.1 iX6_isNumber.2.1 iX6_isNumber.2.2.1 iX6_isNumber.2.2.2.1) [.int xp0, .int xp1, .int xp2] (PX6_isNumber xp0 xp1 xp2) bp_eI := by
  refine bp_con_of [(0, .int xp0), (1, .int xp1), (2, .int xp2)] rfl (by decide) (Nat.le_of_ble_eq_true rfl) rfl ?_
  unfold PX6_isNumber
  refine bp_j_iload_n 0 dX6_isNumber_0 rfl ?_
  refine bp_j_cl_I (bp_ranS (n := 1) (As := [.int xp0]) (cnX6_isRegion (G := G) xp0) (lw_S q1254 q1255 q82 q1256) ⟨by decide +kernel, by decide +kernel, by decide +kernel⟩ ⟨by decide, by decide⟩ (rest := []) rfl rfl (Nat.le_of_ble_eq_true rfl) dX6_isNumber_1) (by decide) (fun x1 => ?_)
  refine bp_j_if_eq (tgt := 85) dX6_isNumber_4 (by decide) ?_ ?_
  · refine bp_j_iload_n 0 dX6_isNumber_85 rfl ?_
    refine bp_j_bipush (v := 48) dX6_isNumber_86 (by decide) ?_
    refine bp_j_icmp_ne (tgt := 154) dX6_isNumber_88 (by decide) ?_ ?_
    · refine bp_j_iload_n 1 dX6_isNumber_154 rfl ?_
      refine bp_j_if_ne (tgt := 184) dX6_isNumber_155 (by decide) ?_ ?_
      · refine bp_j_iconst (v := 0) dX6_isNumber_184 (by decide) ?_
        exact bp_j_zret rfl dX6_isNumber_185
      refine bp_j_iload_n 0 dX6_isNumber_158 rfl ?_
      refine bp_j_bipush (v := 50) dX6_isNumber_159 (by decide) ?_
      refine bp_j_jm (fun k => bp_J G iX6_isNumber (bp_Qn G bp_eI) (k) 174 [(0, .int xp0)] []) (fun k2 hk2 => ?_) ?_
      · refine bp_j_icmp_ne (tgt := 174) dX6_isNumber_161 (by decide) ?_ ?_
        · exact bp_j_sub [0] rfl (hk2)
        refine bp_j_iload_n 2 dX6_isNumber_164 rfl ?_
        refine bp_j_iconst (v := 0) dX6_isNumber_165 (by decide) ?_
        refine bp_j_bipush (v := 31) dX6_isNumber_166 (by decide) ?_
        refine bp_j_cl_I (bp_ranS (n := 3) (As := [.int xp2, .int (0 : Int32), .int (31 : Int32)]) (cnX6_isIn (G := G) xp2 (0 : Int32) (31 : Int32)) (lw_S q1244 q1245 q82 q1246) ⟨by decide +kernel, by decide +kernel, by decide +kernel⟩ ⟨by decide, by decide⟩ (rest := []) rfl rfl (Nat.le_of_ble_eq_true rfl) dX6_isNumber_168) (by decide) (fun x3 => ?_)
        refine bp_j_if_ne (tgt := 180) dX6_isNumber_171 (by decide) ?_ ?_
        · refine bp_j_iconst (v := 1) dX6_isNumber_180 (by decide) ?_
          refine bp_j_goto (tgt := 185) dX6_isNumber_181 (by decide) ?_
          exact bp_j_zret rfl dX6_isNumber_185
        exact bp_j_sub [0] rfl (hk2)
      refine bp_j_iload_n 0 dX6_isNumber_174 rfl ?_
      refine bp_j_bipush (v := 62) dX6_isNumber_175 (by decide) ?_
      refine bp_j_icmp_ne (tgt := 184) dX6_isNumber_177 (by decide) ?_ ?_
      · refine bp_j_iconst (v := 0) dX6_isNumber_184 (by decide) ?_
        exact bp_j_zret rfl dX6_isNumber_185
      refine bp_j_iconst (v := 1) dX6_isNumber_180 (by decide) ?_
      refine bp_j_goto (tgt := 185) dX6_isNumber_181 (by decide) ?_
      exact bp_j_zret rfl dX6_isNumber_185
    refine bp_j_iload_n 1 dX6_isNumber_91 rfl ?_
    refine bp_j_jm (fun k => bp_J G iX6_isNumber (bp_Qn G bp_eI) (k) 105 [(1, .int xp1), (2, .int xp2)] []) (fun k4 hk4 => ?_) ?_
    · refine bp_j_if_ne (tgt := 105) dX6_isNumber_92 (by decide) ?_ ?_
      · exact bp_j_sub [1, 2] rfl (hk4)
      refine bp_j_iload_n 2 dX6_isNumber_95 rfl ?_
      refine bp_j_iconst (v := 1) dX6_isNumber_96 (by decide) ?_
      refine bp_j_bipush (v := 32) dX6_isNumber_97 (by decide) ?_
      refine bp_j_cl_I (bp_ranS (n := 3) (As := [.int xp2, .int (1 : Int32), .int (32 : Int32)]) (cnX6_isIn (G := G) xp2 (1 : Int32) (32 : Int32)) (lw_S q1244 q1245 q82 q1246) ⟨by decide +kernel, by decide +kernel, by decide +kernel⟩ ⟨by decide, by decide⟩ (rest := []) rfl rfl (Nat.le_of_ble_eq_true rfl) dX6_isNumber_99) (by decide) (fun x10 => ?_)
      refine bp_j_if_ne (tgt := 148) dX6_isNumber_102 (by decide) ?_ ?_
      · refine bp_j_iconst (v := 1) dX6_isNumber_148 (by decide) ?_
        refine bp_j_goto (tgt := 153) dX6_isNumber_149 (by decide) ?_
        exact bp_j_zret rfl dX6_isNumber_153
      exact bp_j_sub [1, 2] rfl (hk4)
    refine bp_j_iload_n 0 dX6_isNumber_105 rfl ?_
    refine bp_j_iconst (v := 1) dX6_isNumber_106 (by decide) ?_
    refine bp_j_jm (fun k => bp_J G iX6_isNumber (bp_Qn G bp_eI) (k) 120 [(1, .int xp1), (2, .int xp2)] []) (fun k5 hk5 => ?_) ?_
    · refine bp_j_icmp_ne (tgt := 120) dX6_isNumber_107 (by decide) ?_ ?_
      · exact hk5
      refine bp_j_iload_n 1 dX6_isNumber_110 rfl ?_
      refine bp_j_iconst (v := 0) dX6_isNumber_111 (by decide) ?_
      refine bp_j_bipush (v := 32) dX6_isNumber_112 (by decide) ?_
      refine bp_j_cl_I (bp_ranS (n := 3) (As := [.int xp2, .int (0 : Int32), .int (32 : Int32)]) (cnX6_isIn (G := G) xp2 (0 : Int32) (32 : Int32)) (lw_S q1244 q1245 q82 q1246) ⟨by decide +kernel, by decide +kernel, by decide +kernel⟩ ⟨by decide, by decide⟩ (rest := []) rfl rfl (Nat.le_of_ble_eq_true rfl) dX6_isNumber_114) (by decide) (fun x9 => ?_)
      refine bp_j_if_ne (tgt := 148) dX6_isNumber_117 (by decide) ?_ ?_
      · refine bp_j_iconst (v := 1) dX6_isNumber_148 (by decide) ?_
        refine bp_j_goto (tgt := 153) dX6_isNumber_149 (by decide) ?_
        exact bp_j_zret rfl dX6_isNumber_153
      exact hk5
    refine bp_j_iload_n 0 dX6_isNumber_120 rfl ?_
    refine bp_j_iconst (v := 2) dX6_isNumber_121 (by decide) ?_
    refine bp_j_jm (fun k => bp_J G iX6_isNumber (bp_Qn G bp_eI) (k) 134 [(1, .int xp1), (2, .int xp2)] []) (fun k6 hk6 => ?_) ?_
    · refine bp_j_icmp_ne (tgt := 134) dX6_isNumber_122 (by decide) ?_ ?_
      · exact hk6
      refine bp_j_iload_n 1 dX6_isNumber_125 rfl ?_
      refine bp_j_iconst (v := 0) dX6_isNumber_126 (by decide) ?_
      refine bp_j_iconst (v := 1) dX6_isNumber_127 (by decide) ?_
      refine bp_j_cl_I (bp_ranS (n := 3) (As := [.int xp2, .int (0 : Int32), .int (1 : Int32)]) (cnX6_isIn (G := G) xp2 (0 : Int32) (1 : Int32)) (lw_S q1244 q1245 q82 q1246) ⟨by decide +kernel, by decide +kernel, by decide +kernel⟩ ⟨by decide, by decide⟩ (rest := []) rfl rfl (Nat.le_of_ble_eq_true rfl) dX6_isNumber_128) (by decide) (fun x8 => ?_)
      refine bp_j_if_ne (tgt := 148) dX6_isNumber_131 (by decide) ?_ ?_
      · refine bp_j_iconst (v := 1) dX6_isNumber_148 (by decide) ?_
        refine bp_j_goto (tgt := 153) dX6_isNumber_149 (by decide) ?_
        exact bp_j_zret rfl dX6_isNumber_153
      exact hk6
    refine bp_j_iload_n 0 dX6_isNumber_134 rfl ?_
    refine bp_j_iconst (v := 3) dX6_isNumber_135 (by decide) ?_
    refine bp_j_icmp_ne (tgt := 152) dX6_isNumber_136 (by decide) ?_ ?_
    · refine bp_j_iconst (v := 0) dX6_isNumber_152 (by decide) ?_
      exact bp_j_zret rfl dX6_isNumber_153
    refine bp_j_iload_n 1 dX6_isNumber_139 rfl ?_
    refine bp_j_iconst (v := 0) dX6_isNumber_140 (by decide) ?_
    refine bp_j_iconst (v := 4) dX6_isNumber_141 (by decide) ?_
    refine bp_j_cl_I (bp_ranS (n := 3) (As := [.int xp2, .int (0 : Int32), .int (4 : Int32)]) (cnX6_isIn (G := G) xp2 (0 : Int32) (4 : Int32)) (lw_S q1244 q1245 q82 q1246) ⟨by decide +kernel, by decide +kernel, by decide +kernel⟩ ⟨by decide, by decide⟩ (rest := []) rfl rfl (Nat.le_of_ble_eq_true rfl) dX6_isNumber_142) (by decide) (fun x7 => ?_)
    refine bp_j_if_eq (tgt := 152) dX6_isNumber_145 (by decide) ?_ ?_
    · refine bp_j_iconst (v := 0) dX6_isNumber_152 (by decide) ?_
      exact bp_j_zret rfl dX6_isNumber_153
    refine bp_j_iconst (v := 1) dX6_isNumber_148 (by decide) ?_
    refine bp_j_goto (tgt := 153) dX6_isNumber_149 (by decide) ?_
    exact bp_j_zret rfl dX6_isNumber_153
  refine bp_j_iload_n 1 dX6_isNumber_7 rfl ?_
  refine bp_j_iconst (v := 0) dX6_isNumber_8 (by decide) ?_
  refine bp_j_iconst (v := 1) dX6_isNumber_9 (by decide) ?_
  refine bp_j_cl_I (bp_ranS (n := 3) (As := [.int xp1, .int (0 : Int32), .int (1 : Int32)]) (cnX6_isIn (G := G) xp1 (0 : Int32) (1 : Int32)) (lw_S q1244 q1245 q82 q1246) ⟨by decide +kernel, by decide +kernel, by decide +kernel⟩ ⟨by decide, by decide⟩ (rest := []) rfl rfl (Nat.le_of_ble_eq_true rfl) dX6_isNumber_10) (by decide) (fun x11 => ?_)
  refine bp_j_jm (fun k => bp_J G iX6_isNumber (bp_Qn G bp_eI) (k) 26 [(0, .int xp0), (1, .int xp1), (2, .int xp2)] []) (fun k12 hk12 => ?_) ?_
  · refine bp_j_if_eq (tgt := 26) dX6_isNumber_13 (by decide) ?_ ?_
    · exact hk12
    refine bp_j_iload_n 2 dX6_isNumber_16 rfl ?_
    refine bp_j_iconst (v := 1) dX6_isNumber_17 (by decide) ?_
    refine bp_j_bipush (v := 16) dX6_isNumber_18 (by decide) ?_
    refine bp_j_cl_I (bp_ranS (n := 3) (As := [.int xp2, .int (1 : Int32), .int (16 : Int32)]) (cnX6_isIn (G := G) xp2 (1 : Int32) (16 : Int32)) (lw_S q1244 q1245 q82 q1246) ⟨by decide +kernel, by decide +kernel, by decide +kernel⟩ ⟨by decide, by decide⟩ (rest := []) rfl rfl (Nat.le_of_ble_eq_true rfl) dX6_isNumber_20) (by decide) (fun x19 => ?_)
    refine bp_j_if_ne (tgt := 79) dX6_isNumber_23 (by decide) ?_ ?_
    · refine bp_j_iconst (v := 1) dX6_isNumber_79 (by decide) ?_
      refine bp_j_goto (tgt := 84) dX6_isNumber_80 (by decide) ?_
      exact bp_j_zret rfl dX6_isNumber_84
    exact hk12
  refine bp_j_iload_n 1 dX6_isNumber_26 rfl ?_
  refine bp_j_iconst (v := 2) dX6_isNumber_27 (by decide) ?_
  refine bp_j_iconst (v := 3) dX6_isNumber_28 (by decide) ?_
  refine bp_j_cl_I (bp_ranS (n := 3) (As := [.int xp1, .int (2 : Int32), .int (3 : Int32)]) (cnX6_isIn (G := G) xp1 (2 : Int32) (3 : Int32)) (lw_S q1244 q1245 q82 q1246) ⟨by decide +kernel, by decide +kernel, by decide +kernel⟩ ⟨by decide, by decide⟩ (rest := []) rfl rfl (Nat.le_of_ble_eq_true rfl) dX6_isNumber_29) (by decide) (fun x13 => ?_)
  refine bp_j_jm (fun k => bp_J G iX6_isNumber (bp_Qn G bp_eI) (k) 45 [(0, .int xp0), (1, .int xp1), (2, .int xp2)] []) (fun k14 hk14 => ?_) ?_
  · refine bp_j_if_eq (tgt := 45) dX6_isNumber_32 (by decide) ?_ ?_
    · exact hk14
    refine bp_j_iload_n 2 dX6_isNumber_35 rfl ?_
    refine bp_j_iconst (v := 0) dX6_isNumber_36 (by decide) ?_
    refine bp_j_bipush (v := 31) dX6_isNumber_37 (by decide) ?_
    refine bp_j_cl_I (bp_ranS (n := 3) (As := [.int xp2, .int (0 : Int32), .int (31 : Int32)]) (cnX6_isIn (G := G) xp2 (0 : Int32) (31 : Int32)) (lw_S q1244 q1245 q82 q1246) ⟨by decide +kernel, by decide +kernel, by decide +kernel⟩ ⟨by decide, by decide⟩ (rest := []) rfl rfl (Nat.le_of_ble_eq_true rfl) dX6_isNumber_39) (by decide) (fun x18 => ?_)
    refine bp_j_if_ne (tgt := 79) dX6_isNumber_42 (by decide) ?_ ?_
    · refine bp_j_iconst (v := 1) dX6_isNumber_79 (by decide) ?_
      refine bp_j_goto (tgt := 84) dX6_isNumber_80 (by decide) ?_
      exact bp_j_zret rfl dX6_isNumber_84
    exact hk14
  refine bp_j_iload_n 1 dX6_isNumber_45 rfl ?_
  refine bp_j_iconst (v := 4) dX6_isNumber_46 (by decide) ?_
  refine bp_j_jm (fun k => bp_J G iX6_isNumber (bp_Qn G bp_eI) (k) 59 [(0, .int xp0), (1, .int xp1), (2, .int xp2)] []) (fun k15 hk15 => ?_) ?_
  · refine bp_j_icmp_ne (tgt := 59) dX6_isNumber_47 (by decide) ?_ ?_
    · exact hk15
    refine bp_j_iload_n 2 dX6_isNumber_50 rfl ?_
    refine bp_j_iconst (v := 0) dX6_isNumber_51 (by decide) ?_
    refine bp_j_iconst (v := 5) dX6_isNumber_52 (by decide) ?_
    refine bp_j_cl_I (bp_ranS (n := 3) (As := [.int xp2, .int (0 : Int32), .int (5 : Int32)]) (cnX6_isIn (G := G) xp2 (0 : Int32) (5 : Int32)) (lw_S q1244 q1245 q82 q1246) ⟨by decide +kernel, by decide +kernel, by decide +kernel⟩ ⟨by decide, by decide⟩ (rest := []) rfl rfl (Nat.le_of_ble_eq_true rfl) dX6_isNumber_53) (by decide) (fun x17 => ?_)
    refine bp_j_if_ne (tgt := 79) dX6_isNumber_56 (by decide) ?_ ?_
    · refine bp_j_iconst (v := 1) dX6_isNumber_79 (by decide) ?_
      refine bp_j_goto (tgt := 84) dX6_isNumber_80 (by decide) ?_
      exact bp_j_zret rfl dX6_isNumber_84
    exact hk15
  refine bp_j_iload_n 0 dX6_isNumber_59 rfl ?_
  refine bp_j_bipush (v := 38) dX6_isNumber_60 (by decide) ?_
  refine bp_j_icmp_ne (tgt := 83) dX6_isNumber_62 (by decide) ?_ ?_
  · refine bp_j_iconst (v := 0) dX6_isNumber_83 (by decide) ?_
    exact bp_j_zret rfl dX6_isNumber_84
  refine bp_j_iload_n 1 dX6_isNumber_65 rfl ?_
  refine bp_j_iconst (v := 5) dX6_isNumber_66 (by decide) ?_
  refine bp_j_icmp_ne (tgt := 83) dX6_isNumber_67 (by decide) ?_ ?_
  · refine bp_j_iconst (v := 0) dX6_isNumber_83 (by decide) ?_
    exact bp_j_zret rfl dX6_isNumber_84
  refine bp_j_iload_n 2 dX6_isNumber_70 rfl ?_
  refine bp_j_iconst (v := 0) dX6_isNumber_71 (by decide) ?_
  refine bp_j_iconst (v := 1) dX6_isNumber_72 (by decide) ?_
  refine bp_j_cl_I (bp_ranS (n := 3) (As := [.int xp2, .int (0 : Int32), .int (1 : Int32)]) (cnX6_isIn (G := G) xp2 (0 : Int32) (1 : Int32)) (lw_S q1244 q1245 q82 q1246) ⟨by decide +kernel, by decide +kernel, by decide +kernel⟩ ⟨by decide, by decide⟩ (rest := []) rfl rfl (Nat.le_of_ble_eq_true rfl) dX6_isNumber_73) (by decide) (fun x16 => ?_)
  refine bp_j_if_eq (tgt := 83) dX6_isNumber_76 (by decide) ?_ ?_
  · refine bp_j_iconst (v := 0) dX6_isNumber_83 (by decide) ?_
    exact bp_j_zret rfl dX6_isNumber_84
  refine bp_j_iconst (v := 1) dX6_isNumber_79 (by decide) ?_
  refine bp_j_goto (tgt := 84) dX6_isNumber_80 (by decide) ?_
  exact bp_j_zret rfl dX6_isNumber_84
/-- BilevelPagesModel.number(III)I -/
abbrev iX6_number : bp_MI := (yX6_number, cX6_number, 6, some (Jvm.ClassFile.FieldType.int), [], 2, 44)
def PX6_number (a0 : Nat) (xp1 : Int32) (xp2 : Int32) (xp3 : Int32) : bp_M Int32 :=
  bp_bind (bp_is 4 a0 (PX6_isSegment a0 xp1)) fun x1 =>
  bp_jn (fun (k3 : Int32 → bp_M Int32) =>
  bp_if (x1 = 0) (
  k3 (0 : Int32)) (
  bp_getN 4 3 a0 fun a8 =>
  bp_aldI 20 a8 xp1 fun x9 =>
  bp_bind (PX6_isNumber x9 xp2 xp3) fun x10 =>
  bp_if (x10 = 0) (
  k3 (0 : Int32)) (
  k3 (1 : Int32)))) (fun (x2 : Int32) =>
  bp_bind (bp_is 4 a0 (PX6_may a0 x1 x2 (1 : Int32) (1 : Int32))) fun x4 =>
  bp_if (x4 = 0) (
  bp_ret (0 : Int32)) (
  bp_getN 4 10 a0 fun a5 =>
  bp_aldI 20 a5 (((6 : Int32) * xp1) + xp2) fun x6 =>
  bp_getN 4 10 a0 fun a7 =>
  bp_astI a7 (((6 : Int32) * xp1) + xp2) xp3 <|
  bp_ret x6))
set_option maxHeartbeats 4000000 in
set_option maxRecDepth 100000 in
theorem cnX6_number {G : bp_GT} (a0 : Nat) (xp1 : Int32) (xp2 : Int32) (xp3 : Int32) : bp_Con G iX6_number (ws_ iX6_number.1 iX6_number.2.1 iX6_number.2.2.1 iX6_number.2.2.2.1) [.ref a0, .int xp1, .int xp2, .int xp3] (PX6_number a0 xp1 xp2 xp3) bp_eI := by
  refine bp_con_of [(0, .ref a0), (1, .int xp1), (2, .int xp2), (3, .int xp3)] rfl (by decide) (Nat.le_of_ble_eq_true rfl) rfl ?_
  unfold PX6_number
  refine bp_j_aload_n 0 dX6_number_0 rfl ?_
  refine bp_j_iload_n 1 dX6_number_1 rfl ?_
  refine bp_j_cl_I (bp_ranV (t := 4) (n := 1) (As := [.int xp1]) (cnX6_isSegment (G := G) a0 xp1) rfl (lw_V q1261 q1263 qs35 q82 q1264) ⟨rfl, by decide +kernel, by decide +kernel, by decide +kernel⟩ ⟨by decide, by decide⟩ (rest := []) rfl rfl (Nat.le_of_ble_eq_true rfl) dX6_number_2) (by decide) (fun x1 => ?_)
  refine bp_j_istore (lv' := [(4, .int x1), (0, .ref a0), (1, .int xp1), (2, .int xp2), (3, .int xp3)]) dX6_number_5 (by decide) rfl ?_
  refine bp_j_aload_n 1 dX6_number_7 rfl ?_
  refine bp_j_iload 0 dX6_number_8 rfl ?_
  refine bp_j_iload 0 dX6_number_10 rfl ?_
  refine bp_j_jm (fun k => ∀ (x2 : Int32), bp_J G iX6_number (bp_Qn G bp_eI) (k x2) 34 [(0, .ref a0), (1, .int xp1), (2, .int xp2), (3, .int xp3)] [.int x2, .int x1, .ref a0]) (fun k3 hk3 => ?_) (fun x2 => ?_)
  · refine bp_j_if_eq (tgt := 33) dX6_number_12 (by decide) ?_ ?_
    · refine bp_j_iconst (v := 0) dX6_number_33 (by decide) ?_
      exact bp_j_sub [1, 2, 3, 4] rfl (hk3 (0 : Int32))
    refine bp_j_aload_n 1 dX6_number_15 rfl ?_
    refine bp_j_getN (t := 4) (k := 3) rfl (by decide) (bp_lk q1083) dX6_number_16 (fun _ _ _ => rfl) (fun a8 => ?_)
    refine bp_j_iload_n 2 dX6_number_19 rfl ?_
    refine bp_j_iaload dX6_number_20 (fun x9 => ?_)
    refine bp_j_iload_n 3 dX6_number_21 rfl ?_
    refine bp_j_iload_n 4 dX6_number_22 rfl ?_
    refine bp_j_cl_I (bp_ranS (n := 3) (As := [.int x9, .int xp2, .int xp3]) (cnX6_isNumber (G := G) x9 xp2 xp3) (lw_S q1292 q1293 q82 q1294) ⟨by decide +kernel, by decide +kernel, by decide +kernel⟩ ⟨by decide, by decide⟩ (rest := [.int x1, .ref a0]) rfl rfl (Nat.le_of_ble_eq_true rfl) dX6_number_23) (by decide) (fun x10 => ?_)
    refine bp_j_if_eq (tgt := 33) dX6_number_26 (by decide) ?_ ?_
    · refine bp_j_iconst (v := 0) dX6_number_33 (by decide) ?_
      exact bp_j_sub [1, 2, 3, 4] rfl (hk3 (0 : Int32))
    refine bp_j_iconst (v := 1) dX6_number_29 (by decide) ?_
    refine bp_j_goto (tgt := 34) dX6_number_30 (by decide) ?_
    exact bp_j_sub [1, 2, 3, 4] rfl (hk3 (1 : Int32))
  refine bp_j_iconst (v := 1) dX6_number_34 (by decide) ?_
  refine bp_j_iconst (v := 1) dX6_number_35 (by decide) ?_
  refine bp_j_cl_I (bp_ranV (t := 4) (n := 4) (As := [.int x1, .int x2, .int (1 : Int32), .int (1 : Int32)]) (cnX6_may (G := G) a0 x1 x2 (1 : Int32) (1 : Int32)) rfl (lw_V q1247 q1249 qs34 q82 q1250) ⟨rfl, by decide +kernel, by decide +kernel, by decide +kernel⟩ ⟨by decide, by decide⟩ (rest := []) rfl rfl (Nat.le_of_ble_eq_true rfl) dX6_number_36) (by decide) (fun x4 => ?_)
  refine bp_j_if_ne (tgt := 44) dX6_number_39 (by decide) ?_ ?_
  · refine bp_j_aload_n 0 dX6_number_44 rfl ?_
    refine bp_j_getN (t := 4) (k := 10) rfl (by decide) (bp_lk q1090) dX6_number_45 (fun _ _ _ => rfl) (fun a5 => ?_)
    refine bp_j_bipush (v := 6) dX6_number_48 (by decide) ?_
    refine bp_j_iload_n 1 dX6_number_50 rfl ?_
    refine bp_j_imul dX6_number_51 ?_
    refine bp_j_iload_n 2 dX6_number_52 rfl ?_
    refine bp_j_iadd dX6_number_53 ?_
    refine bp_j_iaload dX6_number_54 (fun x6 => ?_)
    refine bp_j_istore (lv' := [(5, .int x6), (0, .ref a0), (1, .int xp1), (2, .int xp2), (3, .int xp3)]) dX6_number_55 (by decide) rfl ?_
    refine bp_j_aload_n 1 dX6_number_57 rfl ?_
    refine bp_j_getN (t := 4) (k := 10) rfl (by decide) (bp_lk q1090) dX6_number_58 (fun _ _ _ => rfl) (fun a7 => ?_)
    refine bp_j_bipush (v := 6) dX6_number_61 (by decide) ?_
    refine bp_j_iload_n 2 dX6_number_63 rfl ?_
    refine bp_j_imul dX6_number_64 ?_
    refine bp_j_iload_n 3 dX6_number_65 rfl ?_
    refine bp_j_iadd dX6_number_66 ?_
    refine bp_j_iload_n 4 dX6_number_67 rfl ?_
    refine bp_j_iastore dX6_number_68 ?_
    refine bp_j_iload 0 dX6_number_69 rfl ?_
    exact bp_j_iret rfl dX6_number_71
  refine bp_j_iconst (v := 0) dX6_number_42 (by decide) ?_
  exact bp_j_iret rfl dX6_number_43
/-- BilevelPagesModel.darkOf(I)I -/
abbrev iX6_darkOf : bp_MI := (yX6_darkOf, cX6_darkOf, 4, some (Jvm.ClassFile.FieldType.int), [], 0, 0)
def BX6_darkOf_4 (a0 : Nat) (xp1 : Int32) (k3 : Int32 → Int32 → bp_M Int32) : Int32 → Int32 → bp_M Int32 :=
  fun x1 x2 =>
  bp_getN 4 42 a0 fun a4 =>
  bp_aldI 20 a4 xp1 fun x5 =>
  bp_if (((32 : Int32) * x5) ≤ x2) (
  bp_ret x1) (
  bp_nz (32 : Int32) <|
  bp_getN 4 41 a0 fun a6 =>
  bp_aldI 20 a6 xp1 fun x7 =>
  bp_jn (fun (k9 : Int32 → bp_M Int32) =>
  bp_if (x7 ≤ (x2 - x2 / (32 : Int32) * (32 : Int32))) (
  k9 (0 : Int32)) (
  bp_getN 4 46 a0 fun a12 =>
  bp_aldI 22 a12 (((1024 : Int32) * xp1) + x2) fun x13 =>
  bp_if (x13 = 0) (
  k9 (0 : Int32)) (
  k9 (1 : Int32)))) (fun (x8 : Int32) =>
  bp_letI (x1 + x8) fun x10 =>
  bp_letI (x2 + (1 : Int32)) fun x11 =>
  k3 x10 x11))
def PX6_darkOf (a0 : Nat) (xp1 : Int32) : bp_M Int32 :=
  bp_loop (fun _ _ => bp_no) (BX6_darkOf_4 a0 xp1) (fun k => k (0 : Int32) (0 : Int32))
set_option maxHeartbeats 4000000 in
set_option maxRecDepth 100000 in
theorem cnX6_darkOf {G : bp_GT} (a0 : Nat) (xp1 : Int32) : bp_Con G iX6_darkOf (ws_ iX6_darkOf.1 iX6_darkOf.2.1 iX6_darkOf.2.2.1 iX6_darkOf.2.2.2.1) [.ref a0, .int xp1] (PX6_darkOf a0 xp1) bp_eI := by
  refine bp_con_of [(0, .ref a0), (1, .int xp1)] rfl (by decide) (Nat.le_of_ble_eq_true rfl) rfl ?_
  unfold PX6_darkOf
  refine bp_j_iconst (v := 0) dX6_darkOf_0 (by decide) ?_
  refine bp_j_istore_n (lv' := [(2, .int (0 : Int32)), (0, .ref a0), (1, .int xp1)]) dX6_darkOf_1 (by decide) rfl ?_
  refine bp_j_iconst (v := 0) dX6_darkOf_2 (by decide) ?_
  refine bp_j_istore_n (lv' := [(3, .int (0 : Int32)), (2, .int (0 : Int32)), (0, .ref a0), (1, .int xp1)]) dX6_darkOf_3 (by decide) rfl ?_
  refine bp_j_loop (fun k => ∀ (x1 : Int32) (x2 : Int32), bp_J G iX6_darkOf (bp_Qn G bp_eI) (k x1 x2) 4 [(0, .ref a0), (1, .int xp1), (2, .int x1), (3, .int x2)] []) (fun _ _ => bp_j_no) (fun k3 hk3 x1 x2 => ?_) (fun k h => bp_j_sub [2, 3, 1, 0] rfl (h (0 : Int32) (0 : Int32)))
  unfold BX6_darkOf_4
  refine bp_j_iload_n 3 dX6_darkOf_4 rfl ?_
  refine bp_j_bipush (v := 32) dX6_darkOf_5 (by decide) ?_
  refine bp_j_aload_n 0 dX6_darkOf_7 rfl ?_
  refine bp_j_getN (t := 4) (k := 42) rfl (by decide) (bp_lk q1122) dX6_darkOf_8 (fun _ _ _ => rfl) (fun a4 => ?_)
  refine bp_j_iload_n 1 dX6_darkOf_11 rfl ?_
  refine bp_j_iaload dX6_darkOf_12 (fun x5 => ?_)
  refine bp_j_imul dX6_darkOf_13 ?_
  refine bp_j_icmp_ge (tgt := 59) dX6_darkOf_14 (by decide) ?_ ?_
  · refine bp_j_iload_n 2 dX6_darkOf_59 rfl ?_
    exact bp_j_iret rfl dX6_darkOf_60
  refine bp_j_iload_n 2 dX6_darkOf_17 rfl ?_
  refine bp_j_iload_n 3 dX6_darkOf_18 rfl ?_
  refine bp_j_bipush (v := 32) dX6_darkOf_19 (by decide) ?_
  refine bp_j_irem dX6_darkOf_21 ?_
  refine bp_j_aload_n 0 dX6_darkOf_22 rfl ?_
  refine bp_j_getN (t := 4) (k := 41) rfl (by decide) (bp_lk q1121) dX6_darkOf_23 (fun _ _ _ => rfl) (fun a6 => ?_)
  refine bp_j_iload_n 1 dX6_darkOf_26 rfl ?_
  refine bp_j_iaload dX6_darkOf_27 (fun x7 => ?_)
  refine bp_j_jm (fun k => ∀ (x8 : Int32), bp_J G iX6_darkOf (bp_Qn G bp_eI) (k x8) 51 [(0, .ref a0), (1, .int xp1), (3, .int x2)] [.int x8, .int x1]) (fun k9 hk9 => ?_) (fun x8 => ?_)
  · refine bp_j_icmp_ge (tgt := 50) dX6_darkOf_28 (by decide) ?_ ?_
    · refine bp_j_iconst (v := 0) dX6_darkOf_50 (by decide) ?_
      exact bp_j_sub [0, 1, 3] rfl (hk9 (0 : Int32))
    refine bp_j_aload_n 0 dX6_darkOf_31 rfl ?_
    refine bp_j_getN (t := 4) (k := 46) rfl (by decide) (bp_lk q1126) dX6_darkOf_32 (fun _ _ _ => rfl) (fun a12 => ?_)
    refine bp_j_sipush (v := 1024) dX6_darkOf_35 (by decide) ?_
    refine bp_j_iload_n 1 dX6_darkOf_38 rfl ?_
    refine bp_j_imul dX6_darkOf_39 ?_
    refine bp_j_iload_n 3 dX6_darkOf_40 rfl ?_
    refine bp_j_iadd dX6_darkOf_41 ?_
    refine bp_j_baloadZ dX6_darkOf_42 (fun x13 => ?_)
    refine bp_j_if_eq (tgt := 50) dX6_darkOf_43 (by decide) ?_ ?_
    · refine bp_j_iconst (v := 0) dX6_darkOf_50 (by decide) ?_
      exact bp_j_sub [0, 1, 3] rfl (hk9 (0 : Int32))
    refine bp_j_iconst (v := 1) dX6_darkOf_46 (by decide) ?_
    refine bp_j_goto (tgt := 51) dX6_darkOf_47 (by decide) ?_
    exact bp_j_sub [0, 1, 3] rfl (hk9 (1 : Int32))
  refine bp_j_iadd dX6_darkOf_51 ?_
  refine bp_j_letI (fun x10 => ?_)
  refine bp_j_istore_n (lv' := [(2, .int x10), (0, .ref a0), (1, .int xp1), (3, .int x2)]) dX6_darkOf_52 (by decide) rfl ?_
  refine bp_j_iincL (lv' := fun x11 => [(3, .int x11), (2, .int x10), (0, .ref a0), (1, .int xp1)]) 3 dX6_darkOf_53 rfl (by decide) (by decide) (fun _ => rfl) (fun x11 => ?_)
  refine bp_j_goto (tgt := 4) dX6_darkOf_56 (by decide) ?_
  exact bp_j_sub [2, 3, 1, 0] rfl (hk3 x10 x11)
/-- BilevelPagesModel.page(II)I -/
abbrev iX6_page : bp_MI := (yX6_page, cX6_page, 3, some (Jvm.ClassFile.FieldType.int), [], 2, 46)
def PX6_page (a0 : Nat) (xp1 : Int32) (xp2 : Int32) : bp_M Int32 :=
  bp_bind (bp_is 4 a0 (PX6_mayPage a0 xp1 (1 : Int32))) fun x1 =>
  bp_if (x1 = 0) (
  bp_ret (0 : Int32)) (
  bp_if (xp2 = 0) (
  bp_getN 4 41 a0 fun a7 =>
  bp_aldI 20 a7 xp1 fun x8 =>
  bp_ret x8) (
  bp_if (xp2 = (1 : Int32)) (
  bp_getN 4 42 a0 fun a5 =>
  bp_aldI 20 a5 xp1 fun x6 =>
  bp_ret x6) (
  bp_if (xp2 = (2 : Int32)) (
  bp_getN 4 44 a0 fun a3 =>
  bp_aldI 20 a3 xp1 fun x4 =>
  bp_ret x4) (
  bp_if (xp2 = (3 : Int32)) (
  bp_bind (bp_is 4 a0 (PX6_darkOf a0 xp1)) fun x2 =>
  bp_ret x2) (
  bp_ret (-1 : Int32))))))
set_option maxHeartbeats 4000000 in
set_option maxRecDepth 100000 in
theorem cnX6_page {G : bp_GT} (a0 : Nat) (xp1 : Int32) (xp2 : Int32) : bp_Con G iX6_page (ws_ iX6_page.1 iX6_page.2.1 iX6_page.2.2.1 iX6_page.2.2.2.1) [.ref a0, .int xp1, .int xp2] (PX6_page a0 xp1 xp2) bp_eI := by
  refine bp_con_of [(0, .ref a0), (1, .int xp1), (2, .int xp2)] rfl (by decide) (Nat.le_of_ble_eq_true rfl) rfl ?_
  unfold PX6_page
  refine bp_j_aload_n 0 dX6_page_0 rfl ?_
  refine bp_j_iload_n 1 dX6_page_1 rfl ?_
  refine bp_j_iconst (v := 1) dX6_page_2 (by decide) ?_
  refine bp_j_cl_I (bp_ranV (t := 4) (n := 2) (As := [.int xp1, .int (1 : Int32)]) (cnX6_mayPage (G := G) a0 xp1 (1 : Int32)) rfl (lw_V q1466 q1468 qs69 q82 q1469) ⟨rfl, by decide +kernel, by decide +kernel, by decide +kernel⟩ ⟨by decide, by decide⟩ (rest := []) rfl rfl (Nat.le_of_ble_eq_true rfl) dX6_page_3) (by decide) (fun x1 => ?_)
  refine bp_j_if_ne (tgt := 11) dX6_page_6 (by decide) ?_ ?_
  · refine bp_j_iload_n 2 dX6_page_11 rfl ?_
    refine bp_j_if_ne (tgt := 24) dX6_page_12 (by decide) ?_ ?_
    · refine bp_j_iload_n 2 dX6_page_24 rfl ?_
      refine bp_j_iconst (v := 1) dX6_page_25 (by decide) ?_
      refine bp_j_icmp_ne (tgt := 38) dX6_page_26 (by decide) ?_ ?_
      · refine bp_j_iload_n 2 dX6_page_38 rfl ?_
        refine bp_j_iconst (v := 2) dX6_page_39 (by decide) ?_
        refine bp_j_icmp_ne (tgt := 52) dX6_page_40 (by decide) ?_ ?_
        · refine bp_j_iload_n 2 dX6_page_52 rfl ?_
          refine bp_j_iconst (v := 3) dX6_page_53 (by decide) ?_
          refine bp_j_icmp_ne (tgt := 65) dX6_page_54 (by decide) ?_ ?_
          · refine bp_j_iconst (v := -1) dX6_page_65 (by decide) ?_
            exact bp_j_iret rfl dX6_page_66
          refine bp_j_aload_n 0 dX6_page_57 rfl ?_
          refine bp_j_iload_n 1 dX6_page_58 rfl ?_
          refine bp_j_cl_I (bp_ranV (t := 4) (n := 1) (As := [.int xp1]) (cnX6_darkOf (G := G) a0 xp1) rfl (lw_V q1470 q1472 qs70 q82 q1473) ⟨rfl, by decide +kernel, by decide +kernel, by decide +kernel⟩ ⟨by decide, by decide⟩ (rest := []) rfl rfl (Nat.le_of_ble_eq_true rfl) dX6_page_59) (by decide) (fun x2 => ?_)
          refine bp_j_goto (tgt := 66) dX6_page_62 (by decide) ?_
          exact bp_j_iret rfl dX6_page_66
        refine bp_j_aload_n 0 dX6_page_43 rfl ?_
        refine bp_j_getN (t := 4) (k := 44) rfl (by decide) (bp_lk q1124) dX6_page_44 (fun _ _ _ => rfl) (fun a3 => ?_)
        refine bp_j_iload_n 1 dX6_page_47 rfl ?_
        refine bp_j_iaload dX6_page_48 (fun x4 => ?_)
        refine bp_j_goto (tgt := 66) dX6_page_49 (by decide) ?_
        exact bp_j_iret rfl dX6_page_66
      refine bp_j_aload_n 0 dX6_page_29 rfl ?_
      refine bp_j_getN (t := 4) (k := 42) rfl (by decide) (bp_lk q1122) dX6_page_30 (fun _ _ _ => rfl) (fun a5 => ?_)
      refine bp_j_iload_n 1 dX6_page_33 rfl ?_
      refine bp_j_iaload dX6_page_34 (fun x6 => ?_)
      refine bp_j_goto (tgt := 66) dX6_page_35 (by decide) ?_
      exact bp_j_iret rfl dX6_page_66
    refine bp_j_aload_n 0 dX6_page_15 rfl ?_
    refine bp_j_getN (t := 4) (k := 41) rfl (by decide) (bp_lk q1121) dX6_page_16 (fun _ _ _ => rfl) (fun a7 => ?_)
    refine bp_j_iload_n 1 dX6_page_19 rfl ?_
    refine bp_j_iaload dX6_page_20 (fun x8 => ?_)
    refine bp_j_goto (tgt := 66) dX6_page_21 (by decide) ?_
    exact bp_j_iret rfl dX6_page_66
  refine bp_j_iconst (v := 0) dX6_page_9 (by decide) ?_
  exact bp_j_iret rfl dX6_page_10
/-- BilevelPagesModel.pass(Z)I -/
abbrev iX6_pass : bp_MI := (yX6_pass, cX6_pass, 3, some (Jvm.ClassFile.FieldType.int), [], 1, 24)
def BX6_pass_55 (a0 : Nat) (xp1 : Int32) (k9 : bp_M Int32) (k21 : Int32 → bp_M Int32) : Int32 → bp_M Int32 :=
  fun x20 =>
  bp_getI 4 13 a0 fun x22 =>
  bp_if (x22 ≤ x20) (
  k9) (
  bp_jn (fun (k23 : bp_M Int32) =>
  bp_if (xp1 = 0) (
  bp_getN 4 16 a0 fun a25 =>
  bp_getI 4 17 a0 fun x26 =>
  bp_getN 4 12 a0 fun a27 =>
  bp_aldI 20 a27 x20 fun x28 =>
  bp_astI a25 (x26 + x20) x28 <|
  k23) (
  bp_getN 4 14 a0 fun a29 =>
  bp_getI 4 15 a0 fun x30 =>
  bp_getN 4 12 a0 fun a31 =>
  bp_aldI 20 a31 x20 fun x32 =>
  bp_astI a29 (x30 + x20) x32 <|
  k23)) (bp_letI (x20 + (1 : Int32)) fun x24 =>
  k21 x24))
def PX6_pass (a0 : Nat) (xp1 : Int32) : bp_M Int32 :=
  bp_jn (fun (k2 : Int32 → bp_M Int32) =>
  bp_if (xp1 = 0) (
  k2 (1 : Int32)) (
  bp_getI 4 1 a0 fun x33 =>
  bp_if (x33 = (2 : Int32)) (
  k2 (1 : Int32)) (
  k2 (0 : Int32)))) (fun (x1 : Int32) =>
  bp_getI 4 15 a0 fun x3 =>
  bp_getI 4 17 a0 fun x4 =>
  bp_getI 4 13 a0 fun x5 =>
  bp_jn (fun (k7 : Int32 → bp_M Int32) =>
  bp_if ((3000 : Int32) < ((x3 + x4) + x5)) (
  k7 (0 : Int32)) (
  k7 (1 : Int32))) (fun (x6 : Int32) =>
  bp_bind (bp_is 4 a0 (PX6_may a0 x1 x6 (1 : Int32) (1 : Int32))) fun x8 =>
  bp_if (x8 = 0) (
  bp_ret (0 : Int32)) (
  bp_jn (fun (k9 : bp_M Int32) =>
  bp_loop (fun _ => bp_no) (BX6_pass_55 a0 xp1 k9) (fun k => k (0 : Int32))) (bp_getI 4 15 a0 fun x10 =>
  bp_jn (fun (k12 : Int32 → bp_M Int32) =>
  bp_if (xp1 = 0) (
  k12 (0 : Int32)) (
  bp_getI 4 13 a0 fun x19 =>
  k12 x19)) (fun (x11 : Int32) =>
  bp_putI 4 15 a0 (x10 + x11) <|
  bp_getI 4 17 a0 fun x13 =>
  bp_jn (fun (k15 : Int32 → bp_M Int32) =>
  bp_if (xp1 = 0) (
  bp_getI 4 13 a0 fun x18 =>
  k15 x18) (
  k15 (0 : Int32))) (fun (x14 : Int32) =>
  bp_putI 4 17 a0 (x13 + x14) <|
  bp_if (xp1 = 0) (
  bp_getI 4 17 a0 fun x16 =>
  bp_ret x16) (
  bp_getI 4 15 a0 fun x17 =>
  bp_ret x17)))))))
set_option maxHeartbeats 4000000 in
set_option maxRecDepth 100000 in
theorem cnX6_pass {G : bp_GT} (a0 : Nat) (xp1 : Int32) : bp_Con G iX6_pass (ws_ iX6_pass.1 iX6_pass.2.1 iX6_pass.2.2.1 iX6_pass.2.2.2.1) [.ref a0, .int xp1] (PX6_pass a0 xp1) bp_eI := by
  refine bp_con_of [(0, .ref a0), (1, .int xp1)] rfl (by decide) (Nat.le_of_ble_eq_true rfl) rfl ?_
  unfold PX6_pass
  refine bp_j_aload_n 0 dX6_pass_0 rfl ?_
  refine bp_j_iload_n 1 dX6_pass_1 rfl ?_
  refine bp_j_jm (fun k => ∀ (x1 : Int32), bp_J G iX6_pass (bp_Qn G bp_eI) (k x1) 18 [(0, .ref a0), (1, .int xp1)] [.int x1, .ref a0]) (fun k2 hk2 => ?_) (fun x1 => ?_)
  · refine bp_j_if_eq (tgt := 13) dX6_pass_2 (by decide) ?_ ?_
    · refine bp_j_iconst (v := 1) dX6_pass_13 (by decide) ?_
      refine bp_j_goto (tgt := 18) dX6_pass_14 (by decide) ?_
      exact hk2 (1 : Int32)
    refine bp_j_aload_n 0 dX6_pass_5 rfl ?_
    refine bp_j_getI (t := 4) (k := 1) rfl (by decide) (bp_lk q1081) dX6_pass_6 (fun _ _ _ => rfl) (fun x33 => ?_)
    refine bp_j_iconst (v := 2) dX6_pass_9 (by decide) ?_
    refine bp_j_icmp_ne (tgt := 17) dX6_pass_10 (by decide) ?_ ?_
    · refine bp_j_iconst (v := 0) dX6_pass_17 (by decide) ?_
      exact hk2 (0 : Int32)
    refine bp_j_iconst (v := 1) dX6_pass_13 (by decide) ?_
    refine bp_j_goto (tgt := 18) dX6_pass_14 (by decide) ?_
    exact hk2 (1 : Int32)
  refine bp_j_aload_n 0 dX6_pass_18 rfl ?_
  refine bp_j_getI (t := 4) (k := 15) rfl (by decide) (bp_lk q1095) dX6_pass_19 (fun _ _ _ => rfl) (fun x3 => ?_)
  refine bp_j_aload_n 0 dX6_pass_22 rfl ?_
  refine bp_j_getI (t := 4) (k := 17) rfl (by decide) (bp_lk q1097) dX6_pass_23 (fun _ _ _ => rfl) (fun x4 => ?_)
  refine bp_j_iadd dX6_pass_26 ?_
  refine bp_j_aload_n 0 dX6_pass_27 rfl ?_
  refine bp_j_getI (t := 4) (k := 13) rfl (by decide) (bp_lk q1093) dX6_pass_28 (fun _ _ _ => rfl) (fun x5 => ?_)
  refine bp_j_iadd dX6_pass_31 ?_
  refine bp_j_sipush (v := 3000) dX6_pass_32 (by decide) ?_
  refine bp_j_jm (fun k => ∀ (x6 : Int32), bp_J G iX6_pass (bp_Qn G bp_eI) (k x6) 43 [(0, .ref a0), (1, .int xp1)] [.int x6, .int x1, .ref a0]) (fun k7 hk7 => ?_) (fun x6 => ?_)
  · refine bp_j_icmp_gt (tgt := 42) dX6_pass_35 (by decide) ?_ ?_
    · refine bp_j_iconst (v := 0) dX6_pass_42 (by decide) ?_
      exact hk7 (0 : Int32)
    refine bp_j_iconst (v := 1) dX6_pass_38 (by decide) ?_
    refine bp_j_goto (tgt := 43) dX6_pass_39 (by decide) ?_
    exact hk7 (1 : Int32)
  refine bp_j_iconst (v := 1) dX6_pass_43 (by decide) ?_
  refine bp_j_iconst (v := 1) dX6_pass_44 (by decide) ?_
  refine bp_j_cl_I (bp_ranV (t := 4) (n := 4) (As := [.int x1, .int x6, .int (1 : Int32), .int (1 : Int32)]) (cnX6_may (G := G) a0 x1 x6 (1 : Int32) (1 : Int32)) rfl (lw_V q1247 q1249 qs34 q82 q1250) ⟨rfl, by decide +kernel, by decide +kernel, by decide +kernel⟩ ⟨by decide, by decide⟩ (rest := []) rfl rfl (Nat.le_of_ble_eq_true rfl) dX6_pass_45) (by decide) (fun x8 => ?_)
  refine bp_j_if_ne (tgt := 53) dX6_pass_48 (by decide) ?_ ?_
  · refine bp_j_iconst (v := 0) dX6_pass_53 (by decide) ?_
    refine bp_j_istore_n (lv' := [(2, .int (0 : Int32)), (0, .ref a0), (1, .int xp1)]) dX6_pass_54 (by decide) rfl ?_
    refine bp_j_jm (fun k => bp_J G iX6_pass (bp_Qn G bp_eI) (k) 110 [(0, .ref a0), (1, .int xp1)] []) (fun k9 hk9 => ?_) ?_
    · refine bp_j_loop (fun k => ∀ (x20 : Int32), bp_J G iX6_pass (bp_Qn G bp_eI) (k x20) 55 [(0, .ref a0), (1, .int xp1), (2, .int x20)] []) (fun _ => bp_j_no) (fun k21 hk21 x20 => ?_) (fun k h => bp_j_sub [1, 2, 0] rfl (h (0 : Int32)))
      unfold BX6_pass_55
      refine bp_j_iload_n 2 dX6_pass_55 rfl ?_
      refine bp_j_aload_n 0 dX6_pass_56 rfl ?_
      refine bp_j_getI (t := 4) (k := 13) rfl (by decide) (bp_lk q1093) dX6_pass_57 (fun _ _ _ => rfl) (fun x22 => ?_)
      refine bp_j_icmp_ge (tgt := 110) dX6_pass_60 (by decide) ?_ ?_
      · exact bp_j_sub [0, 1] rfl (hk9)
      refine bp_j_iload_n 1 dX6_pass_63 rfl ?_
      refine bp_j_jm (fun k => bp_J G iX6_pass (bp_Qn G bp_eI) (k) 104 [(0, .ref a0), (1, .int xp1), (2, .int x20)] []) (fun k23 hk23 => ?_) ?_
      · refine bp_j_if_eq (tgt := 87) dX6_pass_64 (by decide) ?_ ?_
        · refine bp_j_aload_n 0 dX6_pass_87 rfl ?_
          refine bp_j_getN (t := 4) (k := 16) rfl (by decide) (bp_lk q1096) dX6_pass_88 (fun _ _ _ => rfl) (fun a25 => ?_)
          refine bp_j_aload_n 0 dX6_pass_91 rfl ?_
          refine bp_j_getI (t := 4) (k := 17) rfl (by decide) (bp_lk q1097) dX6_pass_92 (fun _ _ _ => rfl) (fun x26 => ?_)
          refine bp_j_iload_n 2 dX6_pass_95 rfl ?_
          refine bp_j_iadd dX6_pass_96 ?_
          refine bp_j_aload_n 0 dX6_pass_97 rfl ?_
          refine bp_j_getN (t := 4) (k := 12) rfl (by decide) (bp_lk q1092) dX6_pass_98 (fun _ _ _ => rfl) (fun a27 => ?_)
          refine bp_j_iload_n 2 dX6_pass_101 rfl ?_
          refine bp_j_iaload dX6_pass_102 (fun x28 => ?_)
          refine bp_j_iastore dX6_pass_103 ?_
          exact hk23
        refine bp_j_aload_n 0 dX6_pass_67 rfl ?_
        refine bp_j_getN (t := 4) (k := 14) rfl (by decide) (bp_lk q1094) dX6_pass_68 (fun _ _ _ => rfl) (fun a29 => ?_)
        refine bp_j_aload_n 0 dX6_pass_71 rfl ?_
        refine bp_j_getI (t := 4) (k := 15) rfl (by decide) (bp_lk q1095) dX6_pass_72 (fun _ _ _ => rfl) (fun x30 => ?_)
        refine bp_j_iload_n 2 dX6_pass_75 rfl ?_
        refine bp_j_iadd dX6_pass_76 ?_
        refine bp_j_aload_n 0 dX6_pass_77 rfl ?_
        refine bp_j_getN (t := 4) (k := 12) rfl (by decide) (bp_lk q1092) dX6_pass_78 (fun _ _ _ => rfl) (fun a31 => ?_)
        refine bp_j_iload_n 2 dX6_pass_81 rfl ?_
        refine bp_j_iaload dX6_pass_82 (fun x32 => ?_)
        refine bp_j_iastore dX6_pass_83 ?_
        refine bp_j_goto (tgt := 104) dX6_pass_84 (by decide) ?_
        exact hk23
      refine bp_j_iincL (lv' := fun x24 => [(2, .int x24), (0, .ref a0), (1, .int xp1)]) 2 dX6_pass_104 rfl (by decide) (by decide) (fun _ => rfl) (fun x24 => ?_)
      refine bp_j_goto (tgt := 55) dX6_pass_107 (by decide) ?_
      exact bp_j_sub [1, 2, 0] rfl (hk21 x24)
    refine bp_j_aload_n 0 dX6_pass_110 rfl ?_
    refine bp_j_dup dX6_pass_111 rfl ?_
    refine bp_j_getI (t := 4) (k := 15) rfl (by decide) (bp_lk q1095) dX6_pass_112 (fun _ _ _ => rfl) (fun x10 => ?_)
    refine bp_j_iload_n 1 dX6_pass_115 rfl ?_
    refine bp_j_jm (fun k => ∀ (x11 : Int32), bp_J G iX6_pass (bp_Qn G bp_eI) (k x11) 127 [(0, .ref a0), (1, .int xp1)] [.int x11, .int x10, .ref a0]) (fun k12 hk12 => ?_) (fun x11 => ?_)
    · refine bp_j_if_eq (tgt := 126) dX6_pass_116 (by decide) ?_ ?_
      · refine bp_j_iconst (v := 0) dX6_pass_126 (by decide) ?_
        exact hk12 (0 : Int32)
      refine bp_j_aload_n 0 dX6_pass_119 rfl ?_
      refine bp_j_getI (t := 4) (k := 13) rfl (by decide) (bp_lk q1093) dX6_pass_120 (fun _ _ _ => rfl) (fun x19 => ?_)
      refine bp_j_goto (tgt := 127) dX6_pass_123 (by decide) ?_
      exact hk12 x19
    refine bp_j_iadd dX6_pass_127 ?_
    refine bp_j_putI (t := 4) (k := 15) rfl (by decide) (by decide) (bp_lk q1095) rfl dX6_pass_128 rfl ?_
    refine bp_j_aload_n 0 dX6_pass_131 rfl ?_
    refine bp_j_dup dX6_pass_132 rfl ?_
    refine bp_j_getI (t := 4) (k := 17) rfl (by decide) (bp_lk q1097) dX6_pass_133 (fun _ _ _ => rfl) (fun x13 => ?_)
    refine bp_j_iload_n 1 dX6_pass_136 rfl ?_
    refine bp_j_jm (fun k => ∀ (x14 : Int32), bp_J G iX6_pass (bp_Qn G bp_eI) (k x14) 148 [(0, .ref a0), (1, .int xp1)] [.int x14, .int x13, .ref a0]) (fun k15 hk15 => ?_) (fun x14 => ?_)
    · refine bp_j_if_eq (tgt := 144) dX6_pass_137 (by decide) ?_ ?_
      · refine bp_j_aload_n 0 dX6_pass_144 rfl ?_
        refine bp_j_getI (t := 4) (k := 13) rfl (by decide) (bp_lk q1093) dX6_pass_145 (fun _ _ _ => rfl) (fun x18 => ?_)
        exact hk15 x18
      refine bp_j_iconst (v := 0) dX6_pass_140 (by decide) ?_
      refine bp_j_goto (tgt := 148) dX6_pass_141 (by decide) ?_
      exact hk15 (0 : Int32)
    refine bp_j_iadd dX6_pass_148 ?_
    refine bp_j_putI (t := 4) (k := 17) rfl (by decide) (by decide) (bp_lk q1097) rfl dX6_pass_149 rfl ?_
    refine bp_j_iload_n 1 dX6_pass_152 rfl ?_
    refine bp_j_if_eq (tgt := 163) dX6_pass_153 (by decide) ?_ ?_
    · refine bp_j_aload_n 0 dX6_pass_163 rfl ?_
      refine bp_j_getI (t := 4) (k := 17) rfl (by decide) (bp_lk q1097) dX6_pass_164 (fun _ _ _ => rfl) (fun x16 => ?_)
      exact bp_j_iret rfl dX6_pass_167
    refine bp_j_aload_n 0 dX6_pass_156 rfl ?_
    refine bp_j_getI (t := 4) (k := 15) rfl (by decide) (bp_lk q1095) dX6_pass_157 (fun _ _ _ => rfl) (fun x17 => ?_)
    refine bp_j_goto (tgt := 167) dX6_pass_160 (by decide) ?_
    exact bp_j_iret rfl dX6_pass_167
  refine bp_j_iconst (v := 0) dX6_pass_51 (by decide) ?_
  exact bp_j_iret rfl dX6_pass_52
/-- BilevelPagesModel.pixel(IIIZ)Z -/
abbrev iX6_pixel : bp_MI := (yX6_pixel, cX6_pixel, 8, some (Jvm.ClassFile.FieldType.boolean), [], 2, 43)
def PX6_pixel (a0 : Nat) (xp1 : Int32) (xp2 : Int32) (xp3 : Int32) (xp4 : Int32) : bp_M Int32 :=
  bp_bind (bp_is 4 a0 (PX6_isSegment a0 xp1)) fun x1 =>
  bp_jn (fun (k3 : Int32 → bp_M Int32) =>
  bp_if (x1 = 0) (
  k3 (0 : Int32)) (
  bp_getN 4 3 a0 fun a21 =>
  bp_aldI 20 a21 xp1 fun x22 =>
  bp_bind (PX6_isRegion x22) fun x23 =>
  bp_if (x23 = 0) (
  k3 (0 : Int32)) (
  k3 (1 : Int32)))) (fun (x2 : Int32) =>
  bp_bind (bp_is 4 a0 (PX6_may a0 x1 x2 (1 : Int32) (1 : Int32))) fun x4 =>
  bp_if (x4 = 0) (
  bp_retZ (0 : Int32)) (
  bp_getN 4 10 a0 fun a5 =>
  bp_aldI 20 a5 ((6 : Int32) * xp1) fun x6 =>
  bp_bind (PX6_isIn xp2 (0 : Int32) (x6 - (1 : Int32))) fun x7 =>
  bp_jn (fun (k9 : Int32 → bp_M Int32) =>
  bp_if (x7 = 0) (
  k9 (0 : Int32)) (
  bp_getN 4 10 a0 fun a18 =>
  bp_aldI 20 a18 (((6 : Int32) * xp1) + (1 : Int32)) fun x19 =>
  bp_bind (PX6_isIn xp3 (0 : Int32) (x19 - (1 : Int32))) fun x20 =>
  bp_if (x20 = 0) (
  k9 (0 : Int32)) (
  k9 (1 : Int32)))) (fun (x8 : Int32) =>
  bp_bind (bp_is 4 a0 (PX6_may a0 x8 (1 : Int32) (1 : Int32) (1 : Int32))) fun x10 =>
  bp_if (x10 = 0) (
  bp_retZ (0 : Int32)) (
  bp_getN 4 11 a0 fun a11 =>
  bp_aldI 20 a11 (((16 : Int32) * xp1) + xp3) fun x12 =>
  bp_jn (fun (k14 : Int32 → bp_M Int32) =>
  bp_if (((x12 >>> (xp2 &&& 31)) &&& (1 : Int32)) = (1 : Int32)) (
  k14 (1 : Int32)) (
  k14 (0 : Int32))) (fun (x13 : Int32) =>
  bp_getN 4 11 a0 fun a15 =>
  bp_jn (fun (k17 : Int32 → bp_M Int32) =>
  bp_if (xp4 = 0) (
  k17 (x12 &&& (((1 : Int32) <<< (xp2 &&& 31)) ^^^ (-1 : Int32)))) (
  k17 (x12 ||| ((1 : Int32) <<< (xp2 &&& 31))))) (fun (x16 : Int32) =>
  bp_astI a15 (((16 : Int32) * xp1) + xp3) x16 <|
  bp_if (x13 = xp4) (
  bp_retZ (0 : Int32)) (
  bp_retZ (1 : Int32))))))))
set_option maxHeartbeats 4000000 in
set_option maxRecDepth 100000 in
theorem cnX6_pixel {G : bp_GT} (a0 : Nat) (xp1 : Int32) (xp2 : Int32) (xp3 : Int32) (xp4 : Int32) : bp_Con G iX6_pixel (ws_ iX6_pixel.1 iX6_pixel.2.1 iX6_pixel.2.2.1 iX6_pixel.2.2.2.1) [.ref a0, .int xp1, .int xp2, .int xp3, .int xp4] (PX6_pixel a0 xp1 xp2 xp3 xp4) bp_eI := by
  refine bp_con_of [(0, .ref a0), (1, .int xp1), (2, .int xp2), (3, .int xp3), (4, .int xp4)] rfl (by decide) (Nat.le_of_ble_eq_true rfl) rfl ?_
  unfold PX6_pixel
  refine bp_j_aload_n 0 dX6_pixel_0 rfl ?_
  refine bp_j_iload_n 1 dX6_pixel_1 rfl ?_
  refine bp_j_cl_I (bp_ranV (t := 4) (n := 1) (As := [.int xp1]) (cnX6_isSegment (G := G) a0 xp1) rfl (lw_V q1261 q1263 qs35 q82 q1264) ⟨rfl, by decide +kernel, by decide +kernel, by decide +kernel⟩ ⟨by decide, by decide⟩ (rest := []) rfl rfl (Nat.le_of_ble_eq_true rfl) dX6_pixel_2) (by decide) (fun x1 => ?_)
  refine bp_j_istore (lv' := [(5, .int x1), (0, .ref a0), (1, .int xp1), (2, .int xp2), (3, .int xp3), (4, .int xp4)]) dX6_pixel_5 (by decide) rfl ?_
  refine bp_j_aload_n 1 dX6_pixel_7 rfl ?_
  refine bp_j_iload 0 dX6_pixel_8 rfl ?_
  refine bp_j_iload 0 dX6_pixel_10 rfl ?_
  refine bp_j_jm (fun k => ∀ (x2 : Int32), bp_J G iX6_pixel (bp_Qn G bp_eI) (k x2) 32 [(0, .ref a0), (1, .int xp1), (2, .int xp2), (3, .int xp3), (4, .int xp4)] [.int x2, .int x1, .ref a0]) (fun k3 hk3 => ?_) (fun x2 => ?_)
  · refine bp_j_if_eq (tgt := 31) dX6_pixel_12 (by decide) ?_ ?_
    · refine bp_j_iconst (v := 0) dX6_pixel_31 (by decide) ?_
      exact bp_j_sub [1, 2, 3, 4, 5] rfl (hk3 (0 : Int32))
    refine bp_j_aload_n 1 dX6_pixel_15 rfl ?_
    refine bp_j_getN (t := 4) (k := 3) rfl (by decide) (bp_lk q1083) dX6_pixel_16 (fun _ _ _ => rfl) (fun a21 => ?_)
    refine bp_j_iload_n 2 dX6_pixel_19 rfl ?_
    refine bp_j_iaload dX6_pixel_20 (fun x22 => ?_)
    refine bp_j_cl_I (bp_ranS (n := 1) (As := [.int x22]) (cnX6_isRegion (G := G) x22) (lw_S q1254 q1255 q82 q1256) ⟨by decide +kernel, by decide +kernel, by decide +kernel⟩ ⟨by decide, by decide⟩ (rest := [.int x1, .ref a0]) rfl rfl (Nat.le_of_ble_eq_true rfl) dX6_pixel_21) (by decide) (fun x23 => ?_)
    refine bp_j_if_eq (tgt := 31) dX6_pixel_24 (by decide) ?_ ?_
    · refine bp_j_iconst (v := 0) dX6_pixel_31 (by decide) ?_
      exact bp_j_sub [1, 2, 3, 4, 5] rfl (hk3 (0 : Int32))
    refine bp_j_iconst (v := 1) dX6_pixel_27 (by decide) ?_
    refine bp_j_goto (tgt := 32) dX6_pixel_28 (by decide) ?_
    exact bp_j_sub [1, 2, 3, 4, 5] rfl (hk3 (1 : Int32))
  refine bp_j_iconst (v := 1) dX6_pixel_32 (by decide) ?_
  refine bp_j_iconst (v := 1) dX6_pixel_33 (by decide) ?_
  refine bp_j_cl_I (bp_ranV (t := 4) (n := 4) (As := [.int x1, .int x2, .int (1 : Int32), .int (1 : Int32)]) (cnX6_may (G := G) a0 x1 x2 (1 : Int32) (1 : Int32)) rfl (lw_V q1247 q1249 qs34 q82 q1250) ⟨rfl, by decide +kernel, by decide +kernel, by decide +kernel⟩ ⟨by decide, by decide⟩ (rest := []) rfl rfl (Nat.le_of_ble_eq_true rfl) dX6_pixel_34) (by decide) (fun x4 => ?_)
  refine bp_j_if_ne (tgt := 42) dX6_pixel_37 (by decide) ?_ ?_
  · refine bp_j_aload_n 0 dX6_pixel_42 rfl ?_
    refine bp_j_iload_n 2 dX6_pixel_43 rfl ?_
    refine bp_j_iconst (v := 0) dX6_pixel_44 (by decide) ?_
    refine bp_j_aload_n 0 dX6_pixel_45 rfl ?_
    refine bp_j_getN (t := 4) (k := 10) rfl (by decide) (bp_lk q1090) dX6_pixel_46 (fun _ _ _ => rfl) (fun a5 => ?_)
    refine bp_j_bipush (v := 6) dX6_pixel_49 (by decide) ?_
    refine bp_j_iload_n 1 dX6_pixel_51 rfl ?_
    refine bp_j_imul dX6_pixel_52 ?_
    refine bp_j_iaload dX6_pixel_53 (fun x6 => ?_)
    refine bp_j_iconst (v := 1) dX6_pixel_54 (by decide) ?_
    refine bp_j_isub dX6_pixel_55 ?_
    refine bp_j_cl_I (bp_ranS (n := 3) (As := [.int xp2, .int (0 : Int32), .int (x6 - (1 : Int32))]) (cnX6_isIn (G := G) xp2 (0 : Int32) (x6 - (1 : Int32))) (lw_S q1244 q1245 q82 q1246) ⟨by decide +kernel, by decide +kernel, by decide +kernel⟩ ⟨by decide, by decide⟩ (rest := [.ref a0]) rfl rfl (Nat.le_of_ble_eq_true rfl) dX6_pixel_56) (by decide) (fun x7 => ?_)
    refine bp_j_jm (fun k => ∀ (x8 : Int32), bp_J G iX6_pixel (bp_Qn G bp_eI) (k x8) 88 [(0, .ref a0), (1, .int xp1), (2, .int xp2), (3, .int xp3), (4, .int xp4)] [.int x8, .ref a0]) (fun k9 hk9 => ?_) (fun x8 => ?_)
    · refine bp_j_if_eq (tgt := 87) dX6_pixel_59 (by decide) ?_ ?_
      · refine bp_j_iconst (v := 0) dX6_pixel_87 (by decide) ?_
        exact hk9 (0 : Int32)
      refine bp_j_iload_n 3 dX6_pixel_62 rfl ?_
      refine bp_j_iconst (v := 0) dX6_pixel_63 (by decide) ?_
      refine bp_j_aload_n 0 dX6_pixel_64 rfl ?_
      refine bp_j_getN (t := 4) (k := 10) rfl (by decide) (bp_lk q1090) dX6_pixel_65 (fun _ _ _ => rfl) (fun a18 => ?_)
      refine bp_j_bipush (v := 6) dX6_pixel_68 (by decide) ?_
      refine bp_j_iload_n 1 dX6_pixel_70 rfl ?_
      refine bp_j_imul dX6_pixel_71 ?_
      refine bp_j_iconst (v := 1) dX6_pixel_72 (by decide) ?_
      refine bp_j_iadd dX6_pixel_73 ?_
      refine bp_j_iaload dX6_pixel_74 (fun x19 => ?_)
      refine bp_j_iconst (v := 1) dX6_pixel_75 (by decide) ?_
      refine bp_j_isub dX6_pixel_76 ?_
      refine bp_j_cl_I (bp_ranS (n := 3) (As := [.int xp3, .int (0 : Int32), .int (x19 - (1 : Int32))]) (cnX6_isIn (G := G) xp3 (0 : Int32) (x19 - (1 : Int32))) (lw_S q1244 q1245 q82 q1246) ⟨by decide +kernel, by decide +kernel, by decide +kernel⟩ ⟨by decide, by decide⟩ (rest := [.ref a0]) rfl rfl (Nat.le_of_ble_eq_true rfl) dX6_pixel_77) (by decide) (fun x20 => ?_)
      refine bp_j_if_eq (tgt := 87) dX6_pixel_80 (by decide) ?_ ?_
      · refine bp_j_iconst (v := 0) dX6_pixel_87 (by decide) ?_
        exact hk9 (0 : Int32)
      refine bp_j_iconst (v := 1) dX6_pixel_83 (by decide) ?_
      refine bp_j_goto (tgt := 88) dX6_pixel_84 (by decide) ?_
      exact hk9 (1 : Int32)
    refine bp_j_iconst (v := 1) dX6_pixel_88 (by decide) ?_
    refine bp_j_iconst (v := 1) dX6_pixel_89 (by decide) ?_
    refine bp_j_iconst (v := 1) dX6_pixel_90 (by decide) ?_
    refine bp_j_cl_I (bp_ranV (t := 4) (n := 4) (As := [.int x8, .int (1 : Int32), .int (1 : Int32), .int (1 : Int32)]) (cnX6_may (G := G) a0 x8 (1 : Int32) (1 : Int32) (1 : Int32)) rfl (lw_V q1247 q1249 qs34 q82 q1250) ⟨rfl, by decide +kernel, by decide +kernel, by decide +kernel⟩ ⟨by decide, by decide⟩ (rest := []) rfl rfl (Nat.le_of_ble_eq_true rfl) dX6_pixel_91) (by decide) (fun x10 => ?_)
    refine bp_j_if_ne (tgt := 99) dX6_pixel_94 (by decide) ?_ ?_
    · refine bp_j_aload_n 0 dX6_pixel_99 rfl ?_
      refine bp_j_getN (t := 4) (k := 11) rfl (by decide) (bp_lk q1091) dX6_pixel_100 (fun _ _ _ => rfl) (fun a11 => ?_)
      refine bp_j_bipush (v := 16) dX6_pixel_103 (by decide) ?_
      refine bp_j_iload_n 1 dX6_pixel_105 rfl ?_
      refine bp_j_imul dX6_pixel_106 ?_
      refine bp_j_iload_n 3 dX6_pixel_107 rfl ?_
      refine bp_j_iadd dX6_pixel_108 ?_
      refine bp_j_iaload dX6_pixel_109 (fun x12 => ?_)
      refine bp_j_istore (lv' := [(6, .int x12), (0, .ref a0), (1, .int xp1), (2, .int xp2), (3, .int xp3), (4, .int xp4)]) dX6_pixel_110 (by decide) rfl ?_
      refine bp_j_iload 0 dX6_pixel_112 rfl ?_
      refine bp_j_iload_n 3 dX6_pixel_114 rfl ?_
      refine bp_j_ishr dX6_pixel_115 ?_
      refine bp_j_iconst (v := 1) dX6_pixel_116 (by decide) ?_
      refine bp_j_iand dX6_pixel_117 ?_
      refine bp_j_iconst (v := 1) dX6_pixel_118 (by decide) ?_
      refine bp_j_jm (fun k => ∀ (x13 : Int32), bp_J G iX6_pixel (bp_Qn G bp_eI) (k x13) 127 [(0, .ref a0), (1, .int xp1), (2, .int xp2), (3, .int xp3), (4, .int xp4), (6, .int x12)] [.int x13]) (fun k14 hk14 => ?_) (fun x13 => ?_)
      · refine bp_j_icmp_ne (tgt := 126) dX6_pixel_119 (by decide) ?_ ?_
        · refine bp_j_iconst (v := 0) dX6_pixel_126 (by decide) ?_
          exact bp_j_sub [1, 2, 3, 4, 5, 0] rfl (hk14 (0 : Int32))
        refine bp_j_iconst (v := 1) dX6_pixel_122 (by decide) ?_
        refine bp_j_goto (tgt := 127) dX6_pixel_123 (by decide) ?_
        exact bp_j_sub [1, 2, 3, 4, 5, 0] rfl (hk14 (1 : Int32))
      refine bp_j_istore (lv' := [(7, .int x13), (0, .ref a0), (1, .int xp1), (2, .int xp2), (3, .int xp3), (4, .int xp4), (6, .int x12)]) dX6_pixel_127 (by decide) rfl ?_
      refine bp_j_aload_n 1 dX6_pixel_129 rfl ?_
      refine bp_j_getN (t := 4) (k := 11) rfl (by decide) (bp_lk q1091) dX6_pixel_130 (fun _ _ _ => rfl) (fun a15 => ?_)
      refine bp_j_bipush (v := 16) dX6_pixel_133 (by decide) ?_
      refine bp_j_iload_n 2 dX6_pixel_135 rfl ?_
      refine bp_j_imul dX6_pixel_136 ?_
      refine bp_j_iload_n 4 dX6_pixel_137 rfl ?_
      refine bp_j_iadd dX6_pixel_138 ?_
      refine bp_j_iload 5 dX6_pixel_139 rfl ?_
      refine bp_j_jm (fun k => ∀ (x16 : Int32), bp_J G iX6_pixel (bp_Qn G bp_eI) (k x16) 161 [(4, .int xp4), (7, .int x13)] [.int x16, .int (((16 : Int32) * xp1) + xp3), .ref a15]) (fun k17 hk17 => ?_) (fun x16 => ?_)
      · refine bp_j_if_eq (tgt := 153) dX6_pixel_141 (by decide) ?_ ?_
        · refine bp_j_iload 6 dX6_pixel_153 rfl ?_
          refine bp_j_iconst (v := 1) dX6_pixel_155 (by decide) ?_
          refine bp_j_iload_n 3 dX6_pixel_156 rfl ?_
          refine bp_j_ishl dX6_pixel_157 ?_
          refine bp_j_iconst (v := -1) dX6_pixel_158 (by decide) ?_
          refine bp_j_ixor dX6_pixel_159 ?_
          refine bp_j_iand dX6_pixel_160 ?_
          exact bp_j_sub [5, 0] rfl (hk17 (x12 &&& (((1 : Int32) <<< (xp2 &&& 31)) ^^^ (-1 : Int32))))
        refine bp_j_iload 6 dX6_pixel_144 rfl ?_
        refine bp_j_iconst (v := 1) dX6_pixel_146 (by decide) ?_
        refine bp_j_iload_n 3 dX6_pixel_147 rfl ?_
        refine bp_j_ishl dX6_pixel_148 ?_
        refine bp_j_ior dX6_pixel_149 ?_
        refine bp_j_goto (tgt := 161) dX6_pixel_150 (by decide) ?_
        exact bp_j_sub [5, 0] rfl (hk17 (x12 ||| ((1 : Int32) <<< (xp2 &&& 31))))
      refine bp_j_iastore dX6_pixel_161 ?_
      refine bp_j_iload 1 dX6_pixel_162 rfl ?_
      refine bp_j_iload 0 dX6_pixel_164 rfl ?_
      refine bp_j_icmp_eq (tgt := 173) dX6_pixel_166 (by decide) ?_ ?_
      · refine bp_j_iconst (v := 0) dX6_pixel_173 (by decide) ?_
        exact bp_j_zret rfl dX6_pixel_174
      refine bp_j_iconst (v := 1) dX6_pixel_169 (by decide) ?_
      refine bp_j_goto (tgt := 174) dX6_pixel_170 (by decide) ?_
      exact bp_j_zret rfl dX6_pixel_174
    refine bp_j_iconst (v := 0) dX6_pixel_97 (by decide) ?_
    exact bp_j_zret rfl dX6_pixel_98
  refine bp_j_iconst (v := 0) dX6_pixel_40 (by decide) ?_
  exact bp_j_zret rfl dX6_pixel_41
/-- BilevelPagesModel.fail(II)Z -/
abbrev iX6_fail : bp_MI := (yX6_fail, cX6_fail, 3, some (Jvm.ClassFile.FieldType.boolean), [], 0, 0)
def PX6_fail (a0 : Nat) (xp1 : Int32) (xp2 : Int32) : bp_M Int32 :=
  bp_getI 4 22 a0 fun x1 =>
  bp_if (x1 = 0) (
  bp_putI 4 22 a0 xp1 <|
  bp_putI 4 23 a0 xp2 <|
  bp_retZ (0 : Int32)) (
  bp_retZ (0 : Int32))
set_option maxHeartbeats 4000000 in
set_option maxRecDepth 100000 in
theorem cnX6_fail {G : bp_GT} (a0 : Nat) (xp1 : Int32) (xp2 : Int32) : bp_Con G iX6_fail (ws_ iX6_fail.1 iX6_fail.2.1 iX6_fail.2.2.1 iX6_fail.2.2.2.1) [.ref a0, .int xp1, .int xp2] (PX6_fail a0 xp1 xp2) bp_eI := by
  refine bp_con_of [(0, .ref a0), (1, .int xp1), (2, .int xp2)] rfl (by decide) (Nat.le_of_ble_eq_true rfl) rfl ?_
  unfold PX6_fail
  refine bp_j_aload_n 0 dX6_fail_0 rfl ?_
  refine bp_j_getI (t := 4) (k := 22) rfl (by decide) (bp_lk q1102) dX6_fail_1 (fun _ _ _ => rfl) (fun x1 => ?_)
  refine bp_j_if_ne (tgt := 17) dX6_fail_4 (by decide) ?_ ?_
  · refine bp_j_iconst (v := 0) dX6_fail_17 (by decide) ?_
    exact bp_j_zret rfl dX6_fail_18
  refine bp_j_aload_n 0 dX6_fail_7 rfl ?_
  refine bp_j_iload_n 1 dX6_fail_8 rfl ?_
  refine bp_j_putI (t := 4) (k := 22) rfl (by decide) (by decide) (bp_lk q1102) rfl dX6_fail_9 rfl ?_
  refine bp_j_aload_n 0 dX6_fail_12 rfl ?_
  refine bp_j_iload_n 2 dX6_fail_13 rfl ?_
  refine bp_j_putI (t := 4) (k := 23) rfl (by decide) (by decide) (bp_lk q1103) rfl dX6_fail_14 rfl ?_
  refine bp_j_iconst (v := 0) dX6_fail_17 (by decide) ?_
  exact bp_j_zret rfl dX6_fail_18
/-- BilevelPagesModel.four(I)I -/
abbrev iX6_four : bp_MI := (yX6_four, cX6_four, 2, some (Jvm.ClassFile.FieldType.int), [], 0, 0)
def PX6_four (a0 : Nat) (xp1 : Int32) : bp_M Int32 :=
  bp_getN 4 18 a0 fun a1 =>
  bp_aldI 20 a1 xp1 fun x2 =>
  bp_getN 4 18 a0 fun a3 =>
  bp_aldI 20 a3 (xp1 + (1 : Int32)) fun x4 =>
  bp_getN 4 18 a0 fun a5 =>
  bp_aldI 20 a5 (xp1 + (2 : Int32)) fun x6 =>
  bp_getN 4 18 a0 fun a7 =>
  bp_aldI 20 a7 (xp1 + (3 : Int32)) fun x8 =>
  bp_ret ((((x2 <<< ((24 : Int32) &&& 31)) ||| (x4 <<< ((16 : Int32) &&& 31))) ||| (x6 <<< ((8 : Int32) &&& 31))) ||| x8)
set_option maxHeartbeats 4000000 in
set_option maxRecDepth 100000 in
theorem cnX6_four {G : bp_GT} (a0 : Nat) (xp1 : Int32) : bp_Con G iX6_four (ws_ iX6_four.1 iX6_four.2.1 iX6_four.2.2.1 iX6_four.2.2.2.1) [.ref a0, .int xp1] (PX6_four a0 xp1) bp_eI := by
  refine bp_con_of [(0, .ref a0), (1, .int xp1)] rfl (by decide) (Nat.le_of_ble_eq_true rfl) rfl ?_
  unfold PX6_four
  refine bp_j_aload_n 0 dX6_four_0 rfl ?_
  refine bp_j_getN (t := 4) (k := 18) rfl (by decide) (bp_lk q1098) dX6_four_1 (fun _ _ _ => rfl) (fun a1 => ?_)
  refine bp_j_iload_n 1 dX6_four_4 rfl ?_
  refine bp_j_iaload dX6_four_5 (fun x2 => ?_)
  refine bp_j_bipush (v := 24) dX6_four_6 (by decide) ?_
  refine bp_j_ishl dX6_four_8 ?_
  refine bp_j_aload_n 0 dX6_four_9 rfl ?_
  refine bp_j_getN (t := 4) (k := 18) rfl (by decide) (bp_lk q1098) dX6_four_10 (fun _ _ _ => rfl) (fun a3 => ?_)
  refine bp_j_iload_n 1 dX6_four_13 rfl ?_
  refine bp_j_iconst (v := 1) dX6_four_14 (by decide) ?_
  refine bp_j_iadd dX6_four_15 ?_
  refine bp_j_iaload dX6_four_16 (fun x4 => ?_)
  refine bp_j_bipush (v := 16) dX6_four_17 (by decide) ?_
  refine bp_j_ishl dX6_four_19 ?_
  refine bp_j_ior dX6_four_20 ?_
  refine bp_j_aload_n 0 dX6_four_21 rfl ?_
  refine bp_j_getN (t := 4) (k := 18) rfl (by decide) (bp_lk q1098) dX6_four_22 (fun _ _ _ => rfl) (fun a5 => ?_)
  refine bp_j_iload_n 1 dX6_four_25 rfl ?_
  refine bp_j_iconst (v := 2) dX6_four_26 (by decide) ?_
  refine bp_j_iadd dX6_four_27 ?_
  refine bp_j_iaload dX6_four_28 (fun x6 => ?_)
  refine bp_j_bipush (v := 8) dX6_four_29 (by decide) ?_
  refine bp_j_ishl dX6_four_31 ?_
  refine bp_j_ior dX6_four_32 ?_
  refine bp_j_aload_n 0 dX6_four_33 rfl ?_
  refine bp_j_getN (t := 4) (k := 18) rfl (by decide) (bp_lk q1098) dX6_four_34 (fun _ _ _ => rfl) (fun a7 => ?_)
  refine bp_j_iload_n 1 dX6_four_37 rfl ?_
  refine bp_j_iconst (v := 3) dX6_four_38 (by decide) ?_
  refine bp_j_iadd dX6_four_39 ?_
  refine bp_j_iaload dX6_four_40 (fun x8 => ?_)
  refine bp_j_ior dX6_four_41 ?_
  exact bp_j_iret rfl dX6_four_42
/-- BilevelPagesModel.hasLeft(J)Z -/
abbrev iX6_hasLeft : bp_MI := (yX6_hasLeft, cX6_hasLeft, 3, some (Jvm.ClassFile.FieldType.boolean), [], 1, 22)
def PX6_hasLeft (a0 : Nat) (lp1 : Int64) : bp_M Int32 :=
  bp_getI 4 20 a0 fun x1 =>
  bp_getI 4 21 a0 fun x2 =>
  bp_if (0 ≤ (lg_cmp ((x1 - x2).toInt64) lp1)) (
  bp_retZ (1 : Int32)) (
  bp_getI 4 20 a0 fun x3 =>
  bp_bind (bp_is 4 a0 (PX6_fail a0 (1 : Int32) x3)) fun x4 =>
  bp_if (x4 = 0) (
  bp_retZ (0 : Int32)) (
  bp_retZ (1 : Int32)))
set_option maxHeartbeats 4000000 in
set_option maxRecDepth 100000 in
theorem cnX6_hasLeft {G : bp_GT} (a0 : Nat) (lp1 : Int64) : bp_Con G iX6_hasLeft (ws_ iX6_hasLeft.1 iX6_hasLeft.2.1 iX6_hasLeft.2.2.1 iX6_hasLeft.2.2.2.1) [.ref a0, .long lp1] (PX6_hasLeft a0 lp1) bp_eI := by
  refine bp_con_of [(0, .ref a0), (1, .long lp1)] rfl (by decide) (Nat.le_of_ble_eq_true rfl) rfl ?_
  unfold PX6_hasLeft
  refine bp_j_aload_n 0 dX6_hasLeft_0 rfl ?_
  refine bp_j_getI (t := 4) (k := 20) rfl (by decide) (bp_lk q1100) dX6_hasLeft_1 (fun _ _ _ => rfl) (fun x1 => ?_)
  refine bp_j_aload_n 0 dX6_hasLeft_4 rfl ?_
  refine bp_j_getI (t := 4) (k := 21) rfl (by decide) (bp_lk q1101) dX6_hasLeft_5 (fun _ _ _ => rfl) (fun x2 => ?_)
  refine bp_j_isub dX6_hasLeft_8 ?_
  refine bp_j_i2l dX6_hasLeft_9 ?_
  refine bp_j_lload_n 1 dX6_hasLeft_10 rfl ?_
  refine bp_j_lcmp dX6_hasLeft_11 ?_
  refine bp_j_if_ge (tgt := 27) dX6_hasLeft_12 (by decide) ?_ ?_
  · refine bp_j_iconst (v := 1) dX6_hasLeft_27 (by decide) ?_
    refine bp_j_goto (tgt := 32) dX6_hasLeft_28 (by decide) ?_
    exact bp_j_zret rfl dX6_hasLeft_32
  refine bp_j_aload_n 0 dX6_hasLeft_15 rfl ?_
  refine bp_j_iconst (v := 1) dX6_hasLeft_16 (by decide) ?_
  refine bp_j_aload_n 0 dX6_hasLeft_17 rfl ?_
  refine bp_j_getI (t := 4) (k := 20) rfl (by decide) (bp_lk q1100) dX6_hasLeft_18 (fun _ _ _ => rfl) (fun x3 => ?_)
  refine bp_j_cl_I (bp_ranV (t := 4) (n := 2) (As := [.int (1 : Int32), .int x3]) (cnX6_fail (G := G) a0 (1 : Int32) x3) rfl (lw_V q1367 q1369 qs49 q82 q1370) ⟨rfl, by decide +kernel, by decide +kernel, by decide +kernel⟩ ⟨by decide, by decide⟩ (rest := []) rfl rfl (Nat.le_of_ble_eq_true rfl) dX6_hasLeft_21) (by decide) (fun x4 => ?_)
  refine bp_j_if_eq (tgt := 31) dX6_hasLeft_24 (by decide) ?_ ?_
  · refine bp_j_iconst (v := 0) dX6_hasLeft_31 (by decide) ?_
    exact bp_j_zret rfl dX6_hasLeft_32
  refine bp_j_iconst (v := 1) dX6_hasLeft_27 (by decide) ?_
  refine bp_j_goto (tgt := 32) dX6_hasLeft_28 (by decide) ?_
  exact bp_j_zret rfl dX6_hasLeft_32
/-- BilevelPagesModel.isKind(I)Z -/
abbrev iX6_isKind : bp_MI := (yX6_isKind, cX6_isKind, 1, some (Jvm.ClassFile.FieldType.boolean), [], 0, 0)
def PX6_isKind (xp0 : Int32) : bp_M Int32 :=
  bp_if (xp0 = 0) (
  bp_retZ (1 : Int32)) (
  bp_if (xp0 = (4 : Int32)) (
  bp_retZ (1 : Int32)) (
  bp_if (xp0 = (6 : Int32)) (
  bp_retZ (1 : Int32)) (
  bp_if (xp0 = (38 : Int32)) (
  bp_retZ (1 : Int32)) (
  bp_jn (fun (k1 : bp_M Int32) =>
  bp_if (xp0 < (48 : Int32)) (
  k1) (
  bp_if (xp0 ≤ (51 : Int32)) (
  bp_retZ (1 : Int32)) (
  k1))) (bp_if (xp0 = (53 : Int32)) (
  bp_retZ (1 : Int32)) (
  bp_if (xp0 = (62 : Int32)) (
  bp_retZ (1 : Int32)) (
  bp_retZ (0 : Int32))))))))
set_option maxHeartbeats 4000000 in
set_option maxRecDepth 100000 in
theorem cnX6_isKind {G : bp_GT} (xp0 : Int32) : bp_Con G iX6_isKind (ws_ iX6_isKind.1 iX6_isKind.2.1 iX6_isKind.2.2.1 iX6_isKind.2.2.2.1) [.int xp0] (PX6_isKind xp0) bp_eI := by
  refine bp_con_of [(0, .int xp0)] rfl (by decide) (Nat.le_of_ble_eq_true rfl) rfl ?_
  unfold PX6_isKind
  refine bp_j_iload_n 0 dX6_isKind_0 rfl ?_
  refine bp_j_if_eq (tgt := 45) dX6_isKind_1 (by decide) ?_ ?_
  · refine bp_j_iconst (v := 1) dX6_isKind_45 (by decide) ?_
    refine bp_j_goto (tgt := 50) dX6_isKind_46 (by decide) ?_
    exact bp_j_zret rfl dX6_isKind_50
  refine bp_j_iload_n 0 dX6_isKind_4 rfl ?_
  refine bp_j_iconst (v := 4) dX6_isKind_5 (by decide) ?_
  refine bp_j_icmp_eq (tgt := 45) dX6_isKind_6 (by decide) ?_ ?_
  · refine bp_j_iconst (v := 1) dX6_isKind_45 (by decide) ?_
    refine bp_j_goto (tgt := 50) dX6_isKind_46 (by decide) ?_
    exact bp_j_zret rfl dX6_isKind_50
  refine bp_j_iload_n 0 dX6_isKind_9 rfl ?_
  refine bp_j_bipush (v := 6) dX6_isKind_10 (by decide) ?_
  refine bp_j_icmp_eq (tgt := 45) dX6_isKind_12 (by decide) ?_ ?_
  · refine bp_j_iconst (v := 1) dX6_isKind_45 (by decide) ?_
    refine bp_j_goto (tgt := 50) dX6_isKind_46 (by decide) ?_
    exact bp_j_zret rfl dX6_isKind_50
  refine bp_j_iload_n 0 dX6_isKind_15 rfl ?_
  refine bp_j_bipush (v := 38) dX6_isKind_16 (by decide) ?_
  refine bp_j_icmp_eq (tgt := 45) dX6_isKind_18 (by decide) ?_ ?_
  · refine bp_j_iconst (v := 1) dX6_isKind_45 (by decide) ?_
    refine bp_j_goto (tgt := 50) dX6_isKind_46 (by decide) ?_
    exact bp_j_zret rfl dX6_isKind_50
  refine bp_j_iload_n 0 dX6_isKind_21 rfl ?_
  refine bp_j_bipush (v := 48) dX6_isKind_22 (by decide) ?_
  refine bp_j_jm (fun k => bp_J G iX6_isKind (bp_Qn G bp_eI) (k) 33 [(0, .int xp0)] []) (fun k1 hk1 => ?_) ?_
  · refine bp_j_icmp_lt (tgt := 33) dX6_isKind_24 (by decide) ?_ ?_
    · exact hk1
    refine bp_j_iload_n 0 dX6_isKind_27 rfl ?_
    refine bp_j_bipush (v := 51) dX6_isKind_28 (by decide) ?_
    refine bp_j_icmp_le (tgt := 45) dX6_isKind_30 (by decide) ?_ ?_
    · refine bp_j_iconst (v := 1) dX6_isKind_45 (by decide) ?_
      refine bp_j_goto (tgt := 50) dX6_isKind_46 (by decide) ?_
      exact bp_j_zret rfl dX6_isKind_50
    exact hk1
  refine bp_j_iload_n 0 dX6_isKind_33 rfl ?_
  refine bp_j_bipush (v := 53) dX6_isKind_34 (by decide) ?_
  refine bp_j_icmp_eq (tgt := 45) dX6_isKind_36 (by decide) ?_ ?_
  · refine bp_j_iconst (v := 1) dX6_isKind_45 (by decide) ?_
    refine bp_j_goto (tgt := 50) dX6_isKind_46 (by decide) ?_
    exact bp_j_zret rfl dX6_isKind_50
  refine bp_j_iload_n 0 dX6_isKind_39 rfl ?_
  refine bp_j_bipush (v := 62) dX6_isKind_40 (by decide) ?_
  refine bp_j_icmp_ne (tgt := 49) dX6_isKind_42 (by decide) ?_ ?_
  · refine bp_j_iconst (v := 0) dX6_isKind_49 (by decide) ?_
    exact bp_j_zret rfl dX6_isKind_50
  refine bp_j_iconst (v := 1) dX6_isKind_45 (by decide) ?_
  refine bp_j_goto (tgt := 50) dX6_isKind_46 (by decide) ?_
  exact bp_j_zret rfl dX6_isKind_50
