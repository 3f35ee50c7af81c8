/-! programs and walks -/
set_option maxRecDepth 100000
/-- BilevelPagesModel.isIn(III)Z -/
abbrev iX6_isIn : bp_MI := (yX6_isIn, cX6_isIn, 3, some (Jvm.ClassFile.FieldType.boolean), [], 0, 0)
def PX6_isIn (xp0 : Int32) (xp1 : Int32) (xp2 : Int32) : bp_M Int32 :=
  bp_if (xp0 < xp1) (
  bp_retZ (0 : Int32)) (
  bp_if (xp2 < xp0) (
  bp_retZ (0 : Int32)) (
  bp_retZ (1 : Int32)))
set_option maxHeartbeats 4000000 in
set_option maxRecDepth 100000 in
theorem cnX6_isIn {G : bp_GT} (xp0 : Int32) (xp1 : Int32) (xp2 : Int32) : bp_Con G iX6_isIn (ws_ iX6_isIn.1 iX6_isIn.2.1 iX6_isIn.2.2.1 iX6_isIn.2.2.2.1) [.int xp0, .int xp1, .int xp2] (PX6_isIn xp0 xp1 xp2) bp_eI := by
  refine bp_con_of [(0, .int xp0), (1, .int xp1), (2, .int xp2)] rfl (by decide) (Nat.le_of_ble_eq_true rfl) rfl ?_
  unfold PX6_isIn
  refine bp_j_iload_n 0 dX6_isIn_0 rfl ?_
  refine bp_j_iload_n 1 dX6_isIn_1 rfl ?_
  refine bp_j_icmp_lt (tgt := 14) dX6_isIn_2 (by decide) ?_ ?_
  · refine bp_j_iconst (v := 0) dX6_isIn_14 (by decide) ?_
    exact bp_j_zret rfl dX6_isIn_15
  refine bp_j_iload_n 0 dX6_isIn_5 rfl ?_
  refine bp_j_iload_n 2 dX6_isIn_6 rfl ?_
  refine bp_j_icmp_gt (tgt := 14) dX6_isIn_7 (by decide) ?_ ?_
  · refine bp_j_iconst (v := 0) dX6_isIn_14 (by decide) ?_
    exact bp_j_zret rfl dX6_isIn_15
  refine bp_j_iconst (v := 1) dX6_isIn_10 (by decide) ?_
  refine bp_j_goto (tgt := 15) dX6_isIn_11 (by decide) ?_
  exact bp_j_zret rfl dX6_isIn_15
/-- BilevelPagesModel.may(ZZZZ)Z -/
abbrev iX6_may : bp_MI := (yX6_may, cX6_may, 5, some (Jvm.ClassFile.FieldType.boolean), [], 0, 0)
def PX6_may (a0 : Nat) (xp1 : Int32) (xp2 : Int32) (xp3 : Int32) (xp4 : Int32) : bp_M Int32 :=
  bp_jn (fun (k2 : Int32 → bp_M Int32) =>
  bp_if (xp1 = 0) (
  k2 (1 : Int32)) (
  bp_if (xp2 = 0) (
  k2 (2 : Int32)) (
  bp_if (xp3 = 0) (
  k2 (3 : Int32)) (
  bp_if (xp4 = 0) (
  k2 (4 : Int32)) (
  k2 (0 : Int32)))))) (fun (x1 : Int32) =>
  bp_putI 4 0 a0 x1 <|
  bp_getI 4 0 a0 fun x3 =>
  bp_if (x3 = 0) (
  bp_retZ (1 : Int32)) (
  bp_retZ (0 : Int32)))
set_option maxHeartbeats 4000000 in
set_option maxRecDepth 100000 in
theorem cnX6_may {G : bp_GT} (a0 : Nat) (xp1 : Int32) (xp2 : Int32) (xp3 : Int32) (xp4 : Int32) : bp_Con G iX6_may (ws_ iX6_may.1 iX6_may.2.1 iX6_may.2.2.1 iX6_may.2.2.2.1) [.ref a0, .int xp1, .int xp2, .int xp3, .int xp4] (PX6_may a0 xp1 xp2 xp3 xp4) bp_eI := by
  refine bp_con_of [(0, .ref a0), (1, .int xp1), (2, .int xp2), (3, .int xp3), (4, .int xp4)] rfl (by decide) (Nat.le_of_ble_eq_true rfl) rfl ?_
  unfold PX6_may
  refine bp_j_aload_n 0 dX6_may_0 rfl ?_
  refine bp_j_iload_n 1 dX6_may_1 rfl ?_
  refine bp_j_jm (fun k => ∀ (x1 : Int32), bp_J G iX6_may (bp_Qn G bp_eI) (k x1) 35 [(0, .ref a0)] [.int x1, .ref a0]) (fun k2 hk2 => ?_) (fun x1 => ?_)
  · refine bp_j_if_ne (tgt := 9) dX6_may_2 (by decide) ?_ ?_
    · refine bp_j_iload_n 2 dX6_may_9 rfl ?_
      refine bp_j_if_ne (tgt := 17) dX6_may_10 (by decide) ?_ ?_
      · refine bp_j_iload_n 3 dX6_may_17 rfl ?_
        refine bp_j_if_ne (tgt := 25) dX6_may_18 (by decide) ?_ ?_
        · refine bp_j_iload 4 dX6_may_25 rfl ?_
          refine bp_j_if_ne (tgt := 34) dX6_may_27 (by decide) ?_ ?_
          · refine bp_j_iconst (v := 0) dX6_may_34 (by decide) ?_
            exact bp_j_sub [0] rfl (hk2 (0 : Int32))
          refine bp_j_iconst (v := 4) dX6_may_30 (by decide) ?_
          refine bp_j_goto (tgt := 35) dX6_may_31 (by decide) ?_
          exact bp_j_sub [0] rfl (hk2 (4 : Int32))
        refine bp_j_iconst (v := 3) dX6_may_21 (by decide) ?_
        refine bp_j_goto (tgt := 35) dX6_may_22 (by decide) ?_
        exact bp_j_sub [0] rfl (hk2 (3 : Int32))
      refine bp_j_iconst (v := 2) dX6_may_13 (by decide) ?_
      refine bp_j_goto (tgt := 35) dX6_may_14 (by decide) ?_
      exact bp_j_sub [0] rfl (hk2 (2 : Int32))
    refine bp_j_iconst (v := 1) dX6_may_5 (by decide) ?_
    refine bp_j_goto (tgt := 35) dX6_may_6 (by decide) ?_
    exact bp_j_sub [0] rfl (hk2 (1 : Int32))
  refine bp_j_putI (t := 4) (k := 0) rfl (by decide) (by decide) (bp_lk q1080) rfl dX6_may_35 rfl ?_
  refine bp_j_aload_n 0 dX6_may_38 rfl ?_
  refine bp_j_getI (t := 4) (k := 0) rfl (by decide) (bp_lk q1080) dX6_may_39 (fun _ _ _ => rfl) (fun x3 => ?_)
  refine bp_j_if_ne (tgt := 49) dX6_may_42 (by decide) ?_ ?_
  · refine bp_j_iconst (v := 0) dX6_may_49 (by decide) ?_
    exact bp_j_zret rfl dX6_may_50
  refine bp_j_iconst (v := 1) dX6_may_45 (by decide) ?_
  refine bp_j_goto (tgt := 50) dX6_may_46 (by decide) ?_
  exact bp_j_zret rfl dX6_may_50
/-- BilevelPagesModel.alter(II)I -/
abbrev iX6_alter : bp_MI := (yX6_alter, cX6_alter, 4, some (Jvm.ClassFile.FieldType.int), [], 1, 24)
def PX6_alter (a0 : Nat) (xp1 : Int32) (xp2 : Int32) : bp_M Int32 :=
  bp_getI 4 17 a0 fun x1 =>
  bp_bind (PX6_isIn xp1 (0 : Int32) (x1 - (1 : Int32))) fun x2 =>
  bp_bind (PX6_isIn xp2 (0 : Int32) (255 : Int32)) fun x3 =>
  bp_bind (bp_is 4 a0 (PX6_may a0 x2 x3 (1 : Int32) (1 : Int32))) fun x4 =>
  bp_if (x4 = 0) (
  bp_ret (0 : Int32)) (
  bp_getN 4 16 a0 fun a5 =>
  bp_aldI 20 a5 xp1 fun x6 =>
  bp_getN 4 16 a0 fun a7 =>
  bp_astI a7 xp1 xp2 <|
  bp_ret x6)
set_option maxHeartbeats 4000000 in
set_option maxRecDepth 100000 in
theorem cnX6_alter {G : bp_GT} (a0 : Nat) (xp1 : Int32) (xp2 : Int32) : bp_Con G iX6_alter (ws_ iX6_alter.1 iX6_alter.2.1 iX6_alter.2.2.1 iX6_alter.2.2.2.1) [.ref a0, .int xp1, .int xp2] (PX6_alter a0 xp1 xp2) bp_eI := by
  refine bp_con_of [(0, .ref a0), (1, .int xp1), (2, .int xp2)] rfl (by decide) (Nat.le_of_ble_eq_true rfl) rfl ?_
  unfold PX6_alter
  refine bp_j_aload_n 0 dX6_alter_0 rfl ?_
  refine bp_j_iload_n 1 dX6_alter_1 rfl ?_
  refine bp_j_iconst (v := 0) dX6_alter_2 (by decide) ?_
  refine bp_j_aload_n 0 dX6_alter_3 rfl ?_
  refine bp_j_getI (t := 4) (k := 17) rfl (by decide) (bp_lk q1097) dX6_alter_4 (fun _ _ _ => rfl) (fun x1 => ?_)
  refine bp_j_iconst (v := 1) dX6_alter_7 (by decide) ?_
  refine bp_j_isub dX6_alter_8 ?_
  refine bp_j_cl_I (bp_ranS (n := 3) (As := [.int xp1, .int (0 : Int32), .int (x1 - (1 : Int32))]) (cnX6_isIn (G := G) xp1 (0 : Int32) (x1 - (1 : Int32))) (lw_S q1244 q1245 q82 q1246) ⟨by decide +kernel, by decide +kernel, by decide +kernel⟩ ⟨by decide, by decide⟩ (rest := [.ref a0]) rfl rfl (Nat.le_of_ble_eq_true rfl) dX6_alter_9) (by decide) (fun x2 => ?_)
  refine bp_j_iload_n 2 dX6_alter_12 rfl ?_
  refine bp_j_iconst (v := 0) dX6_alter_13 (by decide) ?_
  refine bp_j_sipush (v := 255) dX6_alter_14 (by decide) ?_
  refine bp_j_cl_I (bp_ranS (n := 3) (As := [.int xp2, .int (0 : Int32), .int (255 : Int32)]) (cnX6_isIn (G := G) xp2 (0 : Int32) (255 : Int32)) (lw_S q1244 q1245 q82 q1246) ⟨by decide +kernel, by decide +kernel, by decide +kernel⟩ ⟨by decide, by decide⟩ (rest := [.int x2, .ref a0]) rfl rfl (Nat.le_of_ble_eq_true rfl) dX6_alter_17) (by decide) (fun x3 => ?_)
  refine bp_j_iconst (v := 1) dX6_alter_20 (by decide) ?_
  refine bp_j_iconst (v := 1) dX6_alter_21 (by decide) ?_
  refine bp_j_cl_I (bp_ranV (t := 4) (n := 4) (As := [.int x2, .int x3, .int (1 : Int32), .int (1 : Int32)]) (cnX6_may (G := G) a0 x2 x3 (1 : Int32) (1 : Int32)) rfl (lw_V q1247 q1249 qs34 q82 q1250) ⟨rfl, by decide +kernel, by decide +kernel, by decide +kernel⟩ ⟨by decide, by decide⟩ (rest := []) rfl rfl (Nat.le_of_ble_eq_true rfl) dX6_alter_22) (by decide) (fun x4 => ?_)
  refine bp_j_if_ne (tgt := 30) dX6_alter_25 (by decide) ?_ ?_
  · refine bp_j_aload_n 0 dX6_alter_30 rfl ?_
    refine bp_j_getN (t := 4) (k := 16) rfl (by decide) (bp_lk q1096) dX6_alter_31 (fun _ _ _ => rfl) (fun a5 => ?_)
    refine bp_j_iload_n 1 dX6_alter_34 rfl ?_
    refine bp_j_iaload dX6_alter_35 (fun x6 => ?_)
    refine bp_j_istore_n (lv' := [(3, .int x6), (0, .ref a0), (1, .int xp1), (2, .int xp2)]) dX6_alter_36 (by decide) rfl ?_
    refine bp_j_aload_n 1 dX6_alter_37 rfl ?_
    refine bp_j_getN (t := 4) (k := 16) rfl (by decide) (bp_lk q1096) dX6_alter_38 (fun _ _ _ => rfl) (fun a7 => ?_)
    refine bp_j_iload_n 2 dX6_alter_41 rfl ?_
    refine bp_j_iload_n 3 dX6_alter_42 rfl ?_
    refine bp_j_iastore dX6_alter_43 ?_
    refine bp_j_iload_n 0 dX6_alter_44 rfl ?_
    exact bp_j_iret rfl dX6_alter_45
  refine bp_j_iconst (v := 0) dX6_alter_28 (by decide) ?_
  exact bp_j_iret rfl dX6_alter_29
/-- BilevelPagesModel.mayPage(IZ)Z -/
abbrev iX6_mayPage : bp_MI := (yX6_mayPage, cX6_mayPage, 3, some (Jvm.ClassFile.FieldType.boolean), [], 1, 24)
def PX6_mayPage (a0 : Nat) (xp1 : Int32) (xp2 : Int32) : bp_M Int32 :=
  bp_getI 4 47 a0 fun x1 =>
  bp_getI 4 47 a0 fun x2 =>
  bp_jn (fun (k4 : Int32 → bp_M Int32) =>
  bp_if (x2 = 0) (
  k4 (0 : Int32)) (
  bp_bind (PX6_isIn xp1 (0 : Int32) (9 : Int32)) fun x6 =>
  bp_if (x6 = 0) (
  k4 (0 : Int32)) (
  bp_getN 4 40 a0 fun a7 =>
  bp_aldI 22 a7 xp1 fun x8 =>
  bp_if (x8 = 0) (
  k4 (0 : Int32)) (
  bp_if (xp2 = 0) (
  k4 (0 : Int32)) (
  k4 (1 : Int32)))))) (fun (x3 : Int32) =>
  bp_bind (bp_is 4 a0 (PX6_may a0 x1 x3 (1 : Int32) (1 : Int32))) fun x5 =>
  bp_retZ x5)
set_option maxHeartbeats 4000000 in
set_option maxRecDepth 100000 in
theorem cnX6_mayPage {G : bp_GT} (a0 : Nat) (xp1 : Int32) (xp2 : Int32) : bp_Con G iX6_mayPage (ws_ iX6_mayPage.1 iX6_mayPage.2.1 iX6_mayPage.2.2.1 iX6_mayPage.2.2.2.1) [.ref a0, .int xp1, .int xp2] (PX6_mayPage a0 xp1 xp2) bp_eI := by
  refine bp_con_of [(0, .ref a0), (1, .int xp1), (2, .int xp2)] rfl (by decide) (Nat.le_of_ble_eq_true rfl) rfl ?_
  unfold PX6_mayPage
  refine bp_j_aload_n 0 dX6_mayPage_0 rfl ?_
  refine bp_j_aload_n 0 dX6_mayPage_1 rfl ?_
  refine bp_j_getI (t := 4) (k := 47) rfl (by decide) (bp_lk q1127) dX6_mayPage_2 (fun _ _ _ => rfl) (fun x1 => ?_)
  refine bp_j_aload_n 0 dX6_mayPage_5 rfl ?_
  refine bp_j_getI (t := 4) (k := 47) rfl (by decide) (bp_lk q1127) dX6_mayPage_6 (fun _ _ _ => rfl) (fun x2 => ?_)
  refine bp_j_jm (fun k => ∀ (x3 : Int32), bp_J G iX6_mayPage (bp_Qn G bp_eI) (k x3) 40 [] [.int x3, .int x1, .ref a0]) (fun k4 hk4 => ?_) (fun x3 => ?_)
  · refine bp_j_if_eq (tgt := 39) dX6_mayPage_9 (by decide) ?_ ?_
    · refine bp_j_iconst (v := 0) dX6_mayPage_39 (by decide) ?_
      exact bp_j_sub [] rfl (hk4 (0 : Int32))
    refine bp_j_iload_n 1 dX6_mayPage_12 rfl ?_
    refine bp_j_iconst (v := 0) dX6_mayPage_13 (by decide) ?_
    refine bp_j_bipush (v := 9) dX6_mayPage_14 (by decide) ?_
    refine bp_j_cl_I (bp_ranS (n := 3) (As := [.int xp1, .int (0 : Int32), .int (9 : Int32)]) (cnX6_isIn (G := G) xp1 (0 : Int32) (9 : Int32)) (lw_S q1244 q1245 q82 q1246) ⟨by decide +kernel, by decide +kernel, by decide +kernel⟩ ⟨by decide, by decide⟩ (rest := [.int x1, .ref a0]) rfl rfl (Nat.le_of_ble_eq_true rfl) dX6_mayPage_16) (by decide) (fun x6 => ?_)
    refine bp_j_if_eq (tgt := 39) dX6_mayPage_19 (by decide) ?_ ?_
    · refine bp_j_iconst (v := 0) dX6_mayPage_39 (by decide) ?_
      exact bp_j_sub [] rfl (hk4 (0 : Int32))
    refine bp_j_aload_n 0 dX6_mayPage_22 rfl ?_
    refine bp_j_getN (t := 4) (k := 40) rfl (by decide) (bp_lk q1120) dX6_mayPage_23 (fun _ _ _ => rfl) (fun a7 => ?_)
    refine bp_j_iload_n 1 dX6_mayPage_26 rfl ?_
    refine bp_j_baloadZ dX6_mayPage_27 (fun x8 => ?_)
    refine bp_j_if_eq (tgt := 39) dX6_mayPage_28 (by decide) ?_ ?_
    · refine bp_j_iconst (v := 0) dX6_mayPage_39 (by decide) ?_
      exact bp_j_sub [] rfl (hk4 (0 : Int32))
    refine bp_j_iload_n 2 dX6_mayPage_31 rfl ?_
    refine bp_j_if_eq (tgt := 39) dX6_mayPage_32 (by decide) ?_ ?_
    · refine bp_j_iconst (v := 0) dX6_mayPage_39 (by decide) ?_
      exact bp_j_sub [] rfl (hk4 (0 : Int32))
    refine bp_j_iconst (v := 1) dX6_mayPage_35 (by decide) ?_
    refine bp_j_goto (tgt := 40) dX6_mayPage_36 (by decide) ?_
    exact bp_j_sub [] rfl (hk4 (1 : Int32))
  refine bp_j_iconst (v := 1) dX6_mayPage_40 (by decide) ?_
  refine bp_j_iconst (v := 1) dX6_mayPage_41 (by decide) ?_
  refine bp_j_cl_I (bp_ranV (t := 4) (n := 4) (As := [.int x1, .int x3, .int (1 : Int32), .int (1 : Int32)]) (cnX6_may (G := G) a0 x1 x3 (1 : Int32) (1 : Int32)) rfl (lw_V q1247 q1249 qs34 q82 q1250) ⟨rfl, by decide +kernel, by decide +kernel, by decide +kernel⟩ ⟨by decide, by decide⟩ (rest := []) rfl rfl (Nat.le_of_ble_eq_true rfl) dX6_mayPage_42) (by decide) (fun x5 => ?_)
  exact bp_j_zret rfl dX6_mayPage_45
/-- BilevelPagesModel.at(III)Z -/
abbrev iX6_at : bp_MI := (yX6_at, cX6_at, 4, some (Jvm.ClassFile.FieldType.boolean), [], 2, 46)
def PX6_at (a0 : Nat) (xp1 : Int32) (xp2 : Int32) (xp3 : Int32) : bp_M Int32 :=
  bp_bind (bp_is 4 a0 (PX6_mayPage a0 xp1 (1 : Int32))) fun x1 =>
  bp_if (x1 = 0) (
  bp_retZ (0 : Int32)) (
  bp_getN 4 41 a0 fun a2 =>
  bp_aldI 20 a2 xp1 fun x3 =>
  bp_bind (PX6_isIn xp2 (0 : Int32) (x3 - (1 : Int32))) fun x4 =>
  bp_jn (fun (k6 : Int32 → bp_M Int32) =>
  bp_if (x4 = 0) (
  k6 (0 : Int32)) (
  bp_getN 4 42 a0 fun a10 =>
  bp_aldI 20 a10 xp1 fun x11 =>
  bp_bind (PX6_isIn xp3 (0 : Int32) (x11 - (1 : Int32))) fun x12 =>
  bp_if (x12 = 0) (
  k6 (0 : Int32)) (
  k6 (1 : Int32)))) (fun (x5 : Int32) =>
  bp_bind (bp_is 4 a0 (PX6_mayPage a0 xp1 x5)) fun x7 =>
  bp_if (x7 = 0) (
  bp_retZ (0 : Int32)) (
  bp_getN 4 46 a0 fun a8 =>
  bp_aldI 22 a8 ((((1024 : Int32) * xp1) + ((32 : Int32) * xp3)) + xp2) fun x9 =>
  bp_retZ x9)))
set_option maxHeartbeats 4000000 in
set_option maxRecDepth 100000 in
theorem cnX6_at {G : bp_GT} (a0 : Nat) (xp1 : Int32) (xp2 : Int32) (xp3 : Int32) : bp_Con G iX6_at (ws_ iX6_at.1 iX6_at.2.1 iX6_at.2.2.1 iX6_at.2.2.2.1) [.ref a0, .int xp1, .int xp2, .int xp3] (PX6_at a0 xp1 xp2 xp3) bp_eI := by
  refine bp_con_of [(0, .ref a0), (1, .int xp1), (2, .int xp2), (3, .int xp3)] rfl (by decide) (Nat.le_of_ble_eq_true rfl) rfl ?_
  unfold PX6_at
  refine bp_j_aload_n 0 dX6_at_0 rfl ?_
  refine bp_j_iload_n 1 dX6_at_1 rfl ?_
  refine bp_j_iconst (v := 1) dX6_at_2 (by decide) ?_
  refine bp_j_cl_I (bp_ranV (t := 4) (n := 2) (As := [.int xp1, .int (1 : Int32)]) (cnX6_mayPage (G := G) a0 xp1 (1 : Int32)) rfl (lw_V q1466 q1468 qs69 q82 q1469) ⟨rfl, by decide +kernel, by decide +kernel, by decide +kernel⟩ ⟨by decide, by decide⟩ (rest := []) rfl rfl (Nat.le_of_ble_eq_true rfl) dX6_at_3) (by decide) (fun x1 => ?_)
  refine bp_j_if_eq (tgt := 54) dX6_at_6 (by decide) ?_ ?_
  · refine bp_j_iconst (v := 0) dX6_at_54 (by decide) ?_
    exact bp_j_zret rfl dX6_at_55
  refine bp_j_aload_n 0 dX6_at_9 rfl ?_
  refine bp_j_iload_n 1 dX6_at_10 rfl ?_
  refine bp_j_iload_n 2 dX6_at_11 rfl ?_
  refine bp_j_iconst (v := 0) dX6_at_12 (by decide) ?_
  refine bp_j_aload_n 0 dX6_at_13 rfl ?_
  refine bp_j_getN (t := 4) (k := 41) rfl (by decide) (bp_lk q1121) dX6_at_14 (fun _ _ _ => rfl) (fun a2 => ?_)
  refine bp_j_iload_n 1 dX6_at_17 rfl ?_
  refine bp_j_iaload dX6_at_18 (fun x3 => ?_)
  refine bp_j_iconst (v := 1) dX6_at_19 (by decide) ?_
  refine bp_j_isub dX6_at_20 ?_
  refine bp_j_cl_I (bp_ranS (n := 3) (As := [.int xp2, .int (0 : Int32), .int (x3 - (1 : Int32))]) (cnX6_isIn (G := G) xp2 (0 : Int32) (x3 - (1 : Int32))) (lw_S q1244 q1245 q82 q1246) ⟨by decide +kernel, by decide +kernel, by decide +kernel⟩ ⟨by decide, by decide⟩ (rest := [.int xp1, .ref a0]) rfl rfl (Nat.le_of_ble_eq_true rfl) dX6_at_21) (by decide) (fun x4 => ?_)
  refine bp_j_jm (fun k => ∀ (x5 : Int32), bp_J G iX6_at (bp_Qn G bp_eI) (k x5) 48 [(0, .ref a0), (1, .int xp1), (2, .int xp2), (3, .int xp3)] [.int x5, .int xp1, .ref a0]) (fun k6 hk6 => ?_) (fun x5 => ?_)
  · refine bp_j_if_eq (tgt := 47) dX6_at_24 (by decide) ?_ ?_
    · refine bp_j_iconst (v := 0) dX6_at_47 (by decide) ?_
      exact hk6 (0 : Int32)
    refine bp_j_iload_n 3 dX6_at_27 rfl ?_
    refine bp_j_iconst (v := 0) dX6_at_28 (by decide) ?_
    refine bp_j_aload_n 0 dX6_at_29 rfl ?_
    refine bp_j_getN (t := 4) (k := 42) rfl (by decide) (bp_lk q1122) dX6_at_30 (fun _ _ _ => rfl) (fun a10 => ?_)
    refine bp_j_iload_n 1 dX6_at_33 rfl ?_
    refine bp_j_iaload dX6_at_34 (fun x11 => ?_)
    refine bp_j_iconst (v := 1) dX6_at_35 (by decide) ?_
    refine bp_j_isub dX6_at_36 ?_
    refine bp_j_cl_I (bp_ranS (n := 3) (As := [.int xp3, .int (0 : Int32), .int (x11 - (1 : Int32))]) (cnX6_isIn (G := G) xp3 (0 : Int32) (x11 - (1 : Int32))) (lw_S q1244 q1245 q82 q1246) ⟨by decide +kernel, by decide +kernel, by decide +kernel⟩ ⟨by decide, by decide⟩ (rest := [.int xp1, .ref a0]) rfl rfl (Nat.le_of_ble_eq_true rfl) dX6_at_37) (by decide) (fun x12 => ?_)
    refine bp_j_if_eq (tgt := 47) dX6_at_40 (by decide) ?_ ?_
    · refine bp_j_iconst (v := 0) dX6_at_47 (by decide) ?_
      exact hk6 (0 : Int32)
    refine bp_j_iconst (v := 1) dX6_at_43 (by decide) ?_
    refine bp_j_goto (tgt := 48) dX6_at_44 (by decide) ?_
    exact hk6 (1 : Int32)
  refine bp_j_cl_I (bp_ranV (t := 4) (n := 2) (As := [.int xp1, .int x5]) (cnX6_mayPage (G := G) a0 xp1 x5) rfl (lw_V q1466 q1468 qs69 q82 q1469) ⟨rfl, by decide +kernel, by decide +kernel, by decide +kernel⟩ ⟨by decide, by decide⟩ (rest := []) rfl rfl (Nat.le_of_ble_eq_true rfl) dX6_at_48) (by decide) (fun x7 => ?_)
  refine bp_j_if_ne (tgt := 56) dX6_at_51 (by decide) ?_ ?_
  · refine bp_j_aload_n 0 dX6_at_56 rfl ?_
    refine bp_j_getN (t := 4) (k := 46) rfl (by decide) (bp_lk q1126) dX6_at_57 (fun _ _ _ => rfl) (fun a8 => ?_)
    refine bp_j_sipush (v := 1024) dX6_at_60 (by decide) ?_
    refine bp_j_iload_n 1 dX6_at_63 rfl ?_
    refine bp_j_imul dX6_at_64 ?_
    refine bp_j_bipush (v := 32) dX6_at_65 (by decide) ?_
    refine bp_j_iload_n 3 dX6_at_67 rfl ?_
    refine bp_j_imul dX6_at_68 ?_
    refine bp_j_iadd dX6_at_69 ?_
    refine bp_j_iload_n 2 dX6_at_70 rfl ?_
    refine bp_j_iadd dX6_at_71 ?_
    refine bp_j_baloadZ dX6_at_72 (fun x9 => ?_)
    exact bp_j_zret rfl dX6_at_73
  refine bp_j_iconst (v := 0) dX6_at_54 (by decide) ?_
  exact bp_j_zret rfl dX6_at_55
/-- BilevelPagesModel.byteAt(I)I -/
abbrev iX6_byteAt : bp_MI := (yX6_byteAt, cX6_byteAt, 2, some (Jvm.ClassFile.FieldType.int), [], 1, 24)
def PX6_byteAt (a0 : Nat) (xp1 : Int32) : bp_M Int32 :=
  bp_getI 4 13 a0 fun x1 =>
  bp_bind (PX6_isIn xp1 (0 : Int32) (x1 - (1 : Int32))) fun x2 =>
  bp_bind (bp_is 4 a0 (PX6_may a0 x2 (1 : Int32) (1 : Int32) (1 : Int32))) fun x3 =>
  bp_if (x3 = 0) (
  bp_ret (0 : Int32)) (
  bp_getN 4 12 a0 fun a4 =>
  bp_aldI 20 a4 xp1 fun x5 =>
  bp_ret x5)
set_option maxHeartbeats 4000000 in
set_option maxRecDepth 100000 in
theorem cnX6_byteAt {G : bp_GT} (a0 : Nat) (xp1 : Int32) : bp_Con G iX6_byteAt (ws_ iX6_byteAt.1 iX6_byteAt.2.1 iX6_byteAt.2.2.1 iX6_byteAt.2.2.2.1) [.ref a0, .int xp1] (PX6_byteAt a0 xp1) bp_eI := by
  refine bp_con_of [(0, .ref a0), (1, .int xp1)] rfl (by decide) (Nat.le_of_ble_eq_true rfl) rfl ?_
  unfold PX6_byteAt
  refine bp_j_aload_n 0 dX6_byteAt_0 rfl ?_
  refine bp_j_iload_n 1 dX6_byteAt_1 rfl ?_
  refine bp_j_iconst (v := 0) dX6_byteAt_2 (by decide) ?_
  refine bp_j_aload_n 0 dX6_byteAt_3 rfl ?_
  refine bp_j_getI (t := 4) (k := 13) rfl (by decide) (bp_lk q1093) dX6_byteAt_4 (fun _ _ _ => rfl) (fun x1 => ?_)
  refine bp_j_iconst (v := 1) dX6_byteAt_7 (by decide) ?_
  refine bp_j_isub dX6_byteAt_8 ?_
  refine bp_j_cl_I (bp_ranS (n := 3) (As := [.int xp1, .int (0 : Int32), .int (x1 - (1 : Int32))]) (cnX6_isIn (G := G) xp1 (0 : Int32) (x1 - (1 : Int32))) (lw_S q1244 q1245 q82 q1246) ⟨by decide +kernel, by decide +kernel, by decide +kernel⟩ ⟨by decide, by decide⟩ (rest := [.ref a0]) rfl rfl (Nat.le_of_ble_eq_true rfl) dX6_byteAt_9) (by decide) (fun x2 => ?_)
  refine bp_j_iconst (v := 1) dX6_byteAt_12 (by decide) ?_
  refine bp_j_iconst (v := 1) dX6_byteAt_13 (by decide) ?_
  refine bp_j_iconst (v := 1) dX6_byteAt_14 (by decide) ?_
  refine bp_j_cl_I (bp_ranV (t := 4) (n := 4) (As := [.int x2, .int (1 : Int32), .int (1 : Int32), .int (1 : Int32)]) (cnX6_may (G := G) a0 x2 (1 : Int32) (1 : Int32) (1 : Int32)) rfl (lw_V q1247 q1249 qs34 q82 q1250) ⟨rfl, by decide +kernel, by decide +kernel, by decide +kernel⟩ ⟨by decide, by decide⟩ (rest := []) rfl rfl (Nat.le_of_ble_eq_true rfl) dX6_byteAt_15) (by decide) (fun x3 => ?_)
  refine bp_j_if_eq (tgt := 30) dX6_byteAt_18 (by decide) ?_ ?_
  · refine bp_j_iconst (v := 0) dX6_byteAt_30 (by decide) ?_
    exact bp_j_iret rfl dX6_byteAt_31
  refine bp_j_aload_n 0 dX6_byteAt_21 rfl ?_
  refine bp_j_getN (t := 4) (k := 12) rfl (by decide) (bp_lk q1092) dX6_byteAt_22 (fun _ _ _ => rfl) (fun a4 => ?_)
  refine bp_j_iload_n 1 dX6_byteAt_25 rfl ?_
  refine bp_j_iaload dX6_byteAt_26 (fun x5 => ?_)
  refine bp_j_goto (tgt := 31) dX6_byteAt_27 (by decide) ?_
  exact bp_j_iret rfl dX6_byteAt_31
/-- BilevelPagesModel.hasBytes(I)Z -/
abbrev iX6_hasBytes : bp_MI := (yX6_hasBytes, cX6_hasBytes, 1, some (Jvm.ClassFile.FieldType.boolean), [], 0, 0)
def PX6_hasBytes (xp0 : Int32) : bp_M Int32 :=
  bp_if (xp0 = 0) (
  bp_retZ (1 : Int32)) (
  bp_if (xp0 = (53 : Int32)) (
  bp_retZ (1 : Int32)) (
  bp_if (xp0 = (62 : Int32)) (
  bp_retZ (1 : Int32)) (
  bp_retZ (0 : Int32))))
set_option maxHeartbeats 4000000 in
set_option maxRecDepth 100000 in
theorem cnX6_hasBytes {G : bp_GT} (xp0 : Int32) : bp_Con G iX6_hasBytes (ws_ iX6_hasBytes.1 iX6_hasBytes.2.1 iX6_hasBytes.2.2.1 iX6_hasBytes.2.2.2.1) [.int xp0] (PX6_hasBytes xp0) bp_eI := by
  refine bp_con_of [(0, .int xp0)] rfl (by decide) (Nat.le_of_ble_eq_true rfl) rfl ?_
  unfold PX6_hasBytes
  refine bp_j_iload_n 0 dX6_hasBytes_0 rfl ?_
  refine bp_j_if_eq (tgt := 16) dX6_hasBytes_1 (by decide) ?_ ?_
  · refine bp_j_iconst (v := 1) dX6_hasBytes_16 (by decide) ?_
    refine bp_j_goto (tgt := 21) dX6_hasBytes_17 (by decide) ?_
    exact bp_j_zret rfl dX6_hasBytes_21
  refine bp_j_iload_n 0 dX6_hasBytes_4 rfl ?_
  refine bp_j_bipush (v := 53) dX6_hasBytes_5 (by decide) ?_
  refine bp_j_icmp_eq (tgt := 16) dX6_hasBytes_7 (by decide) ?_ ?_
  · refine bp_j_iconst (v := 1) dX6_hasBytes_16 (by decide) ?_
    refine bp_j_goto (tgt := 21) dX6_hasBytes_17 (by decide) ?_
    exact bp_j_zret rfl dX6_hasBytes_21
  refine bp_j_iload_n 0 dX6_hasBytes_10 rfl ?_
  refine bp_j_bipush (v := 62) dX6_hasBytes_11 (by decide) ?_
  refine bp_j_icmp_ne (tgt := 20) dX6_hasBytes_13 (by decide) ?_ ?_
  · refine bp_j_iconst (v := 0) dX6_hasBytes_20 (by decide) ?_
    exact bp_j_zret rfl dX6_hasBytes_21
  refine bp_j_iconst (v := 1) dX6_hasBytes_16 (by decide) ?_
  refine bp_j_goto (tgt := 21) dX6_hasBytes_17 (by decide) ?_
  exact bp_j_zret rfl dX6_hasBytes_21
/-- BilevelPagesModel.isSegment(I)Z -/
abbrev iX6_isSegment : bp_MI := (yX6_isSegment, cX6_isSegment, 2, some (Jvm.ClassFile.FieldType.boolean), [], 1, 22)
def PX6_isSegment (a0 : Nat) (xp1 : Int32) : bp_M Int32 :=
  bp_getI 4 2 a0 fun x1 =>
  bp_bind (PX6_isIn xp1 (0 : Int32) (x1 - (1 : Int32))) fun x2 =>
  bp_retZ x2
set_option maxHeartbeats 4000000 in
set_option maxRecDepth 100000 in
theorem cnX6_isSegment {G : bp_GT} (a0 : Nat) (xp1 : Int32) : bp_Con G iX6_isSegment (ws_ iX6_isSegment.1 iX6_isSegment.2.1 iX6_isSegment.2.2.1 iX6_isSegment.2.2.2.1) [.ref a0, .int xp1] (PX6_isSegment a0 xp1) bp_eI := by
  refine bp_con_of [(0, .ref a0), (1, .int xp1)] rfl (by decide) (Nat.le_of_ble_eq_true rfl) rfl ?_
  unfold PX6_isSegment
  refine bp_j_iload_n 1 dX6_isSegment_0 rfl ?_
  refine bp_j_iconst (v := 0) dX6_isSegment_1 (by decide) ?_
  refine bp_j_aload_n 0 dX6_isSegment_2 rfl ?_
  refine bp_j_getI (t := 4) (k := 2) rfl (by decide) (bp_lk q1082) dX6_isSegment_3 (fun _ _ _ => rfl) (fun x1 => ?_)
  refine bp_j_iconst (v := 1) dX6_isSegment_6 (by decide) ?_
  refine bp_j_isub dX6_isSegment_7 ?_
  refine bp_j_cl_I (bp_ranS (n := 3) (As := [.int xp1, .int (0 : Int32), .int (x1 - (1 : Int32))]) (cnX6_isIn (G := G) xp1 (0 : Int32) (x1 - (1 : Int32))) (lw_S q1244 q1245 q82 q1246) ⟨by decide +kernel, by decide +kernel, by decide +kernel⟩ ⟨by decide, by decide⟩ (rest := []) rfl rfl (Nat.le_of_ble_eq_true rfl) dX6_isSegment_8) (by decide) (fun x2 => ?_)
  exact bp_j_zret rfl dX6_isSegment_11
/-- BilevelPagesModel.byteOf(II)I -/
abbrev iX6_byteOf : bp_MI := (yX6_byteOf, cX6_byteOf, 4, some (Jvm.ClassFile.FieldType.int), [], 2, 43)
def PX6_byteOf (a0 : Nat) (xp1 : Int32) (xp2 : Int32) : bp_M Int32 :=
  bp_bind (bp_is 4 a0 (PX6_isSegment a0 xp1)) fun x1 =>
  bp_jn (fun (k3 : Int32 → bp_M Int32) =>
  bp_if (x1 = 0) (
  k3 (0 : Int32)) (
  bp_getN 4 3 a0 fun a17 =>
  bp_aldI 20 a17 xp1 fun x18 =>
  bp_bind (PX6_hasBytes x18) fun x19 =>
  bp_if (x19 = 0) (
  k3 (0 : Int32)) (
  k3 (1 : Int32)))) (fun (x2 : Int32) =>
  bp_bind (PX6_isIn xp2 (0 : Int32) (255 : Int32)) fun x4 =>
  bp_jn (fun (k6 : Int32 → bp_M Int32) =>
  bp_if (x1 = 0) (
  k6 (0 : Int32)) (
  bp_getN 4 8 a0 fun a15 =>
  bp_aldI 20 a15 xp1 fun x16 =>
  bp_if ((20 : Int32) ≤ x16) (
  k6 (0 : Int32)) (
  k6 (1 : Int32)))) (fun (x5 : Int32) =>
  bp_bind (bp_is 4 a0 (PX6_may a0 x1 x2 x4 x5)) fun x7 =>
  bp_if (x7 = 0) (
  bp_ret (0 : Int32)) (
  bp_getN 4 9 a0 fun a8 =>
  bp_getN 4 8 a0 fun a9 =>
  bp_aldI 20 a9 xp1 fun x10 =>
  bp_astI a8 (((20 : Int32) * xp1) + x10) xp2 <|
  bp_getN 4 8 a0 fun a11 =>
  bp_aldI 20 a11 xp1 fun x12 =>
  bp_astI a11 xp1 (x12 + (1 : Int32)) <|
  bp_getN 4 8 a0 fun a13 =>
  bp_aldI 20 a13 xp1 fun x14 =>
  bp_ret x14)))
set_option maxHeartbeats 4000000 in
set_option maxRecDepth 100000 in
theorem cnX6_byteOf {G : bp_GT} (a0 : Nat) (xp1 : Int32) (xp2 : Int32) : bp_Con G iX6_byteOf (ws_ iX6_byteOf.1 iX6_byteOf.2.1 iX6_byteOf.2.2.1 iX6_byteOf.2.2.2.1) [.ref a0, .int xp1, .int xp2] (PX6_byteOf a0 xp1 xp2) bp_eI := by
  refine bp_con_of [(0, .ref a0), (1, .int xp1), (2, .int xp2)] rfl (by decide) (Nat.le_of_ble_eq_true rfl) rfl ?_
  unfold PX6_byteOf
  refine bp_j_aload_n 0 dX6_byteOf_0 rfl ?_
  refine bp_j_iload_n 1 dX6_byteOf_1 rfl ?_
  refine bp_j_cl_I (bp_ranV (t := 4) (n := 1) (As := [.int xp1]) (cnX6_isSegment (G := G) a0 xp1) rfl (lw_V q1261 q1263 qs35 q82 q1264) ⟨rfl, by decide +kernel, by decide +kernel, by decide +kernel⟩ ⟨by decide, by decide⟩ (rest := []) rfl rfl (Nat.le_of_ble_eq_true rfl) dX6_byteOf_2) (by decide) (fun x1 => ?_)
  refine bp_j_istore_n (lv' := [(3, .int x1), (0, .ref a0), (1, .int xp1), (2, .int xp2)]) dX6_byteOf_5 (by decide) rfl ?_
  refine bp_j_aload_n 1 dX6_byteOf_6 rfl ?_
  refine bp_j_iload_n 0 dX6_byteOf_7 rfl ?_
  refine bp_j_iload_n 0 dX6_byteOf_8 rfl ?_
  refine bp_j_jm (fun k => ∀ (x2 : Int32), bp_J G iX6_byteOf (bp_Qn G bp_eI) (k x2) 29 [(0, .ref a0), (1, .int xp1), (2, .int xp2), (3, .int x1)] [.int x2, .int x1, .ref a0]) (fun k3 hk3 => ?_) (fun x2 => ?_)
  · refine bp_j_if_eq (tgt := 28) dX6_byteOf_9 (by decide) ?_ ?_
    · refine bp_j_iconst (v := 0) dX6_byteOf_28 (by decide) ?_
      exact bp_j_sub [1, 2, 3, 0] rfl (hk3 (0 : Int32))
    refine bp_j_aload_n 1 dX6_byteOf_12 rfl ?_
    refine bp_j_getN (t := 4) (k := 3) rfl (by decide) (bp_lk q1083) dX6_byteOf_13 (fun _ _ _ => rfl) (fun a17 => ?_)
    refine bp_j_iload_n 2 dX6_byteOf_16 rfl ?_
    refine bp_j_iaload dX6_byteOf_17 (fun x18 => ?_)
    refine bp_j_cl_I (bp_ranS (n := 1) (As := [.int x18]) (cnX6_hasBytes (G := G) x18) (lw_S q1285 q1286 q82 q1287) ⟨by decide +kernel, by decide +kernel, by decide +kernel⟩ ⟨by decide, by decide⟩ (rest := [.int x1, .ref a0]) rfl rfl (Nat.le_of_ble_eq_true rfl) dX6_byteOf_18) (by decide) (fun x19 => ?_)
    refine bp_j_if_eq (tgt := 28) dX6_byteOf_21 (by decide) ?_ ?_
    · refine bp_j_iconst (v := 0) dX6_byteOf_28 (by decide) ?_
      exact bp_j_sub [1, 2, 3, 0] rfl (hk3 (0 : Int32))
    refine bp_j_iconst (v := 1) dX6_byteOf_24 (by decide) ?_
    refine bp_j_goto (tgt := 29) dX6_byteOf_25 (by decide) ?_
    exact bp_j_sub [1, 2, 3, 0] rfl (hk3 (1 : Int32))
  refine bp_j_iload_n 2 dX6_byteOf_29 rfl ?_
  refine bp_j_iconst (v := 0) dX6_byteOf_30 (by decide) ?_
  refine bp_j_sipush (v := 255) dX6_byteOf_31 (by decide) ?_
  refine bp_j_cl_I (bp_ranS (n := 3) (As := [.int xp2, .int (0 : Int32), .int (255 : Int32)]) (cnX6_isIn (G := G) xp2 (0 : Int32) (255 : Int32)) (lw_S q1244 q1245 q82 q1246) ⟨by decide +kernel, by decide +kernel, by decide +kernel⟩ ⟨by decide, by decide⟩ (rest := [.int x2, .int x1, .ref a0]) rfl rfl (Nat.le_of_ble_eq_true rfl) dX6_byteOf_34) (by decide) (fun x4 => ?_)
  refine bp_j_iload_n 3 dX6_byteOf_37 rfl ?_
  refine bp_j_jm (fun k => ∀ (x5 : Int32), bp_J G iX6_byteOf (bp_Qn G bp_eI) (k x5) 57 [(0, .ref a0), (1, .int xp1), (2, .int xp2)] [.int x5, .int x4, .int x2, .int x1, .ref a0]) (fun k6 hk6 => ?_) (fun x5 => ?_)
  · refine bp_j_if_eq (tgt := 56) dX6_byteOf_38 (by decide) ?_ ?_
    · refine bp_j_iconst (v := 0) dX6_byteOf_56 (by decide) ?_
      exact bp_j_sub [0, 1, 2] rfl (hk6 (0 : Int32))
    refine bp_j_aload_n 0 dX6_byteOf_41 rfl ?_
    refine bp_j_getN (t := 4) (k := 8) rfl (by decide) (bp_lk q1088) dX6_byteOf_42 (fun _ _ _ => rfl) (fun a15 => ?_)
    refine bp_j_iload_n 1 dX6_byteOf_45 rfl ?_
    refine bp_j_iaload dX6_byteOf_46 (fun x16 => ?_)
    refine bp_j_bipush (v := 20) dX6_byteOf_47 (by decide) ?_
    refine bp_j_icmp_ge (tgt := 56) dX6_byteOf_49 (by decide) ?_ ?_
    · refine bp_j_iconst (v := 0) dX6_byteOf_56 (by decide) ?_
      exact bp_j_sub [0, 1, 2] rfl (hk6 (0 : Int32))
    refine bp_j_iconst (v := 1) dX6_byteOf_52 (by decide) ?_
    refine bp_j_goto (tgt := 57) dX6_byteOf_53 (by decide) ?_
    exact bp_j_sub [0, 1, 2] rfl (hk6 (1 : Int32))
  refine bp_j_cl_I (bp_ranV (t := 4) (n := 4) (As := [.int x1, .int x2, .int x4, .int x5]) (cnX6_may (G := G) a0 x1 x2 x4 x5) rfl (lw_V q1247 q1249 qs34 q82 q1250) ⟨rfl, by decide +kernel, by decide +kernel, by decide +kernel⟩ ⟨by decide, by decide⟩ (rest := []) rfl rfl (Nat.le_of_ble_eq_true rfl) dX6_byteOf_57) (by decide) (fun x7 => ?_)
  refine bp_j_if_ne (tgt := 65) dX6_byteOf_60 (by decide) ?_ ?_
  · refine bp_j_aload_n 0 dX6_byteOf_65 rfl ?_
    refine bp_j_getN (t := 4) (k := 9) rfl (by decide) (bp_lk q1089) dX6_byteOf_66 (fun _ _ _ => rfl) (fun a8 => ?_)
    refine bp_j_bipush (v := 20) dX6_byteOf_69 (by decide) ?_
    refine bp_j_iload_n 1 dX6_byteOf_71 rfl ?_
    refine bp_j_imul dX6_byteOf_72 ?_
    refine bp_j_aload_n 0 dX6_byteOf_73 rfl ?_
    refine bp_j_getN (t := 4) (k := 8) rfl (by decide) (bp_lk q1088) dX6_byteOf_74 (fun _ _ _ => rfl) (fun a9 => ?_)
    refine bp_j_iload_n 1 dX6_byteOf_77 rfl ?_
    refine bp_j_iaload dX6_byteOf_78 (fun x10 => ?_)
    refine bp_j_iadd dX6_byteOf_79 ?_
    refine bp_j_iload_n 2 dX6_byteOf_80 rfl ?_
    refine bp_j_iastore dX6_byteOf_81 ?_
    refine bp_j_aload_n 0 dX6_byteOf_82 rfl ?_
    refine bp_j_getN (t := 4) (k := 8) rfl (by decide) (bp_lk q1088) dX6_byteOf_83 (fun _ _ _ => rfl) (fun a11 => ?_)
    refine bp_j_iload_n 1 dX6_byteOf_86 rfl ?_
    refine bp_j_dup2 dX6_byteOf_87 rfl rfl ?_
    refine bp_j_iaload dX6_byteOf_88 (fun x12 => ?_)
    refine bp_j_iconst (v := 1) dX6_byteOf_89 (by decide) ?_
    refine bp_j_iadd dX6_byteOf_90 ?_
    refine bp_j_iastore dX6_byteOf_91 ?_
    refine bp_j_aload_n 0 dX6_byteOf_92 rfl ?_
    refine bp_j_getN (t := 4) (k := 8) rfl (by decide) (bp_lk q1088) dX6_byteOf_93 (fun _ _ _ => rfl) (fun a13 => ?_)
    refine bp_j_iload_n 1 dX6_byteOf_96 rfl ?_
    refine bp_j_iaload dX6_byteOf_97 (fun x14 => ?_)
    exact bp_j_iret rfl dX6_byteOf_98
  refine bp_j_iconst (v := 0) dX6_byteOf_63 (by decide) ?_
  exact bp_j_iret rfl dX6_byteOf_64
/-- BilevelPagesModel.clear()V -/
abbrev iX6_clear : bp_MI := (yX6_clear, cX6_clear, 1, none, [], 0, 0)
def PX6_clear (a0 : Nat) : bp_M Unit :=
  bp_putI 4 0 a0 (0 : Int32) <|
  bp_putI 4 2 a0 (0 : Int32) <|
  bp_ret ()
set_option maxHeartbeats 4000000 in
set_option maxRecDepth 100000 in
theorem cnX6_clear {G : bp_GT} (a0 : Nat) : bp_Con G iX6_clear (ws_ iX6_clear.1 iX6_clear.2.1 iX6_clear.2.2.1 iX6_clear.2.2.2.1) [.ref a0] (PX6_clear a0) bp_eU := by
  refine bp_con_of [(0, .ref a0)] rfl (by decide) (Nat.le_of_ble_eq_true rfl) rfl ?_
  unfold PX6_clear
  refine bp_j_aload_n 0 dX6_clear_0 rfl ?_
  refine bp_j_iconst (v := 0) dX6_clear_1 (by decide) ?_
  refine bp_j_putI (t := 4) (k := 0) rfl (by decide) (by decide) (bp_lk q1080) rfl dX6_clear_2 rfl ?_
  refine bp_j_aload_n 0 dX6_clear_5 rfl ?_
  refine bp_j_iconst (v := 0) dX6_clear_6 (by decide) ?_
  refine bp_j_putI (t := 4) (k := 2) rfl (by decide) (by decide) (bp_lk q1082) rfl dX6_clear_7 rfl ?_
  exact bp_j_vret rfl dX6_clear_10
/-- BilevelPagesModel.drop()V -/
abbrev iX6_drop : bp_MI := (yX6_drop, cX6_drop, 1, none, [], 0, 0)
def PX6_drop (a0 : Nat) : bp_M Unit :=
  bp_putI 4 0 a0 (0 : Int32) <|
  bp_putI 4 15 a0 (0 : Int32) <|
  bp_putI 4 17 a0 (0 : Int32) <|
  bp_ret ()
set_option maxHeartbeats 4000000 in
set_option maxRecDepth 100000 in
theorem cnX6_drop {G : bp_GT} (a0 : Nat) : bp_Con G iX6_drop (ws_ iX6_drop.1 iX6_drop.2.1 iX6_drop.2.2.1 iX6_drop.2.2.2.1) [.ref a0] (PX6_drop a0) bp_eU := by
  refine bp_con_of [(0, .ref a0)] rfl (by decide) (Nat.le_of_ble_eq_true rfl) rfl ?_
  unfold PX6_drop
  refine bp_j_aload_n 0 dX6_drop_0 rfl ?_
  refine bp_j_iconst (v := 0) dX6_drop_1 (by decide) ?_
  refine bp_j_putI (t := 4) (k := 0) rfl (by decide) (by decide) (bp_lk q1080) rfl dX6_drop_2 rfl ?_
  refine bp_j_aload_n 0 dX6_drop_5 rfl ?_
  refine bp_j_iconst (v := 0) dX6_drop_6 (by decide) ?_
  refine bp_j_putI (t := 4) (k := 15) rfl (by decide) (by decide) (bp_lk q1095) rfl dX6_drop_7 rfl ?_
  refine bp_j_aload_n 0 dX6_drop_10 rfl ?_
  refine bp_j_iconst (v := 0) dX6_drop_11 (by decide) ?_
  refine bp_j_putI (t := 4) (k := 17) rfl (by decide) (by decide) (bp_lk q1097) rfl dX6_drop_12 rfl ?_
  exact bp_j_vret rfl dX6_drop_15
/-- BilevelPagesModel.feed(IZ)I -/
abbrev iX6_feed : bp_MI := (yX6_feed, cX6_feed, 3, some (Jvm.ClassFile.FieldType.int), [], 1, 24)
def PX6_feed (a0 : Nat) (xp1 : Int32) (xp2 : Int32) : bp_M Int32 :=
  bp_bind (PX6_isIn xp1 (0 : Int32) (255 : Int32)) fun x1 =>
  bp_jn (fun (k3 : Int32 → bp_M Int32) =>
  bp_if (x1 = 0) (
  k3 (0 : Int32)) (
  bp_if (xp2 = 0) (
  k3 (1 : Int32)) (
  bp_getI 4 1 a0 fun x18 =>
  bp_if (x18 = (2 : Int32)) (
  k3 (1 : Int32)) (
  k3 (0 : Int32))))) (fun (x2 : Int32) =>
  bp_getI 4 15 a0 fun x4 =>
  bp_getI 4 17 a0 fun x5 =>
  bp_jn (fun (k7 : Int32 → bp_M Int32) =>
  bp_if ((3000 : Int32) ≤ (x4 + x5)) (
  k7 (0 : Int32)) (
  k7 (1 : Int32))) (fun (x6 : Int32) =>
  bp_bind (bp_is 4 a0 (PX6_may a0 x2 x6 (1 : Int32) (1 : Int32))) fun x8 =>
  bp_if (x8 = 0) (
  bp_ret (0 : Int32)) (
  bp_jn (fun (k9 : bp_M Int32) =>
  bp_if (xp2 = 0) (
  bp_getN 4 16 a0 fun a12 =>
  bp_getI 4 17 a0 fun x13 =>
  bp_astI a12 x13 xp1 <|
  bp_getI 4 17 a0 fun x14 =>
  bp_putI 4 17 a0 (x14 + (1 : Int32)) <|
  k9) (
  bp_getN 4 14 a0 fun a15 =>
  bp_getI 4 15 a0 fun x16 =>
  bp_astI a15 x16 xp1 <|
  bp_getI 4 15 a0 fun x17 =>
  bp_putI 4 15 a0 (x17 + (1 : Int32)) <|
  k9)) (bp_if (xp2 = 0) (
  bp_getI 4 17 a0 fun x10 =>
  bp_ret x10) (
  bp_getI 4 15 a0 fun x11 =>
  bp_ret x11)))))
set_option maxHeartbeats 4000000 in
set_option maxRecDepth 100000 in
theorem cnX6_feed {G : bp_GT} (a0 : Nat) (xp1 : Int32) (xp2 : Int32) : bp_Con G iX6_feed (ws_ iX6_feed.1 iX6_feed.2.1 iX6_feed.2.2.1 iX6_feed.2.2.2.1) [.ref a0, .int xp1, .int xp2] (PX6_feed a0 xp1 xp2) bp_eI := by
  refine bp_con_of [(0, .ref a0), (1, .int xp1), (2, .int xp2)] rfl (by decide) (Nat.le_of_ble_eq_true rfl) rfl ?_
  unfold PX6_feed
  refine bp_j_aload_n 0 dX6_feed_0 rfl ?_
  refine bp_j_iload_n 1 dX6_feed_1 rfl ?_
  refine bp_j_iconst (v := 0) dX6_feed_2 (by decide) ?_
  refine bp_j_sipush (v := 255) dX6_feed_3 (by decide) ?_
  refine bp_j_cl_I (bp_ranS (n := 3) (As := [.int xp1, .int (0 : Int32), .int (255 : Int32)]) (cnX6_isIn (G := G) xp1 (0 : Int32) (255 : Int32)) (lw_S q1244 q1245 q82 q1246) ⟨by decide +kernel, by decide +kernel, by decide +kernel⟩ ⟨by decide, by decide⟩ (rest := [.ref a0]) rfl rfl (Nat.le_of_ble_eq_true rfl) dX6_feed_6) (by decide) (fun x1 => ?_)
  refine bp_j_jm (fun k => ∀ (x2 : Int32), bp_J G iX6_feed (bp_Qn G bp_eI) (k x2) 29 [(0, .ref a0), (1, .int xp1), (2, .int xp2)] [.int x2, .ref a0]) (fun k3 hk3 => ?_) (fun x2 => ?_)
  · refine bp_j_if_eq (tgt := 28) dX6_feed_9 (by decide) ?_ ?_
    · refine bp_j_iconst (v := 0) dX6_feed_28 (by decide) ?_
      exact hk3 (0 : Int32)
    refine bp_j_iload_n 2 dX6_feed_12 rfl ?_
    refine bp_j_if_eq (tgt := 24) dX6_feed_13 (by decide) ?_ ?_
    · refine bp_j_iconst (v := 1) dX6_feed_24 (by decide) ?_
      refine bp_j_goto (tgt := 29) dX6_feed_25 (by decide) ?_
      exact hk3 (1 : Int32)
    refine bp_j_aload_n 0 dX6_feed_16 rfl ?_
    refine bp_j_getI (t := 4) (k := 1) rfl (by decide) (bp_lk q1081) dX6_feed_17 (fun _ _ _ => rfl) (fun x18 => ?_)
    refine bp_j_iconst (v := 2) dX6_feed_20 (by decide) ?_
    refine bp_j_icmp_ne (tgt := 28) dX6_feed_21 (by decide) ?_ ?_
    · refine bp_j_iconst (v := 0) dX6_feed_28 (by decide) ?_
      exact hk3 (0 : Int32)
    refine bp_j_iconst (v := 1) dX6_feed_24 (by decide) ?_
    refine bp_j_goto (tgt := 29) dX6_feed_25 (by decide) ?_
    exact hk3 (1 : Int32)
  refine bp_j_aload_n 0 dX6_feed_29 rfl ?_
  refine bp_j_getI (t := 4) (k := 15) rfl (by decide) (bp_lk q1095) dX6_feed_30 (fun _ _ _ => rfl) (fun x4 => ?_)
  refine bp_j_aload_n 0 dX6_feed_33 rfl ?_
  refine bp_j_getI (t := 4) (k := 17) rfl (by decide) (bp_lk q1097) dX6_feed_34 (fun _ _ _ => rfl) (fun x5 => ?_)
  refine bp_j_iadd dX6_feed_37 ?_
  refine bp_j_sipush (v := 3000) dX6_feed_38 (by decide) ?_
  refine bp_j_jm (fun k => ∀ (x6 : Int32), bp_J G iX6_feed (bp_Qn G bp_eI) (k x6) 49 [(0, .ref a0), (1, .int xp1), (2, .int xp2)] [.int x6, .int x2, .ref a0]) (fun k7 hk7 => ?_) (fun x6 => ?_)
  · refine bp_j_icmp_ge (tgt := 48) dX6_feed_41 (by decide) ?_ ?_
    · refine bp_j_iconst (v := 0) dX6_feed_48 (by decide) ?_
      exact hk7 (0 : Int32)
    refine bp_j_iconst (v := 1) dX6_feed_44 (by decide) ?_
    refine bp_j_goto (tgt := 49) dX6_feed_45 (by decide) ?_
    exact hk7 (1 : Int32)
  refine bp_j_iconst (v := 1) dX6_feed_49 (by decide) ?_
  refine bp_j_iconst (v := 1) dX6_feed_50 (by decide) ?_
  refine bp_j_cl_I (bp_ranV (t := 4) (n := 4) (As := [.int x2, .int x6, .int (1 : Int32), .int (1 : Int32)]) (cnX6_may (G := G) a0 x2 x6 (1 : Int32) (1 : Int32)) rfl (lw_V q1247 q1249 qs34 q82 q1250) ⟨rfl, by decide +kernel, by decide +kernel, by decide +kernel⟩ ⟨by decide, by decide⟩ (rest := []) rfl rfl (Nat.le_of_ble_eq_true rfl) dX6_feed_51) (by decide) (fun x8 => ?_)
  refine bp_j_if_ne (tgt := 59) dX6_feed_54 (by decide) ?_ ?_
  · refine bp_j_iload_n 2 dX6_feed_59 rfl ?_
    refine bp_j_jm (fun k => bp_J G iX6_feed (bp_Qn G bp_eI) (k) 106 [(0, .ref a0), (2, .int xp2)] []) (fun k9 hk9 => ?_) ?_
    · refine bp_j_if_eq (tgt := 86) dX6_feed_60 (by decide) ?_ ?_
      · refine bp_j_aload_n 0 dX6_feed_86 rfl ?_
        refine bp_j_getN (t := 4) (k := 16) rfl (by decide) (bp_lk q1096) dX6_feed_87 (fun _ _ _ => rfl) (fun a12 => ?_)
        refine bp_j_aload_n 0 dX6_feed_90 rfl ?_
        refine bp_j_getI (t := 4) (k := 17) rfl (by decide) (bp_lk q1097) dX6_feed_91 (fun _ _ _ => rfl) (fun x13 => ?_)
        refine bp_j_iload_n 1 dX6_feed_94 rfl ?_
        refine bp_j_iastore dX6_feed_95 ?_
        refine bp_j_aload_n 0 dX6_feed_96 rfl ?_
        refine bp_j_dup dX6_feed_97 rfl ?_
        refine bp_j_getI (t := 4) (k := 17) rfl (by decide) (bp_lk q1097) dX6_feed_98 (fun _ _ _ => rfl) (fun x14 => ?_)
        refine bp_j_iconst (v := 1) dX6_feed_101 (by decide) ?_
        refine bp_j_iadd dX6_feed_102 ?_
        refine bp_j_putI (t := 4) (k := 17) rfl (by decide) (by decide) (bp_lk q1097) rfl dX6_feed_103 rfl ?_
        exact bp_j_sub [0, 2] rfl (hk9)
      refine bp_j_aload_n 0 dX6_feed_63 rfl ?_
      refine bp_j_getN (t := 4) (k := 14) rfl (by decide) (bp_lk q1094) dX6_feed_64 (fun _ _ _ => rfl) (fun a15 => ?_)
      refine bp_j_aload_n 0 dX6_feed_67 rfl ?_
      refine bp_j_getI (t := 4) (k := 15) rfl (by decide) (bp_lk q1095) dX6_feed_68 (fun _ _ _ => rfl) (fun x16 => ?_)
      refine bp_j_iload_n 1 dX6_feed_71 rfl ?_
      refine bp_j_iastore dX6_feed_72 ?_
      refine bp_j_aload_n 0 dX6_feed_73 rfl ?_
      refine bp_j_dup dX6_feed_74 rfl ?_
      refine bp_j_getI (t := 4) (k := 15) rfl (by decide) (bp_lk q1095) dX6_feed_75 (fun _ _ _ => rfl) (fun x17 => ?_)
      refine bp_j_iconst (v := 1) dX6_feed_78 (by decide) ?_
      refine bp_j_iadd dX6_feed_79 ?_
      refine bp_j_putI (t := 4) (k := 15) rfl (by decide) (by decide) (bp_lk q1095) rfl dX6_feed_80 rfl ?_
      refine bp_j_goto (tgt := 106) dX6_feed_83 (by decide) ?_
      exact bp_j_sub [0, 2] rfl (hk9)
    refine bp_j_iload_n 1 dX6_feed_106 rfl ?_
    refine bp_j_if_eq (tgt := 117) dX6_feed_107 (by decide) ?_ ?_
    · refine bp_j_aload_n 0 dX6_feed_117 rfl ?_
      refine bp_j_getI (t := 4) (k := 17) rfl (by decide) (bp_lk q1097) dX6_feed_118 (fun _ _ _ => rfl) (fun x10 => ?_)
      exact bp_j_iret rfl dX6_feed_121
    refine bp_j_aload_n 0 dX6_feed_110 rfl ?_
    refine bp_j_getI (t := 4) (k := 15) rfl (by decide) (bp_lk q1095) dX6_feed_111 (fun _ _ _ => rfl) (fun x11 => ?_)
    refine bp_j_goto (tgt := 121) dX6_feed_114 (by decide) ?_
    exact bp_j_iret rfl dX6_feed_121
  refine bp_j_iconst (v := 0) dX6_feed_57 (by decide) ?_
  exact bp_j_iret rfl dX6_feed_58
/-- BilevelPagesModel.found(II)I -/
abbrev iX6_found : bp_MI := (yX6_found, cX6_found, 3, some (Jvm.ClassFile.FieldType.int), [], 1, 24)
def PX6_found (a0 : Nat) (xp1 : Int32) (xp2 : Int32) : bp_M Int32 :=
  bp_bind (bp_is 4 a0 (PX6_may a0 (1 : Int32) (1 : Int32) (1 : Int32) (1 : Int32))) fun x1 =>
  bp_jn (fun (k2 : bp_M Int32) =>
  bp_if (x1 = 0) (
  k2) (
  bp_getI 4 47 a0 fun x3 =>
  bp_if (x3 = 0) (
  k2) (
  bp_getI 4 48 a0 fun x4 =>
  bp_bind (PX6_isIn xp1 (0 : Int32) (x4 - (1 : Int32))) fun x5 =>
  bp_if (x5 = 0) (
  bp_putI 4 0 a0 (2 : Int32) <|
  bp_ret (0 : Int32)) (
  bp_sw (xp2).toInt [(0, (
  bp_getN 4 27 a0 fun a6 =>
  bp_aldI 20 a6 xp1 fun x7 =>
  bp_ret x7)), (1, (
  bp_getN 4 28 a0 fun a8 =>
  bp_aldI 20 a8 xp1 fun x9 =>
  bp_ret x9)), (2, (
  bp_getN 4 29 a0 fun a10 =>
  bp_aldI 20 a10 xp1 fun x11 =>
  bp_ret x11)), (3, (
  bp_getN 4 30 a0 fun a12 =>
  bp_aldI 20 a12 xp1 fun x13 =>
  bp_ret x13)), (4, (
  bp_getN 4 35 a0 fun a14 =>
  bp_aldI 20 a14 xp1 fun x15 =>
  bp_ret x15)), (5, (
  bp_getN 4 34 a0 fun a16 =>
  bp_aldI 20 a16 xp1 fun x17 =>
  bp_ret x17))] (
  bp_ret (-1 : Int32)))))) (bp_putI 4 0 a0 (1 : Int32) <|
  bp_ret (0 : Int32))
set_option maxHeartbeats 4000000 in
set_option maxRecDepth 100000 in
theorem cnX6_found {G : bp_GT} (a0 : Nat) (xp1 : Int32) (xp2 : Int32) : bp_Con G iX6_found (ws_ iX6_found.1 iX6_found.2.1 iX6_found.2.2.1 iX6_found.2.2.2.1) [.ref a0, .int xp1, .int xp2] (PX6_found a0 xp1 xp2) bp_eI := by
  refine bp_con_of [(0, .ref a0), (1, .int xp1), (2, .int xp2)] rfl (by decide) (Nat.le_of_ble_eq_true rfl) rfl ?_
  unfold PX6_found
  refine bp_j_aload_n 0 dX6_found_0 rfl ?_
  refine bp_j_iconst (v := 1) dX6_found_1 (by decide) ?_
  refine bp_j_iconst (v := 1) dX6_found_2 (by decide) ?_
  refine bp_j_iconst (v := 1) dX6_found_3 (by decide) ?_
  refine bp_j_iconst (v := 1) dX6_found_4 (by decide) ?_
  refine bp_j_cl_I (bp_ranV (t := 4) (n := 4) (As := [.int (1 : Int32), .int (1 : Int32), .int (1 : Int32), .int (1 : Int32)]) (cnX6_may (G := G) a0 (1 : Int32) (1 : Int32) (1 : Int32) (1 : Int32)) rfl (lw_V q1247 q1249 qs34 q82 q1250) ⟨rfl, by decide +kernel, by decide +kernel, by decide +kernel⟩ ⟨by decide, by decide⟩ (rest := []) rfl rfl (Nat.le_of_ble_eq_true rfl) dX6_found_5) (by decide) (fun x1 => ?_)
  refine bp_j_jm (fun k => bp_J G iX6_found (bp_Qn G bp_eI) (k) 18 [(0, .ref a0)] []) (fun k2 hk2 => ?_) ?_
  · refine bp_j_if_eq (tgt := 18) dX6_found_8 (by decide) ?_ ?_
    · exact bp_j_sub [0] rfl (hk2)
    refine bp_j_aload_n 0 dX6_found_11 rfl ?_
    refine bp_j_getI (t := 4) (k := 47) rfl (by decide) (bp_lk q1127) dX6_found_12 (fun _ _ _ => rfl) (fun x3 => ?_)
    refine bp_j_if_ne (tgt := 25) dX6_found_15 (by decide) ?_ ?_
    · refine bp_j_iload_n 1 dX6_found_25 rfl ?_
      refine bp_j_iconst (v := 0) dX6_found_26 (by decide) ?_
      refine bp_j_aload_n 0 dX6_found_27 rfl ?_
      refine bp_j_getI (t := 4) (k := 48) rfl (by decide) (bp_lk q1128) dX6_found_28 (fun _ _ _ => rfl) (fun x4 => ?_)
      refine bp_j_iconst (v := 1) dX6_found_31 (by decide) ?_
      refine bp_j_isub dX6_found_32 ?_
      refine bp_j_cl_I (bp_ranS (n := 3) (As := [.int xp1, .int (0 : Int32), .int (x4 - (1 : Int32))]) (cnX6_isIn (G := G) xp1 (0 : Int32) (x4 - (1 : Int32))) (lw_S q1244 q1245 q82 q1246) ⟨by decide +kernel, by decide +kernel, by decide +kernel⟩ ⟨by decide, by decide⟩ (rest := []) rfl rfl (Nat.le_of_ble_eq_true rfl) dX6_found_33) (by decide) (fun x5 => ?_)
      refine bp_j_if_ne (tgt := 46) dX6_found_36 (by decide) ?_ ?_
      · refine bp_j_iload_n 2 dX6_found_46 rfl ?_
        refine bp_j_tsw (tgt := 126) [84, 91, 98, 105, 112, 119] dX6_found_47 rfl rfl rfl (by decide) (bp_JSc ?_ (bp_JSc ?_ (bp_JSc ?_ (bp_JSc ?_ (bp_JSc ?_ (bp_JSc ?_ bp_JSn)))))) ?_
        · refine bp_j_aload_n 0 dX6_found_84 rfl ?_
          refine bp_j_getN (t := 4) (k := 27) rfl (by decide) (bp_lk q1107) dX6_found_85 (fun _ _ _ => rfl) (fun a6 => ?_)
          refine bp_j_iload_n 1 dX6_found_88 rfl ?_
          refine bp_j_iaload dX6_found_89 (fun x7 => ?_)
          exact bp_j_iret rfl dX6_found_90
        · refine bp_j_aload_n 0 dX6_found_91 rfl ?_
          refine bp_j_getN (t := 4) (k := 28) rfl (by decide) (bp_lk q1108) dX6_found_92 (fun _ _ _ => rfl) (fun a8 => ?_)
          refine bp_j_iload_n 1 dX6_found_95 rfl ?_
          refine bp_j_iaload dX6_found_96 (fun x9 => ?_)
          exact bp_j_iret rfl dX6_found_97
        · refine bp_j_aload_n 0 dX6_found_98 rfl ?_
          refine bp_j_getN (t := 4) (k := 29) rfl (by decide) (bp_lk q1109) dX6_found_99 (fun _ _ _ => rfl) (fun a10 => ?_)
          refine bp_j_iload_n 1 dX6_found_102 rfl ?_
          refine bp_j_iaload dX6_found_103 (fun x11 => ?_)
          exact bp_j_iret rfl dX6_found_104
        · refine bp_j_aload_n 0 dX6_found_105 rfl ?_
          refine bp_j_getN (t := 4) (k := 30) rfl (by decide) (bp_lk q1110) dX6_found_106 (fun _ _ _ => rfl) (fun a12 => ?_)
          refine bp_j_iload_n 1 dX6_found_109 rfl ?_
          refine bp_j_iaload dX6_found_110 (fun x13 => ?_)
          exact bp_j_iret rfl dX6_found_111
        · refine bp_j_aload_n 0 dX6_found_112 rfl ?_
          refine bp_j_getN (t := 4) (k := 35) rfl (by decide) (bp_lk q1115) dX6_found_113 (fun _ _ _ => rfl) (fun a14 => ?_)
          refine bp_j_iload_n 1 dX6_found_116 rfl ?_
          refine bp_j_iaload dX6_found_117 (fun x15 => ?_)
          exact bp_j_iret rfl dX6_found_118
        · refine bp_j_aload_n 0 dX6_found_119 rfl ?_
          refine bp_j_getN (t := 4) (k := 34) rfl (by decide) (bp_lk q1114) dX6_found_120 (fun _ _ _ => rfl) (fun a16 => ?_)
          refine bp_j_iload_n 1 dX6_found_123 rfl ?_
          refine bp_j_iaload dX6_found_124 (fun x17 => ?_)
          exact bp_j_iret rfl dX6_found_125
        refine bp_j_iconst (v := -1) dX6_found_126 (by decide) ?_
        exact bp_j_iret rfl dX6_found_127
      refine bp_j_aload_n 0 dX6_found_39 rfl ?_
      refine bp_j_iconst (v := 2) dX6_found_40 (by decide) ?_
      refine bp_j_putI (t := 4) (k := 0) rfl (by decide) (by decide) (bp_lk q1080) rfl dX6_found_41 rfl ?_
      refine bp_j_iconst (v := 0) dX6_found_44 (by decide) ?_
      exact bp_j_iret rfl dX6_found_45
    exact bp_j_sub [0] rfl (hk2)
  refine bp_j_aload_n 0 dX6_found_18 rfl ?_
  refine bp_j_iconst (v := 1) dX6_found_19 (by decide) ?_
  refine bp_j_putI (t := 4) (k := 0) rfl (by decide) (by decide) (bp_lk q1080) rfl dX6_found_20 rfl ?_
  refine bp_j_iconst (v := 0) dX6_found_23 (by decide) ?_
  exact bp_j_iret rfl dX6_found_24
/-- BilevelPagesModel.<init>(I)V -/
abbrev iX6_init : bp_MI := (yX6_init, cX6_init, 2, none, [], 1, 40)
def PX6_init (a0 : Nat) (xp1 : Int32) : bp_M Unit :=
  bp_newa 20 (30 : Int32) fun a1 =>
  bp_putR 4 3 a0 (some a1) <|
  bp_newa 20 (30 : Int32) fun a2 =>
  bp_putR 4 4 a0 (some a2) <|
  bp_newa 20 (30 : Int32) fun a3 =>
  bp_putR 4 5 a0 (some a3) <|
  bp_newa 20 (300 : Int32) fun a4 =>
  bp_putR 4 6 a0 (some a4) <|
  bp_newa 20 (30 : Int32) fun a5 =>
  bp_putR 4 7 a0 (some a5) <|
  bp_newa 20 (30 : Int32) fun a6 =>
  bp_putR 4 8 a0 (some a6) <|
  bp_newa 20 (600 : Int32) fun a7 =>
  bp_putR 4 9 a0 (some a7) <|
  bp_newa 20 (180 : Int32) fun a8 =>
  bp_putR 4 10 a0 (some a8) <|
  bp_newa 20 (480 : Int32) fun a9 =>
  bp_putR 4 11 a0 (some a9) <|
  bp_newa 20 (5000 : Int32) fun a10 =>
  bp_putR 4 12 a0 (some a10) <|
  bp_newa 20 (3000 : Int32) fun a11 =>
  bp_putR 4 14 a0 (some a11) <|
  bp_newa 20 (3000 : Int32) fun a12 =>
  bp_putR 4 16 a0 (some a12) <|
  bp_newa 20 (3000 : Int32) fun a13 =>
  bp_putR 4 18 a0 (some a13) <|
  bp_newa 20 (256 : Int32) fun a14 =>
  bp_putR 4 26 a0 (some a14) <|
  bp_newa 20 (256 : Int32) fun a15 =>
  bp_putR 4 27 a0 (some a15) <|
  bp_newa 20 (256 : Int32) fun a16 =>
  bp_putR 4 28 a0 (some a16) <|
  bp_newa 20 (256 : Int32) fun a17 =>
  bp_putR 4 29 a0 (some a17) <|
  bp_newa 20 (256 : Int32) fun a18 =>
  bp_putR 4 30 a0 (some a18) <|
  bp_newa 20 (2560 : Int32) fun a19 =>
  bp_putR 4 31 a0 (some a19) <|
  bp_newa 20 (256 : Int32) fun a20 =>
  bp_putR 4 32 a0 (some a20) <|
  bp_newa 23 (256 : Int32) fun a21 =>
  bp_putR 4 33 a0 (some a21) <|
  bp_newa 20 (256 : Int32) fun a22 =>
  bp_putR 4 34 a0 (some a22) <|
  bp_newa 20 (256 : Int32) fun a23 =>
  bp_putR 4 35 a0 (some a23) <|
  bp_newa 20 (256 : Int32) fun a24 =>
  bp_putR 4 36 a0 (some a24) <|
  bp_newa 20 (256 : Int32) fun a25 =>
  bp_putR 4 37 a0 (some a25) <|
  bp_newa 20 (4096 : Int32) fun a26 =>
  bp_putR 4 38 a0 (some a26) <|
  bp_newa 22 (10 : Int32) fun a27 =>
  bp_putR 4 40 a0 (some a27) <|
  bp_newa 20 (10 : Int32) fun a28 =>
  bp_putR 4 41 a0 (some a28) <|
  bp_newa 20 (10 : Int32) fun a29 =>
  bp_putR 4 42 a0 (some a29) <|
  bp_newa 20 (10 : Int32) fun a30 =>
  bp_putR 4 43 a0 (some a30) <|
  bp_newa 20 (10 : Int32) fun a31 =>
  bp_putR 4 44 a0 (some a31) <|
  bp_newa 20 (320 : Int32) fun a32 =>
  bp_putR 4 45 a0 (some a32) <|
  bp_newa 22 (10240 : Int32) fun a33 =>
  bp_putR 4 46 a0 (some a33) <|
  bp_jn (fun (k35 : Int32 → bp_M Unit) =>
  bp_if (0 ≤ xp1) (
  bp_if (xp1 ≤ (2 : Int32)) (
  k35 xp1) (
  k35 (2 : Int32))) (
  k35 (0 : Int32))) (fun (x34 : Int32) =>
  bp_putI 4 1 a0 x34 <|
  bp_ret ())
set_option maxHeartbeats 4000000 in
set_option maxRecDepth 100000 in
theorem cnX6_init {G : bp_GT} (a0 : Nat) (xp1 : Int32) : bp_Con G iX6_init (ws_ iX6_init.1 iX6_init.2.1 iX6_init.2.2.1 iX6_init.2.2.2.1) [.ref a0, .int xp1] (PX6_init a0 xp1) bp_eU := by
  refine bp_con_of [(0, .ref a0), (1, .int xp1)] rfl (by decide) (Nat.le_of_ble_eq_true rfl) rfl ?_
  unfold PX6_init
  refine bp_j_aload_n 0 dX6_init_0 rfl ?_
  refine bp_j_objInit q1079 q105 q106 dX6_init_1 (by decide) (Nat.le_of_ble_eq_true rfl) ?_
  refine bp_j_aload_n 0 dX6_init_4 rfl ?_
  refine bp_j_bipush (v := 30) dX6_init_5 (by decide) ?_
  refine bp_j_newarray (aty := .int) (t := 20) rfl (by decide) q215 (by decide) dX6_init_7 (fun a1 => ?_)
  refine bp_j_putFR (t := 4) (k := 3) (some a1) rfl (by decide) (by decide) q1083 rfl rfl rfl dX6_init_9 (fun _ _ _ => rfl) ?_
  refine bp_j_aload_n 0 dX6_init_12 rfl ?_
  refine bp_j_bipush (v := 30) dX6_init_13 (by decide) ?_
  refine bp_j_newarray (aty := .int) (t := 20) rfl (by decide) q215 (by decide) dX6_init_15 (fun a2 => ?_)
  refine bp_j_putFR (t := 4) (k := 4) (some a2) rfl (by decide) (by decide) q1084 rfl rfl rfl dX6_init_17 (fun _ _ _ => rfl) ?_
  refine bp_j_aload_n 0 dX6_init_20 rfl ?_
  refine bp_j_bipush (v := 30) dX6_init_21 (by decide) ?_
  refine bp_j_newarray (aty := .int) (t := 20) rfl (by decide) q215 (by decide) dX6_init_23 (fun a3 => ?_)
  refine bp_j_putFR (t := 4) (k := 5) (some a3) rfl (by decide) (by decide) q1085 rfl rfl rfl dX6_init_25 (fun _ _ _ => rfl) ?_
  refine bp_j_aload_n 0 dX6_init_28 rfl ?_
  refine bp_j_sipush (v := 300) dX6_init_29 (by decide) ?_
  refine bp_j_newarray (aty := .int) (t := 20) rfl (by decide) q215 (by decide) dX6_init_32 (fun a4 => ?_)
  refine bp_j_putFR (t := 4) (k := 6) (some a4) rfl (by decide) (by decide) q1086 rfl rfl rfl dX6_init_34 (fun _ _ _ => rfl) ?_
  refine bp_j_aload_n 0 dX6_init_37 rfl ?_
  refine bp_j_bipush (v := 30) dX6_init_38 (by decide) ?_
  refine bp_j_newarray (aty := .int) (t := 20) rfl (by decide) q215 (by decide) dX6_init_40 (fun a5 => ?_)
  refine bp_j_putFR (t := 4) (k := 7) (some a5) rfl (by decide) (by decide) q1087 rfl rfl rfl dX6_init_42 (fun _ _ _ => rfl) ?_
  refine bp_j_aload_n 0 dX6_init_45 rfl ?_
  refine bp_j_bipush (v := 30) dX6_init_46 (by decide) ?_
  refine bp_j_newarray (aty := .int) (t := 20) rfl (by decide) q215 (by decide) dX6_init_48 (fun a6 => ?_)
  refine bp_j_putFR (t := 4) (k := 8) (some a6) rfl (by decide) (by decide) q1088 rfl rfl rfl dX6_init_50 (fun _ _ _ => rfl) ?_
  refine bp_j_aload_n 0 dX6_init_53 rfl ?_
  refine bp_j_sipush (v := 600) dX6_init_54 (by decide) ?_
  refine bp_j_newarray (aty := .int) (t := 20) rfl (by decide) q215 (by decide) dX6_init_57 (fun a7 => ?_)
  refine bp_j_putFR (t := 4) (k := 9) (some a7) rfl (by decide) (by decide) q1089 rfl rfl rfl dX6_init_59 (fun _ _ _ => rfl) ?_
  refine bp_j_aload_n 0 dX6_init_62 rfl ?_
  refine bp_j_sipush (v := 180) dX6_init_63 (by decide) ?_
  refine bp_j_newarray (aty := .int) (t := 20) rfl (by decide) q215 (by decide) dX6_init_66 (fun a8 => ?_)
  refine bp_j_putFR (t := 4) (k := 10) (some a8) rfl (by decide) (by decide) q1090 rfl rfl rfl dX6_init_68 (fun _ _ _ => rfl) ?_
  refine bp_j_aload_n 0 dX6_init_71 rfl ?_
  refine bp_j_sipush (v := 480) dX6_init_72 (by decide) ?_
  refine bp_j_newarray (aty := .int) (t := 20) rfl (by decide) q215 (by decide) dX6_init_75 (fun a9 => ?_)
  refine bp_j_putFR (t := 4) (k := 11) (some a9) rfl (by decide) (by decide) q1091 rfl rfl rfl dX6_init_77 (fun _ _ _ => rfl) ?_
  refine bp_j_aload_n 0 dX6_init_80 rfl ?_
  refine bp_j_sipush (v := 5000) dX6_init_81 (by decide) ?_
  refine bp_j_newarray (aty := .int) (t := 20) rfl (by decide) q215 (by decide) dX6_init_84 (fun a10 => ?_)
  refine bp_j_putFR (t := 4) (k := 12) (some a10) rfl (by decide) (by decide) q1092 rfl rfl rfl dX6_init_86 (fun _ _ _ => rfl) ?_
  refine bp_j_aload_n 0 dX6_init_89 rfl ?_
  refine bp_j_sipush (v := 3000) dX6_init_90 (by decide) ?_
  refine bp_j_newarray (aty := .int) (t := 20) rfl (by decide) q215 (by decide) dX6_init_93 (fun a11 => ?_)
  refine bp_j_putFR (t := 4) (k := 14) (some a11) rfl (by decide) (by decide) q1094 rfl rfl rfl dX6_init_95 (fun _ _ _ => rfl) ?_
  refine bp_j_aload_n 0 dX6_init_98 rfl ?_
  refine bp_j_sipush (v := 3000) dX6_init_99 (by decide) ?_
  refine bp_j_newarray (aty := .int) (t := 20) rfl (by decide) q215 (by decide) dX6_init_102 (fun a12 => ?_)
  refine bp_j_putFR (t := 4) (k := 16) (some a12) rfl (by decide) (by decide) q1096 rfl rfl rfl dX6_init_104 (fun _ _ _ => rfl) ?_
  refine bp_j_aload_n 0 dX6_init_107 rfl ?_
  refine bp_j_sipush (v := 3000) dX6_init_108 (by decide) ?_
  refine bp_j_newarray (aty := .int) (t := 20) rfl (by decide) q215 (by decide) dX6_init_111 (fun a13 => ?_)
  refine bp_j_putFR (t := 4) (k := 18) (some a13) rfl (by decide) (by decide) q1098 rfl rfl rfl dX6_init_113 (fun _ _ _ => rfl) ?_
  refine bp_j_aload_n 0 dX6_init_116 rfl ?_
  refine bp_j_sipush (v := 256) dX6_init_117 (by decide) ?_
  refine bp_j_newarray (aty := .int) (t := 20) rfl (by decide) q215 (by decide) dX6_init_120 (fun a14 => ?_)
  refine bp_j_putFR (t := 4) (k := 26) (some a14) rfl (by decide) (by decide) q1106 rfl rfl rfl dX6_init_122 (fun _ _ _ => rfl) ?_
  refine bp_j_aload_n 0 dX6_init_125 rfl ?_
  refine bp_j_sipush (v := 256) dX6_init_126 (by decide) ?_
  refine bp_j_newarray (aty := .int) (t := 20) rfl (by decide) q215 (by decide) dX6_init_129 (fun a15 => ?_)
  refine bp_j_putFR (t := 4) (k := 27) (some a15) rfl (by decide) (by decide) q1107 rfl rfl rfl dX6_init_131 (fun _ _ _ => rfl) ?_
  refine bp_j_aload_n 0 dX6_init_134 rfl ?_
  refine bp_j_sipush (v := 256) dX6_init_135 (by decide) ?_
  refine bp_j_newarray (aty := .int) (t := 20) rfl (by decide) q215 (by decide) dX6_init_138 (fun a16 => ?_)
  refine bp_j_putFR (t := 4) (k := 28) (some a16) rfl (by decide) (by decide) q1108 rfl rfl rfl dX6_init_140 (fun _ _ _ => rfl) ?_
  refine bp_j_aload_n 0 dX6_init_143 rfl ?_
  refine bp_j_sipush (v := 256) dX6_init_144 (by decide) ?_
  refine bp_j_newarray (aty := .int) (t := 20) rfl (by decide) q215 (by decide) dX6_init_147 (fun a17 => ?_)
  refine bp_j_putFR (t := 4) (k := 29) (some a17) rfl (by decide) (by decide) q1109 rfl rfl rfl dX6_init_149 (fun _ _ _ => rfl) ?_
  refine bp_j_aload_n 0 dX6_init_152 rfl ?_
  refine bp_j_sipush (v := 256) dX6_init_153 (by decide) ?_
  refine bp_j_newarray (aty := .int) (t := 20) rfl (by decide) q215 (by decide) dX6_init_156 (fun a18 => ?_)
  refine bp_j_putFR (t := 4) (k := 30) (some a18) rfl (by decide) (by decide) q1110 rfl rfl rfl dX6_init_158 (fun _ _ _ => rfl) ?_
  refine bp_j_aload_n 0 dX6_init_161 rfl ?_
  refine bp_j_sipush (v := 2560) dX6_init_162 (by decide) ?_
  refine bp_j_newarray (aty := .int) (t := 20) rfl (by decide) q215 (by decide) dX6_init_165 (fun a19 => ?_)
  refine bp_j_putFR (t := 4) (k := 31) (some a19) rfl (by decide) (by decide) q1111 rfl rfl rfl dX6_init_167 (fun _ _ _ => rfl) ?_
  refine bp_j_aload_n 0 dX6_init_170 rfl ?_
  refine bp_j_sipush (v := 256) dX6_init_171 (by decide) ?_
  refine bp_j_newarray (aty := .int) (t := 20) rfl (by decide) q215 (by decide) dX6_init_174 (fun a20 => ?_)
  refine bp_j_putFR (t := 4) (k := 32) (some a20) rfl (by decide) (by decide) q1112 rfl rfl rfl dX6_init_176 (fun _ _ _ => rfl) ?_
  refine bp_j_aload_n 0 dX6_init_179 rfl ?_
  refine bp_j_sipush (v := 256) dX6_init_180 (by decide) ?_
  refine bp_j_newarray (aty := .long) (t := 23) rfl (by decide) q1231 (by decide) dX6_init_183 (fun a21 => ?_)
  refine bp_j_putFR (t := 4) (k := 33) (some a21) rfl (by decide) (by decide) q1113 rfl rfl rfl dX6_init_185 (fun _ _ _ => rfl) ?_
  refine bp_j_aload_n 0 dX6_init_188 rfl ?_
  refine bp_j_sipush (v := 256) dX6_init_189 (by decide) ?_
  refine bp_j_newarray (aty := .int) (t := 20) rfl (by decide) q215 (by decide) dX6_init_192 (fun a22 => ?_)
  refine bp_j_putFR (t := 4) (k := 34) (some a22) rfl (by decide) (by decide) q1114 rfl rfl rfl dX6_init_194 (fun _ _ _ => rfl) ?_
  refine bp_j_aload_n 0 dX6_init_197 rfl ?_
  refine bp_j_sipush (v := 256) dX6_init_198 (by decide) ?_
  refine bp_j_newarray (aty := .int) (t := 20) rfl (by decide) q215 (by decide) dX6_init_201 (fun a23 => ?_)
  refine bp_j_putFR (t := 4) (k := 35) (some a23) rfl (by decide) (by decide) q1115 rfl rfl rfl dX6_init_203 (fun _ _ _ => rfl) ?_
  refine bp_j_aload_n 0 dX6_init_206 rfl ?_
  refine bp_j_sipush (v := 256) dX6_init_207 (by decide) ?_
  refine bp_j_newarray (aty := .int) (t := 20) rfl (by decide) q215 (by decide) dX6_init_210 (fun a24 => ?_)
  refine bp_j_putFR (t := 4) (k := 36) (some a24) rfl (by decide) (by decide) q1116 rfl rfl rfl dX6_init_212 (fun _ _ _ => rfl) ?_
  refine bp_j_aload_n 0 dX6_init_215 rfl ?_
  refine bp_j_sipush (v := 256) dX6_init_216 (by decide) ?_
  refine bp_j_newarray (aty := .int) (t := 20) rfl (by decide) q215 (by decide) dX6_init_219 (fun a25 => ?_)
  refine bp_j_putFR (t := 4) (k := 37) (some a25) rfl (by decide) (by decide) q1117 rfl rfl rfl dX6_init_221 (fun _ _ _ => rfl) ?_
  refine bp_j_aload_n 0 dX6_init_224 rfl ?_
  refine bp_j_sipush (v := 4096) dX6_init_225 (by decide) ?_
  refine bp_j_newarray (aty := .int) (t := 20) rfl (by decide) q215 (by decide) dX6_init_228 (fun a26 => ?_)
  refine bp_j_putFR (t := 4) (k := 38) (some a26) rfl (by decide) (by decide) q1118 rfl rfl rfl dX6_init_230 (fun _ _ _ => rfl) ?_
  refine bp_j_aload_n 0 dX6_init_233 rfl ?_
  refine bp_j_bipush (v := 10) dX6_init_234 (by decide) ?_
  refine bp_j_newarray (aty := .boolean) (t := 22) rfl (by decide) q1232 (by decide) dX6_init_236 (fun a27 => ?_)
  refine bp_j_putFR (t := 4) (k := 40) (some a27) rfl (by decide) (by decide) q1120 rfl rfl rfl dX6_init_238 (fun _ _ _ => rfl) ?_
  refine bp_j_aload_n 0 dX6_init_241 rfl ?_
  refine bp_j_bipush (v := 10) dX6_init_242 (by decide) ?_
  refine bp_j_newarray (aty := .int) (t := 20) rfl (by decide) q215 (by decide) dX6_init_244 (fun a28 => ?_)
  refine bp_j_putFR (t := 4) (k := 41) (some a28) rfl (by decide) (by decide) q1121 rfl rfl rfl dX6_init_246 (fun _ _ _ => rfl) ?_
  refine bp_j_aload_n 0 dX6_init_249 rfl ?_
  refine bp_j_bipush (v := 10) dX6_init_250 (by decide) ?_
  refine bp_j_newarray (aty := .int) (t := 20) rfl (by decide) q215 (by decide) dX6_init_252 (fun a29 => ?_)
  refine bp_j_putFR (t := 4) (k := 42) (some a29) rfl (by decide) (by decide) q1122 rfl rfl rfl dX6_init_254 (fun _ _ _ => rfl) ?_
  refine bp_j_aload_n 0 dX6_init_257 rfl ?_
  refine bp_j_bipush (v := 10) dX6_init_258 (by decide) ?_
  refine bp_j_newarray (aty := .int) (t := 20) rfl (by decide) q215 (by decide) dX6_init_260 (fun a30 => ?_)
  refine bp_j_putFR (t := 4) (k := 43) (some a30) rfl (by decide) (by decide) q1123 rfl rfl rfl dX6_init_262 (fun _ _ _ => rfl) ?_
  refine bp_j_aload_n 0 dX6_init_265 rfl ?_
  refine bp_j_bipush (v := 10) dX6_init_266 (by decide) ?_
  refine bp_j_newarray (aty := .int) (t := 20) rfl (by decide) q215 (by decide) dX6_init_268 (fun a31 => ?_)
  refine bp_j_putFR (t := 4) (k := 44) (some a31) rfl (by decide) (by decide) q1124 rfl rfl rfl dX6_init_270 (fun _ _ _ => rfl) ?_
  refine bp_j_aload_n 0 dX6_init_273 rfl ?_
  refine bp_j_sipush (v := 320) dX6_init_274 (by decide) ?_
  refine bp_j_newarray (aty := .int) (t := 20) rfl (by decide) q215 (by decide) dX6_init_277 (fun a32 => ?_)
  refine bp_j_putFR (t := 4) (k := 45) (some a32) rfl (by decide) (by decide) q1125 rfl rfl rfl dX6_init_279 (fun _ _ _ => rfl) ?_
  refine bp_j_aload_n 0 dX6_init_282 rfl ?_
  refine bp_j_sipush (v := 10240) dX6_init_283 (by decide) ?_
  refine bp_j_newarray (aty := .boolean) (t := 22) rfl (by decide) q1232 (by decide) dX6_init_286 (fun a33 => ?_)
  refine bp_j_putFR (t := 4) (k := 46) (some a33) rfl (by decide) (by decide) q1126 rfl rfl rfl dX6_init_288 (fun _ _ _ => rfl) ?_
  refine bp_j_aload_n 0 dX6_init_291 rfl ?_
  refine bp_j_iload_n 1 dX6_init_292 rfl ?_
  refine bp_j_jm (fun k => ∀ (x34 : Int32), bp_J G iX6_init (bp_Qn G bp_eU) (k x34) 310 [] [.int x34, .ref a0]) (fun k35 hk35 => ?_) (fun x34 => ?_)
  · refine bp_j_if_ge (tgt := 300) dX6_init_293 (by decide) ?_ ?_
    · refine bp_j_iload_n 1 dX6_init_300 rfl ?_
      refine bp_j_iconst (v := 2) dX6_init_301 (by decide) ?_
      refine bp_j_icmp_le (tgt := 309) dX6_init_302 (by decide) ?_ ?_
      · refine bp_j_iload_n 1 dX6_init_309 rfl ?_
        exact bp_j_sub [] rfl (hk35 xp1)
      refine bp_j_iconst (v := 2) dX6_init_305 (by decide) ?_
      refine bp_j_goto (tgt := 310) dX6_init_306 (by decide) ?_
      exact bp_j_sub [] rfl (hk35 (2 : Int32))
    refine bp_j_iconst (v := 0) dX6_init_296 (by decide) ?_
    refine bp_j_goto (tgt := 310) dX6_init_297 (by decide) ?_
    exact bp_j_sub [] rfl (hk35 (0 : Int32))
  refine bp_j_putFI (t := 4) (k := 1) rfl (by decide) (by decide) q1081 rfl rfl rfl dX6_init_310 rfl ?_
  exact bp_j_vret rfl dX6_init_313
/-- BilevelPagesModel.refPlace(II)I -/
abbrev iX6_refPlace : bp_MI := (yX6_refPlace, cX6_refPlace, 4, some (Jvm.ClassFile.FieldType.int), [], 0, 0)
def BX6_refPlace_2 (a0 : Nat) (xp1 : Int32) (xp2 : Int32) (k2 : Int32 → bp_M Int32) : Int32 → bp_M Int32 :=
  fun x1 =>
  bp_getN 4 5 a0 fun a3 =>
  bp_aldI 20 a3 xp1 fun x4 =>
  bp_if (x4 ≤ x1) (
  bp_ret (-1 : Int32)) (
  bp_getN 4 6 a0 fun a5 =>
  bp_aldI 20 a5 (((10 : Int32) * xp1) + x1) fun x6 =>
  bp_if (x6 = xp2) (
  bp_ret x1) (
  bp_letI (x1 + (1 : Int32)) fun x7 =>
  k2 x7))
def PX6_refPlace (a0 : Nat) (xp1 : Int32) (xp2 : Int32) : bp_M Int32 :=
  bp_loop (fun _ => bp_no) (BX6_refPlace_2 a0 xp1 xp2) (fun k => k (0 : Int32))
set_option maxHeartbeats 4000000 in
set_option maxRecDepth 100000 in
theorem cnX6_refPlace {G : bp_GT} (a0 : Nat) (xp1 : Int32) (xp2 : Int32) : bp_Con G iX6_refPlace (ws_ iX6_refPlace.1 iX6_refPlace.2.1 iX6_refPlace.2.2.1 iX6_refPlace.2.2.2.1) [.ref a0, .int xp1, .int xp2] (PX6_refPlace a0 xp1 xp2) bp_eI := by
  refine bp_con_of [(0, .ref a0), (1, .int xp1), (2, .int xp2)] rfl (by decide) (Nat.le_of_ble_eq_true rfl) rfl ?_
  unfold PX6_refPlace
  refine bp_j_iconst (v := 0) dX6_refPlace_0 (by decide) ?_
  refine bp_j_istore_n (lv' := [(3, .int (0 : Int32)), (0, .ref a0), (1, .int xp1), (2, .int xp2)]) dX6_refPlace_1 (by decide) rfl ?_
  refine bp_j_loop (fun k => ∀ (x1 : Int32), bp_J G iX6_refPlace (bp_Qn G bp_eI) (k x1) 2 [(0, .ref a0), (1, .int xp1), (2, .int xp2), (3, .int x1)] []) (fun _ => bp_j_no) (fun k2 hk2 x1 => ?_) (fun k h => bp_j_sub [1, 2, 3, 0] rfl (h (0 : Int32)))
  unfold BX6_refPlace_2
  refine bp_j_iload_n 3 dX6_refPlace_2 rfl ?_
  refine bp_j_aload_n 0 dX6_refPlace_3 rfl ?_
  refine bp_j_getN (t := 4) (k := 5) rfl (by decide) (bp_lk q1085) dX6_refPlace_4 (fun _ _ _ => rfl) (fun a3 => ?_)
  refine bp_j_iload_n 1 dX6_refPlace_7 rfl ?_
  refine bp_j_iaload dX6_refPlace_8 (fun x4 => ?_)
  refine bp_j_icmp_ge (tgt := 35) dX6_refPlace_9 (by decide) ?_ ?_
  · refine bp_j_iconst (v := -1) dX6_refPlace_35 (by decide) ?_
    exact bp_j_iret rfl dX6_refPlace_36
  refine bp_j_aload_n 0 dX6_refPlace_12 rfl ?_
  refine bp_j_getN (t := 4) (k := 6) rfl (by decide) (bp_lk q1086) dX6_refPlace_13 (fun _ _ _ => rfl) (fun a5 => ?_)
  refine bp_j_bipush (v := 10) dX6_refPlace_16 (by decide) ?_
  refine bp_j_iload_n 1 dX6_refPlace_18 rfl ?_
  refine bp_j_imul dX6_refPlace_19 ?_
  refine bp_j_iload_n 3 dX6_refPlace_20 rfl ?_
  refine bp_j_iadd dX6_refPlace_21 ?_
  refine bp_j_iaload dX6_refPlace_22 (fun x6 => ?_)
  refine bp_j_iload_n 2 dX6_refPlace_23 rfl ?_
  refine bp_j_icmp_ne (tgt := 29) dX6_refPlace_24 (by decide) ?_ ?_
  · refine bp_j_iincL (lv' := fun x7 => [(3, .int x7), (0, .ref a0), (1, .int xp1), (2, .int xp2)]) 3 dX6_refPlace_29 rfl (by decide) (by decide) (fun _ => rfl) (fun x7 => ?_)
    refine bp_j_goto (tgt := 2) dX6_refPlace_32 (by decide) ?_
    exact bp_j_sub [1, 2, 3, 0] rfl (hk2 x7)
  refine bp_j_iload_n 3 dX6_refPlace_27 rfl ?_
  exact bp_j_iret rfl dX6_refPlace_28
/-- BilevelPagesModel.bitOf(II)I -/
abbrev iX6_bitOf : bp_MI := (yX6_bitOf, cX6_bitOf, 4, some (Jvm.ClassFile.FieldType.int), [], 1, 23)
def PX6_bitOf (a0 : Nat) (xp1 : Int32) (xp2 : Int32) : bp_M Int32 :=
  bp_bind (bp_is 4 a0 (PX6_refPlace a0 xp1 xp2)) fun x1 =>
  bp_if (xp1 = xp2) (
  bp_ret (1 : Int32)) (
  bp_if (0 ≤ x1) (
  bp_ret ((2 : Int32) <<< (x1 &&& 31))) (
  bp_ret (0 : Int32)))
set_option maxHeartbeats 4000000 in
set_option maxRecDepth 100000 in
theorem cnX6_bitOf {G : bp_GT} (a0 : Nat) (xp1 : Int32) (xp2 : Int32) : bp_Con G iX6_bitOf (ws_ iX6_bitOf.1 iX6_bitOf.2.1 iX6_bitOf.2.2.1 iX6_bitOf.2.2.2.1) [.ref a0, .int xp1, .int xp2] (PX6_bitOf a0 xp1 xp2) bp_eI := by
  refine bp_con_of [(0, .ref a0), (1, .int xp1), (2, .int xp2)] rfl (by decide) (Nat.le_of_ble_eq_true rfl) rfl ?_
  unfold PX6_bitOf
  refine bp_j_aload_n 0 dX6_bitOf_0 rfl ?_
  refine bp_j_iload_n 1 dX6_bitOf_1 rfl ?_
  refine bp_j_iload_n 2 dX6_bitOf_2 rfl ?_
  refine bp_j_cl_I (bp_ranV (t := 4) (n := 2) (As := [.int xp1, .int xp2]) (cnX6_refPlace (G := G) a0 xp1 xp2) rfl (lw_V q1273 q1275 qs38 q82 q1276) ⟨rfl, by decide +kernel, by decide +kernel, by decide +kernel⟩ ⟨by decide, by decide⟩ (rest := []) rfl rfl (Nat.le_of_ble_eq_true rfl) dX6_bitOf_3) (by decide) (fun x1 => ?_)
  refine bp_j_istore_n (lv' := [(3, .int x1), (0, .ref a0), (1, .int xp1), (2, .int xp2)]) dX6_bitOf_6 (by decide) rfl ?_
  refine bp_j_iload_n 2 dX6_bitOf_7 rfl ?_
  refine bp_j_iload_n 3 dX6_bitOf_8 rfl ?_
  refine bp_j_icmp_ne (tgt := 16) dX6_bitOf_9 (by decide) ?_ ?_
  · refine bp_j_iload_n 0 dX6_bitOf_16 rfl ?_
    refine bp_j_if_ge (tgt := 24) dX6_bitOf_17 (by decide) ?_ ?_
    · refine bp_j_iconst (v := 2) dX6_bitOf_24 (by decide) ?_
      refine bp_j_iload_n 0 dX6_bitOf_25 rfl ?_
      refine bp_j_ishl dX6_bitOf_26 ?_
      exact bp_j_iret rfl dX6_bitOf_27
    refine bp_j_iconst (v := 0) dX6_bitOf_20 (by decide) ?_
    refine bp_j_goto (tgt := 27) dX6_bitOf_21 (by decide) ?_
    exact bp_j_iret rfl dX6_bitOf_27
  refine bp_j_iconst (v := 1) dX6_bitOf_12 (by decide) ?_
  refine bp_j_goto (tgt := 27) dX6_bitOf_13 (by decide) ?_
  exact bp_j_iret rfl dX6_bitOf_27
/-- BilevelPagesModel.letGo(II)Z -/
abbrev iX6_letGo : bp_MI := (yX6_letGo, cX6_letGo, 5, some (Jvm.ClassFile.FieldType.boolean), [], 2, 46)
def PX6_letGo (a0 : Nat) (xp1 : Int32) (xp2 : Int32) : bp_M Int32 :=
  bp_bind (bp_is 4 a0 (PX6_isSegment a0 xp1)) fun x1 =>
  bp_jn (fun (k3 : Int32 → bp_M Int32) =>
  bp_if (x1 = 0) (
  k3 (1 : Int32)) (
  k3 (0 : Int32))) (fun (x2 : Int32) =>
  bp_putI 4 0 a0 x2 <|
  bp_getI 4 0 a0 fun x4 =>
  bp_if (x4 ≤ 0) (
  bp_bind (bp_is 4 a0 (PX6_bitOf a0 xp1 xp2)) fun x5 =>
  bp_jn (fun (k7 : Int32 → bp_M Int32) =>
  bp_if (x5 = 0) (
  k7 (0 : Int32)) (
  bp_getN 4 7 a0 fun a11 =>
  bp_aldI 20 a11 xp1 fun x12 =>
  bp_if ((x12 &&& x5) = 0) (
  k7 (1 : Int32)) (
  k7 (0 : Int32)))) (fun (x6 : Int32) =>
  bp_getN 4 7 a0 fun a8 =>
  bp_getN 4 7 a0 fun a9 =>
  bp_aldI 20 a9 xp1 fun x10 =>
  bp_astI a8 xp1 (x10 ||| x5) <|
  bp_retZ x6)) (
  bp_retZ (0 : Int32)))
set_option maxHeartbeats 4000000 in
set_option maxRecDepth 100000 in
theorem cnX6_letGo {G : bp_GT} (a0 : Nat) (xp1 : Int32) (xp2 : Int32) : bp_Con G iX6_letGo (ws_ iX6_letGo.1 iX6_letGo.2.1 iX6_letGo.2.2.1 iX6_letGo.2.2.2.1) [.ref a0, .int xp1, .int xp2] (PX6_letGo a0 xp1 xp2) bp_eI := by
  refine bp_con_of [(0, .ref a0), (1, .int xp1), (2, .int xp2)] rfl (by decide) (Nat.le_of_ble_eq_true rfl) rfl ?_
  unfold PX6_letGo
  refine bp_j_aload_n 0 dX6_letGo_0 rfl ?_
  refine bp_j_aload_n 0 dX6_letGo_1 rfl ?_
  refine bp_j_iload_n 1 dX6_letGo_2 rfl ?_
  refine bp_j_cl_I (bp_ranV (t := 4) (n := 1) (As := [.int xp1]) (cnX6_isSegment (G := G) a0 xp1) rfl (lw_V q1261 q1263 qs35 q82 q1264) ⟨rfl, by decide +kernel, by decide +kernel, by decide +kernel⟩ ⟨by decide, by decide⟩ (rest := [.ref a0]) rfl rfl (Nat.le_of_ble_eq_true rfl) dX6_letGo_3) (by decide) (fun x1 => ?_)
  refine bp_j_jm (fun k => ∀ (x2 : Int32), bp_J G iX6_letGo (bp_Qn G bp_eI) (k x2) 14 [(0, .ref a0), (1, .int xp1), (2, .int xp2)] [.int x2, .ref a0]) (fun k3 hk3 => ?_) (fun x2 => ?_)
  · refine bp_j_if_eq (tgt := 13) dX6_letGo_6 (by decide) ?_ ?_
    · refine bp_j_iconst (v := 1) dX6_letGo_13 (by decide) ?_
      exact hk3 (1 : Int32)
    refine bp_j_iconst (v := 0) dX6_letGo_9 (by decide) ?_
    refine bp_j_goto (tgt := 14) dX6_letGo_10 (by decide) ?_
    exact hk3 (0 : Int32)
  refine bp_j_putI (t := 4) (k := 0) rfl (by decide) (by decide) (bp_lk q1080) rfl dX6_letGo_14 rfl ?_
  refine bp_j_aload_n 0 dX6_letGo_17 rfl ?_
  refine bp_j_getI (t := 4) (k := 0) rfl (by decide) (bp_lk q1080) dX6_letGo_18 (fun _ _ _ => rfl) (fun x4 => ?_)
  refine bp_j_if_le (tgt := 26) dX6_letGo_21 (by decide) ?_ ?_
  · refine bp_j_aload_n 0 dX6_letGo_26 rfl ?_
    refine bp_j_iload_n 1 dX6_letGo_27 rfl ?_
    refine bp_j_iload_n 2 dX6_letGo_28 rfl ?_
    refine bp_j_cl_I (bp_ranV (t := 4) (n := 2) (As := [.int xp1, .int xp2]) (cnX6_bitOf (G := G) a0 xp1 xp2) rfl (lw_V q1269 q1271 qs37 q82 q1272) ⟨rfl, by decide +kernel, by decide +kernel, by decide +kernel⟩ ⟨by decide, by decide⟩ (rest := []) rfl rfl (Nat.le_of_ble_eq_true rfl) dX6_letGo_29) (by decide) (fun x5 => ?_)
    refine bp_j_istore_n (lv' := [(3, .int x5), (0, .ref a0), (1, .int xp1), (2, .int xp2)]) dX6_letGo_32 (by decide) rfl ?_
    refine bp_j_iload_n 0 dX6_letGo_33 rfl ?_
    refine bp_j_jm (fun k => ∀ (x6 : Int32), bp_J G iX6_letGo (bp_Qn G bp_eI) (k x6) 53 [(0, .ref a0), (1, .int xp1), (3, .int x5)] [.int x6]) (fun k7 hk7 => ?_) (fun x6 => ?_)
    · refine bp_j_if_eq (tgt := 52) dX6_letGo_34 (by decide) ?_ ?_
      · refine bp_j_iconst (v := 0) dX6_letGo_52 (by decide) ?_
        exact bp_j_sub [1, 2, 0] rfl (hk7 (0 : Int32))
      refine bp_j_aload_n 1 dX6_letGo_37 rfl ?_
      refine bp_j_getN (t := 4) (k := 7) rfl (by decide) (bp_lk q1087) dX6_letGo_38 (fun _ _ _ => rfl) (fun a11 => ?_)
      refine bp_j_iload_n 2 dX6_letGo_41 rfl ?_
      refine bp_j_iaload dX6_letGo_42 (fun x12 => ?_)
      refine bp_j_iload_n 0 dX6_letGo_43 rfl ?_
      refine bp_j_iand dX6_letGo_44 ?_
      refine bp_j_if_ne (tgt := 52) dX6_letGo_45 (by decide) ?_ ?_
      · refine bp_j_iconst (v := 0) dX6_letGo_52 (by decide) ?_
        exact bp_j_sub [1, 2, 0] rfl (hk7 (0 : Int32))
      refine bp_j_iconst (v := 1) dX6_letGo_48 (by decide) ?_
      refine bp_j_goto (tgt := 53) dX6_letGo_49 (by decide) ?_
      exact bp_j_sub [1, 2, 0] rfl (hk7 (1 : Int32))
    refine bp_j_istore (lv' := [(4, .int x6), (0, .ref a0), (1, .int xp1), (3, .int x5)]) dX6_letGo_53 (by decide) rfl ?_
    refine bp_j_aload_n 1 dX6_letGo_55 rfl ?_
    refine bp_j_getN (t := 4) (k := 7) rfl (by decide) (bp_lk q1087) dX6_letGo_56 (fun _ _ _ => rfl) (fun a8 => ?_)
    refine bp_j_iload_n 2 dX6_letGo_59 rfl ?_
    refine bp_j_aload_n 1 dX6_letGo_60 rfl ?_
    refine bp_j_getN (t := 4) (k := 7) rfl (by decide) (bp_lk q1087) dX6_letGo_61 (fun _ _ _ => rfl) (fun a9 => ?_)
    refine bp_j_iload_n 2 dX6_letGo_64 rfl ?_
    refine bp_j_iaload dX6_letGo_65 (fun x10 => ?_)
    refine bp_j_iload_n 3 dX6_letGo_66 rfl ?_
    refine bp_j_ior dX6_letGo_67 ?_
    refine bp_j_iastore dX6_letGo_68 ?_
    refine bp_j_iload 0 dX6_letGo_69 rfl ?_
    exact bp_j_zret rfl dX6_letGo_71
  refine bp_j_iconst (v := 0) dX6_letGo_24 (by decide) ?_
  exact bp_j_zret rfl dX6_letGo_25
/-- BilevelPagesModel.isRegion(I)Z -/
abbrev iX6_isRegion : bp_MI := (yX6_isRegion, cX6_isRegion, 1, some (Jvm.ClassFile.FieldType.boolean), [], 0, 0)
def PX6_isRegion (xp0 : Int32) : bp_M Int32 :=
  bp_if (xp0 = (4 : Int32)) (
  bp_retZ (1 : Int32)) (
  bp_if (xp0 = (6 : Int32)) (
  bp_retZ (1 : Int32)) (
  bp_if (xp0 = (38 : Int32)) (
  bp_retZ (1 : Int32)) (
  bp_retZ (0 : Int32))))
set_option maxHeartbeats 4000000 in
set_option maxRecDepth 100000 in
theorem cnX6_isRegion {G : bp_GT} (xp0 : Int32) : bp_Con G iX6_isRegion (ws_ iX6_isRegion.1 iX6_isRegion.2.1 iX6_isRegion.2.2.1 iX6_isRegion.2.2.2.1) [.int xp0] (PX6_isRegion xp0) bp_eI := by
  refine bp_con_of [(0, .int xp0)] rfl (by decide) (Nat.le_of_ble_eq_true rfl) rfl ?_
  unfold PX6_isRegion
  refine bp_j_iload_n 0 dX6_isRegion_0 rfl ?_
  refine bp_j_iconst (v := 4) dX6_isRegion_1 (by decide) ?_
  refine bp_j_icmp_eq (tgt := 17) dX6_isRegion_2 (by decide) ?_ ?_
  · refine bp_j_iconst (v := 1) dX6_isRegion_17 (by decide) ?_
    refine bp_j_goto (tgt := 22) dX6_isRegion_18 (by decide) ?_
    exact bp_j_zret rfl dX6_isRegion_22
  refine bp_j_iload_n 0 dX6_isRegion_5 rfl ?_
  refine bp_j_bipush (v := 6) dX6_isRegion_6 (by decide) ?_
  refine bp_j_icmp_eq (tgt := 17) dX6_isRegion_8 (by decide) ?_ ?_
  · refine bp_j_iconst (v := 1) dX6_isRegion_17 (by decide) ?_
    refine bp_j_goto (tgt := 22) dX6_isRegion_18 (by decide) ?_
    exact bp_j_zret rfl dX6_isRegion_22
  refine bp_j_iload_n 0 dX6_isRegion_11 rfl ?_
  refine bp_j_bipush (v := 38) dX6_isRegion_12 (by decide) ?_
  refine bp_j_icmp_ne (tgt := 21) dX6_isRegion_14 (by decide) ?_ ?_
  · refine bp_j_iconst (v := 0) dX6_isRegion_21 (by decide) ?_
    exact bp_j_zret rfl dX6_isRegion_22
  refine bp_j_iconst (v := 1) dX6_isRegion_17 (by decide) ?_
  refine bp_j_goto (tgt := 22) dX6_isRegion_18 (by decide) ?_
  exact bp_j_zret rfl dX6_isRegion_22
