/-! programs and walks -/
set_option maxRecDepth 100000
/-- BilevelPagesLaw.cell([II)I -/
abbrev iX0_cell : bp_MI := (yX0_cell, cX0_cell, 2, some (Jvm.ClassFile.FieldType.int), [], 0, 0)
def PX0_cell (bp0 : Nat) (xp1 : Int32) : bp_M Int32 :=
  bp_alen 20 bp0 fun x1 =>
  bp_if (x1 ≤ xp1) (
  bp_ret (0 : Int32)) (
  bp_aldI 20 bp0 xp1 fun x2 =>
  bp_ret x2)
set_option maxHeartbeats 4000000 in
set_option maxRecDepth 100000 in
theorem cnX0_cell {G : bp_GT} (bp0 : Nat) (xp1 : Int32) : bp_Con G iX0_cell (ws_ iX0_cell.1 iX0_cell.2.1 iX0_cell.2.2.1 iX0_cell.2.2.2.1) [.ref bp0, .int xp1] (PX0_cell bp0 xp1) bp_eI := by
  refine bp_con_of [(0, .ref bp0), (1, .int xp1)] rfl (by decide) (Nat.le_of_ble_eq_true rfl) rfl ?_
  unfold PX0_cell
  refine bp_j_iload_n 1 dX0_cell_0 rfl ?_
  refine bp_j_aload_n 0 dX0_cell_1 rfl ?_
  refine bp_j_alen (t := 20) rfl dX0_cell_2 (fun x1 => ?_)
  refine bp_j_icmp_ge (tgt := 12) dX0_cell_3 (by decide) ?_ ?_
  · refine bp_j_iconst (v := 0) dX0_cell_12 (by decide) ?_
    exact bp_j_iret rfl dX0_cell_13
  refine bp_j_aload_n 0 dX0_cell_6 rfl ?_
  refine bp_j_iload_n 1 dX0_cell_7 rfl ?_
  refine bp_j_iaload dX0_cell_8 (fun x2 => ?_)
  refine bp_j_goto (tgt := 13) dX0_cell_9 (by decide) ?_
  exact bp_j_iret rfl dX0_cell_13
/-- BilevelPagesLaw.feed(LBilevelPages;IZ[J)I -/
abbrev iX0_feed : bp_MI := (yX0_feed, cX0_feed, 5, some (Jvm.ClassFile.FieldType.int), [(0, 10, 13, 13), (0, 10, 17, 15)], 8, 142)
def PX0_feed (bp0 : Nat) (xp1 : Int32) (xp2 : Int32) (bp3 : Nat) : bp_M Int32 :=
  bp_try (bp_is 0 bp0 (PX1_feed bp0 xp1 xp2)) (fun x1 =>
  bp_astL bp3 (0 : Int32) x1.toInt64 <|
  bp_ret (0 : Int32)) (bp_hs [(1, fun a2 =>
  bp_ret (1 : Int32)), (2, fun a3 =>
  bp_ret (2 : Int32))])
set_option maxHeartbeats 4000000 in
set_option maxRecDepth 100000 in
theorem cnX0_feed {G : bp_GT} (bp0 : Nat) (xp1 : Int32) (xp2 : Int32) (bp3 : Nat) : bp_Con G iX0_feed (wsW_ iX0_feed.1 iX0_feed.2.1 iX0_feed.2.2.1 iX0_feed.2.2.2.1 iX0_feed.2.2.2.2.1) [.ref bp0, .int xp1, .int xp2, .ref bp3] (PX0_feed bp0 xp1 xp2 bp3) bp_eI := by
  refine bp_con_ofH [(0, .ref bp0), (1, .int xp1), (2, .int xp2), (3, .ref bp3)] (by decide) (Nat.le_of_ble_eq_true rfl) rfl ?_
  unfold PX0_feed
  refine bp_j_aload_n 3 dX0_feed_0 rfl ?_
  refine bp_j_iconst (v := 0) dX0_feed_1 (by decide) ?_
  refine bp_j_aload_n 0 dX0_feed_2 rfl ?_
  refine bp_j_iload_n 1 dX0_feed_3 rfl ?_
  refine bp_j_iload_n 2 dX0_feed_4 rfl ?_
  refine bp_j_ct_I [13, 17] (bp_ranV (t := 0) (n := 2) (As := [.int xp1, .int xp2]) (cnX1_feed (G := G) bp0 xp1 xp2) rfl (lw_V q1015 q1016 q1017 q72 q1018) ⟨rfl, by decide +kernel, by decide +kernel, by decide +kernel⟩ ⟨by decide, by decide⟩ (rest := [.int (0 : Int32), .ref bp3]) rfl rfl (Nat.le_of_ble_eq_true rfl) dX0_feed_5) (bp_HSc (bp_cat_of (k := 1) (pc := 5) (name := "java/lang/IllegalArgumentException") [] (0, 10, 13, 13) [(0, 10, 17, 15)] rfl (fun z hz => nomatch hz) (by decide) (by decide) (by decide) q738 q752) (fun a2 => ?_) (bp_HSc (bp_cat_of (k := 2) (pc := 5) (name := "java/lang/UnsupportedOperationException") [(0, 10, 13, 13)] (0, 10, 17, 15) [] rfl (List.forall_mem_cons.mpr ⟨⟨by decide, "java/lang/IllegalArgumentException", q738, by decide⟩, fun _ h => nomatch h⟩) (by decide) (by decide) (by decide) q739 q778) (fun a3 => ?_) bp_HSn)) (fun x1 => ?_)
  · refine bp_j_astore (lv' := [(4, .ref a2), (0, .ref bp0), (1, .int xp1), (2, .int xp2), (3, .ref bp3)]) dX0_feed_13 (by decide) rfl ?_
    refine bp_j_iconst (v := 1) dX0_feed_15 (by decide) ?_
    exact bp_j_iret rfl dX0_feed_16
  · refine bp_j_astore (lv' := [(4, .ref a3), (0, .ref bp0), (1, .int xp1), (2, .int xp2), (3, .ref bp3)]) dX0_feed_17 (by decide) rfl ?_
    refine bp_j_iconst (v := 2) dX0_feed_19 (by decide) ?_
    exact bp_j_iret rfl dX0_feed_20
  refine bp_j_i2l dX0_feed_8 ?_
  refine bp_j_lastore dX0_feed_9 ?_
  refine bp_j_goto (tgt := 21) dX0_feed_10 (by decide) ?_
  refine bp_j_iconst (v := 0) dX0_feed_21 (by decide) ?_
  exact bp_j_iret rfl dX0_feed_22
/-- BilevelPagesLaw.found(LBilevelPages;II[J)I -/
abbrev iX0_found : bp_MI := (yX0_found, cX0_found, 5, some (Jvm.ClassFile.FieldType.int), [(0, 10, 13, 29), (0, 10, 17, 21)], 8, 143)
def PX0_found (bp0 : Nat) (xp1 : Int32) (xp2 : Int32) (bp3 : Nat) : bp_M Int32 :=
  bp_try (bp_is 0 bp0 (PX1_found bp0 xp1 xp2)) (fun x1 =>
  bp_astL bp3 (0 : Int32) x1.toInt64 <|
  bp_ret (0 : Int32)) (bp_hs [(3, fun a2 =>
  bp_ret (1 : Int32)), (4, fun a3 =>
  bp_ret (2 : Int32))])
set_option maxHeartbeats 4000000 in
set_option maxRecDepth 100000 in
theorem cnX0_found {G : bp_GT} (bp0 : Nat) (xp1 : Int32) (xp2 : Int32) (bp3 : Nat) : bp_Con G iX0_found (wsW_ iX0_found.1 iX0_found.2.1 iX0_found.2.2.1 iX0_found.2.2.2.1 iX0_found.2.2.2.2.1) [.ref bp0, .int xp1, .int xp2, .ref bp3] (PX0_found bp0 xp1 xp2 bp3) bp_eI := by
  refine bp_con_ofH [(0, .ref bp0), (1, .int xp1), (2, .int xp2), (3, .ref bp3)] (by decide) (Nat.le_of_ble_eq_true rfl) rfl ?_
  unfold PX0_found
  refine bp_j_aload_n 3 dX0_found_0 rfl ?_
  refine bp_j_iconst (v := 0) dX0_found_1 (by decide) ?_
  refine bp_j_aload_n 0 dX0_found_2 rfl ?_
  refine bp_j_iload_n 1 dX0_found_3 rfl ?_
  refine bp_j_iload_n 2 dX0_found_4 rfl ?_
  refine bp_j_ct_I [13, 17] (bp_ranV (t := 0) (n := 2) (As := [.int xp1, .int xp2]) (cnX1_found (G := G) bp0 xp1 xp2) rfl (lw_V q1040 q1041 q1042 q72 q1043) ⟨rfl, by decide +kernel, by decide +kernel, by decide +kernel⟩ ⟨by decide, by decide⟩ (rest := [.int (0 : Int32), .ref bp3]) rfl rfl (Nat.le_of_ble_eq_true rfl) dX0_found_5) (bp_HSc (bp_cat_of (k := 3) (pc := 5) (name := "java/lang/IllegalStateException") [] (0, 10, 13, 29) [(0, 10, 17, 21)] rfl (fun z hz => nomatch hz) (by decide) (by decide) (by decide) q871 q882) (fun a2 => ?_) (bp_HSc (bp_cat_of (k := 4) (pc := 5) (name := "java/lang/IndexOutOfBoundsException") [(0, 10, 13, 29)] (0, 10, 17, 21) [] rfl (List.forall_mem_cons.mpr ⟨⟨by decide, "java/lang/IllegalStateException", q871, by decide⟩, fun _ h => nomatch h⟩) (by decide) (by decide) (by decide) q796 q841) (fun a3 => ?_) bp_HSn)) (fun x1 => ?_)
  · refine bp_j_astore (lv' := [(4, .ref a2), (0, .ref bp0), (1, .int xp1), (2, .int xp2), (3, .ref bp3)]) dX0_found_13 (by decide) rfl ?_
    refine bp_j_iconst (v := 1) dX0_found_15 (by decide) ?_
    exact bp_j_iret rfl dX0_found_16
  · refine bp_j_astore (lv' := [(4, .ref a3), (0, .ref bp0), (1, .int xp1), (2, .int xp2), (3, .ref bp3)]) dX0_found_17 (by decide) rfl ?_
    refine bp_j_iconst (v := 2) dX0_found_19 (by decide) ?_
    exact bp_j_iret rfl dX0_found_20
  refine bp_j_i2l dX0_found_8 ?_
  refine bp_j_lastore dX0_found_9 ?_
  refine bp_j_goto (tgt := 21) dX0_found_10 (by decide) ?_
  refine bp_j_iconst (v := 0) dX0_found_21 (by decide) ?_
  exact bp_j_iret rfl dX0_found_22
/-- BilevelPagesLaw.letGo(LBilevelPages;II[J)I -/
abbrev iX0_letGo : bp_MI := (yX0_letGo, cX0_letGo, 5, some (Jvm.ClassFile.FieldType.int), [(0, 17, 20, 21)], 9, 165)
def PX0_letGo (bp0 : Nat) (xp1 : Int32) (xp2 : Int32) (bp3 : Nat) : bp_M Int32 :=
  bp_try (bp_is 0 bp0 (PX1_letGo bp0 xp1 xp2)) (fun x1 =>
  bp_jn (fun (k4 : Int64 → bp_M Int32) =>
  bp_if (x1 = 0) (
  k4 (0 : Int64)) (
  k4 (1 : Int64))) (fun (l3 : Int64) =>
  bp_astL bp3 (0 : Int32) l3 <|
  bp_ret (0 : Int32))) (bp_hs [(4, fun a2 =>
  bp_ret (1 : Int32))])
set_option maxHeartbeats 4000000 in
set_option maxRecDepth 100000 in
theorem cnX0_letGo {G : bp_GT} (bp0 : Nat) (xp1 : Int32) (xp2 : Int32) (bp3 : Nat) : bp_Con G iX0_letGo (wsW_ iX0_letGo.1 iX0_letGo.2.1 iX0_letGo.2.2.1 iX0_letGo.2.2.2.1 iX0_letGo.2.2.2.2.1) [.ref bp0, .int xp1, .int xp2, .ref bp3] (PX0_letGo bp0 xp1 xp2 bp3) bp_eI := by
  refine bp_con_ofH [(0, .ref bp0), (1, .int xp1), (2, .int xp2), (3, .ref bp3)] (by decide) (Nat.le_of_ble_eq_true rfl) rfl ?_
  unfold PX0_letGo
  refine bp_j_aload_n 3 dX0_letGo_0 rfl ?_
  refine bp_j_iconst (v := 0) dX0_letGo_1 (by decide) ?_
  refine bp_j_aload_n 0 dX0_letGo_2 rfl ?_
  refine bp_j_iload_n 1 dX0_letGo_3 rfl ?_
  refine bp_j_iload_n 2 dX0_letGo_4 rfl ?_
  refine bp_j_ct_I [20] (bp_ranV (t := 0) (n := 2) (As := [.int xp1, .int xp2]) (cnX1_letGo (G := G) bp0 xp1 xp2) rfl (lw_V q864 q865 q866 q72 q867) ⟨rfl, by decide +kernel, by decide +kernel, by decide +kernel⟩ ⟨by decide, by decide⟩ (rest := [.int (0 : Int32), .ref bp3]) rfl rfl (Nat.le_of_ble_eq_true rfl) dX0_letGo_5) (bp_HSc (bp_cat_of (k := 4) (pc := 5) (name := "java/lang/IndexOutOfBoundsException") [] (0, 17, 20, 21) [] rfl (fun z hz => nomatch hz) (by decide) (by decide) (by decide) q796 q841) (fun a2 => ?_) bp_HSn) (fun x1 => ?_)
  · refine bp_j_astore (lv' := [(4, .ref a2), (0, .ref bp0), (1, .int xp1), (2, .int xp2), (3, .ref bp3)]) dX0_letGo_20 (by decide) rfl ?_
    refine bp_j_iconst (v := 1) dX0_letGo_22 (by decide) ?_
    exact bp_j_iret rfl dX0_letGo_23
  refine bp_j_jm (fun k => ∀ (l3 : Int64), bp_J G iX0_letGo (bp_Qn G bp_eI) (k l3) 16 [] [.long l3, .int (0 : Int32), .ref bp3]) (fun k4 hk4 => ?_) (fun l3 => ?_)
  · refine bp_j_if_eq (tgt := 15) dX0_letGo_8 (by decide) ?_ ?_
    · refine bp_j_lconst (v := 0) dX0_letGo_15 (by decide) ?_
      exact bp_j_sub [] rfl (hk4 (0 : Int64))
    refine bp_j_lconst (v := 1) dX0_letGo_11 (by decide) ?_
    refine bp_j_goto (tgt := 16) dX0_letGo_12 (by decide) ?_
    exact bp_j_sub [] rfl (hk4 (1 : Int64))
  refine bp_j_lastore dX0_letGo_16 ?_
  refine bp_j_goto (tgt := 24) dX0_letGo_17 (by decide) ?_
  refine bp_j_iconst (v := 0) dX0_letGo_24 (by decide) ?_
  exact bp_j_iret rfl dX0_letGo_25
/-- BilevelPagesLaw.number(LBilevelPages;III[J)I -/
abbrev iX0_number : bp_MI := (yX0_number, cX0_number, 6, some (Jvm.ClassFile.FieldType.int), [(0, 12, 15, 21), (0, 12, 19, 13)], 9, 166)
def PX0_number (bp0 : Nat) (xp1 : Int32) (xp2 : Int32) (xp3 : Int32) (bp4 : Nat) : bp_M Int32 :=
  bp_try (bp_is 0 bp0 (PX1_number bp0 xp1 xp2 xp3)) (fun x1 =>
  bp_astL bp4 (0 : Int32) x1.toInt64 <|
  bp_ret (0 : Int32)) (bp_hs [(4, fun a2 =>
  bp_ret (1 : Int32)), (1, fun a3 =>
  bp_ret (2 : Int32))])
set_option maxHeartbeats 4000000 in
set_option maxRecDepth 100000 in
theorem cnX0_number {G : bp_GT} (bp0 : Nat) (xp1 : Int32) (xp2 : Int32) (xp3 : Int32) (bp4 : Nat) : bp_Con G iX0_number (wsW_ iX0_number.1 iX0_number.2.1 iX0_number.2.2.1 iX0_number.2.2.2.1 iX0_number.2.2.2.2.1) [.ref bp0, .int xp1, .int xp2, .int xp3, .ref bp4] (PX0_number bp0 xp1 xp2 xp3 bp4) bp_eI := by
  refine bp_con_ofH [(0, .ref bp0), (1, .int xp1), (2, .int xp2), (3, .int xp3), (4, .ref bp4)] (by decide) (Nat.le_of_ble_eq_true rfl) rfl ?_
  unfold PX0_number
  refine bp_j_aload 4 dX0_number_0 rfl ?_
  refine bp_j_iconst (v := 0) dX0_number_2 (by decide) ?_
  refine bp_j_aload_n 0 dX0_number_3 rfl ?_
  refine bp_j_iload_n 1 dX0_number_4 rfl ?_
  refine bp_j_iload_n 2 dX0_number_5 rfl ?_
  refine bp_j_iload_n 3 dX0_number_6 rfl ?_
  refine bp_j_ct_I [15, 19] (bp_ranV (t := 0) (n := 3) (As := [.int xp1, .int xp2, .int xp3]) (cnX1_number (G := G) bp0 xp1 xp2 xp3) rfl (lw_V q899 q900 q901 q72 q902) ⟨rfl, by decide +kernel, by decide +kernel, by decide +kernel⟩ ⟨by decide, by decide⟩ (rest := [.int (0 : Int32), .ref bp4]) rfl rfl (Nat.le_of_ble_eq_true rfl) dX0_number_7) (bp_HSc (bp_cat_of (k := 4) (pc := 7) (name := "java/lang/IndexOutOfBoundsException") [] (0, 12, 15, 21) [(0, 12, 19, 13)] rfl (fun z hz => nomatch hz) (by decide) (by decide) (by decide) q796 q841) (fun a2 => ?_) (bp_HSc (bp_cat_of (k := 1) (pc := 7) (name := "java/lang/IllegalArgumentException") [(0, 12, 15, 21)] (0, 12, 19, 13) [] rfl (List.forall_mem_cons.mpr ⟨⟨by decide, "java/lang/IndexOutOfBoundsException", q796, by decide⟩, fun _ h => nomatch h⟩) (by decide) (by decide) (by decide) q738 q752) (fun a3 => ?_) bp_HSn)) (fun x1 => ?_)
  · refine bp_j_astore (lv' := [(5, .ref a2), (0, .ref bp0), (1, .int xp1), (2, .int xp2), (3, .int xp3), (4, .ref bp4)]) dX0_number_15 (by decide) rfl ?_
    refine bp_j_iconst (v := 1) dX0_number_17 (by decide) ?_
    exact bp_j_iret rfl dX0_number_18
  · refine bp_j_astore (lv' := [(5, .ref a3), (0, .ref bp0), (1, .int xp1), (2, .int xp2), (3, .int xp3), (4, .ref bp4)]) dX0_number_19 (by decide) rfl ?_
    refine bp_j_iconst (v := 2) dX0_number_21 (by decide) ?_
    exact bp_j_iret rfl dX0_number_22
  refine bp_j_i2l dX0_number_10 ?_
  refine bp_j_lastore dX0_number_11 ?_
  refine bp_j_goto (tgt := 23) dX0_number_12 (by decide) ?_
  refine bp_j_iconst (v := 0) dX0_number_23 (by decide) ?_
  exact bp_j_iret rfl dX0_number_24
/-- BilevelPagesLaw.page(LBilevelPages;II[J)I -/
abbrev iX0_page : bp_MI := (yX0_page, cX0_page, 5, some (Jvm.ClassFile.FieldType.int), [(0, 10, 13, 29), (0, 10, 17, 21)], 9, 164)
def PX0_page (bp0 : Nat) (xp1 : Int32) (xp2 : Int32) (bp3 : Nat) : bp_M Int32 :=
  bp_try (bp_is 0 bp0 (PX1_page bp0 xp1 xp2)) (fun x1 =>
  bp_astL bp3 (0 : Int32) x1.toInt64 <|
  bp_ret (0 : Int32)) (bp_hs [(3, fun a2 =>
  bp_ret (1 : Int32)), (4, fun a3 =>
  bp_ret (2 : Int32))])
set_option maxHeartbeats 4000000 in
set_option maxRecDepth 100000 in
theorem cnX0_page {G : bp_GT} (bp0 : Nat) (xp1 : Int32) (xp2 : Int32) (bp3 : Nat) : bp_Con G iX0_page (wsW_ iX0_page.1 iX0_page.2.1 iX0_page.2.2.1 iX0_page.2.2.2.1 iX0_page.2.2.2.2.1) [.ref bp0, .int xp1, .int xp2, .ref bp3] (PX0_page bp0 xp1 xp2 bp3) bp_eI := by
  refine bp_con_ofH [(0, .ref bp0), (1, .int xp1), (2, .int xp2), (3, .ref bp3)] (by decide) (Nat.le_of_ble_eq_true rfl) rfl ?_
  unfold PX0_page
  refine bp_j_aload_n 3 dX0_page_0 rfl ?_
  refine bp_j_iconst (v := 0) dX0_page_1 (by decide) ?_
  refine bp_j_aload_n 0 dX0_page_2 rfl ?_
  refine bp_j_iload_n 1 dX0_page_3 rfl ?_
  refine bp_j_iload_n 2 dX0_page_4 rfl ?_
  refine bp_j_ct_I [13, 17] (bp_ranV (t := 0) (n := 2) (As := [.int xp1, .int xp2]) (cnX1_page (G := G) bp0 xp1 xp2) rfl (lw_V q1047 q1048 q1049 q72 q1050) ⟨rfl, by decide +kernel, by decide +kernel, by decide +kernel⟩ ⟨by decide, by decide⟩ (rest := [.int (0 : Int32), .ref bp3]) rfl rfl (Nat.le_of_ble_eq_true rfl) dX0_page_5) (bp_HSc (bp_cat_of (k := 3) (pc := 5) (name := "java/lang/IllegalStateException") [] (0, 10, 13, 29) [(0, 10, 17, 21)] rfl (fun z hz => nomatch hz) (by decide) (by decide) (by decide) q871 q882) (fun a2 => ?_) (bp_HSc (bp_cat_of (k := 4) (pc := 5) (name := "java/lang/IndexOutOfBoundsException") [(0, 10, 13, 29)] (0, 10, 17, 21) [] rfl (List.forall_mem_cons.mpr ⟨⟨by decide, "java/lang/IllegalStateException", q871, by decide⟩, fun _ h => nomatch h⟩) (by decide) (by decide) (by decide) q796 q841) (fun a3 => ?_) bp_HSn)) (fun x1 => ?_)
  · refine bp_j_astore (lv' := [(4, .ref a2), (0, .ref bp0), (1, .int xp1), (2, .int xp2), (3, .ref bp3)]) dX0_page_13 (by decide) rfl ?_
    refine bp_j_iconst (v := 1) dX0_page_15 (by decide) ?_
    exact bp_j_iret rfl dX0_page_16
  · refine bp_j_astore (lv' := [(4, .ref a3), (0, .ref bp0), (1, .int xp1), (2, .int xp2), (3, .ref bp3)]) dX0_page_17 (by decide) rfl ?_
    refine bp_j_iconst (v := 2) dX0_page_19 (by decide) ?_
    exact bp_j_iret rfl dX0_page_20
  refine bp_j_i2l dX0_page_8 ?_
  refine bp_j_lastore dX0_page_9 ?_
  refine bp_j_goto (tgt := 21) dX0_page_10 (by decide) ?_
  refine bp_j_iconst (v := 0) dX0_page_21 (by decide) ?_
  exact bp_j_iret rfl dX0_page_22
/-- BilevelPagesLaw.pass(LBilevelPages;Z[J)I -/
abbrev iX0_pass : bp_MI := (yX0_pass, cX0_pass, 4, some (Jvm.ClassFile.FieldType.int), [(0, 9, 12, 13), (0, 9, 15, 15)], 8, 142)
def PX0_pass (bp0 : Nat) (xp1 : Int32) (bp2 : Nat) : bp_M Int32 :=
  bp_try (bp_is 0 bp0 (PX1_pass bp0 xp1)) (fun x1 =>
  bp_astL bp2 (0 : Int32) x1.toInt64 <|
  bp_ret (0 : Int32)) (bp_hs [(1, fun a2 =>
  bp_ret (1 : Int32)), (2, fun a3 =>
  bp_ret (2 : Int32))])
set_option maxHeartbeats 4000000 in
set_option maxRecDepth 100000 in
theorem cnX0_pass {G : bp_GT} (bp0 : Nat) (xp1 : Int32) (bp2 : Nat) : bp_Con G iX0_pass (wsW_ iX0_pass.1 iX0_pass.2.1 iX0_pass.2.2.1 iX0_pass.2.2.2.1 iX0_pass.2.2.2.2.1) [.ref bp0, .int xp1, .ref bp2] (PX0_pass bp0 xp1 bp2) bp_eI := by
  refine bp_con_ofH [(0, .ref bp0), (1, .int xp1), (2, .ref bp2)] (by decide) (Nat.le_of_ble_eq_true rfl) rfl ?_
  unfold PX0_pass
  refine bp_j_aload_n 2 dX0_pass_0 rfl ?_
  refine bp_j_iconst (v := 0) dX0_pass_1 (by decide) ?_
  refine bp_j_aload_n 0 dX0_pass_2 rfl ?_
  refine bp_j_iload_n 1 dX0_pass_3 rfl ?_
  refine bp_j_ct_I [12, 15] (bp_ranV (t := 0) (n := 1) (As := [.int xp1]) (cnX1_pass (G := G) bp0 xp1) rfl (lw_V q1026 q1027 q1028 q72 q1029) ⟨rfl, by decide +kernel, by decide +kernel, by decide +kernel⟩ ⟨by decide, by decide⟩ (rest := [.int (0 : Int32), .ref bp2]) rfl rfl (Nat.le_of_ble_eq_true rfl) dX0_pass_4) (bp_HSc (bp_cat_of (k := 1) (pc := 4) (name := "java/lang/IllegalArgumentException") [] (0, 9, 12, 13) [(0, 9, 15, 15)] rfl (fun z hz => nomatch hz) (by decide) (by decide) (by decide) q738 q752) (fun a2 => ?_) (bp_HSc (bp_cat_of (k := 2) (pc := 4) (name := "java/lang/UnsupportedOperationException") [(0, 9, 12, 13)] (0, 9, 15, 15) [] rfl (List.forall_mem_cons.mpr ⟨⟨by decide, "java/lang/IllegalArgumentException", q738, by decide⟩, fun _ h => nomatch h⟩) (by decide) (by decide) (by decide) q739 q778) (fun a3 => ?_) bp_HSn)) (fun x1 => ?_)
  · refine bp_j_astore_n (lv' := [(3, .ref a2), (0, .ref bp0), (1, .int xp1), (2, .ref bp2)]) dX0_pass_12 (by decide) rfl ?_
    refine bp_j_iconst (v := 1) dX0_pass_13 (by decide) ?_
    exact bp_j_iret rfl dX0_pass_14
  · refine bp_j_astore_n (lv' := [(3, .ref a3), (0, .ref bp0), (1, .int xp1), (2, .ref bp2)]) dX0_pass_15 (by decide) rfl ?_
    refine bp_j_iconst (v := 2) dX0_pass_16 (by decide) ?_
    exact bp_j_iret rfl dX0_pass_17
  refine bp_j_i2l dX0_pass_7 ?_
  refine bp_j_lastore dX0_pass_8 ?_
  refine bp_j_goto (tgt := 18) dX0_pass_9 (by decide) ?_
  refine bp_j_iconst (v := 0) dX0_pass_18 (by decide) ?_
  exact bp_j_iret rfl dX0_pass_19
/-- BilevelPagesLaw.pixel(LBilevelPages;IIIZ[J)I -/
abbrev iX0_pixel : bp_MI := (yX0_pixel, cX0_pixel, 7, some (Jvm.ClassFile.FieldType.int), [(0, 21, 24, 21), (0, 21, 28, 29)], 9, 167)
def PX0_pixel (bp0 : Nat) (xp1 : Int32) (xp2 : Int32) (xp3 : Int32) (xp4 : Int32) (bp5 : Nat) : bp_M Int32 :=
  bp_try (bp_is 0 bp0 (PX1_pixel bp0 xp1 xp2 xp3 xp4)) (fun x1 =>
  bp_jn (fun (k5 : Int64 → bp_M Int32) =>
  bp_if (x1 = 0) (
  k5 (0 : Int64)) (
  k5 (1 : Int64))) (fun (l4 : Int64) =>
  bp_astL bp5 (0 : Int32) l4 <|
  bp_ret (0 : Int32))) (bp_hs [(4, fun a2 =>
  bp_ret (1 : Int32)), (3, fun a3 =>
  bp_ret (2 : Int32))])
set_option maxHeartbeats 4000000 in
set_option maxRecDepth 100000 in
theorem cnX0_pixel {G : bp_GT} (bp0 : Nat) (xp1 : Int32) (xp2 : Int32) (xp3 : Int32) (xp4 : Int32) (bp5 : Nat) : bp_Con G iX0_pixel (wsW_ iX0_pixel.1 iX0_pixel.2.1 iX0_pixel.2.2.1 iX0_pixel.2.2.2.1 iX0_pixel.2.2.2.2.1) [.ref bp0, .int xp1, .int xp2, .int xp3, .int xp4, .ref bp5] (PX0_pixel bp0 xp1 xp2 xp3 xp4 bp5) bp_eI := by
  refine bp_con_ofH [(0, .ref bp0), (1, .int xp1), (2, .int xp2), (3, .int xp3), (4, .int xp4), (5, .ref bp5)] (by decide) (Nat.le_of_ble_eq_true rfl) rfl ?_
  unfold PX0_pixel
  refine bp_j_aload 5 dX0_pixel_0 rfl ?_
  refine bp_j_iconst (v := 0) dX0_pixel_2 (by decide) ?_
  refine bp_j_aload_n 0 dX0_pixel_3 rfl ?_
  refine bp_j_iload_n 1 dX0_pixel_4 rfl ?_
  refine bp_j_iload_n 2 dX0_pixel_5 rfl ?_
  refine bp_j_iload_n 3 dX0_pixel_6 rfl ?_
  refine bp_j_iload 4 dX0_pixel_7 rfl ?_
  refine bp_j_ct_I [24, 28] (bp_ranV (t := 0) (n := 4) (As := [.int xp1, .int xp2, .int xp3, .int xp4]) (cnX1_pixel (G := G) bp0 xp1 xp2 xp3 xp4) rfl (lw_V q908 q909 q910 q72 q911) ⟨rfl, by decide +kernel, by decide +kernel, by decide +kernel⟩ ⟨by decide, by decide⟩ (rest := [.int (0 : Int32), .ref bp5]) rfl rfl (Nat.le_of_ble_eq_true rfl) dX0_pixel_9) (bp_HSc (bp_cat_of (k := 4) (pc := 9) (name := "java/lang/IndexOutOfBoundsException") [] (0, 21, 24, 21) [(0, 21, 28, 29)] rfl (fun z hz => nomatch hz) (by decide) (by decide) (by decide) q796 q841) (fun a2 => ?_) (bp_HSc (bp_cat_of (k := 3) (pc := 9) (name := "java/lang/IllegalStateException") [(0, 21, 24, 21)] (0, 21, 28, 29) [] rfl (List.forall_mem_cons.mpr ⟨⟨by decide, "java/lang/IndexOutOfBoundsException", q796, by decide⟩, fun _ h => nomatch h⟩) (by decide) (by decide) (by decide) q871 q882) (fun a3 => ?_) bp_HSn)) (fun x1 => ?_)
  · refine bp_j_astore (lv' := [(6, .ref a2), (0, .ref bp0), (1, .int xp1), (2, .int xp2), (3, .int xp3), (4, .int xp4), (5, .ref bp5)]) dX0_pixel_24 (by decide) rfl ?_
    refine bp_j_iconst (v := 1) dX0_pixel_26 (by decide) ?_
    exact bp_j_iret rfl dX0_pixel_27
  · refine bp_j_astore (lv' := [(6, .ref a3), (0, .ref bp0), (1, .int xp1), (2, .int xp2), (3, .int xp3), (4, .int xp4), (5, .ref bp5)]) dX0_pixel_28 (by decide) rfl ?_
    refine bp_j_iconst (v := 2) dX0_pixel_30 (by decide) ?_
    exact bp_j_iret rfl dX0_pixel_31
  refine bp_j_jm (fun k => ∀ (l4 : Int64), bp_J G iX0_pixel (bp_Qn G bp_eI) (k l4) 20 [] [.long l4, .int (0 : Int32), .ref bp5]) (fun k5 hk5 => ?_) (fun l4 => ?_)
  · refine bp_j_if_eq (tgt := 19) dX0_pixel_12 (by decide) ?_ ?_
    · refine bp_j_lconst (v := 0) dX0_pixel_19 (by decide) ?_
      exact bp_j_sub [] rfl (hk5 (0 : Int64))
    refine bp_j_lconst (v := 1) dX0_pixel_15 (by decide) ?_
    refine bp_j_goto (tgt := 20) dX0_pixel_16 (by decide) ?_
    exact bp_j_sub [] rfl (hk5 (1 : Int64))
  refine bp_j_lastore dX0_pixel_20 ?_
  refine bp_j_goto (tgt := 32) dX0_pixel_21 (by decide) ?_
  refine bp_j_iconst (v := 0) dX0_pixel_32 (by decide) ?_
  exact bp_j_iret rfl dX0_pixel_33
/-- BilevelPagesLaw.refers(LBilevelPages;II[J)I -/
abbrev iX0_refers : bp_MI := (yX0_refers, cX0_refers, 5, some (Jvm.ClassFile.FieldType.int), [(0, 17, 20, 21), (0, 17, 24, 15)], 9, 166)
def PX0_refers (bp0 : Nat) (xp1 : Int32) (xp2 : Int32) (bp3 : Nat) : bp_M Int32 :=
  bp_try (bp_is 0 bp0 (PX1_refers bp0 xp1 xp2)) (fun x1 =>
  bp_jn (fun (k5 : Int64 → bp_M Int32) =>
  bp_if (x1 = 0) (
  k5 (0 : Int64)) (
  k5 (1 : Int64))) (fun (l4 : Int64) =>
  bp_astL bp3 (0 : Int32) l4 <|
  bp_ret (0 : Int32))) (bp_hs [(4, fun a2 =>
  bp_ret (1 : Int32)), (2, fun a3 =>
  bp_ret (2 : Int32))])
set_option maxHeartbeats 4000000 in
set_option maxRecDepth 100000 in
theorem cnX0_refers {G : bp_GT} (bp0 : Nat) (xp1 : Int32) (xp2 : Int32) (bp3 : Nat) : bp_Con G iX0_refers (wsW_ iX0_refers.1 iX0_refers.2.1 iX0_refers.2.2.1 iX0_refers.2.2.2.1 iX0_refers.2.2.2.2.1) [.ref bp0, .int xp1, .int xp2, .ref bp3] (PX0_refers bp0 xp1 xp2 bp3) bp_eI := by
  refine bp_con_ofH [(0, .ref bp0), (1, .int xp1), (2, .int xp2), (3, .ref bp3)] (by decide) (Nat.le_of_ble_eq_true rfl) rfl ?_
  unfold PX0_refers
  refine bp_j_aload_n 3 dX0_refers_0 rfl ?_
  refine bp_j_iconst (v := 0) dX0_refers_1 (by decide) ?_
  refine bp_j_aload_n 0 dX0_refers_2 rfl ?_
  refine bp_j_iload_n 1 dX0_refers_3 rfl ?_
  refine bp_j_iload_n 2 dX0_refers_4 rfl ?_
  refine bp_j_ct_I [20, 24] (bp_ranV (t := 0) (n := 2) (As := [.int xp1, .int xp2]) (cnX1_refers (G := G) bp0 xp1 xp2) rfl (lw_V q828 q829 q830 q72 q831) ⟨rfl, by decide +kernel, by decide +kernel, by decide +kernel⟩ ⟨by decide, by decide⟩ (rest := [.int (0 : Int32), .ref bp3]) rfl rfl (Nat.le_of_ble_eq_true rfl) dX0_refers_5) (bp_HSc (bp_cat_of (k := 4) (pc := 5) (name := "java/lang/IndexOutOfBoundsException") [] (0, 17, 20, 21) [(0, 17, 24, 15)] rfl (fun z hz => nomatch hz) (by decide) (by decide) (by decide) q796 q841) (fun a2 => ?_) (bp_HSc (bp_cat_of (k := 2) (pc := 5) (name := "java/lang/UnsupportedOperationException") [(0, 17, 20, 21)] (0, 17, 24, 15) [] rfl (List.forall_mem_cons.mpr ⟨⟨by decide, "java/lang/IndexOutOfBoundsException", q796, by decide⟩, fun _ h => nomatch h⟩) (by decide) (by decide) (by decide) q739 q778) (fun a3 => ?_) bp_HSn)) (fun x1 => ?_)
  · refine bp_j_astore (lv' := [(4, .ref a2), (0, .ref bp0), (1, .int xp1), (2, .int xp2), (3, .ref bp3)]) dX0_refers_20 (by decide) rfl ?_
    refine bp_j_iconst (v := 1) dX0_refers_22 (by decide) ?_
    exact bp_j_iret rfl dX0_refers_23
  · refine bp_j_astore (lv' := [(4, .ref a3), (0, .ref bp0), (1, .int xp1), (2, .int xp2), (3, .ref bp3)]) dX0_refers_24 (by decide) rfl ?_
    refine bp_j_iconst (v := 2) dX0_refers_26 (by decide) ?_
    exact bp_j_iret rfl dX0_refers_27
  refine bp_j_jm (fun k => ∀ (l4 : Int64), bp_J G iX0_refers (bp_Qn G bp_eI) (k l4) 16 [] [.long l4, .int (0 : Int32), .ref bp3]) (fun k5 hk5 => ?_) (fun l4 => ?_)
  · refine bp_j_if_eq (tgt := 15) dX0_refers_8 (by decide) ?_ ?_
    · refine bp_j_lconst (v := 0) dX0_refers_15 (by decide) ?_
      exact bp_j_sub [] rfl (hk5 (0 : Int64))
    refine bp_j_lconst (v := 1) dX0_refers_11 (by decide) ?_
    refine bp_j_goto (tgt := 16) dX0_refers_12 (by decide) ?_
    exact bp_j_sub [] rfl (hk5 (1 : Int64))
  refine bp_j_lastore dX0_refers_16 ?_
  refine bp_j_goto (tgt := 28) dX0_refers_17 (by decide) ?_
  refine bp_j_iconst (v := 0) dX0_refers_28 (by decide) ?_
  exact bp_j_iret rfl dX0_refers_29
/-- BilevelPagesLaw.segment(LBilevelPages;II[J)I -/
abbrev iX0_segment : bp_MI := (yX0_segment, cX0_segment, 5, some (Jvm.ClassFile.FieldType.int), [(0, 10, 13, 13), (0, 10, 17, 15)], 8, 234)
def PX0_segment (bp0 : Nat) (xp1 : Int32) (xp2 : Int32) (bp3 : Nat) : bp_M Int32 :=
  bp_try (bp_is 0 bp0 (PX1_segment bp0 xp1 xp2)) (fun x1 =>
  bp_astL bp3 (0 : Int32) x1.toInt64 <|
  bp_ret (0 : Int32)) (bp_hs [(1, fun a2 =>
  bp_ret (1 : Int32)), (2, fun a3 =>
  bp_ret (2 : Int32))])
set_option maxHeartbeats 4000000 in
set_option maxRecDepth 100000 in
theorem cnX0_segment {G : bp_GT} (bp0 : Nat) (xp1 : Int32) (xp2 : Int32) (bp3 : Nat) : bp_Con G iX0_segment (wsW_ iX0_segment.1 iX0_segment.2.1 iX0_segment.2.2.1 iX0_segment.2.2.2.1 iX0_segment.2.2.2.2.1) [.ref bp0, .int xp1, .int xp2, .ref bp3] (PX0_segment bp0 xp1 xp2 bp3) bp_eI := by
  refine bp_con_ofH [(0, .ref bp0), (1, .int xp1), (2, .int xp2), (3, .ref bp3)] (by decide) (Nat.le_of_ble_eq_true rfl) rfl ?_
  unfold PX0_segment
  refine bp_j_aload_n 3 dX0_segment_0 rfl ?_
  refine bp_j_iconst (v := 0) dX0_segment_1 (by decide) ?_
  refine bp_j_aload_n 0 dX0_segment_2 rfl ?_
  refine bp_j_iload_n 1 dX0_segment_3 rfl ?_
  refine bp_j_iload_n 2 dX0_segment_4 rfl ?_
  refine bp_j_ct_I [13, 17] (bp_ranV (t := 0) (n := 2) (As := [.int xp1, .int xp2]) (cnX1_segment (G := G) bp0 xp1 xp2) rfl (lw_V q740 q741 q742 q72 q743) ⟨rfl, by decide +kernel, by decide +kernel, by decide +kernel⟩ ⟨by decide, by decide⟩ (rest := [.int (0 : Int32), .ref bp3]) rfl rfl (Nat.le_of_ble_eq_true rfl) dX0_segment_5) (bp_HSc (bp_cat_of (k := 1) (pc := 5) (name := "java/lang/IllegalArgumentException") [] (0, 10, 13, 13) [(0, 10, 17, 15)] rfl (fun z hz => nomatch hz) (by decide) (by decide) (by decide) q738 q752) (fun a2 => ?_) (bp_HSc (bp_cat_of (k := 2) (pc := 5) (name := "java/lang/UnsupportedOperationException") [(0, 10, 13, 13)] (0, 10, 17, 15) [] rfl (List.forall_mem_cons.mpr ⟨⟨by decide, "java/lang/IllegalArgumentException", q738, by decide⟩, fun _ h => nomatch h⟩) (by decide) (by decide) (by decide) q739 q778) (fun a3 => ?_) bp_HSn)) (fun x1 => ?_)
  · refine bp_j_astore (lv' := [(4, .ref a2), (0, .ref bp0), (1, .int xp1), (2, .int xp2), (3, .ref bp3)]) dX0_segment_13 (by decide) rfl ?_
    refine bp_j_iconst (v := 1) dX0_segment_15 (by decide) ?_
    exact bp_j_iret rfl dX0_segment_16
  · refine bp_j_astore (lv' := [(4, .ref a3), (0, .ref bp0), (1, .int xp1), (2, .int xp2), (3, .ref bp3)]) dX0_segment_17 (by decide) rfl ?_
    refine bp_j_iconst (v := 2) dX0_segment_19 (by decide) ?_
    exact bp_j_iret rfl dX0_segment_20
  refine bp_j_i2l dX0_segment_8 ?_
  refine bp_j_lastore dX0_segment_9 ?_
  refine bp_j_goto (tgt := 21) dX0_segment_10 (by decide) ?_
  refine bp_j_iconst (v := 0) dX0_segment_21 (by decide) ?_
  exact bp_j_iret rfl dX0_segment_22
/-- BilevelPagesLaw.stripe(LBilevelPages;II[J)I -/
abbrev iX0_stripe : bp_MI := (yX0_stripe, cX0_stripe, 5, some (Jvm.ClassFile.FieldType.int), [(0, 10, 13, 29), (0, 10, 17, 21)], 9, 164)
def PX0_stripe (bp0 : Nat) (xp1 : Int32) (xp2 : Int32) (bp3 : Nat) : bp_M Int32 :=
  bp_try (bp_is 0 bp0 (PX1_stripe bp0 xp1 xp2)) (fun x1 =>
  bp_astL bp3 (0 : Int32) x1.toInt64 <|
  bp_ret (0 : Int32)) (bp_hs [(3, fun a2 =>
  bp_ret (1 : Int32)), (4, fun a3 =>
  bp_ret (2 : Int32))])
set_option maxHeartbeats 4000000 in
set_option maxRecDepth 100000 in
theorem cnX0_stripe {G : bp_GT} (bp0 : Nat) (xp1 : Int32) (xp2 : Int32) (bp3 : Nat) : bp_Con G iX0_stripe (wsW_ iX0_stripe.1 iX0_stripe.2.1 iX0_stripe.2.2.1 iX0_stripe.2.2.2.1 iX0_stripe.2.2.2.2.1) [.ref bp0, .int xp1, .int xp2, .ref bp3] (PX0_stripe bp0 xp1 xp2 bp3) bp_eI := by
  refine bp_con_ofH [(0, .ref bp0), (1, .int xp1), (2, .int xp2), (3, .ref bp3)] (by decide) (Nat.le_of_ble_eq_true rfl) rfl ?_
  unfold PX0_stripe
  refine bp_j_aload_n 3 dX0_stripe_0 rfl ?_
  refine bp_j_iconst (v := 0) dX0_stripe_1 (by decide) ?_
  refine bp_j_aload_n 0 dX0_stripe_2 rfl ?_
  refine bp_j_iload_n 1 dX0_stripe_3 rfl ?_
  refine bp_j_iload_n 2 dX0_stripe_4 rfl ?_
  refine bp_j_ct_I [13, 17] (bp_ranV (t := 0) (n := 2) (As := [.int xp1, .int xp2]) (cnX1_stripe (G := G) bp0 xp1 xp2) rfl (lw_V q1070 q1071 q1072 q72 q1073) ⟨rfl, by decide +kernel, by decide +kernel, by decide +kernel⟩ ⟨by decide, by decide⟩ (rest := [.int (0 : Int32), .ref bp3]) rfl rfl (Nat.le_of_ble_eq_true rfl) dX0_stripe_5) (bp_HSc (bp_cat_of (k := 3) (pc := 5) (name := "java/lang/IllegalStateException") [] (0, 10, 13, 29) [(0, 10, 17, 21)] rfl (fun z hz => nomatch hz) (by decide) (by decide) (by decide) q871 q882) (fun a2 => ?_) (bp_HSc (bp_cat_of (k := 4) (pc := 5) (name := "java/lang/IndexOutOfBoundsException") [(0, 10, 13, 29)] (0, 10, 17, 21) [] rfl (List.forall_mem_cons.mpr ⟨⟨by decide, "java/lang/IllegalStateException", q871, by decide⟩, fun _ h => nomatch h⟩) (by decide) (by decide) (by decide) q796 q841) (fun a3 => ?_) bp_HSn)) (fun x1 => ?_)
  · refine bp_j_astore (lv' := [(4, .ref a2), (0, .ref bp0), (1, .int xp1), (2, .int xp2), (3, .ref bp3)]) dX0_stripe_13 (by decide) rfl ?_
    refine bp_j_iconst (v := 1) dX0_stripe_15 (by decide) ?_
    exact bp_j_iret rfl dX0_stripe_16
  · refine bp_j_astore (lv' := [(4, .ref a3), (0, .ref bp0), (1, .int xp1), (2, .int xp2), (3, .ref bp3)]) dX0_stripe_17 (by decide) rfl ?_
    refine bp_j_iconst (v := 2) dX0_stripe_19 (by decide) ?_
    exact bp_j_iret rfl dX0_stripe_20
  refine bp_j_i2l dX0_stripe_8 ?_
  refine bp_j_lastore dX0_stripe_9 ?_
  refine bp_j_goto (tgt := 21) dX0_stripe_10 (by decide) ?_
  refine bp_j_iconst (v := 0) dX0_stripe_21 (by decide) ?_
  exact bp_j_iret rfl dX0_stripe_22
/-- BilevelPagesLaw.write(LBilevelPages;I[J)I -/
abbrev iX0_write : bp_MI := (yX0_write, cX0_write, 4, some (Jvm.ClassFile.FieldType.int), [(0, 9, 12, 13)], 8, 161)
def PX0_write (bp0 : Nat) (xp1 : Int32) (bp2 : Nat) : bp_M Int32 :=
  bp_try (bp_is 0 bp0 (PX1_write bp0 xp1)) (fun x1 =>
  bp_astL bp2 (0 : Int32) x1.toInt64 <|
  bp_ret (0 : Int32)) (bp_hs [(1, fun a2 =>
  bp_ret (1 : Int32))])
set_option maxHeartbeats 4000000 in
set_option maxRecDepth 100000 in
theorem cnX0_write {G : bp_GT} (bp0 : Nat) (xp1 : Int32) (bp2 : Nat) : bp_Con G iX0_write (wsW_ iX0_write.1 iX0_write.2.1 iX0_write.2.2.1 iX0_write.2.2.2.1 iX0_write.2.2.2.2.1) [.ref bp0, .int xp1, .ref bp2] (PX0_write bp0 xp1 bp2) bp_eI := by
  refine bp_con_ofH [(0, .ref bp0), (1, .int xp1), (2, .ref bp2)] (by decide) (Nat.le_of_ble_eq_true rfl) rfl ?_
  unfold PX0_write
  refine bp_j_aload_n 2 dX0_write_0 rfl ?_
  refine bp_j_iconst (v := 0) dX0_write_1 (by decide) ?_
  refine bp_j_aload_n 0 dX0_write_2 rfl ?_
  refine bp_j_iload_n 1 dX0_write_3 rfl ?_
  refine bp_j_ct_I [12] (bp_ranV (t := 0) (n := 1) (As := [.int xp1]) (cnX1_write (G := G) bp0 xp1) rfl (lw_V q918 q919 q920 q72 q921) ⟨rfl, by decide +kernel, by decide +kernel, by decide +kernel⟩ ⟨by decide, by decide⟩ (rest := [.int (0 : Int32), .ref bp2]) rfl rfl (Nat.le_of_ble_eq_true rfl) dX0_write_4) (bp_HSc (bp_cat_of (k := 1) (pc := 4) (name := "java/lang/IllegalArgumentException") [] (0, 9, 12, 13) [] rfl (fun z hz => nomatch hz) (by decide) (by decide) (by decide) q738 q752) (fun a2 => ?_) bp_HSn) (fun x1 => ?_)
  · refine bp_j_astore_n (lv' := [(3, .ref a2), (0, .ref bp0), (1, .int xp1), (2, .ref bp2)]) dX0_write_12 (by decide) rfl ?_
    refine bp_j_iconst (v := 1) dX0_write_13 (by decide) ?_
    exact bp_j_iret rfl dX0_write_14
  refine bp_j_i2l dX0_write_7 ?_
  refine bp_j_lastore dX0_write_8 ?_
  refine bp_j_goto (tgt := 15) dX0_write_9 (by decide) ?_
  refine bp_j_iconst (v := 0) dX0_write_15 (by decide) ?_
  exact bp_j_iret rfl dX0_write_16
