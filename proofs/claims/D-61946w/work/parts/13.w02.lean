/-! programs and walks -/
set_option maxRecDepth 100000
/-- BilevelPages.found(II)I -/
abbrev iX1_found : bp_MI := (yX1_found, cX1_found, 4, some (Jvm.ClassFile.FieldType.int), [], 7, 120)
def PX1_found (a0 : Nat) (xp1 : Int32) (xp2 : Int32) : bp_M Int32 :=
  bp_getI 0 13 a0 fun x1 =>
  bp_bind (PX1_allow x1) fun _ =>
  bp_getN 0 11 a0 fun a2 =>
  bp_bind (bp_is 6 a2 (PJ2_size a2)) fun x3 =>
  bp_bind (PX1_within xp1.toInt64 (0 : Int64) (x3.toInt64 - (1 : Int64))) fun x4 =>
  bp_bind (PX1_wantIndex x4) fun _ =>
  bp_getN 0 11 a0 fun a5 =>
  bp_bind (bp_is 6 a5 (PJ2_get a5 xp1)) fun a6 =>
  bp_is 3 a6 <|
  bp_sw (xp2).toInt [(0, (
  bp_getI 3 2 a6 fun x7 =>
  bp_ret x7)), (1, (
  bp_getN 3 0 a6 fun a8 =>
  bp_getI 8 0 a8 fun x9 =>
  bp_ret x9)), (2, (
  bp_getI 3 1 a6 fun x10 =>
  bp_ret x10)), (3, (
  bp_getI 3 4 a6 fun x11 =>
  bp_ret x11)), (4, (
  bp_getI 3 12 a6 fun x12 =>
  bp_ret x12)), (5, (
  bp_getL 3 11 a6 fun l13 =>
  bp_ret l13.toInt32))] (
  bp_ret (-1 : Int32))
set_option maxHeartbeats 4000000 in
set_option maxRecDepth 100000 in
theorem cnX1_found {G : bp_GT} (a0 : Nat) (xp1 : Int32) (xp2 : Int32) : bp_Con G iX1_found (ws_ iX1_found.1 iX1_found.2.1 iX1_found.2.2.1 iX1_found.2.2.2.1) [.ref a0, .int xp1, .int xp2] (PX1_found a0 xp1 xp2) bp_eI := by
  refine bp_con_of [(0, .ref a0), (1, .int xp1), (2, .int xp2)] rfl (by decide) (Nat.le_of_ble_eq_true rfl) rfl ?_
  unfold PX1_found
  refine bp_j_aload_n 0 dX1_found_0 rfl ?_
  refine bp_j_getI (t := 0) (k := 13) rfl (by decide) (bp_lk q309) dX1_found_1 (fun _ _ _ => rfl) (fun x1 => ?_)
  refine bp_j_cl_U (bp_ranS (n := 1) (As := [.int x1]) (cnX1_allow (G := G) x1) (lw_S q877 q878 q72 q879) ⟨by decide +kernel, by decide +kernel, by decide +kernel⟩ ⟨by decide, by decide⟩ (rest := []) rfl rfl (Nat.le_of_ble_eq_true rfl) dX1_found_4) (by decide) (fun _ => ?_)
  refine bp_j_iload_n 1 dX1_found_7 rfl ?_
  refine bp_j_i2l dX1_found_8 ?_
  refine bp_j_lconst (v := 0) dX1_found_9 (by decide) ?_
  refine bp_j_aload_n 0 dX1_found_10 rfl ?_
  refine bp_j_getN (t := 0) (k := 11) rfl (by decide) (bp_lk q307) dX1_found_11 (fun _ _ _ => rfl) (fun a2 => ?_)
  refine bp_j_cl_I (bp_ranV (t := 6) (n := 0) (As := []) (cnJ2_size (G := G) a2 ) rfl (lw_V q719 q475 q476 q75 q477) ⟨rfl, by decide +kernel, by decide +kernel, by decide +kernel⟩ ⟨by decide, by decide⟩ (rest := [.long (0 : Int64), .long xp1.toInt64]) rfl rfl (Nat.le_of_ble_eq_true rfl) dX1_found_14) (by decide) (fun x3 => ?_)
  refine bp_j_i2l dX1_found_17 ?_
  refine bp_j_lconst (v := 1) dX1_found_18 (by decide) ?_
  refine bp_j_lsub dX1_found_19 ?_
  refine bp_j_cl_I (bp_ranS (n := 3) (As := [.long xp1.toInt64, .long (0 : Int64), .long (x3.toInt64 - (1 : Int64))]) (cnX1_within (G := G) xp1.toInt64 (0 : Int64) (x3.toInt64 - (1 : Int64))) (lw_S q746 q472 q72 q473) ⟨by decide +kernel, by decide +kernel, by decide +kernel⟩ ⟨by decide, by decide⟩ (rest := []) rfl rfl (Nat.le_of_ble_eq_true rfl) dX1_found_20) (by decide) (fun x4 => ?_)
  refine bp_j_cl_U (bp_ranS (n := 1) (As := [.int x4]) (cnX1_wantIndex (G := G) x4) (lw_S q836 q837 q72 q838) ⟨by decide +kernel, by decide +kernel, by decide +kernel⟩ ⟨by decide, by decide⟩ (rest := []) rfl rfl (Nat.le_of_ble_eq_true rfl) dX1_found_23) (by decide) (fun _ => ?_)
  refine bp_j_aload_n 0 dX1_found_26 rfl ?_
  refine bp_j_getN (t := 0) (k := 11) rfl (by decide) (bp_lk q307) dX1_found_27 (fun _ _ _ => rfl) (fun a5 => ?_)
  refine bp_j_iload_n 1 dX1_found_30 rfl ?_
  refine bp_j_cl_N (bp_ranV (t := 6) (n := 1) (As := [.int xp1]) (cnJ2_get (G := G) a5 xp1) rfl (lw_V q854 q576 q577 q75 q578) ⟨rfl, by decide +kernel, by decide +kernel, by decide +kernel⟩ ⟨by decide, by decide⟩ (rest := []) rfl rfl (Nat.le_of_ble_eq_true rfl) dX1_found_31) (by decide) (fun a6 => ?_)
  refine bp_j_castS (t := 3) rfl q136 dX1_found_34 ?_
  refine bp_j_astore_n (lv' := [(3, .ref a6), (0, .ref a0), (1, .int xp1), (2, .int xp2)]) dX1_found_37 (by decide) rfl ?_
  refine bp_j_iload_n 3 dX1_found_38 rfl ?_
  refine bp_j_tsw (tgt := 122) [76, 83, 93, 100, 107, 114] dX1_found_39 rfl rfl rfl (by decide) (bp_JSc ?_ (bp_JSc ?_ (bp_JSc ?_ (bp_JSc ?_ (bp_JSc ?_ (bp_JSc ?_ bp_JSn)))))) ?_
  · refine bp_j_aload_n 0 dX1_found_76 rfl ?_
    refine bp_j_getI (t := 3) (k := 2) rfl (by decide) (bp_lkN q231) dX1_found_77 (fun _ _ _ => rfl) (fun x7 => ?_)
    refine bp_j_goto (tgt := 123) dX1_found_80 (by decide) ?_
    exact bp_j_iret rfl dX1_found_123
  · refine bp_j_aload_n 0 dX1_found_83 rfl ?_
    refine bp_j_getN (t := 3) (k := 0) rfl (by decide) (bp_lkN q225) dX1_found_84 (fun _ _ _ => rfl) (fun a8 => ?_)
    refine bp_j_getI (t := 8) (k := 0) rfl (by decide) (bp_lkN q1524) dX1_found_87 (fun _ _ _ => rfl) (fun x9 => ?_)
    refine bp_j_goto (tgt := 123) dX1_found_90 (by decide) ?_
    exact bp_j_iret rfl dX1_found_123
  · refine bp_j_aload_n 0 dX1_found_93 rfl ?_
    refine bp_j_getI (t := 3) (k := 1) rfl (by decide) (bp_lkN q228) dX1_found_94 (fun _ _ _ => rfl) (fun x10 => ?_)
    refine bp_j_goto (tgt := 123) dX1_found_97 (by decide) ?_
    exact bp_j_iret rfl dX1_found_123
  · refine bp_j_aload_n 0 dX1_found_100 rfl ?_
    refine bp_j_getI (t := 3) (k := 4) rfl (by decide) (bp_lkN q237) dX1_found_101 (fun _ _ _ => rfl) (fun x11 => ?_)
    refine bp_j_goto (tgt := 123) dX1_found_104 (by decide) ?_
    exact bp_j_iret rfl dX1_found_123
  · refine bp_j_aload_n 0 dX1_found_107 rfl ?_
    refine bp_j_getI (t := 3) (k := 12) rfl (by decide) (bp_lkN q260) dX1_found_108 (fun _ _ _ => rfl) (fun x12 => ?_)
    refine bp_j_goto (tgt := 123) dX1_found_111 (by decide) ?_
    exact bp_j_iret rfl dX1_found_123
  · refine bp_j_aload_n 0 dX1_found_114 rfl ?_
    refine bp_j_getL (t := 3) (k := 11) rfl (by decide) (bp_lkN q257) dX1_found_115 (fun _ _ _ => rfl) (fun l13 => ?_)
    refine bp_j_l2i dX1_found_118 ?_
    refine bp_j_goto (tgt := 123) dX1_found_119 (by decide) ?_
    exact bp_j_iret rfl dX1_found_123
  refine bp_j_iconst (v := -1) dX1_found_122 (by decide) ?_
  exact bp_j_iret rfl dX1_found_123
/-- BilevelPages.letGo(II)Z -/
abbrev iX1_letGo : bp_MI := (yX1_letGo, cX1_letGo, 5, some (Jvm.ClassFile.FieldType.boolean), [], 8, 141)
def PX1_letGo (a0 : Nat) (xp1 : Int32) (xp2 : Int32) : bp_M Int32 :=
  bp_bind (bp_is 0 a0 (PX1_at a0 xp1)) fun a1 =>
  bp_bind (bp_is 3 a1 (PX4_placeOf a1 xp2)) fun x2 =>
  bp_if (x2 < 0) (
  bp_retZ (0 : Int32)) (
  bp_bind (bp_is 3 a1 (PX4_letsGo a1 xp2)) fun x3 =>
  bp_if (x3 = 0) (
  bp_getI 3 5 a1 fun x4 =>
  bp_putI 3 5 a1 (x4 ||| ((1 : Int32) <<< (x2 &&& 31))) <|
  bp_retZ (1 : Int32)) (
  bp_retZ (0 : Int32)))
set_option maxHeartbeats 4000000 in
set_option maxRecDepth 100000 in
theorem cnX1_letGo {G : bp_GT} (a0 : Nat) (xp1 : Int32) (xp2 : Int32) : bp_Con G iX1_letGo (ws_ iX1_letGo.1 iX1_letGo.2.1 iX1_letGo.2.2.1 iX1_letGo.2.2.2.1) [.ref a0, .int xp1, .int xp2] (PX1_letGo a0 xp1 xp2) bp_eI := by
  refine bp_con_of [(0, .ref a0), (1, .int xp1), (2, .int xp2)] rfl (by decide) (Nat.le_of_ble_eq_true rfl) rfl ?_
  unfold PX1_letGo
  refine bp_j_aload_n 0 dX1_letGo_0 rfl ?_
  refine bp_j_iload_n 1 dX1_letGo_1 rfl ?_
  refine bp_j_cl_N (bp_ranV (t := 0) (n := 1) (As := [.int xp1]) (cnX1_at (G := G) a0 xp1) rfl (lw_V q832 q834 qs24 q72 q835) ⟨rfl, by decide +kernel, by decide +kernel, by decide +kernel⟩ ⟨by decide, by decide⟩ (rest := []) rfl rfl (Nat.le_of_ble_eq_true rfl) dX1_letGo_2) (by decide) (fun a1 => ?_)
  refine bp_j_astore_n (lv' := [(3, .ref a1), (0, .ref a0), (1, .int xp1), (2, .int xp2)]) dX1_letGo_5 (by decide) rfl ?_
  refine bp_j_aload_n 0 dX1_letGo_6 rfl ?_
  refine bp_j_iload_n 3 dX1_letGo_7 rfl ?_
  refine bp_j_cl_I (bp_ranV (t := 3) (n := 1) (As := [.int xp2]) (cnX4_placeOf (G := G) a1 xp2) rfl (lw_V q855 q591 q592 q79 q593) ⟨rfl, by decide +kernel, by decide +kernel, by decide +kernel⟩ ⟨by decide, by decide⟩ (rest := []) rfl rfl (Nat.le_of_ble_eq_true rfl) dX1_letGo_8) (by decide) (fun x2 => ?_)
  refine bp_j_istore (lv' := [(4, .int x2), (3, .ref a1), (0, .ref a0), (1, .int xp1), (2, .int xp2)]) dX1_letGo_11 (by decide) rfl ?_
  refine bp_j_iload 0 dX1_letGo_13 rfl ?_
  refine bp_j_if_lt (tgt := 26) dX1_letGo_15 (by decide) ?_ ?_
  · refine bp_j_iconst (v := 0) dX1_letGo_26 (by decide) ?_
    exact bp_j_zret rfl dX1_letGo_27
  refine bp_j_aload_n 1 dX1_letGo_18 rfl ?_
  refine bp_j_iload_n 4 dX1_letGo_19 rfl ?_
  refine bp_j_cl_I (bp_ranV (t := 3) (n := 1) (As := [.int xp2]) (cnX4_letsGo (G := G) a1 xp2) rfl (lw_V q856 q857 q858 q79 q859) ⟨rfl, by decide +kernel, by decide +kernel, by decide +kernel⟩ ⟨by decide, by decide⟩ (rest := []) rfl rfl (Nat.le_of_ble_eq_true rfl) dX1_letGo_20) (by decide) (fun x3 => ?_)
  refine bp_j_if_eq (tgt := 28) dX1_letGo_23 (by decide) ?_ ?_
  · refine bp_j_aload_n 1 dX1_letGo_28 rfl ?_
    refine bp_j_dup dX1_letGo_29 rfl ?_
    refine bp_j_getI (t := 3) (k := 5) rfl (by decide) (bp_lkN q240) dX1_letGo_30 (fun _ _ _ => rfl) (fun x4 => ?_)
    refine bp_j_iconst (v := 1) dX1_letGo_33 (by decide) ?_
    refine bp_j_iload 0 dX1_letGo_34 rfl ?_
    refine bp_j_ishl dX1_letGo_36 ?_
    refine bp_j_ior dX1_letGo_37 ?_
    refine bp_j_putI (t := 3) (k := 5) rfl (by decide) (by decide) (bp_lkN q240) rfl dX1_letGo_38 rfl ?_
    refine bp_j_iconst (v := 1) dX1_letGo_41 (by decide) ?_
    exact bp_j_zret rfl dX1_letGo_42
  refine bp_j_iconst (v := 0) dX1_letGo_26 (by decide) ?_
  exact bp_j_zret rfl dX1_letGo_27
/-- BilevelPages.number(III)I -/
abbrev iX1_number : bp_MI := (yX1_number, cX1_number, 6, some (Jvm.ClassFile.FieldType.int), [], 8, 141)
def PX1_number (a0 : Nat) (xp1 : Int32) (xp2 : Int32) (xp3 : Int32) : bp_M Int32 :=
  bp_bind (bp_is 0 a0 (PX1_at a0 xp1)) fun a1 =>
  bp_getN 3 0 a1 fun a2 =>
  bp_getI 8 1 a2 fun x3 =>
  bp_bind (PX1_within xp2.toInt64 (0 : Int64) ((x3 - (1 : Int32)).toInt64)) fun x4 =>
  bp_bind (PX1_want x4) fun _ =>
  bp_getN 3 0 a1 fun a5 =>
  bp_bind (bp_is 8 a5 (PX5_least a5 xp2)) fun x6 =>
  bp_getN 3 0 a1 fun a7 =>
  bp_bind (bp_is 8 a7 (PX5_most a7 xp2)) fun x8 =>
  bp_bind (PX1_within xp3.toInt64 x6.toInt64 x8.toInt64) fun x9 =>
  bp_bind (PX1_want x9) fun _ =>
  bp_getN 3 6 a1 fun a10 =>
  bp_aldI 20 a10 xp2 fun x11 =>
  bp_getN 3 6 a1 fun a12 =>
  bp_astI a12 xp2 xp3 <|
  bp_ret x11
set_option maxHeartbeats 4000000 in
set_option maxRecDepth 100000 in
theorem cnX1_number {G : bp_GT} (a0 : Nat) (xp1 : Int32) (xp2 : Int32) (xp3 : Int32) : bp_Con G iX1_number (ws_ iX1_number.1 iX1_number.2.1 iX1_number.2.2.1 iX1_number.2.2.2.1) [.ref a0, .int xp1, .int xp2, .int xp3] (PX1_number a0 xp1 xp2 xp3) bp_eI := by
  refine bp_con_of [(0, .ref a0), (1, .int xp1), (2, .int xp2), (3, .int xp3)] rfl (by decide) (Nat.le_of_ble_eq_true rfl) rfl ?_
  unfold PX1_number
  refine bp_j_aload_n 0 dX1_number_0 rfl ?_
  refine bp_j_iload_n 1 dX1_number_1 rfl ?_
  refine bp_j_cl_N (bp_ranV (t := 0) (n := 1) (As := [.int xp1]) (cnX1_at (G := G) a0 xp1) rfl (lw_V q832 q834 qs24 q72 q835) ⟨rfl, by decide +kernel, by decide +kernel, by decide +kernel⟩ ⟨by decide, by decide⟩ (rest := []) rfl rfl (Nat.le_of_ble_eq_true rfl) dX1_number_2) (by decide) (fun a1 => ?_)
  refine bp_j_astore (lv' := [(4, .ref a1), (0, .ref a0), (1, .int xp1), (2, .int xp2), (3, .int xp3)]) dX1_number_5 (by decide) rfl ?_
  refine bp_j_iload_n 3 dX1_number_7 rfl ?_
  refine bp_j_i2l dX1_number_8 ?_
  refine bp_j_lconst (v := 0) dX1_number_9 (by decide) ?_
  refine bp_j_aload 0 dX1_number_10 rfl ?_
  refine bp_j_getN (t := 3) (k := 0) rfl (by decide) (bp_lkN q225) dX1_number_12 (fun _ _ _ => rfl) (fun a2 => ?_)
  refine bp_j_getI (t := 8) (k := 1) rfl (by decide) (bp_lkN q1526) dX1_number_15 (fun _ _ _ => rfl) (fun x3 => ?_)
  refine bp_j_iconst (v := 1) dX1_number_18 (by decide) ?_
  refine bp_j_isub dX1_number_19 ?_
  refine bp_j_i2l dX1_number_20 ?_
  refine bp_j_cl_I (bp_ranS (n := 3) (As := [.long xp2.toInt64, .long (0 : Int64), .long ((x3 - (1 : Int32)).toInt64)]) (cnX1_within (G := G) xp2.toInt64 (0 : Int64) ((x3 - (1 : Int32)).toInt64)) (lw_S q746 q472 q72 q473) ⟨by decide +kernel, by decide +kernel, by decide +kernel⟩ ⟨by decide, by decide⟩ (rest := []) rfl rfl (Nat.le_of_ble_eq_true rfl) dX1_number_21) (by decide) (fun x4 => ?_)
  refine bp_j_cl_U (bp_ranS (n := 1) (As := [.int x4]) (cnX1_want (G := G) x4) (lw_S q747 q748 q72 q749) ⟨by decide +kernel, by decide +kernel, by decide +kernel⟩ ⟨by decide, by decide⟩ (rest := []) rfl rfl (Nat.le_of_ble_eq_true rfl) dX1_number_24) (by decide) (fun _ => ?_)
  refine bp_j_iload_n 4 dX1_number_27 rfl ?_
  refine bp_j_i2l dX1_number_28 ?_
  refine bp_j_aload 0 dX1_number_29 rfl ?_
  refine bp_j_getN (t := 3) (k := 0) rfl (by decide) (bp_lkN q225) dX1_number_31 (fun _ _ _ => rfl) (fun a5 => ?_)
  refine bp_j_iload_n 3 dX1_number_34 rfl ?_
  refine bp_j_cl_I (bp_ranV (t := 8) (n := 1) (As := [.int xp2]) (cnX5_least (G := G) a5 xp2) rfl (lw_V q903 q485 q486 q81 q487) ⟨rfl, by decide +kernel, by decide +kernel, by decide +kernel⟩ ⟨by decide, by decide⟩ (rest := [.long xp3.toInt64]) rfl rfl (Nat.le_of_ble_eq_true rfl) dX1_number_35) (by decide) (fun x6 => ?_)
  refine bp_j_i2l dX1_number_38 ?_
  refine bp_j_aload 0 dX1_number_39 rfl ?_
  refine bp_j_getN (t := 3) (k := 0) rfl (by decide) (bp_lkN q225) dX1_number_41 (fun _ _ _ => rfl) (fun a7 => ?_)
  refine bp_j_iload_n 3 dX1_number_44 rfl ?_
  refine bp_j_cl_I (bp_ranV (t := 8) (n := 1) (As := [.int xp2]) (cnX5_most (G := G) a7 xp2) rfl (lw_V q904 q642 q643 q81 q644) ⟨rfl, by decide +kernel, by decide +kernel, by decide +kernel⟩ ⟨by decide, by decide⟩ (rest := [.long x6.toInt64, .long xp3.toInt64]) rfl rfl (Nat.le_of_ble_eq_true rfl) dX1_number_45) (by decide) (fun x8 => ?_)
  refine bp_j_i2l dX1_number_48 ?_
  refine bp_j_cl_I (bp_ranS (n := 3) (As := [.long xp3.toInt64, .long x6.toInt64, .long x8.toInt64]) (cnX1_within (G := G) xp3.toInt64 x6.toInt64 x8.toInt64) (lw_S q746 q472 q72 q473) ⟨by decide +kernel, by decide +kernel, by decide +kernel⟩ ⟨by decide, by decide⟩ (rest := []) rfl rfl (Nat.le_of_ble_eq_true rfl) dX1_number_49) (by decide) (fun x9 => ?_)
  refine bp_j_cl_U (bp_ranS (n := 1) (As := [.int x9]) (cnX1_want (G := G) x9) (lw_S q747 q748 q72 q749) ⟨by decide +kernel, by decide +kernel, by decide +kernel⟩ ⟨by decide, by decide⟩ (rest := []) rfl rfl (Nat.le_of_ble_eq_true rfl) dX1_number_52) (by decide) (fun _ => ?_)
  refine bp_j_aload 0 dX1_number_55 rfl ?_
  refine bp_j_getN (t := 3) (k := 6) rfl (by decide) (bp_lkN q243) dX1_number_57 (fun _ _ _ => rfl) (fun a10 => ?_)
  refine bp_j_iload_n 3 dX1_number_60 rfl ?_
  refine bp_j_iaload dX1_number_61 (fun x11 => ?_)
  refine bp_j_istore (lv' := [(5, .int x11), (4, .ref a1), (0, .ref a0), (1, .int xp1), (2, .int xp2), (3, .int xp3)]) dX1_number_62 (by decide) rfl ?_
  refine bp_j_aload 1 dX1_number_64 rfl ?_
  refine bp_j_getN (t := 3) (k := 6) rfl (by decide) (bp_lkN q243) dX1_number_66 (fun _ _ _ => rfl) (fun a12 => ?_)
  refine bp_j_iload_n 4 dX1_number_69 rfl ?_
  refine bp_j_iload_n 5 dX1_number_70 rfl ?_
  refine bp_j_iastore dX1_number_71 ?_
  refine bp_j_iload 0 dX1_number_72 rfl ?_
  exact bp_j_iret rfl dX1_number_74
/-- BilevelPages.page(II)I -/
abbrev iX1_page : bp_MI := (yX1_page, cX1_page, 4, some (Jvm.ClassFile.FieldType.int), [], 8, 141)
def PX1_page (a0 : Nat) (xp1 : Int32) (xp2 : Int32) : bp_M Int32 :=
  bp_bind (bp_is 0 a0 (PX1_sheet a0 xp1)) fun a1 =>
  bp_sw (xp2).toInt [(0, (
  bp_getI 2 3 a1 fun x2 =>
  bp_ret x2)), (1, (
  bp_getI 2 4 a1 fun x3 =>
  bp_ret x3)), (2, (
  bp_getI 2 2 a1 fun x4 =>
  bp_ret x4)), (3, (
  bp_bind (bp_is 2 a1 (PX3_dark a1)) fun x5 =>
  bp_ret x5))] (
  bp_ret (-1 : Int32))
set_option maxHeartbeats 4000000 in
set_option maxRecDepth 100000 in
theorem cnX1_page {G : bp_GT} (a0 : Nat) (xp1 : Int32) (xp2 : Int32) : bp_Con G iX1_page (ws_ iX1_page.1 iX1_page.2.1 iX1_page.2.2.1 iX1_page.2.2.2.1) [.ref a0, .int xp1, .int xp2] (PX1_page a0 xp1 xp2) bp_eI := by
  refine bp_con_of [(0, .ref a0), (1, .int xp1), (2, .int xp2)] rfl (by decide) (Nat.le_of_ble_eq_true rfl) rfl ?_
  unfold PX1_page
  refine bp_j_aload_n 0 dX1_page_0 rfl ?_
  refine bp_j_iload_n 1 dX1_page_1 rfl ?_
  refine bp_j_cl_N (bp_ranV (t := 0) (n := 1) (As := [.int xp1]) (cnX1_sheet (G := G) a0 xp1) rfl (lw_V q1051 q1053 qs33 q72 q1054) ⟨rfl, by decide +kernel, by decide +kernel, by decide +kernel⟩ ⟨by decide, by decide⟩ (rest := []) rfl rfl (Nat.le_of_ble_eq_true rfl) dX1_page_2) (by decide) (fun a1 => ?_)
  refine bp_j_astore_n (lv' := [(3, .ref a1), (0, .ref a0), (1, .int xp1), (2, .int xp2)]) dX1_page_5 (by decide) rfl ?_
  refine bp_j_iload_n 3 dX1_page_6 rfl ?_
  refine bp_j_tsw (tgt := 64) [36, 43, 50, 57] dX1_page_7 rfl rfl rfl (by decide) (bp_JSc ?_ (bp_JSc ?_ (bp_JSc ?_ (bp_JSc ?_ bp_JSn)))) ?_
  · refine bp_j_aload_n 0 dX1_page_36 rfl ?_
    refine bp_j_getI (t := 2) (k := 3) rfl (by decide) (bp_lkN q192) dX1_page_37 (fun _ _ _ => rfl) (fun x2 => ?_)
    refine bp_j_goto (tgt := 65) dX1_page_40 (by decide) ?_
    exact bp_j_iret rfl dX1_page_65
  · refine bp_j_aload_n 0 dX1_page_43 rfl ?_
    refine bp_j_getI (t := 2) (k := 4) rfl (by decide) (bp_lkN q195) dX1_page_44 (fun _ _ _ => rfl) (fun x3 => ?_)
    refine bp_j_goto (tgt := 65) dX1_page_47 (by decide) ?_
    exact bp_j_iret rfl dX1_page_65
  · refine bp_j_aload_n 0 dX1_page_50 rfl ?_
    refine bp_j_getI (t := 2) (k := 2) rfl (by decide) (bp_lkN q190) dX1_page_51 (fun _ _ _ => rfl) (fun x4 => ?_)
    refine bp_j_goto (tgt := 65) dX1_page_54 (by decide) ?_
    exact bp_j_iret rfl dX1_page_65
  · refine bp_j_aload_n 0 dX1_page_57 rfl ?_
    refine bp_j_cl_I (bp_ranV (t := 2) (n := 0) (As := []) (cnX3_dark (G := G) a1 ) rfl (lw_V q1055 q1056 q1057 q78 q1058) ⟨rfl, by decide +kernel, by decide +kernel, by decide +kernel⟩ ⟨by decide, by decide⟩ (rest := []) rfl rfl (Nat.le_of_ble_eq_true rfl) dX1_page_58) (by decide) (fun x5 => ?_)
    refine bp_j_goto (tgt := 65) dX1_page_61 (by decide) ?_
    exact bp_j_iret rfl dX1_page_65
  refine bp_j_iconst (v := -1) dX1_page_64 (by decide) ?_
  exact bp_j_iret rfl dX1_page_65
/-- BilevelPages.pass(Z)I -/
abbrev iX1_pass : bp_MI := (yX1_pass, cX1_pass, 3, some (Jvm.ClassFile.FieldType.int), [], 7, 120)
def BX1_pass_50 (a0 : Nat) (xp1 : Int32) (k8 : bp_M Int32) (k12 : Int32 → bp_M Int32) : Int32 → bp_M Int32 :=
  fun x11 =>
  bp_getI 0 5 a0 fun x13 =>
  bp_if (x13 ≤ x11) (
  k8) (
  bp_getN 0 4 a0 fun a14 =>
  bp_aldI 21 a14 x11 fun x15 =>
  bp_bind (bp_is 0 a0 (PX1_take a0 x15 xp1)) fun _ =>
  bp_letI (x11 + (1 : Int32)) fun x16 =>
  k12 x16)
def PX1_pass (a0 : Nat) (xp1 : Int32) : bp_M Int32 :=
  bp_jn (fun (k2 : Int32 → bp_M Int32) =>
  bp_if (xp1 = 0) (
  k2 (1 : Int32)) (
  bp_getI 0 0 a0 fun x17 =>
  bp_if (x17 = (2 : Int32)) (
  k2 (1 : Int32)) (
  k2 (0 : Int32)))) (fun (x1 : Int32) =>
  bp_bind (PX1_want x1) fun _ =>
  bp_getI 0 7 a0 fun x3 =>
  bp_getI 0 9 a0 fun x4 =>
  bp_getI 0 5 a0 fun x5 =>
  bp_jn (fun (k7 : Int32 → bp_M Int32) =>
  bp_if ((3000 : Int32) < ((x3 + x4) + x5)) (
  k7 (0 : Int32)) (
  k7 (1 : Int32))) (fun (x6 : Int32) =>
  bp_bind (PX1_wantRoom x6) fun _ =>
  bp_jn (fun (k8 : bp_M Int32) =>
  bp_loop (fun _ => bp_no) (BX1_pass_50 a0 xp1 k8) (fun k => k (0 : Int32))) (bp_if (xp1 = 0) (
  bp_getI 0 7 a0 fun x9 =>
  bp_ret x9) (
  bp_getI 0 9 a0 fun x10 =>
  bp_ret x10))))
set_option maxHeartbeats 4000000 in
set_option maxRecDepth 100000 in
theorem cnX1_pass {G : bp_GT} (a0 : Nat) (xp1 : Int32) : bp_Con G iX1_pass (ws_ iX1_pass.1 iX1_pass.2.1 iX1_pass.2.2.1 iX1_pass.2.2.2.1) [.ref a0, .int xp1] (PX1_pass a0 xp1) bp_eI := by
  refine bp_con_of [(0, .ref a0), (1, .int xp1)] rfl (by decide) (Nat.le_of_ble_eq_true rfl) rfl ?_
  unfold PX1_pass
  refine bp_j_iload_n 1 dX1_pass_0 rfl ?_
  refine bp_j_jm (fun k => ∀ (x1 : Int32), bp_J G iX1_pass (bp_Qn G bp_eI) (k x1) 17 [(0, .ref a0), (1, .int xp1)] [.int x1]) (fun k2 hk2 => ?_) (fun x1 => ?_)
  · refine bp_j_if_eq (tgt := 12) dX1_pass_1 (by decide) ?_ ?_
    · refine bp_j_iconst (v := 1) dX1_pass_12 (by decide) ?_
      refine bp_j_goto (tgt := 17) dX1_pass_13 (by decide) ?_
      exact hk2 (1 : Int32)
    refine bp_j_aload_n 0 dX1_pass_4 rfl ?_
    refine bp_j_getI (t := 0) (k := 0) rfl (by decide) (bp_lk q289) dX1_pass_5 (fun _ _ _ => rfl) (fun x17 => ?_)
    refine bp_j_iconst (v := 2) dX1_pass_8 (by decide) ?_
    refine bp_j_icmp_ne (tgt := 16) dX1_pass_9 (by decide) ?_ ?_
    · refine bp_j_iconst (v := 0) dX1_pass_16 (by decide) ?_
      exact hk2 (0 : Int32)
    refine bp_j_iconst (v := 1) dX1_pass_12 (by decide) ?_
    refine bp_j_goto (tgt := 17) dX1_pass_13 (by decide) ?_
    exact hk2 (1 : Int32)
  refine bp_j_cl_U (bp_ranS (n := 1) (As := [.int x1]) (cnX1_want (G := G) x1) (lw_S q747 q748 q72 q749) ⟨by decide +kernel, by decide +kernel, by decide +kernel⟩ ⟨by decide, by decide⟩ (rest := []) rfl rfl (Nat.le_of_ble_eq_true rfl) dX1_pass_17) (by decide) (fun _ => ?_)
  refine bp_j_aload_n 0 dX1_pass_20 rfl ?_
  refine bp_j_getI (t := 0) (k := 7) rfl (by decide) (bp_lk q299) dX1_pass_21 (fun _ _ _ => rfl) (fun x3 => ?_)
  refine bp_j_aload_n 0 dX1_pass_24 rfl ?_
  refine bp_j_getI (t := 0) (k := 9) rfl (by decide) (bp_lk q303) dX1_pass_25 (fun _ _ _ => rfl) (fun x4 => ?_)
  refine bp_j_iadd dX1_pass_28 ?_
  refine bp_j_aload_n 0 dX1_pass_29 rfl ?_
  refine bp_j_getI (t := 0) (k := 5) rfl (by decide) (bp_lk q295) dX1_pass_30 (fun _ _ _ => rfl) (fun x5 => ?_)
  refine bp_j_iadd dX1_pass_33 ?_
  refine bp_j_sipush (v := 3000) dX1_pass_34 (by decide) ?_
  refine bp_j_jm (fun k => ∀ (x6 : Int32), bp_J G iX1_pass (bp_Qn G bp_eI) (k x6) 45 [(0, .ref a0), (1, .int xp1)] [.int x6]) (fun k7 hk7 => ?_) (fun x6 => ?_)
  · refine bp_j_icmp_gt (tgt := 44) dX1_pass_37 (by decide) ?_ ?_
    · refine bp_j_iconst (v := 0) dX1_pass_44 (by decide) ?_
      exact hk7 (0 : Int32)
    refine bp_j_iconst (v := 1) dX1_pass_40 (by decide) ?_
    refine bp_j_goto (tgt := 45) dX1_pass_41 (by decide) ?_
    exact hk7 (1 : Int32)
  refine bp_j_cl_U (bp_ranS (n := 1) (As := [.int x6]) (cnX1_wantRoom (G := G) x6) (lw_S q773 q774 q72 q775) ⟨by decide +kernel, by decide +kernel, by decide +kernel⟩ ⟨by decide, by decide⟩ (rest := []) rfl rfl (Nat.le_of_ble_eq_true rfl) dX1_pass_45) (by decide) (fun _ => ?_)
  refine bp_j_iconst (v := 0) dX1_pass_48 (by decide) ?_
  refine bp_j_istore_n (lv' := [(2, .int (0 : Int32)), (0, .ref a0), (1, .int xp1)]) dX1_pass_49 (by decide) rfl ?_
  refine bp_j_jm (fun k => bp_J G iX1_pass (bp_Qn G bp_eI) (k) 75 [(0, .ref a0), (1, .int xp1)] []) (fun k8 hk8 => ?_) ?_
  · refine bp_j_loop (fun k => ∀ (x11 : Int32), bp_J G iX1_pass (bp_Qn G bp_eI) (k x11) 50 [(0, .ref a0), (1, .int xp1), (2, .int x11)] []) (fun _ => bp_j_no) (fun k12 hk12 x11 => ?_) (fun k h => bp_j_sub [1, 2, 0] rfl (h (0 : Int32)))
    unfold BX1_pass_50
    refine bp_j_iload_n 2 dX1_pass_50 rfl ?_
    refine bp_j_aload_n 0 dX1_pass_51 rfl ?_
    refine bp_j_getI (t := 0) (k := 5) rfl (by decide) (bp_lk q295) dX1_pass_52 (fun _ _ _ => rfl) (fun x13 => ?_)
    refine bp_j_icmp_ge (tgt := 75) dX1_pass_55 (by decide) ?_ ?_
    · exact bp_j_sub [0, 1] rfl (hk8)
    refine bp_j_aload_n 0 dX1_pass_58 rfl ?_
    refine bp_j_aload_n 0 dX1_pass_59 rfl ?_
    refine bp_j_getN (t := 0) (k := 4) rfl (by decide) (bp_lk q294) dX1_pass_60 (fun _ _ _ => rfl) (fun a14 => ?_)
    refine bp_j_iload_n 2 dX1_pass_63 rfl ?_
    refine bp_j_baloadB dX1_pass_64 (fun x15 => ?_)
    refine bp_j_iload_n 1 dX1_pass_65 rfl ?_
    refine bp_j_cl_U (bp_ranV (t := 0) (n := 2) (As := [.int x15, .int xp1]) (cnX1_take (G := G) a0 x15 xp1) rfl (lw_V q1019 q1021 qs32 q72 q1022) ⟨rfl, by decide +kernel, by decide +kernel, by decide +kernel⟩ ⟨by decide, by decide⟩ (rest := []) rfl rfl (Nat.le_of_ble_eq_true rfl) dX1_pass_66) (by decide) (fun _ => ?_)
    refine bp_j_iincL (lv' := fun x16 => [(2, .int x16), (0, .ref a0), (1, .int xp1)]) 2 dX1_pass_69 rfl (by decide) (by decide) (fun _ => rfl) (fun x16 => ?_)
    refine bp_j_goto (tgt := 50) dX1_pass_72 (by decide) ?_
    exact bp_j_sub [1, 2, 0] rfl (hk12 x16)
  refine bp_j_iload_n 1 dX1_pass_75 rfl ?_
  refine bp_j_if_eq (tgt := 86) dX1_pass_76 (by decide) ?_ ?_
  · refine bp_j_aload_n 0 dX1_pass_86 rfl ?_
    refine bp_j_getI (t := 0) (k := 7) rfl (by decide) (bp_lk q299) dX1_pass_87 (fun _ _ _ => rfl) (fun x9 => ?_)
    exact bp_j_iret rfl dX1_pass_90
  refine bp_j_aload_n 0 dX1_pass_79 rfl ?_
  refine bp_j_getI (t := 0) (k := 9) rfl (by decide) (bp_lk q303) dX1_pass_80 (fun _ _ _ => rfl) (fun x10 => ?_)
  refine bp_j_goto (tgt := 90) dX1_pass_83 (by decide) ?_
  exact bp_j_iret rfl dX1_pass_90
/-- BilevelPages.pixel(IIIZ)Z -/
abbrev iX1_pixel : bp_MI := (yX1_pixel, cX1_pixel, 7, some (Jvm.ClassFile.FieldType.boolean), [], 8, 141)
def PX1_pixel (a0 : Nat) (xp1 : Int32) (xp2 : Int32) (xp3 : Int32) (xp4 : Int32) : bp_M Int32 :=
  bp_bind (bp_is 0 a0 (PX1_at a0 xp1)) fun a1 =>
  bp_getN 3 0 a1 fun a2 =>
  bp_bind (bp_is 8 a2 (PX5_isRegion a2)) fun x3 =>
  bp_jn (fun (k5 : Int32 → bp_M Int32) =>
  bp_if (x3 = 0) (
  k5 (1 : Int32)) (
  bp_bind (bp_is 3 a1 (PX4_wide a1)) fun x19 =>
  bp_bind (PX1_within xp2.toInt64 (0 : Int64) ((x19 - (1 : Int32)).toInt64)) fun x20 =>
  bp_if (x20 = 0) (
  k5 (0 : Int32)) (
  bp_bind (bp_is 3 a1 (PX4_high a1)) fun x21 =>
  bp_bind (PX1_within xp3.toInt64 (0 : Int64) ((x21 - (1 : Int32)).toInt64)) fun x22 =>
  bp_if (x22 = 0) (
  k5 (0 : Int32)) (
  k5 (1 : Int32))))) (fun (x4 : Int32) =>
  bp_bind (PX1_wantIndex x4) fun _ =>
  bp_getN 3 0 a1 fun a6 =>
  bp_bind (bp_is 8 a6 (PX5_isRegion a6)) fun x7 =>
  bp_bind (PX1_allow x7) fun _ =>
  bp_getN 3 9 a1 fun a8 =>
  bp_aldI 20 a8 xp3 fun x9 =>
  bp_jn (fun (k11 : Int32 → bp_M Int32) =>
  bp_if (((x9 >>> (xp2 &&& 31)) &&& (1 : Int32)) = (1 : Int32)) (
  k11 (1 : Int32)) (
  k11 (0 : Int32))) (fun (x10 : Int32) =>
  bp_getN 3 9 a1 fun a12 =>
  bp_jn (fun (k14 : Int32 → bp_M Int32) =>
  bp_if (xp4 = 0) (
  bp_getN 3 9 a1 fun a15 =>
  bp_aldI 20 a15 xp3 fun x16 =>
  k14 (x16 &&& (((1 : Int32) <<< (xp2 &&& 31)) ^^^ (-1 : Int32)))) (
  bp_getN 3 9 a1 fun a17 =>
  bp_aldI 20 a17 xp3 fun x18 =>
  k14 (x18 ||| ((1 : Int32) <<< (xp2 &&& 31))))) (fun (x13 : Int32) =>
  bp_astI a12 xp3 x13 <|
  bp_if (x10 = xp4) (
  bp_retZ (0 : Int32)) (
  bp_retZ (1 : Int32)))))
set_option maxHeartbeats 4000000 in
set_option maxRecDepth 100000 in
theorem cnX1_pixel {G : bp_GT} (a0 : Nat) (xp1 : Int32) (xp2 : Int32) (xp3 : Int32) (xp4 : Int32) : bp_Con G iX1_pixel (ws_ iX1_pixel.1 iX1_pixel.2.1 iX1_pixel.2.2.1 iX1_pixel.2.2.2.1) [.ref a0, .int xp1, .int xp2, .int xp3, .int xp4] (PX1_pixel a0 xp1 xp2 xp3 xp4) bp_eI := by
  refine bp_con_of [(0, .ref a0), (1, .int xp1), (2, .int xp2), (3, .int xp3), (4, .int xp4)] rfl (by decide) (Nat.le_of_ble_eq_true rfl) rfl ?_
  unfold PX1_pixel
  refine bp_j_aload_n 0 dX1_pixel_0 rfl ?_
  refine bp_j_iload_n 1 dX1_pixel_1 rfl ?_
  refine bp_j_cl_N (bp_ranV (t := 0) (n := 1) (As := [.int xp1]) (cnX1_at (G := G) a0 xp1) rfl (lw_V q832 q834 qs24 q72 q835) ⟨rfl, by decide +kernel, by decide +kernel, by decide +kernel⟩ ⟨by decide, by decide⟩ (rest := []) rfl rfl (Nat.le_of_ble_eq_true rfl) dX1_pixel_2) (by decide) (fun a1 => ?_)
  refine bp_j_astore (lv' := [(5, .ref a1), (0, .ref a0), (1, .int xp1), (2, .int xp2), (3, .int xp3), (4, .int xp4)]) dX1_pixel_5 (by decide) rfl ?_
  refine bp_j_aload 0 dX1_pixel_7 rfl ?_
  refine bp_j_getN (t := 3) (k := 0) rfl (by decide) (bp_lkN q225) dX1_pixel_9 (fun _ _ _ => rfl) (fun a2 => ?_)
  refine bp_j_cl_I (bp_ranV (t := 8) (n := 0) (As := []) (cnX5_isRegion (G := G) a2 ) rfl (lw_V q912 q493 q494 q81 q495) ⟨rfl, by decide +kernel, by decide +kernel, by decide +kernel⟩ ⟨by decide, by decide⟩ (rest := []) rfl rfl (Nat.le_of_ble_eq_true rfl) dX1_pixel_12) (by decide) (fun x3 => ?_)
  refine bp_j_jm (fun k => ∀ (x4 : Int32), bp_J G iX1_pixel (bp_Qn G bp_eI) (k x4) 57 [(2, .int xp2), (3, .int xp3), (4, .int xp4), (5, .ref a1)] [.int x4]) (fun k5 hk5 => ?_) (fun x4 => ?_)
  · refine bp_j_if_eq (tgt := 52) dX1_pixel_15 (by decide) ?_ ?_
    · refine bp_j_iconst (v := 1) dX1_pixel_52 (by decide) ?_
      refine bp_j_goto (tgt := 57) dX1_pixel_53 (by decide) ?_
      exact bp_j_sub [3, 4, 5, 0] rfl (hk5 (1 : Int32))
    refine bp_j_iload_n 3 dX1_pixel_18 rfl ?_
    refine bp_j_i2l dX1_pixel_19 ?_
    refine bp_j_lconst (v := 0) dX1_pixel_20 (by decide) ?_
    refine bp_j_aload 0 dX1_pixel_21 rfl ?_
    refine bp_j_cl_I (bp_ranV (t := 3) (n := 0) (As := []) (cnX4_wide (G := G) a1 ) rfl (lw_V q913 q664 q665 q79 q666) ⟨rfl, by decide +kernel, by decide +kernel, by decide +kernel⟩ ⟨by decide, by decide⟩ (rest := [.long (0 : Int64), .long xp2.toInt64]) rfl rfl (Nat.le_of_ble_eq_true rfl) dX1_pixel_23) (by decide) (fun x19 => ?_)
    refine bp_j_iconst (v := 1) dX1_pixel_26 (by decide) ?_
    refine bp_j_isub dX1_pixel_27 ?_
    refine bp_j_i2l dX1_pixel_28 ?_
    refine bp_j_cl_I (bp_ranS (n := 3) (As := [.long xp2.toInt64, .long (0 : Int64), .long ((x19 - (1 : Int32)).toInt64)]) (cnX1_within (G := G) xp2.toInt64 (0 : Int64) ((x19 - (1 : Int32)).toInt64)) (lw_S q746 q472 q72 q473) ⟨by decide +kernel, by decide +kernel, by decide +kernel⟩ ⟨by decide, by decide⟩ (rest := []) rfl rfl (Nat.le_of_ble_eq_true rfl) dX1_pixel_29) (by decide) (fun x20 => ?_)
    refine bp_j_if_eq (tgt := 56) dX1_pixel_32 (by decide) ?_ ?_
    · refine bp_j_iconst (v := 0) dX1_pixel_56 (by decide) ?_
      exact bp_j_sub [3, 4, 5, 0] rfl (hk5 (0 : Int32))
    refine bp_j_iload_n 4 dX1_pixel_35 rfl ?_
    refine bp_j_i2l dX1_pixel_36 ?_
    refine bp_j_lconst (v := 0) dX1_pixel_37 (by decide) ?_
    refine bp_j_aload 0 dX1_pixel_38 rfl ?_
    refine bp_j_cl_I (bp_ranV (t := 3) (n := 0) (As := []) (cnX4_high (G := G) a1 ) rfl (lw_V q914 q656 q657 q79 q658) ⟨rfl, by decide +kernel, by decide +kernel, by decide +kernel⟩ ⟨by decide, by decide⟩ (rest := [.long (0 : Int64), .long xp3.toInt64]) rfl rfl (Nat.le_of_ble_eq_true rfl) dX1_pixel_40) (by decide) (fun x21 => ?_)
    refine bp_j_iconst (v := 1) dX1_pixel_43 (by decide) ?_
    refine bp_j_isub dX1_pixel_44 ?_
    refine bp_j_i2l dX1_pixel_45 ?_
    refine bp_j_cl_I (bp_ranS (n := 3) (As := [.long xp3.toInt64, .long (0 : Int64), .long ((x21 - (1 : Int32)).toInt64)]) (cnX1_within (G := G) xp3.toInt64 (0 : Int64) ((x21 - (1 : Int32)).toInt64)) (lw_S q746 q472 q72 q473) ⟨by decide +kernel, by decide +kernel, by decide +kernel⟩ ⟨by decide, by decide⟩ (rest := []) rfl rfl (Nat.le_of_ble_eq_true rfl) dX1_pixel_46) (by decide) (fun x22 => ?_)
    refine bp_j_if_eq (tgt := 56) dX1_pixel_49 (by decide) ?_ ?_
    · refine bp_j_iconst (v := 0) dX1_pixel_56 (by decide) ?_
      exact bp_j_sub [3, 4, 5, 0] rfl (hk5 (0 : Int32))
    refine bp_j_iconst (v := 1) dX1_pixel_52 (by decide) ?_
    refine bp_j_goto (tgt := 57) dX1_pixel_53 (by decide) ?_
    exact bp_j_sub [3, 4, 5, 0] rfl (hk5 (1 : Int32))
  refine bp_j_cl_U (bp_ranS (n := 1) (As := [.int x4]) (cnX1_wantIndex (G := G) x4) (lw_S q836 q837 q72 q838) ⟨by decide +kernel, by decide +kernel, by decide +kernel⟩ ⟨by decide, by decide⟩ (rest := []) rfl rfl (Nat.le_of_ble_eq_true rfl) dX1_pixel_57) (by decide) (fun _ => ?_)
  refine bp_j_aload 3 dX1_pixel_60 rfl ?_
  refine bp_j_getN (t := 3) (k := 0) rfl (by decide) (bp_lkN q225) dX1_pixel_62 (fun _ _ _ => rfl) (fun a6 => ?_)
  refine bp_j_cl_I (bp_ranV (t := 8) (n := 0) (As := []) (cnX5_isRegion (G := G) a6 ) rfl (lw_V q912 q493 q494 q81 q495) ⟨rfl, by decide +kernel, by decide +kernel, by decide +kernel⟩ ⟨by decide, by decide⟩ (rest := []) rfl rfl (Nat.le_of_ble_eq_true rfl) dX1_pixel_65) (by decide) (fun x7 => ?_)
  refine bp_j_cl_U (bp_ranS (n := 1) (As := [.int x7]) (cnX1_allow (G := G) x7) (lw_S q877 q878 q72 q879) ⟨by decide +kernel, by decide +kernel, by decide +kernel⟩ ⟨by decide, by decide⟩ (rest := []) rfl rfl (Nat.le_of_ble_eq_true rfl) dX1_pixel_68) (by decide) (fun _ => ?_)
  refine bp_j_aload 3 dX1_pixel_71 rfl ?_
  refine bp_j_getN (t := 3) (k := 9) rfl (by decide) (bp_lkN q251) dX1_pixel_73 (fun _ _ _ => rfl) (fun a8 => ?_)
  refine bp_j_iload_n 1 dX1_pixel_76 rfl ?_
  refine bp_j_iaload dX1_pixel_77 (fun x9 => ?_)
  refine bp_j_iload_n 0 dX1_pixel_78 rfl ?_
  refine bp_j_ishr dX1_pixel_79 ?_
  refine bp_j_iconst (v := 1) dX1_pixel_80 (by decide) ?_
  refine bp_j_iand dX1_pixel_81 ?_
  refine bp_j_iconst (v := 1) dX1_pixel_82 (by decide) ?_
  refine bp_j_jm (fun k => ∀ (x10 : Int32), bp_J G iX1_pixel (bp_Qn G bp_eI) (k x10) 91 [(2, .int xp2), (3, .int xp3), (4, .int xp4), (5, .ref a1)] [.int x10]) (fun k11 hk11 => ?_) (fun x10 => ?_)
  · refine bp_j_icmp_ne (tgt := 90) dX1_pixel_83 (by decide) ?_ ?_
    · refine bp_j_iconst (v := 0) dX1_pixel_90 (by decide) ?_
      exact hk11 (0 : Int32)
    refine bp_j_iconst (v := 1) dX1_pixel_86 (by decide) ?_
    refine bp_j_goto (tgt := 91) dX1_pixel_87 (by decide) ?_
    exact hk11 (1 : Int32)
  refine bp_j_istore (lv' := [(6, .int x10), (2, .int xp2), (3, .int xp3), (4, .int xp4), (5, .ref a1)]) dX1_pixel_91 (by decide) rfl ?_
  refine bp_j_aload 4 dX1_pixel_93 rfl ?_
  refine bp_j_getN (t := 3) (k := 9) rfl (by decide) (bp_lkN q251) dX1_pixel_95 (fun _ _ _ => rfl) (fun a12 => ?_)
  refine bp_j_iload_n 2 dX1_pixel_98 rfl ?_
  refine bp_j_iload 3 dX1_pixel_99 rfl ?_
  refine bp_j_jm (fun k => ∀ (x13 : Int32), bp_J G iX1_pixel (bp_Qn G bp_eI) (k x13) 131 [(4, .int xp4), (6, .int x10)] [.int x13, .int xp3, .ref a12]) (fun k14 hk14 => ?_) (fun x13 => ?_)
  · refine bp_j_if_eq (tgt := 118) dX1_pixel_101 (by decide) ?_ ?_
    · refine bp_j_aload 4 dX1_pixel_118 rfl ?_
      refine bp_j_getN (t := 3) (k := 9) rfl (by decide) (bp_lkN q251) dX1_pixel_120 (fun _ _ _ => rfl) (fun a15 => ?_)
      refine bp_j_iload_n 2 dX1_pixel_123 rfl ?_
      refine bp_j_iaload dX1_pixel_124 (fun x16 => ?_)
      refine bp_j_iconst (v := 1) dX1_pixel_125 (by decide) ?_
      refine bp_j_iload_n 1 dX1_pixel_126 rfl ?_
      refine bp_j_ishl dX1_pixel_127 ?_
      refine bp_j_iconst (v := -1) dX1_pixel_128 (by decide) ?_
      refine bp_j_ixor dX1_pixel_129 ?_
      refine bp_j_iand dX1_pixel_130 ?_
      exact bp_j_sub [3, 0] rfl (hk14 (x16 &&& (((1 : Int32) <<< (xp2 &&& 31)) ^^^ (-1 : Int32))))
    refine bp_j_aload 4 dX1_pixel_104 rfl ?_
    refine bp_j_getN (t := 3) (k := 9) rfl (by decide) (bp_lkN q251) dX1_pixel_106 (fun _ _ _ => rfl) (fun a17 => ?_)
    refine bp_j_iload_n 2 dX1_pixel_109 rfl ?_
    refine bp_j_iaload dX1_pixel_110 (fun x18 => ?_)
    refine bp_j_iconst (v := 1) dX1_pixel_111 (by decide) ?_
    refine bp_j_iload_n 1 dX1_pixel_112 rfl ?_
    refine bp_j_ishl dX1_pixel_113 ?_
    refine bp_j_ior dX1_pixel_114 ?_
    refine bp_j_goto (tgt := 131) dX1_pixel_115 (by decide) ?_
    exact bp_j_sub [3, 0] rfl (hk14 (x18 ||| ((1 : Int32) <<< (xp2 &&& 31))))
  refine bp_j_iastore dX1_pixel_131 ?_
  refine bp_j_iload 1 dX1_pixel_132 rfl ?_
  refine bp_j_iload 0 dX1_pixel_134 rfl ?_
  refine bp_j_icmp_eq (tgt := 143) dX1_pixel_136 (by decide) ?_ ?_
  · refine bp_j_iconst (v := 0) dX1_pixel_143 (by decide) ?_
    exact bp_j_zret rfl dX1_pixel_144
  refine bp_j_iconst (v := 1) dX1_pixel_139 (by decide) ?_
  refine bp_j_goto (tgt := 144) dX1_pixel_140 (by decide) ?_
  exact bp_j_zret rfl dX1_pixel_144
/-- BilevelPages.refers(II)Z -/
abbrev iX1_refers : bp_MI := (yX1_refers, cX1_refers, 6, some (Jvm.ClassFile.FieldType.boolean), [], 8, 141)
def BX1_refers_37 (a0 : Nat) (xp1 : Int32) (xp2 : Int32) (k6 : Int32 → bp_M Int32) (k14 : Int32 → Int32 → bp_M Int32) : Int32 → Int32 → bp_M Int32 :=
  fun x12 x13 =>
  bp_if (xp1 ≤ x13) (
  k6 x12) (
  bp_if (x12 = 0) (
  k6 x12) (
  bp_getN 0 1 a0 fun a15 =>
  bp_bind (bp_is 6 a15 (PJ2_get a15 x13)) fun a16 =>
  bp_is 3 a16 <|
  bp_bind (bp_is 3 a16 (PX4_letsGo a16 xp2)) fun x17 =>
  bp_jn (fun (k19 : Int32 → bp_M Int32) =>
  bp_if (x17 = 0) (
  k19 (1 : Int32)) (
  k19 (0 : Int32))) (fun (x18 : Int32) =>
  bp_letI (x13 + (1 : Int32)) fun x20 =>
  k14 x18 x20)))
def PX1_refers (a0 : Nat) (xp1 : Int32) (xp2 : Int32) : bp_M Int32 :=
  bp_bind (bp_is 0 a0 (PX1_at a0 xp1)) fun a1 =>
  bp_bind (PX1_within xp2.toInt64 (0 : Int64) (xp1.toInt64 - (1 : Int64))) fun x2 =>
  bp_jn (fun (k4 : Int32 → bp_M Int32) =>
  bp_if (x2 = 0) (
  k4 (0 : Int32)) (
  bp_bind (bp_is 3 a1 (PX4_placeOf a1 xp2)) fun x21 =>
  bp_if (0 ≤ x21) (
  k4 (0 : Int32)) (
  k4 (1 : Int32)))) (fun (x3 : Int32) =>
  bp_jn (fun (k6 : Int32 → bp_M Int32) =>
  bp_loop (fun _ _ => bp_no) (BX1_refers_37 a0 xp1 xp2 k6) (fun k => k x3 (0 : Int32))) (fun (x5 : Int32) =>
  bp_if (x5 = 0) (
  bp_retZ (0 : Int32)) (
  bp_getI 3 4 a1 fun x7 =>
  bp_jn (fun (k9 : Int32 → bp_M Int32) =>
  bp_if ((10 : Int32) ≤ x7) (
  k9 (0 : Int32)) (
  k9 (1 : Int32))) (fun (x8 : Int32) =>
  bp_bind (PX1_wantRoom x8) fun _ =>
  bp_getN 3 3 a1 fun a10 =>
  bp_getI 3 4 a1 fun x11 =>
  bp_putI 3 4 a1 (x11 + (1 : Int32)) <|
  bp_astI a10 x11 xp2 <|
  bp_retZ (1 : Int32)))))
set_option maxHeartbeats 4000000 in
set_option maxRecDepth 100000 in
theorem cnX1_refers {G : bp_GT} (a0 : Nat) (xp1 : Int32) (xp2 : Int32) : bp_Con G iX1_refers (ws_ iX1_refers.1 iX1_refers.2.1 iX1_refers.2.2.1 iX1_refers.2.2.2.1) [.ref a0, .int xp1, .int xp2] (PX1_refers a0 xp1 xp2) bp_eI := by
  refine bp_con_of [(0, .ref a0), (1, .int xp1), (2, .int xp2)] rfl (by decide) (Nat.le_of_ble_eq_true rfl) rfl ?_
  unfold PX1_refers
  refine bp_j_aload_n 0 dX1_refers_0 rfl ?_
  refine bp_j_iload_n 1 dX1_refers_1 rfl ?_
  refine bp_j_cl_N (bp_ranV (t := 0) (n := 1) (As := [.int xp1]) (cnX1_at (G := G) a0 xp1) rfl (lw_V q832 q834 qs24 q72 q835) ⟨rfl, by decide +kernel, by decide +kernel, by decide +kernel⟩ ⟨by decide, by decide⟩ (rest := []) rfl rfl (Nat.le_of_ble_eq_true rfl) dX1_refers_2) (by decide) (fun a1 => ?_)
  refine bp_j_astore_n (lv' := [(3, .ref a1), (0, .ref a0), (1, .int xp1), (2, .int xp2)]) dX1_refers_5 (by decide) rfl ?_
  refine bp_j_iload_n 3 dX1_refers_6 rfl ?_
  refine bp_j_i2l dX1_refers_7 ?_
  refine bp_j_lconst (v := 0) dX1_refers_8 (by decide) ?_
  refine bp_j_iload_n 2 dX1_refers_9 rfl ?_
  refine bp_j_i2l dX1_refers_10 ?_
  refine bp_j_lconst (v := 1) dX1_refers_11 (by decide) ?_
  refine bp_j_lsub dX1_refers_12 ?_
  refine bp_j_cl_I (bp_ranS (n := 3) (As := [.long xp2.toInt64, .long (0 : Int64), .long (xp1.toInt64 - (1 : Int64))]) (cnX1_within (G := G) xp2.toInt64 (0 : Int64) (xp1.toInt64 - (1 : Int64))) (lw_S q746 q472 q72 q473) ⟨by decide +kernel, by decide +kernel, by decide +kernel⟩ ⟨by decide, by decide⟩ (rest := []) rfl rfl (Nat.le_of_ble_eq_true rfl) dX1_refers_13) (by decide) (fun x2 => ?_)
  refine bp_j_jm (fun k => ∀ (x3 : Int32), bp_J G iX1_refers (bp_Qn G bp_eI) (k x3) 32 [(0, .ref a0), (1, .int xp1), (2, .int xp2), (3, .ref a1)] [.int x3]) (fun k4 hk4 => ?_) (fun x3 => ?_)
  · refine bp_j_if_eq (tgt := 31) dX1_refers_16 (by decide) ?_ ?_
    · refine bp_j_iconst (v := 0) dX1_refers_31 (by decide) ?_
      exact bp_j_sub [1, 2, 3, 0] rfl (hk4 (0 : Int32))
    refine bp_j_aload_n 0 dX1_refers_19 rfl ?_
    refine bp_j_iload_n 3 dX1_refers_20 rfl ?_
    refine bp_j_cl_I (bp_ranV (t := 3) (n := 1) (As := [.int xp2]) (cnX4_placeOf (G := G) a1 xp2) rfl (lw_V q855 q591 q592 q79 q593) ⟨rfl, by decide +kernel, by decide +kernel, by decide +kernel⟩ ⟨by decide, by decide⟩ (rest := []) rfl rfl (Nat.le_of_ble_eq_true rfl) dX1_refers_21) (by decide) (fun x21 => ?_)
    refine bp_j_if_ge (tgt := 31) dX1_refers_24 (by decide) ?_ ?_
    · refine bp_j_iconst (v := 0) dX1_refers_31 (by decide) ?_
      exact bp_j_sub [1, 2, 3, 0] rfl (hk4 (0 : Int32))
    refine bp_j_iconst (v := 1) dX1_refers_27 (by decide) ?_
    refine bp_j_goto (tgt := 32) dX1_refers_28 (by decide) ?_
    exact bp_j_sub [1, 2, 3, 0] rfl (hk4 (1 : Int32))
  refine bp_j_istore (lv' := [(4, .int x3), (0, .ref a0), (1, .int xp1), (2, .int xp2), (3, .ref a1)]) dX1_refers_32 (by decide) rfl ?_
  refine bp_j_iconst (v := 0) dX1_refers_34 (by decide) ?_
  refine bp_j_istore (lv' := [(5, .int (0 : Int32)), (4, .int x3), (0, .ref a0), (1, .int xp1), (2, .int xp2), (3, .ref a1)]) dX1_refers_35 (by decide) rfl ?_
  refine bp_j_jm (fun k => ∀ (x5 : Int32), bp_J G iX1_refers (bp_Qn G bp_eI) (k x5) 80 [(2, .int xp2), (3, .ref a1), (4, .int x5)] []) (fun k6 hk6 => ?_) (fun x5 => ?_)
  · refine bp_j_loop (fun k => ∀ (x12 : Int32) (x13 : Int32), bp_J G iX1_refers (bp_Qn G bp_eI) (k x12 x13) 37 [(0, .ref a0), (1, .int xp1), (2, .int xp2), (3, .ref a1), (4, .int x12), (5, .int x13)] []) (fun _ _ => bp_j_no) (fun k14 hk14 x12 x13 => ?_) (fun k h => bp_j_sub [2, 3, 4, 5, 1, 0] rfl (h x3 (0 : Int32)))
    unfold BX1_refers_37
    refine bp_j_iload 5 dX1_refers_37 rfl ?_
    refine bp_j_iload_n 1 dX1_refers_39 rfl ?_
    refine bp_j_icmp_ge (tgt := 80) dX1_refers_40 (by decide) ?_ ?_
    · exact bp_j_sub [2, 3, 4] rfl (hk6 x12)
    refine bp_j_iload 4 dX1_refers_43 rfl ?_
    refine bp_j_if_eq (tgt := 80) dX1_refers_45 (by decide) ?_ ?_
    · exact bp_j_sub [2, 3, 4] rfl (hk6 x12)
    refine bp_j_aload_n 0 dX1_refers_48 rfl ?_
    refine bp_j_getN (t := 0) (k := 1) rfl (by decide) (bp_lk q290) dX1_refers_49 (fun _ _ _ => rfl) (fun a15 => ?_)
    refine bp_j_iload 5 dX1_refers_52 rfl ?_
    refine bp_j_cl_N (bp_ranV (t := 6) (n := 1) (As := [.int x13]) (cnJ2_get (G := G) a15 x13) rfl (lw_V q854 q576 q577 q75 q578) ⟨rfl, by decide +kernel, by decide +kernel, by decide +kernel⟩ ⟨by decide, by decide⟩ (rest := []) rfl rfl (Nat.le_of_ble_eq_true rfl) dX1_refers_54) (by decide) (fun a16 => ?_)
    refine bp_j_castS (t := 3) rfl q136 dX1_refers_57 ?_
    refine bp_j_iload_n 2 dX1_refers_60 rfl ?_
    refine bp_j_cl_I (bp_ranV (t := 3) (n := 1) (As := [.int xp2]) (cnX4_letsGo (G := G) a16 xp2) rfl (lw_V q856 q857 q858 q79 q859) ⟨rfl, by decide +kernel, by decide +kernel, by decide +kernel⟩ ⟨by decide, by decide⟩ (rest := []) rfl rfl (Nat.le_of_ble_eq_true rfl) dX1_refers_61) (by decide) (fun x17 => ?_)
    refine bp_j_jm (fun k => ∀ (x18 : Int32), bp_J G iX1_refers (bp_Qn G bp_eI) (k x18) 72 [(0, .ref a0), (1, .int xp1), (2, .int xp2), (3, .ref a1), (5, .int x13)] [.int x18]) (fun k19 hk19 => ?_) (fun x18 => ?_)
    · refine bp_j_if_ne (tgt := 71) dX1_refers_64 (by decide) ?_ ?_
      · refine bp_j_iconst (v := 0) dX1_refers_71 (by decide) ?_
        exact bp_j_sub [0, 1, 2, 3, 5] rfl (hk19 (0 : Int32))
      refine bp_j_iconst (v := 1) dX1_refers_67 (by decide) ?_
      refine bp_j_goto (tgt := 72) dX1_refers_68 (by decide) ?_
      exact bp_j_sub [0, 1, 2, 3, 5] rfl (hk19 (1 : Int32))
    refine bp_j_istore (lv' := [(4, .int x18), (0, .ref a0), (1, .int xp1), (2, .int xp2), (3, .ref a1), (5, .int x13)]) dX1_refers_72 (by decide) rfl ?_
    refine bp_j_iincL (lv' := fun x20 => [(5, .int x20), (4, .int x18), (0, .ref a0), (1, .int xp1), (2, .int xp2), (3, .ref a1)]) 5 dX1_refers_74 rfl (by decide) (by decide) (fun _ => rfl) (fun x20 => ?_)
    refine bp_j_goto (tgt := 37) dX1_refers_77 (by decide) ?_
    exact bp_j_sub [2, 3, 4, 5, 1, 0] rfl (hk14 x18 x20)
  refine bp_j_iload 2 dX1_refers_80 rfl ?_
  refine bp_j_if_ne (tgt := 87) dX1_refers_82 (by decide) ?_ ?_
  · refine bp_j_aload_n 1 dX1_refers_87 rfl ?_
    refine bp_j_getI (t := 3) (k := 4) rfl (by decide) (bp_lkN q237) dX1_refers_88 (fun _ _ _ => rfl) (fun x7 => ?_)
    refine bp_j_bipush (v := 10) dX1_refers_91 (by decide) ?_
    refine bp_j_jm (fun k => ∀ (x8 : Int32), bp_J G iX1_refers (bp_Qn G bp_eI) (k x8) 101 [(2, .int xp2), (3, .ref a1)] [.int x8]) (fun k9 hk9 => ?_) (fun x8 => ?_)
    · refine bp_j_icmp_ge (tgt := 100) dX1_refers_93 (by decide) ?_ ?_
      · refine bp_j_iconst (v := 0) dX1_refers_100 (by decide) ?_
        exact bp_j_sub [0, 1] rfl (hk9 (0 : Int32))
      refine bp_j_iconst (v := 1) dX1_refers_96 (by decide) ?_
      refine bp_j_goto (tgt := 101) dX1_refers_97 (by decide) ?_
      exact bp_j_sub [0, 1] rfl (hk9 (1 : Int32))
    refine bp_j_cl_U (bp_ranS (n := 1) (As := [.int x8]) (cnX1_wantRoom (G := G) x8) (lw_S q773 q774 q72 q775) ⟨by decide +kernel, by decide +kernel, by decide +kernel⟩ ⟨by decide, by decide⟩ (rest := []) rfl rfl (Nat.le_of_ble_eq_true rfl) dX1_refers_101) (by decide) (fun _ => ?_)
    refine bp_j_aload_n 1 dX1_refers_104 rfl ?_
    refine bp_j_getN (t := 3) (k := 3) rfl (by decide) (bp_lkN q234) dX1_refers_105 (fun _ _ _ => rfl) (fun a10 => ?_)
    refine bp_j_aload_n 1 dX1_refers_108 rfl ?_
    refine bp_j_dup dX1_refers_109 rfl ?_
    refine bp_j_getI (t := 3) (k := 4) rfl (by decide) (bp_lkN q237) dX1_refers_110 (fun _ _ _ => rfl) (fun x11 => ?_)
    refine bp_j_dup_x1 dX1_refers_113 rfl rfl ?_
    refine bp_j_iconst (v := 1) dX1_refers_114 (by decide) ?_
    refine bp_j_iadd dX1_refers_115 ?_
    refine bp_j_putI (t := 3) (k := 4) rfl (by decide) (by decide) (bp_lkN q237) rfl dX1_refers_116 rfl ?_
    refine bp_j_iload_n 0 dX1_refers_119 rfl ?_
    refine bp_j_iastore dX1_refers_120 ?_
    refine bp_j_iconst (v := 1) dX1_refers_121 (by decide) ?_
    exact bp_j_zret rfl dX1_refers_122
  refine bp_j_iconst (v := 0) dX1_refers_85 (by decide) ?_
  exact bp_j_zret rfl dX1_refers_86
/-- BilevelPages.kindOf(I)LBilevelPages$Kind; -/
abbrev iX1_kindOf : bp_MI := (yX1_kindOf, cX1_kindOf, 5, some ((Jvm.ClassFile.FieldType.object "BilevelPages$Kind")), [], 0, 0)
def BX1_kindOf_9 (xp0 : Int32) (a1 : Nat) (x2 : Int32) (k4 : Int32 → bp_M (Option Nat)) : Int32 → bp_M (Option Nat) :=
  fun x3 =>
  bp_if (x2 ≤ x3) (
  bp_ret none) (
  bp_aldN 26 a1 x3 fun a5 =>
  bp_getI 8 0 a5 fun x6 =>
  bp_if (x6 = xp0) (
  bp_ret (some a5)) (
  bp_letI (x3 + (1 : Int32)) fun x7 =>
  k4 x7))
def PX1_kindOf (xp0 : Int32) : bp_M (Option Nat) :=
  bp_gets 0 fun a1 =>
  bp_alen 26 a1 fun x2 =>
  bp_loop (fun _ => bp_no) (BX1_kindOf_9 xp0 a1 x2) (fun k => k (0 : Int32))
set_option maxHeartbeats 4000000 in
set_option maxRecDepth 100000 in
theorem cnX1_kindOf {G : bp_GT} (xp0 : Int32) : bp_Con G iX1_kindOf (ws_ iX1_kindOf.1 iX1_kindOf.2.1 iX1_kindOf.2.2.1 iX1_kindOf.2.2.2.1) [.int xp0] (PX1_kindOf xp0) bp_eR := by
  refine bp_con_of [(0, .int xp0)] rfl (by decide) (Nat.le_of_ble_eq_true rfl) rfl ?_
  unfold PX1_kindOf
  refine bp_j_gets (j := 0) rfl (bp_lk q465) dX1_kindOf_0 (fun a1 => ?_)
  refine bp_j_astore_n (lv' := [(1, .ref a1), (0, .int xp0)]) dX1_kindOf_3 (by decide) rfl ?_
  refine bp_j_aload_n 0 dX1_kindOf_4 rfl ?_
  refine bp_j_alen (t := 26) rfl dX1_kindOf_5 (fun x2 => ?_)
  refine bp_j_istore_n (lv' := [(2, .int x2), (1, .ref a1), (0, .int xp0)]) dX1_kindOf_6 (by decide) rfl ?_
  refine bp_j_iconst (v := 0) dX1_kindOf_7 (by decide) ?_
  refine bp_j_istore_n (lv' := [(3, .int (0 : Int32)), (2, .int x2), (1, .ref a1), (0, .int xp0)]) dX1_kindOf_8 (by decide) rfl ?_
  refine bp_j_loop (fun k => ∀ (x3 : Int32), bp_J G iX1_kindOf (bp_Qn G bp_eR) (k x3) 9 [(0, .int xp0), (1, .ref a1), (2, .int x2), (3, .int x3)] []) (fun _ => bp_j_no) (fun k4 hk4 x3 => ?_) (fun k h => bp_j_sub [3, 2, 1, 0] rfl (h (0 : Int32)))
  unfold BX1_kindOf_9
  refine bp_j_iload_n 3 dX1_kindOf_9 rfl ?_
  refine bp_j_iload_n 2 dX1_kindOf_10 rfl ?_
  refine bp_j_icmp_ge (tgt := 37) dX1_kindOf_11 (by decide) ?_ ?_
  · refine bp_j_null dX1_kindOf_37 ?_
    exact bp_j_aretR rfl (Or.inl ⟨_, rfl⟩) dX1_kindOf_38
  refine bp_j_aload_n 1 dX1_kindOf_14 rfl ?_
  refine bp_j_iload_n 3 dX1_kindOf_15 rfl ?_
  refine bp_j_aaloadN (t := 26) rfl dX1_kindOf_16 (fun a5 => ?_)
  refine bp_j_astore (lv' := [(4, .ref a5), (0, .int xp0), (1, .ref a1), (2, .int x2), (3, .int x3)]) dX1_kindOf_17 (by decide) rfl ?_
  refine bp_j_aload 0 dX1_kindOf_19 rfl ?_
  refine bp_j_getI (t := 8) (k := 0) rfl (by decide) (bp_lkN q1524) dX1_kindOf_21 (fun _ _ _ => rfl) (fun x6 => ?_)
  refine bp_j_iload_n 1 dX1_kindOf_24 rfl ?_
  refine bp_j_icmp_ne (tgt := 31) dX1_kindOf_25 (by decide) ?_ ?_
  · refine bp_j_iincL (lv' := fun x7 => [(3, .int x7), (4, .ref a5), (0, .int xp0), (1, .ref a1), (2, .int x2)]) 4 dX1_kindOf_31 rfl (by decide) (by decide) (fun _ => rfl) (fun x7 => ?_)
    refine bp_j_goto (tgt := 9) dX1_kindOf_34 (by decide) ?_
    exact bp_j_sub [2, 3, 4, 0] rfl (hk4 x7)
  refine bp_j_aload 0 dX1_kindOf_28 rfl ?_
  exact bp_j_aretR rfl (Or.inl ⟨_, rfl⟩) dX1_kindOf_30
/-- BilevelPages.segment(II)I -/
abbrev iX1_segment : bp_MI := (yX1_segment, cX1_segment, 4, some (Jvm.ClassFile.FieldType.int), [], 7, 211)
def PX1_segment (a0 : Nat) (xp1 : Int32) (xp2 : Int32) : bp_M Int32 :=
  bp_bind (PX1_kindOf xp1) fun r1 =>
  bp_jn (fun (k3 : Int32 → bp_M Int32) =>
  bp_if (r1 = none) (
  k3 (0 : Int32)) (
  bp_bind (PX1_within xp2.toInt64 (0 : Int64) (9 : Int64)) fun x20 =>
  bp_if (x20 = 0) (
  k3 (0 : Int32)) (
  k3 (1 : Int32)))) (fun (x2 : Int32) =>
  bp_bind (PX1_want x2) fun _ =>
  bp_getN 0 1 a0 fun a4 =>
  bp_bind (bp_is 6 a4 (PJ2_size a4)) fun x5 =>
  bp_jn (fun (k7 : Int32 → bp_M Int32) =>
  bp_if ((30 : Int32) ≤ x5) (
  k7 (0 : Int32)) (
  k7 (1 : Int32))) (fun (x6 : Int32) =>
  bp_bind (PX1_wantRoom x6) fun _ =>
  bp_getN 0 1 a0 fun a8 =>
  bp_getN 0 2 a0 fun a9 =>
  bp_getN 0 1 a0 fun a10 =>
  bp_bind (bp_is 6 a10 (PJ2_size a10)) fun x11 =>
  bp_aldN 24 a9 x11 fun a12 =>
  bp_getN 0 1 a0 fun a13 =>
  bp_bind (bp_is 6 a13 (PJ2_size a13)) fun x14 =>
  bp_nn r1 fun a15 =>
  bp_bind (bp_is 3 a12 (PX4_begin a12 a15 xp2 x14)) fun a16 =>
  bp_bind (bp_is 6 a8 (PJ2_add a8 a16)) fun x17 =>
  bp_getN 0 1 a0 fun a18 =>
  bp_bind (bp_is 6 a18 (PJ2_size a18)) fun x19 =>
  bp_ret (x19 - (1 : Int32))))
set_option maxHeartbeats 4000000 in
set_option maxRecDepth 100000 in
theorem cnX1_segment {G : bp_GT} (a0 : Nat) (xp1 : Int32) (xp2 : Int32) : bp_Con G iX1_segment (ws_ iX1_segment.1 iX1_segment.2.1 iX1_segment.2.2.1 iX1_segment.2.2.2.1) [.ref a0, .int xp1, .int xp2] (PX1_segment a0 xp1 xp2) bp_eI := by
  refine bp_con_of [(0, .ref a0), (1, .int xp1), (2, .int xp2)] rfl (by decide) (Nat.le_of_ble_eq_true rfl) rfl ?_
  unfold PX1_segment
  refine bp_j_iload_n 1 dX1_segment_0 rfl ?_
  refine bp_j_cl_R (bp_ranS (n := 1) (As := [.int xp1]) (cnX1_kindOf (G := G) xp1) (lw_S q744 q463 q72 q464) ⟨by decide +kernel, by decide +kernel, by decide +kernel⟩ ⟨by decide, by decide⟩ (rest := []) rfl rfl (Nat.le_of_ble_eq_true rfl) dX1_segment_1) (by decide) (fun r1 => ?_)
  refine bp_j_astore_nR (lv' := [(3, va_rf r1), (0, .ref a0), (1, .int xp1), (2, .int xp2)]) dX1_segment_4 (by decide) rfl ?_
  refine bp_j_aload_nR 0 dX1_segment_5 rfl ?_
  refine bp_j_jm (fun k => ∀ (x2 : Int32), bp_J G iX1_segment (bp_Qn G bp_eI) (k x2) 26 [(0, .ref a0), (2, .int xp2), (3, va_rf r1)] [.int x2]) (fun k3 hk3 => ?_) (fun x2 => ?_)
  · refine bp_j_ifnull (x := r1) (tgt := 25) dX1_segment_6 (by decide) ?_ ?_
    · refine bp_j_iconst (v := 0) dX1_segment_25 (by decide) ?_
      exact bp_j_sub [1, 3, 0] rfl (hk3 (0 : Int32))
    refine bp_j_iload_n 3 dX1_segment_9 rfl ?_
    refine bp_j_i2l dX1_segment_10 ?_
    refine bp_j_lconst (v := 0) dX1_segment_11 (by decide) ?_
    refine bp_j_ldc2 q745 dX1_segment_12 ?_
    refine bp_j_cl_I (bp_ranS (n := 3) (As := [.long xp2.toInt64, .long (0 : Int64), .long (9 : Int64)]) (cnX1_within (G := G) xp2.toInt64 (0 : Int64) (9 : Int64)) (lw_S q746 q472 q72 q473) ⟨by decide +kernel, by decide +kernel, by decide +kernel⟩ ⟨by decide, by decide⟩ (rest := []) rfl rfl (Nat.le_of_ble_eq_true rfl) dX1_segment_15) (by decide) (fun x20 => ?_)
    refine bp_j_if_eq (tgt := 25) dX1_segment_18 (by decide) ?_ ?_
    · refine bp_j_iconst (v := 0) dX1_segment_25 (by decide) ?_
      exact bp_j_sub [1, 3, 0] rfl (hk3 (0 : Int32))
    refine bp_j_iconst (v := 1) dX1_segment_21 (by decide) ?_
    refine bp_j_goto (tgt := 26) dX1_segment_22 (by decide) ?_
    exact bp_j_sub [1, 3, 0] rfl (hk3 (1 : Int32))
  refine bp_j_cl_U (bp_ranS (n := 1) (As := [.int x2]) (cnX1_want (G := G) x2) (lw_S q747 q748 q72 q749) ⟨by decide +kernel, by decide +kernel, by decide +kernel⟩ ⟨by decide, by decide⟩ (rest := []) rfl rfl (Nat.le_of_ble_eq_true rfl) dX1_segment_26) (by decide) (fun _ => ?_)
  refine bp_j_aload_n 0 dX1_segment_29 rfl ?_
  refine bp_j_getN (t := 0) (k := 1) rfl (by decide) (bp_lk q290) dX1_segment_30 (fun _ _ _ => rfl) (fun a4 => ?_)
  refine bp_j_cl_I (bp_ranV (t := 6) (n := 0) (As := []) (cnJ2_size (G := G) a4 ) rfl (lw_V q719 q475 q476 q75 q477) ⟨rfl, by decide +kernel, by decide +kernel, by decide +kernel⟩ ⟨by decide, by decide⟩ (rest := []) rfl rfl (Nat.le_of_ble_eq_true rfl) dX1_segment_33) (by decide) (fun x5 => ?_)
  refine bp_j_bipush (v := 30) dX1_segment_36 (by decide) ?_
  refine bp_j_jm (fun k => ∀ (x6 : Int32), bp_J G iX1_segment (bp_Qn G bp_eI) (k x6) 46 [(0, .ref a0), (2, .int xp2), (3, va_rf r1)] [.int x6]) (fun k7 hk7 => ?_) (fun x6 => ?_)
  · refine bp_j_icmp_ge (tgt := 45) dX1_segment_38 (by decide) ?_ ?_
    · refine bp_j_iconst (v := 0) dX1_segment_45 (by decide) ?_
      exact hk7 (0 : Int32)
    refine bp_j_iconst (v := 1) dX1_segment_41 (by decide) ?_
    refine bp_j_goto (tgt := 46) dX1_segment_42 (by decide) ?_
    exact hk7 (1 : Int32)
  refine bp_j_cl_U (bp_ranS (n := 1) (As := [.int x6]) (cnX1_wantRoom (G := G) x6) (lw_S q773 q774 q72 q775) ⟨by decide +kernel, by decide +kernel, by decide +kernel⟩ ⟨by decide, by decide⟩ (rest := []) rfl rfl (Nat.le_of_ble_eq_true rfl) dX1_segment_46) (by decide) (fun _ => ?_)
  refine bp_j_aload_n 0 dX1_segment_49 rfl ?_
  refine bp_j_getN (t := 0) (k := 1) rfl (by decide) (bp_lk q290) dX1_segment_50 (fun _ _ _ => rfl) (fun a8 => ?_)
  refine bp_j_aload_n 0 dX1_segment_53 rfl ?_
  refine bp_j_getN (t := 0) (k := 2) rfl (by decide) (bp_lk q291) dX1_segment_54 (fun _ _ _ => rfl) (fun a9 => ?_)
  refine bp_j_aload_n 0 dX1_segment_57 rfl ?_
  refine bp_j_getN (t := 0) (k := 1) rfl (by decide) (bp_lk q290) dX1_segment_58 (fun _ _ _ => rfl) (fun a10 => ?_)
  refine bp_j_cl_I (bp_ranV (t := 6) (n := 0) (As := []) (cnJ2_size (G := G) a10 ) rfl (lw_V q719 q475 q476 q75 q477) ⟨rfl, by decide +kernel, by decide +kernel, by decide +kernel⟩ ⟨by decide, by decide⟩ (rest := [.ref a9, .ref a8]) rfl rfl (Nat.le_of_ble_eq_true rfl) dX1_segment_61) (by decide) (fun x11 => ?_)
  refine bp_j_aaloadN (t := 24) rfl dX1_segment_64 (fun a12 => ?_)
  refine bp_j_aload_nR 2 dX1_segment_65 rfl ?_
  refine bp_j_iload_n 1 dX1_segment_66 rfl ?_
  refine bp_j_aload_n 0 dX1_segment_67 rfl ?_
  refine bp_j_getN (t := 0) (k := 1) rfl (by decide) (bp_lk q290) dX1_segment_68 (fun _ _ _ => rfl) (fun a13 => ?_)
  refine bp_j_cl_I (bp_ranV (t := 6) (n := 0) (As := []) (cnJ2_size (G := G) a13 ) rfl (lw_V q719 q475 q476 q75 q477) ⟨rfl, by decide +kernel, by decide +kernel, by decide +kernel⟩ ⟨by decide, by decide⟩ (rest := [.int xp2, va_rf r1, .ref a12, .ref a8]) rfl rfl (by cases r1 <;> exact Nat.le_of_ble_eq_true rfl) dX1_segment_71) (by decide) (fun x14 => ?_)
  refine bp_j_nz (fun a15 ea15 => ?_)
  subst ea15
  refine bp_j_cl_N (bp_ranV (t := 3) (n := 3) (As := [.ref a15, .int xp2, .int x14]) (cnX4_begin (G := G) a12 a15 xp2 x14) rfl (lw_V q791 q479 q480 q79 q481) ⟨rfl, by decide +kernel, by decide +kernel, by decide +kernel⟩ ⟨by decide, by decide⟩ (rest := [.ref a8]) rfl rfl (Nat.le_of_ble_eq_true rfl) dX1_segment_74) (by decide) (fun a16 => ?_)
  refine bp_j_cl_I (bp_ranV (t := 6) (n := 1) (As := [.ref a16]) (cnJ2_add (G := G) a8 a16) rfl (lw_V q792 q509 q510 q75 q511) ⟨rfl, by decide +kernel, by decide +kernel, by decide +kernel⟩ ⟨by decide, by decide⟩ (rest := []) rfl rfl (Nat.le_of_ble_eq_true rfl) dX1_segment_77) (by decide) (fun x17 => ?_)
  refine bp_j_pop dX1_segment_80 rfl ?_
  refine bp_j_aload_n 0 dX1_segment_81 rfl ?_
  refine bp_j_getN (t := 0) (k := 1) rfl (by decide) (bp_lk q290) dX1_segment_82 (fun _ _ _ => rfl) (fun a18 => ?_)
  refine bp_j_cl_I (bp_ranV (t := 6) (n := 0) (As := []) (cnJ2_size (G := G) a18 ) rfl (lw_V q719 q475 q476 q75 q477) ⟨rfl, by decide +kernel, by decide +kernel, by decide +kernel⟩ ⟨by decide, by decide⟩ (rest := []) rfl rfl (Nat.le_of_ble_eq_true rfl) dX1_segment_85) (by decide) (fun x19 => ?_)
  refine bp_j_iconst (v := 1) dX1_segment_88 (by decide) ?_
  refine bp_j_isub dX1_segment_89 ?_
  exact bp_j_iret rfl dX1_segment_90
/-- BilevelPages.stripe(II)I -/
abbrev iX1_stripe : bp_MI := (yX1_stripe, cX1_stripe, 4, some (Jvm.ClassFile.FieldType.int), [], 8, 141)
def PX1_stripe (a0 : Nat) (xp1 : Int32) (xp2 : Int32) : bp_M Int32 :=
  bp_bind (bp_is 0 a0 (PX1_sheet a0 xp1)) fun a1 =>
  bp_getI 2 2 a1 fun x2 =>
  bp_bind (PX1_within xp2.toInt64 (0 : Int64) ((x2 - (1 : Int32)).toInt64)) fun x3 =>
  bp_bind (PX1_wantIndex x3) fun _ =>
  bp_getN 2 1 a1 fun a4 =>
  bp_aldI 20 a4 xp2 fun x5 =>
  bp_ret x5
set_option maxHeartbeats 4000000 in
set_option maxRecDepth 100000 in
theorem cnX1_stripe {G : bp_GT} (a0 : Nat) (xp1 : Int32) (xp2 : Int32) : bp_Con G iX1_stripe (ws_ iX1_stripe.1 iX1_stripe.2.1 iX1_stripe.2.2.1 iX1_stripe.2.2.2.1) [.ref a0, .int xp1, .int xp2] (PX1_stripe a0 xp1 xp2) bp_eI := by
  refine bp_con_of [(0, .ref a0), (1, .int xp1), (2, .int xp2)] rfl (by decide) (Nat.le_of_ble_eq_true rfl) rfl ?_
  unfold PX1_stripe
  refine bp_j_aload_n 0 dX1_stripe_0 rfl ?_
  refine bp_j_iload_n 1 dX1_stripe_1 rfl ?_
  refine bp_j_cl_N (bp_ranV (t := 0) (n := 1) (As := [.int xp1]) (cnX1_sheet (G := G) a0 xp1) rfl (lw_V q1051 q1053 qs33 q72 q1054) ⟨rfl, by decide +kernel, by decide +kernel, by decide +kernel⟩ ⟨by decide, by decide⟩ (rest := []) rfl rfl (Nat.le_of_ble_eq_true rfl) dX1_stripe_2) (by decide) (fun a1 => ?_)
  refine bp_j_astore_n (lv' := [(3, .ref a1), (0, .ref a0), (1, .int xp1), (2, .int xp2)]) dX1_stripe_5 (by decide) rfl ?_
  refine bp_j_iload_n 3 dX1_stripe_6 rfl ?_
  refine bp_j_i2l dX1_stripe_7 ?_
  refine bp_j_lconst (v := 0) dX1_stripe_8 (by decide) ?_
  refine bp_j_aload_n 0 dX1_stripe_9 rfl ?_
  refine bp_j_getI (t := 2) (k := 2) rfl (by decide) (bp_lkN q190) dX1_stripe_10 (fun _ _ _ => rfl) (fun x2 => ?_)
  refine bp_j_iconst (v := 1) dX1_stripe_13 (by decide) ?_
  refine bp_j_isub dX1_stripe_14 ?_
  refine bp_j_i2l dX1_stripe_15 ?_
  refine bp_j_cl_I (bp_ranS (n := 3) (As := [.long xp2.toInt64, .long (0 : Int64), .long ((x2 - (1 : Int32)).toInt64)]) (cnX1_within (G := G) xp2.toInt64 (0 : Int64) ((x2 - (1 : Int32)).toInt64)) (lw_S q746 q472 q72 q473) ⟨by decide +kernel, by decide +kernel, by decide +kernel⟩ ⟨by decide, by decide⟩ (rest := []) rfl rfl (Nat.le_of_ble_eq_true rfl) dX1_stripe_16) (by decide) (fun x3 => ?_)
  refine bp_j_cl_U (bp_ranS (n := 1) (As := [.int x3]) (cnX1_wantIndex (G := G) x3) (lw_S q836 q837 q72 q838) ⟨by decide +kernel, by decide +kernel, by decide +kernel⟩ ⟨by decide, by decide⟩ (rest := []) rfl rfl (Nat.le_of_ble_eq_true rfl) dX1_stripe_19) (by decide) (fun _ => ?_)
  refine bp_j_aload_n 0 dX1_stripe_22 rfl ?_
  refine bp_j_getN (t := 2) (k := 1) rfl (by decide) (bp_lkN q187) dX1_stripe_23 (fun _ _ _ => rfl) (fun a4 => ?_)
  refine bp_j_iload_n 3 dX1_stripe_26 rfl ?_
  refine bp_j_iaload dX1_stripe_27 (fun x5 => ?_)
  exact bp_j_iret rfl dX1_stripe_28
/-- BilevelPages.put(I)V -/
abbrev iX1_put : bp_MI := (yX1_put, cX1_put, 2, none, [], 0, 0)
def PX1_put (a0 : Nat) (xp1 : Int32) : bp_M Unit :=
  bp_getN 0 4 a0 fun a1 =>
  bp_getI 0 5 a0 fun x2 =>
  bp_putI 0 5 a0 (x2 + (1 : Int32)) <|
  bp_astB a1 x2 xp1.toInt8.toInt32 <|
  bp_ret ()
set_option maxHeartbeats 4000000 in
set_option maxRecDepth 100000 in
theorem cnX1_put {G : bp_GT} (a0 : Nat) (xp1 : Int32) : bp_Con G iX1_put (ws_ iX1_put.1 iX1_put.2.1 iX1_put.2.2.1 iX1_put.2.2.2.1) [.ref a0, .int xp1] (PX1_put a0 xp1) bp_eU := by
  refine bp_con_of [(0, .ref a0), (1, .int xp1)] rfl (by decide) (Nat.le_of_ble_eq_true rfl) rfl ?_
  unfold PX1_put
  refine bp_j_aload_n 0 dX1_put_0 rfl ?_
  refine bp_j_getN (t := 0) (k := 4) rfl (by decide) (bp_lk q294) dX1_put_1 (fun _ _ _ => rfl) (fun a1 => ?_)
  refine bp_j_aload_n 0 dX1_put_4 rfl ?_
  refine bp_j_dup dX1_put_5 rfl ?_
  refine bp_j_getI (t := 0) (k := 5) rfl (by decide) (bp_lk q295) dX1_put_6 (fun _ _ _ => rfl) (fun x2 => ?_)
  refine bp_j_dup_x1 dX1_put_9 rfl rfl ?_
  refine bp_j_iconst (v := 1) dX1_put_10 (by decide) ?_
  refine bp_j_iadd dX1_put_11 ?_
  refine bp_j_putI (t := 0) (k := 5) rfl (by decide) (by decide) (bp_lk q295) rfl dX1_put_12 rfl ?_
  refine bp_j_iload_n 1 dX1_put_15 rfl ?_
  refine bp_j_i2b dX1_put_16 ?_
  refine bp_j_bastoreB dX1_put_17 ?_
  exact bp_j_vret rfl dX1_put_18
/-- BilevelPages.putFour(I)V -/
abbrev iX1_putFour : bp_MI := (yX1_putFour, cX1_putFour, 3, none, [], 1, 21)
def BX1_putFour_3 (a0 : Nat) (xp1 : Int32) (k2 : Int32 → bp_M Unit) : Int32 → bp_M Unit :=
  fun x1 =>
  bp_if (x1 < 0) (
  bp_ret ()) (
  bp_bind (bp_is 0 a0 (PX1_put a0 (xp1 >>> (x1 &&& 31)))) fun _ =>
  bp_letI (x1 + (-8 : Int32)) fun x3 =>
  k2 x3)
def PX1_putFour (a0 : Nat) (xp1 : Int32) : bp_M Unit :=
  bp_loop (fun _ => bp_no) (BX1_putFour_3 a0 xp1) (fun k => k (24 : Int32))
set_option maxHeartbeats 4000000 in
set_option maxRecDepth 100000 in
theorem cnX1_putFour {G : bp_GT} (a0 : Nat) (xp1 : Int32) : bp_Con G iX1_putFour (ws_ iX1_putFour.1 iX1_putFour.2.1 iX1_putFour.2.2.1 iX1_putFour.2.2.2.1) [.ref a0, .int xp1] (PX1_putFour a0 xp1) bp_eU := by
  refine bp_con_of [(0, .ref a0), (1, .int xp1)] rfl (by decide) (Nat.le_of_ble_eq_true rfl) rfl ?_
  unfold PX1_putFour
  refine bp_j_bipush (v := 24) dX1_putFour_0 (by decide) ?_
  refine bp_j_istore_n (lv' := [(2, .int (24 : Int32)), (0, .ref a0), (1, .int xp1)]) dX1_putFour_2 (by decide) rfl ?_
  refine bp_j_loop (fun k => ∀ (x1 : Int32), bp_J G iX1_putFour (bp_Qn G bp_eU) (k x1) 3 [(0, .ref a0), (1, .int xp1), (2, .int x1)] []) (fun _ => bp_j_no) (fun k2 hk2 x1 => ?_) (fun k h => bp_j_sub [1, 2, 0] rfl (h (24 : Int32)))
  unfold BX1_putFour_3
  refine bp_j_iload_n 2 dX1_putFour_3 rfl ?_
  refine bp_j_if_lt (tgt := 20) dX1_putFour_4 (by decide) ?_ ?_
  · exact bp_j_vret rfl dX1_putFour_20
  refine bp_j_aload_n 0 dX1_putFour_7 rfl ?_
  refine bp_j_iload_n 1 dX1_putFour_8 rfl ?_
  refine bp_j_iload_n 2 dX1_putFour_9 rfl ?_
  refine bp_j_ishr dX1_putFour_10 ?_
  refine bp_j_cl_U (bp_ranV (t := 0) (n := 1) (As := [.int (xp1 >>> (x1 &&& 31))]) (cnX1_put (G := G) a0 (xp1 >>> (x1 &&& 31))) rfl (lw_V q923 q925 qs25 q72 q926) ⟨rfl, by decide +kernel, by decide +kernel, by decide +kernel⟩ ⟨by decide, by decide⟩ (rest := []) rfl rfl (Nat.le_of_ble_eq_true rfl) dX1_putFour_11) (by decide) (fun _ => ?_)
  refine bp_j_iincL (lv' := fun x3 => [(2, .int x3), (0, .ref a0), (1, .int xp1)]) 2 dX1_putFour_14 rfl (by decide) (by decide) (fun _ => rfl) (fun x3 => ?_)
  refine bp_j_goto (tgt := 3) dX1_putFour_17 (by decide) ?_
  exact bp_j_sub [1, 2, 0] rfl (hk2 x3)
/-- BilevelPages.putRow(LBilevelPages$Segment;I)V -/
abbrev iX1_putRow : bp_MI := (yX1_putRow, cX1_putRow, 6, none, [], 1, 21)
def BX1_putRow_16 (bp1 : Nat) (xp2 : Int32) (x1 : Int32) (k5 : Int32 → bp_M Unit) (k9 : Int32 → Int32 → bp_M Unit) : Int32 → Int32 → bp_M Unit :=
  fun x7 x8 =>
  bp_if ((x1 + (8 : Int32)) ≤ x8) (
  k5 x7) (
  bp_bind (bp_is 3 bp1 (PX4_wide bp1)) fun x10 =>
  bp_jn (fun (k12 : Int32 → bp_M Unit) =>
  bp_if (x10 ≤ x8) (
  k12 (0 : Int32)) (
  bp_getN 3 9 bp1 fun a15 =>
  bp_aldI 20 a15 xp2 fun x16 =>
  k12 ((x16 >>> (x8 &&& 31)) &&& (1 : Int32)))) (fun (x11 : Int32) =>
  bp_letI ((x7 <<< ((1 : Int32) &&& 31)) ||| x11) fun x13 =>
  bp_letI (x8 + (1 : Int32)) fun x14 =>
  k9 x13 x14))
def BX1_putRow_2 (a0 : Nat) (bp1 : Nat) (xp2 : Int32) (k2 : Int32 → bp_M Unit) : Int32 → bp_M Unit :=
  fun x1 =>
  bp_bind (bp_is 3 bp1 (PX4_wide bp1)) fun x3 =>
  bp_if (x3 ≤ x1) (
  bp_ret ()) (
  bp_jn (fun (k5 : Int32 → bp_M Unit) =>
  bp_loop (fun _ _ => bp_no) (BX1_putRow_16 bp1 xp2 x1 k5) (fun k => k (0 : Int32) x1)) (fun (x4 : Int32) =>
  bp_bind (bp_is 0 a0 (PX1_put a0 x4)) fun _ =>
  bp_letI (x1 + (8 : Int32)) fun x6 =>
  k2 x6))
def PX1_putRow (a0 : Nat) (bp1 : Nat) (xp2 : Int32) : bp_M Unit :=
  bp_loop (fun _ => bp_no) (BX1_putRow_2 a0 bp1 xp2) (fun k => k (0 : Int32))
set_option maxHeartbeats 4000000 in
set_option maxRecDepth 100000 in
theorem cnX1_putRow {G : bp_GT} (a0 : Nat) (bp1 : Nat) (xp2 : Int32) : bp_Con G iX1_putRow (ws_ iX1_putRow.1 iX1_putRow.2.1 iX1_putRow.2.2.1 iX1_putRow.2.2.2.1) [.ref a0, .ref bp1, .int xp2] (PX1_putRow a0 bp1 xp2) bp_eU := by
  refine bp_con_of [(0, .ref a0), (1, .ref bp1), (2, .int xp2)] rfl (by decide) (Nat.le_of_ble_eq_true rfl) rfl ?_
  unfold PX1_putRow
  refine bp_j_iconst (v := 0) dX1_putRow_0 (by decide) ?_
  refine bp_j_istore_n (lv' := [(3, .int (0 : Int32)), (0, .ref a0), (1, .ref bp1), (2, .int xp2)]) dX1_putRow_1 (by decide) rfl ?_
  refine bp_j_loop (fun k => ∀ (x1 : Int32), bp_J G iX1_putRow (bp_Qn G bp_eU) (k x1) 2 [(0, .ref a0), (1, .ref bp1), (2, .int xp2), (3, .int x1)] []) (fun _ => bp_j_no) (fun k2 hk2 x1 => ?_) (fun k h => bp_j_sub [1, 2, 3, 0] rfl (h (0 : Int32)))
  unfold BX1_putRow_2
  refine bp_j_iload_n 3 dX1_putRow_2 rfl ?_
  refine bp_j_aload_n 1 dX1_putRow_3 rfl ?_
  refine bp_j_cl_I (bp_ranV (t := 3) (n := 0) (As := []) (cnX4_wide (G := G) bp1 ) rfl (lw_V q913 q664 q665 q79 q666) ⟨rfl, by decide +kernel, by decide +kernel, by decide +kernel⟩ ⟨by decide, by decide⟩ (rest := [.int x1]) rfl rfl (Nat.le_of_ble_eq_true rfl) dX1_putRow_4) (by decide) (fun x3 => ?_)
  refine bp_j_icmp_ge (tgt := 74) dX1_putRow_7 (by decide) ?_ ?_
  · exact bp_j_vret rfl dX1_putRow_74
  refine bp_j_iconst (v := 0) dX1_putRow_10 (by decide) ?_
  refine bp_j_istore (lv' := [(4, .int (0 : Int32)), (0, .ref a0), (1, .ref bp1), (2, .int xp2), (3, .int x1)]) dX1_putRow_11 (by decide) rfl ?_
  refine bp_j_iload_n 4 dX1_putRow_13 rfl ?_
  refine bp_j_istore (lv' := [(5, .int x1), (4, .int (0 : Int32)), (0, .ref a0), (1, .ref bp1), (2, .int xp2), (3, .int x1)]) dX1_putRow_14 (by decide) rfl ?_
  refine bp_j_jm (fun k => ∀ (x4 : Int32), bp_J G iX1_putRow (bp_Qn G bp_eU) (k x4) 62 [(0, .ref a0), (1, .ref bp1), (2, .int xp2), (3, .int x1), (4, .int x4)] []) (fun k5 hk5 => ?_) (fun x4 => ?_)
  · refine bp_j_loop (fun k => ∀ (x7 : Int32) (x8 : Int32), bp_J G iX1_putRow (bp_Qn G bp_eU) (k x7 x8) 16 [(0, .ref a0), (1, .ref bp1), (2, .int xp2), (3, .int x1), (4, .int x7), (5, .int x8)] []) (fun _ _ => bp_j_no) (fun k9 hk9 x7 x8 => ?_) (fun k h => bp_j_sub [2, 3, 4, 5, 1, 0] rfl (h (0 : Int32) x1))
    unfold BX1_putRow_16
    refine bp_j_iload 5 dX1_putRow_16 rfl ?_
    refine bp_j_iload_n 3 dX1_putRow_18 rfl ?_
    refine bp_j_bipush (v := 8) dX1_putRow_19 (by decide) ?_
    refine bp_j_iadd dX1_putRow_21 ?_
    refine bp_j_icmp_ge (tgt := 62) dX1_putRow_22 (by decide) ?_ ?_
    · exact bp_j_sub [0, 1, 2, 3, 4] rfl (hk5 x7)
    refine bp_j_iload 4 dX1_putRow_25 rfl ?_
    refine bp_j_iconst (v := 1) dX1_putRow_27 (by decide) ?_
    refine bp_j_ishl dX1_putRow_28 ?_
    refine bp_j_iload 5 dX1_putRow_29 rfl ?_
    refine bp_j_aload_n 1 dX1_putRow_31 rfl ?_
    refine bp_j_cl_I (bp_ranV (t := 3) (n := 0) (As := []) (cnX4_wide (G := G) bp1 ) rfl (lw_V q913 q664 q665 q79 q666) ⟨rfl, by decide +kernel, by decide +kernel, by decide +kernel⟩ ⟨by decide, by decide⟩ (rest := [.int x8, .int (x7 <<< ((1 : Int32) &&& 31))]) rfl rfl (Nat.le_of_ble_eq_true rfl) dX1_putRow_32) (by decide) (fun x10 => ?_)
    refine bp_j_jm (fun k => ∀ (x11 : Int32), bp_J G iX1_putRow (bp_Qn G bp_eU) (k x11) 53 [(0, .ref a0), (1, .ref bp1), (2, .int xp2), (3, .int x1), (5, .int x8)] [.int x11, .int (x7 <<< ((1 : Int32) &&& 31))]) (fun k12 hk12 => ?_) (fun x11 => ?_)
    · refine bp_j_icmp_ge (tgt := 52) dX1_putRow_35 (by decide) ?_ ?_
      · refine bp_j_iconst (v := 0) dX1_putRow_52 (by decide) ?_
        exact bp_j_sub [0, 1, 2, 3, 5] rfl (hk12 (0 : Int32))
      refine bp_j_aload_n 1 dX1_putRow_38 rfl ?_
      refine bp_j_getN (t := 3) (k := 9) rfl (by decide) (bp_lkN q251) dX1_putRow_39 (fun _ _ _ => rfl) (fun a15 => ?_)
      refine bp_j_iload_n 2 dX1_putRow_42 rfl ?_
      refine bp_j_iaload dX1_putRow_43 (fun x16 => ?_)
      refine bp_j_iload 5 dX1_putRow_44 rfl ?_
      refine bp_j_ishr dX1_putRow_46 ?_
      refine bp_j_iconst (v := 1) dX1_putRow_47 (by decide) ?_
      refine bp_j_iand dX1_putRow_48 ?_
      refine bp_j_goto (tgt := 53) dX1_putRow_49 (by decide) ?_
      exact bp_j_sub [0, 1, 2, 3, 5] rfl (hk12 ((x16 >>> (x8 &&& 31)) &&& (1 : Int32)))
    refine bp_j_ior dX1_putRow_53 ?_
    refine bp_j_letI (fun x13 => ?_)
    refine bp_j_istore (lv' := [(4, .int x13), (0, .ref a0), (1, .ref bp1), (2, .int xp2), (3, .int x1), (5, .int x8)]) dX1_putRow_54 (by decide) rfl ?_
    refine bp_j_iincL (lv' := fun x14 => [(5, .int x14), (4, .int x13), (0, .ref a0), (1, .ref bp1), (2, .int xp2), (3, .int x1)]) 5 dX1_putRow_56 rfl (by decide) (by decide) (fun _ => rfl) (fun x14 => ?_)
    refine bp_j_goto (tgt := 16) dX1_putRow_59 (by decide) ?_
    exact bp_j_sub [2, 3, 4, 5, 1, 0] rfl (hk9 x13 x14)
  refine bp_j_aload_n 0 dX1_putRow_62 rfl ?_
  refine bp_j_iload 4 dX1_putRow_63 rfl ?_
  refine bp_j_cl_U (bp_ranV (t := 0) (n := 1) (As := [.int x4]) (cnX1_put (G := G) a0 x4) rfl (lw_V q923 q925 qs25 q72 q926) ⟨rfl, by decide +kernel, by decide +kernel, by decide +kernel⟩ ⟨by decide, by decide⟩ (rest := []) rfl rfl (Nat.le_of_ble_eq_true rfl) dX1_putRow_65) (by decide) (fun _ => ?_)
  refine bp_j_iincL (lv' := fun x6 => [(3, .int x6), (0, .ref a0), (1, .ref bp1), (2, .int xp2), (4, .int x4)]) 3 dX1_putRow_68 rfl (by decide) (by decide) (fun _ => rfl) (fun x6 => ?_)
  refine bp_j_goto (tgt := 2) dX1_putRow_71 (by decide) ?_
  exact bp_j_sub [1, 2, 3, 0] rfl (hk2 x6)
/-- BilevelPages.putRegion(LBilevelPages$Segment;)V -/
abbrev iX1_putRegion : bp_MI := (yX1_putRegion, cX1_putRegion, 3, none, [], 2, 46)
def BX1_putRegion_35 (a0 : Nat) (bp1 : Nat) (k4 : bp_M Unit) (k8 : Int32 → bp_M Unit) : Int32 → bp_M Unit :=
  fun x7 =>
  bp_bind (bp_is 3 bp1 (PX4_high bp1)) fun x9 =>
  bp_if (x9 ≤ x7) (
  k4) (
  bp_bind (bp_is 3 bp1 (PX4_isOpen bp1)) fun x10 =>
  bp_jn (fun (k11 : bp_M Unit) =>
  bp_if (x10 = 0) (
  k11) (
  bp_bind (bp_is 0 a0 (PX1_put a0 (1 : Int32))) fun _ =>
  k11)) (bp_bind (bp_is 0 a0 (PX1_putRow a0 bp1 x7)) fun _ =>
  bp_letI (x7 + (1 : Int32)) fun x12 =>
  k8 x12))
def BX1_putRegion_2 (a0 : Nat) (bp1 : Nat) (k1 : bp_M Unit) (k14 : Int32 → bp_M Unit) : Int32 → bp_M Unit :=
  fun x13 =>
  bp_if ((4 : Int32) ≤ x13) (
  k1) (
  bp_getN 3 6 bp1 fun a15 =>
  bp_aldI 20 a15 x13 fun x16 =>
  bp_bind (bp_is 0 a0 (PX1_putFour a0 x16)) fun _ =>
  bp_letI (x13 + (1 : Int32)) fun x17 =>
  k14 x17)
def PX1_putRegion (a0 : Nat) (bp1 : Nat) : bp_M Unit :=
  bp_jn (fun (k1 : bp_M Unit) =>
  bp_loop (fun _ => bp_no) (BX1_putRegion_2 a0 bp1 k1) (fun k => k (0 : Int32))) (bp_getN 3 6 bp1 fun a2 =>
  bp_aldI 20 a2 (4 : Int32) fun x3 =>
  bp_bind (bp_is 0 a0 (PX1_put a0 x3)) fun _ =>
  bp_jn (fun (k4 : bp_M Unit) =>
  bp_loop (fun _ => bp_no) (BX1_putRegion_35 a0 bp1 k4) (fun k => k (0 : Int32))) (bp_bind (bp_is 3 bp1 (PX4_isOpen bp1)) fun x5 =>
  bp_if (x5 = 0) (
  bp_ret ()) (
  bp_bind (bp_is 0 a0 (PX1_put a0 (255 : Int32))) fun _ =>
  bp_bind (bp_is 0 a0 (PX1_put a0 (172 : Int32))) fun _ =>
  bp_bind (bp_is 3 bp1 (PX4_high bp1)) fun x6 =>
  bp_bind (bp_is 0 a0 (PX1_putFour a0 x6)) fun _ =>
  bp_ret ())))
set_option maxHeartbeats 4000000 in
set_option maxRecDepth 100000 in
theorem cnX1_putRegion {G : bp_GT} (a0 : Nat) (bp1 : Nat) : bp_Con G iX1_putRegion (ws_ iX1_putRegion.1 iX1_putRegion.2.1 iX1_putRegion.2.2.1 iX1_putRegion.2.2.2.1) [.ref a0, .ref bp1] (PX1_putRegion a0 bp1) bp_eU := by
  refine bp_con_of [(0, .ref a0), (1, .ref bp1)] rfl (by decide) (Nat.le_of_ble_eq_true rfl) rfl ?_
  unfold PX1_putRegion
  refine bp_j_iconst (v := 0) dX1_putRegion_0 (by decide) ?_
  refine bp_j_istore_n (lv' := [(2, .int (0 : Int32)), (0, .ref a0), (1, .ref bp1)]) dX1_putRegion_1 (by decide) rfl ?_
  refine bp_j_jm (fun k => bp_J G iX1_putRegion (bp_Qn G bp_eU) (k) 23 [(0, .ref a0), (1, .ref bp1)] []) (fun k1 hk1 => ?_) ?_
  · refine bp_j_loop (fun k => ∀ (x13 : Int32), bp_J G iX1_putRegion (bp_Qn G bp_eU) (k x13) 2 [(0, .ref a0), (1, .ref bp1), (2, .int x13)] []) (fun _ => bp_j_no) (fun k14 hk14 x13 => ?_) (fun k h => bp_j_sub [1, 2, 0] rfl (h (0 : Int32)))
    unfold BX1_putRegion_2
    refine bp_j_iload_n 2 dX1_putRegion_2 rfl ?_
    refine bp_j_iconst (v := 4) dX1_putRegion_3 (by decide) ?_
    refine bp_j_icmp_ge (tgt := 23) dX1_putRegion_4 (by decide) ?_ ?_
    · exact bp_j_sub [0, 1] rfl (hk1)
    refine bp_j_aload_n 0 dX1_putRegion_7 rfl ?_
    refine bp_j_aload_n 1 dX1_putRegion_8 rfl ?_
    refine bp_j_getN (t := 3) (k := 6) rfl (by decide) (bp_lkN q243) dX1_putRegion_9 (fun _ _ _ => rfl) (fun a15 => ?_)
    refine bp_j_iload_n 2 dX1_putRegion_12 rfl ?_
    refine bp_j_iaload dX1_putRegion_13 (fun x16 => ?_)
    refine bp_j_cl_U (bp_ranV (t := 0) (n := 1) (As := [.int x16]) (cnX1_putFour (G := G) a0 x16) rfl (lw_V q974 q976 qs26 q72 q977) ⟨rfl, by decide +kernel, by decide +kernel, by decide +kernel⟩ ⟨by decide, by decide⟩ (rest := []) rfl rfl (Nat.le_of_ble_eq_true rfl) dX1_putRegion_14) (by decide) (fun _ => ?_)
    refine bp_j_iincL (lv' := fun x17 => [(2, .int x17), (0, .ref a0), (1, .ref bp1)]) 2 dX1_putRegion_17 rfl (by decide) (by decide) (fun _ => rfl) (fun x17 => ?_)
    refine bp_j_goto (tgt := 2) dX1_putRegion_20 (by decide) ?_
    exact bp_j_sub [1, 2, 0] rfl (hk14 x17)
  refine bp_j_aload_n 0 dX1_putRegion_23 rfl ?_
  refine bp_j_aload_n 1 dX1_putRegion_24 rfl ?_
  refine bp_j_getN (t := 3) (k := 6) rfl (by decide) (bp_lkN q243) dX1_putRegion_25 (fun _ _ _ => rfl) (fun a2 => ?_)
  refine bp_j_iconst (v := 4) dX1_putRegion_28 (by decide) ?_
  refine bp_j_iaload dX1_putRegion_29 (fun x3 => ?_)
  refine bp_j_cl_U (bp_ranV (t := 0) (n := 1) (As := [.int x3]) (cnX1_put (G := G) a0 x3) rfl (lw_V q923 q925 qs25 q72 q926) ⟨rfl, by decide +kernel, by decide +kernel, by decide +kernel⟩ ⟨by decide, by decide⟩ (rest := []) rfl rfl (Nat.le_of_ble_eq_true rfl) dX1_putRegion_30) (by decide) (fun _ => ?_)
  refine bp_j_iconst (v := 0) dX1_putRegion_33 (by decide) ?_
  refine bp_j_istore_n (lv' := [(2, .int (0 : Int32)), (0, .ref a0), (1, .ref bp1)]) dX1_putRegion_34 (by decide) rfl ?_
  refine bp_j_jm (fun k => bp_J G iX1_putRegion (bp_Qn G bp_eU) (k) 67 [(0, .ref a0), (1, .ref bp1)] []) (fun k4 hk4 => ?_) ?_
  · refine bp_j_loop (fun k => ∀ (x7 : Int32), bp_J G iX1_putRegion (bp_Qn G bp_eU) (k x7) 35 [(0, .ref a0), (1, .ref bp1), (2, .int x7)] []) (fun _ => bp_j_no) (fun k8 hk8 x7 => ?_) (fun k h => bp_j_sub [1, 2, 0] rfl (h (0 : Int32)))
    unfold BX1_putRegion_35
    refine bp_j_iload_n 2 dX1_putRegion_35 rfl ?_
    refine bp_j_aload_n 1 dX1_putRegion_36 rfl ?_
    refine bp_j_cl_I (bp_ranV (t := 3) (n := 0) (As := []) (cnX4_high (G := G) bp1 ) rfl (lw_V q914 q656 q657 q79 q658) ⟨rfl, by decide +kernel, by decide +kernel, by decide +kernel⟩ ⟨by decide, by decide⟩ (rest := [.int x7]) rfl rfl (Nat.le_of_ble_eq_true rfl) dX1_putRegion_37) (by decide) (fun x9 => ?_)
    refine bp_j_icmp_ge (tgt := 67) dX1_putRegion_40 (by decide) ?_ ?_
    · exact bp_j_sub [0, 1] rfl (hk4)
    refine bp_j_aload_n 1 dX1_putRegion_43 rfl ?_
    refine bp_j_cl_I (bp_ranV (t := 3) (n := 0) (As := []) (cnX4_isOpen (G := G) bp1 ) rfl (lw_V q987 q988 q989 q79 q990) ⟨rfl, by decide +kernel, by decide +kernel, by decide +kernel⟩ ⟨by decide, by decide⟩ (rest := []) rfl rfl (Nat.le_of_ble_eq_true rfl) dX1_putRegion_44) (by decide) (fun x10 => ?_)
    refine bp_j_jm (fun k => bp_J G iX1_putRegion (bp_Qn G bp_eU) (k) 55 [(0, .ref a0), (1, .ref bp1), (2, .int x7)] []) (fun k11 hk11 => ?_) ?_
    · refine bp_j_if_eq (tgt := 55) dX1_putRegion_47 (by decide) ?_ ?_
      · exact hk11
      refine bp_j_aload_n 0 dX1_putRegion_50 rfl ?_
      refine bp_j_iconst (v := 1) dX1_putRegion_51 (by decide) ?_
      refine bp_j_cl_U (bp_ranV (t := 0) (n := 1) (As := [.int (1 : Int32)]) (cnX1_put (G := G) a0 (1 : Int32)) rfl (lw_V q923 q925 qs25 q72 q926) ⟨rfl, by decide +kernel, by decide +kernel, by decide +kernel⟩ ⟨by decide, by decide⟩ (rest := []) rfl rfl (Nat.le_of_ble_eq_true rfl) dX1_putRegion_52) (by decide) (fun _ => ?_)
      exact hk11
    refine bp_j_aload_n 0 dX1_putRegion_55 rfl ?_
    refine bp_j_aload_n 1 dX1_putRegion_56 rfl ?_
    refine bp_j_iload_n 2 dX1_putRegion_57 rfl ?_
    refine bp_j_cl_U (bp_ranV (t := 0) (n := 2) (As := [.ref bp1, .int x7]) (cnX1_putRow (G := G) a0 bp1 x7) rfl (lw_V q1001 q1003 qs31 q72 q1004) ⟨rfl, by decide +kernel, by decide +kernel, by decide +kernel⟩ ⟨by decide, by decide⟩ (rest := []) rfl rfl (Nat.le_of_ble_eq_true rfl) dX1_putRegion_58) (by decide) (fun _ => ?_)
    refine bp_j_iincL (lv' := fun x12 => [(2, .int x12), (0, .ref a0), (1, .ref bp1)]) 2 dX1_putRegion_61 rfl (by decide) (by decide) (fun _ => rfl) (fun x12 => ?_)
    refine bp_j_goto (tgt := 35) dX1_putRegion_64 (by decide) ?_
    exact bp_j_sub [1, 2, 0] rfl (hk8 x12)
  refine bp_j_aload_n 1 dX1_putRegion_67 rfl ?_
  refine bp_j_cl_I (bp_ranV (t := 3) (n := 0) (As := []) (cnX4_isOpen (G := G) bp1 ) rfl (lw_V q987 q988 q989 q79 q990) ⟨rfl, by decide +kernel, by decide +kernel, by decide +kernel⟩ ⟨by decide, by decide⟩ (rest := []) rfl rfl (Nat.le_of_ble_eq_true rfl) dX1_putRegion_68) (by decide) (fun x5 => ?_)
  refine bp_j_if_eq (tgt := 96) dX1_putRegion_71 (by decide) ?_ ?_
  · exact bp_j_vret rfl dX1_putRegion_96
  refine bp_j_aload_n 0 dX1_putRegion_74 rfl ?_
  refine bp_j_sipush (v := 255) dX1_putRegion_75 (by decide) ?_
  refine bp_j_cl_U (bp_ranV (t := 0) (n := 1) (As := [.int (255 : Int32)]) (cnX1_put (G := G) a0 (255 : Int32)) rfl (lw_V q923 q925 qs25 q72 q926) ⟨rfl, by decide +kernel, by decide +kernel, by decide +kernel⟩ ⟨by decide, by decide⟩ (rest := []) rfl rfl (Nat.le_of_ble_eq_true rfl) dX1_putRegion_78) (by decide) (fun _ => ?_)
  refine bp_j_aload_n 0 dX1_putRegion_81 rfl ?_
  refine bp_j_sipush (v := 172) dX1_putRegion_82 (by decide) ?_
  refine bp_j_cl_U (bp_ranV (t := 0) (n := 1) (As := [.int (172 : Int32)]) (cnX1_put (G := G) a0 (172 : Int32)) rfl (lw_V q923 q925 qs25 q72 q926) ⟨rfl, by decide +kernel, by decide +kernel, by decide +kernel⟩ ⟨by decide, by decide⟩ (rest := []) rfl rfl (Nat.le_of_ble_eq_true rfl) dX1_putRegion_85) (by decide) (fun _ => ?_)
  refine bp_j_aload_n 0 dX1_putRegion_88 rfl ?_
  refine bp_j_aload_n 1 dX1_putRegion_89 rfl ?_
  refine bp_j_cl_I (bp_ranV (t := 3) (n := 0) (As := []) (cnX4_high (G := G) bp1 ) rfl (lw_V q914 q656 q657 q79 q658) ⟨rfl, by decide +kernel, by decide +kernel, by decide +kernel⟩ ⟨by decide, by decide⟩ (rest := [.ref a0]) rfl rfl (Nat.le_of_ble_eq_true rfl) dX1_putRegion_90) (by decide) (fun x6 => ?_)
  refine bp_j_cl_U (bp_ranV (t := 0) (n := 1) (As := [.int x6]) (cnX1_putFour (G := G) a0 x6) rfl (lw_V q974 q976 qs26 q72 q977) ⟨rfl, by decide +kernel, by decide +kernel, by decide +kernel⟩ ⟨by decide, by decide⟩ (rest := []) rfl rfl (Nat.le_of_ble_eq_true rfl) dX1_putRegion_93) (by decide) (fun _ => ?_)
  exact bp_j_vret rfl dX1_putRegion_96
/-- BilevelPages.putData(LBilevelPages$Segment;)V -/
abbrev iX1_putData : bp_MI := (yX1_putData, cX1_putData, 3, none, [], 3, 68)
def BX1_putData_129 (a0 : Nat) (bp1 : Nat) (k5 : Int32 → bp_M Unit) : Int32 → bp_M Unit :=
  fun x4 =>
  bp_getI 3 8 bp1 fun x6 =>
  bp_if (x6 ≤ x4) (
  bp_ret ()) (
  bp_getN 3 7 bp1 fun a7 =>
  bp_aldI 21 a7 x4 fun x8 =>
  bp_bind (bp_is 0 a0 (PX1_put a0 x8)) fun _ =>
  bp_letI (x4 + (1 : Int32)) fun x9 =>
  k5 x9)
def PX1_putData (a0 : Nat) (bp1 : Nat) : bp_M Unit :=
  bp_getN 3 0 bp1 fun a1 =>
  bp_bind (bp_is 8 a1 (PJ4_ordinal a1)) fun x2 =>
  bp_jn (fun (k3 : bp_M Unit) =>
  bp_jn (fun (k10 : bp_M Unit) =>
  bp_jn (fun (k11 : bp_M Unit) =>
  bp_sw (x2).toInt [(1, (
  k10)), (2, (
  k10)), (3, (
  k10)), (4, (
  bp_bind (bp_is 3 bp1 (PX4_wide bp1)) fun x14 =>
  bp_bind (bp_is 0 a0 (PX1_putFour a0 x14)) fun _ =>
  bp_bind (bp_is 3 bp1 (PX4_high bp1)) fun x15 =>
  bp_jn (fun (k17 : Int32 → bp_M Unit) =>
  bp_if (x15 = 0) (
  k17 (-1 : Int32)) (
  bp_bind (bp_is 3 bp1 (PX4_high bp1)) fun x22 =>
  k17 x22)) (fun (x16 : Int32) =>
  bp_bind (bp_is 0 a0 (PX1_putFour a0 x16)) fun _ =>
  bp_getN 3 6 bp1 fun a18 =>
  bp_aldI 20 a18 (2 : Int32) fun x19 =>
  bp_bind (bp_is 0 a0 (PX1_put a0 x19)) fun _ =>
  bp_getN 3 6 bp1 fun a20 =>
  bp_aldI 20 a20 (3 : Int32) fun x21 =>
  bp_bind (bp_is 0 a0 (PX1_put a0 x21)) fun _ =>
  k3))), (5, (
  k3)), (6, (
  k11)), (7, (
  k3)), (8, (
  k3)), (9, (
  k11))] (
  k3)) (bp_getN 3 6 bp1 fun a12 =>
  bp_aldI 20 a12 (0 : Int32) fun x13 =>
  bp_bind (bp_is 0 a0 (PX1_putFour a0 x13)) fun _ =>
  k3)) (bp_bind (bp_is 0 a0 (PX1_putRegion a0 bp1)) fun _ =>
  k3)) (bp_loop (fun _ => bp_no) (BX1_putData_129 a0 bp1) (fun k => k (0 : Int32)))
set_option maxHeartbeats 4000000 in
set_option maxRecDepth 100000 in
theorem cnX1_putData {G : bp_GT} (a0 : Nat) (bp1 : Nat) : bp_Con G iX1_putData (ws_ iX1_putData.1 iX1_putData.2.1 iX1_putData.2.2.1 iX1_putData.2.2.2.1) [.ref a0, .ref bp1] (PX1_putData a0 bp1) bp_eU := by
  refine bp_con_of [(0, .ref a0), (1, .ref bp1)] rfl (by decide) (Nat.le_of_ble_eq_true rfl) rfl ?_
  unfold PX1_putData
  refine bp_j_aload_n 1 dX1_putData_0 rfl ?_
  refine bp_j_getN (t := 3) (k := 0) rfl (by decide) (bp_lkN q225) dX1_putData_1 (fun _ _ _ => rfl) (fun a1 => ?_)
  refine bp_j_cl_I (bp_ranU (t := 8) (n := 0) (As := []) (owner := "java/lang/Enum") (x := ⟨"BilevelPages$Kind", "ordinal", "()I"⟩) (cnJ4_ordinal (G := G) a1 ) rfl (List.forall_mem_cons.mpr ⟨q996, List.forall_mem_cons.mpr ⟨q599, List.forall_mem_cons.mpr ⟨q601, List.forall_mem_cons.mpr ⟨q602, List.forall_mem_cons.mpr ⟨q80, fun _ h => nomatch h⟩⟩⟩⟩⟩) q603 rfl ⟨by decide +kernel, by decide +kernel, by decide +kernel⟩ ⟨by decide, by decide⟩ (rest := []) rfl rfl (Nat.le_of_ble_eq_true rfl) dX1_putData_4) (by decide) (fun x2 => ?_)
  refine bp_j_jm (fun k => bp_J G iX1_putData (bp_Qn G bp_eU) (k) 127 [(0, .ref a0), (1, .ref bp1)] []) (fun k3 hk3 => ?_) ?_
  · refine bp_j_jm (fun k => bp_J G iX1_putData (bp_Qn G bp_eU) (k) 56 [(0, .ref a0), (1, .ref bp1)] []) (fun k10 hk10 => ?_) ?_
    · refine bp_j_jm (fun k => bp_J G iX1_putData (bp_Qn G bp_eU) (k) 114 [(0, .ref a0), (1, .ref bp1)] []) (fun k11 hk11 => ?_) ?_
      · refine bp_j_tsw (tgt := 127) [56, 56, 56, 64, 127, 114, 127, 127, 114] dX1_putData_7 rfl rfl rfl (by decide) (bp_JSc ?_ (bp_JSc ?_ (bp_JSc ?_ (bp_JSc ?_ (bp_JSc ?_ (bp_JSc ?_ (bp_JSc ?_ (bp_JSc ?_ (bp_JSc ?_ bp_JSn))))))))) ?_
        · exact hk10
        · exact hk10
        · exact hk10
        · refine bp_j_aload_n 0 dX1_putData_64 rfl ?_
          refine bp_j_aload_n 1 dX1_putData_65 rfl ?_
          refine bp_j_cl_I (bp_ranV (t := 3) (n := 0) (As := []) (cnX4_wide (G := G) bp1 ) rfl (lw_V q913 q664 q665 q79 q666) ⟨rfl, by decide +kernel, by decide +kernel, by decide +kernel⟩ ⟨by decide, by decide⟩ (rest := [.ref a0]) rfl rfl (Nat.le_of_ble_eq_true rfl) dX1_putData_66) (by decide) (fun x14 => ?_)
          refine bp_j_cl_U (bp_ranV (t := 0) (n := 1) (As := [.int x14]) (cnX1_putFour (G := G) a0 x14) rfl (lw_V q974 q976 qs26 q72 q977) ⟨rfl, by decide +kernel, by decide +kernel, by decide +kernel⟩ ⟨by decide, by decide⟩ (rest := []) rfl rfl (Nat.le_of_ble_eq_true rfl) dX1_putData_69) (by decide) (fun _ => ?_)
          refine bp_j_aload_n 0 dX1_putData_72 rfl ?_
          refine bp_j_aload_n 1 dX1_putData_73 rfl ?_
          refine bp_j_cl_I (bp_ranV (t := 3) (n := 0) (As := []) (cnX4_high (G := G) bp1 ) rfl (lw_V q914 q656 q657 q79 q658) ⟨rfl, by decide +kernel, by decide +kernel, by decide +kernel⟩ ⟨by decide, by decide⟩ (rest := [.ref a0]) rfl rfl (Nat.le_of_ble_eq_true rfl) dX1_putData_74) (by decide) (fun x15 => ?_)
          refine bp_j_jm (fun k => ∀ (x16 : Int32), bp_J G iX1_putData (bp_Qn G bp_eU) (k x16) 88 [(0, .ref a0), (1, .ref bp1)] [.int x16, .ref a0]) (fun k17 hk17 => ?_) (fun x16 => ?_)
          · refine bp_j_if_ne (tgt := 84) dX1_putData_77 (by decide) ?_ ?_
            · refine bp_j_aload_n 1 dX1_putData_84 rfl ?_
              refine bp_j_cl_I (bp_ranV (t := 3) (n := 0) (As := []) (cnX4_high (G := G) bp1 ) rfl (lw_V q914 q656 q657 q79 q658) ⟨rfl, by decide +kernel, by decide +kernel, by decide +kernel⟩ ⟨by decide, by decide⟩ (rest := [.ref a0]) rfl rfl (Nat.le_of_ble_eq_true rfl) dX1_putData_85) (by decide) (fun x22 => ?_)
              exact hk17 x22
            refine bp_j_iconst (v := -1) dX1_putData_80 (by decide) ?_
            refine bp_j_goto (tgt := 88) dX1_putData_81 (by decide) ?_
            exact hk17 (-1 : Int32)
          refine bp_j_cl_U (bp_ranV (t := 0) (n := 1) (As := [.int x16]) (cnX1_putFour (G := G) a0 x16) rfl (lw_V q974 q976 qs26 q72 q977) ⟨rfl, by decide +kernel, by decide +kernel, by decide +kernel⟩ ⟨by decide, by decide⟩ (rest := []) rfl rfl (Nat.le_of_ble_eq_true rfl) dX1_putData_88) (by decide) (fun _ => ?_)
          refine bp_j_aload_n 0 dX1_putData_91 rfl ?_
          refine bp_j_aload_n 1 dX1_putData_92 rfl ?_
          refine bp_j_getN (t := 3) (k := 6) rfl (by decide) (bp_lkN q243) dX1_putData_93 (fun _ _ _ => rfl) (fun a18 => ?_)
          refine bp_j_iconst (v := 2) dX1_putData_96 (by decide) ?_
          refine bp_j_iaload dX1_putData_97 (fun x19 => ?_)
          refine bp_j_cl_U (bp_ranV (t := 0) (n := 1) (As := [.int x19]) (cnX1_put (G := G) a0 x19) rfl (lw_V q923 q925 qs25 q72 q926) ⟨rfl, by decide +kernel, by decide +kernel, by decide +kernel⟩ ⟨by decide, by decide⟩ (rest := []) rfl rfl (Nat.le_of_ble_eq_true rfl) dX1_putData_98) (by decide) (fun _ => ?_)
          refine bp_j_aload_n 0 dX1_putData_101 rfl ?_
          refine bp_j_aload_n 1 dX1_putData_102 rfl ?_
          refine bp_j_getN (t := 3) (k := 6) rfl (by decide) (bp_lkN q243) dX1_putData_103 (fun _ _ _ => rfl) (fun a20 => ?_)
          refine bp_j_iconst (v := 3) dX1_putData_106 (by decide) ?_
          refine bp_j_iaload dX1_putData_107 (fun x21 => ?_)
          refine bp_j_cl_U (bp_ranV (t := 0) (n := 1) (As := [.int x21]) (cnX1_put (G := G) a0 x21) rfl (lw_V q923 q925 qs25 q72 q926) ⟨rfl, by decide +kernel, by decide +kernel, by decide +kernel⟩ ⟨by decide, by decide⟩ (rest := []) rfl rfl (Nat.le_of_ble_eq_true rfl) dX1_putData_108) (by decide) (fun _ => ?_)
          refine bp_j_goto (tgt := 127) dX1_putData_111 (by decide) ?_
          exact hk3
        · exact hk3
        · exact hk11
        · exact hk3
        · exact hk3
        · exact hk11
        exact hk3
      refine bp_j_aload_n 0 dX1_putData_114 rfl ?_
      refine bp_j_aload_n 1 dX1_putData_115 rfl ?_
      refine bp_j_getN (t := 3) (k := 6) rfl (by decide) (bp_lkN q243) dX1_putData_116 (fun _ _ _ => rfl) (fun a12 => ?_)
      refine bp_j_iconst (v := 0) dX1_putData_119 (by decide) ?_
      refine bp_j_iaload dX1_putData_120 (fun x13 => ?_)
      refine bp_j_cl_U (bp_ranV (t := 0) (n := 1) (As := [.int x13]) (cnX1_putFour (G := G) a0 x13) rfl (lw_V q974 q976 qs26 q72 q977) ⟨rfl, by decide +kernel, by decide +kernel, by decide +kernel⟩ ⟨by decide, by decide⟩ (rest := []) rfl rfl (Nat.le_of_ble_eq_true rfl) dX1_putData_121) (by decide) (fun _ => ?_)
      refine bp_j_goto (tgt := 127) dX1_putData_124 (by decide) ?_
      exact hk3
    refine bp_j_aload_n 0 dX1_putData_56 rfl ?_
    refine bp_j_aload_n 1 dX1_putData_57 rfl ?_
    refine bp_j_cl_U (bp_ranV (t := 0) (n := 1) (As := [.ref bp1]) (cnX1_putRegion (G := G) a0 bp1) rfl (lw_V q997 q999 qs30 q72 q1000) ⟨rfl, by decide +kernel, by decide +kernel, by decide +kernel⟩ ⟨by decide, by decide⟩ (rest := []) rfl rfl (Nat.le_of_ble_eq_true rfl) dX1_putData_58) (by decide) (fun _ => ?_)
    refine bp_j_goto (tgt := 127) dX1_putData_61 (by decide) ?_
    exact hk3
  refine bp_j_iconst (v := 0) dX1_putData_127 (by decide) ?_
  refine bp_j_istore_n (lv' := [(2, .int (0 : Int32)), (0, .ref a0), (1, .ref bp1)]) dX1_putData_128 (by decide) rfl ?_
  refine bp_j_loop (fun k => ∀ (x4 : Int32), bp_J G iX1_putData (bp_Qn G bp_eU) (k x4) 129 [(0, .ref a0), (1, .ref bp1), (2, .int x4)] []) (fun _ => bp_j_no) (fun k5 hk5 x4 => ?_) (fun k h => bp_j_sub [1, 2, 0] rfl (h (0 : Int32)))
  unfold BX1_putData_129
  refine bp_j_iload_n 2 dX1_putData_129 rfl ?_
  refine bp_j_aload_n 1 dX1_putData_130 rfl ?_
  refine bp_j_getI (t := 3) (k := 8) rfl (by decide) (bp_lkN q248) dX1_putData_131 (fun _ _ _ => rfl) (fun x6 => ?_)
  refine bp_j_icmp_ge (tgt := 153) dX1_putData_134 (by decide) ?_ ?_
  · exact bp_j_vret rfl dX1_putData_153
  refine bp_j_aload_n 0 dX1_putData_137 rfl ?_
  refine bp_j_aload_n 1 dX1_putData_138 rfl ?_
  refine bp_j_getN (t := 3) (k := 7) rfl (by decide) (bp_lkN q246) dX1_putData_139 (fun _ _ _ => rfl) (fun a7 => ?_)
  refine bp_j_iload_n 2 dX1_putData_142 rfl ?_
  refine bp_j_baloadB dX1_putData_143 (fun x8 => ?_)
  refine bp_j_cl_U (bp_ranV (t := 0) (n := 1) (As := [.int x8]) (cnX1_put (G := G) a0 x8) rfl (lw_V q923 q925 qs25 q72 q926) ⟨rfl, by decide +kernel, by decide +kernel, by decide +kernel⟩ ⟨by decide, by decide⟩ (rest := []) rfl rfl (Nat.le_of_ble_eq_true rfl) dX1_putData_144) (by decide) (fun _ => ?_)
  refine bp_j_iincL (lv' := fun x9 => [(2, .int x9), (0, .ref a0), (1, .ref bp1)]) 2 dX1_putData_147 rfl (by decide) (by decide) (fun _ => rfl) (fun x9 => ?_)
  refine bp_j_goto (tgt := 129) dX1_putData_150 (by decide) ?_
  exact bp_j_sub [1, 2, 0] rfl (hk5 x9)
/-- BilevelPages.sizeOf(LBilevelPages$Segment;)I -/
abbrev iX1_sizeOf : bp_MI := (yX1_sizeOf, cX1_sizeOf, 4, some (Jvm.ClassFile.FieldType.int), [], 4, 90)
def PX1_sizeOf (a0 : Nat) (bp1 : Nat) : bp_M Int32 :=
  bp_bind (bp_is 3 bp1 (PX4_isOpen bp1)) fun x1 =>
  bp_if (x1 = 0) (
  bp_getI 0 5 a0 fun x2 =>
  bp_bind (bp_is 0 a0 (PX1_putData a0 bp1)) fun _ =>
  bp_getI 0 5 a0 fun x3 =>
  bp_letI (x3 - x2) fun x4 =>
  bp_putI 0 5 a0 x2 <|
  bp_ret x4) (
  bp_ret (-1 : Int32))
set_option maxHeartbeats 4000000 in
set_option maxRecDepth 100000 in
theorem cnX1_sizeOf {G : bp_GT} (a0 : Nat) (bp1 : Nat) : bp_Con G iX1_sizeOf (ws_ iX1_sizeOf.1 iX1_sizeOf.2.1 iX1_sizeOf.2.2.1 iX1_sizeOf.2.2.2.1) [.ref a0, .ref bp1] (PX1_sizeOf a0 bp1) bp_eI := by
  refine bp_con_of [(0, .ref a0), (1, .ref bp1)] rfl (by decide) (Nat.le_of_ble_eq_true rfl) rfl ?_
  unfold PX1_sizeOf
  refine bp_j_aload_n 1 dX1_sizeOf_0 rfl ?_
  refine bp_j_cl_I (bp_ranV (t := 3) (n := 0) (As := []) (cnX4_isOpen (G := G) bp1 ) rfl (lw_V q987 q988 q989 q79 q990) ⟨rfl, by decide +kernel, by decide +kernel, by decide +kernel⟩ ⟨by decide, by decide⟩ (rest := []) rfl rfl (Nat.le_of_ble_eq_true rfl) dX1_sizeOf_1) (by decide) (fun x1 => ?_)
  refine bp_j_if_eq (tgt := 9) dX1_sizeOf_4 (by decide) ?_ ?_
  · refine bp_j_aload_n 0 dX1_sizeOf_9 rfl ?_
    refine bp_j_getI (t := 0) (k := 5) rfl (by decide) (bp_lk q295) dX1_sizeOf_10 (fun _ _ _ => rfl) (fun x2 => ?_)
    refine bp_j_istore_n (lv' := [(2, .int x2), (0, .ref a0), (1, .ref bp1)]) dX1_sizeOf_13 (by decide) rfl ?_
    refine bp_j_aload_n 1 dX1_sizeOf_14 rfl ?_
    refine bp_j_aload_n 2 dX1_sizeOf_15 rfl ?_
    refine bp_j_cl_U (bp_ranV (t := 0) (n := 1) (As := [.ref bp1]) (cnX1_putData (G := G) a0 bp1) rfl (lw_V q992 q994 qs29 q72 q995) ⟨rfl, by decide +kernel, by decide +kernel, by decide +kernel⟩ ⟨by decide, by decide⟩ (rest := []) rfl rfl (Nat.le_of_ble_eq_true rfl) dX1_sizeOf_16) (by decide) (fun _ => ?_)
    refine bp_j_aload_n 1 dX1_sizeOf_19 rfl ?_
    refine bp_j_getI (t := 0) (k := 5) rfl (by decide) (bp_lk q295) dX1_sizeOf_20 (fun _ _ _ => rfl) (fun x3 => ?_)
    refine bp_j_iload_n 0 dX1_sizeOf_23 rfl ?_
    refine bp_j_isub dX1_sizeOf_24 ?_
    refine bp_j_letI (fun x4 => ?_)
    refine bp_j_istore_n (lv' := [(3, .int x4), (2, .int x2), (0, .ref a0), (1, .ref bp1)]) dX1_sizeOf_25 (by decide) rfl ?_
    refine bp_j_aload_n 2 dX1_sizeOf_26 rfl ?_
    refine bp_j_iload_n 1 dX1_sizeOf_27 rfl ?_
    refine bp_j_putI (t := 0) (k := 5) rfl (by decide) (by decide) (bp_lk q295) rfl dX1_sizeOf_28 rfl ?_
    refine bp_j_iload_n 0 dX1_sizeOf_31 rfl ?_
    exact bp_j_iret rfl dX1_sizeOf_32
  refine bp_j_iconst (v := -1) dX1_sizeOf_7 (by decide) ?_
  exact bp_j_iret rfl dX1_sizeOf_8
