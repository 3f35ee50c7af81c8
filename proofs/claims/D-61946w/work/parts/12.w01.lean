/-! programs and walks -/
set_option maxRecDepth 100000
/-- BilevelPages$Segment.begin(LBilevelPages$Kind;II)LBilevelPages$Segment; -/
abbrev iX4_begin : bp_MI := (yX4_begin, cX4_begin, 5, some ((Jvm.ClassFile.FieldType.object "BilevelPages$Segment")), [], 2, 41)
def BX4_begin_100 (a0 : Nat) (k3 : Int32 → bp_M Nat) : Int32 → bp_M Nat :=
  fun x2 =>
  bp_if ((16 : Int32) ≤ x2) (
  bp_ret a0) (
  bp_getN 3 9 a0 fun a4 =>
  bp_astI a4 x2 (0 : Int32) <|
  bp_letI (x2 + (1 : Int32)) fun x5 =>
  k3 x5)
def BX4_begin_48 (a0 : Nat) (bp1 : Nat) (k1 : bp_M Nat) (k7 : Int32 → bp_M Nat) : Int32 → bp_M Nat :=
  fun x6 =>
  bp_getN 3 6 a0 fun a8 =>
  bp_alen 20 a8 fun x9 =>
  bp_if (x9 ≤ x6) (
  k1) (
  bp_getN 3 6 a0 fun a10 =>
  bp_getI 8 1 bp1 fun x11 =>
  bp_jn (fun (k13 : Int32 → bp_M Nat) =>
  bp_if (x11 ≤ x6) (
  k13 (0 : Int32)) (
  bp_gets 20 fun a15 =>
  bp_if ((some bp1) = (some a15)) (
  k13 (0 : Int32)) (
  bp_bind (bp_is 8 bp1 (PX5_least bp1 x6)) fun x16 =>
  k13 x16))) (fun (x12 : Int32) =>
  bp_astI a10 x6 x12 <|
  bp_letI (x6 + (1 : Int32)) fun x14 =>
  k7 x14))
def PX4_begin (a0 : Nat) (bp1 : Nat) (xp2 : Int32) (xp3 : Int32) : bp_M Nat :=
  bp_putR 3 0 a0 (some bp1) <|
  bp_putI 3 1 a0 xp2 <|
  bp_putI 3 2 a0 xp3 <|
  bp_putI 3 4 a0 (0 : Int32) <|
  bp_putI 3 5 a0 (0 : Int32) <|
  bp_putI 3 8 a0 (0 : Int32) <|
  bp_putI 3 10 a0 (0 : Int32) <|
  bp_putL 3 11 a0 (0 : Int64) <|
  bp_putI 3 12 a0 (-1 : Int32) <|
  bp_jn (fun (k1 : bp_M Nat) =>
  bp_loop (fun _ => bp_no) (BX4_begin_48 a0 bp1 k1) (fun k => k (0 : Int32))) (bp_loop (fun _ => bp_no) (BX4_begin_100 a0) (fun k => k (0 : Int32)))
set_option maxHeartbeats 4000000 in
set_option maxRecDepth 100000 in
theorem cnX4_begin {G : bp_GT} (a0 : Nat) (bp1 : Nat) (xp2 : Int32) (xp3 : Int32) : bp_Con G iX4_begin (ws_ iX4_begin.1 iX4_begin.2.1 iX4_begin.2.2.1 iX4_begin.2.2.2.1) [.ref a0, .ref bp1, .int xp2, .int xp3] (PX4_begin a0 bp1 xp2 xp3) bp_eN := by
  refine bp_con_of [(0, .ref a0), (1, .ref bp1), (2, .int xp2), (3, .int xp3)] rfl (by decide) (Nat.le_of_ble_eq_true rfl) rfl ?_
  unfold PX4_begin
  refine bp_j_aload_n 0 dX4_begin_0 rfl ?_
  refine bp_j_aload_n 1 dX4_begin_1 rfl ?_
  refine bp_j_putR (t := 3) (k := 0) (some bp1) rfl (by decide) (by decide) (bp_lk q223) rfl dX4_begin_2 (fun _ _ _ => rfl) ?_
  refine bp_j_aload_n 0 dX4_begin_5 rfl ?_
  refine bp_j_iload_n 2 dX4_begin_6 rfl ?_
  refine bp_j_putI (t := 3) (k := 1) rfl (by decide) (by decide) (bp_lk q226) rfl dX4_begin_7 rfl ?_
  refine bp_j_aload_n 0 dX4_begin_10 rfl ?_
  refine bp_j_iload_n 3 dX4_begin_11 rfl ?_
  refine bp_j_putI (t := 3) (k := 2) rfl (by decide) (by decide) (bp_lk q229) rfl dX4_begin_12 rfl ?_
  refine bp_j_aload_n 0 dX4_begin_15 rfl ?_
  refine bp_j_iconst (v := 0) dX4_begin_16 (by decide) ?_
  refine bp_j_putI (t := 3) (k := 4) rfl (by decide) (by decide) (bp_lk q235) rfl dX4_begin_17 rfl ?_
  refine bp_j_aload_n 0 dX4_begin_20 rfl ?_
  refine bp_j_iconst (v := 0) dX4_begin_21 (by decide) ?_
  refine bp_j_putI (t := 3) (k := 5) rfl (by decide) (by decide) (bp_lk q238) rfl dX4_begin_22 rfl ?_
  refine bp_j_aload_n 0 dX4_begin_25 rfl ?_
  refine bp_j_iconst (v := 0) dX4_begin_26 (by decide) ?_
  refine bp_j_putI (t := 3) (k := 8) rfl (by decide) (by decide) (bp_lk q247) rfl dX4_begin_27 rfl ?_
  refine bp_j_aload_n 0 dX4_begin_30 rfl ?_
  refine bp_j_iconst (v := 0) dX4_begin_31 (by decide) ?_
  refine bp_j_putI (t := 3) (k := 10) rfl (by decide) (by decide) (bp_lk q253) rfl dX4_begin_32 rfl ?_
  refine bp_j_aload_n 0 dX4_begin_35 rfl ?_
  refine bp_j_lconst (v := 0) dX4_begin_36 (by decide) ?_
  refine bp_j_putL (t := 3) (k := 11) rfl (by decide) (by decide) (bp_lk q255) rfl dX4_begin_37 rfl ?_
  refine bp_j_aload_n 0 dX4_begin_40 rfl ?_
  refine bp_j_iconst (v := -1) dX4_begin_41 (by decide) ?_
  refine bp_j_putI (t := 3) (k := 12) rfl (by decide) (by decide) (bp_lk q258) rfl dX4_begin_42 rfl ?_
  refine bp_j_iconst (v := 0) dX4_begin_45 (by decide) ?_
  refine bp_j_istore (lv' := [(4, .int (0 : Int32)), (0, .ref a0), (1, .ref bp1), (2, .int xp2), (3, .int xp3)]) dX4_begin_46 (by decide) rfl ?_
  refine bp_j_jm (fun k => bp_J G iX4_begin (bp_Qn G bp_eN) (k) 97 [(0, .ref a0)] []) (fun k1 hk1 => ?_) ?_
  · refine bp_j_loop (fun k => ∀ (x6 : Int32), bp_J G iX4_begin (bp_Qn G bp_eN) (k x6) 48 [(0, .ref a0), (1, .ref bp1), (4, .int x6)] []) (fun _ => bp_j_no) (fun k7 hk7 x6 => ?_) (fun k h => bp_j_sub [1, 2, 0] rfl (h (0 : Int32)))
    unfold BX4_begin_48
    refine bp_j_iload 2 dX4_begin_48 rfl ?_
    refine bp_j_aload_n 0 dX4_begin_50 rfl ?_
    refine bp_j_getN (t := 3) (k := 6) rfl (by decide) (bp_lk q241) dX4_begin_51 (fun _ _ _ => rfl) (fun a8 => ?_)
    refine bp_j_alen (t := 20) rfl dX4_begin_54 (fun x9 => ?_)
    refine bp_j_icmp_ge (tgt := 97) dX4_begin_55 (by decide) ?_ ?_
    · exact bp_j_sub [0] rfl (hk1)
    refine bp_j_aload_n 0 dX4_begin_58 rfl ?_
    refine bp_j_getN (t := 3) (k := 6) rfl (by decide) (bp_lk q241) dX4_begin_59 (fun _ _ _ => rfl) (fun a10 => ?_)
    refine bp_j_iload 2 dX4_begin_62 rfl ?_
    refine bp_j_iload 2 dX4_begin_64 rfl ?_
    refine bp_j_aload_n 1 dX4_begin_66 rfl ?_
    refine bp_j_getI (t := 8) (k := 1) rfl (by decide) (bp_lkN q1525) dX4_begin_67 (fun _ _ _ => rfl) (fun x11 => ?_)
    refine bp_j_jm (fun k => ∀ (x12 : Int32), bp_J G iX4_begin (bp_Qn G bp_eN) (k x12) 90 [(0, .ref a0), (1, .ref bp1), (4, .int x6)] [.int x12, .int x6, .ref a10]) (fun k13 hk13 => ?_) (fun x12 => ?_)
    · refine bp_j_icmp_ge (tgt := 80) dX4_begin_70 (by decide) ?_ ?_
      · refine bp_j_iconst (v := 0) dX4_begin_80 (by decide) ?_
        refine bp_j_goto (tgt := 90) dX4_begin_81 (by decide) ?_
        exact hk13 (0 : Int32)
      refine bp_j_aload_n 1 dX4_begin_73 rfl ?_
      refine bp_j_gets (j := 20) rfl (bp_lk q482) dX4_begin_74 (fun a15 => ?_)
      refine bp_j_acmp_ne (x := (some bp1)) (y := (some a15)) (tgt := 84) dX4_begin_77 (by decide) ?_ ?_
      · refine bp_j_aload_n 1 dX4_begin_84 rfl ?_
        refine bp_j_iload 2 dX4_begin_85 rfl ?_
        refine bp_j_cl_I (bp_ranV (t := 8) (n := 1) (As := [.int x6]) (cnX5_least (G := G) bp1 x6) rfl (lw_V q484 q485 q486 q81 q487) ⟨rfl, by decide +kernel, by decide +kernel, by decide +kernel⟩ ⟨by decide, by decide⟩ (rest := [.int x6, .ref a10]) rfl rfl (Nat.le_of_ble_eq_true rfl) dX4_begin_87) (by decide) (fun x16 => ?_)
        exact hk13 x16
      refine bp_j_iconst (v := 0) dX4_begin_80 (by decide) ?_
      refine bp_j_goto (tgt := 90) dX4_begin_81 (by decide) ?_
      exact hk13 (0 : Int32)
    refine bp_j_iastore dX4_begin_90 ?_
    refine bp_j_iincL (lv' := fun x14 => [(4, .int x14), (0, .ref a0), (1, .ref bp1)]) 2 dX4_begin_91 rfl (by decide) (by decide) (fun _ => rfl) (fun x14 => ?_)
    refine bp_j_goto (tgt := 48) dX4_begin_94 (by decide) ?_
    exact bp_j_sub [1, 2, 0] rfl (hk7 x14)
  refine bp_j_iconst (v := 0) dX4_begin_97 (by decide) ?_
  refine bp_j_istore (lv' := [(4, .int (0 : Int32)), (0, .ref a0)]) dX4_begin_98 (by decide) rfl ?_
  refine bp_j_loop (fun k => ∀ (x2 : Int32), bp_J G iX4_begin (bp_Qn G bp_eN) (k x2) 100 [(0, .ref a0), (4, .int x2)] []) (fun _ => bp_j_no) (fun k3 hk3 x2 => ?_) (fun k h => bp_j_sub [1, 0] rfl (h (0 : Int32)))
  unfold BX4_begin_100
  refine bp_j_iload 1 dX4_begin_100 rfl ?_
  refine bp_j_bipush (v := 16) dX4_begin_102 (by decide) ?_
  refine bp_j_icmp_ge (tgt := 121) dX4_begin_104 (by decide) ?_ ?_
  · refine bp_j_aload_n 0 dX4_begin_121 rfl ?_
    exact bp_j_aretN rfl (Or.inl ⟨_, rfl⟩) dX4_begin_122
  refine bp_j_aload_n 0 dX4_begin_107 rfl ?_
  refine bp_j_getN (t := 3) (k := 9) rfl (by decide) (bp_lk q249) dX4_begin_108 (fun _ _ _ => rfl) (fun a4 => ?_)
  refine bp_j_iload 1 dX4_begin_111 rfl ?_
  refine bp_j_iconst (v := 0) dX4_begin_113 (by decide) ?_
  refine bp_j_iastore dX4_begin_114 ?_
  refine bp_j_iincL (lv' := fun x5 => [(4, .int x5), (0, .ref a0)]) 1 dX4_begin_115 rfl (by decide) (by decide) (fun _ => rfl) (fun x5 => ?_)
  refine bp_j_goto (tgt := 100) dX4_begin_118 (by decide) ?_
  exact bp_j_sub [1, 0] rfl (hk3 x5)
/-- BilevelPages$Segment.isOpen()Z -/
abbrev iX4_isOpen : bp_MI := (yX4_isOpen, cX4_isOpen, 1, some (Jvm.ClassFile.FieldType.boolean), [], 0, 0)
def PX4_isOpen (a0 : Nat) : bp_M Int32 :=
  bp_getN 3 0 a0 fun a1 =>
  bp_gets 14 fun a2 =>
  bp_if ((some a1) = (some a2)) (
  bp_getN 3 6 a0 fun a3 =>
  bp_aldI 20 a3 (5 : Int32) fun x4 =>
  bp_if (x4 = (1 : Int32)) (
  bp_retZ (1 : Int32)) (
  bp_retZ (0 : Int32))) (
  bp_retZ (0 : Int32))
set_option maxHeartbeats 4000000 in
set_option maxRecDepth 100000 in
theorem cnX4_isOpen {G : bp_GT} (a0 : Nat) : bp_Con G iX4_isOpen (ws_ iX4_isOpen.1 iX4_isOpen.2.1 iX4_isOpen.2.2.1 iX4_isOpen.2.2.2.1) [.ref a0] (PX4_isOpen a0) bp_eI := by
  refine bp_con_of [(0, .ref a0)] rfl (by decide) (Nat.le_of_ble_eq_true rfl) rfl ?_
  unfold PX4_isOpen
  refine bp_j_aload_n 0 dX4_isOpen_0 rfl ?_
  refine bp_j_getN (t := 3) (k := 0) rfl (by decide) (bp_lk q223) dX4_isOpen_1 (fun _ _ _ => rfl) (fun a1 => ?_)
  refine bp_j_gets (j := 14) rfl (bp_lk q991) dX4_isOpen_4 (fun a2 => ?_)
  refine bp_j_acmp_ne (x := (some a1)) (y := (some a2)) (tgt := 24) dX4_isOpen_7 (by decide) ?_ ?_
  · refine bp_j_iconst (v := 0) dX4_isOpen_24 (by decide) ?_
    exact bp_j_zret rfl dX4_isOpen_25
  refine bp_j_aload_n 0 dX4_isOpen_10 rfl ?_
  refine bp_j_getN (t := 3) (k := 6) rfl (by decide) (bp_lk q241) dX4_isOpen_11 (fun _ _ _ => rfl) (fun a3 => ?_)
  refine bp_j_iconst (v := 5) dX4_isOpen_14 (by decide) ?_
  refine bp_j_iaload dX4_isOpen_15 (fun x4 => ?_)
  refine bp_j_iconst (v := 1) dX4_isOpen_16 (by decide) ?_
  refine bp_j_icmp_ne (tgt := 24) dX4_isOpen_17 (by decide) ?_ ?_
  · refine bp_j_iconst (v := 0) dX4_isOpen_24 (by decide) ?_
    exact bp_j_zret rfl dX4_isOpen_25
  refine bp_j_iconst (v := 1) dX4_isOpen_20 (by decide) ?_
  refine bp_j_goto (tgt := 25) dX4_isOpen_21 (by decide) ?_
  exact bp_j_zret rfl dX4_isOpen_25
/-- BilevelPages$Segment.<init>()V -/
abbrev iX4_init : bp_MI := (yX4_init, cX4_init, 1, none, [], 1, 40)
def PX4_init (a0 : Nat) : bp_M Unit :=
  bp_gets 18 fun a1 =>
  bp_putR 3 0 a0 (some a1) <|
  bp_newa 20 (10 : Int32) fun a2 =>
  bp_putR 3 3 a0 (some a2) <|
  bp_newa 20 (6 : Int32) fun a3 =>
  bp_putR 3 6 a0 (some a3) <|
  bp_newa 21 (20 : Int32) fun a4 =>
  bp_putR 3 7 a0 (some a4) <|
  bp_newa 20 (16 : Int32) fun a5 =>
  bp_putR 3 9 a0 (some a5) <|
  bp_putI 3 12 a0 (-1 : Int32) <|
  bp_ret ()
set_option maxHeartbeats 4000000 in
set_option maxRecDepth 100000 in
theorem cnX4_init {G : bp_GT} (a0 : Nat) : bp_Con G iX4_init (ws_ iX4_init.1 iX4_init.2.1 iX4_init.2.2.1 iX4_init.2.2.2.1) [.ref a0] (PX4_init a0) bp_eU := by
  refine bp_con_of [(0, .ref a0)] rfl (by decide) (Nat.le_of_ble_eq_true rfl) rfl ?_
  unfold PX4_init
  refine bp_j_aload_n 0 dX4_init_0 rfl ?_
  refine bp_j_objInit q220 q105 q106 dX4_init_1 (by decide) (Nat.le_of_ble_eq_true rfl) ?_
  refine bp_j_aload_n 0 dX4_init_4 rfl ?_
  refine bp_j_gets (j := 18) rfl (bp_lk q221) dX4_init_5 (fun a1 => ?_)
  refine bp_j_putR (t := 3) (k := 0) (some a1) rfl (by decide) (by decide) (bp_lk q223) rfl dX4_init_8 (fun _ _ _ => rfl) ?_
  refine bp_j_aload_n 0 dX4_init_11 rfl ?_
  refine bp_j_bipush (v := 10) dX4_init_12 (by decide) ?_
  refine bp_j_newarray (aty := .int) (t := 20) rfl (by decide) q215 (by decide) dX4_init_14 (fun a2 => ?_)
  refine bp_j_putFR (t := 3) (k := 3) (some a2) rfl (by decide) (by decide) q232 rfl rfl rfl dX4_init_16 (fun _ _ _ => rfl) ?_
  refine bp_j_aload_n 0 dX4_init_19 rfl ?_
  refine bp_j_bipush (v := 6) dX4_init_20 (by decide) ?_
  refine bp_j_newarray (aty := .int) (t := 20) rfl (by decide) q215 (by decide) dX4_init_22 (fun a3 => ?_)
  refine bp_j_putFR (t := 3) (k := 6) (some a3) rfl (by decide) (by decide) q241 rfl rfl rfl dX4_init_24 (fun _ _ _ => rfl) ?_
  refine bp_j_aload_n 0 dX4_init_27 rfl ?_
  refine bp_j_bipush (v := 20) dX4_init_28 (by decide) ?_
  refine bp_j_newarray (aty := .byte) (t := 21) rfl (by decide) q172 (by decide) dX4_init_30 (fun a4 => ?_)
  refine bp_j_putFR (t := 3) (k := 7) (some a4) rfl (by decide) (by decide) q245 rfl rfl rfl dX4_init_32 (fun _ _ _ => rfl) ?_
  refine bp_j_aload_n 0 dX4_init_35 rfl ?_
  refine bp_j_bipush (v := 16) dX4_init_36 (by decide) ?_
  refine bp_j_newarray (aty := .int) (t := 20) rfl (by decide) q215 (by decide) dX4_init_38 (fun a5 => ?_)
  refine bp_j_putFR (t := 3) (k := 9) (some a5) rfl (by decide) (by decide) q249 rfl rfl rfl dX4_init_40 (fun _ _ _ => rfl) ?_
  refine bp_j_aload_n 0 dX4_init_43 rfl ?_
  refine bp_j_iconst (v := -1) dX4_init_44 (by decide) ?_
  refine bp_j_putI (t := 3) (k := 12) rfl (by decide) (by decide) (bp_lk q258) rfl dX4_init_45 rfl ?_
  exact bp_j_vret rfl dX4_init_48
/-- BilevelPages$Segment.rowBytes()I -/
abbrev iX4_rowBytes : bp_MI := (yX4_rowBytes, cX4_rowBytes, 1, some (Jvm.ClassFile.FieldType.int), [], 1, 20)
def PX4_rowBytes (a0 : Nat) : bp_M Int32 :=
  bp_bind (bp_is 3 a0 (PX4_wide a0)) fun x1 =>
  bp_nz (8 : Int32) <|
  bp_ret ((x1 + (7 : Int32)) / (8 : Int32))
set_option maxHeartbeats 4000000 in
set_option maxRecDepth 100000 in
theorem cnX4_rowBytes {G : bp_GT} (a0 : Nat) : bp_Con G iX4_rowBytes (ws_ iX4_rowBytes.1 iX4_rowBytes.2.1 iX4_rowBytes.2.2.1 iX4_rowBytes.2.2.2.1) [.ref a0] (PX4_rowBytes a0) bp_eI := by
  refine bp_con_of [(0, .ref a0)] rfl (by decide) (Nat.le_of_ble_eq_true rfl) rfl ?_
  unfold PX4_rowBytes
  refine bp_j_aload_n 0 dX4_rowBytes_0 rfl ?_
  refine bp_j_cl_I (bp_ranV (t := 3) (n := 0) (As := []) (cnX4_wide (G := G) a0 ) rfl (lw_V q663 q664 q665 q79 q666) ⟨rfl, by decide +kernel, by decide +kernel, by decide +kernel⟩ ⟨by decide, by decide⟩ (rest := []) rfl rfl (Nat.le_of_ble_eq_true rfl) dX4_rowBytes_1) (by decide) (fun x1 => ?_)
  refine bp_j_bipush (v := 7) dX4_rowBytes_4 (by decide) ?_
  refine bp_j_iadd dX4_rowBytes_6 ?_
  refine bp_j_bipush (v := 8) dX4_rowBytes_7 (by decide) ?_
  refine bp_j_idiv dX4_rowBytes_9 ?_
  exact bp_j_iret rfl dX4_rowBytes_10
/-- BilevelPages$Sheet.isDark(II)Z -/
abbrev iX3_isDark : bp_MI := (yX3_isDark, cX3_isDark, 3, some (Jvm.ClassFile.FieldType.boolean), [], 0, 0)
def PX3_isDark (a0 : Nat) (xp1 : Int32) (xp2 : Int32) : bp_M Int32 :=
  bp_getN 2 0 a0 fun a1 =>
  bp_aldI 20 a1 xp2 fun x2 =>
  bp_if (((x2 >>> (xp1 &&& 31)) &&& (1 : Int32)) = (1 : Int32)) (
  bp_retZ (1 : Int32)) (
  bp_retZ (0 : Int32))
set_option maxHeartbeats 4000000 in
set_option maxRecDepth 100000 in
theorem cnX3_isDark {G : bp_GT} (a0 : Nat) (xp1 : Int32) (xp2 : Int32) : bp_Con G iX3_isDark (ws_ iX3_isDark.1 iX3_isDark.2.1 iX3_isDark.2.2.1 iX3_isDark.2.2.2.1) [.ref a0, .int xp1, .int xp2] (PX3_isDark a0 xp1 xp2) bp_eI := by
  refine bp_con_of [(0, .ref a0), (1, .int xp1), (2, .int xp2)] rfl (by decide) (Nat.le_of_ble_eq_true rfl) rfl ?_
  unfold PX3_isDark
  refine bp_j_aload_n 0 dX3_isDark_0 rfl ?_
  refine bp_j_getN (t := 2) (k := 0) rfl (by decide) (bp_lk q184) dX3_isDark_1 (fun _ _ _ => rfl) (fun a1 => ?_)
  refine bp_j_iload_n 2 dX3_isDark_4 rfl ?_
  refine bp_j_iaload dX3_isDark_5 (fun x2 => ?_)
  refine bp_j_iload_n 1 dX3_isDark_6 rfl ?_
  refine bp_j_ishr dX3_isDark_7 ?_
  refine bp_j_iconst (v := 1) dX3_isDark_8 (by decide) ?_
  refine bp_j_iand dX3_isDark_9 ?_
  refine bp_j_iconst (v := 1) dX3_isDark_10 (by decide) ?_
  refine bp_j_icmp_ne (tgt := 18) dX3_isDark_11 (by decide) ?_ ?_
  · refine bp_j_iconst (v := 0) dX3_isDark_18 (by decide) ?_
    exact bp_j_zret rfl dX3_isDark_19
  refine bp_j_iconst (v := 1) dX3_isDark_14 (by decide) ?_
  refine bp_j_goto (tgt := 19) dX3_isDark_15 (by decide) ?_
  exact bp_j_zret rfl dX3_isDark_19
/-- BilevelPages$Sheet.dark()I -/
abbrev iX3_dark : bp_MI := (yX3_dark, cX3_dark, 3, some (Jvm.ClassFile.FieldType.int), [], 1, 22)
def BX3_dark_4 (a0 : Nat) (k3 : Int32 → Int32 → bp_M Int32) : Int32 → Int32 → bp_M Int32 :=
  fun x1 x2 =>
  bp_getI 2 3 a0 fun x4 =>
  bp_getI 2 4 a0 fun x5 =>
  bp_if ((x4 * x5) ≤ x2) (
  bp_ret x1) (
  bp_getI 2 3 a0 fun x6 =>
  bp_nz x6 <|
  bp_getI 2 3 a0 fun x7 =>
  bp_nz x7 <|
  bp_bind (bp_is 2 a0 (PX3_isDark a0 (x2 - x2 / x6 * x6) (x2 / x7))) fun x8 =>
  bp_jn (fun (k10 : Int32 → bp_M Int32) =>
  bp_if (x8 = 0) (
  k10 (0 : Int32)) (
  k10 (1 : Int32))) (fun (x9 : Int32) =>
  bp_letI (x1 + x9) fun x11 =>
  bp_letI (x2 + (1 : Int32)) fun x12 =>
  k3 x11 x12))
def PX3_dark (a0 : Nat) : bp_M Int32 :=
  bp_loop (fun _ _ => bp_no) (BX3_dark_4 a0) (fun k => k (0 : Int32) (0 : Int32))
set_option maxHeartbeats 4000000 in
set_option maxRecDepth 100000 in
theorem cnX3_dark {G : bp_GT} (a0 : Nat) : bp_Con G iX3_dark (ws_ iX3_dark.1 iX3_dark.2.1 iX3_dark.2.2.1 iX3_dark.2.2.2.1) [.ref a0] (PX3_dark a0) bp_eI := by
  refine bp_con_of [(0, .ref a0)] rfl (by decide) (Nat.le_of_ble_eq_true rfl) rfl ?_
  unfold PX3_dark
  refine bp_j_iconst (v := 0) dX3_dark_0 (by decide) ?_
  refine bp_j_istore_n (lv' := [(1, .int (0 : Int32)), (0, .ref a0)]) dX3_dark_1 (by decide) rfl ?_
  refine bp_j_iconst (v := 0) dX3_dark_2 (by decide) ?_
  refine bp_j_istore_n (lv' := [(2, .int (0 : Int32)), (1, .int (0 : Int32)), (0, .ref a0)]) dX3_dark_3 (by decide) rfl ?_
  refine bp_j_loop (fun k => ∀ (x1 : Int32) (x2 : Int32), bp_J G iX3_dark (bp_Qn G bp_eI) (k x1 x2) 4 [(0, .ref a0), (1, .int x1), (2, .int x2)] []) (fun _ _ => bp_j_no) (fun k3 hk3 x1 x2 => ?_) (fun k h => bp_j_sub [2, 1, 0] rfl (h (0 : Int32) (0 : Int32)))
  unfold BX3_dark_4
  refine bp_j_iload_n 2 dX3_dark_4 rfl ?_
  refine bp_j_aload_n 0 dX3_dark_5 rfl ?_
  refine bp_j_getI (t := 2) (k := 3) rfl (by decide) (bp_lk q191) dX3_dark_6 (fun _ _ _ => rfl) (fun x4 => ?_)
  refine bp_j_aload_n 0 dX3_dark_9 rfl ?_
  refine bp_j_getI (t := 2) (k := 4) rfl (by decide) (bp_lk q193) dX3_dark_10 (fun _ _ _ => rfl) (fun x5 => ?_)
  refine bp_j_imul dX3_dark_13 ?_
  refine bp_j_icmp_ge (tgt := 50) dX3_dark_14 (by decide) ?_ ?_
  · refine bp_j_iload_n 1 dX3_dark_50 rfl ?_
    exact bp_j_iret rfl dX3_dark_51
  refine bp_j_iload_n 1 dX3_dark_17 rfl ?_
  refine bp_j_aload_n 0 dX3_dark_18 rfl ?_
  refine bp_j_iload_n 2 dX3_dark_19 rfl ?_
  refine bp_j_aload_n 0 dX3_dark_20 rfl ?_
  refine bp_j_getI (t := 2) (k := 3) rfl (by decide) (bp_lk q191) dX3_dark_21 (fun _ _ _ => rfl) (fun x6 => ?_)
  refine bp_j_irem dX3_dark_24 ?_
  refine bp_j_iload_n 2 dX3_dark_25 rfl ?_
  refine bp_j_aload_n 0 dX3_dark_26 rfl ?_
  refine bp_j_getI (t := 2) (k := 3) rfl (by decide) (bp_lk q191) dX3_dark_27 (fun _ _ _ => rfl) (fun x7 => ?_)
  refine bp_j_idiv dX3_dark_30 ?_
  refine bp_j_cl_I (bp_ranV (t := 2) (n := 2) (As := [.int (x2 - x2 / x6 * x6), .int (x2 / x7)]) (cnX3_isDark (G := G) a0 (x2 - x2 / x6 * x6) (x2 / x7)) rfl (lw_V q679 q681 qs17 q78 q682) ⟨rfl, by decide +kernel, by decide +kernel, by decide +kernel⟩ ⟨by decide, by decide⟩ (rest := [.int x1]) rfl rfl (Nat.le_of_ble_eq_true rfl) dX3_dark_31) (by decide) (fun x8 => ?_)
  refine bp_j_jm (fun k => ∀ (x9 : Int32), bp_J G iX3_dark (bp_Qn G bp_eI) (k x9) 42 [(0, .ref a0), (2, .int x2)] [.int x9, .int x1]) (fun k10 hk10 => ?_) (fun x9 => ?_)
  · refine bp_j_if_eq (tgt := 41) dX3_dark_34 (by decide) ?_ ?_
    · refine bp_j_iconst (v := 0) dX3_dark_41 (by decide) ?_
      exact bp_j_sub [0, 2] rfl (hk10 (0 : Int32))
    refine bp_j_iconst (v := 1) dX3_dark_37 (by decide) ?_
    refine bp_j_goto (tgt := 42) dX3_dark_38 (by decide) ?_
    exact bp_j_sub [0, 2] rfl (hk10 (1 : Int32))
  refine bp_j_iadd dX3_dark_42 ?_
  refine bp_j_letI (fun x11 => ?_)
  refine bp_j_istore_n (lv' := [(1, .int x11), (0, .ref a0), (2, .int x2)]) dX3_dark_43 (by decide) rfl ?_
  refine bp_j_iincL (lv' := fun x12 => [(2, .int x12), (1, .int x11), (0, .ref a0)]) 2 dX3_dark_44 rfl (by decide) (by decide) (fun _ => rfl) (fun x12 => ?_)
  refine bp_j_goto (tgt := 4) dX3_dark_47 (by decide) ?_
  exact bp_j_sub [2, 1, 0] rfl (hk3 x11 x12)
/-- BilevelPages$Sheet.<init>()V -/
abbrev iX3_init : bp_MI := (yX3_init, cX3_init, 1, none, [], 1, 40)
def PX3_init (a0 : Nat) : bp_M Unit :=
  bp_newa 20 (32 : Int32) fun a1 =>
  bp_putR 2 0 a0 (some a1) <|
  bp_newa 20 (32 : Int32) fun a2 =>
  bp_putR 2 1 a0 (some a2) <|
  bp_ret ()
set_option maxHeartbeats 4000000 in
set_option maxRecDepth 100000 in
theorem cnX3_init {G : bp_GT} (a0 : Nat) : bp_Con G iX3_init (ws_ iX3_init.1 iX3_init.2.1 iX3_init.2.2.1 iX3_init.2.2.2.1) [.ref a0] (PX3_init a0) bp_eU := by
  refine bp_con_of [(0, .ref a0)] rfl (by decide) (Nat.le_of_ble_eq_true rfl) rfl ?_
  unfold PX3_init
  refine bp_j_aload_n 0 dX3_init_0 rfl ?_
  refine bp_j_objInit q183 q105 q106 dX3_init_1 (by decide) (Nat.le_of_ble_eq_true rfl) ?_
  refine bp_j_aload_n 0 dX3_init_4 rfl ?_
  refine bp_j_bipush (v := 32) dX3_init_5 (by decide) ?_
  refine bp_j_newarray (aty := .int) (t := 20) rfl (by decide) q215 (by decide) dX3_init_7 (fun a1 => ?_)
  refine bp_j_putFR (t := 2) (k := 0) (some a1) rfl (by decide) (by decide) q184 rfl rfl rfl dX3_init_9 (fun _ _ _ => rfl) ?_
  refine bp_j_aload_n 0 dX3_init_12 rfl ?_
  refine bp_j_bipush (v := 32) dX3_init_13 (by decide) ?_
  refine bp_j_newarray (aty := .int) (t := 20) rfl (by decide) q215 (by decide) dX3_init_15 (fun a2 => ?_)
  refine bp_j_putFR (t := 2) (k := 1) (some a2) rfl (by decide) (by decide) q185 rfl rfl rfl dX3_init_17 (fun _ _ _ => rfl) ?_
  exact bp_j_vret rfl dX3_init_20
/-- BilevelPages$Sheet.lastRow()I -/
abbrev iX3_lastRow : bp_MI := (yX3_lastRow, cX3_lastRow, 1, some (Jvm.ClassFile.FieldType.int), [], 0, 0)
def PX3_lastRow (a0 : Nat) : bp_M Int32 :=
  bp_getI 2 2 a0 fun x1 =>
  bp_if (x1 = 0) (
  bp_ret (-1 : Int32)) (
  bp_getN 2 1 a0 fun a2 =>
  bp_getI 2 2 a0 fun x3 =>
  bp_aldI 20 a2 (x3 - (1 : Int32)) fun x4 =>
  bp_ret x4)
set_option maxHeartbeats 4000000 in
set_option maxRecDepth 100000 in
theorem cnX3_lastRow {G : bp_GT} (a0 : Nat) : bp_Con G iX3_lastRow (ws_ iX3_lastRow.1 iX3_lastRow.2.1 iX3_lastRow.2.2.1 iX3_lastRow.2.2.2.1) [.ref a0] (PX3_lastRow a0) bp_eI := by
  refine bp_con_of [(0, .ref a0)] rfl (by decide) (Nat.le_of_ble_eq_true rfl) rfl ?_
  unfold PX3_lastRow
  refine bp_j_aload_n 0 dX3_lastRow_0 rfl ?_
  refine bp_j_getI (t := 2) (k := 2) rfl (by decide) (bp_lk q188) dX3_lastRow_1 (fun _ _ _ => rfl) (fun x1 => ?_)
  refine bp_j_if_ne (tgt := 11) dX3_lastRow_4 (by decide) ?_ ?_
  · refine bp_j_aload_n 0 dX3_lastRow_11 rfl ?_
    refine bp_j_getN (t := 2) (k := 1) rfl (by decide) (bp_lk q185) dX3_lastRow_12 (fun _ _ _ => rfl) (fun a2 => ?_)
    refine bp_j_aload_n 0 dX3_lastRow_15 rfl ?_
    refine bp_j_getI (t := 2) (k := 2) rfl (by decide) (bp_lk q188) dX3_lastRow_16 (fun _ _ _ => rfl) (fun x3 => ?_)
    refine bp_j_iconst (v := 1) dX3_lastRow_19 (by decide) ?_
    refine bp_j_isub dX3_lastRow_20 ?_
    refine bp_j_iaload dX3_lastRow_21 (fun x4 => ?_)
    exact bp_j_iret rfl dX3_lastRow_22
  refine bp_j_iconst (v := -1) dX3_lastRow_7 (by decide) ?_
  refine bp_j_goto (tgt := 22) dX3_lastRow_8 (by decide) ?_
  exact bp_j_iret rfl dX3_lastRow_22
/-- BilevelPages$Sheet.join(IZZ)Z -/
abbrev iX3_join : bp_MI := (yX3_join, cX3_join, 4, some (Jvm.ClassFile.FieldType.boolean), [], 0, 0)
def PX3_join (a0 : Nat) (xp1 : Int32) (xp2 : Int32) (xp3 : Int32) : bp_M Int32 :=
  bp_sw (xp1).toInt [(0, (
  bp_if (xp2 = 0) (
  bp_if (xp3 = 0) (
  bp_retZ (0 : Int32)) (
  bp_retZ (1 : Int32))) (
  bp_retZ (1 : Int32)))), (1, (
  bp_if (xp2 = 0) (
  bp_retZ (0 : Int32)) (
  bp_if (xp3 = 0) (
  bp_retZ (0 : Int32)) (
  bp_retZ (1 : Int32))))), (2, (
  bp_if (xp2 = xp3) (
  bp_retZ (0 : Int32)) (
  bp_retZ (1 : Int32)))), (3, (
  bp_if (xp2 = xp3) (
  bp_retZ (1 : Int32)) (
  bp_retZ (0 : Int32))))] (
  bp_retZ xp3)
set_option maxHeartbeats 4000000 in
set_option maxRecDepth 100000 in
theorem cnX3_join {G : bp_GT} (a0 : Nat) (xp1 : Int32) (xp2 : Int32) (xp3 : Int32) : bp_Con G iX3_join (ws_ iX3_join.1 iX3_join.2.1 iX3_join.2.2.1 iX3_join.2.2.2.1) [.ref a0, .int xp1, .int xp2, .int xp3] (PX3_join a0 xp1 xp2 xp3) bp_eI := by
  refine bp_con_of [(0, .ref a0), (1, .int xp1), (2, .int xp2), (3, .int xp3)] rfl (by decide) (Nat.le_of_ble_eq_true rfl) rfl ?_
  unfold PX3_join
  refine bp_j_iload_n 1 dX3_join_0 rfl ?_
  refine bp_j_tsw (tgt := 90) [32, 48, 64, 77] dX3_join_1 rfl rfl rfl (by decide) (bp_JSc ?_ (bp_JSc ?_ (bp_JSc ?_ (bp_JSc ?_ bp_JSn)))) ?_
  · refine bp_j_iload_n 2 dX3_join_32 rfl ?_
    refine bp_j_if_ne (tgt := 40) dX3_join_33 (by decide) ?_ ?_
    · refine bp_j_iconst (v := 1) dX3_join_40 (by decide) ?_
      refine bp_j_goto (tgt := 91) dX3_join_41 (by decide) ?_
      exact bp_j_zret rfl dX3_join_91
    refine bp_j_iload_n 3 dX3_join_36 rfl ?_
    refine bp_j_if_eq (tgt := 44) dX3_join_37 (by decide) ?_ ?_
    · refine bp_j_iconst (v := 0) dX3_join_44 (by decide) ?_
      refine bp_j_goto (tgt := 91) dX3_join_45 (by decide) ?_
      exact bp_j_zret rfl dX3_join_91
    refine bp_j_iconst (v := 1) dX3_join_40 (by decide) ?_
    refine bp_j_goto (tgt := 91) dX3_join_41 (by decide) ?_
    exact bp_j_zret rfl dX3_join_91
  · refine bp_j_iload_n 2 dX3_join_48 rfl ?_
    refine bp_j_if_eq (tgt := 60) dX3_join_49 (by decide) ?_ ?_
    · refine bp_j_iconst (v := 0) dX3_join_60 (by decide) ?_
      refine bp_j_goto (tgt := 91) dX3_join_61 (by decide) ?_
      exact bp_j_zret rfl dX3_join_91
    refine bp_j_iload_n 3 dX3_join_52 rfl ?_
    refine bp_j_if_eq (tgt := 60) dX3_join_53 (by decide) ?_ ?_
    · refine bp_j_iconst (v := 0) dX3_join_60 (by decide) ?_
      refine bp_j_goto (tgt := 91) dX3_join_61 (by decide) ?_
      exact bp_j_zret rfl dX3_join_91
    refine bp_j_iconst (v := 1) dX3_join_56 (by decide) ?_
    refine bp_j_goto (tgt := 91) dX3_join_57 (by decide) ?_
    exact bp_j_zret rfl dX3_join_91
  · refine bp_j_iload_n 2 dX3_join_64 rfl ?_
    refine bp_j_iload_n 3 dX3_join_65 rfl ?_
    refine bp_j_icmp_eq (tgt := 73) dX3_join_66 (by decide) ?_ ?_
    · refine bp_j_iconst (v := 0) dX3_join_73 (by decide) ?_
      refine bp_j_goto (tgt := 91) dX3_join_74 (by decide) ?_
      exact bp_j_zret rfl dX3_join_91
    refine bp_j_iconst (v := 1) dX3_join_69 (by decide) ?_
    refine bp_j_goto (tgt := 91) dX3_join_70 (by decide) ?_
    exact bp_j_zret rfl dX3_join_91
  · refine bp_j_iload_n 2 dX3_join_77 rfl ?_
    refine bp_j_iload_n 3 dX3_join_78 rfl ?_
    refine bp_j_icmp_ne (tgt := 86) dX3_join_79 (by decide) ?_ ?_
    · refine bp_j_iconst (v := 0) dX3_join_86 (by decide) ?_
      refine bp_j_goto (tgt := 91) dX3_join_87 (by decide) ?_
      exact bp_j_zret rfl dX3_join_91
    refine bp_j_iconst (v := 1) dX3_join_82 (by decide) ?_
    refine bp_j_goto (tgt := 91) dX3_join_83 (by decide) ?_
    exact bp_j_zret rfl dX3_join_91
  refine bp_j_iload_n 3 dX3_join_90 rfl ?_
  exact bp_j_zret rfl dX3_join_91
/-- BilevelPages$Sheet.draw(LBilevelPages$Segment;)V -/
abbrev iX3_draw : bp_MI := (yX3_draw, cX3_draw, 8, none, [], 1, 23)
def BX3_draw_44 (a0 : Nat) (bp1 : Nat) (x3 : Int32) (x6 : Int32) (k9 : Int32 → bp_M Unit) : Int32 → bp_M Unit :=
  fun x8 =>
  bp_bind (bp_is 3 bp1 (PX4_wide bp1)) fun x10 =>
  bp_bind (bp_is 3 bp1 (PX4_high bp1)) fun x11 =>
  bp_if ((x10 * x11) ≤ x8) (
  bp_ret ()) (
  bp_getN 3 6 bp1 fun a12 =>
  bp_aldI 20 a12 (2 : Int32) fun x13 =>
  bp_bind (bp_is 3 bp1 (PX4_wide bp1)) fun x14 =>
  bp_nz x14 <|
  bp_letI (x13 + (x8 - x8 / x14 * x14)) fun x15 =>
  bp_getN 3 6 bp1 fun a16 =>
  bp_aldI 20 a16 (3 : Int32) fun x17 =>
  bp_bind (bp_is 3 bp1 (PX4_wide bp1)) fun x18 =>
  bp_nz x18 <|
  bp_letI (x17 + (x8 / x18)) fun x19 =>
  bp_getI 2 3 a0 fun x20 =>
  bp_jn (fun (k21 : bp_M Unit) =>
  bp_if (x20 ≤ x15) (
  k21) (
  bp_if (x6 ≤ x19) (
  k21) (
  bp_bind (bp_is 2 a0 (PX3_isDark a0 x15 x19)) fun x23 =>
  bp_getN 3 9 bp1 fun a24 =>
  bp_bind (bp_is 3 bp1 (PX4_wide bp1)) fun x25 =>
  bp_nz x25 <|
  bp_aldI 20 a24 (x8 / x25) fun x26 =>
  bp_bind (bp_is 3 bp1 (PX4_wide bp1)) fun x27 =>
  bp_nz x27 <|
  bp_jn (fun (k29 : Int32 → bp_M Unit) =>
  bp_if (((x26 >>> ((x8 - x8 / x27 * x27) &&& 31)) &&& (1 : Int32)) = (1 : Int32)) (
  k29 (1 : Int32)) (
  k29 (0 : Int32))) (fun (x28 : Int32) =>
  bp_bind (bp_is 2 a0 (PX3_join a0 x3 x23 x28)) fun x30 =>
  bp_getN 2 0 a0 fun a31 =>
  bp_jn (fun (k33 : Int32 → bp_M Unit) =>
  bp_if (x30 = 0) (
  bp_getN 2 0 a0 fun a34 =>
  bp_aldI 20 a34 x19 fun x35 =>
  k33 (x35 &&& (((1 : Int32) <<< (x15 &&& 31)) ^^^ (-1 : Int32)))) (
  bp_getN 2 0 a0 fun a36 =>
  bp_aldI 20 a36 x19 fun x37 =>
  k33 (x37 ||| ((1 : Int32) <<< (x15 &&& 31))))) (fun (x32 : Int32) =>
  bp_astI a31 x19 x32 <|
  k21))))) (bp_letI (x8 + (1 : Int32)) fun x22 =>
  k9 x22))
def PX3_draw (a0 : Nat) (bp1 : Nat) : bp_M Unit :=
  bp_getN 3 6 bp1 fun a1 =>
  bp_aldI 20 a1 (4 : Int32) fun x2 =>
  bp_jn (fun (k4 : Int32 → bp_M Unit) =>
  bp_if (x2 = (5 : Int32)) (
  bp_getI 2 5 a0 fun x41 =>
  k4 x41) (
  bp_getN 3 6 bp1 fun a39 =>
  bp_aldI 20 a39 (4 : Int32) fun x40 =>
  k4 x40)) (fun (x3 : Int32) =>
  bp_getI 2 4 a0 fun x5 =>
  bp_jn (fun (k7 : Int32 → bp_M Unit) =>
  bp_if (x5 = 0) (
  k7 (32 : Int32)) (
  bp_getI 2 4 a0 fun x38 =>
  k7 x38)) (fun (x6 : Int32) =>
  bp_loop (fun _ => bp_no) (BX3_draw_44 a0 bp1 x3 x6) (fun k => k (0 : Int32))))
set_option maxHeartbeats 4000000 in
set_option maxRecDepth 100000 in
theorem cnX3_draw {G : bp_GT} (a0 : Nat) (bp1 : Nat) : bp_Con G iX3_draw (ws_ iX3_draw.1 iX3_draw.2.1 iX3_draw.2.2.1 iX3_draw.2.2.2.1) [.ref a0, .ref bp1] (PX3_draw a0 bp1) bp_eU := by
  refine bp_con_of [(0, .ref a0), (1, .ref bp1)] rfl (by decide) (Nat.le_of_ble_eq_true rfl) rfl ?_
  unfold PX3_draw
  refine bp_j_aload_n 1 dX3_draw_0 rfl ?_
  refine bp_j_getN (t := 3) (k := 6) rfl (by decide) (bp_lkN q242) dX3_draw_1 (fun _ _ _ => rfl) (fun a1 => ?_)
  refine bp_j_iconst (v := 4) dX3_draw_4 (by decide) ?_
  refine bp_j_iaload dX3_draw_5 (fun x2 => ?_)
  refine bp_j_iconst (v := 5) dX3_draw_6 (by decide) ?_
  refine bp_j_jm (fun k => ∀ (x3 : Int32), bp_J G iX3_draw (bp_Qn G bp_eU) (k x3) 23 [(0, .ref a0), (1, .ref bp1)] [.int x3]) (fun k4 hk4 => ?_) (fun x3 => ?_)
  · refine bp_j_icmp_ne (tgt := 17) dX3_draw_7 (by decide) ?_ ?_
    · refine bp_j_aload_n 1 dX3_draw_17 rfl ?_
      refine bp_j_getN (t := 3) (k := 6) rfl (by decide) (bp_lkN q242) dX3_draw_18 (fun _ _ _ => rfl) (fun a39 => ?_)
      refine bp_j_iconst (v := 4) dX3_draw_21 (by decide) ?_
      refine bp_j_iaload dX3_draw_22 (fun x40 => ?_)
      exact hk4 x40
    refine bp_j_aload_n 0 dX3_draw_10 rfl ?_
    refine bp_j_getI (t := 2) (k := 5) rfl (by decide) (bp_lk q196) dX3_draw_11 (fun _ _ _ => rfl) (fun x41 => ?_)
    refine bp_j_goto (tgt := 23) dX3_draw_14 (by decide) ?_
    exact hk4 x41
  refine bp_j_istore_n (lv' := [(2, .int x3), (0, .ref a0), (1, .ref bp1)]) dX3_draw_23 (by decide) rfl ?_
  refine bp_j_aload_n 1 dX3_draw_24 rfl ?_
  refine bp_j_getI (t := 2) (k := 4) rfl (by decide) (bp_lk q193) dX3_draw_25 (fun _ _ _ => rfl) (fun x5 => ?_)
  refine bp_j_jm (fun k => ∀ (x6 : Int32), bp_J G iX3_draw (bp_Qn G bp_eU) (k x6) 40 [(0, .ref a0), (1, .ref bp1), (2, .int x3)] [.int x6]) (fun k7 hk7 => ?_) (fun x6 => ?_)
  · refine bp_j_if_ne (tgt := 36) dX3_draw_28 (by decide) ?_ ?_
    · refine bp_j_aload_n 1 dX3_draw_36 rfl ?_
      refine bp_j_getI (t := 2) (k := 4) rfl (by decide) (bp_lk q193) dX3_draw_37 (fun _ _ _ => rfl) (fun x38 => ?_)
      exact bp_j_sub [1, 2, 0] rfl (hk7 x38)
    refine bp_j_bipush (v := 32) dX3_draw_31 (by decide) ?_
    refine bp_j_goto (tgt := 40) dX3_draw_33 (by decide) ?_
    exact bp_j_sub [1, 2, 0] rfl (hk7 (32 : Int32))
  refine bp_j_istore_n (lv' := [(3, .int x6), (0, .ref a0), (1, .ref bp1), (2, .int x3)]) dX3_draw_40 (by decide) rfl ?_
  refine bp_j_iconst (v := 0) dX3_draw_41 (by decide) ?_
  refine bp_j_istore (lv' := [(4, .int (0 : Int32)), (3, .int x6), (0, .ref a0), (1, .ref bp1), (2, .int x3)]) dX3_draw_42 (by decide) rfl ?_
  refine bp_j_loop (fun k => ∀ (x8 : Int32), bp_J G iX3_draw (bp_Qn G bp_eU) (k x8) 44 [(0, .ref a0), (1, .ref bp1), (2, .int x3), (3, .int x6), (4, .int x8)] []) (fun _ => bp_j_no) (fun k9 hk9 x8 => ?_) (fun k h => bp_j_sub [2, 3, 4, 1, 0] rfl (h (0 : Int32)))
  unfold BX3_draw_44
  refine bp_j_iload 4 dX3_draw_44 rfl ?_
  refine bp_j_aload_n 1 dX3_draw_46 rfl ?_
  refine bp_j_cl_I (bp_ranV (t := 3) (n := 0) (As := []) (cnX4_wide (G := G) bp1 ) rfl (lw_V q677 q664 q665 q79 q666) ⟨rfl, by decide +kernel, by decide +kernel, by decide +kernel⟩ ⟨by decide, by decide⟩ (rest := [.int x8]) rfl rfl (Nat.le_of_ble_eq_true rfl) dX3_draw_47) (by decide) (fun x10 => ?_)
  refine bp_j_aload_n 1 dX3_draw_50 rfl ?_
  refine bp_j_cl_I (bp_ranV (t := 3) (n := 0) (As := []) (cnX4_high (G := G) bp1 ) rfl (lw_V q678 q656 q657 q79 q658) ⟨rfl, by decide +kernel, by decide +kernel, by decide +kernel⟩ ⟨by decide, by decide⟩ (rest := [.int x10, .int x8]) rfl rfl (Nat.le_of_ble_eq_true rfl) dX3_draw_51) (by decide) (fun x11 => ?_)
  refine bp_j_imul dX3_draw_54 ?_
  refine bp_j_icmp_ge (tgt := 198) dX3_draw_55 (by decide) ?_ ?_
  · exact bp_j_vret rfl dX3_draw_198
  refine bp_j_aload_n 1 dX3_draw_58 rfl ?_
  refine bp_j_getN (t := 3) (k := 6) rfl (by decide) (bp_lkN q242) dX3_draw_59 (fun _ _ _ => rfl) (fun a12 => ?_)
  refine bp_j_iconst (v := 2) dX3_draw_62 (by decide) ?_
  refine bp_j_iaload dX3_draw_63 (fun x13 => ?_)
  refine bp_j_iload 4 dX3_draw_64 rfl ?_
  refine bp_j_aload_n 1 dX3_draw_66 rfl ?_
  refine bp_j_cl_I (bp_ranV (t := 3) (n := 0) (As := []) (cnX4_wide (G := G) bp1 ) rfl (lw_V q677 q664 q665 q79 q666) ⟨rfl, by decide +kernel, by decide +kernel, by decide +kernel⟩ ⟨by decide, by decide⟩ (rest := [.int x8, .int x13]) rfl rfl (Nat.le_of_ble_eq_true rfl) dX3_draw_67) (by decide) (fun x14 => ?_)
  refine bp_j_irem dX3_draw_70 ?_
  refine bp_j_iadd dX3_draw_71 ?_
  refine bp_j_letI (fun x15 => ?_)
  refine bp_j_istore (lv' := [(5, .int x15), (0, .ref a0), (1, .ref bp1), (2, .int x3), (3, .int x6), (4, .int x8)]) dX3_draw_72 (by decide) rfl ?_
  refine bp_j_aload_n 2 dX3_draw_74 rfl ?_
  refine bp_j_getN (t := 3) (k := 6) rfl (by decide) (bp_lkN q242) dX3_draw_75 (fun _ _ _ => rfl) (fun a16 => ?_)
  refine bp_j_iconst (v := 3) dX3_draw_78 (by decide) ?_
  refine bp_j_iaload dX3_draw_79 (fun x17 => ?_)
  refine bp_j_iload 5 dX3_draw_80 rfl ?_
  refine bp_j_aload_n 2 dX3_draw_82 rfl ?_
  refine bp_j_cl_I (bp_ranV (t := 3) (n := 0) (As := []) (cnX4_wide (G := G) bp1 ) rfl (lw_V q677 q664 q665 q79 q666) ⟨rfl, by decide +kernel, by decide +kernel, by decide +kernel⟩ ⟨by decide, by decide⟩ (rest := [.int x8, .int x17]) rfl rfl (Nat.le_of_ble_eq_true rfl) dX3_draw_83) (by decide) (fun x18 => ?_)
  refine bp_j_idiv dX3_draw_86 ?_
  refine bp_j_iadd dX3_draw_87 ?_
  refine bp_j_letI (fun x19 => ?_)
  refine bp_j_istore (lv' := [(6, .int x19), (5, .int x15), (0, .ref a0), (1, .ref bp1), (2, .int x3), (3, .int x6), (4, .int x8)]) dX3_draw_88 (by decide) rfl ?_
  refine bp_j_iload 1 dX3_draw_90 rfl ?_
  refine bp_j_aload_n 2 dX3_draw_92 rfl ?_
  refine bp_j_getI (t := 2) (k := 3) rfl (by decide) (bp_lk q191) dX3_draw_93 (fun _ _ _ => rfl) (fun x20 => ?_)
  refine bp_j_jm (fun k => bp_J G iX3_draw (bp_Qn G bp_eU) (k) 192 [(0, .ref a0), (1, .ref bp1), (2, .int x3), (3, .int x6), (4, .int x8)] []) (fun k21 hk21 => ?_) ?_
  · refine bp_j_icmp_ge (tgt := 192) dX3_draw_96 (by decide) ?_ ?_
    · exact bp_j_sub [2, 3, 4, 5, 6] rfl (hk21)
    refine bp_j_iload 0 dX3_draw_99 rfl ?_
    refine bp_j_iload_n 5 dX3_draw_101 rfl ?_
    refine bp_j_icmp_ge (tgt := 192) dX3_draw_102 (by decide) ?_ ?_
    · exact bp_j_sub [2, 3, 4, 5, 6] rfl (hk21)
    refine bp_j_aload_n 2 dX3_draw_105 rfl ?_
    refine bp_j_iload_n 4 dX3_draw_106 rfl ?_
    refine bp_j_aload_n 2 dX3_draw_107 rfl ?_
    refine bp_j_iload 1 dX3_draw_108 rfl ?_
    refine bp_j_iload 0 dX3_draw_110 rfl ?_
    refine bp_j_cl_I (bp_ranV (t := 2) (n := 2) (As := [.int x15, .int x19]) (cnX3_isDark (G := G) a0 x15 x19) rfl (lw_V q679 q681 qs17 q78 q682) ⟨rfl, by decide +kernel, by decide +kernel, by decide +kernel⟩ ⟨by decide, by decide⟩ (rest := [.int x3, .ref a0]) rfl rfl (Nat.le_of_ble_eq_true rfl) dX3_draw_112) (by decide) (fun x23 => ?_)
    refine bp_j_aload_n 3 dX3_draw_115 rfl ?_
    refine bp_j_getN (t := 3) (k := 9) rfl (by decide) (bp_lkN q250) dX3_draw_116 (fun _ _ _ => rfl) (fun a24 => ?_)
    refine bp_j_iload 6 dX3_draw_119 rfl ?_
    refine bp_j_aload_n 3 dX3_draw_121 rfl ?_
    refine bp_j_cl_I (bp_ranV (t := 3) (n := 0) (As := []) (cnX4_wide (G := G) bp1 ) rfl (lw_V q677 q664 q665 q79 q666) ⟨rfl, by decide +kernel, by decide +kernel, by decide +kernel⟩ ⟨by decide, by decide⟩ (rest := [.int x8, .ref a24, .int x23, .int x3, .ref a0]) rfl rfl (Nat.le_of_ble_eq_true rfl) dX3_draw_122) (by decide) (fun x25 => ?_)
    refine bp_j_idiv dX3_draw_125 ?_
    refine bp_j_iaload dX3_draw_126 (fun x26 => ?_)
    refine bp_j_iload 6 dX3_draw_127 rfl ?_
    refine bp_j_aload_n 3 dX3_draw_129 rfl ?_
    refine bp_j_cl_I (bp_ranV (t := 3) (n := 0) (As := []) (cnX4_wide (G := G) bp1 ) rfl (lw_V q677 q664 q665 q79 q666) ⟨rfl, by decide +kernel, by decide +kernel, by decide +kernel⟩ ⟨by decide, by decide⟩ (rest := [.int x8, .int x26, .int x23, .int x3, .ref a0]) rfl rfl (Nat.le_of_ble_eq_true rfl) dX3_draw_130) (by decide) (fun x27 => ?_)
    refine bp_j_irem dX3_draw_133 ?_
    refine bp_j_ishr dX3_draw_134 ?_
    refine bp_j_iconst (v := 1) dX3_draw_135 (by decide) ?_
    refine bp_j_iand dX3_draw_136 ?_
    refine bp_j_iconst (v := 1) dX3_draw_137 (by decide) ?_
    refine bp_j_jm (fun k => ∀ (x28 : Int32), bp_J G iX3_draw (bp_Qn G bp_eU) (k x28) 146 [(0, .ref a0), (1, .ref bp1), (2, .int x3), (3, .int x6), (4, .int x8), (5, .int x15), (6, .int x19)] [.int x28, .int x23, .int x3, .ref a0]) (fun k29 hk29 => ?_) (fun x28 => ?_)
    · refine bp_j_icmp_ne (tgt := 145) dX3_draw_138 (by decide) ?_ ?_
      · refine bp_j_iconst (v := 0) dX3_draw_145 (by decide) ?_
        exact bp_j_sub [2, 3, 4, 5, 6, 1, 0] rfl (hk29 (0 : Int32))
      refine bp_j_iconst (v := 1) dX3_draw_141 (by decide) ?_
      refine bp_j_goto (tgt := 146) dX3_draw_142 (by decide) ?_
      exact bp_j_sub [2, 3, 4, 5, 6, 1, 0] rfl (hk29 (1 : Int32))
    refine bp_j_cl_I (bp_ranV (t := 2) (n := 3) (As := [.int x3, .int x23, .int x28]) (cnX3_join (G := G) a0 x3 x23 x28) rfl (lw_V q683 q685 qs18 q78 q686) ⟨rfl, by decide +kernel, by decide +kernel, by decide +kernel⟩ ⟨by decide, by decide⟩ (rest := []) rfl rfl (Nat.le_of_ble_eq_true rfl) dX3_draw_146) (by decide) (fun x30 => ?_)
    refine bp_j_istore (lv' := [(7, .int x30), (0, .ref a0), (1, .ref bp1), (2, .int x3), (3, .int x6), (4, .int x8), (5, .int x15), (6, .int x19)]) dX3_draw_149 (by decide) rfl ?_
    refine bp_j_aload_n 1 dX3_draw_151 rfl ?_
    refine bp_j_getN (t := 2) (k := 0) rfl (by decide) (bp_lk q184) dX3_draw_152 (fun _ _ _ => rfl) (fun a31 => ?_)
    refine bp_j_iload 7 dX3_draw_155 rfl ?_
    refine bp_j_iload 0 dX3_draw_157 rfl ?_
    refine bp_j_jm (fun k => ∀ (x32 : Int32), bp_J G iX3_draw (bp_Qn G bp_eU) (k x32) 191 [(0, .ref a0), (1, .ref bp1), (2, .int x3), (3, .int x6), (4, .int x8)] [.int x32, .int x19, .ref a31]) (fun k33 hk33 => ?_) (fun x32 => ?_)
    · refine bp_j_if_eq (tgt := 177) dX3_draw_159 (by decide) ?_ ?_
      · refine bp_j_aload_n 1 dX3_draw_177 rfl ?_
        refine bp_j_getN (t := 2) (k := 0) rfl (by decide) (bp_lk q184) dX3_draw_178 (fun _ _ _ => rfl) (fun a34 => ?_)
        refine bp_j_iload 7 dX3_draw_181 rfl ?_
        refine bp_j_iaload dX3_draw_183 (fun x35 => ?_)
        refine bp_j_iconst (v := 1) dX3_draw_184 (by decide) ?_
        refine bp_j_iload 6 dX3_draw_185 rfl ?_
        refine bp_j_ishl dX3_draw_187 ?_
        refine bp_j_iconst (v := -1) dX3_draw_188 (by decide) ?_
        refine bp_j_ixor dX3_draw_189 ?_
        refine bp_j_iand dX3_draw_190 ?_
        exact bp_j_sub [1, 2, 3, 4, 5] rfl (hk33 (x35 &&& (((1 : Int32) <<< (x15 &&& 31)) ^^^ (-1 : Int32))))
      refine bp_j_aload_n 1 dX3_draw_162 rfl ?_
      refine bp_j_getN (t := 2) (k := 0) rfl (by decide) (bp_lk q184) dX3_draw_163 (fun _ _ _ => rfl) (fun a36 => ?_)
      refine bp_j_iload 7 dX3_draw_166 rfl ?_
      refine bp_j_iaload dX3_draw_168 (fun x37 => ?_)
      refine bp_j_iconst (v := 1) dX3_draw_169 (by decide) ?_
      refine bp_j_iload 6 dX3_draw_170 rfl ?_
      refine bp_j_ishl dX3_draw_172 ?_
      refine bp_j_ior dX3_draw_173 ?_
      refine bp_j_goto (tgt := 191) dX3_draw_174 (by decide) ?_
      exact bp_j_sub [1, 2, 3, 4, 5] rfl (hk33 (x37 ||| ((1 : Int32) <<< (x15 &&& 31))))
    refine bp_j_iastore dX3_draw_191 ?_
    exact hk21
  refine bp_j_iincL (lv' := fun x22 => [(4, .int x22), (0, .ref a0), (1, .ref bp1), (2, .int x3), (3, .int x6)]) 4 dX3_draw_192 rfl (by decide) (by decide) (fun _ => rfl) (fun x22 => ?_)
  refine bp_j_goto (tgt := 44) dX3_draw_195 (by decide) ?_
  exact bp_j_sub [1, 2, 3, 4, 0] rfl (hk9 x22)
/-- BilevelPages$Sheet.begin(LBilevelPages$Segment;)V -/
abbrev iX3_begin : bp_MI := (yX3_begin, cX3_begin, 3, none, [], 1, 20)
def BX3_begin_38 (a0 : Nat) (bp1 : Nat) (k6 : Int32 → bp_M Unit) : Int32 → bp_M Unit :=
  fun x5 =>
  bp_if ((32 : Int32) ≤ x5) (
  bp_ret ()) (
  bp_getN 2 0 a0 fun a7 =>
  bp_getN 3 6 bp1 fun a8 =>
  bp_aldI 20 a8 (2 : Int32) fun x9 =>
  bp_jn (fun (k11 : Int32 → bp_M Unit) =>
  bp_if (x9 = (1 : Int32)) (
  k11 (-1 : Int32)) (
  k11 (0 : Int32))) (fun (x10 : Int32) =>
  bp_astI a7 x5 x10 <|
  bp_letI (x5 + (1 : Int32)) fun x12 =>
  k6 x12))
def PX3_begin (a0 : Nat) (bp1 : Nat) : bp_M Unit :=
  bp_putZ 2 6 a0 (1 : Int32) <|
  bp_bind (bp_is 3 bp1 (PX4_wide bp1)) fun x1 =>
  bp_putI 2 3 a0 x1 <|
  bp_bind (bp_is 3 bp1 (PX4_high bp1)) fun x2 =>
  bp_putI 2 4 a0 x2 <|
  bp_getN 3 6 bp1 fun a3 =>
  bp_aldI 20 a3 (3 : Int32) fun x4 =>
  bp_putI 2 5 a0 x4 <|
  bp_putI 2 2 a0 (0 : Int32) <|
  bp_loop (fun _ => bp_no) (BX3_begin_38 a0 bp1) (fun k => k (0 : Int32))
set_option maxHeartbeats 4000000 in
set_option maxRecDepth 100000 in
theorem cnX3_begin {G : bp_GT} (a0 : Nat) (bp1 : Nat) : bp_Con G iX3_begin (ws_ iX3_begin.1 iX3_begin.2.1 iX3_begin.2.2.1 iX3_begin.2.2.2.1) [.ref a0, .ref bp1] (PX3_begin a0 bp1) bp_eU := by
  refine bp_con_of [(0, .ref a0), (1, .ref bp1)] rfl (by decide) (Nat.le_of_ble_eq_true rfl) rfl ?_
  unfold PX3_begin
  refine bp_j_aload_n 0 dX3_begin_0 rfl ?_
  refine bp_j_iconst (v := 1) dX3_begin_1 (by decide) ?_
  refine bp_j_putZ (t := 2) (k := 6) rfl (by decide) (by decide) (bp_lk q197) rfl dX3_begin_2 rfl ?_
  refine bp_j_aload_n 0 dX3_begin_5 rfl ?_
  refine bp_j_aload_n 1 dX3_begin_6 rfl ?_
  refine bp_j_cl_I (bp_ranV (t := 3) (n := 0) (As := []) (cnX4_wide (G := G) bp1 ) rfl (lw_V q677 q664 q665 q79 q666) ⟨rfl, by decide +kernel, by decide +kernel, by decide +kernel⟩ ⟨by decide, by decide⟩ (rest := [.ref a0]) rfl rfl (Nat.le_of_ble_eq_true rfl) dX3_begin_7) (by decide) (fun x1 => ?_)
  refine bp_j_putI (t := 2) (k := 3) rfl (by decide) (by decide) (bp_lk q191) rfl dX3_begin_10 rfl ?_
  refine bp_j_aload_n 0 dX3_begin_13 rfl ?_
  refine bp_j_aload_n 1 dX3_begin_14 rfl ?_
  refine bp_j_cl_I (bp_ranV (t := 3) (n := 0) (As := []) (cnX4_high (G := G) bp1 ) rfl (lw_V q678 q656 q657 q79 q658) ⟨rfl, by decide +kernel, by decide +kernel, by decide +kernel⟩ ⟨by decide, by decide⟩ (rest := [.ref a0]) rfl rfl (Nat.le_of_ble_eq_true rfl) dX3_begin_15) (by decide) (fun x2 => ?_)
  refine bp_j_putI (t := 2) (k := 4) rfl (by decide) (by decide) (bp_lk q193) rfl dX3_begin_18 rfl ?_
  refine bp_j_aload_n 0 dX3_begin_21 rfl ?_
  refine bp_j_aload_n 1 dX3_begin_22 rfl ?_
  refine bp_j_getN (t := 3) (k := 6) rfl (by decide) (bp_lkN q242) dX3_begin_23 (fun _ _ _ => rfl) (fun a3 => ?_)
  refine bp_j_iconst (v := 3) dX3_begin_26 (by decide) ?_
  refine bp_j_iaload dX3_begin_27 (fun x4 => ?_)
  refine bp_j_putI (t := 2) (k := 5) rfl (by decide) (by decide) (bp_lk q196) rfl dX3_begin_28 rfl ?_
  refine bp_j_aload_n 0 dX3_begin_31 rfl ?_
  refine bp_j_iconst (v := 0) dX3_begin_32 (by decide) ?_
  refine bp_j_putI (t := 2) (k := 2) rfl (by decide) (by decide) (bp_lk q188) rfl dX3_begin_33 rfl ?_
  refine bp_j_iconst (v := 0) dX3_begin_36 (by decide) ?_
  refine bp_j_istore_n (lv' := [(2, .int (0 : Int32)), (0, .ref a0), (1, .ref bp1)]) dX3_begin_37 (by decide) rfl ?_
  refine bp_j_loop (fun k => ∀ (x5 : Int32), bp_J G iX3_begin (bp_Qn G bp_eU) (k x5) 38 [(0, .ref a0), (1, .ref bp1), (2, .int x5)] []) (fun _ => bp_j_no) (fun k6 hk6 x5 => ?_) (fun k h => bp_j_sub [1, 2, 0] rfl (h (0 : Int32)))
  unfold BX3_begin_38
  refine bp_j_iload_n 2 dX3_begin_38 rfl ?_
  refine bp_j_bipush (v := 32) dX3_begin_39 (by decide) ?_
  refine bp_j_icmp_ge (tgt := 71) dX3_begin_41 (by decide) ?_ ?_
  · exact bp_j_vret rfl dX3_begin_71
  refine bp_j_aload_n 0 dX3_begin_44 rfl ?_
  refine bp_j_getN (t := 2) (k := 0) rfl (by decide) (bp_lk q184) dX3_begin_45 (fun _ _ _ => rfl) (fun a7 => ?_)
  refine bp_j_iload_n 2 dX3_begin_48 rfl ?_
  refine bp_j_aload_n 1 dX3_begin_49 rfl ?_
  refine bp_j_getN (t := 3) (k := 6) rfl (by decide) (bp_lkN q242) dX3_begin_50 (fun _ _ _ => rfl) (fun a8 => ?_)
  refine bp_j_iconst (v := 2) dX3_begin_53 (by decide) ?_
  refine bp_j_iaload dX3_begin_54 (fun x9 => ?_)
  refine bp_j_iconst (v := 1) dX3_begin_55 (by decide) ?_
  refine bp_j_jm (fun k => ∀ (x10 : Int32), bp_J G iX3_begin (bp_Qn G bp_eU) (k x10) 64 [(0, .ref a0), (1, .ref bp1), (2, .int x5)] [.int x10, .int x5, .ref a7]) (fun k11 hk11 => ?_) (fun x10 => ?_)
  · refine bp_j_icmp_ne (tgt := 63) dX3_begin_56 (by decide) ?_ ?_
    · refine bp_j_iconst (v := 0) dX3_begin_63 (by decide) ?_
      exact hk11 (0 : Int32)
    refine bp_j_iconst (v := -1) dX3_begin_59 (by decide) ?_
    refine bp_j_goto (tgt := 64) dX3_begin_60 (by decide) ?_
    exact hk11 (-1 : Int32)
  refine bp_j_iastore dX3_begin_64 ?_
  refine bp_j_iincL (lv' := fun x12 => [(2, .int x12), (0, .ref a0), (1, .ref bp1)]) 2 dX3_begin_65 rfl (by decide) (by decide) (fun _ => rfl) (fun x12 => ?_)
  refine bp_j_goto (tgt := 38) dX3_begin_68 (by decide) ?_
  exact bp_j_sub [1, 2, 0] rfl (hk6 x12)
/-- BilevelPages.want(Z)V -/
abbrev iX1_want : bp_MI := (yX1_want, cX1_want, 1, none, [], 6, 100)
def PX1_want (xp0 : Int32) : bp_M Unit :=
  bp_if (xp0 = 0) (
  bp_throw0 1) (
  bp_ret ())
set_option maxHeartbeats 4000000 in
set_option maxRecDepth 100000 in
theorem cnX1_want {G : bp_GT} (xp0 : Int32) : bp_Con G iX1_want (ws_ iX1_want.1 iX1_want.2.1 iX1_want.2.2.1 iX1_want.2.2.2.1) [.int xp0] (PX1_want xp0) bp_eU := by
  refine bp_con_of [(0, .int xp0)] rfl (by decide) (Nat.le_of_ble_eq_true rfl) rfl ?_
  unfold PX1_want
  refine bp_j_iload_n 0 dX1_want_0 rfl ?_
  refine bp_j_if_ne (tgt := 12) dX1_want_1 (by decide) ?_ ?_
  · exact bp_j_vret rfl dX1_want_12
  exact bp_j_throw0 (ic := 15) ["java/lang/RuntimeException", "java/lang/Exception"] (by decide +kernel) (by decide +kernel) q750 q86 (by decide +kernel) (by decide +kernel) (by decide +kernel) dX1_want_4 dX1_want_7 dX1_want_8 dX1_want_11 (by decide) (by decide) (Nat.le_of_ble_eq_true rfl)
/-- BilevelPages.wantIndex(Z)V -/
abbrev iX1_wantIndex : bp_MI := (yX1_wantIndex, cX1_wantIndex, 1, none, [], 6, 100)
def PX1_wantIndex (xp0 : Int32) : bp_M Unit :=
  bp_if (xp0 = 0) (
  bp_throw0 4) (
  bp_ret ())
set_option maxHeartbeats 4000000 in
set_option maxRecDepth 100000 in
theorem cnX1_wantIndex {G : bp_GT} (xp0 : Int32) : bp_Con G iX1_wantIndex (ws_ iX1_wantIndex.1 iX1_wantIndex.2.1 iX1_wantIndex.2.2.1 iX1_wantIndex.2.2.2.1) [.int xp0] (PX1_wantIndex xp0) bp_eU := by
  refine bp_con_of [(0, .int xp0)] rfl (by decide) (Nat.le_of_ble_eq_true rfl) rfl ?_
  unfold PX1_wantIndex
  refine bp_j_iload_n 0 dX1_wantIndex_0 rfl ?_
  refine bp_j_if_ne (tgt := 12) dX1_wantIndex_1 (by decide) ?_ ?_
  · exact bp_j_vret rfl dX1_wantIndex_12
  exact bp_j_throw0 (ic := 21) ["java/lang/RuntimeException", "java/lang/Exception"] (by decide +kernel) (by decide +kernel) q839 q91 (by decide +kernel) (by decide +kernel) (by decide +kernel) dX1_wantIndex_4 dX1_wantIndex_7 dX1_wantIndex_8 dX1_wantIndex_11 (by decide) (by decide) (Nat.le_of_ble_eq_true rfl)
/-- BilevelPages.within(JJJ)Z -/
abbrev iX1_within : bp_MI := (yX1_within, cX1_within, 6, some (Jvm.ClassFile.FieldType.boolean), [], 0, 0)
def PX1_within (lp0 : Int64) (lp2 : Int64) (lp4 : Int64) : bp_M Int32 :=
  bp_if ((lg_cmp lp0 lp2) < 0) (
  bp_retZ (0 : Int32)) (
  bp_if (0 < (lg_cmp lp0 lp4)) (
  bp_retZ (0 : Int32)) (
  bp_retZ (1 : Int32)))
set_option maxHeartbeats 4000000 in
set_option maxRecDepth 100000 in
theorem cnX1_within {G : bp_GT} (lp0 : Int64) (lp2 : Int64) (lp4 : Int64) : bp_Con G iX1_within (ws_ iX1_within.1 iX1_within.2.1 iX1_within.2.2.1 iX1_within.2.2.2.1) [.long lp0, .long lp2, .long lp4] (PX1_within lp0 lp2 lp4) bp_eI := by
  refine bp_con_of [(0, .long lp0), (2, .long lp2), (4, .long lp4)] rfl (by decide) (Nat.le_of_ble_eq_true rfl) rfl ?_
  unfold PX1_within
  refine bp_j_lload_n 0 dX1_within_0 rfl ?_
  refine bp_j_lload_n 1 dX1_within_1 rfl ?_
  refine bp_j_lcmp dX1_within_2 ?_
  refine bp_j_if_lt (tgt := 17) dX1_within_3 (by decide) ?_ ?_
  · refine bp_j_iconst (v := 0) dX1_within_17 (by decide) ?_
    exact bp_j_zret rfl dX1_within_18
  refine bp_j_lload_n 0 dX1_within_6 rfl ?_
  refine bp_j_lload 2 dX1_within_7 rfl ?_
  refine bp_j_lcmp dX1_within_9 ?_
  refine bp_j_if_gt (tgt := 17) dX1_within_10 (by decide) ?_ ?_
  · refine bp_j_iconst (v := 0) dX1_within_17 (by decide) ?_
    exact bp_j_zret rfl dX1_within_18
  refine bp_j_iconst (v := 1) dX1_within_13 (by decide) ?_
  refine bp_j_goto (tgt := 18) dX1_within_14 (by decide) ?_
  exact bp_j_zret rfl dX1_within_18
/-- BilevelPages.alter(II)I -/
abbrev iX1_alter : bp_MI := (yX1_alter, cX1_alter, 4, some (Jvm.ClassFile.FieldType.int), [], 7, 120)
def PX1_alter (a0 : Nat) (xp1 : Int32) (xp2 : Int32) : bp_M Int32 :=
  bp_getI 0 7 a0 fun x1 =>
  bp_bind (PX1_within xp1.toInt64 (0 : Int64) (x1.toInt64 - (1 : Int64))) fun x2 =>
  bp_bind (PX1_wantIndex x2) fun _ =>
  bp_bind (PX1_within xp2.toInt64 (0 : Int64) (255 : Int64)) fun x3 =>
  bp_bind (PX1_want x3) fun _ =>
  bp_getN 0 6 a0 fun a4 =>
  bp_aldI 21 a4 xp1 fun x5 =>
  bp_letI (x5 &&& (255 : Int32)) fun x6 =>
  bp_getN 0 6 a0 fun a7 =>
  bp_astB a7 xp1 xp2.toInt8.toInt32 <|
  bp_ret x6
set_option maxHeartbeats 4000000 in
set_option maxRecDepth 100000 in
theorem cnX1_alter {G : bp_GT} (a0 : Nat) (xp1 : Int32) (xp2 : Int32) : bp_Con G iX1_alter (ws_ iX1_alter.1 iX1_alter.2.1 iX1_alter.2.2.1 iX1_alter.2.2.2.1) [.ref a0, .int xp1, .int xp2] (PX1_alter a0 xp1 xp2) bp_eI := by
  refine bp_con_of [(0, .ref a0), (1, .int xp1), (2, .int xp2)] rfl (by decide) (Nat.le_of_ble_eq_true rfl) rfl ?_
  unfold PX1_alter
  refine bp_j_iload_n 1 dX1_alter_0 rfl ?_
  refine bp_j_i2l dX1_alter_1 ?_
  refine bp_j_lconst (v := 0) dX1_alter_2 (by decide) ?_
  refine bp_j_aload_n 0 dX1_alter_3 rfl ?_
  refine bp_j_getI (t := 0) (k := 7) rfl (by decide) (bp_lk q299) dX1_alter_4 (fun _ _ _ => rfl) (fun x1 => ?_)
  refine bp_j_i2l dX1_alter_7 ?_
  refine bp_j_lconst (v := 1) dX1_alter_8 (by decide) ?_
  refine bp_j_lsub dX1_alter_9 ?_
  refine bp_j_cl_I (bp_ranS (n := 3) (As := [.long xp1.toInt64, .long (0 : Int64), .long (x1.toInt64 - (1 : Int64))]) (cnX1_within (G := G) xp1.toInt64 (0 : Int64) (x1.toInt64 - (1 : Int64))) (lw_S q746 q472 q72 q473) ⟨by decide +kernel, by decide +kernel, by decide +kernel⟩ ⟨by decide, by decide⟩ (rest := []) rfl rfl (Nat.le_of_ble_eq_true rfl) dX1_alter_10) (by decide) (fun x2 => ?_)
  refine bp_j_cl_U (bp_ranS (n := 1) (As := [.int x2]) (cnX1_wantIndex (G := G) x2) (lw_S q836 q837 q72 q838) ⟨by decide +kernel, by decide +kernel, by decide +kernel⟩ ⟨by decide, by decide⟩ (rest := []) rfl rfl (Nat.le_of_ble_eq_true rfl) dX1_alter_13) (by decide) (fun _ => ?_)
  refine bp_j_iload_n 2 dX1_alter_16 rfl ?_
  refine bp_j_i2l dX1_alter_17 ?_
  refine bp_j_lconst (v := 0) dX1_alter_18 (by decide) ?_
  refine bp_j_ldc2 q895 dX1_alter_19 ?_
  refine bp_j_cl_I (bp_ranS (n := 3) (As := [.long xp2.toInt64, .long (0 : Int64), .long (255 : Int64)]) (cnX1_within (G := G) xp2.toInt64 (0 : Int64) (255 : Int64)) (lw_S q746 q472 q72 q473) ⟨by decide +kernel, by decide +kernel, by decide +kernel⟩ ⟨by decide, by decide⟩ (rest := []) rfl rfl (Nat.le_of_ble_eq_true rfl) dX1_alter_22) (by decide) (fun x3 => ?_)
  refine bp_j_cl_U (bp_ranS (n := 1) (As := [.int x3]) (cnX1_want (G := G) x3) (lw_S q747 q748 q72 q749) ⟨by decide +kernel, by decide +kernel, by decide +kernel⟩ ⟨by decide, by decide⟩ (rest := []) rfl rfl (Nat.le_of_ble_eq_true rfl) dX1_alter_25) (by decide) (fun _ => ?_)
  refine bp_j_aload_n 0 dX1_alter_28 rfl ?_
  refine bp_j_getN (t := 0) (k := 6) rfl (by decide) (bp_lk q297) dX1_alter_29 (fun _ _ _ => rfl) (fun a4 => ?_)
  refine bp_j_iload_n 1 dX1_alter_32 rfl ?_
  refine bp_j_baloadB dX1_alter_33 (fun x5 => ?_)
  refine bp_j_sipush (v := 255) dX1_alter_34 (by decide) ?_
  refine bp_j_iand dX1_alter_37 ?_
  refine bp_j_letI (fun x6 => ?_)
  refine bp_j_istore_n (lv' := [(3, .int x6), (0, .ref a0), (1, .int xp1), (2, .int xp2)]) dX1_alter_38 (by decide) rfl ?_
  refine bp_j_aload_n 1 dX1_alter_39 rfl ?_
  refine bp_j_getN (t := 0) (k := 6) rfl (by decide) (bp_lk q297) dX1_alter_40 (fun _ _ _ => rfl) (fun a7 => ?_)
  refine bp_j_iload_n 2 dX1_alter_43 rfl ?_
  refine bp_j_iload_n 3 dX1_alter_44 rfl ?_
  refine bp_j_i2b dX1_alter_45 ?_
  refine bp_j_bastoreB dX1_alter_46 ?_
  refine bp_j_iload_n 0 dX1_alter_47 rfl ?_
  exact bp_j_iret rfl dX1_alter_48
/-- BilevelPages.allow(Z)V -/
abbrev iX1_allow : bp_MI := (yX1_allow, cX1_allow, 1, none, [], 6, 100)
def PX1_allow (xp0 : Int32) : bp_M Unit :=
  bp_if (xp0 = 0) (
  bp_throw0 3) (
  bp_ret ())
set_option maxHeartbeats 4000000 in
set_option maxRecDepth 100000 in
theorem cnX1_allow {G : bp_GT} (xp0 : Int32) : bp_Con G iX1_allow (ws_ iX1_allow.1 iX1_allow.2.1 iX1_allow.2.2.1 iX1_allow.2.2.2.1) [.int xp0] (PX1_allow xp0) bp_eU := by
  refine bp_con_of [(0, .int xp0)] rfl (by decide) (Nat.le_of_ble_eq_true rfl) rfl ?_
  unfold PX1_allow
  refine bp_j_iload_n 0 dX1_allow_0 rfl ?_
  refine bp_j_if_ne (tgt := 12) dX1_allow_1 (by decide) ?_ ?_
  · exact bp_j_vret rfl dX1_allow_12
  exact bp_j_throw0 (ic := 24) ["java/lang/RuntimeException", "java/lang/Exception"] (by decide +kernel) (by decide +kernel) q880 q96 (by decide +kernel) (by decide +kernel) (by decide +kernel) dX1_allow_4 dX1_allow_7 dX1_allow_8 dX1_allow_11 (by decide) (by decide) (Nat.le_of_ble_eq_true rfl)
/-- BilevelPages.sheet(I)LBilevelPages$Sheet; -/
abbrev iX1_sheet : bp_MI := (yX1_sheet, cX1_sheet, 2, some ((Jvm.ClassFile.FieldType.object "BilevelPages$Sheet")), [], 7, 120)
def PX1_sheet (a0 : Nat) (xp1 : Int32) : bp_M Nat :=
  bp_getI 0 13 a0 fun x1 =>
  bp_bind (PX1_allow x1) fun _ =>
  bp_bind (PX1_within xp1.toInt64 (1 : Int64) (9 : Int64)) fun x2 =>
  bp_jn (fun (k4 : Int32 → bp_M Nat) =>
  bp_if (x2 = 0) (
  k4 (0 : Int32)) (
  bp_getN 0 10 a0 fun a7 =>
  bp_aldN 25 a7 xp1 fun a8 =>
  bp_getI 2 6 a8 fun x9 =>
  bp_if (x9 = 0) (
  k4 (0 : Int32)) (
  k4 (1 : Int32)))) (fun (x3 : Int32) =>
  bp_bind (PX1_wantIndex x3) fun _ =>
  bp_getN 0 10 a0 fun a5 =>
  bp_aldN 25 a5 xp1 fun a6 =>
  bp_ret a6)
set_option maxHeartbeats 4000000 in
set_option maxRecDepth 100000 in
theorem cnX1_sheet {G : bp_GT} (a0 : Nat) (xp1 : Int32) : bp_Con G iX1_sheet (ws_ iX1_sheet.1 iX1_sheet.2.1 iX1_sheet.2.2.1 iX1_sheet.2.2.2.1) [.ref a0, .int xp1] (PX1_sheet a0 xp1) bp_eN := by
  refine bp_con_of [(0, .ref a0), (1, .int xp1)] rfl (by decide) (Nat.le_of_ble_eq_true rfl) rfl ?_
  unfold PX1_sheet
  refine bp_j_aload_n 0 dX1_sheet_0 rfl ?_
  refine bp_j_getI (t := 0) (k := 13) rfl (by decide) (bp_lk q309) dX1_sheet_1 (fun _ _ _ => rfl) (fun x1 => ?_)
  refine bp_j_cl_U (bp_ranS (n := 1) (As := [.int x1]) (cnX1_allow (G := G) x1) (lw_S q877 q878 q72 q879) ⟨by decide +kernel, by decide +kernel, by decide +kernel⟩ ⟨by decide, by decide⟩ (rest := []) rfl rfl (Nat.le_of_ble_eq_true rfl) dX1_sheet_4) (by decide) (fun _ => ?_)
  refine bp_j_iload_n 1 dX1_sheet_7 rfl ?_
  refine bp_j_i2l dX1_sheet_8 ?_
  refine bp_j_lconst (v := 1) dX1_sheet_9 (by decide) ?_
  refine bp_j_ldc2 q745 dX1_sheet_10 ?_
  refine bp_j_cl_I (bp_ranS (n := 3) (As := [.long xp1.toInt64, .long (1 : Int64), .long (9 : Int64)]) (cnX1_within (G := G) xp1.toInt64 (1 : Int64) (9 : Int64)) (lw_S q746 q472 q72 q473) ⟨by decide +kernel, by decide +kernel, by decide +kernel⟩ ⟨by decide, by decide⟩ (rest := []) rfl rfl (Nat.le_of_ble_eq_true rfl) dX1_sheet_13) (by decide) (fun x2 => ?_)
  refine bp_j_jm (fun k => ∀ (x3 : Int32), bp_J G iX1_sheet (bp_Qn G bp_eN) (k x3) 36 [(0, .ref a0), (1, .int xp1)] [.int x3]) (fun k4 hk4 => ?_) (fun x3 => ?_)
  · refine bp_j_if_eq (tgt := 35) dX1_sheet_16 (by decide) ?_ ?_
    · refine bp_j_iconst (v := 0) dX1_sheet_35 (by decide) ?_
      exact hk4 (0 : Int32)
    refine bp_j_aload_n 0 dX1_sheet_19 rfl ?_
    refine bp_j_getN (t := 0) (k := 10) rfl (by decide) (bp_lk q305) dX1_sheet_20 (fun _ _ _ => rfl) (fun a7 => ?_)
    refine bp_j_iload_n 1 dX1_sheet_23 rfl ?_
    refine bp_j_aaloadN (t := 25) rfl dX1_sheet_24 (fun a8 => ?_)
    refine bp_j_getI (t := 2) (k := 6) rfl (by decide) (bp_lkN q199) dX1_sheet_25 (fun _ _ _ => rfl) (fun x9 => ?_)
    refine bp_j_if_eq (tgt := 35) dX1_sheet_28 (by decide) ?_ ?_
    · refine bp_j_iconst (v := 0) dX1_sheet_35 (by decide) ?_
      exact hk4 (0 : Int32)
    refine bp_j_iconst (v := 1) dX1_sheet_31 (by decide) ?_
    refine bp_j_goto (tgt := 36) dX1_sheet_32 (by decide) ?_
    exact hk4 (1 : Int32)
  refine bp_j_cl_U (bp_ranS (n := 1) (As := [.int x3]) (cnX1_wantIndex (G := G) x3) (lw_S q836 q837 q72 q838) ⟨by decide +kernel, by decide +kernel, by decide +kernel⟩ ⟨by decide, by decide⟩ (rest := []) rfl rfl (Nat.le_of_ble_eq_true rfl) dX1_sheet_36) (by decide) (fun _ => ?_)
  refine bp_j_aload_n 0 dX1_sheet_39 rfl ?_
  refine bp_j_getN (t := 0) (k := 10) rfl (by decide) (bp_lk q305) dX1_sheet_40 (fun _ _ _ => rfl) (fun a5 => ?_)
  refine bp_j_iload_n 1 dX1_sheet_43 rfl ?_
  refine bp_j_aaloadN (t := 25) rfl dX1_sheet_44 (fun a6 => ?_)
  exact bp_j_aretN rfl (Or.inl ⟨_, rfl⟩) dX1_sheet_45
/-- BilevelPages.at(III)Z -/
abbrev iX1_at_2 : bp_MI := (yX1_at_2, cX1_at_2, 5, some (Jvm.ClassFile.FieldType.boolean), [], 8, 141)
def PX1_at_2 (a0 : Nat) (xp1 : Int32) (xp2 : Int32) (xp3 : Int32) : bp_M Int32 :=
  bp_bind (bp_is 0 a0 (PX1_sheet a0 xp1)) fun a1 =>
  bp_getI 2 3 a1 fun x2 =>
  bp_bind (PX1_within xp2.toInt64 (0 : Int64) ((x2 - (1 : Int32)).toInt64)) fun x3 =>
  bp_jn (fun (k5 : Int32 → bp_M Int32) =>
  bp_if (x3 = 0) (
  k5 (0 : Int32)) (
  bp_getI 2 4 a1 fun x7 =>
  bp_bind (PX1_within xp3.toInt64 (0 : Int64) ((x7 - (1 : Int32)).toInt64)) fun x8 =>
  bp_if (x8 = 0) (
  k5 (0 : Int32)) (
  k5 (1 : Int32)))) (fun (x4 : Int32) =>
  bp_bind (PX1_wantIndex x4) fun _ =>
  bp_bind (bp_is 2 a1 (PX3_isDark a1 xp2 xp3)) fun x6 =>
  bp_retZ x6)
set_option maxHeartbeats 4000000 in
set_option maxRecDepth 100000 in
theorem cnX1_at_2 {G : bp_GT} (a0 : Nat) (xp1 : Int32) (xp2 : Int32) (xp3 : Int32) : bp_Con G iX1_at_2 (ws_ iX1_at_2.1 iX1_at_2.2.1 iX1_at_2.2.2.1 iX1_at_2.2.2.2.1) [.ref a0, .int xp1, .int xp2, .int xp3] (PX1_at_2 a0 xp1 xp2 xp3) bp_eI := by
  refine bp_con_of [(0, .ref a0), (1, .int xp1), (2, .int xp2), (3, .int xp3)] rfl (by decide) (Nat.le_of_ble_eq_true rfl) rfl ?_
  unfold PX1_at_2
  refine bp_j_aload_n 0 dX1_at_2_0 rfl ?_
  refine bp_j_iload_n 1 dX1_at_2_1 rfl ?_
  refine bp_j_cl_N (bp_ranV (t := 0) (n := 1) (As := [.int xp1]) (cnX1_sheet (G := G) a0 xp1) rfl (lw_V q1051 q1053 qs33 q72 q1054) ⟨rfl, by decide +kernel, by decide +kernel, by decide +kernel⟩ ⟨by decide, by decide⟩ (rest := []) rfl rfl (Nat.le_of_ble_eq_true rfl) dX1_at_2_2) (by decide) (fun a1 => ?_)
  refine bp_j_astore (lv' := [(4, .ref a1), (0, .ref a0), (1, .int xp1), (2, .int xp2), (3, .int xp3)]) dX1_at_2_5 (by decide) rfl ?_
  refine bp_j_iload_n 3 dX1_at_2_7 rfl ?_
  refine bp_j_i2l dX1_at_2_8 ?_
  refine bp_j_lconst (v := 0) dX1_at_2_9 (by decide) ?_
  refine bp_j_aload 0 dX1_at_2_10 rfl ?_
  refine bp_j_getI (t := 2) (k := 3) rfl (by decide) (bp_lkN q192) dX1_at_2_12 (fun _ _ _ => rfl) (fun x2 => ?_)
  refine bp_j_iconst (v := 1) dX1_at_2_15 (by decide) ?_
  refine bp_j_isub dX1_at_2_16 ?_
  refine bp_j_i2l dX1_at_2_17 ?_
  refine bp_j_cl_I (bp_ranS (n := 3) (As := [.long xp2.toInt64, .long (0 : Int64), .long ((x2 - (1 : Int32)).toInt64)]) (cnX1_within (G := G) xp2.toInt64 (0 : Int64) ((x2 - (1 : Int32)).toInt64)) (lw_S q746 q472 q72 q473) ⟨by decide +kernel, by decide +kernel, by decide +kernel⟩ ⟨by decide, by decide⟩ (rest := []) rfl rfl (Nat.le_of_ble_eq_true rfl) dX1_at_2_18) (by decide) (fun x3 => ?_)
  refine bp_j_jm (fun k => ∀ (x4 : Int32), bp_J G iX1_at_2 (bp_Qn G bp_eI) (k x4) 46 [(2, .int xp2), (3, .int xp3), (4, .ref a1)] [.int x4]) (fun k5 hk5 => ?_) (fun x4 => ?_)
  · refine bp_j_if_eq (tgt := 45) dX1_at_2_21 (by decide) ?_ ?_
    · refine bp_j_iconst (v := 0) dX1_at_2_45 (by decide) ?_
      exact bp_j_sub [3, 4, 0] rfl (hk5 (0 : Int32))
    refine bp_j_iload_n 4 dX1_at_2_24 rfl ?_
    refine bp_j_i2l dX1_at_2_25 ?_
    refine bp_j_lconst (v := 0) dX1_at_2_26 (by decide) ?_
    refine bp_j_aload 0 dX1_at_2_27 rfl ?_
    refine bp_j_getI (t := 2) (k := 4) rfl (by decide) (bp_lkN q195) dX1_at_2_29 (fun _ _ _ => rfl) (fun x7 => ?_)
    refine bp_j_iconst (v := 1) dX1_at_2_32 (by decide) ?_
    refine bp_j_isub dX1_at_2_33 ?_
    refine bp_j_i2l dX1_at_2_34 ?_
    refine bp_j_cl_I (bp_ranS (n := 3) (As := [.long xp3.toInt64, .long (0 : Int64), .long ((x7 - (1 : Int32)).toInt64)]) (cnX1_within (G := G) xp3.toInt64 (0 : Int64) ((x7 - (1 : Int32)).toInt64)) (lw_S q746 q472 q72 q473) ⟨by decide +kernel, by decide +kernel, by decide +kernel⟩ ⟨by decide, by decide⟩ (rest := []) rfl rfl (Nat.le_of_ble_eq_true rfl) dX1_at_2_35) (by decide) (fun x8 => ?_)
    refine bp_j_if_eq (tgt := 45) dX1_at_2_38 (by decide) ?_ ?_
    · refine bp_j_iconst (v := 0) dX1_at_2_45 (by decide) ?_
      exact bp_j_sub [3, 4, 0] rfl (hk5 (0 : Int32))
    refine bp_j_iconst (v := 1) dX1_at_2_41 (by decide) ?_
    refine bp_j_goto (tgt := 46) dX1_at_2_42 (by decide) ?_
    exact bp_j_sub [3, 4, 0] rfl (hk5 (1 : Int32))
  refine bp_j_cl_U (bp_ranS (n := 1) (As := [.int x4]) (cnX1_wantIndex (G := G) x4) (lw_S q836 q837 q72 q838) ⟨by decide +kernel, by decide +kernel, by decide +kernel⟩ ⟨by decide, by decide⟩ (rest := []) rfl rfl (Nat.le_of_ble_eq_true rfl) dX1_at_2_46) (by decide) (fun _ => ?_)
  refine bp_j_aload 2 dX1_at_2_49 rfl ?_
  refine bp_j_iload_n 0 dX1_at_2_51 rfl ?_
  refine bp_j_iload_n 1 dX1_at_2_52 rfl ?_
  refine bp_j_cl_I (bp_ranVN (t := 2) (n := 2) (As := [.int xp2, .int xp3]) (cnX3_isDark (G := G) a1 xp2 xp3) rfl q682 q78 q1066 q681 qs17 ⟨by decide +kernel, by decide +kernel, by decide +kernel⟩ ⟨by decide, by decide⟩ (rest := []) rfl rfl (Nat.le_of_ble_eq_true rfl) dX1_at_2_53) (by decide) (fun x6 => ?_)
  exact bp_j_zret rfl dX1_at_2_56
/-- BilevelPages.byteAt(I)I -/
abbrev iX1_byteAt : bp_MI := (yX1_byteAt, cX1_byteAt, 2, some (Jvm.ClassFile.FieldType.int), [], 7, 120)
def PX1_byteAt (a0 : Nat) (xp1 : Int32) : bp_M Int32 :=
  bp_getI 0 5 a0 fun x1 =>
  bp_bind (PX1_within xp1.toInt64 (0 : Int64) (x1.toInt64 - (1 : Int64))) fun x2 =>
  bp_bind (PX1_wantIndex x2) fun _ =>
  bp_getN 0 4 a0 fun a3 =>
  bp_aldI 21 a3 xp1 fun x4 =>
  bp_ret (x4 &&& (255 : Int32))
set_option maxHeartbeats 4000000 in
set_option maxRecDepth 100000 in
theorem cnX1_byteAt {G : bp_GT} (a0 : Nat) (xp1 : Int32) : bp_Con G iX1_byteAt (ws_ iX1_byteAt.1 iX1_byteAt.2.1 iX1_byteAt.2.2.1 iX1_byteAt.2.2.2.1) [.ref a0, .int xp1] (PX1_byteAt a0 xp1) bp_eI := by
  refine bp_con_of [(0, .ref a0), (1, .int xp1)] rfl (by decide) (Nat.le_of_ble_eq_true rfl) rfl ?_
  unfold PX1_byteAt
  refine bp_j_iload_n 1 dX1_byteAt_0 rfl ?_
  refine bp_j_i2l dX1_byteAt_1 ?_
  refine bp_j_lconst (v := 0) dX1_byteAt_2 (by decide) ?_
  refine bp_j_aload_n 0 dX1_byteAt_3 rfl ?_
  refine bp_j_getI (t := 0) (k := 5) rfl (by decide) (bp_lk q295) dX1_byteAt_4 (fun _ _ _ => rfl) (fun x1 => ?_)
  refine bp_j_i2l dX1_byteAt_7 ?_
  refine bp_j_lconst (v := 1) dX1_byteAt_8 (by decide) ?_
  refine bp_j_lsub dX1_byteAt_9 ?_
  refine bp_j_cl_I (bp_ranS (n := 3) (As := [.long xp1.toInt64, .long (0 : Int64), .long (x1.toInt64 - (1 : Int64))]) (cnX1_within (G := G) xp1.toInt64 (0 : Int64) (x1.toInt64 - (1 : Int64))) (lw_S q746 q472 q72 q473) ⟨by decide +kernel, by decide +kernel, by decide +kernel⟩ ⟨by decide, by decide⟩ (rest := []) rfl rfl (Nat.le_of_ble_eq_true rfl) dX1_byteAt_10) (by decide) (fun x2 => ?_)
  refine bp_j_cl_U (bp_ranS (n := 1) (As := [.int x2]) (cnX1_wantIndex (G := G) x2) (lw_S q836 q837 q72 q838) ⟨by decide +kernel, by decide +kernel, by decide +kernel⟩ ⟨by decide, by decide⟩ (rest := []) rfl rfl (Nat.le_of_ble_eq_true rfl) dX1_byteAt_13) (by decide) (fun _ => ?_)
  refine bp_j_aload_n 0 dX1_byteAt_16 rfl ?_
  refine bp_j_getN (t := 0) (k := 4) rfl (by decide) (bp_lk q294) dX1_byteAt_17 (fun _ _ _ => rfl) (fun a3 => ?_)
  refine bp_j_iload_n 1 dX1_byteAt_20 rfl ?_
  refine bp_j_baloadB dX1_byteAt_21 (fun x4 => ?_)
  refine bp_j_sipush (v := 255) dX1_byteAt_22 (by decide) ?_
  refine bp_j_iand dX1_byteAt_25 ?_
  exact bp_j_iret rfl dX1_byteAt_26
/-- BilevelPages.at(I)LBilevelPages$Segment; -/
abbrev iX1_at : bp_MI := (yX1_at, cX1_at, 2, some ((Jvm.ClassFile.FieldType.object "BilevelPages$Segment")), [], 7, 120)
def PX1_at (a0 : Nat) (xp1 : Int32) : bp_M Nat :=
  bp_getN 0 1 a0 fun a1 =>
  bp_bind (bp_is 6 a1 (PJ2_size a1)) fun x2 =>
  bp_bind (PX1_within xp1.toInt64 (0 : Int64) (x2.toInt64 - (1 : Int64))) fun x3 =>
  bp_bind (PX1_wantIndex x3) fun _ =>
  bp_getN 0 1 a0 fun a4 =>
  bp_bind (bp_is 6 a4 (PJ2_get a4 xp1)) fun a5 =>
  bp_is 3 a5 <|
  bp_ret a5
set_option maxHeartbeats 4000000 in
set_option maxRecDepth 100000 in
theorem cnX1_at {G : bp_GT} (a0 : Nat) (xp1 : Int32) : bp_Con G iX1_at (ws_ iX1_at.1 iX1_at.2.1 iX1_at.2.2.1 iX1_at.2.2.2.1) [.ref a0, .int xp1] (PX1_at a0 xp1) bp_eN := by
  refine bp_con_of [(0, .ref a0), (1, .int xp1)] rfl (by decide) (Nat.le_of_ble_eq_true rfl) rfl ?_
  unfold PX1_at
  refine bp_j_iload_n 1 dX1_at_0 rfl ?_
  refine bp_j_i2l dX1_at_1 ?_
  refine bp_j_lconst (v := 0) dX1_at_2 (by decide) ?_
  refine bp_j_aload_n 0 dX1_at_3 rfl ?_
  refine bp_j_getN (t := 0) (k := 1) rfl (by decide) (bp_lk q290) dX1_at_4 (fun _ _ _ => rfl) (fun a1 => ?_)
  refine bp_j_cl_I (bp_ranV (t := 6) (n := 0) (As := []) (cnJ2_size (G := G) a1 ) rfl (lw_V q719 q475 q476 q75 q477) ⟨rfl, by decide +kernel, by decide +kernel, by decide +kernel⟩ ⟨by decide, by decide⟩ (rest := [.long (0 : Int64), .long xp1.toInt64]) rfl rfl (Nat.le_of_ble_eq_true rfl) dX1_at_7) (by decide) (fun x2 => ?_)
  refine bp_j_i2l dX1_at_10 ?_
  refine bp_j_lconst (v := 1) dX1_at_11 (by decide) ?_
  refine bp_j_lsub dX1_at_12 ?_
  refine bp_j_cl_I (bp_ranS (n := 3) (As := [.long xp1.toInt64, .long (0 : Int64), .long (x2.toInt64 - (1 : Int64))]) (cnX1_within (G := G) xp1.toInt64 (0 : Int64) (x2.toInt64 - (1 : Int64))) (lw_S q746 q472 q72 q473) ⟨by decide +kernel, by decide +kernel, by decide +kernel⟩ ⟨by decide, by decide⟩ (rest := []) rfl rfl (Nat.le_of_ble_eq_true rfl) dX1_at_13) (by decide) (fun x3 => ?_)
  refine bp_j_cl_U (bp_ranS (n := 1) (As := [.int x3]) (cnX1_wantIndex (G := G) x3) (lw_S q836 q837 q72 q838) ⟨by decide +kernel, by decide +kernel, by decide +kernel⟩ ⟨by decide, by decide⟩ (rest := []) rfl rfl (Nat.le_of_ble_eq_true rfl) dX1_at_16) (by decide) (fun _ => ?_)
  refine bp_j_aload_n 0 dX1_at_19 rfl ?_
  refine bp_j_getN (t := 0) (k := 1) rfl (by decide) (bp_lk q290) dX1_at_20 (fun _ _ _ => rfl) (fun a4 => ?_)
  refine bp_j_iload_n 1 dX1_at_23 rfl ?_
  refine bp_j_cl_N (bp_ranV (t := 6) (n := 1) (As := [.int xp1]) (cnJ2_get (G := G) a4 xp1) rfl (lw_V q854 q576 q577 q75 q578) ⟨rfl, by decide +kernel, by decide +kernel, by decide +kernel⟩ ⟨by decide, by decide⟩ (rest := []) rfl rfl (Nat.le_of_ble_eq_true rfl) dX1_at_24) (by decide) (fun a5 => ?_)
  refine bp_j_castS (t := 3) rfl q136 dX1_at_27 ?_
  exact bp_j_aretN rfl (Or.inl ⟨_, rfl⟩) dX1_at_30
/-- BilevelPages.wantRoom(Z)V -/
abbrev iX1_wantRoom : bp_MI := (yX1_wantRoom, cX1_wantRoom, 1, none, [], 6, 100)
def PX1_wantRoom (xp0 : Int32) : bp_M Unit :=
  bp_if (xp0 = 0) (
  bp_throw0 2) (
  bp_ret ())
set_option maxHeartbeats 4000000 in
set_option maxRecDepth 100000 in
theorem cnX1_wantRoom {G : bp_GT} (xp0 : Int32) : bp_Con G iX1_wantRoom (ws_ iX1_wantRoom.1 iX1_wantRoom.2.1 iX1_wantRoom.2.2.1 iX1_wantRoom.2.2.2.1) [.int xp0] (PX1_wantRoom xp0) bp_eU := by
  refine bp_con_of [(0, .int xp0)] rfl (by decide) (Nat.le_of_ble_eq_true rfl) rfl ?_
  unfold PX1_wantRoom
  refine bp_j_iload_n 0 dX1_wantRoom_0 rfl ?_
  refine bp_j_if_ne (tgt := 12) dX1_wantRoom_1 (by decide) ?_ ?_
  · exact bp_j_vret rfl dX1_wantRoom_12
  exact bp_j_throw0 (ic := 27) ["java/lang/RuntimeException", "java/lang/Exception"] (by decide +kernel) (by decide +kernel) q776 q87 (by decide +kernel) (by decide +kernel) (by decide +kernel) dX1_wantRoom_4 dX1_wantRoom_7 dX1_wantRoom_8 dX1_wantRoom_11 (by decide) (by decide) (Nat.le_of_ble_eq_true rfl)
/-- BilevelPages.byteOf(II)I -/
abbrev iX1_byteOf : bp_MI := (yX1_byteOf, cX1_byteOf, 4, some (Jvm.ClassFile.FieldType.int), [], 8, 141)
def PX1_byteOf (a0 : Nat) (xp1 : Int32) (xp2 : Int32) : bp_M Int32 :=
  bp_bind (bp_is 0 a0 (PX1_at a0 xp1)) fun a1 =>
  bp_getN 3 0 a1 fun a2 =>
  bp_bind (bp_is 8 a2 (PX5_hasBytes a2)) fun x3 =>
  bp_bind (PX1_allow x3) fun _ =>
  bp_bind (PX1_within xp2.toInt64 (0 : Int64) (255 : Int64)) fun x4 =>
  bp_bind (PX1_want x4) fun _ =>
  bp_getI 3 8 a1 fun x5 =>
  bp_jn (fun (k7 : Int32 → bp_M Int32) =>
  bp_if ((20 : Int32) ≤ x5) (
  k7 (0 : Int32)) (
  k7 (1 : Int32))) (fun (x6 : Int32) =>
  bp_bind (PX1_wantRoom x6) fun _ =>
  bp_getN 3 7 a1 fun a8 =>
  bp_getI 3 8 a1 fun x9 =>
  bp_putI 3 8 a1 (x9 + (1 : Int32)) <|
  bp_astB a8 x9 xp2.toInt8.toInt32 <|
  bp_getI 3 8 a1 fun x10 =>
  bp_ret x10)
set_option maxHeartbeats 4000000 in
set_option maxRecDepth 100000 in
theorem cnX1_byteOf {G : bp_GT} (a0 : Nat) (xp1 : Int32) (xp2 : Int32) : bp_Con G iX1_byteOf (ws_ iX1_byteOf.1 iX1_byteOf.2.1 iX1_byteOf.2.2.1 iX1_byteOf.2.2.2.1) [.ref a0, .int xp1, .int xp2] (PX1_byteOf a0 xp1 xp2) bp_eI := by
  refine bp_con_of [(0, .ref a0), (1, .int xp1), (2, .int xp2)] rfl (by decide) (Nat.le_of_ble_eq_true rfl) rfl ?_
  unfold PX1_byteOf
  refine bp_j_aload_n 0 dX1_byteOf_0 rfl ?_
  refine bp_j_iload_n 1 dX1_byteOf_1 rfl ?_
  refine bp_j_cl_N (bp_ranV (t := 0) (n := 1) (As := [.int xp1]) (cnX1_at (G := G) a0 xp1) rfl (lw_V q832 q834 qs24 q72 q835) ⟨rfl, by decide +kernel, by decide +kernel, by decide +kernel⟩ ⟨by decide, by decide⟩ (rest := []) rfl rfl (Nat.le_of_ble_eq_true rfl) dX1_byteOf_2) (by decide) (fun a1 => ?_)
  refine bp_j_astore_n (lv' := [(3, .ref a1), (0, .ref a0), (1, .int xp1), (2, .int xp2)]) dX1_byteOf_5 (by decide) rfl ?_
  refine bp_j_aload_n 0 dX1_byteOf_6 rfl ?_
  refine bp_j_getN (t := 3) (k := 0) rfl (by decide) (bp_lkN q225) dX1_byteOf_7 (fun _ _ _ => rfl) (fun a2 => ?_)
  refine bp_j_cl_I (bp_ranV (t := 8) (n := 0) (As := []) (cnX5_hasBytes (G := G) a2 ) rfl (lw_V q876 q615 q616 q81 q617) ⟨rfl, by decide +kernel, by decide +kernel, by decide +kernel⟩ ⟨by decide, by decide⟩ (rest := []) rfl rfl (Nat.le_of_ble_eq_true rfl) dX1_byteOf_10) (by decide) (fun x3 => ?_)
  refine bp_j_cl_U (bp_ranS (n := 1) (As := [.int x3]) (cnX1_allow (G := G) x3) (lw_S q877 q878 q72 q879) ⟨by decide +kernel, by decide +kernel, by decide +kernel⟩ ⟨by decide, by decide⟩ (rest := []) rfl rfl (Nat.le_of_ble_eq_true rfl) dX1_byteOf_13) (by decide) (fun _ => ?_)
  refine bp_j_iload_n 3 dX1_byteOf_16 rfl ?_
  refine bp_j_i2l dX1_byteOf_17 ?_
  refine bp_j_lconst (v := 0) dX1_byteOf_18 (by decide) ?_
  refine bp_j_ldc2 q895 dX1_byteOf_19 ?_
  refine bp_j_cl_I (bp_ranS (n := 3) (As := [.long xp2.toInt64, .long (0 : Int64), .long (255 : Int64)]) (cnX1_within (G := G) xp2.toInt64 (0 : Int64) (255 : Int64)) (lw_S q746 q472 q72 q473) ⟨by decide +kernel, by decide +kernel, by decide +kernel⟩ ⟨by decide, by decide⟩ (rest := []) rfl rfl (Nat.le_of_ble_eq_true rfl) dX1_byteOf_22) (by decide) (fun x4 => ?_)
  refine bp_j_cl_U (bp_ranS (n := 1) (As := [.int x4]) (cnX1_want (G := G) x4) (lw_S q747 q748 q72 q749) ⟨by decide +kernel, by decide +kernel, by decide +kernel⟩ ⟨by decide, by decide⟩ (rest := []) rfl rfl (Nat.le_of_ble_eq_true rfl) dX1_byteOf_25) (by decide) (fun _ => ?_)
  refine bp_j_aload_n 0 dX1_byteOf_28 rfl ?_
  refine bp_j_getI (t := 3) (k := 8) rfl (by decide) (bp_lkN q248) dX1_byteOf_29 (fun _ _ _ => rfl) (fun x5 => ?_)
  refine bp_j_bipush (v := 20) dX1_byteOf_32 (by decide) ?_
  refine bp_j_jm (fun k => ∀ (x6 : Int32), bp_J G iX1_byteOf (bp_Qn G bp_eI) (k x6) 42 [(2, .int xp2), (3, .ref a1)] [.int x6]) (fun k7 hk7 => ?_) (fun x6 => ?_)
  · refine bp_j_icmp_ge (tgt := 41) dX1_byteOf_34 (by decide) ?_ ?_
    · refine bp_j_iconst (v := 0) dX1_byteOf_41 (by decide) ?_
      exact bp_j_sub [3, 0] rfl (hk7 (0 : Int32))
    refine bp_j_iconst (v := 1) dX1_byteOf_37 (by decide) ?_
    refine bp_j_goto (tgt := 42) dX1_byteOf_38 (by decide) ?_
    exact bp_j_sub [3, 0] rfl (hk7 (1 : Int32))
  refine bp_j_cl_U (bp_ranS (n := 1) (As := [.int x6]) (cnX1_wantRoom (G := G) x6) (lw_S q773 q774 q72 q775) ⟨by decide +kernel, by decide +kernel, by decide +kernel⟩ ⟨by decide, by decide⟩ (rest := []) rfl rfl (Nat.le_of_ble_eq_true rfl) dX1_byteOf_42) (by decide) (fun _ => ?_)
  refine bp_j_aload_n 1 dX1_byteOf_45 rfl ?_
  refine bp_j_getN (t := 3) (k := 7) rfl (by decide) (bp_lkN q246) dX1_byteOf_46 (fun _ _ _ => rfl) (fun a8 => ?_)
  refine bp_j_aload_n 1 dX1_byteOf_49 rfl ?_
  refine bp_j_dup dX1_byteOf_50 rfl ?_
  refine bp_j_getI (t := 3) (k := 8) rfl (by decide) (bp_lkN q248) dX1_byteOf_51 (fun _ _ _ => rfl) (fun x9 => ?_)
  refine bp_j_dup_x1 dX1_byteOf_54 rfl rfl ?_
  refine bp_j_iconst (v := 1) dX1_byteOf_55 (by decide) ?_
  refine bp_j_iadd dX1_byteOf_56 ?_
  refine bp_j_putI (t := 3) (k := 8) rfl (by decide) (by decide) (bp_lkN q248) rfl dX1_byteOf_57 rfl ?_
  refine bp_j_iload_n 0 dX1_byteOf_60 rfl ?_
  refine bp_j_i2b dX1_byteOf_61 ?_
  refine bp_j_bastoreB dX1_byteOf_62 ?_
  refine bp_j_aload_n 1 dX1_byteOf_63 rfl ?_
  refine bp_j_getI (t := 3) (k := 8) rfl (by decide) (bp_lkN q248) dX1_byteOf_64 (fun _ _ _ => rfl) (fun x10 => ?_)
  exact bp_j_iret rfl dX1_byteOf_67
/-- BilevelPages.take(IZ)V -/
abbrev iX1_take : bp_MI := (yX1_take, cX1_take, 3, none, [], 0, 0)
def PX1_take (a0 : Nat) (xp1 : Int32) (xp2 : Int32) : bp_M Unit :=
  bp_if (xp2 = 0) (
  bp_getN 0 6 a0 fun a1 =>
  bp_getI 0 7 a0 fun x2 =>
  bp_putI 0 7 a0 (x2 + (1 : Int32)) <|
  bp_astB a1 x2 xp1.toInt8.toInt32 <|
  bp_ret ()) (
  bp_getN 0 8 a0 fun a3 =>
  bp_getI 0 9 a0 fun x4 =>
  bp_putI 0 9 a0 (x4 + (1 : Int32)) <|
  bp_astB a3 x4 xp1.toInt8.toInt32 <|
  bp_ret ())
set_option maxHeartbeats 4000000 in
set_option maxRecDepth 100000 in
theorem cnX1_take {G : bp_GT} (a0 : Nat) (xp1 : Int32) (xp2 : Int32) : bp_Con G iX1_take (ws_ iX1_take.1 iX1_take.2.1 iX1_take.2.2.1 iX1_take.2.2.2.1) [.ref a0, .int xp1, .int xp2] (PX1_take a0 xp1 xp2) bp_eU := by
  refine bp_con_of [(0, .ref a0), (1, .int xp1), (2, .int xp2)] rfl (by decide) (Nat.le_of_ble_eq_true rfl) rfl ?_
  unfold PX1_take
  refine bp_j_iload_n 2 dX1_take_0 rfl ?_
  refine bp_j_if_eq (tgt := 25) dX1_take_1 (by decide) ?_ ?_
  · refine bp_j_aload_n 0 dX1_take_25 rfl ?_
    refine bp_j_getN (t := 0) (k := 6) rfl (by decide) (bp_lk q297) dX1_take_26 (fun _ _ _ => rfl) (fun a1 => ?_)
    refine bp_j_aload_n 0 dX1_take_29 rfl ?_
    refine bp_j_dup dX1_take_30 rfl ?_
    refine bp_j_getI (t := 0) (k := 7) rfl (by decide) (bp_lk q299) dX1_take_31 (fun _ _ _ => rfl) (fun x2 => ?_)
    refine bp_j_dup_x1 dX1_take_34 rfl rfl ?_
    refine bp_j_iconst (v := 1) dX1_take_35 (by decide) ?_
    refine bp_j_iadd dX1_take_36 ?_
    refine bp_j_putI (t := 0) (k := 7) rfl (by decide) (by decide) (bp_lk q299) rfl dX1_take_37 rfl ?_
    refine bp_j_iload_n 1 dX1_take_40 rfl ?_
    refine bp_j_i2b dX1_take_41 ?_
    refine bp_j_bastoreB dX1_take_42 ?_
    exact bp_j_vret rfl dX1_take_43
  refine bp_j_aload_n 0 dX1_take_4 rfl ?_
  refine bp_j_getN (t := 0) (k := 8) rfl (by decide) (bp_lk q301) dX1_take_5 (fun _ _ _ => rfl) (fun a3 => ?_)
  refine bp_j_aload_n 0 dX1_take_8 rfl ?_
  refine bp_j_dup dX1_take_9 rfl ?_
  refine bp_j_getI (t := 0) (k := 9) rfl (by decide) (bp_lk q303) dX1_take_10 (fun _ _ _ => rfl) (fun x4 => ?_)
  refine bp_j_dup_x1 dX1_take_13 rfl rfl ?_
  refine bp_j_iconst (v := 1) dX1_take_14 (by decide) ?_
  refine bp_j_iadd dX1_take_15 ?_
  refine bp_j_putI (t := 0) (k := 9) rfl (by decide) (by decide) (bp_lk q303) rfl dX1_take_16 rfl ?_
  refine bp_j_iload_n 1 dX1_take_19 rfl ?_
  refine bp_j_i2b dX1_take_20 ?_
  refine bp_j_bastoreB dX1_take_21 ?_
  refine bp_j_goto (tgt := 43) dX1_take_22 (by decide) ?_
  exact bp_j_vret rfl dX1_take_43
/-- BilevelPages.feed(IZ)I -/
abbrev iX1_feed : bp_MI := (yX1_feed, cX1_feed, 3, some (Jvm.ClassFile.FieldType.int), [], 7, 120)
def PX1_feed (a0 : Nat) (xp1 : Int32) (xp2 : Int32) : bp_M Int32 :=
  bp_bind (PX1_within xp1.toInt64 (0 : Int64) (255 : Int64)) fun x1 =>
  bp_jn (fun (k3 : Int32 → bp_M Int32) =>
  bp_if (x1 = 0) (
  k3 (0 : Int32)) (
  bp_if (xp2 = 0) (
  k3 (1 : Int32)) (
  bp_getI 0 0 a0 fun x10 =>
  bp_if (x10 = (2 : Int32)) (
  k3 (1 : Int32)) (
  k3 (0 : Int32))))) (fun (x2 : Int32) =>
  bp_bind (PX1_want x2) fun _ =>
  bp_getI 0 7 a0 fun x4 =>
  bp_getI 0 9 a0 fun x5 =>
  bp_jn (fun (k7 : Int32 → bp_M Int32) =>
  bp_if ((3000 : Int32) ≤ (x4 + x5)) (
  k7 (0 : Int32)) (
  k7 (1 : Int32))) (fun (x6 : Int32) =>
  bp_bind (PX1_wantRoom x6) fun _ =>
  bp_bind (bp_is 0 a0 (PX1_take a0 xp1 xp2)) fun _ =>
  bp_if (xp2 = 0) (
  bp_getI 0 7 a0 fun x8 =>
  bp_ret x8) (
  bp_getI 0 9 a0 fun x9 =>
  bp_ret x9)))
set_option maxHeartbeats 4000000 in
set_option maxRecDepth 100000 in
theorem cnX1_feed {G : bp_GT} (a0 : Nat) (xp1 : Int32) (xp2 : Int32) : bp_Con G iX1_feed (ws_ iX1_feed.1 iX1_feed.2.1 iX1_feed.2.2.1 iX1_feed.2.2.2.1) [.ref a0, .int xp1, .int xp2] (PX1_feed a0 xp1 xp2) bp_eI := by
  refine bp_con_of [(0, .ref a0), (1, .int xp1), (2, .int xp2)] rfl (by decide) (Nat.le_of_ble_eq_true rfl) rfl ?_
  unfold PX1_feed
  refine bp_j_iload_n 1 dX1_feed_0 rfl ?_
  refine bp_j_i2l dX1_feed_1 ?_
  refine bp_j_lconst (v := 0) dX1_feed_2 (by decide) ?_
  refine bp_j_ldc2 q895 dX1_feed_3 ?_
  refine bp_j_cl_I (bp_ranS (n := 3) (As := [.long xp1.toInt64, .long (0 : Int64), .long (255 : Int64)]) (cnX1_within (G := G) xp1.toInt64 (0 : Int64) (255 : Int64)) (lw_S q746 q472 q72 q473) ⟨by decide +kernel, by decide +kernel, by decide +kernel⟩ ⟨by decide, by decide⟩ (rest := []) rfl rfl (Nat.le_of_ble_eq_true rfl) dX1_feed_6) (by decide) (fun x1 => ?_)
  refine bp_j_jm (fun k => ∀ (x2 : Int32), bp_J G iX1_feed (bp_Qn G bp_eI) (k x2) 29 [(0, .ref a0), (1, .int xp1), (2, .int xp2)] [.int x2]) (fun k3 hk3 => ?_) (fun x2 => ?_)
  · refine bp_j_if_eq (tgt := 28) dX1_feed_9 (by decide) ?_ ?_
    · refine bp_j_iconst (v := 0) dX1_feed_28 (by decide) ?_
      exact hk3 (0 : Int32)
    refine bp_j_iload_n 2 dX1_feed_12 rfl ?_
    refine bp_j_if_eq (tgt := 24) dX1_feed_13 (by decide) ?_ ?_
    · refine bp_j_iconst (v := 1) dX1_feed_24 (by decide) ?_
      refine bp_j_goto (tgt := 29) dX1_feed_25 (by decide) ?_
      exact hk3 (1 : Int32)
    refine bp_j_aload_n 0 dX1_feed_16 rfl ?_
    refine bp_j_getI (t := 0) (k := 0) rfl (by decide) (bp_lk q289) dX1_feed_17 (fun _ _ _ => rfl) (fun x10 => ?_)
    refine bp_j_iconst (v := 2) dX1_feed_20 (by decide) ?_
    refine bp_j_icmp_ne (tgt := 28) dX1_feed_21 (by decide) ?_ ?_
    · refine bp_j_iconst (v := 0) dX1_feed_28 (by decide) ?_
      exact hk3 (0 : Int32)
    refine bp_j_iconst (v := 1) dX1_feed_24 (by decide) ?_
    refine bp_j_goto (tgt := 29) dX1_feed_25 (by decide) ?_
    exact hk3 (1 : Int32)
  refine bp_j_cl_U (bp_ranS (n := 1) (As := [.int x2]) (cnX1_want (G := G) x2) (lw_S q747 q748 q72 q749) ⟨by decide +kernel, by decide +kernel, by decide +kernel⟩ ⟨by decide, by decide⟩ (rest := []) rfl rfl (Nat.le_of_ble_eq_true rfl) dX1_feed_29) (by decide) (fun _ => ?_)
  refine bp_j_aload_n 0 dX1_feed_32 rfl ?_
  refine bp_j_getI (t := 0) (k := 7) rfl (by decide) (bp_lk q299) dX1_feed_33 (fun _ _ _ => rfl) (fun x4 => ?_)
  refine bp_j_aload_n 0 dX1_feed_36 rfl ?_
  refine bp_j_getI (t := 0) (k := 9) rfl (by decide) (bp_lk q303) dX1_feed_37 (fun _ _ _ => rfl) (fun x5 => ?_)
  refine bp_j_iadd dX1_feed_40 ?_
  refine bp_j_sipush (v := 3000) dX1_feed_41 (by decide) ?_
  refine bp_j_jm (fun k => ∀ (x6 : Int32), bp_J G iX1_feed (bp_Qn G bp_eI) (k x6) 52 [(0, .ref a0), (1, .int xp1), (2, .int xp2)] [.int x6]) (fun k7 hk7 => ?_) (fun x6 => ?_)
  · refine bp_j_icmp_ge (tgt := 51) dX1_feed_44 (by decide) ?_ ?_
    · refine bp_j_iconst (v := 0) dX1_feed_51 (by decide) ?_
      exact hk7 (0 : Int32)
    refine bp_j_iconst (v := 1) dX1_feed_47 (by decide) ?_
    refine bp_j_goto (tgt := 52) dX1_feed_48 (by decide) ?_
    exact hk7 (1 : Int32)
  refine bp_j_cl_U (bp_ranS (n := 1) (As := [.int x6]) (cnX1_wantRoom (G := G) x6) (lw_S q773 q774 q72 q775) ⟨by decide +kernel, by decide +kernel, by decide +kernel⟩ ⟨by decide, by decide⟩ (rest := []) rfl rfl (Nat.le_of_ble_eq_true rfl) dX1_feed_52) (by decide) (fun _ => ?_)
  refine bp_j_aload_n 0 dX1_feed_55 rfl ?_
  refine bp_j_iload_n 1 dX1_feed_56 rfl ?_
  refine bp_j_iload_n 2 dX1_feed_57 rfl ?_
  refine bp_j_cl_U (bp_ranV (t := 0) (n := 2) (As := [.int xp1, .int xp2]) (cnX1_take (G := G) a0 xp1 xp2) rfl (lw_V q1019 q1021 qs32 q72 q1022) ⟨rfl, by decide +kernel, by decide +kernel, by decide +kernel⟩ ⟨by decide, by decide⟩ (rest := []) rfl rfl (Nat.le_of_ble_eq_true rfl) dX1_feed_58) (by decide) (fun _ => ?_)
  refine bp_j_iload_n 2 dX1_feed_61 rfl ?_
  refine bp_j_if_eq (tgt := 72) dX1_feed_62 (by decide) ?_ ?_
  · refine bp_j_aload_n 0 dX1_feed_72 rfl ?_
    refine bp_j_getI (t := 0) (k := 7) rfl (by decide) (bp_lk q299) dX1_feed_73 (fun _ _ _ => rfl) (fun x8 => ?_)
    exact bp_j_iret rfl dX1_feed_76
  refine bp_j_aload_n 0 dX1_feed_65 rfl ?_
  refine bp_j_getI (t := 0) (k := 9) rfl (by decide) (bp_lk q303) dX1_feed_66 (fun _ _ _ => rfl) (fun x9 => ?_)
  refine bp_j_goto (tgt := 76) dX1_feed_69 (by decide) ?_
  exact bp_j_iret rfl dX1_feed_76
