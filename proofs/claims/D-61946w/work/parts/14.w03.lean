/-! programs and walks -/
set_option maxRecDepth 100000
/-- BilevelPages.putHead(LBilevelPages$Segment;)V -/
abbrev iX1_putHead : bp_MI := (yX1_putHead, cX1_putHead, 4, none, [], 5, 113)
def BX1_putHead_84 (a0 : Nat) (bp1 : Nat) (k9 : bp_M Unit) (k13 : Int32 → bp_M Unit) : Int32 → bp_M Unit :=
  fun x12 =>
  bp_getI 3 4 bp1 fun x14 =>
  bp_if (x14 ≤ x12) (
  k9) (
  bp_getN 3 3 bp1 fun a15 =>
  bp_aldI 20 a15 x12 fun x16 =>
  bp_bind (bp_is 0 a0 (PX1_put a0 x16)) fun _ =>
  bp_letI (x12 + (1 : Int32)) fun x17 =>
  k13 x17)
def PX1_putHead (a0 : Nat) (bp1 : Nat) : bp_M Unit :=
  bp_getI 3 2 bp1 fun x1 =>
  bp_bind (bp_is 0 a0 (PX1_putFour a0 x1)) fun _ =>
  bp_getN 3 0 bp1 fun a2 =>
  bp_getI 8 0 a2 fun x3 =>
  bp_bind (bp_is 0 a0 (PX1_put a0 x3)) fun _ =>
  bp_getI 3 5 bp1 fun x4 =>
  bp_getI 3 4 bp1 fun x5 =>
  bp_letI ((x4 ^^^ (-1 : Int32)) &&& (((2 : Int32) <<< (x5 &&& 31)) - (1 : Int32))) fun x6 =>
  bp_getI 3 4 bp1 fun x7 =>
  bp_jn (fun (k8 : bp_M Unit) =>
  bp_if ((4 : Int32) < x7) (
  bp_getI 3 4 bp1 fun x18 =>
  bp_bind (bp_is 0 a0 (PX1_putFour a0 ((-536870912 : Int32) ||| x18))) fun _ =>
  bp_bind (bp_is 0 a0 (PX1_put a0 x6)) fun _ =>
  bp_bind (bp_is 0 a0 (PX1_put a0 (x6 >>> ((8 : Int32) &&& 31)))) fun _ =>
  k8) (
  bp_getI 3 4 bp1 fun x19 =>
  bp_bind (bp_is 0 a0 (PX1_put a0 ((x19 <<< ((5 : Int32) &&& 31)) ||| x6))) fun _ =>
  k8)) (bp_jn (fun (k9 : bp_M Unit) =>
  bp_loop (fun _ => bp_no) (BX1_putHead_84 a0 bp1 k9) (fun k => k (0 : Int32))) (bp_getI 3 1 bp1 fun x10 =>
  bp_bind (bp_is 0 a0 (PX1_put a0 x10)) fun _ =>
  bp_bind (bp_is 0 a0 (PX1_sizeOf a0 bp1)) fun x11 =>
  bp_bind (bp_is 0 a0 (PX1_putFour a0 x11)) fun _ =>
  bp_ret ()))
set_option maxHeartbeats 4000000 in
set_option maxRecDepth 100000 in
theorem cnX1_putHead {G : bp_GT} (a0 : Nat) (bp1 : Nat) : bp_Con G iX1_putHead (ws_ iX1_putHead.1 iX1_putHead.2.1 iX1_putHead.2.2.1 iX1_putHead.2.2.2.1) [.ref a0, .ref bp1] (PX1_putHead a0 bp1) bp_eU := by
  refine bp_con_of [(0, .ref a0), (1, .ref bp1)] rfl (by decide) (Nat.le_of_ble_eq_true rfl) rfl ?_
  unfold PX1_putHead
  refine bp_j_aload_n 0 dX1_putHead_0 rfl ?_
  refine bp_j_aload_n 1 dX1_putHead_1 rfl ?_
  refine bp_j_getI (t := 3) (k := 2) rfl (by decide) (bp_lkN q231) dX1_putHead_2 (fun _ _ _ => rfl) (fun x1 => ?_)
  refine bp_j_cl_U (bp_ranV (t := 0) (n := 1) (As := [.int x1]) (cnX1_putFour (G := G) a0 x1) rfl (lw_V q974 q976 qs26 q72 q977) ⟨rfl, by decide +kernel, by decide +kernel, by decide +kernel⟩ ⟨by decide, by decide⟩ (rest := []) rfl rfl (Nat.le_of_ble_eq_true rfl) dX1_putHead_5) (by decide) (fun _ => ?_)
  refine bp_j_aload_n 0 dX1_putHead_8 rfl ?_
  refine bp_j_aload_n 1 dX1_putHead_9 rfl ?_
  refine bp_j_getN (t := 3) (k := 0) rfl (by decide) (bp_lkN q225) dX1_putHead_10 (fun _ _ _ => rfl) (fun a2 => ?_)
  refine bp_j_getI (t := 8) (k := 0) rfl (by decide) (bp_lkN q1524) dX1_putHead_13 (fun _ _ _ => rfl) (fun x3 => ?_)
  refine bp_j_cl_U (bp_ranV (t := 0) (n := 1) (As := [.int x3]) (cnX1_put (G := G) a0 x3) rfl (lw_V q923 q925 qs25 q72 q926) ⟨rfl, by decide +kernel, by decide +kernel, by decide +kernel⟩ ⟨by decide, by decide⟩ (rest := []) rfl rfl (Nat.le_of_ble_eq_true rfl) dX1_putHead_16) (by decide) (fun _ => ?_)
  refine bp_j_aload_n 1 dX1_putHead_19 rfl ?_
  refine bp_j_getI (t := 3) (k := 5) rfl (by decide) (bp_lkN q240) dX1_putHead_20 (fun _ _ _ => rfl) (fun x4 => ?_)
  refine bp_j_iconst (v := -1) dX1_putHead_23 (by decide) ?_
  refine bp_j_ixor dX1_putHead_24 ?_
  refine bp_j_iconst (v := 2) dX1_putHead_25 (by decide) ?_
  refine bp_j_aload_n 1 dX1_putHead_26 rfl ?_
  refine bp_j_getI (t := 3) (k := 4) rfl (by decide) (bp_lkN q237) dX1_putHead_27 (fun _ _ _ => rfl) (fun x5 => ?_)
  refine bp_j_ishl dX1_putHead_30 ?_
  refine bp_j_iconst (v := 1) dX1_putHead_31 (by decide) ?_
  refine bp_j_isub dX1_putHead_32 ?_
  refine bp_j_iand dX1_putHead_33 ?_
  refine bp_j_letI (fun x6 => ?_)
  refine bp_j_istore_n (lv' := [(2, .int x6), (0, .ref a0), (1, .ref bp1)]) dX1_putHead_34 (by decide) rfl ?_
  refine bp_j_aload_n 2 dX1_putHead_35 rfl ?_
  refine bp_j_getI (t := 3) (k := 4) rfl (by decide) (bp_lkN q237) dX1_putHead_36 (fun _ _ _ => rfl) (fun x7 => ?_)
  refine bp_j_iconst (v := 4) dX1_putHead_39 (by decide) ?_
  refine bp_j_jm (fun k => bp_J G iX1_putHead (bp_Qn G bp_eU) (k) 82 [(0, .ref a0), (1, .ref bp1)] []) (fun k8 hk8 => ?_) ?_
  · refine bp_j_icmp_gt (tgt := 58) dX1_putHead_40 (by decide) ?_ ?_
    · refine bp_j_aload_n 1 dX1_putHead_58 rfl ?_
      refine bp_j_ldc q982 dX1_putHead_59 ?_
      refine bp_j_aload_n 2 dX1_putHead_61 rfl ?_
      refine bp_j_getI (t := 3) (k := 4) rfl (by decide) (bp_lkN q237) dX1_putHead_62 (fun _ _ _ => rfl) (fun x18 => ?_)
      refine bp_j_ior dX1_putHead_65 ?_
      refine bp_j_cl_U (bp_ranV (t := 0) (n := 1) (As := [.int ((-536870912 : Int32) ||| x18)]) (cnX1_putFour (G := G) a0 ((-536870912 : Int32) ||| x18)) rfl (lw_V q974 q976 qs26 q72 q977) ⟨rfl, by decide +kernel, by decide +kernel, by decide +kernel⟩ ⟨by decide, by decide⟩ (rest := []) rfl rfl (Nat.le_of_ble_eq_true rfl) dX1_putHead_66) (by decide) (fun _ => ?_)
      refine bp_j_aload_n 1 dX1_putHead_69 rfl ?_
      refine bp_j_iload_n 0 dX1_putHead_70 rfl ?_
      refine bp_j_cl_U (bp_ranV (t := 0) (n := 1) (As := [.int x6]) (cnX1_put (G := G) a0 x6) rfl (lw_V q923 q925 qs25 q72 q926) ⟨rfl, by decide +kernel, by decide +kernel, by decide +kernel⟩ ⟨by decide, by decide⟩ (rest := []) rfl rfl (Nat.le_of_ble_eq_true rfl) dX1_putHead_71) (by decide) (fun _ => ?_)
      refine bp_j_aload_n 1 dX1_putHead_74 rfl ?_
      refine bp_j_iload_n 0 dX1_putHead_75 rfl ?_
      refine bp_j_bipush (v := 8) dX1_putHead_76 (by decide) ?_
      refine bp_j_ishr dX1_putHead_78 ?_
      refine bp_j_cl_U (bp_ranV (t := 0) (n := 1) (As := [.int (x6 >>> ((8 : Int32) &&& 31))]) (cnX1_put (G := G) a0 (x6 >>> ((8 : Int32) &&& 31))) rfl (lw_V q923 q925 qs25 q72 q926) ⟨rfl, by decide +kernel, by decide +kernel, by decide +kernel⟩ ⟨by decide, by decide⟩ (rest := []) rfl rfl (Nat.le_of_ble_eq_true rfl) dX1_putHead_79) (by decide) (fun _ => ?_)
      exact bp_j_sub [1, 2] rfl (hk8)
    refine bp_j_aload_n 1 dX1_putHead_43 rfl ?_
    refine bp_j_aload_n 2 dX1_putHead_44 rfl ?_
    refine bp_j_getI (t := 3) (k := 4) rfl (by decide) (bp_lkN q237) dX1_putHead_45 (fun _ _ _ => rfl) (fun x19 => ?_)
    refine bp_j_iconst (v := 5) dX1_putHead_48 (by decide) ?_
    refine bp_j_ishl dX1_putHead_49 ?_
    refine bp_j_iload_n 0 dX1_putHead_50 rfl ?_
    refine bp_j_ior dX1_putHead_51 ?_
    refine bp_j_cl_U (bp_ranV (t := 0) (n := 1) (As := [.int ((x19 <<< ((5 : Int32) &&& 31)) ||| x6)]) (cnX1_put (G := G) a0 ((x19 <<< ((5 : Int32) &&& 31)) ||| x6)) rfl (lw_V q923 q925 qs25 q72 q926) ⟨rfl, by decide +kernel, by decide +kernel, by decide +kernel⟩ ⟨by decide, by decide⟩ (rest := []) rfl rfl (Nat.le_of_ble_eq_true rfl) dX1_putHead_52) (by decide) (fun _ => ?_)
    refine bp_j_goto (tgt := 82) dX1_putHead_55 (by decide) ?_
    exact bp_j_sub [1, 2] rfl (hk8)
  refine bp_j_iconst (v := 0) dX1_putHead_82 (by decide) ?_
  refine bp_j_istore_n (lv' := [(3, .int (0 : Int32)), (0, .ref a0), (1, .ref bp1)]) dX1_putHead_83 (by decide) rfl ?_
  refine bp_j_jm (fun k => bp_J G iX1_putHead (bp_Qn G bp_eU) (k) 108 [(0, .ref a0), (1, .ref bp1)] []) (fun k9 hk9 => ?_) ?_
  · refine bp_j_loop (fun k => ∀ (x12 : Int32), bp_J G iX1_putHead (bp_Qn G bp_eU) (k x12) 84 [(0, .ref a0), (1, .ref bp1), (3, .int x12)] []) (fun _ => bp_j_no) (fun k13 hk13 x12 => ?_) (fun k h => bp_j_sub [1, 2, 0] rfl (h (0 : Int32)))
    unfold BX1_putHead_84
    refine bp_j_iload_n 2 dX1_putHead_84 rfl ?_
    refine bp_j_aload_n 1 dX1_putHead_85 rfl ?_
    refine bp_j_getI (t := 3) (k := 4) rfl (by decide) (bp_lkN q237) dX1_putHead_86 (fun _ _ _ => rfl) (fun x14 => ?_)
    refine bp_j_icmp_ge (tgt := 108) dX1_putHead_89 (by decide) ?_ ?_
    · exact bp_j_sub [0, 1] rfl (hk9)
    refine bp_j_aload_n 0 dX1_putHead_92 rfl ?_
    refine bp_j_aload_n 1 dX1_putHead_93 rfl ?_
    refine bp_j_getN (t := 3) (k := 3) rfl (by decide) (bp_lkN q234) dX1_putHead_94 (fun _ _ _ => rfl) (fun a15 => ?_)
    refine bp_j_iload_n 2 dX1_putHead_97 rfl ?_
    refine bp_j_iaload dX1_putHead_98 (fun x16 => ?_)
    refine bp_j_cl_U (bp_ranV (t := 0) (n := 1) (As := [.int x16]) (cnX1_put (G := G) a0 x16) rfl (lw_V q923 q925 qs25 q72 q926) ⟨rfl, by decide +kernel, by decide +kernel, by decide +kernel⟩ ⟨by decide, by decide⟩ (rest := []) rfl rfl (Nat.le_of_ble_eq_true rfl) dX1_putHead_99) (by decide) (fun _ => ?_)
    refine bp_j_iincL (lv' := fun x17 => [(3, .int x17), (0, .ref a0), (1, .ref bp1)]) 2 dX1_putHead_102 rfl (by decide) (by decide) (fun _ => rfl) (fun x17 => ?_)
    refine bp_j_goto (tgt := 84) dX1_putHead_105 (by decide) ?_
    exact bp_j_sub [1, 2, 0] rfl (hk13 x17)
  refine bp_j_aload_n 0 dX1_putHead_108 rfl ?_
  refine bp_j_aload_n 1 dX1_putHead_109 rfl ?_
  refine bp_j_getI (t := 3) (k := 1) rfl (by decide) (bp_lkN q228) dX1_putHead_110 (fun _ _ _ => rfl) (fun x10 => ?_)
  refine bp_j_cl_U (bp_ranV (t := 0) (n := 1) (As := [.int x10]) (cnX1_put (G := G) a0 x10) rfl (lw_V q923 q925 qs25 q72 q926) ⟨rfl, by decide +kernel, by decide +kernel, by decide +kernel⟩ ⟨by decide, by decide⟩ (rest := []) rfl rfl (Nat.le_of_ble_eq_true rfl) dX1_putHead_113) (by decide) (fun _ => ?_)
  refine bp_j_aload_n 0 dX1_putHead_116 rfl ?_
  refine bp_j_aload_n 0 dX1_putHead_117 rfl ?_
  refine bp_j_aload_n 1 dX1_putHead_118 rfl ?_
  refine bp_j_cl_I (bp_ranV (t := 0) (n := 1) (As := [.ref bp1]) (cnX1_sizeOf (G := G) a0 bp1) rfl (lw_V q983 q985 qs28 q72 q986) ⟨rfl, by decide +kernel, by decide +kernel, by decide +kernel⟩ ⟨by decide, by decide⟩ (rest := [.ref a0]) rfl rfl (Nat.le_of_ble_eq_true rfl) dX1_putHead_119) (by decide) (fun x11 => ?_)
  refine bp_j_cl_U (bp_ranV (t := 0) (n := 1) (As := [.int x11]) (cnX1_putFour (G := G) a0 x11) rfl (lw_V q974 q976 qs26 q72 q977) ⟨rfl, by decide +kernel, by decide +kernel, by decide +kernel⟩ ⟨by decide, by decide⟩ (rest := []) rfl rfl (Nat.le_of_ble_eq_true rfl) dX1_putHead_122) (by decide) (fun _ => ?_)
  exact bp_j_vret rfl dX1_putHead_125
/-- BilevelPages.write(I)I -/
abbrev iX1_write : bp_MI := (yX1_write, cX1_write, 6, some (Jvm.ClassFile.FieldType.int), [], 7, 136)
def BX1_write_228 (a0 : Nat) (a9 : Nat) (k10 : bp_M Int32) (k12 : bp_M Int32) : bp_M Int32 :=
  bp_bind (bp_is 7 a9 (PJ18_hasNext a9)) fun x13 =>
  bp_if (x13 = 0) (
  k10) (
  bp_bind (bp_is 7 a9 (PJ18_next a9)) fun a14 =>
  bp_is 3 a14 <|
  bp_getI 0 0 a0 fun x15 =>
  bp_if (x15 = (1 : Int32)) (
  bp_bind (bp_is 0 a0 (PX1_putData a0 a14)) fun _ =>
  k12) (
  k12))
def BX1_write_147 (a0 : Nat) (xp1 : Int32) (a6 : Nat) (k7 : bp_M Int32) (k16 : bp_M Int32) : bp_M Int32 :=
  bp_bind (bp_is 7 a6 (PJ18_hasNext a6)) fun x17 =>
  bp_if (x17 = 0) (
  k7) (
  bp_bind (bp_is 7 a6 (PJ18_next a6)) fun a18 =>
  bp_is 3 a18 <|
  bp_getI 0 0 a0 fun x19 =>
  bp_jn (fun (k20 : bp_M Int32) =>
  bp_if (x19 < (2 : Int32)) (
  k20) (
  bp_getI 3 1 a18 fun x22 =>
  bp_jn (fun (k24 : Int32 → bp_M Int32) =>
  bp_if (x22 = 0) (
  k24 (1 : Int32)) (
  k24 (0 : Int32))) (fun (x23 : Int32) =>
  bp_jn (fun (k26 : Int32 → bp_M Int32) =>
  bp_if (xp1 = (1 : Int32)) (
  k26 (1 : Int32)) (
  k26 (0 : Int32))) (fun (x25 : Int32) =>
  bp_if (x23 = x25) (
  k20) (
  k16))))) (bp_bind (bp_is 0 a0 (PX1_putHead a0 a18)) fun _ =>
  bp_getI 0 0 a0 fun x21 =>
  bp_if (x21 = (1 : Int32)) (
  k16) (
  bp_bind (bp_is 0 a0 (PX1_putData a0 a18)) fun _ =>
  k16)))
def BX1_write_92 (a32 : Nat) (k34 : Int32 → bp_M Int32) (k36 : Int32 → bp_M Int32) : Int32 → bp_M Int32 :=
  fun x35 =>
  bp_bind (bp_is 7 a32 (PJ18_hasNext a32)) fun x37 =>
  bp_if (x37 = 0) (
  k34 x35) (
  bp_bind (bp_is 7 a32 (PJ18_next a32)) fun a38 =>
  bp_is 3 a38 <|
  bp_getN 3 0 a38 fun a39 =>
  bp_gets 15 fun a40 =>
  bp_jn (fun (k42 : Int32 → bp_M Int32) =>
  bp_if ((some a39) = (some a40)) (
  k42 (1 : Int32)) (
  k42 (0 : Int32))) (fun (x41 : Int32) =>
  bp_letI (x35 + x41) fun x43 =>
  k36 x43))
def BX1_write_48 (a0 : Nat) (a27 : Nat) (x28 : Int32) (k29 : bp_M Int32) (k45 : Int32 → bp_M Int32) : Int32 → bp_M Int32 :=
  fun x44 =>
  bp_if (x28 ≤ x44) (
  k29) (
  bp_aldI 20 a27 x44 fun x46 =>
  bp_bind (bp_is 0 a0 (PX1_put a0 x46)) fun _ =>
  bp_letI (x44 + (1 : Int32)) fun x47 =>
  k45 x47)
def PX1_write (a0 : Nat) (xp1 : Int32) : bp_M Int32 :=
  bp_jn (fun (k2 : Int32 → bp_M Int32) =>
  bp_if (xp1 = 0) (
  k2 (1 : Int32)) (
  bp_if (xp1 = (1 : Int32)) (
  bp_getI 0 0 a0 fun x48 =>
  bp_if (x48 = (2 : Int32)) (
  k2 (1 : Int32)) (
  k2 (0 : Int32))) (
  k2 (0 : Int32)))) (fun (x1 : Int32) =>
  bp_bind (PX1_want x1) fun _ =>
  bp_putI 0 5 a0 (0 : Int32) <|
  bp_getI 0 0 a0 fun x3 =>
  bp_jn (fun (k4 : bp_M Int32) =>
  bp_if ((2 : Int32) ≤ x3) (
  k4) (
  bp_gets 1 fun a27 =>
  bp_alen 20 a27 fun x28 =>
  bp_jn (fun (k29 : bp_M Int32) =>
  bp_loop (fun _ => bp_no) (BX1_write_48 a0 a27 x28 k29) (fun k => k (0 : Int32))) (bp_getI 0 0 a0 fun x30 =>
  bp_bind (bp_is 0 a0 (PX1_put a0 ((1 : Int32) - x30))) fun _ =>
  bp_getN 0 1 a0 fun a31 =>
  bp_bind (bp_is 6 a31 (PJ2_iterator a31)) fun a32 =>
  bp_jn (fun (k34 : Int32 → bp_M Int32) =>
  bp_loop (fun _ => bp_no) (BX1_write_92 a32 k34) (fun k => k (0 : Int32))) (fun (x33 : Int32) =>
  bp_bind (bp_is 0 a0 (PX1_putFour a0 x33)) fun _ =>
  k4)))) (bp_getN 0 1 a0 fun a5 =>
  bp_bind (bp_is 6 a5 (PJ2_iterator a5)) fun a6 =>
  bp_jn (fun (k7 : bp_M Int32) =>
  bp_loop (bp_no) (BX1_write_147 a0 xp1 a6 k7) (fun k => k)) (bp_getN 0 1 a0 fun a8 =>
  bp_bind (bp_is 6 a8 (PJ2_iterator a8)) fun a9 =>
  bp_jn (fun (k10 : bp_M Int32) =>
  bp_loop (bp_no) (BX1_write_228 a0 a9 k10) (fun k => k)) (bp_getI 0 5 a0 fun x11 =>
  bp_ret x11))))
set_option maxHeartbeats 4000000 in
set_option maxRecDepth 100000 in
theorem cnX1_write {G : bp_GT} (a0 : Nat) (xp1 : Int32) : bp_Con G iX1_write (ws_ iX1_write.1 iX1_write.2.1 iX1_write.2.2.1 iX1_write.2.2.2.1) [.ref a0, .int xp1] (PX1_write a0 xp1) bp_eI := by
  refine bp_con_of [(0, .ref a0), (1, .int xp1)] rfl (by decide) (Nat.le_of_ble_eq_true rfl) rfl ?_
  unfold PX1_write
  refine bp_j_iload_n 1 dX1_write_0 rfl ?_
  refine bp_j_jm (fun k => ∀ (x1 : Int32), bp_J G iX1_write (bp_Qn G bp_eI) (k x1) 22 [(0, .ref a0), (1, .int xp1)] [.int x1]) (fun k2 hk2 => ?_) (fun x1 => ?_)
  · refine bp_j_if_eq (tgt := 17) dX1_write_1 (by decide) ?_ ?_
    · refine bp_j_iconst (v := 1) dX1_write_17 (by decide) ?_
      refine bp_j_goto (tgt := 22) dX1_write_18 (by decide) ?_
      exact hk2 (1 : Int32)
    refine bp_j_iload_n 1 dX1_write_4 rfl ?_
    refine bp_j_iconst (v := 1) dX1_write_5 (by decide) ?_
    refine bp_j_icmp_ne (tgt := 21) dX1_write_6 (by decide) ?_ ?_
    · refine bp_j_iconst (v := 0) dX1_write_21 (by decide) ?_
      exact hk2 (0 : Int32)
    refine bp_j_aload_n 0 dX1_write_9 rfl ?_
    refine bp_j_getI (t := 0) (k := 0) rfl (by decide) (bp_lk q289) dX1_write_10 (fun _ _ _ => rfl) (fun x48 => ?_)
    refine bp_j_iconst (v := 2) dX1_write_13 (by decide) ?_
    refine bp_j_icmp_ne (tgt := 21) dX1_write_14 (by decide) ?_ ?_
    · refine bp_j_iconst (v := 0) dX1_write_21 (by decide) ?_
      exact hk2 (0 : Int32)
    refine bp_j_iconst (v := 1) dX1_write_17 (by decide) ?_
    refine bp_j_goto (tgt := 22) dX1_write_18 (by decide) ?_
    exact hk2 (1 : Int32)
  refine bp_j_cl_U (bp_ranS (n := 1) (As := [.int x1]) (cnX1_want (G := G) x1) (lw_S q747 q748 q72 q749) ⟨by decide +kernel, by decide +kernel, by decide +kernel⟩ ⟨by decide, by decide⟩ (rest := []) rfl rfl (Nat.le_of_ble_eq_true rfl) dX1_write_22) (by decide) (fun _ => ?_)
  refine bp_j_aload_n 0 dX1_write_25 rfl ?_
  refine bp_j_iconst (v := 0) dX1_write_26 (by decide) ?_
  refine bp_j_putI (t := 0) (k := 5) rfl (by decide) (by decide) (bp_lk q295) rfl dX1_write_27 rfl ?_
  refine bp_j_aload_n 0 dX1_write_30 rfl ?_
  refine bp_j_getI (t := 0) (k := 0) rfl (by decide) (bp_lk q289) dX1_write_31 (fun _ _ _ => rfl) (fun x3 => ?_)
  refine bp_j_iconst (v := 2) dX1_write_34 (by decide) ?_
  refine bp_j_jm (fun k => bp_J G iX1_write (bp_Qn G bp_eI) (k) 139 [(0, .ref a0), (1, .int xp1)] []) (fun k4 hk4 => ?_) ?_
  · refine bp_j_icmp_ge (tgt := 139) dX1_write_35 (by decide) ?_ ?_
    · exact hk4
    refine bp_j_gets (j := 1) rfl (bp_lk q922) dX1_write_38 (fun a27 => ?_)
    refine bp_j_astore_n (lv' := [(2, .ref a27), (0, .ref a0), (1, .int xp1)]) dX1_write_41 (by decide) rfl ?_
    refine bp_j_aload_n 0 dX1_write_42 rfl ?_
    refine bp_j_alen (t := 20) rfl dX1_write_43 (fun x28 => ?_)
    refine bp_j_istore_n (lv' := [(3, .int x28), (2, .ref a27), (0, .ref a0), (1, .int xp1)]) dX1_write_44 (by decide) rfl ?_
    refine bp_j_iconst (v := 0) dX1_write_45 (by decide) ?_
    refine bp_j_istore (lv' := [(4, .int (0 : Int32)), (3, .int x28), (2, .ref a27), (0, .ref a0), (1, .int xp1)]) dX1_write_46 (by decide) rfl ?_
    refine bp_j_jm (fun k => bp_J G iX1_write (bp_Qn G bp_eI) (k) 72 [(0, .ref a0), (1, .int xp1)] []) (fun k29 hk29 => ?_) ?_
    · refine bp_j_loop (fun k => ∀ (x44 : Int32), bp_J G iX1_write (bp_Qn G bp_eI) (k x44) 48 [(0, .ref a0), (1, .int xp1), (2, .ref a27), (3, .int x28), (4, .int x44)] []) (fun _ => bp_j_no) (fun k45 hk45 x44 => ?_) (fun k h => bp_j_sub [3, 4, 2, 1, 0] rfl (h (0 : Int32)))
      unfold BX1_write_48
      refine bp_j_iload 4 dX1_write_48 rfl ?_
      refine bp_j_iload_n 3 dX1_write_50 rfl ?_
      refine bp_j_icmp_ge (tgt := 72) dX1_write_51 (by decide) ?_ ?_
      · exact bp_j_sub [0, 1] rfl (hk29)
      refine bp_j_aload_n 2 dX1_write_54 rfl ?_
      refine bp_j_iload 4 dX1_write_55 rfl ?_
      refine bp_j_iaload dX1_write_57 (fun x46 => ?_)
      refine bp_j_istore (lv' := [(5, .int x46), (0, .ref a0), (1, .int xp1), (2, .ref a27), (3, .int x28), (4, .int x44)]) dX1_write_58 (by decide) rfl ?_
      refine bp_j_aload_n 1 dX1_write_60 rfl ?_
      refine bp_j_iload 0 dX1_write_61 rfl ?_
      refine bp_j_cl_U (bp_ranV (t := 0) (n := 1) (As := [.int x46]) (cnX1_put (G := G) a0 x46) rfl (lw_V q923 q925 qs25 q72 q926) ⟨rfl, by decide +kernel, by decide +kernel, by decide +kernel⟩ ⟨by decide, by decide⟩ (rest := []) rfl rfl (Nat.le_of_ble_eq_true rfl) dX1_write_63) (by decide) (fun _ => ?_)
      refine bp_j_iincL (lv' := fun x47 => [(4, .int x47), (5, .int x46), (0, .ref a0), (1, .int xp1), (2, .ref a27), (3, .int x28)]) 5 dX1_write_66 rfl (by decide) (by decide) (fun _ => rfl) (fun x47 => ?_)
      refine bp_j_goto (tgt := 48) dX1_write_69 (by decide) ?_
      exact bp_j_sub [2, 3, 4, 5, 0] rfl (hk45 x47)
    refine bp_j_aload_n 0 dX1_write_72 rfl ?_
    refine bp_j_iconst (v := 1) dX1_write_73 (by decide) ?_
    refine bp_j_aload_n 0 dX1_write_74 rfl ?_
    refine bp_j_getI (t := 0) (k := 0) rfl (by decide) (bp_lk q289) dX1_write_75 (fun _ _ _ => rfl) (fun x30 => ?_)
    refine bp_j_isub dX1_write_78 ?_
    refine bp_j_cl_U (bp_ranV (t := 0) (n := 1) (As := [.int ((1 : Int32) - x30)]) (cnX1_put (G := G) a0 ((1 : Int32) - x30)) rfl (lw_V q923 q925 qs25 q72 q926) ⟨rfl, by decide +kernel, by decide +kernel, by decide +kernel⟩ ⟨by decide, by decide⟩ (rest := []) rfl rfl (Nat.le_of_ble_eq_true rfl) dX1_write_79) (by decide) (fun _ => ?_)
    refine bp_j_iconst (v := 0) dX1_write_82 (by decide) ?_
    refine bp_j_istore_n (lv' := [(2, .int (0 : Int32)), (0, .ref a0), (1, .int xp1)]) dX1_write_83 (by decide) rfl ?_
    refine bp_j_aload_n 1 dX1_write_84 rfl ?_
    refine bp_j_getN (t := 0) (k := 1) rfl (by decide) (bp_lk q290) dX1_write_85 (fun _ _ _ => rfl) (fun a31 => ?_)
    refine bp_j_cl_N (bp_ranV (t := 6) (n := 0) (As := []) (cnJ2_iterator (G := G) a31 ) rfl (lw_V q927 q928 q929 q75 q930) ⟨rfl, by decide +kernel, by decide +kernel, by decide +kernel⟩ ⟨by decide, by decide⟩ (rest := []) rfl rfl (Nat.le_of_ble_eq_true rfl) dX1_write_88) (by decide) (fun a32 => ?_)
    refine bp_j_astore_n (lv' := [(3, .ref a32), (2, .int (0 : Int32)), (0, .ref a0), (1, .int xp1)]) dX1_write_91 (by decide) rfl ?_
    refine bp_j_jm (fun k => ∀ (x33 : Int32), bp_J G iX1_write (bp_Qn G bp_eI) (k x33) 134 [(0, .ref a0), (1, .int xp1), (2, .int x33)] []) (fun k34 hk34 => ?_) (fun x33 => ?_)
    · refine bp_j_loop (fun k => ∀ (x35 : Int32), bp_J G iX1_write (bp_Qn G bp_eI) (k x35) 92 [(0, .ref a0), (1, .int xp1), (2, .int x35), (3, .ref a32)] []) (fun _ => bp_j_no) (fun k36 hk36 x35 => ?_) (fun k h => bp_j_sub [2, 3, 1, 0] rfl (h (0 : Int32)))
      unfold BX1_write_92
      refine bp_j_aload_n 3 dX1_write_92 rfl ?_
      refine bp_j_cf_I (bp_ranF (n := 0) (As := []) (x := bp_xHN) (cnJ18_hasNext (G := G) a32 ) (fun s hK => hK.2.2.2.2.2.2.2.2.2.1) (List.forall_mem_cons.mpr ⟨q951, List.forall_mem_cons.mpr ⟨q955, List.forall_mem_cons.mpr ⟨q957, List.forall_mem_cons.mpr ⟨q97, fun _ h => nomatch h⟩⟩⟩⟩) q959 ⟨by decide +kernel, by decide +kernel, by decide +kernel⟩ ⟨by decide, by decide⟩ (rest := []) rfl rfl (Nat.le_of_ble_eq_true rfl) dX1_write_93) (by decide) (fun x37 => ?_)
      refine bp_j_if_eq (tgt := 134) dX1_write_98 (by decide) ?_ ?_
      · exact bp_j_sub [0, 1, 2] rfl (hk34 x35)
      refine bp_j_aload_n 3 dX1_write_101 rfl ?_
      refine bp_j_cf_N (bp_ranF (n := 0) (As := []) (x := bp_xNX) (cnJ18_next (G := G) a32 ) (fun s hK => hK.2.2.2.2.2.2.2.2.2.2.1) (List.forall_mem_cons.mpr ⟨q961, List.forall_mem_cons.mpr ⟨q964, List.forall_mem_cons.mpr ⟨q966, List.forall_mem_cons.mpr ⟨q97, fun _ h => nomatch h⟩⟩⟩⟩) q968 ⟨by decide +kernel, by decide +kernel, by decide +kernel⟩ ⟨by decide, by decide⟩ (rest := []) rfl rfl (Nat.le_of_ble_eq_true rfl) dX1_write_102) (by decide) (fun a38 => ?_)
      refine bp_j_castS (t := 3) rfl q136 dX1_write_107 ?_
      refine bp_j_astore (lv' := [(4, .ref a38), (0, .ref a0), (1, .int xp1), (2, .int x35), (3, .ref a32)]) dX1_write_110 (by decide) rfl ?_
      refine bp_j_iload_n 3 dX1_write_112 rfl ?_
      refine bp_j_aload 0 dX1_write_113 rfl ?_
      refine bp_j_getN (t := 3) (k := 0) rfl (by decide) (bp_lkN q225) dX1_write_115 (fun _ _ _ => rfl) (fun a39 => ?_)
      refine bp_j_gets (j := 15) rfl (bp_lk q973) dX1_write_118 (fun a40 => ?_)
      refine bp_j_jm (fun k => ∀ (x41 : Int32), bp_J G iX1_write (bp_Qn G bp_eI) (k x41) 129 [(0, .ref a0), (1, .int xp1), (3, .ref a32)] [.int x41, .int x35]) (fun k42 hk42 => ?_) (fun x41 => ?_)
      · refine bp_j_acmp_ne (x := (some a39)) (y := (some a40)) (tgt := 128) dX1_write_121 (by decide) ?_ ?_
        · refine bp_j_iconst (v := 0) dX1_write_128 (by decide) ?_
          exact bp_j_sub [1, 2, 4] rfl (hk42 (0 : Int32))
        refine bp_j_iconst (v := 1) dX1_write_124 (by decide) ?_
        refine bp_j_goto (tgt := 129) dX1_write_125 (by decide) ?_
        exact bp_j_sub [1, 2, 4] rfl (hk42 (1 : Int32))
      refine bp_j_iadd dX1_write_129 ?_
      refine bp_j_letI (fun x43 => ?_)
      refine bp_j_istore_n (lv' := [(2, .int x43), (0, .ref a0), (1, .int xp1), (3, .ref a32)]) dX1_write_130 (by decide) rfl ?_
      refine bp_j_goto (tgt := 92) dX1_write_131 (by decide) ?_
      exact bp_j_sub [1, 2, 0, 3] rfl (hk36 x43)
    refine bp_j_aload_n 0 dX1_write_134 rfl ?_
    refine bp_j_iload_n 2 dX1_write_135 rfl ?_
    refine bp_j_cl_U (bp_ranV (t := 0) (n := 1) (As := [.int x33]) (cnX1_putFour (G := G) a0 x33) rfl (lw_V q974 q976 qs26 q72 q977) ⟨rfl, by decide +kernel, by decide +kernel, by decide +kernel⟩ ⟨by decide, by decide⟩ (rest := []) rfl rfl (Nat.le_of_ble_eq_true rfl) dX1_write_136) (by decide) (fun _ => ?_)
    exact bp_j_sub [0, 1] rfl (hk4)
  refine bp_j_aload_n 0 dX1_write_139 rfl ?_
  refine bp_j_getN (t := 0) (k := 1) rfl (by decide) (bp_lk q290) dX1_write_140 (fun _ _ _ => rfl) (fun a5 => ?_)
  refine bp_j_cl_N (bp_ranV (t := 6) (n := 0) (As := []) (cnJ2_iterator (G := G) a5 ) rfl (lw_V q927 q928 q929 q75 q930) ⟨rfl, by decide +kernel, by decide +kernel, by decide +kernel⟩ ⟨by decide, by decide⟩ (rest := []) rfl rfl (Nat.le_of_ble_eq_true rfl) dX1_write_143) (by decide) (fun a6 => ?_)
  refine bp_j_astore_n (lv' := [(2, .ref a6), (0, .ref a0), (1, .int xp1)]) dX1_write_146 (by decide) rfl ?_
  refine bp_j_jm (fun k => bp_J G iX1_write (bp_Qn G bp_eI) (k) 220 [(0, .ref a0)] []) (fun k7 hk7 => ?_) ?_
  · refine bp_j_loop (fun k => bp_J G iX1_write (bp_Qn G bp_eI) (k) 147 [(0, .ref a0), (1, .int xp1), (2, .ref a6)] []) (bp_j_no) (fun k16 hk16  => ?_) (fun k h => bp_j_sub [1, 2, 0] rfl (h))
    unfold BX1_write_147
    refine bp_j_aload_n 2 dX1_write_147 rfl ?_
    refine bp_j_cf_I (bp_ranF (n := 0) (As := []) (x := bp_xHN) (cnJ18_hasNext (G := G) a6 ) (fun s hK => hK.2.2.2.2.2.2.2.2.2.1) (List.forall_mem_cons.mpr ⟨q951, List.forall_mem_cons.mpr ⟨q955, List.forall_mem_cons.mpr ⟨q957, List.forall_mem_cons.mpr ⟨q97, fun _ h => nomatch h⟩⟩⟩⟩) q959 ⟨by decide +kernel, by decide +kernel, by decide +kernel⟩ ⟨by decide, by decide⟩ (rest := []) rfl rfl (Nat.le_of_ble_eq_true rfl) dX1_write_148) (by decide) (fun x17 => ?_)
    refine bp_j_if_eq (tgt := 220) dX1_write_153 (by decide) ?_ ?_
    · exact bp_j_sub [0] rfl (hk7)
    refine bp_j_aload_n 2 dX1_write_156 rfl ?_
    refine bp_j_cf_N (bp_ranF (n := 0) (As := []) (x := bp_xNX) (cnJ18_next (G := G) a6 ) (fun s hK => hK.2.2.2.2.2.2.2.2.2.2.1) (List.forall_mem_cons.mpr ⟨q961, List.forall_mem_cons.mpr ⟨q964, List.forall_mem_cons.mpr ⟨q966, List.forall_mem_cons.mpr ⟨q97, fun _ h => nomatch h⟩⟩⟩⟩) q968 ⟨by decide +kernel, by decide +kernel, by decide +kernel⟩ ⟨by decide, by decide⟩ (rest := []) rfl rfl (Nat.le_of_ble_eq_true rfl) dX1_write_157) (by decide) (fun a18 => ?_)
    refine bp_j_castS (t := 3) rfl q136 dX1_write_162 ?_
    refine bp_j_astore_n (lv' := [(3, .ref a18), (0, .ref a0), (1, .int xp1), (2, .ref a6)]) dX1_write_165 (by decide) rfl ?_
    refine bp_j_aload_n 1 dX1_write_166 rfl ?_
    refine bp_j_getI (t := 0) (k := 0) rfl (by decide) (bp_lk q289) dX1_write_167 (fun _ _ _ => rfl) (fun x19 => ?_)
    refine bp_j_iconst (v := 2) dX1_write_170 (by decide) ?_
    refine bp_j_jm (fun k => bp_J G iX1_write (bp_Qn G bp_eI) (k) 199 [(0, .ref a0), (1, .int xp1), (2, .ref a6), (3, .ref a18)] []) (fun k20 hk20 => ?_) ?_
    · refine bp_j_icmp_lt (tgt := 199) dX1_write_171 (by decide) ?_ ?_
      · exact bp_j_sub [1, 2, 3, 0] rfl (hk20)
      refine bp_j_aload_n 0 dX1_write_174 rfl ?_
      refine bp_j_getI (t := 3) (k := 1) rfl (by decide) (bp_lkN q228) dX1_write_175 (fun _ _ _ => rfl) (fun x22 => ?_)
      refine bp_j_jm (fun k => ∀ (x23 : Int32), bp_J G iX1_write (bp_Qn G bp_eI) (k x23) 186 [(0, .ref a0), (1, .int xp1), (2, .ref a6), (3, .ref a18)] [.int x23]) (fun k24 hk24 => ?_) (fun x23 => ?_)
      · refine bp_j_if_ne (tgt := 185) dX1_write_178 (by decide) ?_ ?_
        · refine bp_j_iconst (v := 0) dX1_write_185 (by decide) ?_
          exact bp_j_sub [1, 2, 3, 0] rfl (hk24 (0 : Int32))
        refine bp_j_iconst (v := 1) dX1_write_181 (by decide) ?_
        refine bp_j_goto (tgt := 186) dX1_write_182 (by decide) ?_
        exact bp_j_sub [1, 2, 3, 0] rfl (hk24 (1 : Int32))
      refine bp_j_iload_n 1 dX1_write_186 rfl ?_
      refine bp_j_iconst (v := 1) dX1_write_187 (by decide) ?_
      refine bp_j_jm (fun k => ∀ (x25 : Int32), bp_J G iX1_write (bp_Qn G bp_eI) (k x25) 196 [(0, .ref a0), (1, .int xp1), (2, .ref a6), (3, .ref a18)] [.int x25, .int x23]) (fun k26 hk26 => ?_) (fun x25 => ?_)
      · refine bp_j_icmp_ne (tgt := 195) dX1_write_188 (by decide) ?_ ?_
        · refine bp_j_iconst (v := 0) dX1_write_195 (by decide) ?_
          exact hk26 (0 : Int32)
        refine bp_j_iconst (v := 1) dX1_write_191 (by decide) ?_
        refine bp_j_goto (tgt := 196) dX1_write_192 (by decide) ?_
        exact hk26 (1 : Int32)
      refine bp_j_icmp_ne (tgt := 217) dX1_write_196 (by decide) ?_ ?_
      · refine bp_j_goto (tgt := 147) dX1_write_217 (by decide) ?_
        exact bp_j_sub [0, 1, 2] rfl (hk16)
      exact hk20
    refine bp_j_aload_n 0 dX1_write_199 rfl ?_
    refine bp_j_aload_n 3 dX1_write_200 rfl ?_
    refine bp_j_cl_U (bp_ranV (t := 0) (n := 1) (As := [.ref a18]) (cnX1_putHead (G := G) a0 a18) rfl (lw_V q978 q980 qs27 q72 q981) ⟨rfl, by decide +kernel, by decide +kernel, by decide +kernel⟩ ⟨by decide, by decide⟩ (rest := []) rfl rfl (Nat.le_of_ble_eq_true rfl) dX1_write_201) (by decide) (fun _ => ?_)
    refine bp_j_aload_n 0 dX1_write_204 rfl ?_
    refine bp_j_getI (t := 0) (k := 0) rfl (by decide) (bp_lk q289) dX1_write_205 (fun _ _ _ => rfl) (fun x21 => ?_)
    refine bp_j_iconst (v := 1) dX1_write_208 (by decide) ?_
    refine bp_j_icmp_eq (tgt := 217) dX1_write_209 (by decide) ?_ ?_
    · refine bp_j_goto (tgt := 147) dX1_write_217 (by decide) ?_
      exact bp_j_sub [0, 1, 2] rfl (hk16)
    refine bp_j_aload_n 0 dX1_write_212 rfl ?_
    refine bp_j_aload_n 3 dX1_write_213 rfl ?_
    refine bp_j_cl_U (bp_ranV (t := 0) (n := 1) (As := [.ref a18]) (cnX1_putData (G := G) a0 a18) rfl (lw_V q992 q994 qs29 q72 q995) ⟨rfl, by decide +kernel, by decide +kernel, by decide +kernel⟩ ⟨by decide, by decide⟩ (rest := []) rfl rfl (Nat.le_of_ble_eq_true rfl) dX1_write_214) (by decide) (fun _ => ?_)
    refine bp_j_goto (tgt := 147) dX1_write_217 (by decide) ?_
    exact bp_j_sub [0, 1, 2] rfl (hk16)
  refine bp_j_aload_n 0 dX1_write_220 rfl ?_
  refine bp_j_getN (t := 0) (k := 1) rfl (by decide) (bp_lk q290) dX1_write_221 (fun _ _ _ => rfl) (fun a8 => ?_)
  refine bp_j_cl_N (bp_ranV (t := 6) (n := 0) (As := []) (cnJ2_iterator (G := G) a8 ) rfl (lw_V q927 q928 q929 q75 q930) ⟨rfl, by decide +kernel, by decide +kernel, by decide +kernel⟩ ⟨by decide, by decide⟩ (rest := []) rfl rfl (Nat.le_of_ble_eq_true rfl) dX1_write_224) (by decide) (fun a9 => ?_)
  refine bp_j_astore_n (lv' := [(2, .ref a9), (0, .ref a0)]) dX1_write_227 (by decide) rfl ?_
  refine bp_j_jm (fun k => bp_J G iX1_write (bp_Qn G bp_eI) (k) 263 [(0, .ref a0)] []) (fun k10 hk10 => ?_) ?_
  · refine bp_j_loop (fun k => bp_J G iX1_write (bp_Qn G bp_eI) (k) 228 [(0, .ref a0), (2, .ref a9)] []) (bp_j_no) (fun k12 hk12  => ?_) (fun k h => bp_j_sub [1, 0] rfl (h))
    unfold BX1_write_228
    refine bp_j_aload_n 1 dX1_write_228 rfl ?_
    refine bp_j_cf_I (bp_ranF (n := 0) (As := []) (x := bp_xHN) (cnJ18_hasNext (G := G) a9 ) (fun s hK => hK.2.2.2.2.2.2.2.2.2.1) (List.forall_mem_cons.mpr ⟨q951, List.forall_mem_cons.mpr ⟨q955, List.forall_mem_cons.mpr ⟨q957, List.forall_mem_cons.mpr ⟨q97, fun _ h => nomatch h⟩⟩⟩⟩) q959 ⟨by decide +kernel, by decide +kernel, by decide +kernel⟩ ⟨by decide, by decide⟩ (rest := []) rfl rfl (Nat.le_of_ble_eq_true rfl) dX1_write_229) (by decide) (fun x13 => ?_)
    refine bp_j_if_eq (tgt := 263) dX1_write_234 (by decide) ?_ ?_
    · exact bp_j_sub [0] rfl (hk10)
    refine bp_j_aload_n 1 dX1_write_237 rfl ?_
    refine bp_j_cf_N (bp_ranF (n := 0) (As := []) (x := bp_xNX) (cnJ18_next (G := G) a9 ) (fun s hK => hK.2.2.2.2.2.2.2.2.2.2.1) (List.forall_mem_cons.mpr ⟨q961, List.forall_mem_cons.mpr ⟨q964, List.forall_mem_cons.mpr ⟨q966, List.forall_mem_cons.mpr ⟨q97, fun _ h => nomatch h⟩⟩⟩⟩) q968 ⟨by decide +kernel, by decide +kernel, by decide +kernel⟩ ⟨by decide, by decide⟩ (rest := []) rfl rfl (Nat.le_of_ble_eq_true rfl) dX1_write_238) (by decide) (fun a14 => ?_)
    refine bp_j_castS (t := 3) rfl q136 dX1_write_243 ?_
    refine bp_j_astore_n (lv' := [(3, .ref a14), (0, .ref a0), (2, .ref a9)]) dX1_write_246 (by decide) rfl ?_
    refine bp_j_aload_n 1 dX1_write_247 rfl ?_
    refine bp_j_getI (t := 0) (k := 0) rfl (by decide) (bp_lk q289) dX1_write_248 (fun _ _ _ => rfl) (fun x15 => ?_)
    refine bp_j_iconst (v := 1) dX1_write_251 (by decide) ?_
    refine bp_j_icmp_ne (tgt := 260) dX1_write_252 (by decide) ?_ ?_
    · refine bp_j_goto (tgt := 228) dX1_write_260 (by decide) ?_
      exact bp_j_sub [1, 2] rfl (hk12)
    refine bp_j_aload_n 1 dX1_write_255 rfl ?_
    refine bp_j_aload_n 0 dX1_write_256 rfl ?_
    refine bp_j_cl_U (bp_ranV (t := 0) (n := 1) (As := [.ref a14]) (cnX1_putData (G := G) a0 a14) rfl (lw_V q992 q994 qs29 q72 q995) ⟨rfl, by decide +kernel, by decide +kernel, by decide +kernel⟩ ⟨by decide, by decide⟩ (rest := []) rfl rfl (Nat.le_of_ble_eq_true rfl) dX1_write_257) (by decide) (fun _ => ?_)
    refine bp_j_goto (tgt := 228) dX1_write_260 (by decide) ?_
    exact bp_j_sub [1, 2] rfl (hk12)
  refine bp_j_aload_n 0 dX1_write_263 rfl ?_
  refine bp_j_getI (t := 0) (k := 5) rfl (by decide) (bp_lk q295) dX1_write_264 (fun _ _ _ => rfl) (fun x11 => ?_)
  exact bp_j_iret rfl dX1_write_267
/-- BilevelPages.clear()V -/
abbrev iX1_clear : bp_MI := (yX1_clear, cX1_clear, 1, none, [], 1, 23)
def PX1_clear (a0 : Nat) : bp_M Unit :=
  bp_getN 0 1 a0 fun a1 =>
  bp_bind (bp_is 6 a1 (PJ2_clear a1)) fun _ =>
  bp_ret ()
set_option maxHeartbeats 4000000 in
set_option maxRecDepth 100000 in
theorem cnX1_clear {G : bp_GT} (a0 : Nat) : bp_Con G iX1_clear (ws_ iX1_clear.1 iX1_clear.2.1 iX1_clear.2.2.1 iX1_clear.2.2.2.1) [.ref a0] (PX1_clear a0) bp_eU := by
  refine bp_con_of [(0, .ref a0)] rfl (by decide) (Nat.le_of_ble_eq_true rfl) rfl ?_
  unfold PX1_clear
  refine bp_j_aload_n 0 dX1_clear_0 rfl ?_
  refine bp_j_getN (t := 0) (k := 1) rfl (by decide) (bp_lk q290) dX1_clear_1 (fun _ _ _ => rfl) (fun a1 => ?_)
  refine bp_j_cl_U (bp_ranV (t := 6) (n := 0) (As := []) (cnJ2_clear (G := G) a1 ) rfl (lw_V q350 q351 q352 q75 q353) ⟨rfl, by decide +kernel, by decide +kernel, by decide +kernel⟩ ⟨by decide, by decide⟩ (rest := []) rfl rfl (Nat.le_of_ble_eq_true rfl) dX1_clear_4) (by decide) (fun _ => ?_)
  exact bp_j_vret rfl dX1_clear_7
/-- BilevelPages.drop()V -/
abbrev iX1_drop : bp_MI := (yX1_drop, cX1_drop, 1, none, [], 0, 0)
def PX1_drop (a0 : Nat) : bp_M Unit :=
  bp_putI 0 7 a0 (0 : Int32) <|
  bp_putI 0 9 a0 (0 : Int32) <|
  bp_ret ()
set_option maxHeartbeats 4000000 in
set_option maxRecDepth 100000 in
theorem cnX1_drop {G : bp_GT} (a0 : Nat) : bp_Con G iX1_drop (ws_ iX1_drop.1 iX1_drop.2.1 iX1_drop.2.2.1 iX1_drop.2.2.2.1) [.ref a0] (PX1_drop a0) bp_eU := by
  refine bp_con_of [(0, .ref a0)] rfl (by decide) (Nat.le_of_ble_eq_true rfl) rfl ?_
  unfold PX1_drop
  refine bp_j_aload_n 0 dX1_drop_0 rfl ?_
  refine bp_j_iconst (v := 0) dX1_drop_1 (by decide) ?_
  refine bp_j_putI (t := 0) (k := 7) rfl (by decide) (by decide) (bp_lk q299) rfl dX1_drop_2 rfl ?_
  refine bp_j_aload_n 0 dX1_drop_5 rfl ?_
  refine bp_j_iconst (v := 0) dX1_drop_6 (by decide) ?_
  refine bp_j_putI (t := 0) (k := 9) rfl (by decide) (by decide) (bp_lk q303) rfl dX1_drop_7 rfl ?_
  exact bp_j_vret rfl dX1_drop_10
/-- BilevelPages.need(ZII)V -/
abbrev iX1_need : bp_MI := (yX1_need, cX1_need, 3, none, [], 4, 110)
def PX1_need (xp0 : Int32) (xp1 : Int32) (xp2 : Int32) : bp_M Unit :=
  bp_if (xp0 = 0) (
  bp_new 5 8 fun a1 =>
  bp_bind (PX7_init a1 xp1 xp2) fun _ =>
  bp_thrW a1) (
  bp_ret ())
set_option maxHeartbeats 4000000 in
set_option maxRecDepth 100000 in
theorem cnX1_need {G : bp_GT} (xp0 : Int32) (xp1 : Int32) (xp2 : Int32) : bp_Con G iX1_need (ws_ iX1_need.1 iX1_need.2.1 iX1_need.2.2.1 iX1_need.2.2.2.1) [.int xp0, .int xp1, .int xp2] (PX1_need xp0 xp1 xp2) bp_eU := by
  refine bp_con_of [(0, .int xp0), (1, .int xp1), (2, .int xp2)] rfl (by decide) (Nat.le_of_ble_eq_true rfl) rfl ?_
  unfold PX1_need
  refine bp_j_iload_n 0 dX1_need_0 rfl ?_
  refine bp_j_if_ne (tgt := 14) dX1_need_1 (by decide) ?_ ?_
  · exact bp_j_vret rfl dX1_need_14
  refine bp_j_new (t := 5) (n := 8) rfl (by decide) rfl (by decide) q349 q381 q98 dX1_need_4 (fun a1 => ?_)
  refine bp_j_dup dX1_need_7 rfl ?_
  refine bp_j_iload_n 1 dX1_need_8 rfl ?_
  refine bp_j_iload_n 2 dX1_need_9 rfl ?_
  refine bp_j_cl_U (bp_ranI (n := 2) (As := [.int xp1, .int xp2]) rfl (cnX7_init (G := G) a1 xp1 xp2) q424 q98 q422 q423 rfl ⟨by decide +kernel, by decide +kernel, by decide +kernel⟩ ⟨by decide, by decide⟩ (rest := [.ref a1]) rfl rfl (Nat.le_of_ble_eq_true rfl) dX1_need_10) (by decide) (fun _ => ?_)
  exact bp_j_athrow dX1_need_13 (by decide)
/-- BilevelPages.told(I)I -/
abbrev iX1_told : bp_MI := (yX1_told, cX1_told, 2, some (Jvm.ClassFile.FieldType.int), [], 1, 20)
def PX1_told (a0 : Nat) (xp1 : Int32) : bp_M Int32 :=
  bp_sw (xp1).toInt [(0, (
  bp_getI 0 0 a0 fun x1 =>
  bp_ret x1)), (1, (
  bp_getN 0 1 a0 fun a2 =>
  bp_bind (bp_is 6 a2 (PJ2_size a2)) fun x3 =>
  bp_ret x3)), (2, (
  bp_getI 0 5 a0 fun x4 =>
  bp_ret x4)), (3, (
  bp_getI 0 7 a0 fun x5 =>
  bp_ret x5)), (4, (
  bp_getI 0 9 a0 fun x6 =>
  bp_ret x6)), (5, (
  bp_getI 0 14 a0 fun x7 =>
  bp_ret x7)), (6, (
  bp_getI 0 13 a0 fun x8 =>
  bp_if (x8 = 0) (
  bp_ret (0 : Int32)) (
  bp_getN 0 11 a0 fun a9 =>
  bp_bind (bp_is 6 a9 (PJ2_size a9)) fun x10 =>
  bp_ret x10))), (7, (
  bp_getI 0 13 a0 fun x11 =>
  bp_if (x11 = 0) (
  bp_ret (0 : Int32)) (
  bp_getI 0 15 a0 fun x12 =>
  bp_ret x12)))] (
  bp_ret (-1 : Int32))
set_option maxHeartbeats 4000000 in
set_option maxRecDepth 100000 in
theorem cnX1_told {G : bp_GT} (a0 : Nat) (xp1 : Int32) : bp_Con G iX1_told (ws_ iX1_told.1 iX1_told.2.1 iX1_told.2.2.1 iX1_told.2.2.2.1) [.ref a0, .int xp1] (PX1_told a0 xp1) bp_eI := by
  refine bp_con_of [(0, .ref a0), (1, .int xp1)] rfl (by decide) (Nat.le_of_ble_eq_true rfl) rfl ?_
  unfold PX1_told
  refine bp_j_iload_n 1 dX1_told_0 rfl ?_
  refine bp_j_tsw (tgt := 132) [48, 55, 65, 72, 79, 86, 93, 114] dX1_told_1 rfl rfl rfl (by decide) (bp_JSc ?_ (bp_JSc ?_ (bp_JSc ?_ (bp_JSc ?_ (bp_JSc ?_ (bp_JSc ?_ (bp_JSc ?_ (bp_JSc ?_ bp_JSn)))))))) ?_
  · refine bp_j_aload_n 0 dX1_told_48 rfl ?_
    refine bp_j_getI (t := 0) (k := 0) rfl (by decide) (bp_lk q289) dX1_told_49 (fun _ _ _ => rfl) (fun x1 => ?_)
    refine bp_j_goto (tgt := 133) dX1_told_52 (by decide) ?_
    exact bp_j_iret rfl dX1_told_133
  · refine bp_j_aload_n 0 dX1_told_55 rfl ?_
    refine bp_j_getN (t := 0) (k := 1) rfl (by decide) (bp_lk q290) dX1_told_56 (fun _ _ _ => rfl) (fun a2 => ?_)
    refine bp_j_cl_I (bp_ranV (t := 6) (n := 0) (As := []) (cnJ2_size (G := G) a2 ) rfl (lw_V q719 q475 q476 q75 q477) ⟨rfl, by decide +kernel, by decide +kernel, by decide +kernel⟩ ⟨by decide, by decide⟩ (rest := []) rfl rfl (Nat.le_of_ble_eq_true rfl) dX1_told_59) (by decide) (fun x3 => ?_)
    refine bp_j_goto (tgt := 133) dX1_told_62 (by decide) ?_
    exact bp_j_iret rfl dX1_told_133
  · refine bp_j_aload_n 0 dX1_told_65 rfl ?_
    refine bp_j_getI (t := 0) (k := 5) rfl (by decide) (bp_lk q295) dX1_told_66 (fun _ _ _ => rfl) (fun x4 => ?_)
    refine bp_j_goto (tgt := 133) dX1_told_69 (by decide) ?_
    exact bp_j_iret rfl dX1_told_133
  · refine bp_j_aload_n 0 dX1_told_72 rfl ?_
    refine bp_j_getI (t := 0) (k := 7) rfl (by decide) (bp_lk q299) dX1_told_73 (fun _ _ _ => rfl) (fun x5 => ?_)
    refine bp_j_goto (tgt := 133) dX1_told_76 (by decide) ?_
    exact bp_j_iret rfl dX1_told_133
  · refine bp_j_aload_n 0 dX1_told_79 rfl ?_
    refine bp_j_getI (t := 0) (k := 9) rfl (by decide) (bp_lk q303) dX1_told_80 (fun _ _ _ => rfl) (fun x6 => ?_)
    refine bp_j_goto (tgt := 133) dX1_told_83 (by decide) ?_
    exact bp_j_iret rfl dX1_told_133
  · refine bp_j_aload_n 0 dX1_told_86 rfl ?_
    refine bp_j_getI (t := 0) (k := 14) rfl (by decide) (bp_lk q310) dX1_told_87 (fun _ _ _ => rfl) (fun x7 => ?_)
    refine bp_j_goto (tgt := 133) dX1_told_90 (by decide) ?_
    exact bp_j_iret rfl dX1_told_133
  · refine bp_j_aload_n 0 dX1_told_93 rfl ?_
    refine bp_j_getI (t := 0) (k := 13) rfl (by decide) (bp_lk q309) dX1_told_94 (fun _ _ _ => rfl) (fun x8 => ?_)
    refine bp_j_if_eq (tgt := 110) dX1_told_97 (by decide) ?_ ?_
    · refine bp_j_iconst (v := 0) dX1_told_110 (by decide) ?_
      refine bp_j_goto (tgt := 133) dX1_told_111 (by decide) ?_
      exact bp_j_iret rfl dX1_told_133
    refine bp_j_aload_n 0 dX1_told_100 rfl ?_
    refine bp_j_getN (t := 0) (k := 11) rfl (by decide) (bp_lk q307) dX1_told_101 (fun _ _ _ => rfl) (fun a9 => ?_)
    refine bp_j_cl_I (bp_ranV (t := 6) (n := 0) (As := []) (cnJ2_size (G := G) a9 ) rfl (lw_V q719 q475 q476 q75 q477) ⟨rfl, by decide +kernel, by decide +kernel, by decide +kernel⟩ ⟨by decide, by decide⟩ (rest := []) rfl rfl (Nat.le_of_ble_eq_true rfl) dX1_told_104) (by decide) (fun x10 => ?_)
    refine bp_j_goto (tgt := 133) dX1_told_107 (by decide) ?_
    exact bp_j_iret rfl dX1_told_133
  · refine bp_j_aload_n 0 dX1_told_114 rfl ?_
    refine bp_j_getI (t := 0) (k := 13) rfl (by decide) (bp_lk q309) dX1_told_115 (fun _ _ _ => rfl) (fun x11 => ?_)
    refine bp_j_if_eq (tgt := 128) dX1_told_118 (by decide) ?_ ?_
    · refine bp_j_iconst (v := 0) dX1_told_128 (by decide) ?_
      refine bp_j_goto (tgt := 133) dX1_told_129 (by decide) ?_
      exact bp_j_iret rfl dX1_told_133
    refine bp_j_aload_n 0 dX1_told_121 rfl ?_
    refine bp_j_getI (t := 0) (k := 15) rfl (by decide) (bp_lk q311) dX1_told_122 (fun _ _ _ => rfl) (fun x12 => ?_)
    refine bp_j_goto (tgt := 133) dX1_told_125 (by decide) ?_
    exact bp_j_iret rfl dX1_told_133
  refine bp_j_iconst (v := -1) dX1_told_132 (by decide) ?_
  exact bp_j_iret rfl dX1_told_133
/-- BilevelPages$Reader.<init>(LBilevelPages;)V -/
abbrev iX2_init : bp_MI := (yX2_init, cX2_init, 2, none, [], 1, 40)
def PX2_init (a0 : Nat) (bp1 : Nat) : bp_M Unit :=
  bp_putR 1 7 a0 (some bp1) <|
  bp_newa 21 (3000 : Int32) fun a1 =>
  bp_putR 1 0 a0 (some a1) <|
  bp_ret ()
set_option maxHeartbeats 4000000 in
set_option maxRecDepth 100000 in
theorem cnX2_init {G : bp_GT} (a0 : Nat) (bp1 : Nat) : bp_Con G iX2_init (ws_ iX2_init.1 iX2_init.2.1 iX2_init.2.2.1 iX2_init.2.2.2.1) [.ref a0, .ref bp1] (PX2_init a0 bp1) bp_eU := by
  refine bp_con_of [(0, .ref a0), (1, .ref bp1)] rfl (by decide) (Nat.le_of_ble_eq_true rfl) rfl ?_
  unfold PX2_init
  refine bp_j_aload_n 0 dX2_init_0 rfl ?_
  refine bp_j_aload_n 1 dX2_init_1 rfl ?_
  refine bp_j_putFR (t := 1) (k := 7) (some bp1) rfl (by decide) (by decide) q154 rfl rfl rfl dX2_init_2 (fun _ _ _ => rfl) ?_
  refine bp_j_aload_n 0 dX2_init_5 rfl ?_
  refine bp_j_objInit q145 q105 q106 dX2_init_6 (by decide) (Nat.le_of_ble_eq_true rfl) ?_
  refine bp_j_aload_n 0 dX2_init_9 rfl ?_
  refine bp_j_sipush (v := 3000) dX2_init_10 (by decide) ?_
  refine bp_j_newarray (aty := .byte) (t := 21) rfl (by decide) q172 (by decide) dX2_init_13 (fun a1 => ?_)
  refine bp_j_putFR (t := 1) (k := 0) (some a1) rfl (by decide) (by decide) q146 rfl rfl rfl dX2_init_15 (fun _ _ _ => rfl) ?_
  exact bp_j_vret rfl dX2_init_18
/-- BilevelPages.<init>(I)V -/
abbrev iX1_init : bp_MI := (yX1_init, cX1_init, 3, none, [], 4, 100)
def BX1_init_162 (a0 : Nat) (k15 : Int32 → bp_M Unit) : Int32 → bp_M Unit :=
  fun x14 =>
  bp_if ((255 : Int32) < x14) (
  bp_ret ()) (
  bp_getN 0 3 a0 fun a16 =>
  bp_new 3 13 fun a17 =>
  bp_bind (PX4_init a17) fun _ =>
  bp_astR 24 a16 x14 a17 <|
  bp_letI (x14 + (1 : Int32)) fun x18 =>
  k15 x18)
def BX1_init_135 (a0 : Nat) (k13 : bp_M Unit) (k20 : Int32 → bp_M Unit) : Int32 → bp_M Unit :=
  fun x19 =>
  bp_if ((30 : Int32) ≤ x19) (
  k13) (
  bp_getN 0 2 a0 fun a21 =>
  bp_new 3 13 fun a22 =>
  bp_bind (PX4_init a22) fun _ =>
  bp_astR 24 a21 x19 a22 <|
  bp_letI (x19 + (1 : Int32)) fun x23 =>
  k20 x23)
def BX1_init_108 (a0 : Nat) (k12 : bp_M Unit) (k25 : Int32 → bp_M Unit) : Int32 → bp_M Unit :=
  fun x24 =>
  bp_if ((10 : Int32) ≤ x24) (
  k12) (
  bp_getN 0 10 a0 fun a26 =>
  bp_new 2 7 fun a27 =>
  bp_bind (PX3_init a27) fun _ =>
  bp_astR 25 a26 x24 a27 <|
  bp_letI (x24 + (1 : Int32)) fun x28 =>
  k25 x28)
def PX1_init (a0 : Nat) (xp1 : Int32) : bp_M Unit :=
  bp_new 6 3 fun a1 =>
  bp_bind (PJ2_init a1) fun _ =>
  bp_putR 0 1 a0 (some a1) <|
  bp_newa 24 (30 : Int32) fun a2 =>
  bp_putR 0 2 a0 (some a2) <|
  bp_newa 24 (256 : Int32) fun a3 =>
  bp_putR 0 3 a0 (some a3) <|
  bp_newa 21 (6000 : Int32) fun a4 =>
  bp_putR 0 4 a0 (some a4) <|
  bp_newa 21 (3000 : Int32) fun a5 =>
  bp_putR 0 6 a0 (some a5) <|
  bp_newa 21 (3000 : Int32) fun a6 =>
  bp_putR 0 8 a0 (some a6) <|
  bp_newa 25 (10 : Int32) fun a7 =>
  bp_putR 0 10 a0 (some a7) <|
  bp_new 6 3 fun a8 =>
  bp_bind (PJ2_init a8) fun _ =>
  bp_putR 0 11 a0 (some a8) <|
  bp_new 1 8 fun a9 =>
  bp_bind (PX2_init a9 a0) fun _ =>
  bp_putR 0 12 a0 (some a9) <|
  bp_letI (if xp1 < (2 : Int32) then xp1 else (2 : Int32)) fun x10 =>
  bp_letI (if (0 : Int32) < x10 then x10 else (0 : Int32)) fun x11 =>
  bp_putI 0 0 a0 x11 <|
  bp_jn (fun (k12 : bp_M Unit) =>
  bp_loop (fun _ => bp_no) (BX1_init_108 a0 k12) (fun k => k (0 : Int32))) (bp_jn (fun (k13 : bp_M Unit) =>
  bp_loop (fun _ => bp_no) (BX1_init_135 a0 k13) (fun k => k (0 : Int32))) (bp_loop (fun _ => bp_no) (BX1_init_162 a0) (fun k => k (0 : Int32))))
set_option maxHeartbeats 4000000 in
set_option maxRecDepth 100000 in
theorem cnX1_init {G : bp_GT} (a0 : Nat) (xp1 : Int32) : bp_Con G iX1_init (ws_ iX1_init.1 iX1_init.2.1 iX1_init.2.2.1 iX1_init.2.2.2.1) [.ref a0, .int xp1] (PX1_init a0 xp1) bp_eU := by
  refine bp_con_of [(0, .ref a0), (1, .int xp1)] rfl (by decide) (Nat.le_of_ble_eq_true rfl) rfl ?_
  unfold PX1_init
  refine bp_j_aload_n 0 dX1_init_0 rfl ?_
  refine bp_j_objInit q104 q105 q106 dX1_init_1 (by decide) (Nat.le_of_ble_eq_true rfl) ?_
  refine bp_j_aload_n 0 dX1_init_4 rfl ?_
  refine bp_j_new (t := 6) (n := 3) rfl (by decide) rfl (by decide) q107 q108 q75 dX1_init_5 (fun a1 => ?_)
  refine bp_j_dup dX1_init_8 rfl ?_
  refine bp_j_cl_U (bp_ranI (n := 0) (As := []) rfl (cnJ2_init (G := G) a1 ) q111 q75 q109 q110 rfl ⟨by decide +kernel, by decide +kernel, by decide +kernel⟩ ⟨by decide, by decide⟩ (rest := [.ref a1, .ref a0]) rfl rfl (Nat.le_of_ble_eq_true rfl) dX1_init_9) (by decide) (fun _ => ?_)
  refine bp_j_putFR (t := 0) (k := 1) (some a1) rfl (by decide) (by decide) q290 rfl rfl rfl dX1_init_12 (fun _ _ _ => rfl) ?_
  refine bp_j_aload_n 0 dX1_init_15 rfl ?_
  refine bp_j_bipush (v := 30) dX1_init_16 (by decide) ?_
  refine bp_j_anewarray (t := 24) rfl (by decide) (by decide) q136 dX1_init_18 (fun a2 => ?_)
  refine bp_j_putFR (t := 0) (k := 2) (some a2) rfl (by decide) (by decide) q291 rfl rfl rfl dX1_init_21 (fun _ _ _ => rfl) ?_
  refine bp_j_aload_n 0 dX1_init_24 rfl ?_
  refine bp_j_sipush (v := 256) dX1_init_25 (by decide) ?_
  refine bp_j_anewarray (t := 24) rfl (by decide) (by decide) q136 dX1_init_28 (fun a3 => ?_)
  refine bp_j_putFR (t := 0) (k := 3) (some a3) rfl (by decide) (by decide) q292 rfl rfl rfl dX1_init_31 (fun _ _ _ => rfl) ?_
  refine bp_j_aload_n 0 dX1_init_34 rfl ?_
  refine bp_j_sipush (v := 6000) dX1_init_35 (by decide) ?_
  refine bp_j_newarray (aty := .byte) (t := 21) rfl (by decide) q172 (by decide) dX1_init_38 (fun a4 => ?_)
  refine bp_j_putFR (t := 0) (k := 4) (some a4) rfl (by decide) (by decide) q294 rfl rfl rfl dX1_init_40 (fun _ _ _ => rfl) ?_
  refine bp_j_aload_n 0 dX1_init_43 rfl ?_
  refine bp_j_sipush (v := 3000) dX1_init_44 (by decide) ?_
  refine bp_j_newarray (aty := .byte) (t := 21) rfl (by decide) q172 (by decide) dX1_init_47 (fun a5 => ?_)
  refine bp_j_putFR (t := 0) (k := 6) (some a5) rfl (by decide) (by decide) q297 rfl rfl rfl dX1_init_49 (fun _ _ _ => rfl) ?_
  refine bp_j_aload_n 0 dX1_init_52 rfl ?_
  refine bp_j_sipush (v := 3000) dX1_init_53 (by decide) ?_
  refine bp_j_newarray (aty := .byte) (t := 21) rfl (by decide) q172 (by decide) dX1_init_56 (fun a6 => ?_)
  refine bp_j_putFR (t := 0) (k := 8) (some a6) rfl (by decide) (by decide) q301 rfl rfl rfl dX1_init_58 (fun _ _ _ => rfl) ?_
  refine bp_j_aload_n 0 dX1_init_61 rfl ?_
  refine bp_j_bipush (v := 10) dX1_init_62 (by decide) ?_
  refine bp_j_anewarray (t := 25) rfl (by decide) (by decide) q138 dX1_init_64 (fun a7 => ?_)
  refine bp_j_putFR (t := 0) (k := 10) (some a7) rfl (by decide) (by decide) q305 rfl rfl rfl dX1_init_67 (fun _ _ _ => rfl) ?_
  refine bp_j_aload_n 0 dX1_init_70 rfl ?_
  refine bp_j_new (t := 6) (n := 3) rfl (by decide) rfl (by decide) q107 q108 q75 dX1_init_71 (fun a8 => ?_)
  refine bp_j_dup dX1_init_74 rfl ?_
  refine bp_j_cl_U (bp_ranI (n := 0) (As := []) rfl (cnJ2_init (G := G) a8 ) q111 q75 q109 q110 rfl ⟨by decide +kernel, by decide +kernel, by decide +kernel⟩ ⟨by decide, by decide⟩ (rest := [.ref a8, .ref a0]) rfl rfl (Nat.le_of_ble_eq_true rfl) dX1_init_75) (by decide) (fun _ => ?_)
  refine bp_j_putFR (t := 0) (k := 11) (some a8) rfl (by decide) (by decide) q307 rfl rfl rfl dX1_init_78 (fun _ _ _ => rfl) ?_
  refine bp_j_aload_n 0 dX1_init_81 rfl ?_
  refine bp_j_new (t := 1) (n := 8) rfl (by decide) rfl (by decide) q140 q141 q76 dX1_init_82 (fun a9 => ?_)
  refine bp_j_dup dX1_init_85 rfl ?_
  refine bp_j_aload_n 0 dX1_init_86 rfl ?_
  refine bp_j_cl_U (bp_ranIN (n := 1) (As := [.ref a0]) rfl (cnX2_init (G := G) a9 a0) q144 q76 q142 q143 rfl ⟨by decide +kernel, by decide +kernel, by decide +kernel⟩ ⟨by decide, by decide⟩ (rest := [.ref a9, .ref a0]) rfl rfl (Nat.le_of_ble_eq_true rfl) dX1_init_87) (by decide) (fun _ => ?_)
  refine bp_j_putFR (t := 0) (k := 12) (some a9) rfl (by decide) (by decide) q308 rfl rfl rfl dX1_init_90 (fun _ _ _ => rfl) ?_
  refine bp_j_aload_n 0 dX1_init_93 rfl ?_
  refine bp_j_iconst (v := 0) dX1_init_94 (by decide) ?_
  refine bp_j_iconst (v := 2) dX1_init_95 (by decide) ?_
  refine bp_j_iload_n 1 dX1_init_96 rfl ?_
  refine bp_j_mmin q173 q174 q77 q175 (by decide) (Nat.le_of_ble_eq_true rfl) dX1_init_97 (fun x10 => ?_)
  refine bp_j_mmax q176 q177 q77 q178 (by decide) (Nat.le_of_ble_eq_true rfl) dX1_init_100 (fun x11 => ?_)
  refine bp_j_putFI (t := 0) (k := 0) rfl (by decide) (by decide) q289 rfl rfl rfl dX1_init_103 rfl ?_
  refine bp_j_iconst (v := 0) dX1_init_106 (by decide) ?_
  refine bp_j_istore_n (lv' := [(2, .int (0 : Int32)), (0, .ref a0), (1, .int xp1)]) dX1_init_107 (by decide) rfl ?_
  refine bp_j_jm (fun k => bp_J G iX1_init (bp_Qn G bp_eU) (k) 133 [(0, .ref a0)] []) (fun k12 hk12 => ?_) ?_
  · refine bp_j_loop (fun k => ∀ (x24 : Int32), bp_J G iX1_init (bp_Qn G bp_eU) (k x24) 108 [(0, .ref a0), (2, .int x24)] []) (fun _ => bp_j_no) (fun k25 hk25 x24 => ?_) (fun k h => bp_j_sub [1, 0] rfl (h (0 : Int32)))
    unfold BX1_init_108
    refine bp_j_iload_n 1 dX1_init_108 rfl ?_
    refine bp_j_bipush (v := 10) dX1_init_109 (by decide) ?_
    refine bp_j_icmp_ge (tgt := 133) dX1_init_111 (by decide) ?_ ?_
    · exact bp_j_sub [0] rfl (hk12)
    refine bp_j_aload_n 0 dX1_init_114 rfl ?_
    refine bp_j_getN (t := 0) (k := 10) rfl (by decide) (bp_lk q305) dX1_init_115 (fun _ _ _ => rfl) (fun a26 => ?_)
    refine bp_j_iload_n 1 dX1_init_118 rfl ?_
    refine bp_j_new (t := 2) (n := 7) rfl (by decide) rfl (by decide) q138 q179 q78 dX1_init_119 (fun a27 => ?_)
    refine bp_j_dup dX1_init_122 rfl ?_
    refine bp_j_cl_U (bp_ranIN (n := 0) (As := []) rfl (cnX3_init (G := G) a27 ) q182 q78 q180 q181 rfl ⟨by decide +kernel, by decide +kernel, by decide +kernel⟩ ⟨by decide, by decide⟩ (rest := [.ref a27, .int x24, .ref a26]) rfl rfl (Nat.le_of_ble_eq_true rfl) dX1_init_123) (by decide) (fun _ => ?_)
    refine bp_j_aastore (t := 25) rfl rfl dX1_init_126 ?_
    refine bp_j_iincL (lv' := fun x28 => [(2, .int x28), (0, .ref a0)]) 1 dX1_init_127 rfl (by decide) (by decide) (fun _ => rfl) (fun x28 => ?_)
    refine bp_j_goto (tgt := 108) dX1_init_130 (by decide) ?_
    exact bp_j_sub [1, 0] rfl (hk25 x28)
  refine bp_j_iconst (v := 0) dX1_init_133 (by decide) ?_
  refine bp_j_istore_n (lv' := [(2, .int (0 : Int32)), (0, .ref a0)]) dX1_init_134 (by decide) rfl ?_
  refine bp_j_jm (fun k => bp_J G iX1_init (bp_Qn G bp_eU) (k) 160 [(0, .ref a0)] []) (fun k13 hk13 => ?_) ?_
  · refine bp_j_loop (fun k => ∀ (x19 : Int32), bp_J G iX1_init (bp_Qn G bp_eU) (k x19) 135 [(0, .ref a0), (2, .int x19)] []) (fun _ => bp_j_no) (fun k20 hk20 x19 => ?_) (fun k h => bp_j_sub [1, 0] rfl (h (0 : Int32)))
    unfold BX1_init_135
    refine bp_j_iload_n 1 dX1_init_135 rfl ?_
    refine bp_j_bipush (v := 30) dX1_init_136 (by decide) ?_
    refine bp_j_icmp_ge (tgt := 160) dX1_init_138 (by decide) ?_ ?_
    · exact bp_j_sub [0] rfl (hk13)
    refine bp_j_aload_n 0 dX1_init_141 rfl ?_
    refine bp_j_getN (t := 0) (k := 2) rfl (by decide) (bp_lk q291) dX1_init_142 (fun _ _ _ => rfl) (fun a21 => ?_)
    refine bp_j_iload_n 1 dX1_init_145 rfl ?_
    refine bp_j_new (t := 3) (n := 13) rfl (by decide) rfl (by decide) q136 q216 q79 dX1_init_146 (fun a22 => ?_)
    refine bp_j_dup dX1_init_149 rfl ?_
    refine bp_j_cl_U (bp_ranIN (n := 0) (As := []) rfl (cnX4_init (G := G) a22 ) q219 q79 q217 q218 rfl ⟨by decide +kernel, by decide +kernel, by decide +kernel⟩ ⟨by decide, by decide⟩ (rest := [.ref a22, .int x19, .ref a21]) rfl rfl (Nat.le_of_ble_eq_true rfl) dX1_init_150) (by decide) (fun _ => ?_)
    refine bp_j_aastore (t := 24) rfl rfl dX1_init_153 ?_
    refine bp_j_iincL (lv' := fun x23 => [(2, .int x23), (0, .ref a0)]) 1 dX1_init_154 rfl (by decide) (by decide) (fun _ => rfl) (fun x23 => ?_)
    refine bp_j_goto (tgt := 135) dX1_init_157 (by decide) ?_
    exact bp_j_sub [1, 0] rfl (hk20 x23)
  refine bp_j_iconst (v := 0) dX1_init_160 (by decide) ?_
  refine bp_j_istore_n (lv' := [(2, .int (0 : Int32)), (0, .ref a0)]) dX1_init_161 (by decide) rfl ?_
  refine bp_j_loop (fun k => ∀ (x14 : Int32), bp_J G iX1_init (bp_Qn G bp_eU) (k x14) 162 [(0, .ref a0), (2, .int x14)] []) (fun _ => bp_j_no) (fun k15 hk15 x14 => ?_) (fun k h => bp_j_sub [1, 0] rfl (h (0 : Int32)))
  unfold BX1_init_162
  refine bp_j_iload_n 1 dX1_init_162 rfl ?_
  refine bp_j_sipush (v := 255) dX1_init_163 (by decide) ?_
  refine bp_j_icmp_gt (tgt := 188) dX1_init_166 (by decide) ?_ ?_
  · exact bp_j_vret rfl dX1_init_188
  refine bp_j_aload_n 0 dX1_init_169 rfl ?_
  refine bp_j_getN (t := 0) (k := 3) rfl (by decide) (bp_lk q292) dX1_init_170 (fun _ _ _ => rfl) (fun a16 => ?_)
  refine bp_j_iload_n 1 dX1_init_173 rfl ?_
  refine bp_j_new (t := 3) (n := 13) rfl (by decide) rfl (by decide) q136 q216 q79 dX1_init_174 (fun a17 => ?_)
  refine bp_j_dup dX1_init_177 rfl ?_
  refine bp_j_cl_U (bp_ranIN (n := 0) (As := []) rfl (cnX4_init (G := G) a17 ) q219 q79 q217 q218 rfl ⟨by decide +kernel, by decide +kernel, by decide +kernel⟩ ⟨by decide, by decide⟩ (rest := [.ref a17, .int x14, .ref a16]) rfl rfl (Nat.le_of_ble_eq_true rfl) dX1_init_178) (by decide) (fun _ => ?_)
  refine bp_j_aastore (t := 24) rfl rfl dX1_init_181 ?_
  refine bp_j_iincL (lv' := fun x18 => [(2, .int x18), (0, .ref a0)]) 1 dX1_init_182 rfl (by decide) (by decide) (fun _ => rfl) (fun x18 => ?_)
  refine bp_j_goto (tgt := 162) dX1_init_185 (by decide) ?_
  exact bp_j_sub [1, 0] rfl (hk15 x18)
/-- BilevelPages$Reader.begin()V -/
abbrev iX2_begin : bp_MI := (yX2_begin, cX2_begin, 5, none, [], 1, 80)
def BX2_begin_109 (a18 : Nat) (x19 : Int32) (k21 : Int32 → bp_M Unit) : Int32 → bp_M Unit :=
  fun x20 =>
  bp_if (x19 ≤ x20) (
  bp_ret ()) (
  bp_aldN 25 a18 x20 fun a22 =>
  bp_putZ 2 6 a22 (0 : Int32) <|
  bp_letI (x20 + (1 : Int32)) fun x23 =>
  k21 x23)
def PX2_begin (a0 : Nat) : bp_M Unit :=
  bp_putI 1 2 a0 (0 : Int32) <|
  bp_putI 1 3 a0 (-1 : Int32) <|
  bp_putI 1 4 a0 (-1 : Int32) <|
  bp_putI 1 5 a0 (0 : Int32) <|
  bp_putZ 1 6 a0 (0 : Int32) <|
  bp_getN 1 7 a0 fun a1 =>
  bp_getN 0 8 a1 fun a2 =>
  bp_getN 1 0 a0 fun a3 =>
  bp_getN 1 7 a0 fun a4 =>
  bp_getI 0 9 a4 fun x5 =>
  bp_copyI 21 a2 (0 : Int32) a3 (0 : Int32) x5 <|
  bp_getN 1 7 a0 fun a6 =>
  bp_getN 0 6 a6 fun a7 =>
  bp_getN 1 0 a0 fun a8 =>
  bp_getN 1 7 a0 fun a9 =>
  bp_getI 0 9 a9 fun x10 =>
  bp_getN 1 7 a0 fun a11 =>
  bp_getI 0 7 a11 fun x12 =>
  bp_copyI 21 a7 (0 : Int32) a8 x10 x12 <|
  bp_getN 1 7 a0 fun a13 =>
  bp_getI 0 9 a13 fun x14 =>
  bp_getN 1 7 a0 fun a15 =>
  bp_getI 0 7 a15 fun x16 =>
  bp_putI 1 1 a0 (x14 + x16) <|
  bp_getN 1 7 a0 fun a17 =>
  bp_getN 0 10 a17 fun a18 =>
  bp_alen 25 a18 fun x19 =>
  bp_loop (fun _ => bp_no) (BX2_begin_109 a18 x19) (fun k => k (0 : Int32))
set_option maxHeartbeats 4000000 in
set_option maxRecDepth 100000 in
theorem cnX2_begin {G : bp_GT} (a0 : Nat) : bp_Con G iX2_begin (ws_ iX2_begin.1 iX2_begin.2.1 iX2_begin.2.2.1 iX2_begin.2.2.2.1) [.ref a0] (PX2_begin a0) bp_eU := by
  refine bp_con_of [(0, .ref a0)] rfl (by decide) (Nat.le_of_ble_eq_true rfl) rfl ?_
  unfold PX2_begin
  refine bp_j_aload_n 0 dX2_begin_0 rfl ?_
  refine bp_j_iconst (v := 0) dX2_begin_1 (by decide) ?_
  refine bp_j_putI (t := 1) (k := 2) rfl (by decide) (by decide) (bp_lk q148) rfl dX2_begin_2 rfl ?_
  refine bp_j_aload_n 0 dX2_begin_5 rfl ?_
  refine bp_j_iconst (v := -1) dX2_begin_6 (by decide) ?_
  refine bp_j_putI (t := 1) (k := 3) rfl (by decide) (by decide) (bp_lk q149) rfl dX2_begin_7 rfl ?_
  refine bp_j_aload_n 0 dX2_begin_10 rfl ?_
  refine bp_j_iconst (v := -1) dX2_begin_11 (by decide) ?_
  refine bp_j_putI (t := 1) (k := 4) rfl (by decide) (by decide) (bp_lk q150) rfl dX2_begin_12 rfl ?_
  refine bp_j_aload_n 0 dX2_begin_15 rfl ?_
  refine bp_j_iconst (v := 0) dX2_begin_16 (by decide) ?_
  refine bp_j_putI (t := 1) (k := 5) rfl (by decide) (by decide) (bp_lk q151) rfl dX2_begin_17 rfl ?_
  refine bp_j_aload_n 0 dX2_begin_20 rfl ?_
  refine bp_j_iconst (v := 0) dX2_begin_21 (by decide) ?_
  refine bp_j_putZ (t := 1) (k := 6) rfl (by decide) (by decide) (bp_lk q153) rfl dX2_begin_22 rfl ?_
  refine bp_j_aload_n 0 dX2_begin_25 rfl ?_
  refine bp_j_getN (t := 1) (k := 7) rfl (by decide) (bp_lk q154) dX2_begin_26 (fun _ _ _ => rfl) (fun a1 => ?_)
  refine bp_j_getN (t := 0) (k := 8) rfl (by decide) (bp_lkN q300) dX2_begin_29 (fun _ _ _ => rfl) (fun a2 => ?_)
  refine bp_j_iconst (v := 0) dX2_begin_32 (by decide) ?_
  refine bp_j_aload_n 0 dX2_begin_33 rfl ?_
  refine bp_j_getN (t := 1) (k := 0) rfl (by decide) (bp_lk q146) dX2_begin_34 (fun _ _ _ => rfl) (fun a3 => ?_)
  refine bp_j_iconst (v := 0) dX2_begin_37 (by decide) ?_
  refine bp_j_aload_n 0 dX2_begin_38 rfl ?_
  refine bp_j_getN (t := 1) (k := 7) rfl (by decide) (bp_lk q154) dX2_begin_39 (fun _ _ _ => rfl) (fun a4 => ?_)
  refine bp_j_getI (t := 0) (k := 9) rfl (by decide) (bp_lkN q302) dX2_begin_42 (fun _ _ _ => rfl) (fun x5 => ?_)
  refine bp_j_copyB q358 q360 q359 q90 (by decide) (Nat.le_of_ble_eq_true rfl) dX2_begin_45 ?_
  refine bp_j_aload_n 0 dX2_begin_48 rfl ?_
  refine bp_j_getN (t := 1) (k := 7) rfl (by decide) (bp_lk q154) dX2_begin_49 (fun _ _ _ => rfl) (fun a6 => ?_)
  refine bp_j_getN (t := 0) (k := 6) rfl (by decide) (bp_lkN q296) dX2_begin_52 (fun _ _ _ => rfl) (fun a7 => ?_)
  refine bp_j_iconst (v := 0) dX2_begin_55 (by decide) ?_
  refine bp_j_aload_n 0 dX2_begin_56 rfl ?_
  refine bp_j_getN (t := 1) (k := 0) rfl (by decide) (bp_lk q146) dX2_begin_57 (fun _ _ _ => rfl) (fun a8 => ?_)
  refine bp_j_aload_n 0 dX2_begin_60 rfl ?_
  refine bp_j_getN (t := 1) (k := 7) rfl (by decide) (bp_lk q154) dX2_begin_61 (fun _ _ _ => rfl) (fun a9 => ?_)
  refine bp_j_getI (t := 0) (k := 9) rfl (by decide) (bp_lkN q302) dX2_begin_64 (fun _ _ _ => rfl) (fun x10 => ?_)
  refine bp_j_aload_n 0 dX2_begin_67 rfl ?_
  refine bp_j_getN (t := 1) (k := 7) rfl (by decide) (bp_lk q154) dX2_begin_68 (fun _ _ _ => rfl) (fun a11 => ?_)
  refine bp_j_getI (t := 0) (k := 7) rfl (by decide) (bp_lkN q298) dX2_begin_71 (fun _ _ _ => rfl) (fun x12 => ?_)
  refine bp_j_copyB q358 q360 q359 q90 (by decide) (Nat.le_of_ble_eq_true rfl) dX2_begin_74 ?_
  refine bp_j_aload_n 0 dX2_begin_77 rfl ?_
  refine bp_j_aload_n 0 dX2_begin_78 rfl ?_
  refine bp_j_getN (t := 1) (k := 7) rfl (by decide) (bp_lk q154) dX2_begin_79 (fun _ _ _ => rfl) (fun a13 => ?_)
  refine bp_j_getI (t := 0) (k := 9) rfl (by decide) (bp_lkN q302) dX2_begin_82 (fun _ _ _ => rfl) (fun x14 => ?_)
  refine bp_j_aload_n 0 dX2_begin_85 rfl ?_
  refine bp_j_getN (t := 1) (k := 7) rfl (by decide) (bp_lk q154) dX2_begin_86 (fun _ _ _ => rfl) (fun a15 => ?_)
  refine bp_j_getI (t := 0) (k := 7) rfl (by decide) (bp_lkN q298) dX2_begin_89 (fun _ _ _ => rfl) (fun x16 => ?_)
  refine bp_j_iadd dX2_begin_92 ?_
  refine bp_j_putI (t := 1) (k := 1) rfl (by decide) (by decide) (bp_lk q147) rfl dX2_begin_93 rfl ?_
  refine bp_j_aload_n 0 dX2_begin_96 rfl ?_
  refine bp_j_getN (t := 1) (k := 7) rfl (by decide) (bp_lk q154) dX2_begin_97 (fun _ _ _ => rfl) (fun a17 => ?_)
  refine bp_j_getN (t := 0) (k := 10) rfl (by decide) (bp_lkN q304) dX2_begin_100 (fun _ _ _ => rfl) (fun a18 => ?_)
  refine bp_j_astore_n (lv' := [(1, .ref a18), (0, .ref a0)]) dX2_begin_103 (by decide) rfl ?_
  refine bp_j_aload_n 0 dX2_begin_104 rfl ?_
  refine bp_j_alen (t := 25) rfl dX2_begin_105 (fun x19 => ?_)
  refine bp_j_istore_n (lv' := [(2, .int x19), (1, .ref a18), (0, .ref a0)]) dX2_begin_106 (by decide) rfl ?_
  refine bp_j_iconst (v := 0) dX2_begin_107 (by decide) ?_
  refine bp_j_istore_n (lv' := [(3, .int (0 : Int32)), (2, .int x19), (1, .ref a18), (0, .ref a0)]) dX2_begin_108 (by decide) rfl ?_
  refine bp_j_loop (fun k => ∀ (x20 : Int32), bp_J G iX2_begin (bp_Qn G bp_eU) (k x20) 109 [(1, .ref a18), (2, .int x19), (3, .int x20)] []) (fun _ => bp_j_no) (fun k21 hk21 x20 => ?_) (fun k h => bp_j_sub [2, 1, 0] rfl (h (0 : Int32)))
  unfold BX2_begin_109
  refine bp_j_iload_n 2 dX2_begin_109 rfl ?_
  refine bp_j_iload_n 1 dX2_begin_110 rfl ?_
  refine bp_j_icmp_ge (tgt := 131) dX2_begin_111 (by decide) ?_ ?_
  · exact bp_j_vret rfl dX2_begin_131
  refine bp_j_aload_n 0 dX2_begin_114 rfl ?_
  refine bp_j_iload_n 2 dX2_begin_115 rfl ?_
  refine bp_j_aaloadN (t := 25) rfl dX2_begin_116 (fun a22 => ?_)
  refine bp_j_astore (lv' := [(4, .ref a22), (1, .ref a18), (2, .int x19), (3, .int x20)]) dX2_begin_117 (by decide) rfl ?_
  refine bp_j_aload 0 dX2_begin_119 rfl ?_
  refine bp_j_iconst (v := 0) dX2_begin_121 (by decide) ?_
  refine bp_j_putZ (t := 2) (k := 6) rfl (by decide) (by decide) (bp_lkN q198) rfl dX2_begin_122 rfl ?_
  refine bp_j_iincL (lv' := fun x23 => [(3, .int x23), (4, .ref a22), (1, .ref a18), (2, .int x19)]) 3 dX2_begin_125 rfl (by decide) (by decide) (fun _ => rfl) (fun x23 => ?_)
  refine bp_j_goto (tgt := 109) dX2_begin_128 (by decide) ?_
  exact bp_j_sub [2, 3, 0] rfl (hk21 x23)
/-- BilevelPages$Reader.byteAt(I)I -/
abbrev iX2_byteAt : bp_MI := (yX2_byteAt, cX2_byteAt, 2, some (Jvm.ClassFile.FieldType.int), [], 0, 0)
def PX2_byteAt (a0 : Nat) (xp1 : Int32) : bp_M Int32 :=
  bp_getN 1 0 a0 fun a1 =>
  bp_aldI 21 a1 xp1 fun x2 =>
  bp_ret (x2 &&& (255 : Int32))
set_option maxHeartbeats 4000000 in
set_option maxRecDepth 100000 in
theorem cnX2_byteAt {G : bp_GT} (a0 : Nat) (xp1 : Int32) : bp_Con G iX2_byteAt (ws_ iX2_byteAt.1 iX2_byteAt.2.1 iX2_byteAt.2.2.1 iX2_byteAt.2.2.2.1) [.ref a0, .int xp1] (PX2_byteAt a0 xp1) bp_eI := by
  refine bp_con_of [(0, .ref a0), (1, .int xp1)] rfl (by decide) (Nat.le_of_ble_eq_true rfl) rfl ?_
  unfold PX2_byteAt
  refine bp_j_aload_n 0 dX2_byteAt_0 rfl ?_
  refine bp_j_getN (t := 1) (k := 0) rfl (by decide) (bp_lk q146) dX2_byteAt_1 (fun _ _ _ => rfl) (fun a1 => ?_)
  refine bp_j_iload_n 1 dX2_byteAt_4 rfl ?_
  refine bp_j_baloadB dX2_byteAt_5 (fun x2 => ?_)
  refine bp_j_sipush (v := 255) dX2_byteAt_6 (by decide) ?_
  refine bp_j_iand dX2_byteAt_9 ?_
  exact bp_j_iret rfl dX2_byteAt_10
/-- BilevelPages$Reader.needBytes(J)V -/
abbrev iX2_needBytes : bp_MI := (yX2_needBytes, cX2_needBytes, 3, none, [], 5, 132)
def PX2_needBytes (a0 : Nat) (lp1 : Int64) : bp_M Unit :=
  bp_getI 1 2 a0 fun x1 =>
  bp_getI 1 1 a0 fun x2 =>
  bp_jn (fun (k4 : Int32 → bp_M Unit) =>
  bp_if (0 < (lg_cmp (x1.toInt64 + lp1) x2.toInt64)) (
  k4 (0 : Int32)) (
  k4 (1 : Int32))) (fun (x3 : Int32) =>
  bp_getI 1 1 a0 fun x5 =>
  bp_bind (PX1_need x3 (1 : Int32) x5) fun _ =>
  bp_ret ())
set_option maxHeartbeats 4000000 in
set_option maxRecDepth 100000 in
theorem cnX2_needBytes {G : bp_GT} (a0 : Nat) (lp1 : Int64) : bp_Con G iX2_needBytes (ws_ iX2_needBytes.1 iX2_needBytes.2.1 iX2_needBytes.2.2.1 iX2_needBytes.2.2.2.1) [.ref a0, .long lp1] (PX2_needBytes a0 lp1) bp_eU := by
  refine bp_con_of [(0, .ref a0), (1, .long lp1)] rfl (by decide) (Nat.le_of_ble_eq_true rfl) rfl ?_
  unfold PX2_needBytes
  refine bp_j_aload_n 0 dX2_needBytes_0 rfl ?_
  refine bp_j_getI (t := 1) (k := 2) rfl (by decide) (bp_lk q148) dX2_needBytes_1 (fun _ _ _ => rfl) (fun x1 => ?_)
  refine bp_j_i2l dX2_needBytes_4 ?_
  refine bp_j_lload_n 1 dX2_needBytes_5 rfl ?_
  refine bp_j_ladd dX2_needBytes_6 ?_
  refine bp_j_aload_n 0 dX2_needBytes_7 rfl ?_
  refine bp_j_getI (t := 1) (k := 1) rfl (by decide) (bp_lk q147) dX2_needBytes_8 (fun _ _ _ => rfl) (fun x2 => ?_)
  refine bp_j_i2l dX2_needBytes_11 ?_
  refine bp_j_lcmp dX2_needBytes_12 ?_
  refine bp_j_jm (fun k => ∀ (x3 : Int32), bp_J G iX2_needBytes (bp_Qn G bp_eU) (k x3) 21 [(0, .ref a0)] [.int x3]) (fun k4 hk4 => ?_) (fun x3 => ?_)
  · refine bp_j_if_gt (tgt := 20) dX2_needBytes_13 (by decide) ?_ ?_
    · refine bp_j_iconst (v := 0) dX2_needBytes_20 (by decide) ?_
      exact bp_j_sub [0] rfl (hk4 (0 : Int32))
    refine bp_j_iconst (v := 1) dX2_needBytes_16 (by decide) ?_
    refine bp_j_goto (tgt := 21) dX2_needBytes_17 (by decide) ?_
    exact bp_j_sub [0] rfl (hk4 (1 : Int32))
  refine bp_j_iconst (v := 1) dX2_needBytes_21 (by decide) ?_
  refine bp_j_aload_n 0 dX2_needBytes_22 rfl ?_
  refine bp_j_getI (t := 1) (k := 1) rfl (by decide) (bp_lk q147) dX2_needBytes_23 (fun _ _ _ => rfl) (fun x5 => ?_)
  refine bp_j_cl_U (bp_ranSN (n := 3) (As := [.int x3, .int (1 : Int32), .int x5]) (cnX1_need (G := G) x3 (1 : Int32) x5) q380 q72 q378 q379 ⟨by decide +kernel, by decide +kernel, by decide +kernel⟩ ⟨by decide, by decide⟩ (rest := []) rfl rfl (Nat.le_of_ble_eq_true rfl) dX2_needBytes_26) (by decide) (fun _ => ?_)
  exact bp_j_vret rfl dX2_needBytes_29
/-- BilevelPages$Reader.find(II)LBilevelPages$Segment; -/
abbrev iX2_find : bp_MI := (yX2_find, cX2_find, 4, some ((Jvm.ClassFile.FieldType.object "BilevelPages$Segment")), [], 3, 64)
def BX2_find_2 (a0 : Nat) (xp1 : Int32) (xp2 : Int32) (k2 : Int32 → bp_M (Option Nat)) (k7 : Int32 → bp_M (Option Nat)) : Int32 → bp_M (Option Nat) :=
  fun x6 =>
  bp_if (xp2 ≤ x6) (
  bp_ret none) (
  bp_getN 1 7 a0 fun a8 =>
  bp_getN 0 11 a8 fun a9 =>
  bp_bind (bp_is 6 a9 (PJ2_get a9 x6)) fun a10 =>
  bp_is 3 a10 <|
  bp_getI 3 2 a10 fun x11 =>
  bp_if (x11 = xp1) (
  k2 x6) (
  bp_letI (x6 + (1 : Int32)) fun x12 =>
  k7 x12))
def PX2_find (a0 : Nat) (xp1 : Int32) (xp2 : Int32) : bp_M (Option Nat) :=
  bp_jn (fun (k2 : Int32 → bp_M (Option Nat)) =>
  bp_loop (fun _ => bp_no) (BX2_find_2 a0 xp1 xp2 k2) (fun k => k (0 : Int32))) (fun (x1 : Int32) =>
  bp_getN 1 7 a0 fun a3 =>
  bp_getN 0 11 a3 fun a4 =>
  bp_bind (bp_is 6 a4 (PJ2_get a4 x1)) fun a5 =>
  bp_is 3 a5 <|
  bp_ret (some a5))
set_option maxHeartbeats 4000000 in
set_option maxRecDepth 100000 in
theorem cnX2_find {G : bp_GT} (a0 : Nat) (xp1 : Int32) (xp2 : Int32) : bp_Con G iX2_find (ws_ iX2_find.1 iX2_find.2.1 iX2_find.2.2.1 iX2_find.2.2.2.1) [.ref a0, .int xp1, .int xp2] (PX2_find a0 xp1 xp2) bp_eR := by
  refine bp_con_of [(0, .ref a0), (1, .int xp1), (2, .int xp2)] rfl (by decide) (Nat.le_of_ble_eq_true rfl) rfl ?_
  unfold PX2_find
  refine bp_j_iconst (v := 0) dX2_find_0 (by decide) ?_
  refine bp_j_istore_n (lv' := [(3, .int (0 : Int32)), (0, .ref a0), (1, .int xp1), (2, .int xp2)]) dX2_find_1 (by decide) rfl ?_
  refine bp_j_jm (fun k => ∀ (x1 : Int32), bp_J G iX2_find (bp_Qn G bp_eR) (k x1) 28 [(0, .ref a0), (3, .int x1)] []) (fun k2 hk2 => ?_) (fun x1 => ?_)
  · refine bp_j_loop (fun k => ∀ (x6 : Int32), bp_J G iX2_find (bp_Qn G bp_eR) (k x6) 2 [(0, .ref a0), (1, .int xp1), (2, .int xp2), (3, .int x6)] []) (fun _ => bp_j_no) (fun k7 hk7 x6 => ?_) (fun k h => bp_j_sub [1, 2, 3, 0] rfl (h (0 : Int32)))
    unfold BX2_find_2
    refine bp_j_iload_n 3 dX2_find_2 rfl ?_
    refine bp_j_iload_n 2 dX2_find_3 rfl ?_
    refine bp_j_icmp_ge (tgt := 49) dX2_find_4 (by decide) ?_ ?_
    · refine bp_j_null dX2_find_49 ?_
      exact bp_j_aretR rfl (Or.inl ⟨_, rfl⟩) dX2_find_50
    refine bp_j_aload_n 0 dX2_find_7 rfl ?_
    refine bp_j_getN (t := 1) (k := 7) rfl (by decide) (bp_lk q154) dX2_find_8 (fun _ _ _ => rfl) (fun a8 => ?_)
    refine bp_j_getN (t := 0) (k := 11) rfl (by decide) (bp_lkN q306) dX2_find_11 (fun _ _ _ => rfl) (fun a9 => ?_)
    refine bp_j_iload_n 3 dX2_find_14 rfl ?_
    refine bp_j_cl_N (bp_ranV (t := 6) (n := 1) (As := [.int x6]) (cnJ2_get (G := G) a9 x6) rfl (lw_V q575 q576 q577 q75 q578) ⟨rfl, by decide +kernel, by decide +kernel, by decide +kernel⟩ ⟨by decide, by decide⟩ (rest := []) rfl rfl (Nat.le_of_ble_eq_true rfl) dX2_find_15) (by decide) (fun a10 => ?_)
    refine bp_j_castS (t := 3) rfl q589 dX2_find_18 ?_
    refine bp_j_getI (t := 3) (k := 2) rfl (by decide) (bp_lkN q230) dX2_find_21 (fun _ _ _ => rfl) (fun x11 => ?_)
    refine bp_j_iload_n 1 dX2_find_24 rfl ?_
    refine bp_j_icmp_ne (tgt := 43) dX2_find_25 (by decide) ?_ ?_
    · refine bp_j_iincL (lv' := fun x12 => [(3, .int x12), (0, .ref a0), (1, .int xp1), (2, .int xp2)]) 3 dX2_find_43 rfl (by decide) (by decide) (fun _ => rfl) (fun x12 => ?_)
      refine bp_j_goto (tgt := 2) dX2_find_46 (by decide) ?_
      exact bp_j_sub [1, 2, 3, 0] rfl (hk7 x12)
    exact bp_j_sub [0, 3] rfl (hk2 x6)
  refine bp_j_aload_n 0 dX2_find_28 rfl ?_
  refine bp_j_getN (t := 1) (k := 7) rfl (by decide) (bp_lk q154) dX2_find_29 (fun _ _ _ => rfl) (fun a3 => ?_)
  refine bp_j_getN (t := 0) (k := 11) rfl (by decide) (bp_lkN q306) dX2_find_32 (fun _ _ _ => rfl) (fun a4 => ?_)
  refine bp_j_iload_n 1 dX2_find_35 rfl ?_
  refine bp_j_cl_N (bp_ranV (t := 6) (n := 1) (As := [.int x1]) (cnJ2_get (G := G) a4 x1) rfl (lw_V q575 q576 q577 q75 q578) ⟨rfl, by decide +kernel, by decide +kernel, by decide +kernel⟩ ⟨by decide, by decide⟩ (rest := []) rfl rfl (Nat.le_of_ble_eq_true rfl) dX2_find_36) (by decide) (fun a5 => ?_)
  refine bp_j_castS (t := 3) rfl q589 dX2_find_39 ?_
  exact bp_j_aretR rfl (Or.inl ⟨_, rfl⟩) dX2_find_42
/-- BilevelPages$Reader.checkReferences(LBilevelPages$Segment;I)LBilevelPages$Segment; -/
abbrev iX2_checkReferences : bp_MI := (yX2_checkReferences, cX2_checkReferences, 6, some ((Jvm.ClassFile.FieldType.object "BilevelPages$Segment")), [], 5, 132)
def BX2_checkReferences_5 (a0 : Nat) (bp1 : Nat) (xp2 : Int32) (k3 : Option Nat → Int32 → bp_M (Option Nat)) : Option Nat → Int32 → bp_M (Option Nat) :=
  fun r1 x2 =>
  bp_getI 3 4 bp1 fun x4 =>
  bp_if (x4 ≤ x2) (
  bp_ret r1) (
  bp_getN 3 3 bp1 fun a5 =>
  bp_aldI 20 a5 x2 fun x6 =>
  bp_bind (bp_is 1 a0 (PX2_find a0 x6 xp2)) fun r7 =>
  bp_jn (fun (k9 : Int32 → bp_M (Option Nat)) =>
  bp_if (r7 = none) (
  k9 (0 : Int32)) (
  bp_nn r7 fun a31 =>
  bp_getI 3 12 a31 fun x32 =>
  bp_if (x32 = (-1 : Int32)) (
  bp_getN 3 3 bp1 fun a33 =>
  bp_aldI 20 a33 x2 fun x34 =>
  bp_bind (bp_is 3 bp1 (PX4_placeOf bp1 x34)) fun x35 =>
  bp_if (x35 = (x2 + (1 : Int32))) (
  k9 (1 : Int32)) (
  k9 (0 : Int32))) (
  k9 (0 : Int32)))) (fun (x8 : Int32) =>
  bp_getI 3 10 bp1 fun x10 =>
  bp_bind (PX1_need x8 (5 : Int32) x10) fun _ =>
  bp_nn r7 fun a11 =>
  bp_getI 3 1 a11 fun x12 =>
  bp_jn (fun (k14 : Int32 → bp_M (Option Nat)) =>
  bp_if (x12 = 0) (
  k14 (1 : Int32)) (
  bp_getI 3 1 a11 fun x29 =>
  bp_getI 3 1 bp1 fun x30 =>
  bp_if (x29 = x30) (
  k14 (1 : Int32)) (
  k14 (0 : Int32)))) (fun (x13 : Int32) =>
  bp_getI 3 10 bp1 fun x15 =>
  bp_bind (PX1_need x13 (5 : Int32) x15) fun _ =>
  bp_getN 3 0 bp1 fun a16 =>
  bp_getN 3 0 a11 fun a17 =>
  bp_bind (bp_is 8 a16 (PX5_mayReferTo a16 a17)) fun x18 =>
  bp_jn (fun (k20 : Int32 → bp_M (Option Nat)) =>
  bp_if (x18 = 0) (
  k20 (0 : Int32)) (
  bp_getN 3 0 a11 fun a27 =>
  bp_gets 12 fun a28 =>
  bp_if ((some a27) = (some a28)) (
  bp_if (r1 = none) (
  k20 (1 : Int32)) (
  k20 (0 : Int32))) (
  k20 (1 : Int32)))) (fun (x19 : Int32) =>
  bp_getI 3 10 bp1 fun x21 =>
  bp_bind (PX1_need x19 (5 : Int32) x21) fun _ =>
  bp_getN 3 0 a11 fun a22 =>
  bp_gets 12 fun a23 =>
  bp_jn (fun (k25 : Option Nat → bp_M (Option Nat)) =>
  bp_if ((some a22) = (some a23)) (
  k25 (some a11)) (
  k25 r1)) (fun (r24 : Option Nat) =>
  bp_letI (x2 + (1 : Int32)) fun x26 =>
  k3 r24 x26)))))
def PX2_checkReferences (a0 : Nat) (bp1 : Nat) (xp2 : Int32) : bp_M (Option Nat) :=
  bp_loop (fun _ _ => bp_no) (BX2_checkReferences_5 a0 bp1 xp2) (fun k => k none (0 : Int32))
set_option maxHeartbeats 4000000 in
set_option maxRecDepth 100000 in
theorem cnX2_checkReferences {G : bp_GT} (a0 : Nat) (bp1 : Nat) (xp2 : Int32) : bp_Con G iX2_checkReferences (ws_ iX2_checkReferences.1 iX2_checkReferences.2.1 iX2_checkReferences.2.2.1 iX2_checkReferences.2.2.2.1) [.ref a0, .ref bp1, .int xp2] (PX2_checkReferences a0 bp1 xp2) bp_eR := by
  refine bp_con_of [(0, .ref a0), (1, .ref bp1), (2, .int xp2)] rfl (by decide) (Nat.le_of_ble_eq_true rfl) rfl ?_
  unfold PX2_checkReferences
  refine bp_j_null dX2_checkReferences_0 ?_
  refine bp_j_astore_nR (r := none) (lv' := [(3, .null), (0, .ref a0), (1, .ref bp1), (2, .int xp2)]) dX2_checkReferences_1 (by decide) rfl ?_
  refine bp_j_iconst (v := 0) dX2_checkReferences_2 (by decide) ?_
  refine bp_j_istore (lv' := [(4, .int (0 : Int32)), (3, .null), (0, .ref a0), (1, .ref bp1), (2, .int xp2)]) dX2_checkReferences_3 (by decide) rfl ?_
  refine bp_j_loop (fun k => ∀ (r1 : Option Nat) (x2 : Int32), bp_J G iX2_checkReferences (bp_Qn G bp_eR) (k r1 x2) 5 [(0, .ref a0), (1, .ref bp1), (2, .int xp2), (3, va_rf r1), (4, .int x2)] []) (fun _ _ => bp_j_no) (fun k3 hk3 r1 x2 => ?_) (fun k h => bp_j_sub [2, 3, 4, 1, 0] rfl (h none (0 : Int32)))
  unfold BX2_checkReferences_5
  refine bp_j_iload 4 dX2_checkReferences_5 rfl ?_
  refine bp_j_aload_n 1 dX2_checkReferences_7 rfl ?_
  refine bp_j_getI (t := 3) (k := 4) rfl (by decide) (bp_lkN q236) dX2_checkReferences_8 (fun _ _ _ => rfl) (fun x4 => ?_)
  refine bp_j_icmp_ge (tgt := 173) dX2_checkReferences_11 (by decide) ?_ ?_
  · refine bp_j_aload_nR 3 dX2_checkReferences_173 rfl ?_
    exact bp_j_aretR rfl (Or.inl ⟨_, rfl⟩) dX2_checkReferences_174
  refine bp_j_aload_n 0 dX2_checkReferences_14 rfl ?_
  refine bp_j_aload_n 1 dX2_checkReferences_15 rfl ?_
  refine bp_j_getN (t := 3) (k := 3) rfl (by decide) (bp_lkN q233) dX2_checkReferences_16 (fun _ _ _ => rfl) (fun a5 => ?_)
  refine bp_j_iload 4 dX2_checkReferences_19 rfl ?_
  refine bp_j_iaload dX2_checkReferences_21 (fun x6 => ?_)
  refine bp_j_iload_n 2 dX2_checkReferences_22 rfl ?_
  refine bp_j_cl_R (bp_ranV (t := 1) (n := 2) (As := [.int x6, .int xp2]) (cnX2_find (G := G) a0 x6 xp2) rfl (lw_V q571 q573 qs11 q76 q574) ⟨rfl, by decide +kernel, by decide +kernel, by decide +kernel⟩ ⟨by decide, by decide⟩ (rest := []) rfl rfl (Nat.le_of_ble_eq_true rfl) dX2_checkReferences_23) (by decide) (fun r7 => ?_)
  refine bp_j_astoreR (lv' := [(5, va_rf r7), (0, .ref a0), (1, .ref bp1), (2, .int xp2), (3, va_rf r1), (4, .int x2)]) dX2_checkReferences_26 (by decide) rfl ?_
  refine bp_j_aloadR 0 dX2_checkReferences_28 rfl ?_
  refine bp_j_jm (fun k => ∀ (x8 : Int32), bp_J G iX2_checkReferences (bp_Qn G bp_eR) (k x8) 65 [(0, .ref a0), (1, .ref bp1), (2, .int xp2), (3, va_rf r1), (4, .int x2), (5, va_rf r7)] [.int x8]) (fun k9 hk9 => ?_) (fun x8 => ?_)
  · refine bp_j_ifnull (x := r7) (tgt := 64) dX2_checkReferences_30 (by decide) ?_ ?_
    · refine bp_j_iconst (v := 0) dX2_checkReferences_64 (by decide) ?_
      exact bp_j_sub [1, 2, 3, 4, 5, 0] rfl (hk9 (0 : Int32))
    refine bp_j_aloadR 0 dX2_checkReferences_33 rfl ?_
    refine bp_j_nz (fun a31 ea31 => ?_)
    subst ea31
    refine bp_j_getI (t := 3) (k := 12) rfl (by decide) (bp_lkN q259) dX2_checkReferences_35 (fun _ _ _ => rfl) (fun x32 => ?_)
    refine bp_j_iconst (v := -1) dX2_checkReferences_38 (by decide) ?_
    refine bp_j_icmp_ne (tgt := 64) dX2_checkReferences_39 (by decide) ?_ ?_
    · refine bp_j_iconst (v := 0) dX2_checkReferences_64 (by decide) ?_
      exact bp_j_sub [1, 2, 3, 4, 5, 0] rfl (hk9 (0 : Int32))
    refine bp_j_aload_n 2 dX2_checkReferences_42 rfl ?_
    refine bp_j_aload_n 2 dX2_checkReferences_43 rfl ?_
    refine bp_j_getN (t := 3) (k := 3) rfl (by decide) (bp_lkN q233) dX2_checkReferences_44 (fun _ _ _ => rfl) (fun a33 => ?_)
    refine bp_j_iload 5 dX2_checkReferences_47 rfl ?_
    refine bp_j_iaload dX2_checkReferences_49 (fun x34 => ?_)
    refine bp_j_cl_I (bp_ranV (t := 3) (n := 1) (As := [.int x34]) (cnX4_placeOf (G := G) bp1 x34) rfl (lw_V q590 q591 q592 q79 q593) ⟨rfl, by decide +kernel, by decide +kernel, by decide +kernel⟩ ⟨by decide, by decide⟩ (rest := []) rfl rfl (Nat.le_of_ble_eq_true rfl) dX2_checkReferences_50) (by decide) (fun x35 => ?_)
    refine bp_j_iload 5 dX2_checkReferences_53 rfl ?_
    refine bp_j_iconst (v := 1) dX2_checkReferences_55 (by decide) ?_
    refine bp_j_iadd dX2_checkReferences_56 ?_
    refine bp_j_icmp_ne (tgt := 64) dX2_checkReferences_57 (by decide) ?_ ?_
    · refine bp_j_iconst (v := 0) dX2_checkReferences_64 (by decide) ?_
      exact bp_j_sub [1, 2, 3, 4, 5, 0] rfl (hk9 (0 : Int32))
    refine bp_j_iconst (v := 1) dX2_checkReferences_60 (by decide) ?_
    refine bp_j_goto (tgt := 65) dX2_checkReferences_61 (by decide) ?_
    exact bp_j_sub [1, 2, 3, 4, 5, 0] rfl (hk9 (1 : Int32))
  refine bp_j_iconst (v := 5) dX2_checkReferences_65 (by decide) ?_
  refine bp_j_aload_n 1 dX2_checkReferences_66 rfl ?_
  refine bp_j_getI (t := 3) (k := 10) rfl (by decide) (bp_lkN q254) dX2_checkReferences_67 (fun _ _ _ => rfl) (fun x10 => ?_)
  refine bp_j_cl_U (bp_ranSN (n := 3) (As := [.int x8, .int (5 : Int32), .int x10]) (cnX1_need (G := G) x8 (5 : Int32) x10) q380 q72 q378 q379 ⟨by decide +kernel, by decide +kernel, by decide +kernel⟩ ⟨by decide, by decide⟩ (rest := []) rfl rfl (Nat.le_of_ble_eq_true rfl) dX2_checkReferences_70) (by decide) (fun _ => ?_)
  refine bp_j_aloadR 5 dX2_checkReferences_73 rfl ?_
  refine bp_j_nz (fun a11 ea11 => ?_)
  subst ea11
  refine bp_j_getI (t := 3) (k := 1) rfl (by decide) (bp_lkN q227) dX2_checkReferences_75 (fun _ _ _ => rfl) (fun x12 => ?_)
  refine bp_j_jm (fun k => ∀ (x13 : Int32), bp_J G iX2_checkReferences (bp_Qn G bp_eR) (k x13) 98 [(0, .ref a0), (1, .ref bp1), (2, .int xp2), (3, va_rf r1), (4, .int x2), (5, .ref a11)] [.int x13]) (fun k14 hk14 => ?_) (fun x13 => ?_)
  · refine bp_j_if_eq (tgt := 93) dX2_checkReferences_78 (by decide) ?_ ?_
    · refine bp_j_iconst (v := 1) dX2_checkReferences_93 (by decide) ?_
      refine bp_j_goto (tgt := 98) dX2_checkReferences_94 (by decide) ?_
      exact hk14 (1 : Int32)
    refine bp_j_aload 5 dX2_checkReferences_81 rfl ?_
    refine bp_j_getI (t := 3) (k := 1) rfl (by decide) (bp_lkN q227) dX2_checkReferences_83 (fun _ _ _ => rfl) (fun x29 => ?_)
    refine bp_j_aload_n 1 dX2_checkReferences_86 rfl ?_
    refine bp_j_getI (t := 3) (k := 1) rfl (by decide) (bp_lkN q227) dX2_checkReferences_87 (fun _ _ _ => rfl) (fun x30 => ?_)
    refine bp_j_icmp_ne (tgt := 97) dX2_checkReferences_90 (by decide) ?_ ?_
    · refine bp_j_iconst (v := 0) dX2_checkReferences_97 (by decide) ?_
      exact hk14 (0 : Int32)
    refine bp_j_iconst (v := 1) dX2_checkReferences_93 (by decide) ?_
    refine bp_j_goto (tgt := 98) dX2_checkReferences_94 (by decide) ?_
    exact hk14 (1 : Int32)
  refine bp_j_iconst (v := 5) dX2_checkReferences_98 (by decide) ?_
  refine bp_j_aload_n 1 dX2_checkReferences_99 rfl ?_
  refine bp_j_getI (t := 3) (k := 10) rfl (by decide) (bp_lkN q254) dX2_checkReferences_100 (fun _ _ _ => rfl) (fun x15 => ?_)
  refine bp_j_cl_U (bp_ranSN (n := 3) (As := [.int x13, .int (5 : Int32), .int x15]) (cnX1_need (G := G) x13 (5 : Int32) x15) q380 q72 q378 q379 ⟨by decide +kernel, by decide +kernel, by decide +kernel⟩ ⟨by decide, by decide⟩ (rest := []) rfl rfl (Nat.le_of_ble_eq_true rfl) dX2_checkReferences_103) (by decide) (fun _ => ?_)
  refine bp_j_aload_n 1 dX2_checkReferences_106 rfl ?_
  refine bp_j_getN (t := 3) (k := 0) rfl (by decide) (bp_lkN q224) dX2_checkReferences_107 (fun _ _ _ => rfl) (fun a16 => ?_)
  refine bp_j_aload 5 dX2_checkReferences_110 rfl ?_
  refine bp_j_getN (t := 3) (k := 0) rfl (by decide) (bp_lkN q224) dX2_checkReferences_112 (fun _ _ _ => rfl) (fun a17 => ?_)
  refine bp_j_cl_I (bp_ranV (t := 8) (n := 1) (As := [.ref a17]) (cnX5_mayReferTo (G := G) a16 a17) rfl (lw_V q594 q595 q596 q81 q597) ⟨rfl, by decide +kernel, by decide +kernel, by decide +kernel⟩ ⟨by decide, by decide⟩ (rest := []) rfl rfl (Nat.le_of_ble_eq_true rfl) dX2_checkReferences_115) (by decide) (fun x18 => ?_)
  refine bp_j_jm (fun k => ∀ (x19 : Int32), bp_J G iX2_checkReferences (bp_Qn G bp_eR) (k x19) 141 [(0, .ref a0), (1, .ref bp1), (2, .int xp2), (3, va_rf r1), (4, .int x2), (5, .ref a11)] [.int x19]) (fun k20 hk20 => ?_) (fun x19 => ?_)
  · refine bp_j_if_eq (tgt := 140) dX2_checkReferences_118 (by decide) ?_ ?_
    · refine bp_j_iconst (v := 0) dX2_checkReferences_140 (by decide) ?_
      exact hk20 (0 : Int32)
    refine bp_j_aload 5 dX2_checkReferences_121 rfl ?_
    refine bp_j_getN (t := 3) (k := 0) rfl (by decide) (bp_lkN q224) dX2_checkReferences_123 (fun _ _ _ => rfl) (fun a27 => ?_)
    refine bp_j_gets (j := 12) rfl (bp_lk q608) dX2_checkReferences_126 (fun a28 => ?_)
    refine bp_j_acmp_ne (x := (some a27)) (y := (some a28)) (tgt := 136) dX2_checkReferences_129 (by decide) ?_ ?_
    · refine bp_j_iconst (v := 1) dX2_checkReferences_136 (by decide) ?_
      refine bp_j_goto (tgt := 141) dX2_checkReferences_137 (by decide) ?_
      exact hk20 (1 : Int32)
    refine bp_j_aload_nR 3 dX2_checkReferences_132 rfl ?_
    refine bp_j_ifnonnull (x := r1) (tgt := 140) dX2_checkReferences_133 (by decide) ?_ ?_
    · refine bp_j_iconst (v := 0) dX2_checkReferences_140 (by decide) ?_
      exact hk20 (0 : Int32)
    refine bp_j_iconst (v := 1) dX2_checkReferences_136 (by decide) ?_
    refine bp_j_goto (tgt := 141) dX2_checkReferences_137 (by decide) ?_
    exact hk20 (1 : Int32)
  refine bp_j_iconst (v := 5) dX2_checkReferences_141 (by decide) ?_
  refine bp_j_aload_n 1 dX2_checkReferences_142 rfl ?_
  refine bp_j_getI (t := 3) (k := 10) rfl (by decide) (bp_lkN q254) dX2_checkReferences_143 (fun _ _ _ => rfl) (fun x21 => ?_)
  refine bp_j_cl_U (bp_ranSN (n := 3) (As := [.int x19, .int (5 : Int32), .int x21]) (cnX1_need (G := G) x19 (5 : Int32) x21) q380 q72 q378 q379 ⟨by decide +kernel, by decide +kernel, by decide +kernel⟩ ⟨by decide, by decide⟩ (rest := []) rfl rfl (Nat.le_of_ble_eq_true rfl) dX2_checkReferences_146) (by decide) (fun _ => ?_)
  refine bp_j_aload 5 dX2_checkReferences_149 rfl ?_
  refine bp_j_getN (t := 3) (k := 0) rfl (by decide) (bp_lkN q224) dX2_checkReferences_151 (fun _ _ _ => rfl) (fun a22 => ?_)
  refine bp_j_gets (j := 12) rfl (bp_lk q608) dX2_checkReferences_154 (fun a23 => ?_)
  refine bp_j_jm (fun k => ∀ (r24 : Option Nat), bp_J G iX2_checkReferences (bp_Qn G bp_eR) (k r24) 166 [(0, .ref a0), (1, .ref bp1), (2, .int xp2), (4, .int x2)] [va_rf r24]) (fun k25 hk25 => ?_) (fun r24 => ?_)
  · refine bp_j_acmp_ne (x := (some a22)) (y := (some a23)) (tgt := 165) dX2_checkReferences_157 (by decide) ?_ ?_
    · refine bp_j_aload_nR 3 dX2_checkReferences_165 rfl ?_
      exact bp_j_sub [0, 1, 2, 4] rfl (hk25 r1)
    refine bp_j_aload 5 dX2_checkReferences_160 rfl ?_
    refine bp_j_goto (tgt := 166) dX2_checkReferences_162 (by decide) ?_
    exact bp_j_sub [0, 1, 2, 4] rfl (hk25 (some a11))
  refine bp_j_astore_nR (lv' := [(3, va_rf r24), (0, .ref a0), (1, .ref bp1), (2, .int xp2), (4, .int x2)]) dX2_checkReferences_166 (by decide) rfl ?_
  refine bp_j_iincL (lv' := fun x26 => [(4, .int x26), (3, va_rf r24), (0, .ref a0), (1, .ref bp1), (2, .int xp2)]) 4 dX2_checkReferences_167 rfl (by decide) (by decide) (fun _ => by cases r24 <;> rfl) (fun x26 => ?_)
  refine bp_j_goto (tgt := 5) dX2_checkReferences_170 (by decide) ?_
  exact bp_j_sub [2, 3, 4, 1, 0] rfl (hk3 r24 x26)
/-- BilevelPages$Reader.endSheet(LBilevelPages$Segment;)V -/
abbrev iX2_endSheet : bp_MI := (yX2_endSheet, cX2_endSheet, 3, none, [], 5, 132)
def PX2_endSheet (a0 : Nat) (bp1 : Nat) : bp_M Unit :=
  bp_getN 1 7 a0 fun a1 =>
  bp_getN 0 10 a1 fun a2 =>
  bp_getI 1 4 a0 fun x3 =>
  bp_aldN 25 a2 x3 fun a4 =>
  bp_getI 2 4 a4 fun x5 =>
  bp_jn (fun (k7 : Int32 → bp_M Unit) =>
  bp_if (0 < x5) (
  k7 (1 : Int32)) (
  bp_getI 2 2 a4 fun x14 =>
  bp_if (x14 ≤ 0) (
  k7 (0 : Int32)) (
  k7 (1 : Int32)))) (fun (x6 : Int32) =>
  bp_getI 3 10 bp1 fun x8 =>
  bp_bind (PX1_need x6 (8 : Int32) x8) fun _ =>
  bp_getI 2 4 a4 fun x9 =>
  bp_jn (fun (k11 : Int32 → bp_M Unit) =>
  bp_if (x9 = 0) (
  bp_bind (bp_is 2 a4 (PX3_lastRow a4)) fun x13 =>
  k11 (x13 + (1 : Int32))) (
  bp_getI 2 4 a4 fun x12 =>
  k11 x12)) (fun (x10 : Int32) =>
  bp_putI 2 4 a4 x10 <|
  bp_putI 1 4 a0 (-1 : Int32) <|
  bp_ret ()))
set_option maxHeartbeats 4000000 in
set_option maxRecDepth 100000 in
theorem cnX2_endSheet {G : bp_GT} (a0 : Nat) (bp1 : Nat) : bp_Con G iX2_endSheet (ws_ iX2_endSheet.1 iX2_endSheet.2.1 iX2_endSheet.2.2.1 iX2_endSheet.2.2.2.1) [.ref a0, .ref bp1] (PX2_endSheet a0 bp1) bp_eU := by
  refine bp_con_of [(0, .ref a0), (1, .ref bp1)] rfl (by decide) (Nat.le_of_ble_eq_true rfl) rfl ?_
  unfold PX2_endSheet
  refine bp_j_aload_n 0 dX2_endSheet_0 rfl ?_
  refine bp_j_getN (t := 1) (k := 7) rfl (by decide) (bp_lk q154) dX2_endSheet_1 (fun _ _ _ => rfl) (fun a1 => ?_)
  refine bp_j_getN (t := 0) (k := 10) rfl (by decide) (bp_lkN q304) dX2_endSheet_4 (fun _ _ _ => rfl) (fun a2 => ?_)
  refine bp_j_aload_n 0 dX2_endSheet_7 rfl ?_
  refine bp_j_getI (t := 1) (k := 4) rfl (by decide) (bp_lk q150) dX2_endSheet_8 (fun _ _ _ => rfl) (fun x3 => ?_)
  refine bp_j_aaloadN (t := 25) rfl dX2_endSheet_11 (fun a4 => ?_)
  refine bp_j_astore_n (lv' := [(2, .ref a4), (0, .ref a0), (1, .ref bp1)]) dX2_endSheet_12 (by decide) rfl ?_
  refine bp_j_aload_n 0 dX2_endSheet_13 rfl ?_
  refine bp_j_getI (t := 2) (k := 4) rfl (by decide) (bp_lkN q194) dX2_endSheet_14 (fun _ _ _ => rfl) (fun x5 => ?_)
  refine bp_j_jm (fun k => ∀ (x6 : Int32), bp_J G iX2_endSheet (bp_Qn G bp_eU) (k x6) 32 [(0, .ref a0), (1, .ref bp1), (2, .ref a4)] [.int x6]) (fun k7 hk7 => ?_) (fun x6 => ?_)
  · refine bp_j_if_gt (tgt := 27) dX2_endSheet_17 (by decide) ?_ ?_
    · refine bp_j_iconst (v := 1) dX2_endSheet_27 (by decide) ?_
      refine bp_j_goto (tgt := 32) dX2_endSheet_28 (by decide) ?_
      exact bp_j_sub [1, 2, 0] rfl (hk7 (1 : Int32))
    refine bp_j_aload_n 0 dX2_endSheet_20 rfl ?_
    refine bp_j_getI (t := 2) (k := 2) rfl (by decide) (bp_lkN q189) dX2_endSheet_21 (fun _ _ _ => rfl) (fun x14 => ?_)
    refine bp_j_if_le (tgt := 31) dX2_endSheet_24 (by decide) ?_ ?_
    · refine bp_j_iconst (v := 0) dX2_endSheet_31 (by decide) ?_
      exact bp_j_sub [1, 2, 0] rfl (hk7 (0 : Int32))
    refine bp_j_iconst (v := 1) dX2_endSheet_27 (by decide) ?_
    refine bp_j_goto (tgt := 32) dX2_endSheet_28 (by decide) ?_
    exact bp_j_sub [1, 2, 0] rfl (hk7 (1 : Int32))
  refine bp_j_bipush (v := 8) dX2_endSheet_32 (by decide) ?_
  refine bp_j_aload_n 1 dX2_endSheet_34 rfl ?_
  refine bp_j_getI (t := 3) (k := 10) rfl (by decide) (bp_lkN q254) dX2_endSheet_35 (fun _ _ _ => rfl) (fun x8 => ?_)
  refine bp_j_cl_U (bp_ranSN (n := 3) (As := [.int x6, .int (8 : Int32), .int x8]) (cnX1_need (G := G) x6 (8 : Int32) x8) q380 q72 q378 q379 ⟨by decide +kernel, by decide +kernel, by decide +kernel⟩ ⟨by decide, by decide⟩ (rest := []) rfl rfl (Nat.le_of_ble_eq_true rfl) dX2_endSheet_38) (by decide) (fun _ => ?_)
  refine bp_j_aload_n 2 dX2_endSheet_41 rfl ?_
  refine bp_j_aload_n 2 dX2_endSheet_42 rfl ?_
  refine bp_j_getI (t := 2) (k := 4) rfl (by decide) (bp_lkN q194) dX2_endSheet_43 (fun _ _ _ => rfl) (fun x9 => ?_)
  refine bp_j_jm (fun k => ∀ (x10 : Int32), bp_J G iX2_endSheet (bp_Qn G bp_eU) (k x10) 62 [(0, .ref a0)] [.int x10, .ref a4]) (fun k11 hk11 => ?_) (fun x10 => ?_)
  · refine bp_j_if_ne (tgt := 58) dX2_endSheet_46 (by decide) ?_ ?_
    · refine bp_j_aload_n 2 dX2_endSheet_58 rfl ?_
      refine bp_j_getI (t := 2) (k := 4) rfl (by decide) (bp_lkN q194) dX2_endSheet_59 (fun _ _ _ => rfl) (fun x12 => ?_)
      exact bp_j_sub [0] rfl (hk11 x12)
    refine bp_j_aload_n 2 dX2_endSheet_49 rfl ?_
    refine bp_j_cl_I (bp_ranV (t := 2) (n := 0) (As := []) (cnX3_lastRow (G := G) a4 ) rfl (lw_V q699 q700 q701 q78 q702) ⟨rfl, by decide +kernel, by decide +kernel, by decide +kernel⟩ ⟨by decide, by decide⟩ (rest := [.ref a4]) rfl rfl (Nat.le_of_ble_eq_true rfl) dX2_endSheet_50) (by decide) (fun x13 => ?_)
    refine bp_j_iconst (v := 1) dX2_endSheet_53 (by decide) ?_
    refine bp_j_iadd dX2_endSheet_54 ?_
    refine bp_j_goto (tgt := 62) dX2_endSheet_55 (by decide) ?_
    exact bp_j_sub [0] rfl (hk11 (x13 + (1 : Int32)))
  refine bp_j_putI (t := 2) (k := 4) rfl (by decide) (by decide) (bp_lkN q194) rfl dX2_endSheet_62 rfl ?_
  refine bp_j_aload_n 0 dX2_endSheet_65 rfl ?_
  refine bp_j_iconst (v := -1) dX2_endSheet_66 (by decide) ?_
  refine bp_j_putI (t := 1) (k := 4) rfl (by decide) (by decide) (bp_lk q150) rfl dX2_endSheet_67 rfl ?_
  exact bp_j_vret rfl dX2_endSheet_70
/-- BilevelPages$Reader.four(I)J -/
abbrev iX2_four : bp_MI := (yX2_four, cX2_four, 2, some (Jvm.ClassFile.FieldType.long), [], 1, 21)
def PX2_four (a0 : Nat) (xp1 : Int32) : bp_M Int64 :=
  bp_bind (bp_is 1 a0 (PX2_byteAt a0 xp1)) fun x1 =>
  bp_bind (bp_is 1 a0 (PX2_byteAt a0 (xp1 + (1 : Int32)))) fun x2 =>
  bp_bind (bp_is 1 a0 (PX2_byteAt a0 (xp1 + (2 : Int32)))) fun x3 =>
  bp_bind (bp_is 1 a0 (PX2_byteAt a0 (xp1 + (3 : Int32)))) fun x4 =>
  bp_ret ((((x1.toInt64 <<< ((24 : Int32).toInt64 &&& 63)) ||| (x2 <<< ((16 : Int32) &&& 31)).toInt64) ||| (x3 <<< ((8 : Int32) &&& 31)).toInt64) ||| x4.toInt64)
set_option maxHeartbeats 4000000 in
set_option maxRecDepth 100000 in
theorem cnX2_four {G : bp_GT} (a0 : Nat) (xp1 : Int32) : bp_Con G iX2_four (ws_ iX2_four.1 iX2_four.2.1 iX2_four.2.2.1 iX2_four.2.2.2.1) [.ref a0, .int xp1] (PX2_four a0 xp1) bp_eL := by
  refine bp_con_of [(0, .ref a0), (1, .int xp1)] rfl (by decide) (Nat.le_of_ble_eq_true rfl) rfl ?_
  unfold PX2_four
  refine bp_j_aload_n 0 dX2_four_0 rfl ?_
  refine bp_j_iload_n 1 dX2_four_1 rfl ?_
  refine bp_j_cl_I (bp_ranV (t := 1) (n := 1) (As := [.int xp1]) (cnX2_byteAt (G := G) a0 xp1) rfl (lw_V q452 q454 qs4 q76 q455) ⟨rfl, by decide +kernel, by decide +kernel, by decide +kernel⟩ ⟨by decide, by decide⟩ (rest := []) rfl rfl (Nat.le_of_ble_eq_true rfl) dX2_four_2) (by decide) (fun x1 => ?_)
  refine bp_j_i2l dX2_four_5 ?_
  refine bp_j_bipush (v := 24) dX2_four_6 (by decide) ?_
  refine bp_j_lshl dX2_four_8 ?_
  refine bp_j_aload_n 0 dX2_four_9 rfl ?_
  refine bp_j_iload_n 1 dX2_four_10 rfl ?_
  refine bp_j_iconst (v := 1) dX2_four_11 (by decide) ?_
  refine bp_j_iadd dX2_four_12 ?_
  refine bp_j_cl_I (bp_ranV (t := 1) (n := 1) (As := [.int (xp1 + (1 : Int32))]) (cnX2_byteAt (G := G) a0 (xp1 + (1 : Int32))) rfl (lw_V q452 q454 qs4 q76 q455) ⟨rfl, by decide +kernel, by decide +kernel, by decide +kernel⟩ ⟨by decide, by decide⟩ (rest := [.long (x1.toInt64 <<< ((24 : Int32).toInt64 &&& 63))]) rfl rfl (Nat.le_of_ble_eq_true rfl) dX2_four_13) (by decide) (fun x2 => ?_)
  refine bp_j_bipush (v := 16) dX2_four_16 (by decide) ?_
  refine bp_j_ishl dX2_four_18 ?_
  refine bp_j_i2l dX2_four_19 ?_
  refine bp_j_lor dX2_four_20 ?_
  refine bp_j_aload_n 0 dX2_four_21 rfl ?_
  refine bp_j_iload_n 1 dX2_four_22 rfl ?_
  refine bp_j_iconst (v := 2) dX2_four_23 (by decide) ?_
  refine bp_j_iadd dX2_four_24 ?_
  refine bp_j_cl_I (bp_ranV (t := 1) (n := 1) (As := [.int (xp1 + (2 : Int32))]) (cnX2_byteAt (G := G) a0 (xp1 + (2 : Int32))) rfl (lw_V q452 q454 qs4 q76 q455) ⟨rfl, by decide +kernel, by decide +kernel, by decide +kernel⟩ ⟨by decide, by decide⟩ (rest := [.long ((x1.toInt64 <<< ((24 : Int32).toInt64 &&& 63)) ||| (x2 <<< ((16 : Int32) &&& 31)).toInt64)]) rfl rfl (Nat.le_of_ble_eq_true rfl) dX2_four_25) (by decide) (fun x3 => ?_)
  refine bp_j_bipush (v := 8) dX2_four_28 (by decide) ?_
  refine bp_j_ishl dX2_four_30 ?_
  refine bp_j_i2l dX2_four_31 ?_
  refine bp_j_lor dX2_four_32 ?_
  refine bp_j_aload_n 0 dX2_four_33 rfl ?_
  refine bp_j_iload_n 1 dX2_four_34 rfl ?_
  refine bp_j_iconst (v := 3) dX2_four_35 (by decide) ?_
  refine bp_j_iadd dX2_four_36 ?_
  refine bp_j_cl_I (bp_ranV (t := 1) (n := 1) (As := [.int (xp1 + (3 : Int32))]) (cnX2_byteAt (G := G) a0 (xp1 + (3 : Int32))) rfl (lw_V q452 q454 qs4 q76 q455) ⟨rfl, by decide +kernel, by decide +kernel, by decide +kernel⟩ ⟨by decide, by decide⟩ (rest := [.long (((x1.toInt64 <<< ((24 : Int32).toInt64 &&& 63)) ||| (x2 <<< ((16 : Int32) &&& 31)).toInt64) ||| (x3 <<< ((8 : Int32) &&& 31)).toInt64)]) rfl rfl (Nat.le_of_ble_eq_true rfl) dX2_four_37) (by decide) (fun x4 => ?_)
  refine bp_j_i2l dX2_four_40 ?_
  refine bp_j_lor dX2_four_41 ?_
  exact bp_j_lret rfl dX2_four_42
