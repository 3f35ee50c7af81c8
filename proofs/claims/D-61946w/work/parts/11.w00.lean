/-! programs and walks -/
set_option maxRecDepth 100000
/-- jdk/internal/util/Preconditions.checkIndex(IILjava/util/function/BiFunction;)I -/
abbrev iJ16_checkIndex : bp_MI := (yJ16_checkIndex, cJ16_checkIndex, 3, some (Jvm.ClassFile.FieldType.int), [], 0, 0)
def PJ16_checkIndex (xp0 : Int32) (xp1 : Int32) (rp2 : Option Nat) : bp_M Int32 :=
  bp_jn (fun (k1 : bp_M Int32) =>
  bp_if (xp0 < 0) (
  k1) (
  bp_if (xp0 < xp1) (
  bp_ret xp0) (
  k1))) (bp_no)
set_option maxHeartbeats 4000000 in
set_option maxRecDepth 100000 in
theorem cnJ16_checkIndex {G : bp_GT} (xp0 : Int32) (xp1 : Int32) (rp2 : Option Nat) : bp_Con G iJ16_checkIndex (ws_ iJ16_checkIndex.1 iJ16_checkIndex.2.1 iJ16_checkIndex.2.2.1 iJ16_checkIndex.2.2.2.1) [.int xp0, .int xp1, va_rf rp2] (PJ16_checkIndex xp0 xp1 rp2) bp_eI := by
  refine bp_con_of [(0, .int xp0), (1, .int xp1), (2, va_rf rp2)] rfl (by decide) (by cases rp2 <;> exact Nat.le_of_ble_eq_true rfl) (by cases rp2 <;> rfl) ?_
  unfold PJ16_checkIndex
  refine bp_j_iload_n 0 dJ16_checkIndex_0 rfl ?_
  refine bp_j_jm (fun k => bp_J G iJ16_checkIndex (bp_Qn G bp_eI) (k) 9 [(0, .int xp0), (1, .int xp1), (2, va_rf rp2)] []) (fun k1 hk1 => ?_) ?_
  · refine bp_j_if_lt (tgt := 9) dJ16_checkIndex_1 (by decide) ?_ ?_
    · exact hk1
    refine bp_j_iload_n 0 dJ16_checkIndex_4 rfl ?_
    refine bp_j_iload_n 1 dJ16_checkIndex_5 rfl ?_
    refine bp_j_icmp_lt (tgt := 16) dJ16_checkIndex_6 (by decide) ?_ ?_
    · refine bp_j_iload_n 0 dJ16_checkIndex_16 rfl ?_
      exact bp_j_iret rfl dJ16_checkIndex_17
    exact hk1
  refine bp_j_aload_nR 2 dJ16_checkIndex_9 rfl ?_
  refine bp_j_iload_n 0 dJ16_checkIndex_10 rfl ?_
  refine bp_j_iload_n 1 dJ16_checkIndex_11 rfl ?_
  exact bp_j_no
/-- java/util/Objects.checkIndex(II)I -/
abbrev iJ15_checkIndex : bp_MI := (yJ15_checkIndex, cJ15_checkIndex, 2, some (Jvm.ClassFile.FieldType.int), [], 1, 22)
def PJ15_checkIndex (xp0 : Int32) (xp1 : Int32) : bp_M Int32 :=
  bp_bind (PJ16_checkIndex xp0 xp1 none) fun x1 =>
  bp_ret x1
set_option maxHeartbeats 4000000 in
set_option maxRecDepth 100000 in
theorem cnJ15_checkIndex {G : bp_GT} (xp0 : Int32) (xp1 : Int32) : bp_Con G iJ15_checkIndex (ws_ iJ15_checkIndex.1 iJ15_checkIndex.2.1 iJ15_checkIndex.2.2.1 iJ15_checkIndex.2.2.2.1) [.int xp0, .int xp1] (PJ15_checkIndex xp0 xp1) bp_eI := by
  refine bp_con_of [(0, .int xp0), (1, .int xp1)] rfl (by decide) (Nat.le_of_ble_eq_true rfl) rfl ?_
  unfold PJ15_checkIndex
  refine bp_j_iload_n 0 dJ15_checkIndex_0 rfl ?_
  refine bp_j_iload_n 1 dJ15_checkIndex_1 rfl ?_
  refine bp_j_null dJ15_checkIndex_2 ?_
  refine bp_j_cl_I (bp_ranS (n := 3) (As := [.int xp0, .int xp1, va_rf none]) (cnJ16_checkIndex (G := G) xp0 xp1 none) (lw_S q582 q583 q95 q584) ⟨by decide +kernel, by decide +kernel, by decide +kernel⟩ ⟨by decide, by decide⟩ (rest := []) rfl rfl (Nat.le_of_ble_eq_true rfl) dJ15_checkIndex_3) (by decide) (fun x1 => ?_)
  exact bp_j_iret rfl dJ15_checkIndex_6
/-- java/util/ArrayList.elementData(I)Ljava/lang/Object; -/
abbrev iJ2_elementData : bp_MI := (yJ2_elementData, cJ2_elementData, 2, some ((Jvm.ClassFile.FieldType.object "java/lang/Object")), [], 0, 0)
def PJ2_elementData (a0 : Nat) (xp1 : Int32) : bp_M Nat :=
  bp_getN 6 1 a0 fun a1 =>
  bp_aldN 27 a1 xp1 fun a2 =>
  bp_ret a2
set_option maxHeartbeats 4000000 in
set_option maxRecDepth 100000 in
theorem cnJ2_elementData {G : bp_GT} (a0 : Nat) (xp1 : Int32) : bp_Con G iJ2_elementData (ws_ iJ2_elementData.1 iJ2_elementData.2.1 iJ2_elementData.2.2.1 iJ2_elementData.2.2.2.1) [.ref a0, .int xp1] (PJ2_elementData a0 xp1) bp_eN := by
  refine bp_con_of [(0, .ref a0), (1, .int xp1)] rfl (by decide) (Nat.le_of_ble_eq_true rfl) rfl ?_
  unfold PJ2_elementData
  refine bp_j_aload_n 0 dJ2_elementData_0 rfl ?_
  refine bp_j_getN (t := 6) (k := 1) rfl (by decide) (bp_lk q121) dJ2_elementData_1 (fun _ _ _ => rfl) (fun a1 => ?_)
  refine bp_j_iload_n 1 dJ2_elementData_4 rfl ?_
  refine bp_j_aaloadN (t := 27) rfl dJ2_elementData_5 (fun a2 => ?_)
  exact bp_j_aretN rfl (Or.inl ⟨_, rfl⟩) dJ2_elementData_6
/-- java/util/ArrayList.get(I)Ljava/lang/Object; -/
abbrev iJ2_get : bp_MI := (yJ2_get, cJ2_get, 2, some ((Jvm.ClassFile.FieldType.object "java/lang/Object")), [], 2, 43)
def PJ2_get (a0 : Nat) (xp1 : Int32) : bp_M Nat :=
  bp_getI 6 2 a0 fun x1 =>
  bp_bind (PJ15_checkIndex xp1 x1) fun x2 =>
  bp_bind (bp_is 6 a0 (PJ2_elementData a0 xp1)) fun a3 =>
  bp_ret a3
set_option maxHeartbeats 4000000 in
set_option maxRecDepth 100000 in
theorem cnJ2_get {G : bp_GT} (a0 : Nat) (xp1 : Int32) : bp_Con G iJ2_get (ws_ iJ2_get.1 iJ2_get.2.1 iJ2_get.2.2.1 iJ2_get.2.2.2.1) [.ref a0, .int xp1] (PJ2_get a0 xp1) bp_eN := by
  refine bp_con_of [(0, .ref a0), (1, .int xp1)] rfl (by decide) (Nat.le_of_ble_eq_true rfl) rfl ?_
  unfold PJ2_get
  refine bp_j_iload_n 1 dJ2_get_0 rfl ?_
  refine bp_j_aload_n 0 dJ2_get_1 rfl ?_
  refine bp_j_getI (t := 6) (k := 2) rfl (by decide) (bp_lk q124) dJ2_get_2 (fun _ _ _ => rfl) (fun x1 => ?_)
  refine bp_j_cl_I (bp_ranS (n := 2) (As := [.int xp1, .int x1]) (cnJ15_checkIndex (G := G) xp1 x1) (lw_S q579 q580 q94 q581) ⟨by decide +kernel, by decide +kernel, by decide +kernel⟩ ⟨by decide, by decide⟩ (rest := []) rfl rfl (Nat.le_of_ble_eq_true rfl) dJ2_get_5) (by decide) (fun x2 => ?_)
  refine bp_j_pop dJ2_get_8 rfl ?_
  refine bp_j_aload_n 0 dJ2_get_9 rfl ?_
  refine bp_j_iload_n 1 dJ2_get_10 rfl ?_
  refine bp_j_cl_N (bp_ranV (t := 6) (n := 1) (As := [.int xp1]) (cnJ2_elementData (G := G) a0 xp1) rfl (lw_V q585 q586 q587 q75 q588) ⟨rfl, by decide +kernel, by decide +kernel, by decide +kernel⟩ ⟨by decide, by decide⟩ (rest := []) rfl rfl (Nat.le_of_ble_eq_true rfl) dJ2_get_11) (by decide) (fun a3 => ?_)
  exact bp_j_aretN rfl (Or.inl ⟨_, rfl⟩) dJ2_get_14
/-- java/util/ArrayList.size()I -/
abbrev iJ2_size : bp_MI := (yJ2_size, cJ2_size, 1, some (Jvm.ClassFile.FieldType.int), [], 0, 0)
def PJ2_size (a0 : Nat) : bp_M Int32 :=
  bp_getI 6 2 a0 fun x1 =>
  bp_ret x1
set_option maxHeartbeats 4000000 in
set_option maxRecDepth 100000 in
theorem cnJ2_size {G : bp_GT} (a0 : Nat) : bp_Con G iJ2_size (ws_ iJ2_size.1 iJ2_size.2.1 iJ2_size.2.2.1 iJ2_size.2.2.2.1) [.ref a0] (PJ2_size a0) bp_eI := by
  refine bp_con_of [(0, .ref a0)] rfl (by decide) (Nat.le_of_ble_eq_true rfl) rfl ?_
  unfold PJ2_size
  refine bp_j_aload_n 0 dJ2_size_0 rfl ?_
  refine bp_j_getI (t := 6) (k := 2) rfl (by decide) (bp_lk q124) dJ2_size_1 (fun _ _ _ => rfl) (fun x1 => ?_)
  exact bp_j_iret rfl dJ2_size_4
/-- jdk/internal/util/ArraysSupport.hugeLength(II)I -/
abbrev iJ10_hugeLength : bp_MI := (yJ10_hugeLength, cJ10_hugeLength, 3, some (Jvm.ClassFile.FieldType.int), [], 0, 0)
def PJ10_hugeLength (xp0 : Int32) (xp1 : Int32) : bp_M Int32 :=
  bp_letI (xp0 + xp1) fun x1 =>
  bp_if (0 ≤ x1) (
  bp_if ((2147483639 : Int32) < x1) (
  bp_ret x1) (
  bp_ret (2147483639 : Int32))) (
  bp_no)
set_option maxHeartbeats 4000000 in
set_option maxRecDepth 100000 in
theorem cnJ10_hugeLength {G : bp_GT} (xp0 : Int32) (xp1 : Int32) : bp_Con G iJ10_hugeLength (ws_ iJ10_hugeLength.1 iJ10_hugeLength.2.1 iJ10_hugeLength.2.2.1 iJ10_hugeLength.2.2.2.1) [.int xp0, .int xp1] (PJ10_hugeLength xp0 xp1) bp_eI := by
  refine bp_con_of [(0, .int xp0), (1, .int xp1)] rfl (by decide) (Nat.le_of_ble_eq_true rfl) rfl ?_
  unfold PJ10_hugeLength
  refine bp_j_iload_n 0 dJ10_hugeLength_0 rfl ?_
  refine bp_j_iload_n 1 dJ10_hugeLength_1 rfl ?_
  refine bp_j_iadd dJ10_hugeLength_2 ?_
  refine bp_j_letI (fun x1 => ?_)
  refine bp_j_istore_n (lv' := [(2, .int x1), (0, .int xp0), (1, .int xp1)]) dJ10_hugeLength_3 (by decide) rfl ?_
  refine bp_j_iload_n 0 dJ10_hugeLength_4 rfl ?_
  refine bp_j_if_ge (tgt := 49) dJ10_hugeLength_5 (by decide) ?_ ?_
  · refine bp_j_iload_n 0 dJ10_hugeLength_49 rfl ?_
    refine bp_j_ldc q528 dJ10_hugeLength_50 ?_
    refine bp_j_icmp_gt (tgt := 58) dJ10_hugeLength_52 (by decide) ?_ ?_
    · refine bp_j_iload_n 0 dJ10_hugeLength_58 rfl ?_
      exact bp_j_iret rfl dJ10_hugeLength_59
    refine bp_j_ldc q528 dJ10_hugeLength_55 ?_
    exact bp_j_iret rfl dJ10_hugeLength_57
  exact bp_j_no
/-- jdk/internal/util/ArraysSupport.newLength(III)I -/
abbrev iJ10_newLength : bp_MI := (yJ10_newLength, cJ10_newLength, 4, some (Jvm.ClassFile.FieldType.int), [], 1, 40)
def PJ10_newLength (xp0 : Int32) (xp1 : Int32) (xp2 : Int32) : bp_M Int32 :=
  bp_letI (if xp1 < xp2 then xp2 else xp1) fun x1 =>
  bp_letI (xp0 + x1) fun x2 =>
  bp_jn (fun (k3 : bp_M Int32) =>
  bp_if (x2 ≤ (0 : Int32)) (
  k3) (
  bp_if ((2147483639 : Int32) < x2) (
  k3) (
  bp_ret x2))) (bp_bind (PJ10_hugeLength xp0 xp1) fun x4 =>
  bp_ret x4)
set_option maxHeartbeats 4000000 in
set_option maxRecDepth 100000 in
theorem cnJ10_newLength {G : bp_GT} (xp0 : Int32) (xp1 : Int32) (xp2 : Int32) : bp_Con G iJ10_newLength (ws_ iJ10_newLength.1 iJ10_newLength.2.1 iJ10_newLength.2.2.1 iJ10_newLength.2.2.2.1) [.int xp0, .int xp1, .int xp2] (PJ10_newLength xp0 xp1 xp2) bp_eI := by
  refine bp_con_of [(0, .int xp0), (1, .int xp1), (2, .int xp2)] rfl (by decide) (Nat.le_of_ble_eq_true rfl) rfl ?_
  unfold PJ10_newLength
  refine bp_j_iload_n 0 dJ10_newLength_0 rfl ?_
  refine bp_j_iload_n 1 dJ10_newLength_1 rfl ?_
  refine bp_j_iload_n 2 dJ10_newLength_2 rfl ?_
  refine bp_j_mmax q527 q177 q77 q178 (by decide) (Nat.le_of_ble_eq_true rfl) dJ10_newLength_3 (fun x1 => ?_)
  refine bp_j_iadd dJ10_newLength_6 ?_
  refine bp_j_letI (fun x2 => ?_)
  refine bp_j_istore_n (lv' := [(3, .int x2), (0, .int xp0), (1, .int xp1), (2, .int xp2)]) dJ10_newLength_7 (by decide) rfl ?_
  refine bp_j_iconst (v := 0) dJ10_newLength_8 (by decide) ?_
  refine bp_j_iload_n 0 dJ10_newLength_9 rfl ?_
  refine bp_j_jm (fun k => bp_J G iJ10_newLength (bp_Qn G bp_eI) (k) 21 [(0, .int xp0), (1, .int xp1)] []) (fun k3 hk3 => ?_) ?_
  · refine bp_j_icmp_ge (tgt := 21) dJ10_newLength_10 (by decide) ?_ ?_
    · exact bp_j_sub [1, 2] rfl (hk3)
    refine bp_j_iload_n 0 dJ10_newLength_13 rfl ?_
    refine bp_j_ldc q528 dJ10_newLength_14 ?_
    refine bp_j_icmp_gt (tgt := 21) dJ10_newLength_16 (by decide) ?_ ?_
    · exact bp_j_sub [1, 2] rfl (hk3)
    refine bp_j_iload_n 0 dJ10_newLength_19 rfl ?_
    exact bp_j_iret rfl dJ10_newLength_20
  refine bp_j_iload_n 0 dJ10_newLength_21 rfl ?_
  refine bp_j_iload_n 1 dJ10_newLength_22 rfl ?_
  refine bp_j_cl_I (bp_ranS (n := 2) (As := [.int xp0, .int xp1]) (cnJ10_hugeLength (G := G) xp0 xp1) (lw_S q529 q530 q88 q531) ⟨by decide +kernel, by decide +kernel, by decide +kernel⟩ ⟨by decide, by decide⟩ (rest := []) rfl rfl (Nat.le_of_ble_eq_true rfl) dJ10_newLength_23) (by decide) (fun x4 => ?_)
  exact bp_j_iret rfl dJ10_newLength_26
/-- java/util/Arrays.copyOf([Ljava/lang/Object;ILjava/lang/Class;)[Ljava/lang/Object; -/
abbrev iJ11_copyOf_2 : bp_MI := (yJ11_copyOf_2, cJ11_copyOf_2, 4, some ((Jvm.ClassFile.FieldType.array (Jvm.ClassFile.FieldType.object "java/lang/Object"))), [], 1, 80)
def PJ11_copyOf_2 (bp0 : Nat) (xp1 : Int32) (bp2 : Nat) : bp_M Nat :=
  bp_gets 21 fun a1 =>
  bp_jn (fun (k3 : Nat → bp_M Nat) =>
  bp_if ((some bp2) = (some a1)) (
  bp_newa 27 xp1 fun a6 =>
  k3 a6) (
  bp_no)) (fun (a2 : Nat) =>
  bp_alen 27 bp0 fun x4 =>
  bp_letI (if xp1 < x4 then xp1 else x4) fun x5 =>
  bp_copyR bp0 (0 : Int32) a2 (0 : Int32) x5 <|
  bp_ret a2)
set_option maxHeartbeats 4000000 in
set_option maxRecDepth 100000 in
theorem cnJ11_copyOf_2 {G : bp_GT} (bp0 : Nat) (xp1 : Int32) (bp2 : Nat) : bp_Con G iJ11_copyOf_2 (ws_ iJ11_copyOf_2.1 iJ11_copyOf_2.2.1 iJ11_copyOf_2.2.2.1 iJ11_copyOf_2.2.2.2.1) [.ref bp0, .int xp1, .ref bp2] (PJ11_copyOf_2 bp0 xp1 bp2) bp_eN := by
  refine bp_con_of [(0, .ref bp0), (1, .int xp1), (2, .ref bp2)] rfl (by decide) (Nat.le_of_ble_eq_true rfl) rfl ?_
  unfold PJ11_copyOf_2
  refine bp_j_aload_n 2 dJ11_copyOf_2_0 rfl ?_
  refine bp_j_ldcClass q556 dJ11_copyOf_2_1 (fun a1 => ?_)
  refine bp_j_jm (fun k => ∀ (a2 : Nat), bp_J G iJ11_copyOf_2 (bp_Qn G bp_eN) (k a2) 24 [(0, .ref bp0), (1, .int xp1)] [.ref a2]) (fun k3 hk3 => ?_) (fun a2 => ?_)
  · refine bp_j_acmp_ne (x := (some bp2)) (y := (some a1)) (tgt := 13) dJ11_copyOf_2_3 (by decide) ?_ ?_
    · refine bp_j_aload_n 2 dJ11_copyOf_2_13 rfl ?_
      exact bp_j_no
    refine bp_j_iload_n 1 dJ11_copyOf_2_6 rfl ?_
    refine bp_j_anewarray (t := 27) rfl (by decide) (by decide) q558 dJ11_copyOf_2_7 (fun a6 => ?_)
    refine bp_j_goto (tgt := 24) dJ11_copyOf_2_10 (by decide) ?_
    exact bp_j_sub [0, 1] rfl (hk3 a6)
  refine bp_j_astore_n (lv' := [(3, .ref a2), (0, .ref bp0), (1, .int xp1)]) dJ11_copyOf_2_24 (by decide) rfl ?_
  refine bp_j_aload_n 1 dJ11_copyOf_2_25 rfl ?_
  refine bp_j_iconst (v := 0) dJ11_copyOf_2_26 (by decide) ?_
  refine bp_j_aload_n 0 dJ11_copyOf_2_27 rfl ?_
  refine bp_j_iconst (v := 0) dJ11_copyOf_2_28 (by decide) ?_
  refine bp_j_aload_n 1 dJ11_copyOf_2_29 rfl ?_
  refine bp_j_alen (t := 27) rfl dJ11_copyOf_2_30 (fun x4 => ?_)
  refine bp_j_iload_n 2 dJ11_copyOf_2_31 rfl ?_
  refine bp_j_mmin q559 q174 q77 q175 (by decide) (Nat.le_of_ble_eq_true rfl) dJ11_copyOf_2_32 (fun x5 => ?_)
  refine bp_j_copyR q560 q360 q359 q90 q1497 (by decide) (Nat.le_of_ble_eq_true rfl) dJ11_copyOf_2_35 ?_
  refine bp_j_aload_n 0 dJ11_copyOf_2_38 rfl ?_
  exact bp_j_aretN rfl (Or.inr ⟨_, rfl⟩) dJ11_copyOf_2_39
/-- java/util/Arrays.copyOf([Ljava/lang/Object;I)[Ljava/lang/Object; -/
abbrev iJ11_copyOf : bp_MI := (yJ11_copyOf, cJ11_copyOf, 2, some ((Jvm.ClassFile.FieldType.array (Jvm.ClassFile.FieldType.object "java/lang/Object"))), [], 2, 103)
def PJ11_copyOf (bp0 : Nat) (xp1 : Int32) : bp_M Nat :=
  bp_own bp0 <| bp_is 27 bp0 <| bp_gets 21 fun a1 =>
  bp_bind (PJ11_copyOf_2 bp0 xp1 a1) fun a2 =>
  bp_ret a2
set_option maxHeartbeats 4000000 in
set_option maxRecDepth 100000 in
theorem cnJ11_copyOf {G : bp_GT} (bp0 : Nat) (xp1 : Int32) : bp_Con G iJ11_copyOf (ws_ iJ11_copyOf.1 iJ11_copyOf.2.1 iJ11_copyOf.2.2.1 iJ11_copyOf.2.2.2.1) [.ref bp0, .int xp1] (PJ11_copyOf bp0 xp1) bp_eN := by
  refine bp_con_of [(0, .ref bp0), (1, .int xp1)] rfl (by decide) (Nat.le_of_ble_eq_true rfl) rfl ?_
  unfold PJ11_copyOf
  refine bp_j_aload_n 0 dJ11_copyOf_0 rfl ?_
  refine bp_j_iload_n 1 dJ11_copyOf_1 rfl ?_
  refine bp_j_aload_n 0 dJ11_copyOf_2 rfl ?_
  refine bp_j_getClass q535 q1514 q536 q552 (by decide) (Nat.le_of_ble_eq_true rfl) dJ11_copyOf_3 (fun a1 => ?_)
  refine bp_j_cl_N (bp_ranS (n := 3) (As := [.ref bp0, .int xp1, .ref a1]) (cnJ11_copyOf_2 (G := G) bp0 xp1 a1) (lw_S q553 q554 q89 q555) ⟨by decide +kernel, by decide +kernel, by decide +kernel⟩ ⟨by decide, by decide⟩ (rest := []) rfl rfl (Nat.le_of_ble_eq_true rfl) dJ11_copyOf_6) (by decide) (fun a2 => ?_)
  exact bp_j_aretN rfl (Or.inr ⟨_, rfl⟩) dJ11_copyOf_9
/-- java/util/ArrayList.grow(I)[Ljava/lang/Object; -/
abbrev iJ2_grow_2 : bp_MI := (yJ2_grow_2, cJ2_grow_2, 4, some ((Jvm.ClassFile.FieldType.array (Jvm.ClassFile.FieldType.object "java/lang/Object"))), [], 3, 124)
def PJ2_grow_2 (a0 : Nat) (xp1 : Int32) : bp_M Nat :=
  bp_getN 6 1 a0 fun a1 =>
  bp_alen 27 a1 fun x2 =>
  bp_jn (fun (k3 : bp_M Nat) =>
  bp_if (0 < x2) (
  k3) (
  bp_getN 6 1 a0 fun a7 =>
  bp_gets 8 fun a8 =>
  bp_if ((some a7) = (some a8)) (
  bp_letI (if (10 : Int32) < xp1 then xp1 else (10 : Int32)) fun x9 =>
  bp_newa 27 x9 fun a10 =>
  bp_putR 6 1 a0 (some a10) <|
  bp_ret a10) (
  k3))) (bp_bind (PJ10_newLength x2 (xp1 - x2) (x2 >>> ((1 : Int32) &&& 31))) fun x4 =>
  bp_getN 6 1 a0 fun a5 =>
  bp_bind (PJ11_copyOf a5 x4) fun a6 =>
  bp_putR 6 1 a0 (some a6) <|
  bp_ret a6)
set_option maxHeartbeats 4000000 in
set_option maxRecDepth 100000 in
theorem cnJ2_grow_2 {G : bp_GT} (a0 : Nat) (xp1 : Int32) : bp_Con G iJ2_grow_2 (ws_ iJ2_grow_2.1 iJ2_grow_2.2.1 iJ2_grow_2.2.2.1 iJ2_grow_2.2.2.2.1) [.ref a0, .int xp1] (PJ2_grow_2 a0 xp1) bp_eN := by
  refine bp_con_of [(0, .ref a0), (1, .int xp1)] rfl (by decide) (Nat.le_of_ble_eq_true rfl) rfl ?_
  unfold PJ2_grow_2
  refine bp_j_aload_n 0 dJ2_grow_2_0 rfl ?_
  refine bp_j_getN (t := 6) (k := 1) rfl (by decide) (bp_lk q121) dJ2_grow_2_1 (fun _ _ _ => rfl) (fun a1 => ?_)
  refine bp_j_alen (t := 27) rfl dJ2_grow_2_4 (fun x2 => ?_)
  refine bp_j_istore_n (lv' := [(2, .int x2), (0, .ref a0), (1, .int xp1)]) dJ2_grow_2_5 (by decide) rfl ?_
  refine bp_j_iload_n 0 dJ2_grow_2_6 rfl ?_
  refine bp_j_jm (fun k => bp_J G iJ2_grow_2 (bp_Qn G bp_eN) (k) 20 [(0, .ref a0), (1, .int xp1), (2, .int x2)] []) (fun k3 hk3 => ?_) ?_
  · refine bp_j_if_gt (tgt := 20) dJ2_grow_2_7 (by decide) ?_ ?_
    · exact bp_j_sub [1, 2, 0] rfl (hk3)
    refine bp_j_aload_n 1 dJ2_grow_2_10 rfl ?_
    refine bp_j_getN (t := 6) (k := 1) rfl (by decide) (bp_lk q121) dJ2_grow_2_11 (fun _ _ _ => rfl) (fun a7 => ?_)
    refine bp_j_gets (j := 8) rfl (bp_lk q119) dJ2_grow_2_14 (fun a8 => ?_)
    refine bp_j_acmp_eq (x := (some a7)) (y := (some a8)) (tgt := 45) dJ2_grow_2_17 (by decide) ?_ ?_
    · refine bp_j_aload_n 1 dJ2_grow_2_45 rfl ?_
      refine bp_j_bipush (v := 10) dJ2_grow_2_46 (by decide) ?_
      refine bp_j_iload_n 2 dJ2_grow_2_48 rfl ?_
      refine bp_j_mmax q561 q177 q77 q178 (by decide) (Nat.le_of_ble_eq_true rfl) dJ2_grow_2_49 (fun x9 => ?_)
      refine bp_j_anewarray (t := 27) rfl (by decide) (by decide) q562 dJ2_grow_2_52 (fun a10 => ?_)
      refine bp_j_dup_x1 dJ2_grow_2_55 rfl rfl ?_
      refine bp_j_putR (t := 6) (k := 1) (some a10) rfl (by decide) (by decide) (bp_lk q121) rfl dJ2_grow_2_56 (fun _ _ _ => rfl) ?_
      exact bp_j_aretN rfl (Or.inr ⟨_, rfl⟩) dJ2_grow_2_59
    exact bp_j_sub [1, 2, 0] rfl (hk3)
  refine bp_j_iload_n 2 dJ2_grow_2_20 rfl ?_
  refine bp_j_iload_n 1 dJ2_grow_2_21 rfl ?_
  refine bp_j_iload_n 2 dJ2_grow_2_22 rfl ?_
  refine bp_j_isub dJ2_grow_2_23 ?_
  refine bp_j_iload_n 2 dJ2_grow_2_24 rfl ?_
  refine bp_j_iconst (v := 1) dJ2_grow_2_25 (by decide) ?_
  refine bp_j_ishr dJ2_grow_2_26 ?_
  refine bp_j_cl_I (bp_ranS (n := 3) (As := [.int x2, .int (xp1 - x2), .int (x2 >>> ((1 : Int32) &&& 31))]) (cnJ10_newLength (G := G) x2 (xp1 - x2) (x2 >>> ((1 : Int32) &&& 31))) (lw_S q524 q525 q88 q526) ⟨by decide +kernel, by decide +kernel, by decide +kernel⟩ ⟨by decide, by decide⟩ (rest := []) rfl rfl (Nat.le_of_ble_eq_true rfl) dJ2_grow_2_27) (by decide) (fun x4 => ?_)
  refine bp_j_istore_n (lv' := [(3, .int x4), (0, .ref a0), (1, .int xp1), (2, .int x2)]) dJ2_grow_2_30 (by decide) rfl ?_
  refine bp_j_aload_n 1 dJ2_grow_2_31 rfl ?_
  refine bp_j_aload_n 1 dJ2_grow_2_32 rfl ?_
  refine bp_j_getN (t := 6) (k := 1) rfl (by decide) (bp_lk q121) dJ2_grow_2_33 (fun _ _ _ => rfl) (fun a5 => ?_)
  refine bp_j_iload_n 0 dJ2_grow_2_36 rfl ?_
  refine bp_j_cl_N (bp_ranS (n := 2) (As := [.ref a5, .int x4]) (cnJ11_copyOf (G := G) a5 x4) (lw_S q532 q533 q89 q534) ⟨by decide +kernel, by decide +kernel, by decide +kernel⟩ ⟨by decide, by decide⟩ (rest := [.ref a0]) rfl rfl (Nat.le_of_ble_eq_true rfl) dJ2_grow_2_37) (by decide) (fun a6 => ?_)
  refine bp_j_dup_x1 dJ2_grow_2_40 rfl rfl ?_
  refine bp_j_putR (t := 6) (k := 1) (some a6) rfl (by decide) (by decide) (bp_lk q121) rfl dJ2_grow_2_41 (fun _ _ _ => rfl) ?_
  exact bp_j_aretN rfl (Or.inr ⟨_, rfl⟩) dJ2_grow_2_44
/-- java/util/ArrayList.grow()[Ljava/lang/Object; -/
abbrev iJ2_grow : bp_MI := (yJ2_grow, cJ2_grow, 1, some ((Jvm.ClassFile.FieldType.array (Jvm.ClassFile.FieldType.object "java/lang/Object"))), [], 4, 147)
def PJ2_grow (a0 : Nat) : bp_M Nat :=
  bp_getI 6 2 a0 fun x1 =>
  bp_bind (bp_is 6 a0 (PJ2_grow_2 a0 (x1 + (1 : Int32)))) fun a2 =>
  bp_ret a2
set_option maxHeartbeats 4000000 in
set_option maxRecDepth 100000 in
theorem cnJ2_grow {G : bp_GT} (a0 : Nat) : bp_Con G iJ2_grow (ws_ iJ2_grow.1 iJ2_grow.2.1 iJ2_grow.2.2.1 iJ2_grow.2.2.2.1) [.ref a0] (PJ2_grow a0) bp_eN := by
  refine bp_con_of [(0, .ref a0)] rfl (by decide) (Nat.le_of_ble_eq_true rfl) rfl ?_
  unfold PJ2_grow
  refine bp_j_aload_n 0 dJ2_grow_0 rfl ?_
  refine bp_j_aload_n 0 dJ2_grow_1 rfl ?_
  refine bp_j_getI (t := 6) (k := 2) rfl (by decide) (bp_lk q124) dJ2_grow_2 (fun _ _ _ => rfl) (fun x1 => ?_)
  refine bp_j_iconst (v := 1) dJ2_grow_5 (by decide) ?_
  refine bp_j_iadd dJ2_grow_6 ?_
  refine bp_j_cl_N (bp_ranV (t := 6) (n := 1) (As := [.int (x1 + (1 : Int32))]) (cnJ2_grow_2 (G := G) a0 (x1 + (1 : Int32))) rfl (lw_V q520 q522 qs8 q75 q523) ⟨rfl, by decide +kernel, by decide +kernel, by decide +kernel⟩ ⟨by decide, by decide⟩ (rest := []) rfl rfl (Nat.le_of_ble_eq_true rfl) dJ2_grow_7) (by decide) (fun a2 => ?_)
  exact bp_j_aretN rfl (Or.inr ⟨_, rfl⟩) dJ2_grow_10
/-- java/util/ArrayList.add(Ljava/lang/Object;[Ljava/lang/Object;I)V -/
abbrev iJ2_add_2 : bp_MI := (yJ2_add_2, cJ2_add_2, 4, none, [], 5, 167)
def PJ2_add_2 (a0 : Nat) (bp1 : Nat) (bp2 : Nat) (xp3 : Int32) : bp_M Unit :=
  bp_alen 27 bp2 fun x1 =>
  bp_jn (fun (k3 : Nat → bp_M Unit) =>
  bp_if (xp3 = x1) (
  bp_bind (bp_is 6 a0 (PJ2_grow a0)) fun a4 =>
  k3 a4) (
  k3 bp2)) (fun (a2 : Nat) =>
  bp_astO 3 a2 xp3 bp1 <|
  bp_putI 6 2 a0 (xp3 + (1 : Int32)) <|
  bp_ret ())
set_option maxHeartbeats 4000000 in
set_option maxRecDepth 100000 in
theorem cnJ2_add_2 {G : bp_GT} (a0 : Nat) (bp1 : Nat) (bp2 : Nat) (xp3 : Int32) : bp_Con G iJ2_add_2 (ws_ iJ2_add_2.1 iJ2_add_2.2.1 iJ2_add_2.2.2.1 iJ2_add_2.2.2.2.1) [.ref a0, .ref bp1, .ref bp2, .int xp3] (PJ2_add_2 a0 bp1 bp2 xp3) bp_eU := by
  refine bp_con_of [(0, .ref a0), (1, .ref bp1), (2, .ref bp2), (3, .int xp3)] rfl (by decide) (Nat.le_of_ble_eq_true rfl) rfl ?_
  unfold PJ2_add_2
  refine bp_j_iload_n 3 dJ2_add_2_0 rfl ?_
  refine bp_j_aload_n 2 dJ2_add_2_1 rfl ?_
  refine bp_j_alen (t := 27) rfl dJ2_add_2_2 (fun x1 => ?_)
  refine bp_j_jm (fun k => ∀ (a2 : Nat), bp_J G iJ2_add_2 (bp_Qn G bp_eU) (k a2) 11 [(0, .ref a0), (1, .ref bp1), (2, .ref a2), (3, .int xp3)] []) (fun k3 hk3 => ?_) (fun a2 => ?_)
  · refine bp_j_icmp_ne (tgt := 11) dJ2_add_2_3 (by decide) ?_ ?_
    · exact hk3 bp2
    refine bp_j_aload_n 0 dJ2_add_2_6 rfl ?_
    refine bp_j_cl_N (bp_ranV (t := 6) (n := 0) (As := []) (cnJ2_grow (G := G) a0 ) rfl (lw_V q516 q518 qs7 q75 q519) ⟨rfl, by decide +kernel, by decide +kernel, by decide +kernel⟩ ⟨by decide, by decide⟩ (rest := []) rfl rfl (Nat.le_of_ble_eq_true rfl) dJ2_add_2_7) (by decide) (fun a4 => ?_)
    refine bp_j_astore_n (lv' := [(2, .ref a4), (0, .ref a0), (1, .ref bp1), (3, .int xp3)]) dJ2_add_2_10 (by decide) rfl ?_
    exact bp_j_sub [1, 2, 0, 3] rfl (hk3 a4)
  refine bp_j_aload_n 2 dJ2_add_2_11 rfl ?_
  refine bp_j_iload_n 3 dJ2_add_2_12 rfl ?_
  refine bp_j_aload_n 1 dJ2_add_2_13 rfl ?_
  refine bp_j_aastoreO (tv := 3) rfl q1497 dJ2_add_2_14 ?_
  refine bp_j_aload_n 0 dJ2_add_2_15 rfl ?_
  refine bp_j_iload_n 3 dJ2_add_2_16 rfl ?_
  refine bp_j_iconst (v := 1) dJ2_add_2_17 (by decide) ?_
  refine bp_j_iadd dJ2_add_2_18 ?_
  refine bp_j_putI (t := 6) (k := 2) rfl (by decide) (by decide) (bp_lk q124) rfl dJ2_add_2_19 rfl ?_
  exact bp_j_vret rfl dJ2_add_2_22
/-- java/util/ArrayList.add(Ljava/lang/Object;)Z -/
abbrev iJ2_add : bp_MI := (yJ2_add, cJ2_add, 2, some (Jvm.ClassFile.FieldType.boolean), [], 6, 190)
def PJ2_add (a0 : Nat) (bp1 : Nat) : bp_M Int32 :=
  bp_getI 6 0 a0 fun x1 =>
  bp_putI 6 0 a0 (x1 + (1 : Int32)) <|
  bp_getN 6 1 a0 fun a2 =>
  bp_getI 6 2 a0 fun x3 =>
  bp_bind (bp_is 6 a0 (PJ2_add_2 a0 bp1 a2 x3)) fun _ =>
  bp_retZ (1 : Int32)
set_option maxHeartbeats 4000000 in
set_option maxRecDepth 100000 in
theorem cnJ2_add {G : bp_GT} (a0 : Nat) (bp1 : Nat) : bp_Con G iJ2_add (ws_ iJ2_add.1 iJ2_add.2.1 iJ2_add.2.2.1 iJ2_add.2.2.2.1) [.ref a0, .ref bp1] (PJ2_add a0 bp1) bp_eI := by
  refine bp_con_of [(0, .ref a0), (1, .ref bp1)] rfl (by decide) (Nat.le_of_ble_eq_true rfl) rfl ?_
  unfold PJ2_add
  refine bp_j_aload_n 0 dJ2_add_0 rfl ?_
  refine bp_j_dup dJ2_add_1 rfl ?_
  refine bp_j_getI (t := 6) (k := 0) rfl (by decide) (bp_lkS q128 q127) dJ2_add_2 (fun _ _ _ => rfl) (fun x1 => ?_)
  refine bp_j_iconst (v := 1) dJ2_add_5 (by decide) ?_
  refine bp_j_iadd dJ2_add_6 ?_
  refine bp_j_putI (t := 6) (k := 0) rfl (by decide) (by decide) (bp_lkS q128 q127) rfl dJ2_add_7 rfl ?_
  refine bp_j_aload_n 0 dJ2_add_10 rfl ?_
  refine bp_j_aload_n 1 dJ2_add_11 rfl ?_
  refine bp_j_aload_n 0 dJ2_add_12 rfl ?_
  refine bp_j_getN (t := 6) (k := 1) rfl (by decide) (bp_lk q121) dJ2_add_13 (fun _ _ _ => rfl) (fun a2 => ?_)
  refine bp_j_aload_n 0 dJ2_add_16 rfl ?_
  refine bp_j_getI (t := 6) (k := 2) rfl (by decide) (bp_lk q124) dJ2_add_17 (fun _ _ _ => rfl) (fun x3 => ?_)
  refine bp_j_cl_U (bp_ranV (t := 6) (n := 3) (As := [.ref bp1, .ref a2, .int x3]) (cnJ2_add_2 (G := G) a0 bp1 a2 x3) rfl (lw_V q512 q514 qs6 q75 q515) ⟨rfl, by decide +kernel, by decide +kernel, by decide +kernel⟩ ⟨by decide, by decide⟩ (rest := []) rfl rfl (Nat.le_of_ble_eq_true rfl) dJ2_add_20) (by decide) (fun _ => ?_)
  refine bp_j_iconst (v := 1) dJ2_add_23 (by decide) ?_
  exact bp_j_zret rfl dJ2_add_24
/-- java/util/ArrayList$Itr.hasNext()Z -/
abbrev iJ18_hasNext : bp_MI := (yJ18_hasNext, cJ18_hasNext, 1, some (Jvm.ClassFile.FieldType.boolean), [], 0, 0)
def PJ18_hasNext (a0 : Nat) : bp_M Int32 :=
  bp_getI 7 0 a0 fun x1 =>
  bp_getN 7 3 a0 fun a2 =>
  bp_getI 6 2 a2 fun x3 =>
  bp_if (x1 = x3) (
  bp_retZ (0 : Int32)) (
  bp_retZ (1 : Int32))
set_option maxHeartbeats 4000000 in
set_option maxRecDepth 100000 in
theorem cnJ18_hasNext {G : bp_GT} (a0 : Nat) : bp_Con G iJ18_hasNext (ws_ iJ18_hasNext.1 iJ18_hasNext.2.1 iJ18_hasNext.2.2.1 iJ18_hasNext.2.2.2.1) [.ref a0] (PJ18_hasNext a0) bp_eI := by
  refine bp_con_of [(0, .ref a0)] rfl (by decide) (Nat.le_of_ble_eq_true rfl) rfl ?_
  unfold PJ18_hasNext
  refine bp_j_aload_n 0 dJ18_hasNext_0 rfl ?_
  refine bp_j_getI (t := 7) (k := 0) rfl (by decide) (bp_lk q937) dJ18_hasNext_1 (fun _ _ _ => rfl) (fun x1 => ?_)
  refine bp_j_aload_n 0 dJ18_hasNext_4 rfl ?_
  refine bp_j_getN (t := 7) (k := 3) rfl (by decide) (bp_lk q940) dJ18_hasNext_5 (fun _ _ _ => rfl) (fun a2 => ?_)
  refine bp_j_getI (t := 6) (k := 2) rfl (by decide) (bp_lkN q123) dJ18_hasNext_8 (fun _ _ _ => rfl) (fun x3 => ?_)
  refine bp_j_icmp_eq (tgt := 18) dJ18_hasNext_11 (by decide) ?_ ?_
  · refine bp_j_iconst (v := 0) dJ18_hasNext_18 (by decide) ?_
    exact bp_j_zret rfl dJ18_hasNext_19
  refine bp_j_iconst (v := 1) dJ18_hasNext_14 (by decide) ?_
  refine bp_j_goto (tgt := 19) dJ18_hasNext_15 (by decide) ?_
  exact bp_j_zret rfl dJ18_hasNext_19
/-- java/util/ArrayList$Itr.checkForComodification()V -/
abbrev iJ18_checkForComodification : bp_MI := (yJ18_checkForComodification, cJ18_checkForComodification, 1, none, [], 0, 0)
def PJ18_checkForComodification (a0 : Nat) : bp_M Unit :=
  bp_getN 7 3 a0 fun a1 =>
  bp_getI 6 0 a1 fun x2 =>
  bp_getI 7 2 a0 fun x3 =>
  bp_if (x2 = x3) (
  bp_ret ()) (
  bp_no)
set_option maxHeartbeats 4000000 in
set_option maxRecDepth 100000 in
theorem cnJ18_checkForComodification {G : bp_GT} (a0 : Nat) : bp_Con G iJ18_checkForComodification (ws_ iJ18_checkForComodification.1 iJ18_checkForComodification.2.1 iJ18_checkForComodification.2.2.1 iJ18_checkForComodification.2.2.2.1) [.ref a0] (PJ18_checkForComodification a0) bp_eU := by
  refine bp_con_of [(0, .ref a0)] rfl (by decide) (Nat.le_of_ble_eq_true rfl) rfl ?_
  unfold PJ18_checkForComodification
  refine bp_j_aload_n 0 dJ18_checkForComodification_0 rfl ?_
  refine bp_j_getN (t := 7) (k := 3) rfl (by decide) (bp_lk q940) dJ18_checkForComodification_1 (fun _ _ _ => rfl) (fun a1 => ?_)
  refine bp_j_getI (t := 6) (k := 0) rfl (by decide) (bp_lkS q126 q127) dJ18_checkForComodification_4 (fun _ _ _ => rfl) (fun x2 => ?_)
  refine bp_j_aload_n 0 dJ18_checkForComodification_7 rfl ?_
  refine bp_j_getI (t := 7) (k := 2) rfl (by decide) (bp_lk q939) dJ18_checkForComodification_8 (fun _ _ _ => rfl) (fun x3 => ?_)
  refine bp_j_icmp_eq (tgt := 22) dJ18_checkForComodification_11 (by decide) ?_ ?_
  · exact bp_j_vret rfl dJ18_checkForComodification_22
  exact bp_j_no
/-- java/util/ArrayList$Itr.next()Ljava/lang/Object; -/
abbrev iJ18_next : bp_MI := (yJ18_next, cJ18_next, 3, some ((Jvm.ClassFile.FieldType.object "java/lang/Object")), [], 1, 20)
def PJ18_next (a0 : Nat) : bp_M Nat :=
  bp_bind (bp_is 7 a0 (PJ18_checkForComodification a0)) fun _ =>
  bp_getI 7 0 a0 fun x1 =>
  bp_getN 7 3 a0 fun a2 =>
  bp_getI 6 2 a2 fun x3 =>
  bp_if (x1 < x3) (
  bp_getN 7 3 a0 fun a4 =>
  bp_getN 6 1 a4 fun a5 =>
  bp_alen 27 a5 fun x6 =>
  bp_if (x1 < x6) (
  bp_putI 7 0 a0 (x1 + (1 : Int32)) <|
  bp_putI 7 1 a0 x1 <|
  bp_aldN 27 a5 x1 fun a7 =>
  bp_ret a7) (
  bp_no)) (
  bp_no)
set_option maxHeartbeats 4000000 in
set_option maxRecDepth 100000 in
theorem cnJ18_next {G : bp_GT} (a0 : Nat) : bp_Con G iJ18_next (ws_ iJ18_next.1 iJ18_next.2.1 iJ18_next.2.2.1 iJ18_next.2.2.2.1) [.ref a0] (PJ18_next a0) bp_eN := by
  refine bp_con_of [(0, .ref a0)] rfl (by decide) (Nat.le_of_ble_eq_true rfl) rfl ?_
  unfold PJ18_next
  refine bp_j_aload_n 0 dJ18_next_0 rfl ?_
  refine bp_j_cl_U (bp_ranV (t := 7) (n := 0) (As := []) (cnJ18_checkForComodification (G := G) a0 ) rfl (lw_V q969 q970 q971 q97 q972) ⟨rfl, by decide +kernel, by decide +kernel, by decide +kernel⟩ ⟨by decide, by decide⟩ (rest := []) rfl rfl (Nat.le_of_ble_eq_true rfl) dJ18_next_1) (by decide) (fun _ => ?_)
  refine bp_j_aload_n 0 dJ18_next_4 rfl ?_
  refine bp_j_getI (t := 7) (k := 0) rfl (by decide) (bp_lk q937) dJ18_next_5 (fun _ _ _ => rfl) (fun x1 => ?_)
  refine bp_j_istore_n (lv' := [(1, .int x1), (0, .ref a0)]) dJ18_next_8 (by decide) rfl ?_
  refine bp_j_iload_n 0 dJ18_next_9 rfl ?_
  refine bp_j_aload_n 1 dJ18_next_10 rfl ?_
  refine bp_j_getN (t := 7) (k := 3) rfl (by decide) (bp_lk q940) dJ18_next_11 (fun _ _ _ => rfl) (fun a2 => ?_)
  refine bp_j_getI (t := 6) (k := 2) rfl (by decide) (bp_lkN q123) dJ18_next_14 (fun _ _ _ => rfl) (fun x3 => ?_)
  refine bp_j_icmp_lt (tgt := 28) dJ18_next_17 (by decide) ?_ ?_
  · refine bp_j_aload_n 1 dJ18_next_28 rfl ?_
    refine bp_j_getN (t := 7) (k := 3) rfl (by decide) (bp_lk q940) dJ18_next_29 (fun _ _ _ => rfl) (fun a4 => ?_)
    refine bp_j_getN (t := 6) (k := 1) rfl (by decide) (bp_lk q122) dJ18_next_32 (fun _ _ _ => rfl) (fun a5 => ?_)
    refine bp_j_astore_n (lv' := [(2, .ref a5), (1, .int x1), (0, .ref a0)]) dJ18_next_35 (by decide) rfl ?_
    refine bp_j_iload_n 1 dJ18_next_36 rfl ?_
    refine bp_j_aload_n 0 dJ18_next_37 rfl ?_
    refine bp_j_alen (t := 27) rfl dJ18_next_38 (fun x6 => ?_)
    refine bp_j_icmp_lt (tgt := 50) dJ18_next_39 (by decide) ?_ ?_
    · refine bp_j_aload_n 2 dJ18_next_50 rfl ?_
      refine bp_j_iload_n 1 dJ18_next_51 rfl ?_
      refine bp_j_iconst (v := 1) dJ18_next_52 (by decide) ?_
      refine bp_j_iadd dJ18_next_53 ?_
      refine bp_j_putI (t := 7) (k := 0) rfl (by decide) (by decide) (bp_lk q937) rfl dJ18_next_54 rfl ?_
      refine bp_j_aload_n 0 dJ18_next_57 rfl ?_
      refine bp_j_aload_n 2 dJ18_next_58 rfl ?_
      refine bp_j_iload_n 1 dJ18_next_59 rfl ?_
      refine bp_j_dup_x1 dJ18_next_60 rfl rfl ?_
      refine bp_j_putI (t := 7) (k := 1) rfl (by decide) (by decide) (bp_lk q938) rfl dJ18_next_61 rfl ?_
      refine bp_j_aaloadN (t := 27) rfl dJ18_next_64 (fun a7 => ?_)
      exact bp_j_aretN rfl (Or.inl ⟨_, rfl⟩) dJ18_next_65
    exact bp_j_no
  exact bp_j_no
/-- java/util/ArrayList$Itr.<init>(Ljava/util/ArrayList;)V -/
abbrev iJ18_init : bp_MI := (yJ18_init, cJ18_init, 2, none, [], 1, 40)
def PJ18_init (a0 : Nat) (bp1 : Nat) : bp_M Unit :=
  bp_putR 7 3 a0 (some bp1) <|
  bp_putI 7 1 a0 (-1 : Int32) <|
  bp_getN 7 3 a0 fun a1 =>
  bp_getI 6 0 a1 fun x2 =>
  bp_putI 7 2 a0 x2 <|
  bp_ret ()
set_option maxHeartbeats 4000000 in
set_option maxRecDepth 100000 in
theorem cnJ18_init {G : bp_GT} (a0 : Nat) (bp1 : Nat) : bp_Con G iJ18_init (ws_ iJ18_init.1 iJ18_init.2.1 iJ18_init.2.2.1 iJ18_init.2.2.2.1) [.ref a0, .ref bp1] (PJ18_init a0 bp1) bp_eU := by
  refine bp_con_of [(0, .ref a0), (1, .ref bp1)] rfl (by decide) (Nat.le_of_ble_eq_true rfl) rfl ?_
  unfold PJ18_init
  refine bp_j_aload_n 0 dJ18_init_0 rfl ?_
  refine bp_j_aload_n 1 dJ18_init_1 rfl ?_
  refine bp_j_putFR (t := 7) (k := 3) (some bp1) rfl (by decide) (by decide) q940 rfl rfl rfl dJ18_init_2 (fun _ _ _ => rfl) ?_
  refine bp_j_aload_n 0 dJ18_init_5 rfl ?_
  refine bp_j_objInit q936 q105 q106 dJ18_init_6 (by decide) (Nat.le_of_ble_eq_true rfl) ?_
  refine bp_j_aload_n 0 dJ18_init_9 rfl ?_
  refine bp_j_iconst (v := -1) dJ18_init_10 (by decide) ?_
  refine bp_j_putI (t := 7) (k := 1) rfl (by decide) (by decide) (bp_lk q938) rfl dJ18_init_11 rfl ?_
  refine bp_j_aload_n 0 dJ18_init_14 rfl ?_
  refine bp_j_aload_n 0 dJ18_init_15 rfl ?_
  refine bp_j_getN (t := 7) (k := 3) rfl (by decide) (bp_lk q940) dJ18_init_16 (fun _ _ _ => rfl) (fun a1 => ?_)
  refine bp_j_getI (t := 6) (k := 0) rfl (by decide) (bp_lkS q126 q127) dJ18_init_19 (fun _ _ _ => rfl) (fun x2 => ?_)
  refine bp_j_putI (t := 7) (k := 2) rfl (by decide) (by decide) (bp_lk q939) rfl dJ18_init_22 rfl ?_
  exact bp_j_vret rfl dJ18_init_25
/-- java/util/ArrayList.iterator()Ljava/util/Iterator; -/
abbrev iJ2_iterator : bp_MI := (yJ2_iterator, cJ2_iterator, 1, some ((Jvm.ClassFile.FieldType.object "java/util/Iterator")), [], 2, 61)
def PJ2_iterator (a0 : Nat) : bp_M Nat :=
  bp_new 7 4 fun a1 =>
  bp_bind (PJ18_init a1 a0) fun _ =>
  bp_ret a1
set_option maxHeartbeats 4000000 in
set_option maxRecDepth 100000 in
theorem cnJ2_iterator {G : bp_GT} (a0 : Nat) : bp_Con G iJ2_iterator (ws_ iJ2_iterator.1 iJ2_iterator.2.1 iJ2_iterator.2.2.1 iJ2_iterator.2.2.2.1) [.ref a0] (PJ2_iterator a0) bp_eN := by
  refine bp_con_of [(0, .ref a0)] rfl (by decide) (Nat.le_of_ble_eq_true rfl) rfl ?_
  unfold PJ2_iterator
  refine bp_j_new (t := 7) (n := 4) rfl (by decide) rfl (by decide) q931 q932 q97 dJ2_iterator_0 (fun a1 => ?_)
  refine bp_j_dup dJ2_iterator_3 rfl ?_
  refine bp_j_aload_n 0 dJ2_iterator_4 rfl ?_
  refine bp_j_cl_U (bp_ranI (n := 1) (As := [.ref a0]) rfl (cnJ18_init (G := G) a1 a0) q935 q97 q933 q934 rfl ⟨by decide +kernel, by decide +kernel, by decide +kernel⟩ ⟨by decide, by decide⟩ (rest := [.ref a1]) rfl rfl (Nat.le_of_ble_eq_true rfl) dJ2_iterator_5) (by decide) (fun _ => ?_)
  exact bp_j_aretN rfl (Or.inl ⟨_, rfl⟩) dJ2_iterator_8
/-- java/lang/Enum.ordinal()I -/
abbrev iJ4_ordinal : bp_MI := (yJ4_ordinal, cJ4_ordinal, 1, some (Jvm.ClassFile.FieldType.int), [], 0, 0)
def PJ4_ordinal (a0 : Nat) : bp_M Int32 :=
  bp_getI 8 2 a0 fun x1 =>
  bp_ret x1
set_option maxHeartbeats 4000000 in
set_option maxRecDepth 100000 in
theorem cnJ4_ordinal {G : bp_GT} (a0 : Nat) : bp_Con G iJ4_ordinal (ws_ iJ4_ordinal.1 iJ4_ordinal.2.1 iJ4_ordinal.2.2.1 iJ4_ordinal.2.2.2.1) [.ref a0] (PJ4_ordinal a0) bp_eI := by
  refine bp_con_of [(0, .ref a0)] rfl (by decide) (Nat.le_of_ble_eq_true rfl) rfl ?_
  unfold PJ4_ordinal
  refine bp_j_aload_n 0 dJ4_ordinal_0 rfl ?_
  refine bp_j_getI (t := 8) (k := 2) rfl (by decide) (bp_lk q1527) dJ4_ordinal_1 (fun _ _ _ => rfl) (fun x1 => ?_)
  exact bp_j_iret rfl dJ4_ordinal_4
/-- java/util/ArrayList.clear()V -/
abbrev iJ2_clear : bp_MI := (yJ2_clear, cJ2_clear, 4, none, [], 0, 0)
def BJ2_clear_27 (a2 : Nat) (x3 : Int32) (k5 : Int32 → bp_M Unit) : Int32 → bp_M Unit :=
  fun x4 =>
  bp_if (x3 ≤ x4) (
  bp_ret ()) (
  bp_ast0 27 a2 x4 <|
  bp_letI (x4 + (1 : Int32)) fun x6 =>
  k5 x6)
def PJ2_clear (a0 : Nat) : bp_M Unit :=
  bp_getI 6 0 a0 fun x1 =>
  bp_putI 6 0 a0 (x1 + (1 : Int32)) <|
  bp_getN 6 1 a0 fun a2 =>
  bp_getI 6 2 a0 fun x3 =>
  bp_putI 6 2 a0 (0 : Int32) <|
  bp_loop (fun _ => bp_no) (BJ2_clear_27 a2 x3) (fun k => k (0 : Int32))
set_option maxHeartbeats 4000000 in
set_option maxRecDepth 100000 in
theorem cnJ2_clear {G : bp_GT} (a0 : Nat) : bp_Con G iJ2_clear (ws_ iJ2_clear.1 iJ2_clear.2.1 iJ2_clear.2.2.1 iJ2_clear.2.2.2.1) [.ref a0] (PJ2_clear a0) bp_eU := by
  refine bp_con_of [(0, .ref a0)] rfl (by decide) (Nat.le_of_ble_eq_true rfl) rfl ?_
  unfold PJ2_clear
  refine bp_j_aload_n 0 dJ2_clear_0 rfl ?_
  refine bp_j_dup dJ2_clear_1 rfl ?_
  refine bp_j_getI (t := 6) (k := 0) rfl (by decide) (bp_lkS q128 q127) dJ2_clear_2 (fun _ _ _ => rfl) (fun x1 => ?_)
  refine bp_j_iconst (v := 1) dJ2_clear_5 (by decide) ?_
  refine bp_j_iadd dJ2_clear_6 ?_
  refine bp_j_putI (t := 6) (k := 0) rfl (by decide) (by decide) (bp_lkS q128 q127) rfl dJ2_clear_7 rfl ?_
  refine bp_j_aload_n 0 dJ2_clear_10 rfl ?_
  refine bp_j_getN (t := 6) (k := 1) rfl (by decide) (bp_lk q121) dJ2_clear_11 (fun _ _ _ => rfl) (fun a2 => ?_)
  refine bp_j_astore_n (lv' := [(1, .ref a2), (0, .ref a0)]) dJ2_clear_14 (by decide) rfl ?_
  refine bp_j_aload_n 1 dJ2_clear_15 rfl ?_
  refine bp_j_getI (t := 6) (k := 2) rfl (by decide) (bp_lk q124) dJ2_clear_16 (fun _ _ _ => rfl) (fun x3 => ?_)
  refine bp_j_istore_n (lv' := [(2, .int x3), (1, .ref a2), (0, .ref a0)]) dJ2_clear_19 (by decide) rfl ?_
  refine bp_j_aload_n 2 dJ2_clear_20 rfl ?_
  refine bp_j_iconst (v := 0) dJ2_clear_21 (by decide) ?_
  refine bp_j_dup_x1 dJ2_clear_22 rfl rfl ?_
  refine bp_j_putI (t := 6) (k := 2) rfl (by decide) (by decide) (bp_lk q124) rfl dJ2_clear_23 rfl ?_
  refine bp_j_istore_n (lv' := [(3, .int (0 : Int32)), (2, .int x3), (1, .ref a2), (0, .ref a0)]) dJ2_clear_26 (by decide) rfl ?_
  refine bp_j_loop (fun k => ∀ (x4 : Int32), bp_J G iJ2_clear (bp_Qn G bp_eU) (k x4) 27 [(1, .ref a2), (2, .int x3), (3, .int x4)] []) (fun _ => bp_j_no) (fun k5 hk5 x4 => ?_) (fun k h => bp_j_sub [2, 1, 0] rfl (h (0 : Int32)))
  unfold BJ2_clear_27
  refine bp_j_iload_n 2 dJ2_clear_27 rfl ?_
  refine bp_j_iload_n 1 dJ2_clear_28 rfl ?_
  refine bp_j_icmp_ge (tgt := 42) dJ2_clear_29 (by decide) ?_ ?_
  · exact bp_j_vret rfl dJ2_clear_42
  refine bp_j_aload_n 0 dJ2_clear_32 rfl ?_
  refine bp_j_iload_n 2 dJ2_clear_33 rfl ?_
  refine bp_j_null dJ2_clear_34 ?_
  refine bp_j_aastore0 (t := 27) rfl dJ2_clear_35 ?_
  refine bp_j_iincL (lv' := fun x6 => [(3, .int x6), (1, .ref a2), (2, .int x3)]) 2 dJ2_clear_36 rfl (by decide) (by decide) (fun _ => rfl) (fun x6 => ?_)
  refine bp_j_goto (tgt := 27) dJ2_clear_39 (by decide) ?_
  exact bp_j_sub [1, 2, 0] rfl (hk5 x6)
/-- java/util/AbstractCollection.<init>()V -/
abbrev iJ0_init : bp_MI := (yJ0_init, cJ0_init, 1, none, [], 1, 40)
def PJ0_init (a0 : Nat) : bp_M Unit :=
  bp_ret ()
set_option maxHeartbeats 4000000 in
set_option maxRecDepth 100000 in
theorem cnJ0_init {G : bp_GT} (a0 : Nat) : bp_Con G iJ0_init (ws_ iJ0_init.1 iJ0_init.2.1 iJ0_init.2.2.1 iJ0_init.2.2.2.1) [.ref a0] (PJ0_init a0) bp_eU := by
  refine bp_con_of [(0, .ref a0)] rfl (by decide) (Nat.le_of_ble_eq_true rfl) rfl ?_
  unfold PJ0_init
  refine bp_j_aload_n 0 dJ0_init_0 rfl ?_
  refine bp_j_objInit q118 q105 q106 dJ0_init_1 (by decide) (Nat.le_of_ble_eq_true rfl) ?_
  exact bp_j_vret rfl dJ0_init_4
/-- java/util/AbstractList.<init>()V -/
abbrev iJ1_init : bp_MI := (yJ1_init, cJ1_init, 1, none, [], 2, 60)
def PJ1_init (a0 : Nat) : bp_M Unit :=
  bp_bind (PJ0_init a0) fun _ =>
  bp_putI 6 0 a0 (0 : Int32) <|
  bp_ret ()
set_option maxHeartbeats 4000000 in
set_option maxRecDepth 100000 in
theorem cnJ1_init {G : bp_GT} (a0 : Nat) : bp_Con G iJ1_init (ws_ iJ1_init.1 iJ1_init.2.1 iJ1_init.2.2.1 iJ1_init.2.2.2.1) [.ref a0] (PJ1_init a0) bp_eU := by
  refine bp_con_of [(0, .ref a0)] rfl (by decide) (Nat.le_of_ble_eq_true rfl) rfl ?_
  unfold PJ1_init
  refine bp_j_aload_n 0 dJ1_init_0 rfl ?_
  refine bp_j_cl_U (bp_ranI (n := 0) (As := []) rfl (cnJ0_init (G := G) a0 ) q117 q73 q115 q116 rfl ⟨by decide +kernel, by decide +kernel, by decide +kernel⟩ ⟨by decide, by decide⟩ (rest := []) rfl rfl (Nat.le_of_ble_eq_true rfl) dJ1_init_1) (by decide) (fun _ => ?_)
  refine bp_j_aload_n 0 dJ1_init_4 rfl ?_
  refine bp_j_iconst (v := 0) dJ1_init_5 (by decide) ?_
  refine bp_j_putI (t := 6) (k := 0) rfl (by decide) (by decide) (bp_lk q125) rfl dJ1_init_6 rfl ?_
  exact bp_j_vret rfl dJ1_init_9
/-- java/util/ArrayList.<init>()V -/
abbrev iJ2_init : bp_MI := (yJ2_init, cJ2_init, 1, none, [], 3, 80)
def PJ2_init (a0 : Nat) : bp_M Unit :=
  bp_bind (PJ1_init a0) fun _ =>
  bp_gets 8 fun a1 =>
  bp_putR 6 1 a0 (some a1) <|
  bp_ret ()
set_option maxHeartbeats 4000000 in
set_option maxRecDepth 100000 in
theorem cnJ2_init {G : bp_GT} (a0 : Nat) : bp_Con G iJ2_init (ws_ iJ2_init.1 iJ2_init.2.1 iJ2_init.2.2.1 iJ2_init.2.2.2.1) [.ref a0] (PJ2_init a0) bp_eU := by
  refine bp_con_of [(0, .ref a0)] rfl (by decide) (Nat.le_of_ble_eq_true rfl) rfl ?_
  unfold PJ2_init
  refine bp_j_aload_n 0 dJ2_init_0 rfl ?_
  refine bp_j_cl_U (bp_ranI (n := 0) (As := []) rfl (cnJ1_init (G := G) a0 ) q114 q74 q112 q113 rfl ⟨by decide +kernel, by decide +kernel, by decide +kernel⟩ ⟨by decide, by decide⟩ (rest := []) rfl rfl (Nat.le_of_ble_eq_true rfl) dJ2_init_1) (by decide) (fun _ => ?_)
  refine bp_j_aload_n 0 dJ2_init_4 rfl ?_
  refine bp_j_gets (j := 8) rfl (bp_lk q119) dJ2_init_5 (fun a1 => ?_)
  refine bp_j_putR (t := 6) (k := 1) (some a1) rfl (by decide) (by decide) (bp_lk q121) rfl dJ2_init_8 (fun _ _ _ => rfl) ?_
  exact bp_j_vret rfl dJ2_init_11
/-- java/lang/Throwable.<init>(Ljava/lang/String;Ljava/lang/Throwable;ZZ)V -/
abbrev iJ5_init_2 : bp_MI := (yJ5_init_2, cJ5_init_2, 5, none, [], 1, 40)
def PJ5_init_2 (a0 : Nat) (rp1 : Option Nat) (rp2 : Option Nat) (xp3 : Int32) (xp4 : Int32) : bp_M Unit :=
  bp_putR 5 0 a0 (some a0) <|
  bp_getsR 9 fun r1 =>
  bp_putR 5 1 a0 r1 <|
  bp_getsR 10 fun r2 =>
  bp_putR 5 2 a0 r2 <|
  bp_jn (fun (k3 : bp_M Unit) =>
  bp_if (xp4 = 0) (
  bp_putR 5 1 a0 none <|
  k3) (
  bp_no)) (bp_putR 5 3 a0 rp1 <|
  bp_putR 5 0 a0 rp2 <|
  bp_if (xp3 = 0) (
  bp_putR 5 2 a0 none <|
  bp_ret ()) (
  bp_ret ()))
set_option maxHeartbeats 4000000 in
set_option maxRecDepth 100000 in
theorem cnJ5_init_2 {G : bp_GT} (a0 : Nat) (rp1 : Option Nat) (rp2 : Option Nat) (xp3 : Int32) (xp4 : Int32) : bp_Con G iJ5_init_2 (ws_ iJ5_init_2.1 iJ5_init_2.2.1 iJ5_init_2.2.2.1 iJ5_init_2.2.2.2.1) [.ref a0, va_rf rp1, va_rf rp2, .int xp3, .int xp4] (PJ5_init_2 a0 rp1 rp2 xp3 xp4) bp_eU := by
  refine bp_con_of [(0, .ref a0), (1, va_rf rp1), (2, va_rf rp2), (3, .int xp3), (4, .int xp4)] rfl (by decide) (by cases rp1 <;> cases rp2 <;> exact Nat.le_of_ble_eq_true rfl) (by cases rp1 <;> cases rp2 <;> rfl) ?_
  unfold PJ5_init_2
  refine bp_j_aload_n 0 dJ5_init_2_0 rfl ?_
  refine bp_j_objInit q403 q105 q106 dJ5_init_2_1 (by decide) (Nat.le_of_ble_eq_true rfl) ?_
  refine bp_j_aload_n 0 dJ5_init_2_4 rfl ?_
  refine bp_j_aload_n 0 dJ5_init_2_5 rfl ?_
  refine bp_j_putR (t := 5) (k := 0) (some a0) rfl (by decide) (by decide) (bp_lk q437) rfl dJ5_init_2_6 (fun _ _ _ => rfl) ?_
  refine bp_j_aload_n 0 dJ5_init_2_9 rfl ?_
  refine bp_j_getsR (j := 9) rfl (bp_lk q404) dJ5_init_2_10 (fun r1 => ?_)
  refine bp_j_putR (t := 5) (k := 1) r1 rfl (by decide) (by decide) (bp_lk q438) rfl dJ5_init_2_13 (fun _ _ _ => rfl) ?_
  refine bp_j_aload_n 0 dJ5_init_2_16 rfl ?_
  refine bp_j_getsR (j := 10) rfl (bp_lk q406) dJ5_init_2_17 (fun r2 => ?_)
  refine bp_j_putR (t := 5) (k := 2) r2 rfl (by decide) (by decide) (bp_lk q439) rfl dJ5_init_2_20 (fun _ _ _ => rfl) ?_
  refine bp_j_iload 4 dJ5_init_2_23 rfl ?_
  refine bp_j_jm (fun k => bp_J G iJ5_init_2 (bp_Qn G bp_eU) (k) 41 [(0, .ref a0), (1, va_rf rp1), (2, va_rf rp2), (3, .int xp3)] []) (fun k3 hk3 => ?_) ?_
  · refine bp_j_if_eq (tgt := 36) dJ5_init_2_25 (by decide) ?_ ?_
    · refine bp_j_aload_n 0 dJ5_init_2_36 rfl ?_
      refine bp_j_null dJ5_init_2_37 ?_
      refine bp_j_putR (t := 5) (k := 1) none rfl (by decide) (by decide) (bp_lk q438) rfl dJ5_init_2_38 (fun _ _ _ => rfl) ?_
      exact bp_j_sub [0, 1, 2, 3] rfl (hk3)
    refine bp_j_aload_n 0 dJ5_init_2_28 rfl ?_
    exact bp_j_no
  refine bp_j_aload_n 0 dJ5_init_2_41 rfl ?_
  refine bp_j_aload_nR 1 dJ5_init_2_42 rfl ?_
  refine bp_j_putR (t := 5) (k := 3) rp1 rfl (by decide) (by decide) (bp_lk q436) rfl dJ5_init_2_43 (fun _ _ _ => rfl) ?_
  refine bp_j_aload_n 0 dJ5_init_2_46 rfl ?_
  refine bp_j_aload_nR 2 dJ5_init_2_47 rfl ?_
  refine bp_j_putR (t := 5) (k := 0) rp2 rfl (by decide) (by decide) (bp_lk q437) rfl dJ5_init_2_48 (fun _ _ _ => rfl) ?_
  refine bp_j_iload_n 3 dJ5_init_2_51 rfl ?_
  refine bp_j_if_ne (tgt := 60) dJ5_init_2_52 (by decide) ?_ ?_
  · exact bp_j_vret rfl dJ5_init_2_60
  refine bp_j_aload_n 0 dJ5_init_2_55 rfl ?_
  refine bp_j_null dJ5_init_2_56 ?_
  refine bp_j_putR (t := 5) (k := 2) none rfl (by decide) (by decide) (bp_lk q439) rfl dJ5_init_2_57 (fun _ _ _ => rfl) ?_
  exact bp_j_vret rfl dJ5_init_2_60
/-- java/lang/Exception.<init>(Ljava/lang/String;Ljava/lang/Throwable;ZZ)V -/
abbrev iJ6_init : bp_MI := (yJ6_init, cJ6_init, 5, none, [], 2, 64)
def PJ6_init (a0 : Nat) (rp1 : Option Nat) (rp2 : Option Nat) (xp3 : Int32) (xp4 : Int32) : bp_M Unit :=
  bp_bind (PJ5_init_2 a0 rp1 rp2 xp3 xp4) fun _ =>
  bp_ret ()
set_option maxHeartbeats 4000000 in
set_option maxRecDepth 100000 in
theorem cnJ6_init {G : bp_GT} (a0 : Nat) (rp1 : Option Nat) (rp2 : Option Nat) (xp3 : Int32) (xp4 : Int32) : bp_Con G iJ6_init (ws_ iJ6_init.1 iJ6_init.2.1 iJ6_init.2.2.1 iJ6_init.2.2.2.1) [.ref a0, va_rf rp1, va_rf rp2, .int xp3, .int xp4] (PJ6_init a0 rp1 rp2 xp3 xp4) bp_eU := by
  refine bp_con_of [(0, .ref a0), (1, va_rf rp1), (2, va_rf rp2), (3, .int xp3), (4, .int xp4)] rfl (by decide) (by cases rp1 <;> cases rp2 <;> exact Nat.le_of_ble_eq_true rfl) (by cases rp1 <;> cases rp2 <;> rfl) ?_
  unfold PJ6_init
  refine bp_j_aload_n 0 dJ6_init_0 rfl ?_
  refine bp_j_aload_nR 1 dJ6_init_1 rfl ?_
  refine bp_j_aload_nR 2 dJ6_init_2 rfl ?_
  refine bp_j_iload_n 3 dJ6_init_3 rfl ?_
  refine bp_j_iload 4 dJ6_init_4 rfl ?_
  refine bp_j_cl_U (bp_ranI (n := 4) (As := [va_rf rp1, va_rf rp2, .int xp3, .int xp4]) rfl (cnJ5_init_2 (G := G) a0 rp1 rp2 xp3 xp4) q430 q83 q428 q429 rfl ⟨by decide +kernel, by decide +kernel, by decide +kernel⟩ ⟨by decide, by decide⟩ (rest := []) rfl rfl (Nat.le_of_ble_eq_true rfl) dJ6_init_6) (by decide) (fun _ => ?_)
  exact bp_j_vret rfl dJ6_init_9
/-- BilevelPages$Kind.hasBytes()Z -/
abbrev iX5_hasBytes : bp_MI := (yX5_hasBytes, cX5_hasBytes, 1, some (Jvm.ClassFile.FieldType.boolean), [], 0, 0)
def PX5_hasBytes (a0 : Nat) : bp_M Int32 :=
  bp_gets 11 fun a1 =>
  bp_if ((some a0) = (some a1)) (
  bp_retZ (1 : Int32)) (
  bp_gets 19 fun a2 =>
  bp_if ((some a0) = (some a2)) (
  bp_retZ (1 : Int32)) (
  bp_gets 20 fun a3 =>
  bp_if ((some a0) = (some a3)) (
  bp_retZ (1 : Int32)) (
  bp_retZ (0 : Int32))))
set_option maxHeartbeats 4000000 in
set_option maxRecDepth 100000 in
theorem cnX5_hasBytes {G : bp_GT} (a0 : Nat) : bp_Con G iX5_hasBytes (ws_ iX5_hasBytes.1 iX5_hasBytes.2.1 iX5_hasBytes.2.2.1 iX5_hasBytes.2.2.2.1) [.ref a0] (PX5_hasBytes a0) bp_eI := by
  refine bp_con_of [(0, .ref a0)] rfl (by decide) (Nat.le_of_ble_eq_true rfl) rfl ?_
  unfold PX5_hasBytes
  refine bp_j_aload_n 0 dX5_hasBytes_0 rfl ?_
  refine bp_j_gets (j := 11) rfl (bp_lk q604) dX5_hasBytes_1 (fun a1 => ?_)
  refine bp_j_acmp_eq (x := (some a0)) (y := (some a1)) (tgt := 21) dX5_hasBytes_4 (by decide) ?_ ?_
  · refine bp_j_iconst (v := 1) dX5_hasBytes_21 (by decide) ?_
    refine bp_j_goto (tgt := 26) dX5_hasBytes_22 (by decide) ?_
    exact bp_j_zret rfl dX5_hasBytes_26
  refine bp_j_aload_n 0 dX5_hasBytes_7 rfl ?_
  refine bp_j_gets (j := 19) rfl (bp_lk q606) dX5_hasBytes_8 (fun a2 => ?_)
  refine bp_j_acmp_eq (x := (some a0)) (y := (some a2)) (tgt := 21) dX5_hasBytes_11 (by decide) ?_ ?_
  · refine bp_j_iconst (v := 1) dX5_hasBytes_21 (by decide) ?_
    refine bp_j_goto (tgt := 26) dX5_hasBytes_22 (by decide) ?_
    exact bp_j_zret rfl dX5_hasBytes_26
  refine bp_j_aload_n 0 dX5_hasBytes_14 rfl ?_
  refine bp_j_gets (j := 20) rfl (bp_lk q618) dX5_hasBytes_15 (fun a3 => ?_)
  refine bp_j_acmp_ne (x := (some a0)) (y := (some a3)) (tgt := 25) dX5_hasBytes_18 (by decide) ?_ ?_
  · refine bp_j_iconst (v := 0) dX5_hasBytes_25 (by decide) ?_
    exact bp_j_zret rfl dX5_hasBytes_26
  refine bp_j_iconst (v := 1) dX5_hasBytes_21 (by decide) ?_
  refine bp_j_goto (tgt := 26) dX5_hasBytes_22 (by decide) ?_
  exact bp_j_zret rfl dX5_hasBytes_26
/-- BilevelPages$Kind.isRegion()Z -/
abbrev iX5_isRegion : bp_MI := (yX5_isRegion, cX5_isRegion, 1, some (Jvm.ClassFile.FieldType.boolean), [], 0, 0)
def PX5_isRegion (a0 : Nat) : bp_M Int32 :=
  bp_gets 12 fun a1 =>
  bp_if ((some a0) = (some a1)) (
  bp_retZ (1 : Int32)) (
  bp_gets 13 fun a2 =>
  bp_if ((some a0) = (some a2)) (
  bp_retZ (1 : Int32)) (
  bp_gets 14 fun a3 =>
  bp_if ((some a0) = (some a3)) (
  bp_retZ (1 : Int32)) (
  bp_retZ (0 : Int32))))
set_option maxHeartbeats 4000000 in
set_option maxRecDepth 100000 in
theorem cnX5_isRegion {G : bp_GT} (a0 : Nat) : bp_Con G iX5_isRegion (ws_ iX5_isRegion.1 iX5_isRegion.2.1 iX5_isRegion.2.2.1 iX5_isRegion.2.2.2.1) [.ref a0] (PX5_isRegion a0) bp_eI := by
  refine bp_con_of [(0, .ref a0)] rfl (by decide) (Nat.le_of_ble_eq_true rfl) rfl ?_
  unfold PX5_isRegion
  refine bp_j_aload_n 0 dX5_isRegion_0 rfl ?_
  refine bp_j_gets (j := 12) rfl (bp_lk q496) dX5_isRegion_1 (fun a1 => ?_)
  refine bp_j_acmp_eq (x := (some a0)) (y := (some a1)) (tgt := 21) dX5_isRegion_4 (by decide) ?_ ?_
  · refine bp_j_iconst (v := 1) dX5_isRegion_21 (by decide) ?_
    refine bp_j_goto (tgt := 26) dX5_isRegion_22 (by decide) ?_
    exact bp_j_zret rfl dX5_isRegion_26
  refine bp_j_aload_n 0 dX5_isRegion_7 rfl ?_
  refine bp_j_gets (j := 13) rfl (bp_lk q498) dX5_isRegion_8 (fun a2 => ?_)
  refine bp_j_acmp_eq (x := (some a0)) (y := (some a2)) (tgt := 21) dX5_isRegion_11 (by decide) ?_ ?_
  · refine bp_j_iconst (v := 1) dX5_isRegion_21 (by decide) ?_
    refine bp_j_goto (tgt := 26) dX5_isRegion_22 (by decide) ?_
    exact bp_j_zret rfl dX5_isRegion_26
  refine bp_j_aload_n 0 dX5_isRegion_14 rfl ?_
  refine bp_j_gets (j := 14) rfl (bp_lk q500) dX5_isRegion_15 (fun a3 => ?_)
  refine bp_j_acmp_ne (x := (some a0)) (y := (some a3)) (tgt := 25) dX5_isRegion_18 (by decide) ?_ ?_
  · refine bp_j_iconst (v := 0) dX5_isRegion_25 (by decide) ?_
    exact bp_j_zret rfl dX5_isRegion_26
  refine bp_j_iconst (v := 1) dX5_isRegion_21 (by decide) ?_
  refine bp_j_goto (tgt := 26) dX5_isRegion_22 (by decide) ?_
  exact bp_j_zret rfl dX5_isRegion_26
/-- BilevelPages$Kind.least(I)I -/
abbrev iX5_least : bp_MI := (yX5_least, cX5_least, 2, some (Jvm.ClassFile.FieldType.int), [], 1, 20)
def PX5_least (a0 : Nat) (xp1 : Int32) : bp_M Int32 :=
  bp_gets 15 fun a1 =>
  bp_if ((some a0) = (some a1)) (
  bp_gets 4 fun a10 =>
  bp_aldI 20 a10 xp1 fun x11 =>
  bp_ret x11) (
  bp_bind (bp_is 8 a0 (PX5_isRegion a0)) fun x2 =>
  bp_if (x2 = 0) (
  bp_gets 6 fun a3 =>
  bp_gets 17 fun a4 =>
  bp_jn (fun (k6 : Int32 → bp_M Int32) =>
  bp_if ((some a0) = (some a4)) (
  k6 (0 : Int32)) (
  k6 (1 : Int32))) (fun (x5 : Int32) =>
  bp_aldI 20 a3 x5 fun x7 =>
  bp_ret x7)) (
  bp_gets 2 fun a8 =>
  bp_aldI 20 a8 xp1 fun x9 =>
  bp_ret x9))
set_option maxHeartbeats 4000000 in
set_option maxRecDepth 100000 in
theorem cnX5_least {G : bp_GT} (a0 : Nat) (xp1 : Int32) : bp_Con G iX5_least (ws_ iX5_least.1 iX5_least.2.1 iX5_least.2.2.1 iX5_least.2.2.2.1) [.ref a0, .int xp1] (PX5_least a0 xp1) bp_eI := by
  refine bp_con_of [(0, .ref a0), (1, .int xp1)] rfl (by decide) (Nat.le_of_ble_eq_true rfl) rfl ?_
  unfold PX5_least
  refine bp_j_aload_n 0 dX5_least_0 rfl ?_
  refine bp_j_gets (j := 15) rfl (bp_lk q488) dX5_least_1 (fun a1 => ?_)
  refine bp_j_acmp_ne (x := (some a0)) (y := (some a1)) (tgt := 15) dX5_least_4 (by decide) ?_ ?_
  · refine bp_j_aload_n 0 dX5_least_15 rfl ?_
    refine bp_j_cl_I (bp_ranV (t := 8) (n := 0) (As := []) (cnX5_isRegion (G := G) a0 ) rfl (lw_V q492 q493 q494 q81 q495) ⟨rfl, by decide +kernel, by decide +kernel, by decide +kernel⟩ ⟨by decide, by decide⟩ (rest := []) rfl rfl (Nat.le_of_ble_eq_true rfl) dX5_least_16) (by decide) (fun x2 => ?_)
    refine bp_j_if_eq (tgt := 30) dX5_least_19 (by decide) ?_ ?_
    · refine bp_j_gets (j := 6) rfl (bp_lkN q504) dX5_least_30 (fun a3 => ?_)
      refine bp_j_aload_n 0 dX5_least_33 rfl ?_
      refine bp_j_gets (j := 17) rfl (bp_lk q506) dX5_least_34 (fun a4 => ?_)
      refine bp_j_jm (fun k => ∀ (x5 : Int32), bp_J G iX5_least (bp_Qn G bp_eI) (k x5) 45 [] [.int x5, .ref a3]) (fun k6 hk6 => ?_) (fun x5 => ?_)
      · refine bp_j_acmp_ne (x := (some a0)) (y := (some a4)) (tgt := 44) dX5_least_37 (by decide) ?_ ?_
        · refine bp_j_iconst (v := 1) dX5_least_44 (by decide) ?_
          exact bp_j_sub [] rfl (hk6 (1 : Int32))
        refine bp_j_iconst (v := 0) dX5_least_40 (by decide) ?_
        refine bp_j_goto (tgt := 45) dX5_least_41 (by decide) ?_
        exact bp_j_sub [] rfl (hk6 (0 : Int32))
      refine bp_j_iaload dX5_least_45 (fun x7 => ?_)
      exact bp_j_iret rfl dX5_least_46
    refine bp_j_gets (j := 2) rfl (bp_lkN q502) dX5_least_22 (fun a8 => ?_)
    refine bp_j_iload_n 1 dX5_least_25 rfl ?_
    refine bp_j_iaload dX5_least_26 (fun x9 => ?_)
    refine bp_j_goto (tgt := 46) dX5_least_27 (by decide) ?_
    exact bp_j_iret rfl dX5_least_46
  refine bp_j_gets (j := 4) rfl (bp_lkN q490) dX5_least_7 (fun a10 => ?_)
  refine bp_j_iload_n 1 dX5_least_10 rfl ?_
  refine bp_j_iaload dX5_least_11 (fun x11 => ?_)
  refine bp_j_goto (tgt := 46) dX5_least_12 (by decide) ?_
  exact bp_j_iret rfl dX5_least_46
/-- BilevelPages$Kind.most(I)I -/
abbrev iX5_most : bp_MI := (yX5_most, cX5_most, 2, some (Jvm.ClassFile.FieldType.int), [], 1, 20)
def PX5_most (a0 : Nat) (xp1 : Int32) : bp_M Int32 :=
  bp_gets 15 fun a1 =>
  bp_if ((some a0) = (some a1)) (
  bp_gets 5 fun a10 =>
  bp_aldI 20 a10 xp1 fun x11 =>
  bp_ret x11) (
  bp_bind (bp_is 8 a0 (PX5_isRegion a0)) fun x2 =>
  bp_if (x2 = 0) (
  bp_gets 7 fun a3 =>
  bp_gets 17 fun a4 =>
  bp_jn (fun (k6 : Int32 → bp_M Int32) =>
  bp_if ((some a0) = (some a4)) (
  k6 (0 : Int32)) (
  k6 (1 : Int32))) (fun (x5 : Int32) =>
  bp_aldI 20 a3 x5 fun x7 =>
  bp_ret x7)) (
  bp_gets 3 fun a8 =>
  bp_aldI 20 a8 xp1 fun x9 =>
  bp_ret x9))
set_option maxHeartbeats 4000000 in
set_option maxRecDepth 100000 in
theorem cnX5_most {G : bp_GT} (a0 : Nat) (xp1 : Int32) : bp_Con G iX5_most (ws_ iX5_most.1 iX5_most.2.1 iX5_most.2.2.1 iX5_most.2.2.2.1) [.ref a0, .int xp1] (PX5_most a0 xp1) bp_eI := by
  refine bp_con_of [(0, .ref a0), (1, .int xp1)] rfl (by decide) (Nat.le_of_ble_eq_true rfl) rfl ?_
  unfold PX5_most
  refine bp_j_aload_n 0 dX5_most_0 rfl ?_
  refine bp_j_gets (j := 15) rfl (bp_lk q488) dX5_most_1 (fun a1 => ?_)
  refine bp_j_acmp_ne (x := (some a0)) (y := (some a1)) (tgt := 15) dX5_most_4 (by decide) ?_ ?_
  · refine bp_j_aload_n 0 dX5_most_15 rfl ?_
    refine bp_j_cl_I (bp_ranV (t := 8) (n := 0) (As := []) (cnX5_isRegion (G := G) a0 ) rfl (lw_V q492 q493 q494 q81 q495) ⟨rfl, by decide +kernel, by decide +kernel, by decide +kernel⟩ ⟨by decide, by decide⟩ (rest := []) rfl rfl (Nat.le_of_ble_eq_true rfl) dX5_most_16) (by decide) (fun x2 => ?_)
    refine bp_j_if_eq (tgt := 30) dX5_most_19 (by decide) ?_ ?_
    · refine bp_j_gets (j := 7) rfl (bp_lkN q649) dX5_most_30 (fun a3 => ?_)
      refine bp_j_aload_n 0 dX5_most_33 rfl ?_
      refine bp_j_gets (j := 17) rfl (bp_lk q506) dX5_most_34 (fun a4 => ?_)
      refine bp_j_jm (fun k => ∀ (x5 : Int32), bp_J G iX5_most (bp_Qn G bp_eI) (k x5) 45 [] [.int x5, .ref a3]) (fun k6 hk6 => ?_) (fun x5 => ?_)
      · refine bp_j_acmp_ne (x := (some a0)) (y := (some a4)) (tgt := 44) dX5_most_37 (by decide) ?_ ?_
        · refine bp_j_iconst (v := 1) dX5_most_44 (by decide) ?_
          exact bp_j_sub [] rfl (hk6 (1 : Int32))
        refine bp_j_iconst (v := 0) dX5_most_40 (by decide) ?_
        refine bp_j_goto (tgt := 45) dX5_most_41 (by decide) ?_
        exact bp_j_sub [] rfl (hk6 (0 : Int32))
      refine bp_j_iaload dX5_most_45 (fun x7 => ?_)
      exact bp_j_iret rfl dX5_most_46
    refine bp_j_gets (j := 3) rfl (bp_lkN q647) dX5_most_22 (fun a8 => ?_)
    refine bp_j_iload_n 1 dX5_most_25 rfl ?_
    refine bp_j_iaload dX5_most_26 (fun x9 => ?_)
    refine bp_j_goto (tgt := 46) dX5_most_27 (by decide) ?_
    exact bp_j_iret rfl dX5_most_46
  refine bp_j_gets (j := 5) rfl (bp_lkN q645) dX5_most_7 (fun a10 => ?_)
  refine bp_j_iload_n 1 dX5_most_10 rfl ?_
  refine bp_j_iaload dX5_most_11 (fun x11 => ?_)
  refine bp_j_goto (tgt := 46) dX5_most_12 (by decide) ?_
  exact bp_j_iret rfl dX5_most_46
/-- BilevelPages$WrongSegment.<init>(II)V -/
abbrev iX7_init : bp_MI := (yX7_init, cX7_init, 3, none, [], 3, 88)
def PX7_init (a0 : Nat) (xp1 : Int32) (xp2 : Int32) : bp_M Unit :=
  bp_bind (PJ6_init a0 none none (0 : Int32) (0 : Int32)) fun _ =>
  bp_putI 5 6 a0 xp1 <|
  bp_putI 5 7 a0 xp2 <|
  bp_ret ()
set_option maxHeartbeats 4000000 in
set_option maxRecDepth 100000 in
theorem cnX7_init {G : bp_GT} (a0 : Nat) (xp1 : Int32) (xp2 : Int32) : bp_Con G iX7_init (ws_ iX7_init.1 iX7_init.2.1 iX7_init.2.2.1 iX7_init.2.2.2.1) [.ref a0, .int xp1, .int xp2] (PX7_init a0 xp1 xp2) bp_eU := by
  refine bp_con_of [(0, .ref a0), (1, .int xp1), (2, .int xp2)] rfl (by decide) (Nat.le_of_ble_eq_true rfl) rfl ?_
  unfold PX7_init
  refine bp_j_aload_n 0 dX7_init_0 rfl ?_
  refine bp_j_null dX7_init_1 ?_
  refine bp_j_null dX7_init_2 ?_
  refine bp_j_iconst (v := 0) dX7_init_3 (by decide) ?_
  refine bp_j_iconst (v := 0) dX7_init_4 (by decide) ?_
  refine bp_j_cl_U (bp_ranI (n := 4) (As := [va_rf none, va_rf none, .int (0 : Int32), .int (0 : Int32)]) rfl (cnJ6_init (G := G) a0 none none (0 : Int32) (0 : Int32)) q427 q84 q425 q426 rfl ⟨by decide +kernel, by decide +kernel, by decide +kernel⟩ ⟨by decide, by decide⟩ (rest := []) rfl rfl (Nat.le_of_ble_eq_true rfl) dX7_init_5) (by decide) (fun _ => ?_)
  refine bp_j_aload_n 0 dX7_init_8 rfl ?_
  refine bp_j_iload_n 1 dX7_init_9 rfl ?_
  refine bp_j_putFI (t := 5) (k := 6) rfl (by decide) (by decide) q431 rfl rfl rfl dX7_init_10 rfl ?_
  refine bp_j_aload_n 0 dX7_init_13 rfl ?_
  refine bp_j_iload_n 2 dX7_init_14 rfl ?_
  refine bp_j_putFI (t := 5) (k := 7) rfl (by decide) (by decide) q433 rfl rfl rfl dX7_init_15 rfl ?_
  exact bp_j_vret rfl dX7_init_18
/-- BilevelPages$Kind.mayReferTo(LBilevelPages$Kind;)Z -/
abbrev iX5_mayReferTo : bp_MI := (yX5_mayReferTo, cX5_mayReferTo, 2, some (Jvm.ClassFile.FieldType.boolean), [], 1, 20)
def PX5_mayReferTo (a0 : Nat) (bp1 : Nat) : bp_M Int32 :=
  bp_bind (bp_is 8 a0 (PJ4_ordinal a0)) fun x1 =>
  bp_jn (fun (k2 : bp_M Int32) =>
  bp_sw (x1).toInt [(0, (
  k2)), (1, (
  k2)), (2, (
  bp_gets 11 fun a5 =>
  bp_if ((some bp1) = (some a5)) (
  bp_retZ (1 : Int32)) (
  bp_gets 19 fun a6 =>
  bp_if ((some bp1) = (some a6)) (
  bp_retZ (1 : Int32)) (
  bp_gets 12 fun a7 =>
  bp_if ((some bp1) = (some a7)) (
  bp_retZ (1 : Int32)) (
  bp_retZ (0 : Int32))))))] (
  bp_retZ (0 : Int32))) (bp_gets 11 fun a3 =>
  bp_if ((some bp1) = (some a3)) (
  bp_retZ (1 : Int32)) (
  bp_gets 19 fun a4 =>
  bp_if ((some bp1) = (some a4)) (
  bp_retZ (1 : Int32)) (
  bp_retZ (0 : Int32))))
set_option maxHeartbeats 4000000 in
set_option maxRecDepth 100000 in
theorem cnX5_mayReferTo {G : bp_GT} (a0 : Nat) (bp1 : Nat) : bp_Con G iX5_mayReferTo (ws_ iX5_mayReferTo.1 iX5_mayReferTo.2.1 iX5_mayReferTo.2.2.1 iX5_mayReferTo.2.2.2.1) [.ref a0, .ref bp1] (PX5_mayReferTo a0 bp1) bp_eI := by
  refine bp_con_of [(0, .ref a0), (1, .ref bp1)] rfl (by decide) (Nat.le_of_ble_eq_true rfl) rfl ?_
  unfold PX5_mayReferTo
  refine bp_j_aload_n 0 dX5_mayReferTo_0 rfl ?_
  refine bp_j_cl_I (bp_ranU (t := 8) (n := 0) (As := []) (owner := "java/lang/Enum") (x := ⟨"BilevelPages$Kind", "ordinal", "()I"⟩) (cnJ4_ordinal (G := G) a0 ) rfl (List.forall_mem_cons.mpr ⟨q598, List.forall_mem_cons.mpr ⟨q599, List.forall_mem_cons.mpr ⟨q601, List.forall_mem_cons.mpr ⟨q602, List.forall_mem_cons.mpr ⟨q80, fun _ h => nomatch h⟩⟩⟩⟩⟩) q603 rfl ⟨by decide +kernel, by decide +kernel, by decide +kernel⟩ ⟨by decide, by decide⟩ (rest := []) rfl rfl (Nat.le_of_ble_eq_true rfl) dX5_mayReferTo_1) (by decide) (fun x1 => ?_)
  refine bp_j_jm (fun k => bp_J G iX5_mayReferTo (bp_Qn G bp_eI) (k) 32 [(1, .ref bp1)] []) (fun k2 hk2 => ?_) ?_
  · refine bp_j_tsw (tgt := 83) [32, 32, 54] dX5_mayReferTo_4 rfl rfl rfl (by decide) (bp_JSc ?_ (bp_JSc ?_ (bp_JSc ?_ bp_JSn))) ?_
    · exact bp_j_sub [1] rfl (hk2)
    · exact bp_j_sub [1] rfl (hk2)
    · refine bp_j_aload_n 1 dX5_mayReferTo_54 rfl ?_
      refine bp_j_gets (j := 11) rfl (bp_lk q604) dX5_mayReferTo_55 (fun a5 => ?_)
      refine bp_j_acmp_eq (x := (some bp1)) (y := (some a5)) (tgt := 75) dX5_mayReferTo_58 (by decide) ?_ ?_
      · refine bp_j_iconst (v := 1) dX5_mayReferTo_75 (by decide) ?_
        refine bp_j_goto (tgt := 84) dX5_mayReferTo_76 (by decide) ?_
        exact bp_j_zret rfl dX5_mayReferTo_84
      refine bp_j_aload_n 1 dX5_mayReferTo_61 rfl ?_
      refine bp_j_gets (j := 19) rfl (bp_lk q606) dX5_mayReferTo_62 (fun a6 => ?_)
      refine bp_j_acmp_eq (x := (some bp1)) (y := (some a6)) (tgt := 75) dX5_mayReferTo_65 (by decide) ?_ ?_
      · refine bp_j_iconst (v := 1) dX5_mayReferTo_75 (by decide) ?_
        refine bp_j_goto (tgt := 84) dX5_mayReferTo_76 (by decide) ?_
        exact bp_j_zret rfl dX5_mayReferTo_84
      refine bp_j_aload_n 1 dX5_mayReferTo_68 rfl ?_
      refine bp_j_gets (j := 12) rfl (bp_lk q496) dX5_mayReferTo_69 (fun a7 => ?_)
      refine bp_j_acmp_ne (x := (some bp1)) (y := (some a7)) (tgt := 79) dX5_mayReferTo_72 (by decide) ?_ ?_
      · refine bp_j_iconst (v := 0) dX5_mayReferTo_79 (by decide) ?_
        refine bp_j_goto (tgt := 84) dX5_mayReferTo_80 (by decide) ?_
        exact bp_j_zret rfl dX5_mayReferTo_84
      refine bp_j_iconst (v := 1) dX5_mayReferTo_75 (by decide) ?_
      refine bp_j_goto (tgt := 84) dX5_mayReferTo_76 (by decide) ?_
      exact bp_j_zret rfl dX5_mayReferTo_84
    refine bp_j_iconst (v := 0) dX5_mayReferTo_83 (by decide) ?_
    exact bp_j_zret rfl dX5_mayReferTo_84
  refine bp_j_aload_n 0 dX5_mayReferTo_32 rfl ?_
  refine bp_j_gets (j := 11) rfl (bp_lk q604) dX5_mayReferTo_33 (fun a3 => ?_)
  refine bp_j_acmp_eq (x := (some bp1)) (y := (some a3)) (tgt := 46) dX5_mayReferTo_36 (by decide) ?_ ?_
  · refine bp_j_iconst (v := 1) dX5_mayReferTo_46 (by decide) ?_
    refine bp_j_goto (tgt := 84) dX5_mayReferTo_47 (by decide) ?_
    exact bp_j_zret rfl dX5_mayReferTo_84
  refine bp_j_aload_n 0 dX5_mayReferTo_39 rfl ?_
  refine bp_j_gets (j := 19) rfl (bp_lk q606) dX5_mayReferTo_40 (fun a4 => ?_)
  refine bp_j_acmp_ne (x := (some bp1)) (y := (some a4)) (tgt := 50) dX5_mayReferTo_43 (by decide) ?_ ?_
  · refine bp_j_iconst (v := 0) dX5_mayReferTo_50 (by decide) ?_
    refine bp_j_goto (tgt := 84) dX5_mayReferTo_51 (by decide) ?_
    exact bp_j_zret rfl dX5_mayReferTo_84
  refine bp_j_iconst (v := 1) dX5_mayReferTo_46 (by decide) ?_
  refine bp_j_goto (tgt := 84) dX5_mayReferTo_47 (by decide) ?_
  exact bp_j_zret rfl dX5_mayReferTo_84
/-- BilevelPages$Kind.takes(J)Z -/
abbrev iX5_takes : bp_MI := (yX5_takes, cX5_takes, 3, some (Jvm.ClassFile.FieldType.boolean), [], 1, 20)
def PX5_takes (a0 : Nat) (lp1 : Int64) : bp_M Int32 :=
  bp_bind (bp_is 8 a0 (PJ4_ordinal a0)) fun x1 =>
  bp_jn (fun (k2 : bp_M Int32) =>
  bp_jn (fun (k3 : bp_M Int32) =>
  bp_jn (fun (k4 : bp_M Int32) =>
  bp_sw (x1).toInt [(0, (
  k2)), (1, (
  k3)), (2, (
  k3)), (3, (
  k3)), (4, (
  bp_if ((lg_cmp lp1 (10 : Int64)) = 0) (
  bp_retZ (1 : Int32)) (
  bp_retZ (0 : Int32)))), (5, (
  k4)), (6, (
  bp_if ((lg_cmp lp1 (4 : Int64)) = 0) (
  bp_retZ (1 : Int32)) (
  bp_retZ (0 : Int32)))), (7, (
  k4)), (8, (
  k2)), (9, (
  bp_if ((lg_cmp lp1 (4 : Int64)) < 0) (
  bp_retZ (0 : Int32)) (
  bp_if (0 < (lg_cmp lp1 (24 : Int64))) (
  bp_retZ (0 : Int32)) (
  bp_retZ (1 : Int32)))))] (
  k3)) (bp_if ((lg_cmp lp1 (0 : Int64)) = 0) (
  bp_retZ (1 : Int32)) (
  bp_retZ (0 : Int32)))) (bp_if ((lg_cmp lp1 (17 : Int64)) < 0) (
  bp_retZ (0 : Int32)) (
  bp_if (0 ≤ (lg_cmp lp1 (4294967295 : Int64))) (
  bp_retZ (0 : Int32)) (
  bp_retZ (1 : Int32))))) (bp_if (0 < (lg_cmp lp1 (20 : Int64))) (
  bp_retZ (0 : Int32)) (
  bp_retZ (1 : Int32)))
set_option maxHeartbeats 4000000 in
set_option maxRecDepth 100000 in
theorem cnX5_takes {G : bp_GT} (a0 : Nat) (lp1 : Int64) : bp_Con G iX5_takes (ws_ iX5_takes.1 iX5_takes.2.1 iX5_takes.2.2.1 iX5_takes.2.2.2.1) [.ref a0, .long lp1] (PX5_takes a0 lp1) bp_eI := by
  refine bp_con_of [(0, .ref a0), (1, .long lp1)] rfl (by decide) (Nat.le_of_ble_eq_true rfl) rfl ?_
  unfold PX5_takes
  refine bp_j_aload_n 0 dX5_takes_0 rfl ?_
  refine bp_j_cl_I (bp_ranU (t := 8) (n := 0) (As := []) (owner := "java/lang/Enum") (x := ⟨"BilevelPages$Kind", "ordinal", "()I"⟩) (cnJ4_ordinal (G := G) a0 ) rfl (List.forall_mem_cons.mpr ⟨q598, List.forall_mem_cons.mpr ⟨q599, List.forall_mem_cons.mpr ⟨q601, List.forall_mem_cons.mpr ⟨q602, List.forall_mem_cons.mpr ⟨q80, fun _ h => nomatch h⟩⟩⟩⟩⟩) q603 rfl ⟨by decide +kernel, by decide +kernel, by decide +kernel⟩ ⟨by decide, by decide⟩ (rest := []) rfl rfl (Nat.le_of_ble_eq_true rfl) dX5_takes_1) (by decide) (fun x1 => ?_)
  refine bp_j_jm (fun k => bp_J G iX5_takes (bp_Qn G bp_eI) (k) 60 [(1, .long lp1)] []) (fun k2 hk2 => ?_) ?_
  · refine bp_j_jm (fun k => bp_J G iX5_takes (bp_Qn G bp_eI) (k) 146 [(1, .long lp1)] []) (fun k3 hk3 => ?_) ?_
    · refine bp_j_jm (fun k => bp_J G iX5_takes (bp_Qn G bp_eI) (k) 132 [(1, .long lp1)] []) (fun k4 hk4 => ?_) ?_
      · refine bp_j_tsw (tgt := 146) [60, 146, 146, 146, 100, 132, 116, 132, 60, 76] dX5_takes_4 rfl rfl rfl (by decide) (bp_JSc ?_ (bp_JSc ?_ (bp_JSc ?_ (bp_JSc ?_ (bp_JSc ?_ (bp_JSc ?_ (bp_JSc ?_ (bp_JSc ?_ (bp_JSc ?_ (bp_JSc ?_ bp_JSn)))))))))) ?_
        · exact bp_j_sub [1] rfl (hk2)
        · exact bp_j_sub [1] rfl (hk3)
        · exact bp_j_sub [1] rfl (hk3)
        · exact bp_j_sub [1] rfl (hk3)
        · refine bp_j_lload_n 1 dX5_takes_100 rfl ?_
          refine bp_j_ldc2 q628 dX5_takes_101 ?_
          refine bp_j_lcmp dX5_takes_104 ?_
          refine bp_j_if_ne (tgt := 112) dX5_takes_105 (by decide) ?_ ?_
          · refine bp_j_iconst (v := 0) dX5_takes_112 (by decide) ?_
            refine bp_j_goto (tgt := 167) dX5_takes_113 (by decide) ?_
            exact bp_j_zret rfl dX5_takes_167
          refine bp_j_iconst (v := 1) dX5_takes_108 (by decide) ?_
          refine bp_j_goto (tgt := 167) dX5_takes_109 (by decide) ?_
          exact bp_j_zret rfl dX5_takes_167
        · exact bp_j_sub [1] rfl (hk4)
        · refine bp_j_lload_n 1 dX5_takes_116 rfl ?_
          refine bp_j_ldc2 q626 dX5_takes_117 ?_
          refine bp_j_lcmp dX5_takes_120 ?_
          refine bp_j_if_ne (tgt := 128) dX5_takes_121 (by decide) ?_ ?_
          · refine bp_j_iconst (v := 0) dX5_takes_128 (by decide) ?_
            refine bp_j_goto (tgt := 167) dX5_takes_129 (by decide) ?_
            exact bp_j_zret rfl dX5_takes_167
          refine bp_j_iconst (v := 1) dX5_takes_124 (by decide) ?_
          refine bp_j_goto (tgt := 167) dX5_takes_125 (by decide) ?_
          exact bp_j_zret rfl dX5_takes_167
        · exact bp_j_sub [1] rfl (hk4)
        · exact bp_j_sub [1] rfl (hk2)
        · refine bp_j_lload_n 1 dX5_takes_76 rfl ?_
          refine bp_j_ldc2 q626 dX5_takes_77 ?_
          refine bp_j_lcmp dX5_takes_80 ?_
          refine bp_j_if_lt (tgt := 96) dX5_takes_81 (by decide) ?_ ?_
          · refine bp_j_iconst (v := 0) dX5_takes_96 (by decide) ?_
            refine bp_j_goto (tgt := 167) dX5_takes_97 (by decide) ?_
            exact bp_j_zret rfl dX5_takes_167
          refine bp_j_lload_n 1 dX5_takes_84 rfl ?_
          refine bp_j_ldc2 q627 dX5_takes_85 ?_
          refine bp_j_lcmp dX5_takes_88 ?_
          refine bp_j_if_gt (tgt := 96) dX5_takes_89 (by decide) ?_ ?_
          · refine bp_j_iconst (v := 0) dX5_takes_96 (by decide) ?_
            refine bp_j_goto (tgt := 167) dX5_takes_97 (by decide) ?_
            exact bp_j_zret rfl dX5_takes_167
          refine bp_j_iconst (v := 1) dX5_takes_92 (by decide) ?_
          refine bp_j_goto (tgt := 167) dX5_takes_93 (by decide) ?_
          exact bp_j_zret rfl dX5_takes_167
        exact bp_j_sub [1] rfl (hk3)
      refine bp_j_lload_n 0 dX5_takes_132 rfl ?_
      refine bp_j_lconst (v := 0) dX5_takes_133 (by decide) ?_
      refine bp_j_lcmp dX5_takes_134 ?_
      refine bp_j_if_ne (tgt := 142) dX5_takes_135 (by decide) ?_ ?_
      · refine bp_j_iconst (v := 0) dX5_takes_142 (by decide) ?_
        refine bp_j_goto (tgt := 167) dX5_takes_143 (by decide) ?_
        exact bp_j_zret rfl dX5_takes_167
      refine bp_j_iconst (v := 1) dX5_takes_138 (by decide) ?_
      refine bp_j_goto (tgt := 167) dX5_takes_139 (by decide) ?_
      exact bp_j_zret rfl dX5_takes_167
    refine bp_j_lload_n 0 dX5_takes_146 rfl ?_
    refine bp_j_ldc2 q629 dX5_takes_147 ?_
    refine bp_j_lcmp dX5_takes_150 ?_
    refine bp_j_if_lt (tgt := 166) dX5_takes_151 (by decide) ?_ ?_
    · refine bp_j_iconst (v := 0) dX5_takes_166 (by decide) ?_
      exact bp_j_zret rfl dX5_takes_167
    refine bp_j_lload_n 0 dX5_takes_154 rfl ?_
    refine bp_j_ldc2 q630 dX5_takes_155 ?_
    refine bp_j_lcmp dX5_takes_158 ?_
    refine bp_j_if_ge (tgt := 166) dX5_takes_159 (by decide) ?_ ?_
    · refine bp_j_iconst (v := 0) dX5_takes_166 (by decide) ?_
      exact bp_j_zret rfl dX5_takes_167
    refine bp_j_iconst (v := 1) dX5_takes_162 (by decide) ?_
    refine bp_j_goto (tgt := 167) dX5_takes_163 (by decide) ?_
    exact bp_j_zret rfl dX5_takes_167
  refine bp_j_lload_n 0 dX5_takes_60 rfl ?_
  refine bp_j_ldc2 q625 dX5_takes_61 ?_
  refine bp_j_lcmp dX5_takes_64 ?_
  refine bp_j_if_gt (tgt := 72) dX5_takes_65 (by decide) ?_ ?_
  · refine bp_j_iconst (v := 0) dX5_takes_72 (by decide) ?_
    refine bp_j_goto (tgt := 167) dX5_takes_73 (by decide) ?_
    exact bp_j_zret rfl dX5_takes_167
  refine bp_j_iconst (v := 1) dX5_takes_68 (by decide) ?_
  refine bp_j_goto (tgt := 167) dX5_takes_69 (by decide) ?_
  exact bp_j_zret rfl dX5_takes_167
/-- BilevelPages$Segment.placeOf(I)I -/
abbrev iX4_placeOf : bp_MI := (yX4_placeOf, cX4_placeOf, 3, some (Jvm.ClassFile.FieldType.int), [], 0, 0)
def BX4_placeOf_2 (a0 : Nat) (xp1 : Int32) (k1 : bp_M Int32) (k4 : Int32 → bp_M Int32) (k6 : Int32 → bp_M Int32) : Int32 → bp_M Int32 :=
  fun x5 =>
  bp_getI 3 4 a0 fun x7 =>
  bp_if (x7 ≤ x5) (
  k1) (
  bp_getN 3 3 a0 fun a8 =>
  bp_aldI 20 a8 x5 fun x9 =>
  bp_if (x9 = xp1) (
  k4 x5) (
  bp_letI (x5 + (1 : Int32)) fun x10 =>
  k6 x10))
def PX4_placeOf (a0 : Nat) (xp1 : Int32) : bp_M Int32 :=
  bp_jn (fun (k1 : bp_M Int32) =>
  bp_jn (fun (k4 : Int32 → bp_M Int32) =>
  bp_loop (fun _ => bp_no) (BX4_placeOf_2 a0 xp1 k1 k4) (fun k => k (0 : Int32))) (fun (x3 : Int32) =>
  bp_ret (x3 + (1 : Int32)))) (bp_getI 3 2 a0 fun x2 =>
  bp_if (xp1 = x2) (
  bp_ret (0 : Int32)) (
  bp_ret (-1 : Int32)))
set_option maxHeartbeats 4000000 in
set_option maxRecDepth 100000 in
theorem cnX4_placeOf {G : bp_GT} (a0 : Nat) (xp1 : Int32) : bp_Con G iX4_placeOf (ws_ iX4_placeOf.1 iX4_placeOf.2.1 iX4_placeOf.2.2.1 iX4_placeOf.2.2.2.1) [.ref a0, .int xp1] (PX4_placeOf a0 xp1) bp_eI := by
  refine bp_con_of [(0, .ref a0), (1, .int xp1)] rfl (by decide) (Nat.le_of_ble_eq_true rfl) rfl ?_
  unfold PX4_placeOf
  refine bp_j_iconst (v := 0) dX4_placeOf_0 (by decide) ?_
  refine bp_j_istore_n (lv' := [(2, .int (0 : Int32)), (0, .ref a0), (1, .int xp1)]) dX4_placeOf_1 (by decide) rfl ?_
  refine bp_j_jm (fun k => bp_J G iX4_placeOf (bp_Qn G bp_eI) (k) 30 [(0, .ref a0), (1, .int xp1)] []) (fun k1 hk1 => ?_) ?_
  · refine bp_j_jm (fun k => ∀ (x3 : Int32), bp_J G iX4_placeOf (bp_Qn G bp_eI) (k x3) 20 [(2, .int x3)] []) (fun k4 hk4 => ?_) (fun x3 => ?_)
    · refine bp_j_loop (fun k => ∀ (x5 : Int32), bp_J G iX4_placeOf (bp_Qn G bp_eI) (k x5) 2 [(0, .ref a0), (1, .int xp1), (2, .int x5)] []) (fun _ => bp_j_no) (fun k6 hk6 x5 => ?_) (fun k h => bp_j_sub [1, 2, 0] rfl (h (0 : Int32)))
      unfold BX4_placeOf_2
      refine bp_j_iload_n 2 dX4_placeOf_2 rfl ?_
      refine bp_j_aload_n 0 dX4_placeOf_3 rfl ?_
      refine bp_j_getI (t := 3) (k := 4) rfl (by decide) (bp_lk q235) dX4_placeOf_4 (fun _ _ _ => rfl) (fun x7 => ?_)
      refine bp_j_icmp_ge (tgt := 30) dX4_placeOf_7 (by decide) ?_ ?_
      · exact bp_j_sub [0, 1] rfl (hk1)
      refine bp_j_aload_n 0 dX4_placeOf_10 rfl ?_
      refine bp_j_getN (t := 3) (k := 3) rfl (by decide) (bp_lk q232) dX4_placeOf_11 (fun _ _ _ => rfl) (fun a8 => ?_)
      refine bp_j_iload_n 2 dX4_placeOf_14 rfl ?_
      refine bp_j_iaload dX4_placeOf_15 (fun x9 => ?_)
      refine bp_j_iload_n 1 dX4_placeOf_16 rfl ?_
      refine bp_j_icmp_ne (tgt := 24) dX4_placeOf_17 (by decide) ?_ ?_
      · refine bp_j_iincL (lv' := fun x10 => [(2, .int x10), (0, .ref a0), (1, .int xp1)]) 2 dX4_placeOf_24 rfl (by decide) (by decide) (fun _ => rfl) (fun x10 => ?_)
        refine bp_j_goto (tgt := 2) dX4_placeOf_27 (by decide) ?_
        exact bp_j_sub [1, 2, 0] rfl (hk6 x10)
      exact bp_j_sub [2] rfl (hk4 x5)
    refine bp_j_iload_n 0 dX4_placeOf_20 rfl ?_
    refine bp_j_iconst (v := 1) dX4_placeOf_21 (by decide) ?_
    refine bp_j_iadd dX4_placeOf_22 ?_
    exact bp_j_iret rfl dX4_placeOf_23
  refine bp_j_iload_n 1 dX4_placeOf_30 rfl ?_
  refine bp_j_aload_n 0 dX4_placeOf_31 rfl ?_
  refine bp_j_getI (t := 3) (k := 2) rfl (by decide) (bp_lk q229) dX4_placeOf_32 (fun _ _ _ => rfl) (fun x2 => ?_)
  refine bp_j_icmp_ne (tgt := 42) dX4_placeOf_35 (by decide) ?_ ?_
  · refine bp_j_iconst (v := -1) dX4_placeOf_42 (by decide) ?_
    exact bp_j_iret rfl dX4_placeOf_43
  refine bp_j_iconst (v := 0) dX4_placeOf_38 (by decide) ?_
  refine bp_j_goto (tgt := 43) dX4_placeOf_39 (by decide) ?_
  exact bp_j_iret rfl dX4_placeOf_43
/-- BilevelPages$Segment.letsGo(I)Z -/
abbrev iX4_letsGo : bp_MI := (yX4_letsGo, cX4_letsGo, 3, some (Jvm.ClassFile.FieldType.boolean), [], 1, 22)
def PX4_letsGo (a0 : Nat) (xp1 : Int32) : bp_M Int32 :=
  bp_bind (bp_is 3 a0 (PX4_placeOf a0 xp1)) fun x1 =>
  bp_if (x1 < 0) (
  bp_retZ (0 : Int32)) (
  bp_getI 3 5 a0 fun x2 =>
  bp_if (((x2 >>> (x1 &&& 31)) &&& (1 : Int32)) = (1 : Int32)) (
  bp_retZ (1 : Int32)) (
  bp_retZ (0 : Int32)))
set_option maxHeartbeats 4000000 in
set_option maxRecDepth 100000 in
theorem cnX4_letsGo {G : bp_GT} (a0 : Nat) (xp1 : Int32) : bp_Con G iX4_letsGo (ws_ iX4_letsGo.1 iX4_letsGo.2.1 iX4_letsGo.2.2.1 iX4_letsGo.2.2.2.1) [.ref a0, .int xp1] (PX4_letsGo a0 xp1) bp_eI := by
  refine bp_con_of [(0, .ref a0), (1, .int xp1)] rfl (by decide) (Nat.le_of_ble_eq_true rfl) rfl ?_
  unfold PX4_letsGo
  refine bp_j_aload_n 0 dX4_letsGo_0 rfl ?_
  refine bp_j_iload_n 1 dX4_letsGo_1 rfl ?_
  refine bp_j_cl_I (bp_ranV (t := 3) (n := 1) (As := [.int xp1]) (cnX4_placeOf (G := G) a0 xp1) rfl (lw_V q860 q591 q592 q79 q593) ⟨rfl, by decide +kernel, by decide +kernel, by decide +kernel⟩ ⟨by decide, by decide⟩ (rest := []) rfl rfl (Nat.le_of_ble_eq_true rfl) dX4_letsGo_2) (by decide) (fun x1 => ?_)
  refine bp_j_istore_n (lv' := [(2, .int x1), (0, .ref a0), (1, .int xp1)]) dX4_letsGo_5 (by decide) rfl ?_
  refine bp_j_iload_n 0 dX4_letsGo_6 rfl ?_
  refine bp_j_if_lt (tgt := 26) dX4_letsGo_7 (by decide) ?_ ?_
  · refine bp_j_iconst (v := 0) dX4_letsGo_26 (by decide) ?_
    exact bp_j_zret rfl dX4_letsGo_27
  refine bp_j_aload_n 1 dX4_letsGo_10 rfl ?_
  refine bp_j_getI (t := 3) (k := 5) rfl (by decide) (bp_lk q238) dX4_letsGo_11 (fun _ _ _ => rfl) (fun x2 => ?_)
  refine bp_j_iload_n 0 dX4_letsGo_14 rfl ?_
  refine bp_j_ishr dX4_letsGo_15 ?_
  refine bp_j_iconst (v := 1) dX4_letsGo_16 (by decide) ?_
  refine bp_j_iand dX4_letsGo_17 ?_
  refine bp_j_iconst (v := 1) dX4_letsGo_18 (by decide) ?_
  refine bp_j_icmp_ne (tgt := 26) dX4_letsGo_19 (by decide) ?_ ?_
  · refine bp_j_iconst (v := 0) dX4_letsGo_26 (by decide) ?_
    exact bp_j_zret rfl dX4_letsGo_27
  refine bp_j_iconst (v := 1) dX4_letsGo_22 (by decide) ?_
  refine bp_j_goto (tgt := 27) dX4_letsGo_23 (by decide) ?_
  exact bp_j_zret rfl dX4_letsGo_27
/-- BilevelPages$Segment.high()I -/
abbrev iX4_high : bp_MI := (yX4_high, cX4_high, 1, some (Jvm.ClassFile.FieldType.int), [], 0, 0)
def PX4_high (a0 : Nat) : bp_M Int32 :=
  bp_getN 3 6 a0 fun a1 =>
  bp_aldI 20 a1 (1 : Int32) fun x2 =>
  bp_ret x2
set_option maxHeartbeats 4000000 in
set_option maxRecDepth 100000 in
theorem cnX4_high {G : bp_GT} (a0 : Nat) : bp_Con G iX4_high (ws_ iX4_high.1 iX4_high.2.1 iX4_high.2.2.1 iX4_high.2.2.2.1) [.ref a0] (PX4_high a0) bp_eI := by
  refine bp_con_of [(0, .ref a0)] rfl (by decide) (Nat.le_of_ble_eq_true rfl) rfl ?_
  unfold PX4_high
  refine bp_j_aload_n 0 dX4_high_0 rfl ?_
  refine bp_j_getN (t := 3) (k := 6) rfl (by decide) (bp_lk q241) dX4_high_1 (fun _ _ _ => rfl) (fun a1 => ?_)
  refine bp_j_iconst (v := 1) dX4_high_4 (by decide) ?_
  refine bp_j_iaload dX4_high_5 (fun x2 => ?_)
  exact bp_j_iret rfl dX4_high_6
/-- BilevelPages$Segment.wide()I -/
abbrev iX4_wide : bp_MI := (yX4_wide, cX4_wide, 1, some (Jvm.ClassFile.FieldType.int), [], 0, 0)
def PX4_wide (a0 : Nat) : bp_M Int32 :=
  bp_getN 3 6 a0 fun a1 =>
  bp_aldI 20 a1 (0 : Int32) fun x2 =>
  bp_ret x2
set_option maxHeartbeats 4000000 in
set_option maxRecDepth 100000 in
theorem cnX4_wide {G : bp_GT} (a0 : Nat) : bp_Con G iX4_wide (ws_ iX4_wide.1 iX4_wide.2.1 iX4_wide.2.2.1 iX4_wide.2.2.2.1) [.ref a0] (PX4_wide a0) bp_eI := by
  refine bp_con_of [(0, .ref a0)] rfl (by decide) (Nat.le_of_ble_eq_true rfl) rfl ?_
  unfold PX4_wide
  refine bp_j_aload_n 0 dX4_wide_0 rfl ?_
  refine bp_j_getN (t := 3) (k := 6) rfl (by decide) (bp_lk q241) dX4_wide_1 (fun _ _ _ => rfl) (fun a1 => ?_)
  refine bp_j_iconst (v := 0) dX4_wide_4 (by decide) ?_
  refine bp_j_iaload dX4_wide_5 (fun x2 => ?_)
  exact bp_j_iret rfl dX4_wide_6
