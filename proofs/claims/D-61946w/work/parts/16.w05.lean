/-! programs and walks -/
set_option maxRecDepth 100000
/-- BilevelPages$Reader.readBody(LBilevelPages$Segment;I)V -/
abbrev iX2_readBody : bp_MI := (yX2_readBody, cX2_readBody, 6, none, [], 8, 203)
def PX2_readBody (a0 : Nat) (bp1 : Nat) (xp2 : Int32) : bp_M Unit :=
  bp_bind (bp_is 1 a0 (PX2_checkReferences a0 bp1 xp2)) fun r1 =>
  bp_bind (bp_is 1 a0 (PX2_isOnPage a0 bp1)) fun x2 =>
  bp_jn (fun (k4 : Int32 → bp_M Unit) =>
  bp_if (x2 = 0) (
  k4 (0 : Int32)) (
  bp_getI 1 6 a0 fun x39 =>
  bp_if (x39 = 0) (
  k4 (1 : Int32)) (
  bp_getN 3 0 bp1 fun a40 =>
  bp_bind (bp_is 8 a40 (PX5_hasBytes a40)) fun x41 =>
  bp_if (x41 = 0) (
  k4 (0 : Int32)) (
  k4 (1 : Int32))))) (fun (x3 : Int32) =>
  bp_getI 3 10 bp1 fun x5 =>
  bp_bind (PX1_need x3 (6 : Int32) x5) fun _ =>
  bp_getN 3 0 bp1 fun a6 =>
  bp_gets 14 fun a7 =>
  bp_jn (fun (k9 : Int32 → bp_M Unit) =>
  bp_if ((some a6) = (some a7)) (
  bp_getL 3 11 bp1 fun l38 =>
  bp_if ((lg_cmp l38 (4294967295 : Int64)) = 0) (
  k9 (1 : Int32)) (
  k9 (0 : Int32))) (
  k9 (0 : Int32))) (fun (x8 : Int32) =>
  bp_jn (fun (k11 : Int32 → bp_M Unit) =>
  bp_if (x8 = 0) (
  bp_getN 3 0 bp1 fun a35 =>
  bp_getL 3 11 bp1 fun l36 =>
  bp_bind (bp_is 8 a35 (PX5_takes a35 l36)) fun x37 =>
  bp_if (x37 = 0) (
  k11 (0 : Int32)) (
  k11 (1 : Int32))) (
  k11 (1 : Int32))) (fun (x10 : Int32) =>
  bp_getI 3 10 bp1 fun x12 =>
  bp_bind (PX1_need x10 (7 : Int32) x12) fun _ =>
  bp_getI 1 2 a0 fun x13 =>
  bp_jn (fun (k15 : Int64 → bp_M Unit) =>
  bp_if (x8 = 0) (
  bp_getL 3 11 bp1 fun l34 =>
  k15 l34) (
  k15 (17 : Int64))) (fun (l14 : Int64) =>
  bp_bind (bp_is 1 a0 (PX2_needBytes a0 l14)) fun _ =>
  bp_getN 3 0 bp1 fun a16 =>
  bp_bind (bp_is 8 a16 (PJ4_ordinal a16)) fun x17 =>
  bp_jn (fun (k18 : bp_M Unit) =>
  bp_jn (fun (k24 : bp_M Unit) =>
  bp_sw (x17).toInt [(1, (
  k24)), (2, (
  k24)), (3, (
  k24)), (4, (
  bp_bind (bp_is 1 a0 (PX2_readSheet a0 bp1)) fun _ =>
  k18)), (5, (
  bp_bind (bp_is 1 a0 (PX2_endSheet a0 bp1)) fun _ =>
  k18)), (6, (
  bp_bind (bp_is 1 a0 (PX2_readStripe a0 bp1)) fun _ =>
  k18)), (7, (
  bp_getI 1 4 a0 fun x25 =>
  bp_jn (fun (k27 : Int32 → bp_M Unit) =>
  bp_if (x25 = (-1 : Int32)) (
  k27 (1 : Int32)) (
  k27 (0 : Int32))) (fun (x26 : Int32) =>
  bp_getI 3 10 bp1 fun x28 =>
  bp_bind (PX1_need x26 (10 : Int32) x28) fun _ =>
  k18))), (8, (
  k18)), (9, (
  bp_getI 1 2 a0 fun x29 =>
  bp_bind (bp_is 1 a0 (PX2_four a0 x29)) fun l30 =>
  bp_jn (fun (k32 : Int32 → bp_M Unit) =>
  bp_if (0 ≤ (lg_cmp l30 (2147483648 : Int64))) (
  k32 (0 : Int32)) (
  k32 (1 : Int32))) (fun (x31 : Int32) =>
  bp_getI 3 10 bp1 fun x33 =>
  bp_bind (PX1_need x31 (9 : Int32) x33) fun _ =>
  k18)))] (
  k18)) (bp_bind (bp_is 1 a0 (PX2_readRegion a0 bp1 x8 r1)) fun _ =>
  k18)) (bp_jn (fun (k20 : Int32 → bp_M Unit) =>
  bp_if (x8 = 0) (
  bp_getL 3 11 bp1 fun l22 =>
  k20 (x13 + l22.toInt32)) (
  bp_getI 1 2 a0 fun x23 =>
  k20 x23)) (fun (x19 : Int32) =>
  bp_putI 1 2 a0 x19 <|
  bp_getI 1 2 a0 fun x21 =>
  bp_putL 3 11 bp1 ((x21 - x13).toInt64) <|
  bp_bind (bp_is 1 a0 (PX2_letGo a0 bp1 xp2)) fun _ =>
  bp_ret ()))))))
set_option maxHeartbeats 4000000 in
set_option maxRecDepth 100000 in
theorem cnX2_readBody {G : bp_GT} (a0 : Nat) (bp1 : Nat) (xp2 : Int32) : bp_Con G iX2_readBody (ws_ iX2_readBody.1 iX2_readBody.2.1 iX2_readBody.2.2.1 iX2_readBody.2.2.2.1) [.ref a0, .ref bp1, .int xp2] (PX2_readBody a0 bp1 xp2) bp_eU := by
  refine bp_con_of [(0, .ref a0), (1, .ref bp1), (2, .int xp2)] rfl (by decide) (Nat.le_of_ble_eq_true rfl) rfl ?_
  unfold PX2_readBody
  refine bp_j_aload_n 0 dX2_readBody_0 rfl ?_
  refine bp_j_aload_n 1 dX2_readBody_1 rfl ?_
  refine bp_j_iload_n 2 dX2_readBody_2 rfl ?_
  refine bp_j_cl_R (bp_ranV (t := 1) (n := 2) (As := [.ref bp1, .int xp2]) (cnX2_checkReferences (G := G) a0 bp1 xp2) rfl (lw_V q567 q569 qs10 q76 q570) ⟨rfl, by decide +kernel, by decide +kernel, by decide +kernel⟩ ⟨by decide, by decide⟩ (rest := []) rfl rfl (Nat.le_of_ble_eq_true rfl) dX2_readBody_3) (by decide) (fun r1 => ?_)
  refine bp_j_astore_nR (lv' := [(3, va_rf r1), (0, .ref a0), (1, .ref bp1), (2, .int xp2)]) dX2_readBody_6 (by decide) rfl ?_
  refine bp_j_aload_n 1 dX2_readBody_7 rfl ?_
  refine bp_j_aload_n 2 dX2_readBody_8 rfl ?_
  refine bp_j_cl_I (bp_ranV (t := 1) (n := 1) (As := [.ref bp1]) (cnX2_isOnPage (G := G) a0 bp1) rfl (lw_V q609 q611 qs12 q76 q612) ⟨rfl, by decide +kernel, by decide +kernel, by decide +kernel⟩ ⟨by decide, by decide⟩ (rest := []) rfl rfl (Nat.le_of_ble_eq_true rfl) dX2_readBody_9) (by decide) (fun x2 => ?_)
  refine bp_j_jm (fun k => ∀ (x3 : Int32), bp_J G iX2_readBody (bp_Qn G bp_eU) (k x3) 37 [(0, .ref a0), (1, .ref bp1), (2, .int xp2), (3, va_rf r1)] [.int x3]) (fun k4 hk4 => ?_) (fun x3 => ?_)
  · refine bp_j_if_eq (tgt := 36) dX2_readBody_12 (by decide) ?_ ?_
    · refine bp_j_iconst (v := 0) dX2_readBody_36 (by decide) ?_
      exact bp_j_sub [1, 2, 3, 0] rfl (hk4 (0 : Int32))
    refine bp_j_aload_n 1 dX2_readBody_15 rfl ?_
    refine bp_j_getI (t := 1) (k := 6) rfl (by decide) (bp_lk q153) dX2_readBody_16 (fun _ _ _ => rfl) (fun x39 => ?_)
    refine bp_j_if_eq (tgt := 32) dX2_readBody_19 (by decide) ?_ ?_
    · refine bp_j_iconst (v := 1) dX2_readBody_32 (by decide) ?_
      refine bp_j_goto (tgt := 37) dX2_readBody_33 (by decide) ?_
      exact bp_j_sub [1, 2, 3, 0] rfl (hk4 (1 : Int32))
    refine bp_j_aload_n 2 dX2_readBody_22 rfl ?_
    refine bp_j_getN (t := 3) (k := 0) rfl (by decide) (bp_lkN q224) dX2_readBody_23 (fun _ _ _ => rfl) (fun a40 => ?_)
    refine bp_j_cl_I (bp_ranV (t := 8) (n := 0) (As := []) (cnX5_hasBytes (G := G) a40 ) rfl (lw_V q614 q615 q616 q81 q617) ⟨rfl, by decide +kernel, by decide +kernel, by decide +kernel⟩ ⟨by decide, by decide⟩ (rest := []) rfl rfl (Nat.le_of_ble_eq_true rfl) dX2_readBody_26) (by decide) (fun x41 => ?_)
    refine bp_j_if_eq (tgt := 36) dX2_readBody_29 (by decide) ?_ ?_
    · refine bp_j_iconst (v := 0) dX2_readBody_36 (by decide) ?_
      exact bp_j_sub [1, 2, 3, 0] rfl (hk4 (0 : Int32))
    refine bp_j_iconst (v := 1) dX2_readBody_32 (by decide) ?_
    refine bp_j_goto (tgt := 37) dX2_readBody_33 (by decide) ?_
    exact bp_j_sub [1, 2, 3, 0] rfl (hk4 (1 : Int32))
  refine bp_j_bipush (v := 6) dX2_readBody_37 (by decide) ?_
  refine bp_j_aload_n 1 dX2_readBody_39 rfl ?_
  refine bp_j_getI (t := 3) (k := 10) rfl (by decide) (bp_lkN q254) dX2_readBody_40 (fun _ _ _ => rfl) (fun x5 => ?_)
  refine bp_j_cl_U (bp_ranSN (n := 3) (As := [.int x3, .int (6 : Int32), .int x5]) (cnX1_need (G := G) x3 (6 : Int32) x5) q380 q72 q378 q379 ⟨by decide +kernel, by decide +kernel, by decide +kernel⟩ ⟨by decide, by decide⟩ (rest := []) rfl rfl (Nat.le_of_ble_eq_true rfl) dX2_readBody_43) (by decide) (fun _ => ?_)
  refine bp_j_aload_n 1 dX2_readBody_46 rfl ?_
  refine bp_j_getN (t := 3) (k := 0) rfl (by decide) (bp_lkN q224) dX2_readBody_47 (fun _ _ _ => rfl) (fun a6 => ?_)
  refine bp_j_gets (j := 14) rfl (bp_lk q619) dX2_readBody_50 (fun a7 => ?_)
  refine bp_j_jm (fun k => ∀ (x8 : Int32), bp_J G iX2_readBody (bp_Qn G bp_eU) (k x8) 72 [(0, .ref a0), (1, .ref bp1), (2, .int xp2), (3, va_rf r1)] [.int x8]) (fun k9 hk9 => ?_) (fun x8 => ?_)
  · refine bp_j_acmp_ne (x := (some a6)) (y := (some a7)) (tgt := 71) dX2_readBody_53 (by decide) ?_ ?_
    · refine bp_j_iconst (v := 0) dX2_readBody_71 (by decide) ?_
      exact hk9 (0 : Int32)
    refine bp_j_aload_n 1 dX2_readBody_56 rfl ?_
    refine bp_j_getL (t := 3) (k := 11) rfl (by decide) (bp_lkN q256) dX2_readBody_57 (fun _ _ _ => rfl) (fun l38 => ?_)
    refine bp_j_ldc2 q620 dX2_readBody_60 ?_
    refine bp_j_lcmp dX2_readBody_63 ?_
    refine bp_j_if_ne (tgt := 71) dX2_readBody_64 (by decide) ?_ ?_
    · refine bp_j_iconst (v := 0) dX2_readBody_71 (by decide) ?_
      exact hk9 (0 : Int32)
    refine bp_j_iconst (v := 1) dX2_readBody_67 (by decide) ?_
    refine bp_j_goto (tgt := 72) dX2_readBody_68 (by decide) ?_
    exact hk9 (1 : Int32)
  refine bp_j_istore (lv' := [(4, .int x8), (0, .ref a0), (1, .ref bp1), (2, .int xp2), (3, va_rf r1)]) dX2_readBody_72 (by decide) (by cases r1 <;> rfl) ?_
  refine bp_j_iload 0 dX2_readBody_74 rfl ?_
  refine bp_j_jm (fun k => ∀ (x10 : Int32), bp_J G iX2_readBody (bp_Qn G bp_eU) (k x10) 98 [(0, .ref a0), (1, .ref bp1), (2, .int xp2), (3, va_rf r1), (4, .int x8)] [.int x10]) (fun k11 hk11 => ?_) (fun x10 => ?_)
  · refine bp_j_if_ne (tgt := 93) dX2_readBody_76 (by decide) ?_ ?_
    · refine bp_j_iconst (v := 1) dX2_readBody_93 (by decide) ?_
      refine bp_j_goto (tgt := 98) dX2_readBody_94 (by decide) ?_
      exact bp_j_sub [1, 2, 3, 4, 0] rfl (hk11 (1 : Int32))
    refine bp_j_aload_n 2 dX2_readBody_79 rfl ?_
    refine bp_j_getN (t := 3) (k := 0) rfl (by decide) (bp_lkN q224) dX2_readBody_80 (fun _ _ _ => rfl) (fun a35 => ?_)
    refine bp_j_aload_n 2 dX2_readBody_83 rfl ?_
    refine bp_j_getL (t := 3) (k := 11) rfl (by decide) (bp_lkN q256) dX2_readBody_84 (fun _ _ _ => rfl) (fun l36 => ?_)
    refine bp_j_cl_I (bp_ranV (t := 8) (n := 1) (As := [.long l36]) (cnX5_takes (G := G) a35 l36) rfl (lw_V q621 q622 q623 q81 q624) ⟨rfl, by decide +kernel, by decide +kernel, by decide +kernel⟩ ⟨by decide, by decide⟩ (rest := []) rfl rfl (Nat.le_of_ble_eq_true rfl) dX2_readBody_87) (by decide) (fun x37 => ?_)
    refine bp_j_if_eq (tgt := 97) dX2_readBody_90 (by decide) ?_ ?_
    · refine bp_j_iconst (v := 0) dX2_readBody_97 (by decide) ?_
      exact bp_j_sub [1, 2, 3, 4, 0] rfl (hk11 (0 : Int32))
    refine bp_j_iconst (v := 1) dX2_readBody_93 (by decide) ?_
    refine bp_j_goto (tgt := 98) dX2_readBody_94 (by decide) ?_
    exact bp_j_sub [1, 2, 3, 4, 0] rfl (hk11 (1 : Int32))
  refine bp_j_bipush (v := 7) dX2_readBody_98 (by decide) ?_
  refine bp_j_aload_n 1 dX2_readBody_100 rfl ?_
  refine bp_j_getI (t := 3) (k := 10) rfl (by decide) (bp_lkN q254) dX2_readBody_101 (fun _ _ _ => rfl) (fun x12 => ?_)
  refine bp_j_cl_U (bp_ranSN (n := 3) (As := [.int x10, .int (7 : Int32), .int x12]) (cnX1_need (G := G) x10 (7 : Int32) x12) q380 q72 q378 q379 ⟨by decide +kernel, by decide +kernel, by decide +kernel⟩ ⟨by decide, by decide⟩ (rest := []) rfl rfl (Nat.le_of_ble_eq_true rfl) dX2_readBody_104) (by decide) (fun _ => ?_)
  refine bp_j_aload_n 0 dX2_readBody_107 rfl ?_
  refine bp_j_getI (t := 1) (k := 2) rfl (by decide) (bp_lk q148) dX2_readBody_108 (fun _ _ _ => rfl) (fun x13 => ?_)
  refine bp_j_istore (lv' := [(5, .int x13), (0, .ref a0), (1, .ref bp1), (2, .int xp2), (3, va_rf r1), (4, .int x8)]) dX2_readBody_111 (by decide) rfl ?_
  refine bp_j_aload_n 1 dX2_readBody_113 rfl ?_
  refine bp_j_iload 5 dX2_readBody_114 rfl ?_
  refine bp_j_jm (fun k => ∀ (l14 : Int64), bp_J G iX2_readBody (bp_Qn G bp_eU) (k l14) 129 [(0, .ref a0), (1, .ref bp1), (2, .int xp2), (3, va_rf r1), (4, .int x8), (5, .int x13)] [.long l14, .ref a0]) (fun k15 hk15 => ?_) (fun l14 => ?_)
  · refine bp_j_if_eq (tgt := 125) dX2_readBody_116 (by decide) ?_ ?_
    · refine bp_j_aload_n 2 dX2_readBody_125 rfl ?_
      refine bp_j_getL (t := 3) (k := 11) rfl (by decide) (bp_lkN q256) dX2_readBody_126 (fun _ _ _ => rfl) (fun l34 => ?_)
      exact bp_j_sub [1, 2, 3, 4, 5, 0] rfl (hk15 l34)
    refine bp_j_ldc2 q631 dX2_readBody_119 ?_
    refine bp_j_goto (tgt := 129) dX2_readBody_122 (by decide) ?_
    exact bp_j_sub [1, 2, 3, 4, 5, 0] rfl (hk15 (17 : Int64))
  refine bp_j_cl_U (bp_ranV (t := 1) (n := 1) (As := [.long l14]) (cnX2_needBytes (G := G) a0 l14) rfl (lw_V q374 q376 qs2 q76 q377) ⟨rfl, by decide +kernel, by decide +kernel, by decide +kernel⟩ ⟨by decide, by decide⟩ (rest := []) rfl rfl (Nat.le_of_ble_eq_true rfl) dX2_readBody_129) (by decide) (fun _ => ?_)
  refine bp_j_aload_n 1 dX2_readBody_132 rfl ?_
  refine bp_j_getN (t := 3) (k := 0) rfl (by decide) (bp_lkN q224) dX2_readBody_133 (fun _ _ _ => rfl) (fun a16 => ?_)
  refine bp_j_cl_I (bp_ranU (t := 8) (n := 0) (As := []) (owner := "java/lang/Enum") (x := ⟨"BilevelPages$Kind", "ordinal", "()I"⟩) (cnJ4_ordinal (G := G) a16 ) rfl (List.forall_mem_cons.mpr ⟨q613, List.forall_mem_cons.mpr ⟨q599, List.forall_mem_cons.mpr ⟨q601, List.forall_mem_cons.mpr ⟨q602, List.forall_mem_cons.mpr ⟨q80, fun _ h => nomatch h⟩⟩⟩⟩⟩) q603 rfl ⟨by decide +kernel, by decide +kernel, by decide +kernel⟩ ⟨by decide, by decide⟩ (rest := []) rfl rfl (Nat.le_of_ble_eq_true rfl) dX2_readBody_136) (by decide) (fun x17 => ?_)
  refine bp_j_jm (fun k => bp_J G iX2_readBody (bp_Qn G bp_eU) (k) 280 [(0, .ref a0), (1, .ref bp1), (2, .int xp2), (4, .int x8), (5, .int x13)] []) (fun k18 hk18 => ?_) ?_
  · refine bp_j_jm (fun k => bp_J G iX2_readBody (bp_Qn G bp_eU) (k) 188 [(0, .ref a0), (1, .ref bp1), (2, .int xp2), (3, va_rf r1), (4, .int x8), (5, .int x13)] []) (fun k24 hk24 => ?_) ?_
    · refine bp_j_tsw (tgt := 280) [188, 188, 188, 199, 215, 207, 223, 280, 248] dX2_readBody_139 rfl rfl rfl (by decide) (bp_JSc ?_ (bp_JSc ?_ (bp_JSc ?_ (bp_JSc ?_ (bp_JSc ?_ (bp_JSc ?_ (bp_JSc ?_ (bp_JSc ?_ (bp_JSc ?_ bp_JSn))))))))) ?_
      · exact hk24
      · exact hk24
      · exact hk24
      · refine bp_j_aload_n 0 dX2_readBody_199 rfl ?_
        refine bp_j_aload_n 1 dX2_readBody_200 rfl ?_
        refine bp_j_cl_U (bp_ranV (t := 1) (n := 1) (As := [.ref bp1]) (cnX2_readSheet (G := G) a0 bp1) rfl (lw_V q687 q689 qs19 q76 q690) ⟨rfl, by decide +kernel, by decide +kernel, by decide +kernel⟩ ⟨by decide, by decide⟩ (rest := []) rfl rfl (Nat.le_of_ble_eq_true rfl) dX2_readBody_201) (by decide) (fun _ => ?_)
        refine bp_j_goto (tgt := 280) dX2_readBody_204 (by decide) ?_
        exact bp_j_sub [0, 1, 2, 4, 5] rfl (hk18)
      · refine bp_j_aload_n 0 dX2_readBody_215 rfl ?_
        refine bp_j_aload_n 1 dX2_readBody_216 rfl ?_
        refine bp_j_cl_U (bp_ranV (t := 1) (n := 1) (As := [.ref bp1]) (cnX2_endSheet (G := G) a0 bp1) rfl (lw_V q703 q705 qs21 q76 q706) ⟨rfl, by decide +kernel, by decide +kernel, by decide +kernel⟩ ⟨by decide, by decide⟩ (rest := []) rfl rfl (Nat.le_of_ble_eq_true rfl) dX2_readBody_217) (by decide) (fun _ => ?_)
        refine bp_j_goto (tgt := 280) dX2_readBody_220 (by decide) ?_
        exact bp_j_sub [0, 1, 2, 4, 5] rfl (hk18)
      · refine bp_j_aload_n 0 dX2_readBody_207 rfl ?_
        refine bp_j_aload_n 1 dX2_readBody_208 rfl ?_
        refine bp_j_cl_U (bp_ranV (t := 1) (n := 1) (As := [.ref bp1]) (cnX2_readStripe (G := G) a0 bp1) rfl (lw_V q695 q697 qs20 q76 q698) ⟨rfl, by decide +kernel, by decide +kernel, by decide +kernel⟩ ⟨by decide, by decide⟩ (rest := []) rfl rfl (Nat.le_of_ble_eq_true rfl) dX2_readBody_209) (by decide) (fun _ => ?_)
        refine bp_j_goto (tgt := 280) dX2_readBody_212 (by decide) ?_
        exact bp_j_sub [0, 1, 2, 4, 5] rfl (hk18)
      · refine bp_j_aload_n 0 dX2_readBody_223 rfl ?_
        refine bp_j_getI (t := 1) (k := 4) rfl (by decide) (bp_lk q150) dX2_readBody_224 (fun _ _ _ => rfl) (fun x25 => ?_)
        refine bp_j_iconst (v := -1) dX2_readBody_227 (by decide) ?_
        refine bp_j_jm (fun k => ∀ (x26 : Int32), bp_J G iX2_readBody (bp_Qn G bp_eU) (k x26) 236 [(0, .ref a0), (1, .ref bp1), (2, .int xp2), (4, .int x8), (5, .int x13)] [.int x26]) (fun k27 hk27 => ?_) (fun x26 => ?_)
        · refine bp_j_icmp_ne (tgt := 235) dX2_readBody_228 (by decide) ?_ ?_
          · refine bp_j_iconst (v := 0) dX2_readBody_235 (by decide) ?_
            exact bp_j_sub [0, 1, 2, 4, 5] rfl (hk27 (0 : Int32))
          refine bp_j_iconst (v := 1) dX2_readBody_231 (by decide) ?_
          refine bp_j_goto (tgt := 236) dX2_readBody_232 (by decide) ?_
          exact bp_j_sub [0, 1, 2, 4, 5] rfl (hk27 (1 : Int32))
        refine bp_j_bipush (v := 10) dX2_readBody_236 (by decide) ?_
        refine bp_j_aload_n 1 dX2_readBody_238 rfl ?_
        refine bp_j_getI (t := 3) (k := 10) rfl (by decide) (bp_lkN q254) dX2_readBody_239 (fun _ _ _ => rfl) (fun x28 => ?_)
        refine bp_j_cl_U (bp_ranSN (n := 3) (As := [.int x26, .int (10 : Int32), .int x28]) (cnX1_need (G := G) x26 (10 : Int32) x28) q380 q72 q378 q379 ⟨by decide +kernel, by decide +kernel, by decide +kernel⟩ ⟨by decide, by decide⟩ (rest := []) rfl rfl (Nat.le_of_ble_eq_true rfl) dX2_readBody_242) (by decide) (fun _ => ?_)
        refine bp_j_goto (tgt := 280) dX2_readBody_245 (by decide) ?_
        exact hk18
      · exact bp_j_sub [0, 1, 2, 4, 5] rfl (hk18)
      · refine bp_j_aload_n 0 dX2_readBody_248 rfl ?_
        refine bp_j_aload_n 0 dX2_readBody_249 rfl ?_
        refine bp_j_getI (t := 1) (k := 2) rfl (by decide) (bp_lk q148) dX2_readBody_250 (fun _ _ _ => rfl) (fun x29 => ?_)
        refine bp_j_cl_L (bp_ranV (t := 1) (n := 1) (As := [.int x29]) (cnX2_four (G := G) a0 x29) rfl (lw_V q457 q459 qs5 q76 q460) ⟨rfl, by decide +kernel, by decide +kernel, by decide +kernel⟩ ⟨by decide, by decide⟩ (rest := []) rfl rfl (Nat.le_of_ble_eq_true rfl) dX2_readBody_253) (by decide) (fun l30 => ?_)
        refine bp_j_ldc2 q707 dX2_readBody_256 ?_
        refine bp_j_lcmp dX2_readBody_259 ?_
        refine bp_j_jm (fun k => ∀ (x31 : Int32), bp_J G iX2_readBody (bp_Qn G bp_eU) (k x31) 268 [(0, .ref a0), (1, .ref bp1), (2, .int xp2), (4, .int x8), (5, .int x13)] [.int x31]) (fun k32 hk32 => ?_) (fun x31 => ?_)
        · refine bp_j_if_ge (tgt := 267) dX2_readBody_260 (by decide) ?_ ?_
          · refine bp_j_iconst (v := 0) dX2_readBody_267 (by decide) ?_
            exact bp_j_sub [0, 1, 2, 4, 5] rfl (hk32 (0 : Int32))
          refine bp_j_iconst (v := 1) dX2_readBody_263 (by decide) ?_
          refine bp_j_goto (tgt := 268) dX2_readBody_264 (by decide) ?_
          exact bp_j_sub [0, 1, 2, 4, 5] rfl (hk32 (1 : Int32))
        refine bp_j_bipush (v := 9) dX2_readBody_268 (by decide) ?_
        refine bp_j_aload_n 1 dX2_readBody_270 rfl ?_
        refine bp_j_getI (t := 3) (k := 10) rfl (by decide) (bp_lkN q254) dX2_readBody_271 (fun _ _ _ => rfl) (fun x33 => ?_)
        refine bp_j_cl_U (bp_ranSN (n := 3) (As := [.int x31, .int (9 : Int32), .int x33]) (cnX1_need (G := G) x31 (9 : Int32) x33) q380 q72 q378 q379 ⟨by decide +kernel, by decide +kernel, by decide +kernel⟩ ⟨by decide, by decide⟩ (rest := []) rfl rfl (Nat.le_of_ble_eq_true rfl) dX2_readBody_274) (by decide) (fun _ => ?_)
        refine bp_j_goto (tgt := 280) dX2_readBody_277 (by decide) ?_
        exact hk18
      exact bp_j_sub [0, 1, 2, 4, 5] rfl (hk18)
    refine bp_j_aload_n 0 dX2_readBody_188 rfl ?_
    refine bp_j_aload_n 1 dX2_readBody_189 rfl ?_
    refine bp_j_iload 4 dX2_readBody_190 rfl ?_
    refine bp_j_aload_nR 3 dX2_readBody_192 rfl ?_
    refine bp_j_cl_U (bp_ranV (t := 1) (n := 3) (As := [.ref bp1, .int x8, va_rf r1]) (cnX2_readRegion (G := G) a0 bp1 x8 r1) rfl (lw_V q632 q634 qs13 q76 q635) ⟨rfl, by decide +kernel, by decide +kernel, by decide +kernel⟩ ⟨by decide, by decide⟩ (rest := []) rfl rfl (Nat.le_of_ble_eq_true rfl) dX2_readBody_193) (by decide) (fun _ => ?_)
    refine bp_j_goto (tgt := 280) dX2_readBody_196 (by decide) ?_
    exact bp_j_sub [0, 1, 2, 4, 5] rfl (hk18)
  refine bp_j_aload_n 0 dX2_readBody_280 rfl ?_
  refine bp_j_iload 3 dX2_readBody_281 rfl ?_
  refine bp_j_jm (fun k => ∀ (x19 : Int32), bp_J G iX2_readBody (bp_Qn G bp_eU) (k x19) 301 [(0, .ref a0), (1, .ref bp1), (2, .int xp2), (5, .int x13)] [.int x19, .ref a0]) (fun k20 hk20 => ?_) (fun x19 => ?_)
  · refine bp_j_if_eq (tgt := 293) dX2_readBody_283 (by decide) ?_ ?_
    · refine bp_j_iload 4 dX2_readBody_293 rfl ?_
      refine bp_j_aload_n 1 dX2_readBody_295 rfl ?_
      refine bp_j_getL (t := 3) (k := 11) rfl (by decide) (bp_lkN q256) dX2_readBody_296 (fun _ _ _ => rfl) (fun l22 => ?_)
      refine bp_j_l2i dX2_readBody_299 ?_
      refine bp_j_iadd dX2_readBody_300 ?_
      exact bp_j_sub [0, 1, 2, 4] rfl (hk20 (x13 + l22.toInt32))
    refine bp_j_aload_n 0 dX2_readBody_286 rfl ?_
    refine bp_j_getI (t := 1) (k := 2) rfl (by decide) (bp_lk q148) dX2_readBody_287 (fun _ _ _ => rfl) (fun x23 => ?_)
    refine bp_j_goto (tgt := 301) dX2_readBody_290 (by decide) ?_
    exact bp_j_sub [0, 1, 2, 4] rfl (hk20 x23)
  refine bp_j_putI (t := 1) (k := 2) rfl (by decide) (by decide) (bp_lk q148) rfl dX2_readBody_301 rfl ?_
  refine bp_j_aload_n 1 dX2_readBody_304 rfl ?_
  refine bp_j_aload_n 0 dX2_readBody_305 rfl ?_
  refine bp_j_getI (t := 1) (k := 2) rfl (by decide) (bp_lk q148) dX2_readBody_306 (fun _ _ _ => rfl) (fun x21 => ?_)
  refine bp_j_iload 3 dX2_readBody_309 rfl ?_
  refine bp_j_isub dX2_readBody_311 ?_
  refine bp_j_i2l dX2_readBody_312 ?_
  refine bp_j_putL (t := 3) (k := 11) rfl (by decide) (by decide) (bp_lkN q256) rfl dX2_readBody_313 rfl ?_
  refine bp_j_aload_n 0 dX2_readBody_316 rfl ?_
  refine bp_j_aload_n 1 dX2_readBody_317 rfl ?_
  refine bp_j_iload_n 2 dX2_readBody_318 rfl ?_
  refine bp_j_cl_U (bp_ranV (t := 1) (n := 2) (As := [.ref bp1, .int xp2]) (cnX2_letGo (G := G) a0 bp1 xp2) rfl (lw_V q708 q710 qs22 q76 q711) ⟨rfl, by decide +kernel, by decide +kernel, by decide +kernel⟩ ⟨by decide, by decide⟩ (rest := []) rfl rfl (Nat.le_of_ble_eq_true rfl) dX2_readBody_319) (by decide) (fun _ => ?_)
  exact bp_j_vret rfl dX2_readBody_322
/-- BilevelPages$Reader.readHead()LBilevelPages$Segment; -/
abbrev iX2_readHead : bp_MI := (yX2_readHead, cX2_readHead, 11, some ((Jvm.ClassFile.FieldType.object "BilevelPages$Segment")), [], 6, 154)
def BX2_readHead_388 (a0 : Nat) (x18 : Int32) (a39 : Nat) (k40 : bp_M Nat) (k45 : Int32 → bp_M Nat) : Int32 → bp_M Nat :=
  fun x44 =>
  bp_if (x18 ≤ x44) (
  k40) (
  bp_getN 3 3 a39 fun a46 =>
  bp_getI 1 2 a0 fun x47 =>
  bp_bind (bp_is 1 a0 (PX2_byteAt a0 (x47 + x44))) fun x48 =>
  bp_astI a46 x44 x48 <|
  bp_letI (x44 + (1 : Int32)) fun x49 =>
  k45 x49)
def PX2_readHead (a0 : Nat) : bp_M Nat :=
  bp_getI 1 2 a0 fun x1 =>
  bp_bind (bp_is 1 a0 (PX2_needBytes a0 (6 : Int64))) fun _ =>
  bp_getI 1 2 a0 fun x2 =>
  bp_bind (bp_is 1 a0 (PX2_byteAt a0 (x2 + (5 : Int32)))) fun x3 =>
  bp_jn (fun (k5 : Int32 → bp_M Nat) =>
  bp_if (x3 < (224 : Int32)) (
  k5 (0 : Int32)) (
  k5 (1 : Int32))) (fun (x4 : Int32) =>
  bp_jn (fun (k7 : Int64 → bp_M Nat) =>
  bp_if (x4 = 0) (
  k7 (6 : Int64)) (
  k7 (9 : Int64))) (fun (l6 : Int64) =>
  bp_bind (bp_is 1 a0 (PX2_needBytes a0 l6)) fun _ =>
  bp_getI 1 2 a0 fun x8 =>
  bp_bind (bp_is 1 a0 (PX2_four a0 x8)) fun l9 =>
  bp_getI 1 3 a0 fun x10 =>
  bp_jn (fun (k12 : Int32 → bp_M Nat) =>
  bp_if ((lg_cmp l9 x10.toInt64) ≤ 0) (
  k12 (0 : Int32)) (
  bp_if (0 < (lg_cmp l9 (255 : Int64))) (
  k12 (0 : Int32)) (
  k12 (1 : Int32)))) (fun (x11 : Int32) =>
  bp_bind (PX1_need x11 (3 : Int32) x1) fun _ =>
  bp_getI 1 2 a0 fun x13 =>
  bp_bind (bp_is 1 a0 (PX2_byteAt a0 (x13 + (4 : Int32)))) fun x14 =>
  bp_bind (PX1_kindOf x14) fun r15 =>
  bp_jn (fun (k17 : Int32 → bp_M Nat) =>
  bp_if (r15 = none) (
  k17 (0 : Int32)) (
  bp_gets 18 fun a64 =>
  bp_if (r15 = (some a64)) (
  bp_getN 1 7 a0 fun a65 =>
  bp_getI 0 0 a65 fun x66 =>
  bp_if ((2 : Int32) ≤ x66) (
  k17 (0 : Int32)) (
  k17 (1 : Int32))) (
  k17 (1 : Int32)))) (fun (x16 : Int32) =>
  bp_bind (PX1_need x16 (4 : Int32) x1) fun _ =>
  bp_jn (fun (k19 : Int32 → bp_M Nat) =>
  bp_if (x4 = 0) (
  bp_getI 1 2 a0 fun x60 =>
  bp_bind (bp_is 1 a0 (PX2_byteAt a0 (x60 + (5 : Int32)))) fun x61 =>
  k19 (x61 >>> ((5 : Int32) &&& 31))) (
  bp_getI 1 2 a0 fun x62 =>
  bp_bind (bp_is 1 a0 (PX2_byteAt a0 (x62 + (8 : Int32)))) fun x63 =>
  k19 x63)) (fun (x18 : Int32) =>
  bp_jn (fun (k21 : Int32 → bp_M Nat) =>
  bp_if (x4 = 0) (
  bp_if ((4 : Int32) < x18) (
  k21 (0 : Int32)) (
  k21 (1 : Int32))) (
  bp_getI 1 2 a0 fun x57 =>
  bp_bind (bp_is 1 a0 (PX2_four a0 (x57 + (5 : Int32)))) fun l58 =>
  bp_if ((lg_cmp l58 ((3758096384 : Int64) ||| x18.toInt64)) = 0) (
  bp_bind (PX1_within x18.toInt64 (5 : Int64) (10 : Int64)) fun x59 =>
  bp_if (x59 = 0) (
  k21 (0 : Int32)) (
  k21 (1 : Int32))) (
  k21 (0 : Int32)))) (fun (x20 : Int32) =>
  bp_bind (PX1_need x20 (8 : Int32) x1) fun _ =>
  bp_jn (fun (k23 : Int32 → bp_M Nat) =>
  bp_if (x4 = 0) (
  bp_getI 1 2 a0 fun x55 =>
  k23 (x55 + (5 : Int32))) (
  bp_getI 1 2 a0 fun x56 =>
  k23 (x56 + (9 : Int32)))) (fun (x22 : Int32) =>
  bp_jn (fun (k25 : Int32 → bp_M Nat) =>
  bp_if (x4 = 0) (
  bp_getI 1 2 a0 fun x53 =>
  k25 (x53 + (6 : Int32))) (
  bp_getI 1 2 a0 fun x54 =>
  k25 (x54 + (11 : Int32)))) (fun (x24 : Int32) =>
  bp_putI 1 2 a0 x24 <|
  bp_bind (bp_is 1 a0 (PX2_needBytes a0 ((x18 + (5 : Int32)).toInt64))) fun _ =>
  bp_jn (fun (k27 : Int32 → bp_M Nat) =>
  bp_if (x4 = 0) (
  bp_bind (bp_is 1 a0 (PX2_byteAt a0 x22)) fun x50 =>
  k27 (x50 &&& (31 : Int32))) (
  bp_bind (bp_is 1 a0 (PX2_byteAt a0 x22)) fun x51 =>
  bp_bind (bp_is 1 a0 (PX2_byteAt a0 (x22 + (1 : Int32)))) fun x52 =>
  k27 (x51 ||| (x52 <<< ((8 : Int32) &&& 31))))) (fun (x26 : Int32) =>
  bp_jn (fun (k29 : Int32 → bp_M Nat) =>
  bp_if ((x26 >>> ((x18 + (1 : Int32)) &&& 31)) = 0) (
  k29 (1 : Int32)) (
  k29 (0 : Int32))) (fun (x28 : Int32) =>
  bp_bind (PX1_need x28 (8 : Int32) x1) fun _ =>
  bp_getN 1 7 a0 fun a30 =>
  bp_getN 0 3 a30 fun a31 =>
  bp_getN 1 7 a0 fun a32 =>
  bp_getN 0 11 a32 fun a33 =>
  bp_bind (bp_is 6 a33 (PJ2_size a33)) fun x34 =>
  bp_aldN 24 a31 x34 fun a35 =>
  bp_getI 1 2 a0 fun x36 =>
  bp_bind (bp_is 1 a0 (PX2_byteAt a0 (x36 + x18))) fun x37 =>
  bp_nn r15 fun a38 =>
  bp_bind (bp_is 3 a35 (PX4_begin a35 a38 x37 l9.toInt32)) fun a39 =>
  bp_jn (fun (k40 : bp_M Nat) =>
  bp_loop (fun _ => bp_no) (BX2_readHead_388 a0 x18 a39 k40) (fun k => k (0 : Int32))) (bp_putI 3 4 a39 x18 <|
  bp_putI 3 5 a39 ((x26 ^^^ (-1 : Int32)) &&& (((2 : Int32) <<< (x18 &&& 31)) - (1 : Int32))) <|
  bp_getI 1 2 a0 fun x41 =>
  bp_bind (bp_is 1 a0 (PX2_four a0 ((x41 + x18) + (1 : Int32)))) fun l42 =>
  bp_putL 3 11 a39 l42 <|
  bp_putI 3 10 a39 x1 <|
  bp_getI 1 2 a0 fun x43 =>
  bp_putI 1 2 a0 (x43 + (x18 + (5 : Int32))) <|
  bp_putI 1 3 a0 l9.toInt32 <|
  bp_ret a39)))))))))))
set_option maxHeartbeats 4000000 in
set_option maxRecDepth 100000 in
theorem cnX2_readHead {G : bp_GT} (a0 : Nat) : bp_Con G iX2_readHead (ws_ iX2_readHead.1 iX2_readHead.2.1 iX2_readHead.2.2.1 iX2_readHead.2.2.2.1) [.ref a0] (PX2_readHead a0) bp_eN := by
  refine bp_con_of [(0, .ref a0)] rfl (by decide) (Nat.le_of_ble_eq_true rfl) rfl ?_
  unfold PX2_readHead
  refine bp_j_aload_n 0 dX2_readHead_0 rfl ?_
  refine bp_j_getI (t := 1) (k := 2) rfl (by decide) (bp_lk q148) dX2_readHead_1 (fun _ _ _ => rfl) (fun x1 => ?_)
  refine bp_j_istore_n (lv' := [(1, .int x1), (0, .ref a0)]) dX2_readHead_4 (by decide) rfl ?_
  refine bp_j_aload_n 1 dX2_readHead_5 rfl ?_
  refine bp_j_ldc2 q373 dX2_readHead_6 ?_
  refine bp_j_cl_U (bp_ranV (t := 1) (n := 1) (As := [.long (6 : Int64)]) (cnX2_needBytes (G := G) a0 (6 : Int64)) rfl (lw_V q374 q376 qs2 q76 q377) ⟨rfl, by decide +kernel, by decide +kernel, by decide +kernel⟩ ⟨by decide, by decide⟩ (rest := []) rfl rfl (Nat.le_of_ble_eq_true rfl) dX2_readHead_9) (by decide) (fun _ => ?_)
  refine bp_j_aload_n 1 dX2_readHead_12 rfl ?_
  refine bp_j_aload_n 1 dX2_readHead_13 rfl ?_
  refine bp_j_getI (t := 1) (k := 2) rfl (by decide) (bp_lk q148) dX2_readHead_14 (fun _ _ _ => rfl) (fun x2 => ?_)
  refine bp_j_iconst (v := 5) dX2_readHead_17 (by decide) ?_
  refine bp_j_iadd dX2_readHead_18 ?_
  refine bp_j_cl_I (bp_ranV (t := 1) (n := 1) (As := [.int (x2 + (5 : Int32))]) (cnX2_byteAt (G := G) a0 (x2 + (5 : Int32))) rfl (lw_V q452 q454 qs4 q76 q455) ⟨rfl, by decide +kernel, by decide +kernel, by decide +kernel⟩ ⟨by decide, by decide⟩ (rest := []) rfl rfl (Nat.le_of_ble_eq_true rfl) dX2_readHead_19) (by decide) (fun x3 => ?_)
  refine bp_j_sipush (v := 224) dX2_readHead_22 (by decide) ?_
  refine bp_j_jm (fun k => ∀ (x4 : Int32), bp_J G iX2_readHead (bp_Qn G bp_eN) (k x4) 33 [(0, .ref a0), (1, .int x1)] [.int x4]) (fun k5 hk5 => ?_) (fun x4 => ?_)
  · refine bp_j_icmp_lt (tgt := 32) dX2_readHead_25 (by decide) ?_ ?_
    · refine bp_j_iconst (v := 0) dX2_readHead_32 (by decide) ?_
      exact bp_j_sub [1, 0] rfl (hk5 (0 : Int32))
    refine bp_j_iconst (v := 1) dX2_readHead_28 (by decide) ?_
    refine bp_j_goto (tgt := 33) dX2_readHead_29 (by decide) ?_
    exact bp_j_sub [1, 0] rfl (hk5 (1 : Int32))
  refine bp_j_istore_n (lv' := [(2, .int x4), (0, .ref a0), (1, .int x1)]) dX2_readHead_33 (by decide) rfl ?_
  refine bp_j_aload_n 1 dX2_readHead_34 rfl ?_
  refine bp_j_iload_n 0 dX2_readHead_35 rfl ?_
  refine bp_j_jm (fun k => ∀ (l6 : Int64), bp_J G iX2_readHead (bp_Qn G bp_eN) (k l6) 48 [(0, .ref a0), (1, .int x1), (2, .int x4)] [.long l6, .ref a0]) (fun k7 hk7 => ?_) (fun l6 => ?_)
  · refine bp_j_if_eq (tgt := 45) dX2_readHead_36 (by decide) ?_ ?_
    · refine bp_j_ldc2 q373 dX2_readHead_45 ?_
      exact bp_j_sub [1, 2, 0] rfl (hk7 (6 : Int64))
    refine bp_j_ldc2 q456 dX2_readHead_39 ?_
    refine bp_j_goto (tgt := 48) dX2_readHead_42 (by decide) ?_
    exact bp_j_sub [1, 2, 0] rfl (hk7 (9 : Int64))
  refine bp_j_cl_U (bp_ranV (t := 1) (n := 1) (As := [.long l6]) (cnX2_needBytes (G := G) a0 l6) rfl (lw_V q374 q376 qs2 q76 q377) ⟨rfl, by decide +kernel, by decide +kernel, by decide +kernel⟩ ⟨by decide, by decide⟩ (rest := []) rfl rfl (Nat.le_of_ble_eq_true rfl) dX2_readHead_48) (by decide) (fun _ => ?_)
  refine bp_j_aload_n 0 dX2_readHead_51 rfl ?_
  refine bp_j_aload_n 0 dX2_readHead_52 rfl ?_
  refine bp_j_getI (t := 1) (k := 2) rfl (by decide) (bp_lk q148) dX2_readHead_53 (fun _ _ _ => rfl) (fun x8 => ?_)
  refine bp_j_cl_L (bp_ranV (t := 1) (n := 1) (As := [.int x8]) (cnX2_four (G := G) a0 x8) rfl (lw_V q457 q459 qs5 q76 q460) ⟨rfl, by decide +kernel, by decide +kernel, by decide +kernel⟩ ⟨by decide, by decide⟩ (rest := []) rfl rfl (Nat.le_of_ble_eq_true rfl) dX2_readHead_56) (by decide) (fun l9 => ?_)
  refine bp_j_lstore_n (lv' := [(3, .long l9), (0, .ref a0), (1, .int x1), (2, .int x4)]) dX2_readHead_59 (by decide) rfl ?_
  refine bp_j_lload_n 0 dX2_readHead_60 rfl ?_
  refine bp_j_aload_n 1 dX2_readHead_61 rfl ?_
  refine bp_j_getI (t := 1) (k := 3) rfl (by decide) (bp_lk q149) dX2_readHead_62 (fun _ _ _ => rfl) (fun x10 => ?_)
  refine bp_j_i2l dX2_readHead_65 ?_
  refine bp_j_lcmp dX2_readHead_66 ?_
  refine bp_j_jm (fun k => ∀ (x11 : Int32), bp_J G iX2_readHead (bp_Qn G bp_eN) (k x11) 83 [(0, .ref a0), (1, .int x1), (2, .int x4), (3, .long l9)] [.int x11]) (fun k12 hk12 => ?_) (fun x11 => ?_)
  · refine bp_j_if_le (tgt := 82) dX2_readHead_67 (by decide) ?_ ?_
    · refine bp_j_iconst (v := 0) dX2_readHead_82 (by decide) ?_
      exact bp_j_sub [1, 2, 3, 0] rfl (hk12 (0 : Int32))
    refine bp_j_lload_n 0 dX2_readHead_70 rfl ?_
    refine bp_j_ldc2 q461 dX2_readHead_71 ?_
    refine bp_j_lcmp dX2_readHead_74 ?_
    refine bp_j_if_gt (tgt := 82) dX2_readHead_75 (by decide) ?_ ?_
    · refine bp_j_iconst (v := 0) dX2_readHead_82 (by decide) ?_
      exact bp_j_sub [1, 2, 3, 0] rfl (hk12 (0 : Int32))
    refine bp_j_iconst (v := 1) dX2_readHead_78 (by decide) ?_
    refine bp_j_goto (tgt := 83) dX2_readHead_79 (by decide) ?_
    exact bp_j_sub [1, 2, 3, 0] rfl (hk12 (1 : Int32))
  refine bp_j_iconst (v := 3) dX2_readHead_83 (by decide) ?_
  refine bp_j_iload_n 1 dX2_readHead_84 rfl ?_
  refine bp_j_cl_U (bp_ranSN (n := 3) (As := [.int x11, .int (3 : Int32), .int x1]) (cnX1_need (G := G) x11 (3 : Int32) x1) q380 q72 q378 q379 ⟨by decide +kernel, by decide +kernel, by decide +kernel⟩ ⟨by decide, by decide⟩ (rest := []) rfl rfl (Nat.le_of_ble_eq_true rfl) dX2_readHead_85) (by decide) (fun _ => ?_)
  refine bp_j_aload_n 0 dX2_readHead_88 rfl ?_
  refine bp_j_aload_n 0 dX2_readHead_89 rfl ?_
  refine bp_j_getI (t := 1) (k := 2) rfl (by decide) (bp_lk q148) dX2_readHead_90 (fun _ _ _ => rfl) (fun x13 => ?_)
  refine bp_j_iconst (v := 4) dX2_readHead_93 (by decide) ?_
  refine bp_j_iadd dX2_readHead_94 ?_
  refine bp_j_cl_I (bp_ranV (t := 1) (n := 1) (As := [.int (x13 + (4 : Int32))]) (cnX2_byteAt (G := G) a0 (x13 + (4 : Int32))) rfl (lw_V q452 q454 qs4 q76 q455) ⟨rfl, by decide +kernel, by decide +kernel, by decide +kernel⟩ ⟨by decide, by decide⟩ (rest := []) rfl rfl (Nat.le_of_ble_eq_true rfl) dX2_readHead_95) (by decide) (fun x14 => ?_)
  refine bp_j_cl_R (bp_ranSN (n := 1) (As := [.int x14]) (cnX1_kindOf (G := G) x14) q464 q72 q462 q463 ⟨by decide +kernel, by decide +kernel, by decide +kernel⟩ ⟨by decide, by decide⟩ (rest := []) rfl rfl (Nat.le_of_ble_eq_true rfl) dX2_readHead_98) (by decide) (fun r15 => ?_)
  refine bp_j_astoreR (lv' := [(5, va_rf r15), (0, .ref a0), (1, .int x1), (2, .int x4), (3, .long l9)]) dX2_readHead_101 (by decide) rfl ?_
  refine bp_j_aloadR 0 dX2_readHead_103 rfl ?_
  refine bp_j_jm (fun k => ∀ (x16 : Int32), bp_J G iX2_readHead (bp_Qn G bp_eN) (k x16) 132 [(0, .ref a0), (1, .int x1), (2, .int x4), (3, .long l9), (5, va_rf r15)] [.int x16]) (fun k17 hk17 => ?_) (fun x16 => ?_)
  · refine bp_j_ifnull (x := r15) (tgt := 131) dX2_readHead_105 (by decide) ?_ ?_
    · refine bp_j_iconst (v := 0) dX2_readHead_131 (by decide) ?_
      exact bp_j_sub [1, 2, 3, 4, 0] rfl (hk17 (0 : Int32))
    refine bp_j_aloadR 0 dX2_readHead_108 rfl ?_
    refine bp_j_gets (j := 18) rfl (bp_lk q467) dX2_readHead_110 (fun a64 => ?_)
    refine bp_j_acmp_ne (x := r15) (y := (some a64)) (tgt := 127) dX2_readHead_113 (by decide) ?_ ?_
    · refine bp_j_iconst (v := 1) dX2_readHead_127 (by decide) ?_
      refine bp_j_goto (tgt := 132) dX2_readHead_128 (by decide) ?_
      exact bp_j_sub [1, 2, 3, 4, 0] rfl (hk17 (1 : Int32))
    refine bp_j_aload_n 1 dX2_readHead_116 rfl ?_
    refine bp_j_getN (t := 1) (k := 7) rfl (by decide) (bp_lk q154) dX2_readHead_117 (fun _ _ _ => rfl) (fun a65 => ?_)
    refine bp_j_getI (t := 0) (k := 0) rfl (by decide) (bp_lkN q288) dX2_readHead_120 (fun _ _ _ => rfl) (fun x66 => ?_)
    refine bp_j_iconst (v := 2) dX2_readHead_123 (by decide) ?_
    refine bp_j_icmp_ge (tgt := 131) dX2_readHead_124 (by decide) ?_ ?_
    · refine bp_j_iconst (v := 0) dX2_readHead_131 (by decide) ?_
      exact bp_j_sub [1, 2, 3, 4, 0] rfl (hk17 (0 : Int32))
    refine bp_j_iconst (v := 1) dX2_readHead_127 (by decide) ?_
    refine bp_j_goto (tgt := 132) dX2_readHead_128 (by decide) ?_
    exact bp_j_sub [1, 2, 3, 4, 0] rfl (hk17 (1 : Int32))
  refine bp_j_iconst (v := 4) dX2_readHead_132 (by decide) ?_
  refine bp_j_iload_n 1 dX2_readHead_133 rfl ?_
  refine bp_j_cl_U (bp_ranSN (n := 3) (As := [.int x16, .int (4 : Int32), .int x1]) (cnX1_need (G := G) x16 (4 : Int32) x1) q380 q72 q378 q379 ⟨by decide +kernel, by decide +kernel, by decide +kernel⟩ ⟨by decide, by decide⟩ (rest := []) rfl rfl (Nat.le_of_ble_eq_true rfl) dX2_readHead_134) (by decide) (fun _ => ?_)
  refine bp_j_iload_n 2 dX2_readHead_137 rfl ?_
  refine bp_j_jm (fun k => ∀ (x18 : Int32), bp_J G iX2_readHead (bp_Qn G bp_eN) (k x18) 167 [(0, .ref a0), (1, .int x1), (2, .int x4), (3, .long l9), (5, va_rf r15)] [.int x18]) (fun k19 hk19 => ?_) (fun x18 => ?_)
  · refine bp_j_if_eq (tgt := 155) dX2_readHead_138 (by decide) ?_ ?_
    · refine bp_j_aload_n 0 dX2_readHead_155 rfl ?_
      refine bp_j_aload_n 0 dX2_readHead_156 rfl ?_
      refine bp_j_getI (t := 1) (k := 2) rfl (by decide) (bp_lk q148) dX2_readHead_157 (fun _ _ _ => rfl) (fun x60 => ?_)
      refine bp_j_iconst (v := 5) dX2_readHead_160 (by decide) ?_
      refine bp_j_iadd dX2_readHead_161 ?_
      refine bp_j_cl_I (bp_ranV (t := 1) (n := 1) (As := [.int (x60 + (5 : Int32))]) (cnX2_byteAt (G := G) a0 (x60 + (5 : Int32))) rfl (lw_V q452 q454 qs4 q76 q455) ⟨rfl, by decide +kernel, by decide +kernel, by decide +kernel⟩ ⟨by decide, by decide⟩ (rest := []) rfl rfl (Nat.le_of_ble_eq_true rfl) dX2_readHead_162) (by decide) (fun x61 => ?_)
      refine bp_j_iconst (v := 5) dX2_readHead_165 (by decide) ?_
      refine bp_j_ishr dX2_readHead_166 ?_
      exact hk19 (x61 >>> ((5 : Int32) &&& 31))
    refine bp_j_aload_n 0 dX2_readHead_141 rfl ?_
    refine bp_j_aload_n 0 dX2_readHead_142 rfl ?_
    refine bp_j_getI (t := 1) (k := 2) rfl (by decide) (bp_lk q148) dX2_readHead_143 (fun _ _ _ => rfl) (fun x62 => ?_)
    refine bp_j_bipush (v := 8) dX2_readHead_146 (by decide) ?_
    refine bp_j_iadd dX2_readHead_148 ?_
    refine bp_j_cl_I (bp_ranV (t := 1) (n := 1) (As := [.int (x62 + (8 : Int32))]) (cnX2_byteAt (G := G) a0 (x62 + (8 : Int32))) rfl (lw_V q452 q454 qs4 q76 q455) ⟨rfl, by decide +kernel, by decide +kernel, by decide +kernel⟩ ⟨by decide, by decide⟩ (rest := []) rfl rfl (Nat.le_of_ble_eq_true rfl) dX2_readHead_149) (by decide) (fun x63 => ?_)
    refine bp_j_goto (tgt := 167) dX2_readHead_152 (by decide) ?_
    exact hk19 x63
  refine bp_j_istore (lv' := [(6, .int x18), (0, .ref a0), (1, .int x1), (2, .int x4), (3, .long l9), (5, va_rf r15)]) dX2_readHead_167 (by decide) (by cases r15 <;> rfl) ?_
  refine bp_j_iload_n 3 dX2_readHead_169 rfl ?_
  refine bp_j_jm (fun k => ∀ (x20 : Int32), bp_J G iX2_readHead (bp_Qn G bp_eN) (k x20) 228 [(0, .ref a0), (1, .int x1), (2, .int x4), (3, .long l9), (5, va_rf r15), (6, .int x18)] [.int x20]) (fun k21 hk21 => ?_) (fun x20 => ?_)
  · refine bp_j_if_eq (tgt := 217) dX2_readHead_170 (by decide) ?_ ?_
    · refine bp_j_iload 0 dX2_readHead_217 rfl ?_
      refine bp_j_iconst (v := 4) dX2_readHead_219 (by decide) ?_
      refine bp_j_icmp_gt (tgt := 227) dX2_readHead_220 (by decide) ?_ ?_
      · refine bp_j_iconst (v := 0) dX2_readHead_227 (by decide) ?_
        exact bp_j_sub [1, 2, 3, 4, 5, 0] rfl (hk21 (0 : Int32))
      refine bp_j_iconst (v := 1) dX2_readHead_223 (by decide) ?_
      refine bp_j_goto (tgt := 228) dX2_readHead_224 (by decide) ?_
      exact bp_j_sub [1, 2, 3, 4, 5, 0] rfl (hk21 (1 : Int32))
    refine bp_j_aload_n 1 dX2_readHead_173 rfl ?_
    refine bp_j_aload_n 1 dX2_readHead_174 rfl ?_
    refine bp_j_getI (t := 1) (k := 2) rfl (by decide) (bp_lk q148) dX2_readHead_175 (fun _ _ _ => rfl) (fun x57 => ?_)
    refine bp_j_iconst (v := 5) dX2_readHead_178 (by decide) ?_
    refine bp_j_iadd dX2_readHead_179 ?_
    refine bp_j_cl_L (bp_ranV (t := 1) (n := 1) (As := [.int (x57 + (5 : Int32))]) (cnX2_four (G := G) a0 (x57 + (5 : Int32))) rfl (lw_V q457 q459 qs5 q76 q460) ⟨rfl, by decide +kernel, by decide +kernel, by decide +kernel⟩ ⟨by decide, by decide⟩ (rest := []) rfl rfl (Nat.le_of_ble_eq_true rfl) dX2_readHead_180) (by decide) (fun l58 => ?_)
    refine bp_j_ldc2 q468 dX2_readHead_183 ?_
    refine bp_j_iload 0 dX2_readHead_186 rfl ?_
    refine bp_j_i2l dX2_readHead_188 ?_
    refine bp_j_lor dX2_readHead_189 ?_
    refine bp_j_lcmp dX2_readHead_190 ?_
    refine bp_j_if_ne (tgt := 213) dX2_readHead_191 (by decide) ?_ ?_
    · refine bp_j_iconst (v := 0) dX2_readHead_213 (by decide) ?_
      refine bp_j_goto (tgt := 228) dX2_readHead_214 (by decide) ?_
      exact bp_j_sub [1, 2, 3, 4, 5, 0] rfl (hk21 (0 : Int32))
    refine bp_j_iload 0 dX2_readHead_194 rfl ?_
    refine bp_j_i2l dX2_readHead_196 ?_
    refine bp_j_ldc2 q469 dX2_readHead_197 ?_
    refine bp_j_ldc2 q470 dX2_readHead_200 ?_
    refine bp_j_cl_I (bp_ranSN (n := 3) (As := [.long x18.toInt64, .long (5 : Int64), .long (10 : Int64)]) (cnX1_within (G := G) x18.toInt64 (5 : Int64) (10 : Int64)) q473 q72 q471 q472 ⟨by decide +kernel, by decide +kernel, by decide +kernel⟩ ⟨by decide, by decide⟩ (rest := []) rfl rfl (Nat.le_of_ble_eq_true rfl) dX2_readHead_203) (by decide) (fun x59 => ?_)
    refine bp_j_if_eq (tgt := 213) dX2_readHead_206 (by decide) ?_ ?_
    · refine bp_j_iconst (v := 0) dX2_readHead_213 (by decide) ?_
      refine bp_j_goto (tgt := 228) dX2_readHead_214 (by decide) ?_
      exact bp_j_sub [1, 2, 3, 4, 5, 0] rfl (hk21 (0 : Int32))
    refine bp_j_iconst (v := 1) dX2_readHead_209 (by decide) ?_
    refine bp_j_goto (tgt := 228) dX2_readHead_210 (by decide) ?_
    exact bp_j_sub [1, 2, 3, 4, 5, 0] rfl (hk21 (1 : Int32))
  refine bp_j_bipush (v := 8) dX2_readHead_228 (by decide) ?_
  refine bp_j_iload_n 1 dX2_readHead_230 rfl ?_
  refine bp_j_cl_U (bp_ranSN (n := 3) (As := [.int x20, .int (8 : Int32), .int x1]) (cnX1_need (G := G) x20 (8 : Int32) x1) q380 q72 q378 q379 ⟨by decide +kernel, by decide +kernel, by decide +kernel⟩ ⟨by decide, by decide⟩ (rest := []) rfl rfl (Nat.le_of_ble_eq_true rfl) dX2_readHead_231) (by decide) (fun _ => ?_)
  refine bp_j_iload_n 2 dX2_readHead_234 rfl ?_
  refine bp_j_jm (fun k => ∀ (x22 : Int32), bp_J G iX2_readHead (bp_Qn G bp_eN) (k x22) 254 [(0, .ref a0), (1, .int x1), (2, .int x4), (3, .long l9), (5, va_rf r15), (6, .int x18)] [.int x22]) (fun k23 hk23 => ?_) (fun x22 => ?_)
  · refine bp_j_if_eq (tgt := 248) dX2_readHead_235 (by decide) ?_ ?_
    · refine bp_j_aload_n 0 dX2_readHead_248 rfl ?_
      refine bp_j_getI (t := 1) (k := 2) rfl (by decide) (bp_lk q148) dX2_readHead_249 (fun _ _ _ => rfl) (fun x55 => ?_)
      refine bp_j_iconst (v := 5) dX2_readHead_252 (by decide) ?_
      refine bp_j_iadd dX2_readHead_253 ?_
      exact hk23 (x55 + (5 : Int32))
    refine bp_j_aload_n 0 dX2_readHead_238 rfl ?_
    refine bp_j_getI (t := 1) (k := 2) rfl (by decide) (bp_lk q148) dX2_readHead_239 (fun _ _ _ => rfl) (fun x56 => ?_)
    refine bp_j_bipush (v := 9) dX2_readHead_242 (by decide) ?_
    refine bp_j_iadd dX2_readHead_244 ?_
    refine bp_j_goto (tgt := 254) dX2_readHead_245 (by decide) ?_
    exact hk23 (x56 + (9 : Int32))
  refine bp_j_istore (lv' := [(7, .int x22), (0, .ref a0), (1, .int x1), (2, .int x4), (3, .long l9), (5, va_rf r15), (6, .int x18)]) dX2_readHead_254 (by decide) rfl ?_
  refine bp_j_aload_n 1 dX2_readHead_256 rfl ?_
  refine bp_j_iload_n 3 dX2_readHead_257 rfl ?_
  refine bp_j_jm (fun k => ∀ (x24 : Int32), bp_J G iX2_readHead (bp_Qn G bp_eN) (k x24) 278 [(0, .ref a0), (1, .int x1), (2, .int x4), (3, .long l9), (5, va_rf r15), (6, .int x18), (7, .int x22)] [.int x24, .ref a0]) (fun k25 hk25 => ?_) (fun x24 => ?_)
  · refine bp_j_if_eq (tgt := 271) dX2_readHead_258 (by decide) ?_ ?_
    · refine bp_j_aload_n 1 dX2_readHead_271 rfl ?_
      refine bp_j_getI (t := 1) (k := 2) rfl (by decide) (bp_lk q148) dX2_readHead_272 (fun _ _ _ => rfl) (fun x53 => ?_)
      refine bp_j_bipush (v := 6) dX2_readHead_275 (by decide) ?_
      refine bp_j_iadd dX2_readHead_277 ?_
      exact bp_j_sub [1, 2, 3, 4, 5, 6, 0] rfl (hk25 (x53 + (6 : Int32)))
    refine bp_j_aload_n 1 dX2_readHead_261 rfl ?_
    refine bp_j_getI (t := 1) (k := 2) rfl (by decide) (bp_lk q148) dX2_readHead_262 (fun _ _ _ => rfl) (fun x54 => ?_)
    refine bp_j_bipush (v := 11) dX2_readHead_265 (by decide) ?_
    refine bp_j_iadd dX2_readHead_267 ?_
    refine bp_j_goto (tgt := 278) dX2_readHead_268 (by decide) ?_
    exact bp_j_sub [1, 2, 3, 4, 5, 6, 0] rfl (hk25 (x54 + (11 : Int32)))
  refine bp_j_putI (t := 1) (k := 2) rfl (by decide) (by decide) (bp_lk q148) rfl dX2_readHead_278 rfl ?_
  refine bp_j_aload_n 0 dX2_readHead_281 rfl ?_
  refine bp_j_iload 5 dX2_readHead_282 rfl ?_
  refine bp_j_iconst (v := 5) dX2_readHead_284 (by decide) ?_
  refine bp_j_iadd dX2_readHead_285 ?_
  refine bp_j_i2l dX2_readHead_286 ?_
  refine bp_j_cl_U (bp_ranV (t := 1) (n := 1) (As := [.long ((x18 + (5 : Int32)).toInt64)]) (cnX2_needBytes (G := G) a0 ((x18 + (5 : Int32)).toInt64)) rfl (lw_V q374 q376 qs2 q76 q377) ⟨rfl, by decide +kernel, by decide +kernel, by decide +kernel⟩ ⟨by decide, by decide⟩ (rest := []) rfl rfl (Nat.le_of_ble_eq_true rfl) dX2_readHead_287) (by decide) (fun _ => ?_)
  refine bp_j_iload_n 2 dX2_readHead_290 rfl ?_
  refine bp_j_jm (fun k => ∀ (x26 : Int32), bp_J G iX2_readHead (bp_Qn G bp_eN) (k x26) 324 [(0, .ref a0), (1, .int x1), (3, .long l9), (5, va_rf r15), (6, .int x18)] [.int x26]) (fun k27 hk27 => ?_) (fun x26 => ?_)
  · refine bp_j_if_eq (tgt := 315) dX2_readHead_291 (by decide) ?_ ?_
    · refine bp_j_aload_n 0 dX2_readHead_315 rfl ?_
      refine bp_j_iload 6 dX2_readHead_316 rfl ?_
      refine bp_j_cl_I (bp_ranV (t := 1) (n := 1) (As := [.int x22]) (cnX2_byteAt (G := G) a0 x22) rfl (lw_V q452 q454 qs4 q76 q455) ⟨rfl, by decide +kernel, by decide +kernel, by decide +kernel⟩ ⟨by decide, by decide⟩ (rest := []) rfl rfl (Nat.le_of_ble_eq_true rfl) dX2_readHead_318) (by decide) (fun x50 => ?_)
      refine bp_j_bipush (v := 31) dX2_readHead_321 (by decide) ?_
      refine bp_j_iand dX2_readHead_323 ?_
      exact bp_j_sub [0, 1, 3, 4, 5] rfl (hk27 (x50 &&& (31 : Int32)))
    refine bp_j_aload_n 0 dX2_readHead_294 rfl ?_
    refine bp_j_iload 6 dX2_readHead_295 rfl ?_
    refine bp_j_cl_I (bp_ranV (t := 1) (n := 1) (As := [.int x22]) (cnX2_byteAt (G := G) a0 x22) rfl (lw_V q452 q454 qs4 q76 q455) ⟨rfl, by decide +kernel, by decide +kernel, by decide +kernel⟩ ⟨by decide, by decide⟩ (rest := []) rfl rfl (Nat.le_of_ble_eq_true rfl) dX2_readHead_297) (by decide) (fun x51 => ?_)
    refine bp_j_aload_n 0 dX2_readHead_300 rfl ?_
    refine bp_j_iload 6 dX2_readHead_301 rfl ?_
    refine bp_j_iconst (v := 1) dX2_readHead_303 (by decide) ?_
    refine bp_j_iadd dX2_readHead_304 ?_
    refine bp_j_cl_I (bp_ranV (t := 1) (n := 1) (As := [.int (x22 + (1 : Int32))]) (cnX2_byteAt (G := G) a0 (x22 + (1 : Int32))) rfl (lw_V q452 q454 qs4 q76 q455) ⟨rfl, by decide +kernel, by decide +kernel, by decide +kernel⟩ ⟨by decide, by decide⟩ (rest := [.int x51]) rfl rfl (Nat.le_of_ble_eq_true rfl) dX2_readHead_305) (by decide) (fun x52 => ?_)
    refine bp_j_bipush (v := 8) dX2_readHead_308 (by decide) ?_
    refine bp_j_ishl dX2_readHead_310 ?_
    refine bp_j_ior dX2_readHead_311 ?_
    refine bp_j_goto (tgt := 324) dX2_readHead_312 (by decide) ?_
    exact bp_j_sub [0, 1, 3, 4, 5] rfl (hk27 (x51 ||| (x52 <<< ((8 : Int32) &&& 31))))
  refine bp_j_istore (lv' := [(8, .int x26), (0, .ref a0), (1, .int x1), (3, .long l9), (5, va_rf r15), (6, .int x18)]) dX2_readHead_324 (by decide) rfl ?_
  refine bp_j_iload 0 dX2_readHead_326 rfl ?_
  refine bp_j_iload 5 dX2_readHead_328 rfl ?_
  refine bp_j_iconst (v := 1) dX2_readHead_330 (by decide) ?_
  refine bp_j_iadd dX2_readHead_331 ?_
  refine bp_j_ishr dX2_readHead_332 ?_
  refine bp_j_jm (fun k => ∀ (x28 : Int32), bp_J G iX2_readHead (bp_Qn G bp_eN) (k x28) 341 [(0, .ref a0), (1, .int x1), (3, .long l9), (5, va_rf r15), (6, .int x18), (8, .int x26)] [.int x28]) (fun k29 hk29 => ?_) (fun x28 => ?_)
  · refine bp_j_if_ne (tgt := 340) dX2_readHead_333 (by decide) ?_ ?_
    · refine bp_j_iconst (v := 0) dX2_readHead_340 (by decide) ?_
      exact bp_j_sub [1, 2, 3, 4, 5, 0] rfl (hk29 (0 : Int32))
    refine bp_j_iconst (v := 1) dX2_readHead_336 (by decide) ?_
    refine bp_j_goto (tgt := 341) dX2_readHead_337 (by decide) ?_
    exact bp_j_sub [1, 2, 3, 4, 5, 0] rfl (hk29 (1 : Int32))
  refine bp_j_bipush (v := 8) dX2_readHead_341 (by decide) ?_
  refine bp_j_iload_n 1 dX2_readHead_343 rfl ?_
  refine bp_j_cl_U (bp_ranSN (n := 3) (As := [.int x28, .int (8 : Int32), .int x1]) (cnX1_need (G := G) x28 (8 : Int32) x1) q380 q72 q378 q379 ⟨by decide +kernel, by decide +kernel, by decide +kernel⟩ ⟨by decide, by decide⟩ (rest := []) rfl rfl (Nat.le_of_ble_eq_true rfl) dX2_readHead_344) (by decide) (fun _ => ?_)
  refine bp_j_aload_n 0 dX2_readHead_347 rfl ?_
  refine bp_j_getN (t := 1) (k := 7) rfl (by decide) (bp_lk q154) dX2_readHead_348 (fun _ _ _ => rfl) (fun a30 => ?_)
  refine bp_j_getN (t := 0) (k := 3) rfl (by decide) (bp_lkN q293) dX2_readHead_351 (fun _ _ _ => rfl) (fun a31 => ?_)
  refine bp_j_aload_n 0 dX2_readHead_354 rfl ?_
  refine bp_j_getN (t := 1) (k := 7) rfl (by decide) (bp_lk q154) dX2_readHead_355 (fun _ _ _ => rfl) (fun a32 => ?_)
  refine bp_j_getN (t := 0) (k := 11) rfl (by decide) (bp_lkN q306) dX2_readHead_358 (fun _ _ _ => rfl) (fun a33 => ?_)
  refine bp_j_cl_I (bp_ranV (t := 6) (n := 0) (As := []) (cnJ2_size (G := G) a33 ) rfl (lw_V q474 q475 q476 q75 q477) ⟨rfl, by decide +kernel, by decide +kernel, by decide +kernel⟩ ⟨by decide, by decide⟩ (rest := [.ref a31]) rfl rfl (Nat.le_of_ble_eq_true rfl) dX2_readHead_361) (by decide) (fun x34 => ?_)
  refine bp_j_aaloadN (t := 24) rfl dX2_readHead_364 (fun a35 => ?_)
  refine bp_j_aloadR 3 dX2_readHead_365 rfl ?_
  refine bp_j_aload_n 0 dX2_readHead_367 rfl ?_
  refine bp_j_aload_n 0 dX2_readHead_368 rfl ?_
  refine bp_j_getI (t := 1) (k := 2) rfl (by decide) (bp_lk q148) dX2_readHead_369 (fun _ _ _ => rfl) (fun x36 => ?_)
  refine bp_j_iload 4 dX2_readHead_372 rfl ?_
  refine bp_j_iadd dX2_readHead_374 ?_
  refine bp_j_cl_I (bp_ranV (t := 1) (n := 1) (As := [.int (x36 + x18)]) (cnX2_byteAt (G := G) a0 (x36 + x18)) rfl (lw_V q452 q454 qs4 q76 q455) ⟨rfl, by decide +kernel, by decide +kernel, by decide +kernel⟩ ⟨by decide, by decide⟩ (rest := [va_rf r15, .ref a35]) rfl rfl (by cases r15 <;> exact Nat.le_of_ble_eq_true rfl) dX2_readHead_375) (by decide) (fun x37 => ?_)
  refine bp_j_lload_n 2 dX2_readHead_378 rfl ?_
  refine bp_j_l2i dX2_readHead_379 ?_
  refine bp_j_nz (fun a38 ea38 => ?_)
  subst ea38
  refine bp_j_cl_N (bp_ranV (t := 3) (n := 3) (As := [.ref a38, .int x37, .int l9.toInt32]) (cnX4_begin (G := G) a35 a38 x37 l9.toInt32) rfl (lw_V q478 q479 q480 q79 q481) ⟨rfl, by decide +kernel, by decide +kernel, by decide +kernel⟩ ⟨by decide, by decide⟩ (rest := []) rfl rfl (Nat.le_of_ble_eq_true rfl) dX2_readHead_380) (by decide) (fun a39 => ?_)
  refine bp_j_astore (lv' := [(9, .ref a39), (0, .ref a0), (1, .int x1), (3, .long l9), (5, .ref a38), (6, .int x18), (8, .int x26)]) dX2_readHead_383 (by decide) rfl ?_
  refine bp_j_iconst (v := 0) dX2_readHead_385 (by decide) ?_
  refine bp_j_istore (lv' := [(10, .int (0 : Int32)), (9, .ref a39), (0, .ref a0), (1, .int x1), (3, .long l9), (5, .ref a38), (6, .int x18), (8, .int x26)]) dX2_readHead_386 (by decide) rfl ?_
  refine bp_j_jm (fun k => bp_J G iX2_readHead (bp_Qn G bp_eN) (k) 420 [(0, .ref a0), (1, .int x1), (3, .long l9), (6, .int x18), (8, .int x26), (9, .ref a39)] []) (fun k40 hk40 => ?_) ?_
  · refine bp_j_loop (fun k => ∀ (x44 : Int32), bp_J G iX2_readHead (bp_Qn G bp_eN) (k x44) 388 [(0, .ref a0), (1, .int x1), (3, .long l9), (6, .int x18), (8, .int x26), (9, .ref a39), (10, .int x44)] []) (fun _ => bp_j_no) (fun k45 hk45 x44 => ?_) (fun k h => bp_j_sub [2, 3, 4, 6, 7, 1, 0] rfl (h (0 : Int32)))
    unfold BX2_readHead_388
    refine bp_j_iload 6 dX2_readHead_388 rfl ?_
    refine bp_j_iload 3 dX2_readHead_390 rfl ?_
    refine bp_j_icmp_ge (tgt := 420) dX2_readHead_392 (by decide) ?_ ?_
    · exact bp_j_sub [0, 1, 2, 3, 4, 5] rfl (hk40)
    refine bp_j_aload 5 dX2_readHead_395 rfl ?_
    refine bp_j_getN (t := 3) (k := 3) rfl (by decide) (bp_lkN q233) dX2_readHead_397 (fun _ _ _ => rfl) (fun a46 => ?_)
    refine bp_j_iload 6 dX2_readHead_400 rfl ?_
    refine bp_j_aload_n 0 dX2_readHead_402 rfl ?_
    refine bp_j_aload_n 0 dX2_readHead_403 rfl ?_
    refine bp_j_getI (t := 1) (k := 2) rfl (by decide) (bp_lk q148) dX2_readHead_404 (fun _ _ _ => rfl) (fun x47 => ?_)
    refine bp_j_iload 6 dX2_readHead_407 rfl ?_
    refine bp_j_iadd dX2_readHead_409 ?_
    refine bp_j_cl_I (bp_ranV (t := 1) (n := 1) (As := [.int (x47 + x44)]) (cnX2_byteAt (G := G) a0 (x47 + x44)) rfl (lw_V q452 q454 qs4 q76 q455) ⟨rfl, by decide +kernel, by decide +kernel, by decide +kernel⟩ ⟨by decide, by decide⟩ (rest := [.int x44, .ref a46]) rfl rfl (Nat.le_of_ble_eq_true rfl) dX2_readHead_410) (by decide) (fun x48 => ?_)
    refine bp_j_iastore dX2_readHead_413 ?_
    refine bp_j_iincL (lv' := fun x49 => [(10, .int x49), (0, .ref a0), (1, .int x1), (3, .long l9), (6, .int x18), (8, .int x26), (9, .ref a39)]) 6 dX2_readHead_414 rfl (by decide) (by decide) (fun _ => rfl) (fun x49 => ?_)
    refine bp_j_goto (tgt := 388) dX2_readHead_417 (by decide) ?_
    exact bp_j_sub [1, 2, 3, 4, 5, 6, 0] rfl (hk45 x49)
  refine bp_j_aload 5 dX2_readHead_420 rfl ?_
  refine bp_j_iload 3 dX2_readHead_422 rfl ?_
  refine bp_j_putI (t := 3) (k := 4) rfl (by decide) (by decide) (bp_lkN q236) rfl dX2_readHead_424 rfl ?_
  refine bp_j_aload 5 dX2_readHead_427 rfl ?_
  refine bp_j_iload 4 dX2_readHead_429 rfl ?_
  refine bp_j_iconst (v := -1) dX2_readHead_431 (by decide) ?_
  refine bp_j_ixor dX2_readHead_432 ?_
  refine bp_j_iconst (v := 2) dX2_readHead_433 (by decide) ?_
  refine bp_j_iload 3 dX2_readHead_434 rfl ?_
  refine bp_j_ishl dX2_readHead_436 ?_
  refine bp_j_iconst (v := 1) dX2_readHead_437 (by decide) ?_
  refine bp_j_isub dX2_readHead_438 ?_
  refine bp_j_iand dX2_readHead_439 ?_
  refine bp_j_putI (t := 3) (k := 5) rfl (by decide) (by decide) (bp_lkN q239) rfl dX2_readHead_440 rfl ?_
  refine bp_j_aload 5 dX2_readHead_443 rfl ?_
  refine bp_j_aload_n 0 dX2_readHead_445 rfl ?_
  refine bp_j_aload_n 0 dX2_readHead_446 rfl ?_
  refine bp_j_getI (t := 1) (k := 2) rfl (by decide) (bp_lk q148) dX2_readHead_447 (fun _ _ _ => rfl) (fun x41 => ?_)
  refine bp_j_iload 3 dX2_readHead_450 rfl ?_
  refine bp_j_iadd dX2_readHead_452 ?_
  refine bp_j_iconst (v := 1) dX2_readHead_453 (by decide) ?_
  refine bp_j_iadd dX2_readHead_454 ?_
  refine bp_j_cl_L (bp_ranV (t := 1) (n := 1) (As := [.int ((x41 + x18) + (1 : Int32))]) (cnX2_four (G := G) a0 ((x41 + x18) + (1 : Int32))) rfl (lw_V q457 q459 qs5 q76 q460) ⟨rfl, by decide +kernel, by decide +kernel, by decide +kernel⟩ ⟨by decide, by decide⟩ (rest := [.ref a39]) rfl rfl (Nat.le_of_ble_eq_true rfl) dX2_readHead_455) (by decide) (fun l42 => ?_)
  refine bp_j_putL (t := 3) (k := 11) rfl (by decide) (by decide) (bp_lkN q256) rfl dX2_readHead_458 rfl ?_
  refine bp_j_aload 5 dX2_readHead_461 rfl ?_
  refine bp_j_iload_n 1 dX2_readHead_463 rfl ?_
  refine bp_j_putI (t := 3) (k := 10) rfl (by decide) (by decide) (bp_lkN q254) rfl dX2_readHead_464 rfl ?_
  refine bp_j_aload_n 0 dX2_readHead_467 rfl ?_
  refine bp_j_dup dX2_readHead_468 rfl ?_
  refine bp_j_getI (t := 1) (k := 2) rfl (by decide) (bp_lk q148) dX2_readHead_469 (fun _ _ _ => rfl) (fun x43 => ?_)
  refine bp_j_iload 3 dX2_readHead_472 rfl ?_
  refine bp_j_iconst (v := 5) dX2_readHead_474 (by decide) ?_
  refine bp_j_iadd dX2_readHead_475 ?_
  refine bp_j_iadd dX2_readHead_476 ?_
  refine bp_j_putI (t := 1) (k := 2) rfl (by decide) (by decide) (bp_lk q148) rfl dX2_readHead_477 rfl ?_
  refine bp_j_aload_n 0 dX2_readHead_480 rfl ?_
  refine bp_j_lload_n 2 dX2_readHead_481 rfl ?_
  refine bp_j_l2i dX2_readHead_482 ?_
  refine bp_j_putI (t := 1) (k := 3) rfl (by decide) (by decide) (bp_lk q149) rfl dX2_readHead_483 rfl ?_
  refine bp_j_aload 5 dX2_readHead_486 rfl ?_
  exact bp_j_aretN rfl (Or.inl ⟨_, rfl⟩) dX2_readHead_488
/-- BilevelPages$Reader.readHeadsFirst()V -/
abbrev iX2_readHeadsFirst : bp_MI := (yX2_readHeadsFirst, cX2_readHeadsFirst, 3, none, [], 9, 228)
def BX2_readHeadsFirst_29 (a0 : Nat) (k3 : Int32 → bp_M Unit) : Int32 → bp_M Unit :=
  fun x2 =>
  bp_getN 1 7 a0 fun a4 =>
  bp_getN 0 11 a4 fun a5 =>
  bp_bind (bp_is 6 a5 (PJ2_size a5)) fun x6 =>
  bp_if (x6 ≤ x2) (
  bp_ret ()) (
  bp_getN 1 7 a0 fun a7 =>
  bp_getN 0 11 a7 fun a8 =>
  bp_bind (bp_is 6 a8 (PJ2_get a8 x2)) fun a9 =>
  bp_is 3 a9 <|
  bp_bind (bp_is 1 a0 (PX2_readBody a0 a9 x2)) fun _ =>
  bp_letI (x2 + (1 : Int32)) fun x10 =>
  k3 x10)
def BX2_readHeadsFirst_0 (a0 : Nat) (k1 : bp_M Unit) (k11 : bp_M Unit) : bp_M Unit :=
  bp_bind (bp_is 1 a0 (PX2_readHead a0)) fun a12 =>
  bp_getN 1 7 a0 fun a13 =>
  bp_getN 0 11 a13 fun a14 =>
  bp_bind (bp_is 6 a14 (PJ2_add a14 a12)) fun x15 =>
  bp_getN 3 0 a12 fun a16 =>
  bp_gets 18 fun a17 =>
  bp_if ((some a16) = (some a17)) (
  k1) (
  k11)
def PX2_readHeadsFirst (a0 : Nat) : bp_M Unit :=
  bp_jn (fun (k1 : bp_M Unit) =>
  bp_loop (bp_no) (BX2_readHeadsFirst_0 a0 k1) (fun k => k)) (bp_loop (fun _ => bp_no) (BX2_readHeadsFirst_29 a0) (fun k => k (0 : Int32)))
set_option maxHeartbeats 4000000 in
set_option maxRecDepth 100000 in
theorem cnX2_readHeadsFirst {G : bp_GT} (a0 : Nat) : bp_Con G iX2_readHeadsFirst (ws_ iX2_readHeadsFirst.1 iX2_readHeadsFirst.2.1 iX2_readHeadsFirst.2.2.1 iX2_readHeadsFirst.2.2.2.1) [.ref a0] (PX2_readHeadsFirst a0) bp_eU := by
  refine bp_con_of [(0, .ref a0)] rfl (by decide) (Nat.le_of_ble_eq_true rfl) rfl ?_
  unfold PX2_readHeadsFirst
  refine bp_j_jm (fun k => bp_J G iX2_readHeadsFirst (bp_Qn G bp_eU) (k) 27 [(0, .ref a0)] []) (fun k1 hk1 => ?_) ?_
  · refine bp_j_loop (fun k => bp_J G iX2_readHeadsFirst (bp_Qn G bp_eU) (k) 0 [(0, .ref a0)] []) (bp_j_no) (fun k11 hk11  => ?_) (fun k h => h)
    unfold BX2_readHeadsFirst_0
    refine bp_j_aload_n 0 dX2_readHeadsFirst_0 rfl ?_
    refine bp_j_cl_N (bp_ranV (t := 1) (n := 0) (As := []) (cnX2_readHead (G := G) a0 ) rfl (lw_V q369 q371 qs1 q76 q372) ⟨rfl, by decide +kernel, by decide +kernel, by decide +kernel⟩ ⟨by decide, by decide⟩ (rest := []) rfl rfl (Nat.le_of_ble_eq_true rfl) dX2_readHeadsFirst_1) (by decide) (fun a12 => ?_)
    refine bp_j_astore_n (lv' := [(1, .ref a12), (0, .ref a0)]) dX2_readHeadsFirst_4 (by decide) rfl ?_
    refine bp_j_aload_n 1 dX2_readHeadsFirst_5 rfl ?_
    refine bp_j_getN (t := 1) (k := 7) rfl (by decide) (bp_lk q154) dX2_readHeadsFirst_6 (fun _ _ _ => rfl) (fun a13 => ?_)
    refine bp_j_getN (t := 0) (k := 11) rfl (by decide) (bp_lkN q306) dX2_readHeadsFirst_9 (fun _ _ _ => rfl) (fun a14 => ?_)
    refine bp_j_aload_n 0 dX2_readHeadsFirst_12 rfl ?_
    refine bp_j_cl_I (bp_ranV (t := 6) (n := 1) (As := [.ref a12]) (cnJ2_add (G := G) a14 a12) rfl (lw_V q508 q509 q510 q75 q511) ⟨rfl, by decide +kernel, by decide +kernel, by decide +kernel⟩ ⟨by decide, by decide⟩ (rest := []) rfl rfl (Nat.le_of_ble_eq_true rfl) dX2_readHeadsFirst_13) (by decide) (fun x15 => ?_)
    refine bp_j_pop dX2_readHeadsFirst_16 rfl ?_
    refine bp_j_aload_n 0 dX2_readHeadsFirst_17 rfl ?_
    refine bp_j_getN (t := 3) (k := 0) rfl (by decide) (bp_lkN q224) dX2_readHeadsFirst_18 (fun _ _ _ => rfl) (fun a16 => ?_)
    refine bp_j_gets (j := 18) rfl (bp_lk q467) dX2_readHeadsFirst_21 (fun a17 => ?_)
    refine bp_j_acmp_ne (x := (some a16)) (y := (some a17)) (tgt := 0) dX2_readHeadsFirst_24 (by decide) ?_ ?_
    · exact bp_j_sub [1] rfl (hk11)
    exact bp_j_sub [1] rfl (hk1)
  refine bp_j_iconst (v := 0) dX2_readHeadsFirst_27 (by decide) ?_
  refine bp_j_istore_n (lv' := [(2, .int (0 : Int32)), (0, .ref a0)]) dX2_readHeadsFirst_28 (by decide) rfl ?_
  refine bp_j_loop (fun k => ∀ (x2 : Int32), bp_J G iX2_readHeadsFirst (bp_Qn G bp_eU) (k x2) 29 [(0, .ref a0), (2, .int x2)] []) (fun _ => bp_j_no) (fun k3 hk3 x2 => ?_) (fun k h => bp_j_sub [1, 0] rfl (h (0 : Int32)))
  unfold BX2_readHeadsFirst_29
  refine bp_j_iload_n 1 dX2_readHeadsFirst_29 rfl ?_
  refine bp_j_aload_n 0 dX2_readHeadsFirst_30 rfl ?_
  refine bp_j_getN (t := 1) (k := 7) rfl (by decide) (bp_lk q154) dX2_readHeadsFirst_31 (fun _ _ _ => rfl) (fun a4 => ?_)
  refine bp_j_getN (t := 0) (k := 11) rfl (by decide) (bp_lkN q306) dX2_readHeadsFirst_34 (fun _ _ _ => rfl) (fun a5 => ?_)
  refine bp_j_cl_I (bp_ranV (t := 6) (n := 0) (As := []) (cnJ2_size (G := G) a5 ) rfl (lw_V q474 q475 q476 q75 q477) ⟨rfl, by decide +kernel, by decide +kernel, by decide +kernel⟩ ⟨by decide, by decide⟩ (rest := [.int x2]) rfl rfl (Nat.le_of_ble_eq_true rfl) dX2_readHeadsFirst_37) (by decide) (fun x6 => ?_)
  refine bp_j_icmp_ge (tgt := 68) dX2_readHeadsFirst_40 (by decide) ?_ ?_
  · exact bp_j_vret rfl dX2_readHeadsFirst_68
  refine bp_j_aload_n 0 dX2_readHeadsFirst_43 rfl ?_
  refine bp_j_aload_n 0 dX2_readHeadsFirst_44 rfl ?_
  refine bp_j_getN (t := 1) (k := 7) rfl (by decide) (bp_lk q154) dX2_readHeadsFirst_45 (fun _ _ _ => rfl) (fun a7 => ?_)
  refine bp_j_getN (t := 0) (k := 11) rfl (by decide) (bp_lkN q306) dX2_readHeadsFirst_48 (fun _ _ _ => rfl) (fun a8 => ?_)
  refine bp_j_iload_n 1 dX2_readHeadsFirst_51 rfl ?_
  refine bp_j_cl_N (bp_ranV (t := 6) (n := 1) (As := [.int x2]) (cnJ2_get (G := G) a8 x2) rfl (lw_V q575 q576 q577 q75 q578) ⟨rfl, by decide +kernel, by decide +kernel, by decide +kernel⟩ ⟨by decide, by decide⟩ (rest := [.ref a0]) rfl rfl (Nat.le_of_ble_eq_true rfl) dX2_readHeadsFirst_52) (by decide) (fun a9 => ?_)
  refine bp_j_castS (t := 3) rfl q589 dX2_readHeadsFirst_55 ?_
  refine bp_j_iload_n 1 dX2_readHeadsFirst_58 rfl ?_
  refine bp_j_cl_U (bp_ranV (t := 1) (n := 2) (As := [.ref a9, .int x2]) (cnX2_readBody (G := G) a0 a9 x2) rfl (lw_V q563 q565 qs9 q76 q566) ⟨rfl, by decide +kernel, by decide +kernel, by decide +kernel⟩ ⟨by decide, by decide⟩ (rest := []) rfl rfl (Nat.le_of_ble_eq_true rfl) dX2_readHeadsFirst_59) (by decide) (fun _ => ?_)
  refine bp_j_iincL (lv' := fun x10 => [(2, .int x10), (0, .ref a0)]) 1 dX2_readHeadsFirst_62 rfl (by decide) (by decide) (fun _ => rfl) (fun x10 => ?_)
  refine bp_j_goto (tgt := 29) dX2_readHeadsFirst_65 (by decide) ?_
  exact bp_j_sub [1, 0] rfl (hk3 x10)
/-- BilevelPages$Reader.readInTurn()V -/
abbrev iX2_readInTurn : bp_MI := (yX2_readInTurn, cX2_readInTurn, 3, none, [], 9, 228)
def BX2_readInTurn_27 (a0 : Nat) (k6 : Int32 → bp_M Unit) : Int32 → bp_M Unit :=
  fun x5 =>
  bp_if (x5 = 0) (
  bp_ret ()) (
  bp_bind (bp_is 1 a0 (PX2_readHead a0)) fun a7 =>
  bp_getN 1 7 a0 fun a8 =>
  bp_getN 0 11 a8 fun a9 =>
  bp_bind (bp_is 6 a9 (PJ2_add a9 a7)) fun x10 =>
  bp_getN 1 7 a0 fun a11 =>
  bp_getN 0 11 a11 fun a12 =>
  bp_bind (bp_is 6 a12 (PJ2_size a12)) fun x13 =>
  bp_bind (bp_is 1 a0 (PX2_readBody a0 a7 (x13 - (1 : Int32)))) fun _ =>
  bp_getN 1 7 a0 fun a14 =>
  bp_getI 0 0 a14 fun x15 =>
  bp_jn (fun (k17 : Int32 → bp_M Unit) =>
  bp_if (x15 = 0) (
  bp_getN 3 0 a7 fun a20 =>
  bp_gets 18 fun a21 =>
  bp_if ((some a20) = (some a21)) (
  k17 (0 : Int32)) (
  k17 (1 : Int32))) (
  bp_getI 1 2 a0 fun x18 =>
  bp_getI 1 1 a0 fun x19 =>
  bp_if (x19 ≤ x18) (
  k17 (0 : Int32)) (
  k17 (1 : Int32)))) (fun (x16 : Int32) =>
  k6 x16))
def PX2_readInTurn (a0 : Nat) : bp_M Unit :=
  bp_getN 1 7 a0 fun a1 =>
  bp_getI 0 0 a1 fun x2 =>
  bp_jn (fun (k4 : Int32 → bp_M Unit) =>
  bp_if (x2 = 0) (
  k4 (1 : Int32)) (
  bp_getI 1 2 a0 fun x22 =>
  bp_getI 1 1 a0 fun x23 =>
  bp_if (x23 ≤ x22) (
  k4 (0 : Int32)) (
  k4 (1 : Int32)))) (fun (x3 : Int32) =>
  bp_loop (fun _ => bp_no) (BX2_readInTurn_27 a0) (fun k => k x3))
set_option maxHeartbeats 4000000 in
set_option maxRecDepth 100000 in
theorem cnX2_readInTurn {G : bp_GT} (a0 : Nat) : bp_Con G iX2_readInTurn (ws_ iX2_readInTurn.1 iX2_readInTurn.2.1 iX2_readInTurn.2.2.1 iX2_readInTurn.2.2.2.1) [.ref a0] (PX2_readInTurn a0) bp_eU := by
  refine bp_con_of [(0, .ref a0)] rfl (by decide) (Nat.le_of_ble_eq_true rfl) rfl ?_
  unfold PX2_readInTurn
  refine bp_j_aload_n 0 dX2_readInTurn_0 rfl ?_
  refine bp_j_getN (t := 1) (k := 7) rfl (by decide) (bp_lk q154) dX2_readInTurn_1 (fun _ _ _ => rfl) (fun a1 => ?_)
  refine bp_j_getI (t := 0) (k := 0) rfl (by decide) (bp_lkN q288) dX2_readInTurn_4 (fun _ _ _ => rfl) (fun x2 => ?_)
  refine bp_j_jm (fun k => ∀ (x3 : Int32), bp_J G iX2_readInTurn (bp_Qn G bp_eU) (k x3) 26 [(0, .ref a0)] [.int x3]) (fun k4 hk4 => ?_) (fun x3 => ?_)
  · refine bp_j_if_eq (tgt := 21) dX2_readInTurn_7 (by decide) ?_ ?_
    · refine bp_j_iconst (v := 1) dX2_readInTurn_21 (by decide) ?_
      refine bp_j_goto (tgt := 26) dX2_readInTurn_22 (by decide) ?_
      exact hk4 (1 : Int32)
    refine bp_j_aload_n 0 dX2_readInTurn_10 rfl ?_
    refine bp_j_getI (t := 1) (k := 2) rfl (by decide) (bp_lk q148) dX2_readInTurn_11 (fun _ _ _ => rfl) (fun x22 => ?_)
    refine bp_j_aload_n 0 dX2_readInTurn_14 rfl ?_
    refine bp_j_getI (t := 1) (k := 1) rfl (by decide) (bp_lk q147) dX2_readInTurn_15 (fun _ _ _ => rfl) (fun x23 => ?_)
    refine bp_j_icmp_ge (tgt := 25) dX2_readInTurn_18 (by decide) ?_ ?_
    · refine bp_j_iconst (v := 0) dX2_readInTurn_25 (by decide) ?_
      exact hk4 (0 : Int32)
    refine bp_j_iconst (v := 1) dX2_readInTurn_21 (by decide) ?_
    refine bp_j_goto (tgt := 26) dX2_readInTurn_22 (by decide) ?_
    exact hk4 (1 : Int32)
  refine bp_j_istore_n (lv' := [(1, .int x3), (0, .ref a0)]) dX2_readInTurn_26 (by decide) rfl ?_
  refine bp_j_loop (fun k => ∀ (x5 : Int32), bp_J G iX2_readInTurn (bp_Qn G bp_eU) (k x5) 27 [(0, .ref a0), (1, .int x5)] []) (fun _ => bp_j_no) (fun k6 hk6 x5 => ?_) (fun k h => bp_j_sub [1, 0] rfl (h x3))
  unfold BX2_readInTurn_27
  refine bp_j_iload_n 1 dX2_readInTurn_27 rfl ?_
  refine bp_j_if_eq (tgt := 113) dX2_readInTurn_28 (by decide) ?_ ?_
  · exact bp_j_vret rfl dX2_readInTurn_113
  refine bp_j_aload_n 0 dX2_readInTurn_31 rfl ?_
  refine bp_j_cl_N (bp_ranV (t := 1) (n := 0) (As := []) (cnX2_readHead (G := G) a0 ) rfl (lw_V q369 q371 qs1 q76 q372) ⟨rfl, by decide +kernel, by decide +kernel, by decide +kernel⟩ ⟨by decide, by decide⟩ (rest := []) rfl rfl (Nat.le_of_ble_eq_true rfl) dX2_readInTurn_32) (by decide) (fun a7 => ?_)
  refine bp_j_astore_n (lv' := [(2, .ref a7), (0, .ref a0), (1, .int x5)]) dX2_readInTurn_35 (by decide) rfl ?_
  refine bp_j_aload_n 1 dX2_readInTurn_36 rfl ?_
  refine bp_j_getN (t := 1) (k := 7) rfl (by decide) (bp_lk q154) dX2_readInTurn_37 (fun _ _ _ => rfl) (fun a8 => ?_)
  refine bp_j_getN (t := 0) (k := 11) rfl (by decide) (bp_lkN q306) dX2_readInTurn_40 (fun _ _ _ => rfl) (fun a9 => ?_)
  refine bp_j_aload_n 0 dX2_readInTurn_43 rfl ?_
  refine bp_j_cl_I (bp_ranV (t := 6) (n := 1) (As := [.ref a7]) (cnJ2_add (G := G) a9 a7) rfl (lw_V q508 q509 q510 q75 q511) ⟨rfl, by decide +kernel, by decide +kernel, by decide +kernel⟩ ⟨by decide, by decide⟩ (rest := []) rfl rfl (Nat.le_of_ble_eq_true rfl) dX2_readInTurn_44) (by decide) (fun x10 => ?_)
  refine bp_j_pop dX2_readInTurn_47 rfl ?_
  refine bp_j_aload_n 1 dX2_readInTurn_48 rfl ?_
  refine bp_j_aload_n 0 dX2_readInTurn_49 rfl ?_
  refine bp_j_aload_n 1 dX2_readInTurn_50 rfl ?_
  refine bp_j_getN (t := 1) (k := 7) rfl (by decide) (bp_lk q154) dX2_readInTurn_51 (fun _ _ _ => rfl) (fun a11 => ?_)
  refine bp_j_getN (t := 0) (k := 11) rfl (by decide) (bp_lkN q306) dX2_readInTurn_54 (fun _ _ _ => rfl) (fun a12 => ?_)
  refine bp_j_cl_I (bp_ranV (t := 6) (n := 0) (As := []) (cnJ2_size (G := G) a12 ) rfl (lw_V q474 q475 q476 q75 q477) ⟨rfl, by decide +kernel, by decide +kernel, by decide +kernel⟩ ⟨by decide, by decide⟩ (rest := [.ref a7, .ref a0]) rfl rfl (Nat.le_of_ble_eq_true rfl) dX2_readInTurn_57) (by decide) (fun x13 => ?_)
  refine bp_j_iconst (v := 1) dX2_readInTurn_60 (by decide) ?_
  refine bp_j_isub dX2_readInTurn_61 ?_
  refine bp_j_cl_U (bp_ranV (t := 1) (n := 2) (As := [.ref a7, .int (x13 - (1 : Int32))]) (cnX2_readBody (G := G) a0 a7 (x13 - (1 : Int32))) rfl (lw_V q563 q565 qs9 q76 q566) ⟨rfl, by decide +kernel, by decide +kernel, by decide +kernel⟩ ⟨by decide, by decide⟩ (rest := []) rfl rfl (Nat.le_of_ble_eq_true rfl) dX2_readInTurn_62) (by decide) (fun _ => ?_)
  refine bp_j_aload_n 1 dX2_readInTurn_65 rfl ?_
  refine bp_j_getN (t := 1) (k := 7) rfl (by decide) (bp_lk q154) dX2_readInTurn_66 (fun _ _ _ => rfl) (fun a14 => ?_)
  refine bp_j_getI (t := 0) (k := 0) rfl (by decide) (bp_lkN q288) dX2_readInTurn_69 (fun _ _ _ => rfl) (fun x15 => ?_)
  refine bp_j_jm (fun k => ∀ (x16 : Int32), bp_J G iX2_readInTurn (bp_Qn G bp_eU) (k x16) 109 [(0, .ref a0)] [.int x16]) (fun k17 hk17 => ?_) (fun x16 => ?_)
  · refine bp_j_if_ne (tgt := 93) dX2_readInTurn_72 (by decide) ?_ ?_
    · refine bp_j_aload_n 1 dX2_readInTurn_93 rfl ?_
      refine bp_j_getI (t := 1) (k := 2) rfl (by decide) (bp_lk q148) dX2_readInTurn_94 (fun _ _ _ => rfl) (fun x18 => ?_)
      refine bp_j_aload_n 1 dX2_readInTurn_97 rfl ?_
      refine bp_j_getI (t := 1) (k := 1) rfl (by decide) (bp_lk q147) dX2_readInTurn_98 (fun _ _ _ => rfl) (fun x19 => ?_)
      refine bp_j_icmp_ge (tgt := 108) dX2_readInTurn_101 (by decide) ?_ ?_
      · refine bp_j_iconst (v := 0) dX2_readInTurn_108 (by decide) ?_
        exact bp_j_sub [1] rfl (hk17 (0 : Int32))
      refine bp_j_iconst (v := 1) dX2_readInTurn_104 (by decide) ?_
      refine bp_j_goto (tgt := 109) dX2_readInTurn_105 (by decide) ?_
      exact bp_j_sub [1] rfl (hk17 (1 : Int32))
    refine bp_j_aload_n 0 dX2_readInTurn_75 rfl ?_
    refine bp_j_getN (t := 3) (k := 0) rfl (by decide) (bp_lkN q224) dX2_readInTurn_76 (fun _ _ _ => rfl) (fun a20 => ?_)
    refine bp_j_gets (j := 18) rfl (bp_lk q467) dX2_readInTurn_79 (fun a21 => ?_)
    refine bp_j_acmp_eq (x := (some a20)) (y := (some a21)) (tgt := 89) dX2_readInTurn_82 (by decide) ?_ ?_
    · refine bp_j_iconst (v := 0) dX2_readInTurn_89 (by decide) ?_
      refine bp_j_goto (tgt := 109) dX2_readInTurn_90 (by decide) ?_
      exact bp_j_sub [1] rfl (hk17 (0 : Int32))
    refine bp_j_iconst (v := 1) dX2_readInTurn_85 (by decide) ?_
    refine bp_j_goto (tgt := 109) dX2_readInTurn_86 (by decide) ?_
    exact bp_j_sub [1] rfl (hk17 (1 : Int32))
  refine bp_j_istore_n (lv' := [(1, .int x16), (0, .ref a0)]) dX2_readInTurn_109 (by decide) rfl ?_
  refine bp_j_goto (tgt := 27) dX2_readInTurn_110 (by decide) ?_
  exact bp_j_sub [1, 0] rfl (hk6 x16)
/-- BilevelPages$Reader.readAll()V -/
abbrev iX2_readAll : bp_MI := (yX2_readAll, cX2_readAll, 2, none, [], 10, 250)
def BX2_readAll_82 (a0 : Nat) (k3 : bp_M Unit) (k18 : Int32 → bp_M Unit) : Int32 → bp_M Unit :=
  fun x17 =>
  bp_if ((8 : Int32) ≤ x17) (
  k3) (
  bp_bind (bp_is 1 a0 (PX2_byteAt a0 x17)) fun x19 =>
  bp_gets 1 fun a20 =>
  bp_aldI 20 a20 x17 fun x21 =>
  bp_jn (fun (k23 : Int32 → bp_M Unit) =>
  bp_if (x19 = x21) (
  k23 (1 : Int32)) (
  k23 (0 : Int32))) (fun (x22 : Int32) =>
  bp_bind (PX1_need x22 (2 : Int32) (0 : Int32)) fun _ =>
  bp_letI (x17 + (1 : Int32)) fun x24 =>
  k18 x24))
def PX2_readAll (a0 : Nat) : bp_M Unit :=
  bp_getN 1 7 a0 fun a1 =>
  bp_getI 0 0 a1 fun x2 =>
  bp_if (x2 = (2 : Int32)) (
  bp_getI 1 1 a0 fun x25 =>
  bp_getN 1 7 a0 fun a26 =>
  bp_getI 0 9 a26 fun x27 =>
  bp_putI 1 1 a0 x27 <|
  bp_putZ 1 6 a0 (1 : Int32) <|
  bp_bind (bp_is 1 a0 (PX2_readInTurn a0)) fun _ =>
  bp_putI 1 1 a0 x25 <|
  bp_putZ 1 6 a0 (0 : Int32) <|
  bp_bind (bp_is 1 a0 (PX2_readInTurn a0)) fun _ =>
  bp_getI 1 4 a0 fun x28 =>
  bp_jn (fun (k30 : Int32 → bp_M Unit) =>
  bp_if (x28 = (-1 : Int32)) (
  k30 (1 : Int32)) (
  k30 (0 : Int32))) (fun (x29 : Int32) =>
  bp_getI 1 1 a0 fun x31 =>
  bp_bind (PX1_need x29 (10 : Int32) x31) fun _ =>
  bp_ret ())) (
  bp_bind (bp_is 1 a0 (PX2_needBytes a0 (13 : Int64))) fun _ =>
  bp_jn (fun (k3 : bp_M Unit) =>
  bp_loop (fun _ => bp_no) (BX2_readAll_82 a0 k3) (fun k => k (0 : Int32))) (bp_bind (bp_is 1 a0 (PX2_byteAt a0 (8 : Int32))) fun x4 =>
  bp_getN 1 7 a0 fun a5 =>
  bp_getI 0 0 a5 fun x6 =>
  bp_jn (fun (k8 : Int32 → bp_M Unit) =>
  bp_if (x4 = ((1 : Int32) - x6)) (
  k8 (1 : Int32)) (
  k8 (0 : Int32))) (fun (x7 : Int32) =>
  bp_bind (PX1_need x7 (2 : Int32) (0 : Int32)) fun _ =>
  bp_putI 1 2 a0 (13 : Int32) <|
  bp_getN 1 7 a0 fun a9 =>
  bp_getI 0 0 a9 fun x10 =>
  bp_jn (fun (k11 : bp_M Unit) =>
  bp_if (x10 = 0) (
  bp_bind (bp_is 1 a0 (PX2_readInTurn a0)) fun _ =>
  k11) (
  bp_bind (bp_is 1 a0 (PX2_readHeadsFirst a0)) fun _ =>
  k11)) (bp_getI 1 2 a0 fun x12 =>
  bp_getI 1 1 a0 fun x13 =>
  bp_jn (fun (k15 : Int32 → bp_M Unit) =>
  bp_if (x12 = x13) (
  k15 (1 : Int32)) (
  k15 (0 : Int32))) (fun (x14 : Int32) =>
  bp_getI 1 2 a0 fun x16 =>
  bp_bind (PX1_need x14 (10 : Int32) x16) fun _ =>
  bp_ret ())))))
set_option maxHeartbeats 4000000 in
set_option maxRecDepth 100000 in
theorem cnX2_readAll {G : bp_GT} (a0 : Nat) : bp_Con G iX2_readAll (ws_ iX2_readAll.1 iX2_readAll.2.1 iX2_readAll.2.2.1 iX2_readAll.2.2.2.1) [.ref a0] (PX2_readAll a0) bp_eU := by
  refine bp_con_of [(0, .ref a0)] rfl (by decide) (Nat.le_of_ble_eq_true rfl) rfl ?_
  unfold PX2_readAll
  refine bp_j_aload_n 0 dX2_readAll_0 rfl ?_
  refine bp_j_getN (t := 1) (k := 7) rfl (by decide) (bp_lk q154) dX2_readAll_1 (fun _ _ _ => rfl) (fun a1 => ?_)
  refine bp_j_getI (t := 0) (k := 0) rfl (by decide) (bp_lkN q288) dX2_readAll_4 (fun _ _ _ => rfl) (fun x2 => ?_)
  refine bp_j_iconst (v := 2) dX2_readAll_7 (by decide) ?_
  refine bp_j_icmp_ne (tgt := 73) dX2_readAll_8 (by decide) ?_ ?_
  · refine bp_j_aload_n 0 dX2_readAll_73 rfl ?_
    refine bp_j_ldc2 q712 dX2_readAll_74 ?_
    refine bp_j_cl_U (bp_ranV (t := 1) (n := 1) (As := [.long (13 : Int64)]) (cnX2_needBytes (G := G) a0 (13 : Int64)) rfl (lw_V q374 q376 qs2 q76 q377) ⟨rfl, by decide +kernel, by decide +kernel, by decide +kernel⟩ ⟨by decide, by decide⟩ (rest := []) rfl rfl (Nat.le_of_ble_eq_true rfl) dX2_readAll_77) (by decide) (fun _ => ?_)
    refine bp_j_iconst (v := 0) dX2_readAll_80 (by decide) ?_
    refine bp_j_istore_n (lv' := [(1, .int (0 : Int32)), (0, .ref a0)]) dX2_readAll_81 (by decide) rfl ?_
    refine bp_j_jm (fun k => bp_J G iX2_readAll (bp_Qn G bp_eU) (k) 117 [(0, .ref a0)] []) (fun k3 hk3 => ?_) ?_
    · refine bp_j_loop (fun k => ∀ (x17 : Int32), bp_J G iX2_readAll (bp_Qn G bp_eU) (k x17) 82 [(0, .ref a0), (1, .int x17)] []) (fun _ => bp_j_no) (fun k18 hk18 x17 => ?_) (fun k h => bp_j_sub [1, 0] rfl (h (0 : Int32)))
      unfold BX2_readAll_82
      refine bp_j_iload_n 1 dX2_readAll_82 rfl ?_
      refine bp_j_bipush (v := 8) dX2_readAll_83 (by decide) ?_
      refine bp_j_icmp_ge (tgt := 117) dX2_readAll_85 (by decide) ?_ ?_
      · exact bp_j_sub [0] rfl (hk3)
      refine bp_j_aload_n 0 dX2_readAll_88 rfl ?_
      refine bp_j_iload_n 1 dX2_readAll_89 rfl ?_
      refine bp_j_cl_I (bp_ranV (t := 1) (n := 1) (As := [.int x17]) (cnX2_byteAt (G := G) a0 x17) rfl (lw_V q452 q454 qs4 q76 q455) ⟨rfl, by decide +kernel, by decide +kernel, by decide +kernel⟩ ⟨by decide, by decide⟩ (rest := []) rfl rfl (Nat.le_of_ble_eq_true rfl) dX2_readAll_90) (by decide) (fun x19 => ?_)
      refine bp_j_gets (j := 1) rfl (bp_lkN q713) dX2_readAll_93 (fun a20 => ?_)
      refine bp_j_iload_n 1 dX2_readAll_96 rfl ?_
      refine bp_j_iaload dX2_readAll_97 (fun x21 => ?_)
      refine bp_j_jm (fun k => ∀ (x22 : Int32), bp_J G iX2_readAll (bp_Qn G bp_eU) (k x22) 106 [(0, .ref a0), (1, .int x17)] [.int x22]) (fun k23 hk23 => ?_) (fun x22 => ?_)
      · refine bp_j_icmp_ne (tgt := 105) dX2_readAll_98 (by decide) ?_ ?_
        · refine bp_j_iconst (v := 0) dX2_readAll_105 (by decide) ?_
          exact hk23 (0 : Int32)
        refine bp_j_iconst (v := 1) dX2_readAll_101 (by decide) ?_
        refine bp_j_goto (tgt := 106) dX2_readAll_102 (by decide) ?_
        exact hk23 (1 : Int32)
      refine bp_j_iconst (v := 2) dX2_readAll_106 (by decide) ?_
      refine bp_j_iconst (v := 0) dX2_readAll_107 (by decide) ?_
      refine bp_j_cl_U (bp_ranSN (n := 3) (As := [.int x22, .int (2 : Int32), .int (0 : Int32)]) (cnX1_need (G := G) x22 (2 : Int32) (0 : Int32)) q380 q72 q378 q379 ⟨by decide +kernel, by decide +kernel, by decide +kernel⟩ ⟨by decide, by decide⟩ (rest := []) rfl rfl (Nat.le_of_ble_eq_true rfl) dX2_readAll_108) (by decide) (fun _ => ?_)
      refine bp_j_iincL (lv' := fun x24 => [(1, .int x24), (0, .ref a0)]) 1 dX2_readAll_111 rfl (by decide) (by decide) (fun _ => rfl) (fun x24 => ?_)
      refine bp_j_goto (tgt := 82) dX2_readAll_114 (by decide) ?_
      exact bp_j_sub [1, 0] rfl (hk18 x24)
    refine bp_j_aload_n 0 dX2_readAll_117 rfl ?_
    refine bp_j_bipush (v := 8) dX2_readAll_118 (by decide) ?_
    refine bp_j_cl_I (bp_ranV (t := 1) (n := 1) (As := [.int (8 : Int32)]) (cnX2_byteAt (G := G) a0 (8 : Int32)) rfl (lw_V q452 q454 qs4 q76 q455) ⟨rfl, by decide +kernel, by decide +kernel, by decide +kernel⟩ ⟨by decide, by decide⟩ (rest := []) rfl rfl (Nat.le_of_ble_eq_true rfl) dX2_readAll_120) (by decide) (fun x4 => ?_)
    refine bp_j_iconst (v := 1) dX2_readAll_123 (by decide) ?_
    refine bp_j_aload_n 0 dX2_readAll_124 rfl ?_
    refine bp_j_getN (t := 1) (k := 7) rfl (by decide) (bp_lk q154) dX2_readAll_125 (fun _ _ _ => rfl) (fun a5 => ?_)
    refine bp_j_getI (t := 0) (k := 0) rfl (by decide) (bp_lkN q288) dX2_readAll_128 (fun _ _ _ => rfl) (fun x6 => ?_)
    refine bp_j_isub dX2_readAll_131 ?_
    refine bp_j_jm (fun k => ∀ (x7 : Int32), bp_J G iX2_readAll (bp_Qn G bp_eU) (k x7) 140 [(0, .ref a0)] [.int x7]) (fun k8 hk8 => ?_) (fun x7 => ?_)
    · refine bp_j_icmp_ne (tgt := 139) dX2_readAll_132 (by decide) ?_ ?_
      · refine bp_j_iconst (v := 0) dX2_readAll_139 (by decide) ?_
        exact hk8 (0 : Int32)
      refine bp_j_iconst (v := 1) dX2_readAll_135 (by decide) ?_
      refine bp_j_goto (tgt := 140) dX2_readAll_136 (by decide) ?_
      exact hk8 (1 : Int32)
    refine bp_j_iconst (v := 2) dX2_readAll_140 (by decide) ?_
    refine bp_j_iconst (v := 0) dX2_readAll_141 (by decide) ?_
    refine bp_j_cl_U (bp_ranSN (n := 3) (As := [.int x7, .int (2 : Int32), .int (0 : Int32)]) (cnX1_need (G := G) x7 (2 : Int32) (0 : Int32)) q380 q72 q378 q379 ⟨by decide +kernel, by decide +kernel, by decide +kernel⟩ ⟨by decide, by decide⟩ (rest := []) rfl rfl (Nat.le_of_ble_eq_true rfl) dX2_readAll_142) (by decide) (fun _ => ?_)
    refine bp_j_aload_n 0 dX2_readAll_145 rfl ?_
    refine bp_j_bipush (v := 13) dX2_readAll_146 (by decide) ?_
    refine bp_j_putI (t := 1) (k := 2) rfl (by decide) (by decide) (bp_lk q148) rfl dX2_readAll_148 rfl ?_
    refine bp_j_aload_n 0 dX2_readAll_151 rfl ?_
    refine bp_j_getN (t := 1) (k := 7) rfl (by decide) (bp_lk q154) dX2_readAll_152 (fun _ _ _ => rfl) (fun a9 => ?_)
    refine bp_j_getI (t := 0) (k := 0) rfl (by decide) (bp_lkN q288) dX2_readAll_155 (fun _ _ _ => rfl) (fun x10 => ?_)
    refine bp_j_jm (fun k => bp_J G iX2_readAll (bp_Qn G bp_eU) (k) 172 [(0, .ref a0)] []) (fun k11 hk11 => ?_) ?_
    · refine bp_j_if_ne (tgt := 168) dX2_readAll_158 (by decide) ?_ ?_
      · refine bp_j_aload_n 0 dX2_readAll_168 rfl ?_
        refine bp_j_cl_U (bp_ranV (t := 1) (n := 0) (As := []) (cnX2_readHeadsFirst (G := G) a0 ) rfl (lw_V q715 q717 qs23 q76 q718) ⟨rfl, by decide +kernel, by decide +kernel, by decide +kernel⟩ ⟨by decide, by decide⟩ (rest := []) rfl rfl (Nat.le_of_ble_eq_true rfl) dX2_readAll_169) (by decide) (fun _ => ?_)
        exact hk11
      refine bp_j_aload_n 0 dX2_readAll_161 rfl ?_
      refine bp_j_cl_U (bp_ranV (t := 1) (n := 0) (As := []) (cnX2_readInTurn (G := G) a0 ) rfl (lw_V q365 q367 qs0 q76 q368) ⟨rfl, by decide +kernel, by decide +kernel, by decide +kernel⟩ ⟨by decide, by decide⟩ (rest := []) rfl rfl (Nat.le_of_ble_eq_true rfl) dX2_readAll_162) (by decide) (fun _ => ?_)
      refine bp_j_goto (tgt := 172) dX2_readAll_165 (by decide) ?_
      exact hk11
    refine bp_j_aload_n 0 dX2_readAll_172 rfl ?_
    refine bp_j_getI (t := 1) (k := 2) rfl (by decide) (bp_lk q148) dX2_readAll_173 (fun _ _ _ => rfl) (fun x12 => ?_)
    refine bp_j_aload_n 0 dX2_readAll_176 rfl ?_
    refine bp_j_getI (t := 1) (k := 1) rfl (by decide) (bp_lk q147) dX2_readAll_177 (fun _ _ _ => rfl) (fun x13 => ?_)
    refine bp_j_jm (fun k => ∀ (x14 : Int32), bp_J G iX2_readAll (bp_Qn G bp_eU) (k x14) 188 [(0, .ref a0)] [.int x14]) (fun k15 hk15 => ?_) (fun x14 => ?_)
    · refine bp_j_icmp_ne (tgt := 187) dX2_readAll_180 (by decide) ?_ ?_
      · refine bp_j_iconst (v := 0) dX2_readAll_187 (by decide) ?_
        exact hk15 (0 : Int32)
      refine bp_j_iconst (v := 1) dX2_readAll_183 (by decide) ?_
      refine bp_j_goto (tgt := 188) dX2_readAll_184 (by decide) ?_
      exact hk15 (1 : Int32)
    refine bp_j_bipush (v := 10) dX2_readAll_188 (by decide) ?_
    refine bp_j_aload_n 0 dX2_readAll_190 rfl ?_
    refine bp_j_getI (t := 1) (k := 2) rfl (by decide) (bp_lk q148) dX2_readAll_191 (fun _ _ _ => rfl) (fun x16 => ?_)
    refine bp_j_cl_U (bp_ranSN (n := 3) (As := [.int x14, .int (10 : Int32), .int x16]) (cnX1_need (G := G) x14 (10 : Int32) x16) q380 q72 q378 q379 ⟨by decide +kernel, by decide +kernel, by decide +kernel⟩ ⟨by decide, by decide⟩ (rest := []) rfl rfl (Nat.le_of_ble_eq_true rfl) dX2_readAll_194) (by decide) (fun _ => ?_)
    exact bp_j_vret rfl dX2_readAll_197
  refine bp_j_aload_n 0 dX2_readAll_11 rfl ?_
  refine bp_j_getI (t := 1) (k := 1) rfl (by decide) (bp_lk q147) dX2_readAll_12 (fun _ _ _ => rfl) (fun x25 => ?_)
  refine bp_j_istore_n (lv' := [(1, .int x25), (0, .ref a0)]) dX2_readAll_15 (by decide) rfl ?_
  refine bp_j_aload_n 1 dX2_readAll_16 rfl ?_
  refine bp_j_aload_n 1 dX2_readAll_17 rfl ?_
  refine bp_j_getN (t := 1) (k := 7) rfl (by decide) (bp_lk q154) dX2_readAll_18 (fun _ _ _ => rfl) (fun a26 => ?_)
  refine bp_j_getI (t := 0) (k := 9) rfl (by decide) (bp_lkN q302) dX2_readAll_21 (fun _ _ _ => rfl) (fun x27 => ?_)
  refine bp_j_putI (t := 1) (k := 1) rfl (by decide) (by decide) (bp_lk q147) rfl dX2_readAll_24 rfl ?_
  refine bp_j_aload_n 1 dX2_readAll_27 rfl ?_
  refine bp_j_iconst (v := 1) dX2_readAll_28 (by decide) ?_
  refine bp_j_putZ (t := 1) (k := 6) rfl (by decide) (by decide) (bp_lk q153) rfl dX2_readAll_29 rfl ?_
  refine bp_j_aload_n 1 dX2_readAll_32 rfl ?_
  refine bp_j_cl_U (bp_ranV (t := 1) (n := 0) (As := []) (cnX2_readInTurn (G := G) a0 ) rfl (lw_V q365 q367 qs0 q76 q368) ⟨rfl, by decide +kernel, by decide +kernel, by decide +kernel⟩ ⟨by decide, by decide⟩ (rest := []) rfl rfl (Nat.le_of_ble_eq_true rfl) dX2_readAll_33) (by decide) (fun _ => ?_)
  refine bp_j_aload_n 1 dX2_readAll_36 rfl ?_
  refine bp_j_iload_n 0 dX2_readAll_37 rfl ?_
  refine bp_j_putI (t := 1) (k := 1) rfl (by decide) (by decide) (bp_lk q147) rfl dX2_readAll_38 rfl ?_
  refine bp_j_aload_n 1 dX2_readAll_41 rfl ?_
  refine bp_j_iconst (v := 0) dX2_readAll_42 (by decide) ?_
  refine bp_j_putZ (t := 1) (k := 6) rfl (by decide) (by decide) (bp_lk q153) rfl dX2_readAll_43 rfl ?_
  refine bp_j_aload_n 1 dX2_readAll_46 rfl ?_
  refine bp_j_cl_U (bp_ranV (t := 1) (n := 0) (As := []) (cnX2_readInTurn (G := G) a0 ) rfl (lw_V q365 q367 qs0 q76 q368) ⟨rfl, by decide +kernel, by decide +kernel, by decide +kernel⟩ ⟨by decide, by decide⟩ (rest := []) rfl rfl (Nat.le_of_ble_eq_true rfl) dX2_readAll_47) (by decide) (fun _ => ?_)
  refine bp_j_aload_n 1 dX2_readAll_50 rfl ?_
  refine bp_j_getI (t := 1) (k := 4) rfl (by decide) (bp_lk q150) dX2_readAll_51 (fun _ _ _ => rfl) (fun x28 => ?_)
  refine bp_j_iconst (v := -1) dX2_readAll_54 (by decide) ?_
  refine bp_j_jm (fun k => ∀ (x29 : Int32), bp_J G iX2_readAll (bp_Qn G bp_eU) (k x29) 63 [(0, .ref a0)] [.int x29]) (fun k30 hk30 => ?_) (fun x29 => ?_)
  · refine bp_j_icmp_ne (tgt := 62) dX2_readAll_55 (by decide) ?_ ?_
    · refine bp_j_iconst (v := 0) dX2_readAll_62 (by decide) ?_
      exact bp_j_sub [1] rfl (hk30 (0 : Int32))
    refine bp_j_iconst (v := 1) dX2_readAll_58 (by decide) ?_
    refine bp_j_goto (tgt := 63) dX2_readAll_59 (by decide) ?_
    exact bp_j_sub [1] rfl (hk30 (1 : Int32))
  refine bp_j_bipush (v := 10) dX2_readAll_63 (by decide) ?_
  refine bp_j_aload_n 0 dX2_readAll_65 rfl ?_
  refine bp_j_getI (t := 1) (k := 1) rfl (by decide) (bp_lk q147) dX2_readAll_66 (fun _ _ _ => rfl) (fun x31 => ?_)
  refine bp_j_cl_U (bp_ranSN (n := 3) (As := [.int x29, .int (10 : Int32), .int x31]) (cnX1_need (G := G) x29 (10 : Int32) x31) q380 q72 q378 q379 ⟨by decide +kernel, by decide +kernel, by decide +kernel⟩ ⟨by decide, by decide⟩ (rest := []) rfl rfl (Nat.le_of_ble_eq_true rfl) dX2_readAll_69) (by decide) (fun _ => ?_)
  exact bp_j_vret rfl dX2_readAll_72
/-- BilevelPages.read()I -/
abbrev iX1_read : bp_MI := (yX1_read, cX1_read, 2, some (Jvm.ClassFile.FieldType.int), [(24, 31, 34, 28)], 11, 271)
def PX1_read (a0 : Nat) : bp_M Int32 :=
  bp_getN 0 11 a0 fun a1 =>
  bp_bind (bp_is 6 a1 (PJ2_clear a1)) fun _ =>
  bp_putZ 0 13 a0 (0 : Int32) <|
  bp_putI 0 14 a0 (0 : Int32) <|
  bp_getN 0 12 a0 fun a2 =>
  bp_bind (bp_is 1 a2 (PX2_begin a2)) fun _ =>
  bp_getN 0 12 a0 fun a3 =>
  bp_try (bp_is 1 a3 (PX2_readAll a3)) (fun _ =>
  bp_putZ 0 13 a0 (1 : Int32) <|
  bp_getN 0 12 a0 fun a7 =>
  bp_getI 1 5 a7 fun x8 =>
  bp_putI 0 15 a0 x8 <|
  bp_getN 0 11 a0 fun a9 =>
  bp_bind (bp_is 6 a9 (PJ2_size a9)) fun x10 =>
  bp_ret x10) (bp_hs [(5, fun a4 =>
  bp_getI 5 6 a4 fun x5 =>
  bp_putI 0 14 a0 x5 <|
  bp_getI 5 7 a4 fun x6 =>
  bp_ret ((-1 : Int32) - x6))])
set_option maxHeartbeats 4000000 in
set_option maxRecDepth 100000 in
theorem cnX1_read {G : bp_GT} (a0 : Nat) : bp_Con G iX1_read (wsW_ iX1_read.1 iX1_read.2.1 iX1_read.2.2.1 iX1_read.2.2.2.1 iX1_read.2.2.2.2.1) [.ref a0] (PX1_read a0) bp_eI := by
  refine bp_con_ofH [(0, .ref a0)] (by decide) (Nat.le_of_ble_eq_true rfl) rfl ?_
  unfold PX1_read
  refine bp_j_aload_n 0 dX1_read_0 rfl ?_
  refine bp_j_getN (t := 0) (k := 11) rfl (by decide) (bp_lk q307) dX1_read_1 (fun _ _ _ => rfl) (fun a1 => ?_)
  refine bp_j_cl_U (bp_ranV (t := 6) (n := 0) (As := []) (cnJ2_clear (G := G) a1 ) rfl (lw_V q350 q351 q352 q75 q353) ⟨rfl, by decide +kernel, by decide +kernel, by decide +kernel⟩ ⟨by decide, by decide⟩ (rest := []) rfl rfl (Nat.le_of_ble_eq_true rfl) dX1_read_4) (by decide) (fun _ => ?_)
  refine bp_j_aload_n 0 dX1_read_7 rfl ?_
  refine bp_j_iconst (v := 0) dX1_read_8 (by decide) ?_
  refine bp_j_putZ (t := 0) (k := 13) rfl (by decide) (by decide) (bp_lk q309) rfl dX1_read_9 rfl ?_
  refine bp_j_aload_n 0 dX1_read_12 rfl ?_
  refine bp_j_iconst (v := 0) dX1_read_13 (by decide) ?_
  refine bp_j_putI (t := 0) (k := 14) rfl (by decide) (by decide) (bp_lk q310) rfl dX1_read_14 rfl ?_
  refine bp_j_aload_n 0 dX1_read_17 rfl ?_
  refine bp_j_getN (t := 0) (k := 12) rfl (by decide) (bp_lk q308) dX1_read_18 (fun _ _ _ => rfl) (fun a2 => ?_)
  refine bp_j_cl_U (bp_ranV (t := 1) (n := 0) (As := []) (cnX2_begin (G := G) a2 ) rfl (lw_V q354 q355 q356 q76 q357) ⟨rfl, by decide +kernel, by decide +kernel, by decide +kernel⟩ ⟨by decide, by decide⟩ (rest := []) rfl rfl (Nat.le_of_ble_eq_true rfl) dX1_read_21) (by decide) (fun _ => ?_)
  refine bp_j_aload_n 0 dX1_read_24 rfl ?_
  refine bp_j_getN (t := 0) (k := 12) rfl (by decide) (bp_lk q308) dX1_read_25 (fun _ _ _ => rfl) (fun a3 => ?_)
  refine bp_j_ct_U [34] (bp_ranV (t := 1) (n := 0) (As := []) (cnX2_readAll (G := G) a3 ) rfl (lw_V q361 q362 q363 q76 q364) ⟨rfl, by decide +kernel, by decide +kernel, by decide +kernel⟩ ⟨by decide, by decide⟩ (rest := []) rfl rfl (Nat.le_of_ble_eq_true rfl) dX1_read_28) (bp_HSc (bp_cat_of (k := 5) (pc := 28) (name := "BilevelPages$WrongSegment") [] (24, 31, 34, 28) [] rfl (fun z hz => nomatch hz) (by decide) (by decide) (by decide) q349 q382) (fun a4 => ?_) bp_HSn) (fun _ => ?_)
  · refine bp_j_astore_n (lv' := [(1, .ref a4), (0, .ref a0)]) dX1_read_34 (by decide) rfl ?_
    refine bp_j_aload_n 1 dX1_read_35 rfl ?_
    refine bp_j_aload_n 0 dX1_read_36 rfl ?_
    refine bp_j_getI (t := 5) (k := 6) rfl (by decide) (bp_lkN q432) dX1_read_37 (fun _ _ _ => rfl) (fun x5 => ?_)
    refine bp_j_putI (t := 0) (k := 14) rfl (by decide) (by decide) (bp_lk q310) rfl dX1_read_40 rfl ?_
    refine bp_j_iconst (v := -1) dX1_read_43 (by decide) ?_
    refine bp_j_aload_n 0 dX1_read_44 rfl ?_
    refine bp_j_getI (t := 5) (k := 7) rfl (by decide) (bp_lkN q434) dX1_read_45 (fun _ _ _ => rfl) (fun x6 => ?_)
    refine bp_j_isub dX1_read_48 ?_
    exact bp_j_iret rfl dX1_read_49
  refine bp_j_goto (tgt := 50) dX1_read_31 (by decide) ?_
  refine bp_j_aload_n 0 dX1_read_50 rfl ?_
  refine bp_j_iconst (v := 1) dX1_read_51 (by decide) ?_
  refine bp_j_putZ (t := 0) (k := 13) rfl (by decide) (by decide) (bp_lk q309) rfl dX1_read_52 rfl ?_
  refine bp_j_aload_n 0 dX1_read_55 rfl ?_
  refine bp_j_aload_n 0 dX1_read_56 rfl ?_
  refine bp_j_getN (t := 0) (k := 12) rfl (by decide) (bp_lk q308) dX1_read_57 (fun _ _ _ => rfl) (fun a7 => ?_)
  refine bp_j_getI (t := 1) (k := 5) rfl (by decide) (bp_lkN q152) dX1_read_60 (fun _ _ _ => rfl) (fun x8 => ?_)
  refine bp_j_putI (t := 0) (k := 15) rfl (by decide) (by decide) (bp_lk q311) rfl dX1_read_63 rfl ?_
  refine bp_j_aload_n 0 dX1_read_66 rfl ?_
  refine bp_j_getN (t := 0) (k := 11) rfl (by decide) (bp_lk q307) dX1_read_67 (fun _ _ _ => rfl) (fun a9 => ?_)
  refine bp_j_cl_I (bp_ranV (t := 6) (n := 0) (As := []) (cnJ2_size (G := G) a9 ) rfl (lw_V q719 q475 q476 q75 q477) ⟨rfl, by decide +kernel, by decide +kernel, by decide +kernel⟩ ⟨by decide, by decide⟩ (rest := []) rfl rfl (Nat.le_of_ble_eq_true rfl) dX1_read_70) (by decide) (fun x10 => ?_)
  exact bp_j_iret rfl dX1_read_73
/-- BilevelPagesLaw.alter(LBilevelPages;II[J)I -/
abbrev iX0_alter : bp_MI := (yX0_alter, cX0_alter, 5, some (Jvm.ClassFile.FieldType.int), [(0, 10, 13, 21), (0, 10, 17, 13)], 8, 143)
def PX0_alter (bp0 : Nat) (xp1 : Int32) (xp2 : Int32) (bp3 : Nat) : bp_M Int32 :=
  bp_try (bp_is 0 bp0 (PX1_alter bp0 xp1 xp2)) (fun x1 =>
  bp_astL bp3 (0 : Int32) x1.toInt64 <|
  bp_ret (0 : Int32)) (bp_hs [(4, fun a2 =>
  bp_ret (1 : Int32)), (1, fun a3 =>
  bp_ret (2 : Int32))])
set_option maxHeartbeats 4000000 in
set_option maxRecDepth 100000 in
theorem cnX0_alter {G : bp_GT} (bp0 : Nat) (xp1 : Int32) (xp2 : Int32) (bp3 : Nat) : bp_Con G iX0_alter (wsW_ iX0_alter.1 iX0_alter.2.1 iX0_alter.2.2.1 iX0_alter.2.2.2.1 iX0_alter.2.2.2.2.1) [.ref bp0, .int xp1, .int xp2, .ref bp3] (PX0_alter bp0 xp1 xp2 bp3) bp_eI := by
  refine bp_con_ofH [(0, .ref bp0), (1, .int xp1), (2, .int xp2), (3, .ref bp3)] (by decide) (Nat.le_of_ble_eq_true rfl) rfl ?_
  unfold PX0_alter
  refine bp_j_aload_n 3 dX0_alter_0 rfl ?_
  refine bp_j_iconst (v := 0) dX0_alter_1 (by decide) ?_
  refine bp_j_aload_n 0 dX0_alter_2 rfl ?_
  refine bp_j_iload_n 1 dX0_alter_3 rfl ?_
  refine bp_j_iload_n 2 dX0_alter_4 rfl ?_
  refine bp_j_ct_I [13, 17] (bp_ranV (t := 0) (n := 2) (As := [.int xp1, .int xp2]) (cnX1_alter (G := G) bp0 xp1 xp2) rfl (lw_V q1033 q1034 q1035 q72 q1036) ⟨rfl, by decide +kernel, by decide +kernel, by decide +kernel⟩ ⟨by decide, by decide⟩ (rest := [.int (0 : Int32), .ref bp3]) rfl rfl (Nat.le_of_ble_eq_true rfl) dX0_alter_5) (bp_HSc (bp_cat_of (k := 4) (pc := 5) (name := "java/lang/IndexOutOfBoundsException") [] (0, 10, 13, 21) [(0, 10, 17, 13)] rfl (fun z hz => nomatch hz) (by decide) (by decide) (by decide) q796 q841) (fun a2 => ?_) (bp_HSc (bp_cat_of (k := 1) (pc := 5) (name := "java/lang/IllegalArgumentException") [(0, 10, 13, 21)] (0, 10, 17, 13) [] rfl (List.forall_mem_cons.mpr ⟨⟨by decide, "java/lang/IndexOutOfBoundsException", q796, by decide⟩, fun _ h => nomatch h⟩) (by decide) (by decide) (by decide) q738 q752) (fun a3 => ?_) bp_HSn)) (fun x1 => ?_)
  · refine bp_j_astore (lv' := [(4, .ref a2), (0, .ref bp0), (1, .int xp1), (2, .int xp2), (3, .ref bp3)]) dX0_alter_13 (by decide) rfl ?_
    refine bp_j_iconst (v := 1) dX0_alter_15 (by decide) ?_
    exact bp_j_iret rfl dX0_alter_16
  · refine bp_j_astore (lv' := [(4, .ref a3), (0, .ref bp0), (1, .int xp1), (2, .int xp2), (3, .ref bp3)]) dX0_alter_17 (by decide) rfl ?_
    refine bp_j_iconst (v := 2) dX0_alter_19 (by decide) ?_
    exact bp_j_iret rfl dX0_alter_20
  refine bp_j_i2l dX0_alter_8 ?_
  refine bp_j_lastore dX0_alter_9 ?_
  refine bp_j_goto (tgt := 21) dX0_alter_10 (by decide) ?_
  refine bp_j_iconst (v := 0) dX0_alter_21 (by decide) ?_
  exact bp_j_iret rfl dX0_alter_22
/-- BilevelPagesLaw.at(LBilevelPages;III[J)I -/
abbrev iX0_at : bp_MI := (yX0_at, cX0_at, 6, some (Jvm.ClassFile.FieldType.int), [(0, 19, 22, 29), (0, 19, 26, 21)], 9, 165)
def PX0_at (bp0 : Nat) (xp1 : Int32) (xp2 : Int32) (xp3 : Int32) (bp4 : Nat) : bp_M Int32 :=
  bp_try (bp_is 0 bp0 (PX1_at_2 bp0 xp1 xp2 xp3)) (fun x1 =>
  bp_jn (fun (k5 : Int64 → bp_M Int32) =>
  bp_if (x1 = 0) (
  k5 (0 : Int64)) (
  k5 (1 : Int64))) (fun (l4 : Int64) =>
  bp_astL bp4 (0 : Int32) l4 <|
  bp_ret (0 : Int32))) (bp_hs [(3, fun a2 =>
  bp_ret (1 : Int32)), (4, fun a3 =>
  bp_ret (2 : Int32))])
set_option maxHeartbeats 4000000 in
set_option maxRecDepth 100000 in
theorem cnX0_at {G : bp_GT} (bp0 : Nat) (xp1 : Int32) (xp2 : Int32) (xp3 : Int32) (bp4 : Nat) : bp_Con G iX0_at (wsW_ iX0_at.1 iX0_at.2.1 iX0_at.2.2.1 iX0_at.2.2.2.1 iX0_at.2.2.2.2.1) [.ref bp0, .int xp1, .int xp2, .int xp3, .ref bp4] (PX0_at bp0 xp1 xp2 xp3 bp4) bp_eI := by
  refine bp_con_ofH [(0, .ref bp0), (1, .int xp1), (2, .int xp2), (3, .int xp3), (4, .ref bp4)] (by decide) (Nat.le_of_ble_eq_true rfl) rfl ?_
  unfold PX0_at
  refine bp_j_aload 4 dX0_at_0 rfl ?_
  refine bp_j_iconst (v := 0) dX0_at_2 (by decide) ?_
  refine bp_j_aload_n 0 dX0_at_3 rfl ?_
  refine bp_j_iload_n 1 dX0_at_4 rfl ?_
  refine bp_j_iload_n 2 dX0_at_5 rfl ?_
  refine bp_j_iload_n 3 dX0_at_6 rfl ?_
  refine bp_j_ct_I [22, 26] (bp_ranV (t := 0) (n := 3) (As := [.int xp1, .int xp2, .int xp3]) (cnX1_at_2 (G := G) bp0 xp1 xp2 xp3) rfl (lw_V q1062 q1063 q1064 q72 q1065) ⟨rfl, by decide +kernel, by decide +kernel, by decide +kernel⟩ ⟨by decide, by decide⟩ (rest := [.int (0 : Int32), .ref bp4]) rfl rfl (Nat.le_of_ble_eq_true rfl) dX0_at_7) (bp_HSc (bp_cat_of (k := 3) (pc := 7) (name := "java/lang/IllegalStateException") [] (0, 19, 22, 29) [(0, 19, 26, 21)] rfl (fun z hz => nomatch hz) (by decide) (by decide) (by decide) q871 q882) (fun a2 => ?_) (bp_HSc (bp_cat_of (k := 4) (pc := 7) (name := "java/lang/IndexOutOfBoundsException") [(0, 19, 22, 29)] (0, 19, 26, 21) [] rfl (List.forall_mem_cons.mpr ⟨⟨by decide, "java/lang/IllegalStateException", q871, by decide⟩, fun _ h => nomatch h⟩) (by decide) (by decide) (by decide) q796 q841) (fun a3 => ?_) bp_HSn)) (fun x1 => ?_)
  · refine bp_j_astore (lv' := [(5, .ref a2), (0, .ref bp0), (1, .int xp1), (2, .int xp2), (3, .int xp3), (4, .ref bp4)]) dX0_at_22 (by decide) rfl ?_
    refine bp_j_iconst (v := 1) dX0_at_24 (by decide) ?_
    exact bp_j_iret rfl dX0_at_25
  · refine bp_j_astore (lv' := [(5, .ref a3), (0, .ref bp0), (1, .int xp1), (2, .int xp2), (3, .int xp3), (4, .ref bp4)]) dX0_at_26 (by decide) rfl ?_
    refine bp_j_iconst (v := 2) dX0_at_28 (by decide) ?_
    exact bp_j_iret rfl dX0_at_29
  refine bp_j_jm (fun k => ∀ (l4 : Int64), bp_J G iX0_at (bp_Qn G bp_eI) (k l4) 18 [] [.long l4, .int (0 : Int32), .ref bp4]) (fun k5 hk5 => ?_) (fun l4 => ?_)
  · refine bp_j_if_eq (tgt := 17) dX0_at_10 (by decide) ?_ ?_
    · refine bp_j_lconst (v := 0) dX0_at_17 (by decide) ?_
      exact bp_j_sub [] rfl (hk5 (0 : Int64))
    refine bp_j_lconst (v := 1) dX0_at_13 (by decide) ?_
    refine bp_j_goto (tgt := 18) dX0_at_14 (by decide) ?_
    exact bp_j_sub [] rfl (hk5 (1 : Int64))
  refine bp_j_lastore dX0_at_18 ?_
  refine bp_j_goto (tgt := 30) dX0_at_19 (by decide) ?_
  refine bp_j_iconst (v := 0) dX0_at_30 (by decide) ?_
  exact bp_j_iret rfl dX0_at_31
/-- BilevelPagesLaw.byteAt(LBilevelPages;I[J)I -/
abbrev iX0_byteAt : bp_MI := (yX0_byteAt, cX0_byteAt, 4, some (Jvm.ClassFile.FieldType.int), [(0, 9, 12, 21)], 8, 141)
def PX0_byteAt (bp0 : Nat) (xp1 : Int32) (bp2 : Nat) : bp_M Int32 :=
  bp_try (bp_is 0 bp0 (PX1_byteAt bp0 xp1)) (fun x1 =>
  bp_astL bp2 (0 : Int32) x1.toInt64 <|
  bp_ret (0 : Int32)) (bp_hs [(4, fun a2 =>
  bp_ret (1 : Int32))])
set_option maxHeartbeats 4000000 in
set_option maxRecDepth 100000 in
theorem cnX0_byteAt {G : bp_GT} (bp0 : Nat) (xp1 : Int32) (bp2 : Nat) : bp_Con G iX0_byteAt (wsW_ iX0_byteAt.1 iX0_byteAt.2.1 iX0_byteAt.2.2.1 iX0_byteAt.2.2.2.1 iX0_byteAt.2.2.2.2.1) [.ref bp0, .int xp1, .ref bp2] (PX0_byteAt bp0 xp1 bp2) bp_eI := by
  refine bp_con_ofH [(0, .ref bp0), (1, .int xp1), (2, .ref bp2)] (by decide) (Nat.le_of_ble_eq_true rfl) rfl ?_
  unfold PX0_byteAt
  refine bp_j_aload_n 2 dX0_byteAt_0 rfl ?_
  refine bp_j_iconst (v := 0) dX0_byteAt_1 (by decide) ?_
  refine bp_j_aload_n 0 dX0_byteAt_2 rfl ?_
  refine bp_j_iload_n 1 dX0_byteAt_3 rfl ?_
  refine bp_j_ct_I [12] (bp_ranV (t := 0) (n := 1) (As := [.int xp1]) (cnX1_byteAt (G := G) bp0 xp1) rfl (lw_V q1008 q1009 q1010 q72 q1011) ⟨rfl, by decide +kernel, by decide +kernel, by decide +kernel⟩ ⟨by decide, by decide⟩ (rest := [.int (0 : Int32), .ref bp2]) rfl rfl (Nat.le_of_ble_eq_true rfl) dX0_byteAt_4) (bp_HSc (bp_cat_of (k := 4) (pc := 4) (name := "java/lang/IndexOutOfBoundsException") [] (0, 9, 12, 21) [] rfl (fun z hz => nomatch hz) (by decide) (by decide) (by decide) q796 q841) (fun a2 => ?_) bp_HSn) (fun x1 => ?_)
  · refine bp_j_astore_n (lv' := [(3, .ref a2), (0, .ref bp0), (1, .int xp1), (2, .ref bp2)]) dX0_byteAt_12 (by decide) rfl ?_
    refine bp_j_iconst (v := 1) dX0_byteAt_13 (by decide) ?_
    exact bp_j_iret rfl dX0_byteAt_14
  refine bp_j_i2l dX0_byteAt_7 ?_
  refine bp_j_lastore dX0_byteAt_8 ?_
  refine bp_j_goto (tgt := 15) dX0_byteAt_9 (by decide) ?_
  refine bp_j_iconst (v := 0) dX0_byteAt_15 (by decide) ?_
  exact bp_j_iret rfl dX0_byteAt_16
/-- BilevelPagesLaw.byteOf(LBilevelPages;II[J)I -/
abbrev iX0_byteOf : bp_MI := (yX0_byteOf, cX0_byteOf, 5, some (Jvm.ClassFile.FieldType.int), [(0, 10, 13, 21), (0, 10, 17, 29), (0, 10, 21, 13), (0, 10, 25, 15)], 9, 164)
def PX0_byteOf (bp0 : Nat) (xp1 : Int32) (xp2 : Int32) (bp3 : Nat) : bp_M Int32 :=
  bp_try (bp_is 0 bp0 (PX1_byteOf bp0 xp1 xp2)) (fun x1 =>
  bp_astL bp3 (0 : Int32) x1.toInt64 <|
  bp_ret (0 : Int32)) (bp_hs [(4, fun a2 =>
  bp_ret (1 : Int32)), (3, fun a3 =>
  bp_ret (2 : Int32)), (1, fun a4 =>
  bp_ret (3 : Int32)), (2, fun a5 =>
  bp_ret (4 : Int32))])
set_option maxHeartbeats 4000000 in
set_option maxRecDepth 100000 in
theorem cnX0_byteOf {G : bp_GT} (bp0 : Nat) (xp1 : Int32) (xp2 : Int32) (bp3 : Nat) : bp_Con G iX0_byteOf (wsW_ iX0_byteOf.1 iX0_byteOf.2.1 iX0_byteOf.2.2.1 iX0_byteOf.2.2.2.1 iX0_byteOf.2.2.2.2.1) [.ref bp0, .int xp1, .int xp2, .ref bp3] (PX0_byteOf bp0 xp1 xp2 bp3) bp_eI := by
  refine bp_con_ofH [(0, .ref bp0), (1, .int xp1), (2, .int xp2), (3, .ref bp3)] (by decide) (Nat.le_of_ble_eq_true rfl) rfl ?_
  unfold PX0_byteOf
  refine bp_j_aload_n 3 dX0_byteOf_0 rfl ?_
  refine bp_j_iconst (v := 0) dX0_byteOf_1 (by decide) ?_
  refine bp_j_aload_n 0 dX0_byteOf_2 rfl ?_
  refine bp_j_iload_n 1 dX0_byteOf_3 rfl ?_
  refine bp_j_iload_n 2 dX0_byteOf_4 rfl ?_
  refine bp_j_ct_I [13, 17, 21, 25] (bp_ranV (t := 0) (n := 2) (As := [.int xp1, .int xp2]) (cnX1_byteOf (G := G) bp0 xp1 xp2) rfl (lw_V q872 q873 q874 q72 q875) ⟨rfl, by decide +kernel, by decide +kernel, by decide +kernel⟩ ⟨by decide, by decide⟩ (rest := [.int (0 : Int32), .ref bp3]) rfl rfl (Nat.le_of_ble_eq_true rfl) dX0_byteOf_5) (bp_HSc (bp_cat_of (k := 4) (pc := 5) (name := "java/lang/IndexOutOfBoundsException") [] (0, 10, 13, 21) [(0, 10, 17, 29), (0, 10, 21, 13), (0, 10, 25, 15)] rfl (fun z hz => nomatch hz) (by decide) (by decide) (by decide) q796 q841) (fun a2 => ?_) (bp_HSc (bp_cat_of (k := 3) (pc := 5) (name := "java/lang/IllegalStateException") [(0, 10, 13, 21)] (0, 10, 17, 29) [(0, 10, 21, 13), (0, 10, 25, 15)] rfl (List.forall_mem_cons.mpr ⟨⟨by decide, "java/lang/IndexOutOfBoundsException", q796, by decide⟩, fun _ h => nomatch h⟩) (by decide) (by decide) (by decide) q871 q882) (fun a3 => ?_) (bp_HSc (bp_cat_of (k := 1) (pc := 5) (name := "java/lang/IllegalArgumentException") [(0, 10, 13, 21), (0, 10, 17, 29)] (0, 10, 21, 13) [(0, 10, 25, 15)] rfl (List.forall_mem_cons.mpr ⟨⟨by decide, "java/lang/IndexOutOfBoundsException", q796, by decide⟩, List.forall_mem_cons.mpr ⟨⟨by decide, "java/lang/IllegalStateException", q871, by decide⟩, fun _ h => nomatch h⟩⟩) (by decide) (by decide) (by decide) q738 q752) (fun a4 => ?_) (bp_HSc (bp_cat_of (k := 2) (pc := 5) (name := "java/lang/UnsupportedOperationException") [(0, 10, 13, 21), (0, 10, 17, 29), (0, 10, 21, 13)] (0, 10, 25, 15) [] rfl (List.forall_mem_cons.mpr ⟨⟨by decide, "java/lang/IndexOutOfBoundsException", q796, by decide⟩, List.forall_mem_cons.mpr ⟨⟨by decide, "java/lang/IllegalStateException", q871, by decide⟩, List.forall_mem_cons.mpr ⟨⟨by decide, "java/lang/IllegalArgumentException", q738, by decide⟩, fun _ h => nomatch h⟩⟩⟩) (by decide) (by decide) (by decide) q739 q778) (fun a5 => ?_) bp_HSn)))) (fun x1 => ?_)
  · refine bp_j_astore (lv' := [(4, .ref a2), (0, .ref bp0), (1, .int xp1), (2, .int xp2), (3, .ref bp3)]) dX0_byteOf_13 (by decide) rfl ?_
    refine bp_j_iconst (v := 1) dX0_byteOf_15 (by decide) ?_
    exact bp_j_iret rfl dX0_byteOf_16
  · refine bp_j_astore (lv' := [(4, .ref a3), (0, .ref bp0), (1, .int xp1), (2, .int xp2), (3, .ref bp3)]) dX0_byteOf_17 (by decide) rfl ?_
    refine bp_j_iconst (v := 2) dX0_byteOf_19 (by decide) ?_
    exact bp_j_iret rfl dX0_byteOf_20
  · refine bp_j_astore (lv' := [(4, .ref a4), (0, .ref bp0), (1, .int xp1), (2, .int xp2), (3, .ref bp3)]) dX0_byteOf_21 (by decide) rfl ?_
    refine bp_j_iconst (v := 3) dX0_byteOf_23 (by decide) ?_
    exact bp_j_iret rfl dX0_byteOf_24
  · refine bp_j_astore (lv' := [(4, .ref a5), (0, .ref bp0), (1, .int xp1), (2, .int xp2), (3, .ref bp3)]) dX0_byteOf_25 (by decide) rfl ?_
    refine bp_j_iconst (v := 4) dX0_byteOf_27 (by decide) ?_
    exact bp_j_iret rfl dX0_byteOf_28
  refine bp_j_i2l dX0_byteOf_8 ?_
  refine bp_j_lastore dX0_byteOf_9 ?_
  refine bp_j_goto (tgt := 29) dX0_byteOf_10 (by decide) ?_
  refine bp_j_iconst (v := 0) dX0_byteOf_29 (by decide) ?_
  exact bp_j_iret rfl dX0_byteOf_30
