/-! Rows and regions written -/
set_option maxRecDepth 100000
theorem bN_n {n : Nat} (h : n < 256) : bN (nI n) = n := by
  have e : (nI n).toBitVec.toNat = n := pk_tn (by omega)
  unfold bN
  rw [e]; omega
theorem bN_c {n : Nat} (h : n < 256) : bN (cb n) = n := by
  have h1 := cb_k h
  rw [bN_and, nI_eq (by have := bN_lt (cb n); omega) (by omega)] at h1
  exact h1
theorem and1_v (y : Int32) : y &&& (1 : Int32) = nI (bt y 0).toNat := by
  cases h : bt y 0 with
  | true => exact (b_and1 y).mpr h
  | false =>
    apply b_ext
    intro i hi
    rw [b_and, b_1 i hi, show nI (Bool.toNat false) = 0 from rfl, b_0]
    by_cases e : i = 0
    · subst e; rw [h]; rfl
    · simp [e]
/-- bits of row y from a column on, n of them, as a number -/
def rB (t : bT) (g y o : Nat) : Nat → Nat
  | 0 => 0
  | i + 1 => 2 * rB t g y o i + if o + i < ti t (27, g, 0) then ((ti t (29, g, y)).testBit (o + i)).toNat else 0
theorem rB_lt (t : bT) (g y o : Nat) : ∀ i, rB t g y o i < 2 ^ i
  | 0 => by show 0 < 1; omega
  | i + 1 => by
    have := rB_lt t g y o i
    have h2 : (if o + i < ti t (27, g, 0) then ((ti t (29, g, y)).testBit (o + i)).toNat else 0) ≤ 1 := by
      split
      · exact Bool.toNat_le _
      · omega
    show 2 * rB t g y o i + _ < 2 ^ (i + 1)
    rw [Nat.pow_succ]; omega
theorem rB_or {a b : Nat} (hb : b ≤ 1) : a * 2 ||| b = 2 * a + b := by
  have := Nat.two_pow_add_eq_or_of_lt (i := 1) (b := b) (by omega) a
  rw [Nat.mul_comm a 2]
  exact this.symm
def lRow (t : bT) (g y : Nat) : List Nat := cat (fun j => [rB t g y (8 * j) 8]) ((ti t (27, g, 0) + 7) / 8)
theorem lRow_len (t : bT) (g y : Nat) : (lRow t g y).length = (ti t (27, g, 0) + 7) / 8 := by
  unfold lRow
  rw [cat_len (c := 1) (fun _ => rfl), Nat.mul_one]
/-- an open region -/
def lO (t : bT) (g : Nat) : Prop := tk t g = 3 ∧ ti t (27, g, 5) = 1
theorem lO_d (t : bT) (g : Nat) : lO t g ∨ ¬ lO t g := Classical.em _
section PT
variable {α β : Type} {C : Nat} {sa : Nat → Nat} {s s0 : bv_S} {t t0 : bT} {Q : (bF ⊕ β) → bT → Prop} {R : β → bv_S → Prop}
theorem tE_putRow {g y : Nat} {K : Unit → bp_M β} (hg : g < 30) (hw : ti t0 (27, g, 0) ≤ 16) (hy : y < 16) (hF : wF t0 t) (hb : ti t (1, 0, 0) + 2 ≤ 6000) (k : ∀ t1, wE t (lRow t0 g y) t1 → tE C sa (K ()) t1 Q) : tE C sa (bp_bind (bp_is 0 (C + 0) (PX1_putRow (C + 0) (C + bv_sg g) (nI y))) K) t Q := by
  refine tE_c0 ?_
  unfold PX1_putRow
  refine tE_loop (fun (k : Int32 → bp_M Unit) (a : Int32) => k a) 0 rfl (fun a t1 => ∃ j, j ≤ (ti t0 (27, g, 0) + 7) / 8 ∧ a = nI (8 * j) ∧ wE t (cat (fun j => [rB t0 g y (8 * j) 8]) j) t1) (fun a _ => 40 - a.toNatClampNeg) (fun a s1 h => by unfold bv_fu; omega) (fun K2 a t1 h ih => ?_) ⟨0, by omega, rfl, wE.nil⟩
  obtain ⟨j, j1, rfl, j2⟩ := h
  have hF1 := hF.tr j2.1
  unfold BX1_putRow_2
  refine tE_cgV (by omega) (fun s0 Q' q => t_wide (by omega) q) ?_
  rw [hF1.v (by decide) (by decide)]
  by_cases hj : ti t0 (27, g, 0) ≤ 8 * j
  · refine tE_ifT (nI_le hj (by omega)) (tE_ret ?_)
    have : j = (ti t0 (27, g, 0) + 7) / 8 := by omega
    subst this
    exact k t1 j2
  · refine tE_ifF (nI_ge (by omega) (by omega)) (tE_jn ?_)
    have l2 := j2.2.1
    rw [cat_len (c := 1) (fun _ => rfl)] at l2
    refine tE_loop (fun (k : Int32 → Int32 → bp_M Unit) (a : Int32 × Int32) => k a.1 a.2) (0, nI (8 * j)) rfl (fun a t2 => t2 = t1 ∧ ∃ i, i ≤ 8 ∧ a = (nI (rB t0 g y (8 * j) i), nI (8 * j + i))) (fun a _ => 60 - a.2.toNatClampNeg) (fun a s1 h => by unfold bv_fu; omega) (fun K3 a t2 h ih2 => ?_) ⟨rfl, 0, by omega, rfl⟩
    obtain ⟨rfl, i, i1, rfl⟩ := h
    unfold BX1_putRow_16
    have p8 := rB_lt t0 g y (8 * j) i
    by_cases hi : 8 ≤ i
    · have : i = 8 := by omega
      subst this
      refine tE_ifT (by rw [show (8 : Int32) = nI 8 from rfl, nI_add]; exact nI_le (by omega) (by omega)) ?_
      refine tE_put (by omega) fun t3 e3 => ?_
      rw [bN_n (by omega)] at e3
      (repeat (first | with_reducible refine tE_letI ?_ | with_reducible refine tE_letL ?_ | with_reducible refine tE_nnS ?_ | with_reducible refine uis_0 ?_ | with_reducible refine uis_1 ?_ | with_reducible refine uis_8 ?_ | with_reducible refine uis_9 ?_ | with_reducible refine uis_sg (by omega) ?_ | with_reducible refine uis_hp (by omega) ?_ | with_reducible refine tE_nz (by decide) ?_ | with_reducible refine uo_0_1 ?_ | with_reducible refine uo_0_2 ?_ | with_reducible refine uo_0_3 ?_ | with_reducible refine uo_0_4 ?_ | with_reducible refine uo_0_6 ?_ | with_reducible refine uo_0_8 ?_ | with_reducible refine uo_0_10 ?_ | with_reducible refine uo_0_11 ?_ | with_reducible refine uo_0_12 ?_ | with_reducible refine uo_9_0 ?_ | with_reducible refine uo_9_7 ?_ | with_reducible refine uo_sf (by omega) ?_ | with_reducible refine uo_sv (by omega) ?_ | with_reducible refine uo_sy (by omega) ?_ | with_reducible refine uo_sw (by omega) ?_ | with_reducible refine uo_hr (by omega) ?_ | with_reducible refine uo_hs (by omega) ?_ | with_reducible refine ug_o ?_ | with_reducible refine ug_wn ?_ | with_reducible refine ug_cn ?_ | with_reducible refine ug_gn ?_ | with_reducible refine ug_ir ?_ | with_reducible refine ug_fa ?_ | with_reducible refine ug_cs ?_ | with_reducible refine ug_n ?_ | with_reducible refine ug_fn ?_ | with_reducible refine ug_li ?_ | with_reducible refine ug_ra ?_ | with_reducible refine ug_la ?_ | with_reducible refine ug_op ?_ | with_reducible refine ug_sm ?_ | with_reducible refine ug_gl ?_ | with_reducible refine ug_sp (by omega) ?_ | with_reducible refine ug_sn (by omega) ?_ | with_reducible refine ug_sr (by omega) ?_ | with_reducible refine ug_sl (by omega) ?_ | with_reducible refine ug_sb (by omega) ?_ | with_reducible refine ug_sa (by omega) ?_ | with_reducible refine ug_sg (by omega) ?_ | with_reducible refine ug_hm (by omega) ?_ | with_reducible refine ug_hw (by omega) ?_ | with_reducible refine ug_hh (by omega) ?_ | with_reducible refine ug_ho (by omega) ?_ | with_reducible refine ug_ht (by omega) ?_ | with_reducible refine ug_sL (by omega) ?_ | with_reducible refine un_sh ?_ | with_reducible refine ut_alenS ?_ | with_reducible refine ut_alenK ?_))
      rw [show (8 : Int32) = nI 8 from rfl, nI_add]
      exact ih _ _ ⟨j + 1, by omega, by rw [Nat.mul_succ], j2.app e3⟩ (by rw [nI_clamp (by omega), nI_clamp (by omega)]; omega)
    · refine tE_ifF (by rw [show (8 : Int32) = nI 8 from rfl, nI_add]; exact nI_ge (by omega) (by omega)) ?_
      refine tE_cgV (by omega) (fun s0 Q' q => t_wide (by omega) q) ?_
      rw [hF1.v (by decide) (by decide)]
      have p7 : 2 ^ i ≤ 128 := Nat.pow_le_pow_right (by omega) (show i ≤ 7 by omega)
      have fin := ih2 (nI (rB t0 g y (8 * j) (i + 1)), nI (8 * j + (i + 1))) _ ⟨rfl, i + 1, by omega, rfl⟩ (by
        show 60 - (nI (8 * j + (i + 1))).toNatClampNeg < 60 - (nI (8 * j + i)).toNatClampNeg
        rw [nI_clamp (by omega), nI_clamp (by omega)]; omega)
      have em : rB t0 g y (8 * j) (i + 1) = 2 * rB t0 g y (8 * j) i + if 8 * j + i < ti t0 (27, g, 0) then ((ti t0 (29, g, y)).testBit (8 * j + i)).toNat else 0 := rfl
      rw [em] at fin
      have sh : nI (rB t0 g y (8 * j) i) <<< ((1 : Int32) &&& 31) = nI (rB t0 g y (8 * j) i * 2) := nI_shl (k := 1) (by omega) (by omega)
      by_cases hc : ti t0 (27, g, 0) ≤ 8 * j + i
      · rw [if_neg (by omega), Nat.add_zero] at fin
        refine tE_jn (tE_ifT (nI_le hc (by omega)) ?_)
        (repeat (first | with_reducible refine tE_letI ?_ | with_reducible refine tE_letL ?_ | with_reducible refine tE_nnS ?_ | with_reducible refine uis_0 ?_ | with_reducible refine uis_1 ?_ | with_reducible refine uis_8 ?_ | with_reducible refine uis_9 ?_ | with_reducible refine uis_sg (by omega) ?_ | with_reducible refine uis_hp (by omega) ?_ | with_reducible refine tE_nz (by decide) ?_ | with_reducible refine uo_0_1 ?_ | with_reducible refine uo_0_2 ?_ | with_reducible refine uo_0_3 ?_ | with_reducible refine uo_0_4 ?_ | with_reducible refine uo_0_6 ?_ | with_reducible refine uo_0_8 ?_ | with_reducible refine uo_0_10 ?_ | with_reducible refine uo_0_11 ?_ | with_reducible refine uo_0_12 ?_ | with_reducible refine uo_9_0 ?_ | with_reducible refine uo_9_7 ?_ | with_reducible refine uo_sf (by omega) ?_ | with_reducible refine uo_sv (by omega) ?_ | with_reducible refine uo_sy (by omega) ?_ | with_reducible refine uo_sw (by omega) ?_ | with_reducible refine uo_hr (by omega) ?_ | with_reducible refine uo_hs (by omega) ?_ | with_reducible refine ug_o ?_ | with_reducible refine ug_wn ?_ | with_reducible refine ug_cn ?_ | with_reducible refine ug_gn ?_ | with_reducible refine ug_ir ?_ | with_reducible refine ug_fa ?_ | with_reducible refine ug_cs ?_ | with_reducible refine ug_n ?_ | with_reducible refine ug_fn ?_ | with_reducible refine ug_li ?_ | with_reducible refine ug_ra ?_ | with_reducible refine ug_la ?_ | with_reducible refine ug_op ?_ | with_reducible refine ug_sm ?_ | with_reducible refine ug_gl ?_ | with_reducible refine ug_sp (by omega) ?_ | with_reducible refine ug_sn (by omega) ?_ | with_reducible refine ug_sr (by omega) ?_ | with_reducible refine ug_sl (by omega) ?_ | with_reducible refine ug_sb (by omega) ?_ | with_reducible refine ug_sa (by omega) ?_ | with_reducible refine ug_sg (by omega) ?_ | with_reducible refine ug_hm (by omega) ?_ | with_reducible refine ug_hw (by omega) ?_ | with_reducible refine ug_hh (by omega) ?_ | with_reducible refine ug_ho (by omega) ?_ | with_reducible refine ug_ht (by omega) ?_ | with_reducible refine ug_sL (by omega) ?_ | with_reducible refine un_sh ?_ | with_reducible refine ut_alenS ?_ | with_reducible refine ut_alenK ?_))
        rw [sh, show (0 : Int32) = nI 0 from rfl, nI_or, rB_or (by omega), nI_1]
        exact fin
      · rw [if_pos (by omega)] at fin
        refine tE_jn (tE_ifF (nI_ge (by omega) (by omega)) ?_)
        (repeat (first | with_reducible refine tE_letI ?_ | with_reducible refine tE_letL ?_ | with_reducible refine tE_nnS ?_ | with_reducible refine uis_0 ?_ | with_reducible refine uis_1 ?_ | with_reducible refine uis_8 ?_ | with_reducible refine uis_9 ?_ | with_reducible refine uis_sg (by omega) ?_ | with_reducible refine uis_hp (by omega) ?_ | with_reducible refine tE_nz (by decide) ?_ | with_reducible refine uo_0_1 ?_ | with_reducible refine uo_0_2 ?_ | with_reducible refine uo_0_3 ?_ | with_reducible refine uo_0_4 ?_ | with_reducible refine uo_0_6 ?_ | with_reducible refine uo_0_8 ?_ | with_reducible refine uo_0_10 ?_ | with_reducible refine uo_0_11 ?_ | with_reducible refine uo_0_12 ?_ | with_reducible refine uo_9_0 ?_ | with_reducible refine uo_9_7 ?_ | with_reducible refine uo_sf (by omega) ?_ | with_reducible refine uo_sv (by omega) ?_ | with_reducible refine uo_sy (by omega) ?_ | with_reducible refine uo_sw (by omega) ?_ | with_reducible refine uo_hr (by omega) ?_ | with_reducible refine uo_hs (by omega) ?_ | with_reducible refine ug_o ?_ | with_reducible refine ug_wn ?_ | with_reducible refine ug_cn ?_ | with_reducible refine ug_gn ?_ | with_reducible refine ug_ir ?_ | with_reducible refine ug_fa ?_ | with_reducible refine ug_cs ?_ | with_reducible refine ug_n ?_ | with_reducible refine ug_fn ?_ | with_reducible refine ug_li ?_ | with_reducible refine ug_ra ?_ | with_reducible refine ug_la ?_ | with_reducible refine ug_op ?_ | with_reducible refine ug_sm ?_ | with_reducible refine ug_gl ?_ | with_reducible refine ug_sp (by omega) ?_ | with_reducible refine ug_sn (by omega) ?_ | with_reducible refine ug_sr (by omega) ?_ | with_reducible refine ug_sl (by omega) ?_ | with_reducible refine ug_sb (by omega) ?_ | with_reducible refine ug_sa (by omega) ?_ | with_reducible refine ug_sg (by omega) ?_ | with_reducible refine ug_hm (by omega) ?_ | with_reducible refine ug_hw (by omega) ?_ | with_reducible refine ug_hh (by omega) ?_ | with_reducible refine ug_ho (by omega) ?_ | with_reducible refine ug_ht (by omega) ?_ | with_reducible refine ug_sL (by omega) ?_ | with_reducible refine un_sh ?_ | with_reducible refine ut_alenS ?_ | with_reducible refine ut_alenK ?_))
        refine ug_sw y (by omega) rfl hy ?_
        rw [hF1.v (by decide) (by decide)]
        (repeat (first | with_reducible refine tE_letI ?_ | with_reducible refine tE_letL ?_ | with_reducible refine tE_nnS ?_ | with_reducible refine uis_0 ?_ | with_reducible refine uis_1 ?_ | with_reducible refine uis_8 ?_ | with_reducible refine uis_9 ?_ | with_reducible refine uis_sg (by omega) ?_ | with_reducible refine uis_hp (by omega) ?_ | with_reducible refine tE_nz (by decide) ?_ | with_reducible refine uo_0_1 ?_ | with_reducible refine uo_0_2 ?_ | with_reducible refine uo_0_3 ?_ | with_reducible refine uo_0_4 ?_ | with_reducible refine uo_0_6 ?_ | with_reducible refine uo_0_8 ?_ | with_reducible refine uo_0_10 ?_ | with_reducible refine uo_0_11 ?_ | with_reducible refine uo_0_12 ?_ | with_reducible refine uo_9_0 ?_ | with_reducible refine uo_9_7 ?_ | with_reducible refine uo_sf (by omega) ?_ | with_reducible refine uo_sv (by omega) ?_ | with_reducible refine uo_sy (by omega) ?_ | with_reducible refine uo_sw (by omega) ?_ | with_reducible refine uo_hr (by omega) ?_ | with_reducible refine uo_hs (by omega) ?_ | with_reducible refine ug_o ?_ | with_reducible refine ug_wn ?_ | with_reducible refine ug_cn ?_ | with_reducible refine ug_gn ?_ | with_reducible refine ug_ir ?_ | with_reducible refine ug_fa ?_ | with_reducible refine ug_cs ?_ | with_reducible refine ug_n ?_ | with_reducible refine ug_fn ?_ | with_reducible refine ug_li ?_ | with_reducible refine ug_ra ?_ | with_reducible refine ug_la ?_ | with_reducible refine ug_op ?_ | with_reducible refine ug_sm ?_ | with_reducible refine ug_gl ?_ | with_reducible refine ug_sp (by omega) ?_ | with_reducible refine ug_sn (by omega) ?_ | with_reducible refine ug_sr (by omega) ?_ | with_reducible refine ug_sl (by omega) ?_ | with_reducible refine ug_sb (by omega) ?_ | with_reducible refine ug_sa (by omega) ?_ | with_reducible refine ug_sg (by omega) ?_ | with_reducible refine ug_hm (by omega) ?_ | with_reducible refine ug_hw (by omega) ?_ | with_reducible refine ug_hh (by omega) ?_ | with_reducible refine ug_ho (by omega) ?_ | with_reducible refine ug_ht (by omega) ?_ | with_reducible refine ug_sL (by omega) ?_ | with_reducible refine un_sh ?_ | with_reducible refine ut_alenS ?_ | with_reducible refine ut_alenK ?_))
        rw [sh, and1_v, b_sshr _ (by omega) _ (by omega), if_pos (by omega), Nat.add_zero, bt_nI (by omega), nI_or, rB_or (Bool.toNat_le _), nI_1]
        exact fin
theorem sE_rowR {g y n : Nat} {K : bp_M β} (hg : g < 30) (hw : ti t0 (27, g, 0) ≤ 16) (hy : y < 16) (hn : bv_i s 1471 13 = nI n) (hb : n + 2 ≤ 5000) (hs : bv_i s 1480 (16 * g + y) = nI (ti t0 (29, g, y))) (k : ∀ s1, uE n s (lRow t0 g y) s1 → sE C sa K s1 R) : sE C sa (bp_loop (fun _ => bp_no) (fun (k20 : Int32 → bp_M β) => fun x19 =>
  bp_if (nI (ti t0 (27, g, 0)) ≤ x19) (
  K) (
  bp_jn (fun (k22 : Int32 → bp_M β) =>
  bp_loop (fun _ _ => bp_no) (fun (k26 : Int32 → Int32 → bp_M β) => fun x24 x25 =>
  bp_if ((x19 + (8 : Int32)) ≤ x25) (
  k22 x24) (
  bp_jn (fun (k28 : Int32 → bp_M β) =>
  bp_if (nI (ti t0 (27, g, 0)) ≤ x25) (
  k28 (0 : Int32)) (
  bp_getN 4 11 (C + 1471) fun a31 =>
  bp_aldI 20 a31 (((16 : Int32) * nI g) + nI y) fun x32 =>
  k28 ((x32 >>> (x25 &&& 31)) &&& (1 : Int32)))) (fun (x27 : Int32) =>
  bp_letI (((2 : Int32) * x24) + x27) fun x29 =>
  bp_letI (x25 + (1 : Int32)) fun x30 =>
  k26 x29 x30))) (fun k => k (0 : Int32) x19)) (fun (x21 : Int32) =>
  bp_bind (bp_is 4 (C + 1471) (PX6_put (C + 1471) x21)) fun _ =>
  bp_letI (x19 + (8 : Int32)) fun x23 =>
  k20 x23))) (fun k => k (0 : Int32))) s R := by
  refine sE_loop (fun (k : Int32 → bp_M β) (a : Int32) => k a) 0 rfl (fun a s1 => ∃ j, j ≤ (ti t0 (27, g, 0) + 7) / 8 ∧ a = nI (8 * j) ∧ uE n s (cat (fun j => [rB t0 g y (8 * j) 8]) j) s1) (fun a _ => 40 - a.toNatClampNeg) (fun a s1 h => by unfold bv_fu; omega) (fun K2 a s1 h ih => ?_) ⟨0, by omega, rfl, uE.nil hn⟩
  obtain ⟨j, j1, rfl, j2⟩ := h
  by_cases hj : ti t0 (27, g, 0) ≤ 8 * j
  · refine sE_ifT (nI_le hj (by omega)) ?_
    have : j = (ti t0 (27, g, 0) + 7) / 8 := by omega
    subst this
    exact k s1 j2
  · refine sE_ifF (nI_ge (by omega) (by omega)) (sE_jn ?_)
    have l2 := j2.1
    rw [cat_len (c := 1) (fun _ => rfl)] at l2
    refine sE_loop (fun (k : Int32 → Int32 → bp_M β) (a : Int32 × Int32) => k a.1 a.2) (0, nI (8 * j)) rfl (fun a s2 => s2 = s1 ∧ ∃ i, i ≤ 8 ∧ a = (nI (rB t0 g y (8 * j) i), nI (8 * j + i))) (fun a _ => 60 - a.2.toNatClampNeg) (fun a s1 h => by unfold bv_fu; omega) (fun K3 a s2 h ih2 => ?_) ⟨rfl, 0, by omega, rfl⟩
    obtain ⟨rfl, i, i1, rfl⟩ := h
    have p8 := rB_lt t0 g y (8 * j) i
    by_cases hi : 8 ≤ i
    · have : i = 8 := by omega
      subst this
      refine sE_ifT (by rw [show (8 : Int32) = nI 8 from rfl, nI_add]; exact nI_le (by omega) (by omega)) ?_
      refine sE_put1 l2 (by omega) fun t3 e3 => ?_
      rw [bN_n (by omega)] at e3
      (repeat (first | with_reducible refine sE_letI ?_ | with_reducible refine sE_letL ?_ | with_reducible refine sE_nnS ?_ | with_reducible refine sE_is ?_ | with_reducible refine sE_nz (by decide) ?_ | with_reducible refine eg_0 ?_ | with_reducible refine eg_1 ?_ | with_reducible refine eg_2 ?_ | with_reducible refine eg_13 ?_ | with_reducible refine eg_15 ?_ | with_reducible refine eg_17 ?_ | with_reducible refine eg_19 ?_ | with_reducible refine eg_20 ?_ | with_reducible refine eg_21 ?_ | with_reducible refine eg_22 ?_ | with_reducible refine eg_23 ?_ | with_reducible refine eg_24 ?_ | with_reducible refine eg_25 ?_ | with_reducible refine eg_39 ?_ | with_reducible refine eg_47 ?_ | with_reducible refine eg_48 ?_ | with_reducible refine eg_49 ?_ | with_reducible refine ep_0 ?_ | with_reducible refine ep_1 ?_ | with_reducible refine ep_2 ?_ | with_reducible refine ep_13 ?_ | with_reducible refine ep_15 ?_ | with_reducible refine ep_17 ?_ | with_reducible refine ep_19 ?_ | with_reducible refine ep_20 ?_ | with_reducible refine ep_21 ?_ | with_reducible refine ep_22 ?_ | with_reducible refine ep_23 ?_ | with_reducible refine ep_24 ?_ | with_reducible refine ep_25 ?_ | with_reducible refine ep_39 ?_ | with_reducible refine ep_48 ?_ | with_reducible refine ep_49 ?_ | with_reducible refine eo_3 ?_ | with_reducible refine eo_4 ?_ | with_reducible refine eo_5 ?_ | with_reducible refine eo_6 ?_ | with_reducible refine eo_7 ?_ | with_reducible refine eo_8 ?_ | with_reducible refine eo_9 ?_ | with_reducible refine eo_10 ?_ | with_reducible refine eo_11 ?_ | with_reducible refine eo_12 ?_ | with_reducible refine eo_14 ?_ | with_reducible refine eo_16 ?_ | with_reducible refine eo_18 ?_ | with_reducible refine eo_26 ?_ | with_reducible refine eo_27 ?_ | with_reducible refine eo_28 ?_ | with_reducible refine eo_29 ?_ | with_reducible refine eo_30 ?_ | with_reducible refine eo_31 ?_ | with_reducible refine eo_32 ?_ | with_reducible refine eo_33 ?_ | with_reducible refine eo_34 ?_ | with_reducible refine eo_35 ?_ | with_reducible refine eo_36 ?_ | with_reducible refine eo_37 ?_ | with_reducible refine eo_38 ?_ | with_reducible refine eo_40 ?_ | with_reducible refine eo_41 ?_ | with_reducible refine eo_42 ?_ | with_reducible refine eo_43 ?_ | with_reducible refine eo_44 ?_ | with_reducible refine eo_45 ?_ | with_reducible refine eo_46 ?_))
      rw [show (8 : Int32) = nI 8 from rfl, nI_add]
      refine ih _ _ ⟨j + 1, by omega, by rw [Nat.mul_succ], uE.app j2 ?_⟩ (by rw [nI_clamp (by omega), nI_clamp (by omega)]; omega)
      rw [cat_len (c := 1) (fun _ => rfl)]
      exact e3
    · refine sE_ifF (by rw [show (8 : Int32) = nI 8 from rfl, nI_add]; exact nI_ge (by omega) (by omega)) ?_
      have p7 : 2 ^ i ≤ 128 := Nat.pow_le_pow_right (by omega) (show i ≤ 7 by omega)
      have fin := ih2 (nI (rB t0 g y (8 * j) (i + 1)), nI (8 * j + (i + 1))) _ ⟨rfl, i + 1, by omega, rfl⟩ (by
        show 60 - (nI (8 * j + (i + 1))).toNatClampNeg < 60 - (nI (8 * j + i)).toNatClampNeg
        rw [nI_clamp (by omega), nI_clamp (by omega)]; omega)
      have em : rB t0 g y (8 * j) (i + 1) = 2 * rB t0 g y (8 * j) i + if 8 * j + i < ti t0 (27, g, 0) then ((ti t0 (29, g, y)).testBit (8 * j + i)).toNat else 0 := rfl
      rw [em] at fin
      by_cases hc : ti t0 (27, g, 0) ≤ 8 * j + i
      · rw [if_neg (by omega), Nat.add_zero] at fin
        refine sE_jn (sE_ifT (nI_le hc (by omega)) ?_)
        (repeat (first | with_reducible refine sE_letI ?_ | with_reducible refine sE_letL ?_ | with_reducible refine sE_nnS ?_ | with_reducible refine sE_is ?_ | with_reducible refine sE_nz (by decide) ?_ | with_reducible refine eg_0 ?_ | with_reducible refine eg_1 ?_ | with_reducible refine eg_2 ?_ | with_reducible refine eg_13 ?_ | with_reducible refine eg_15 ?_ | with_reducible refine eg_17 ?_ | with_reducible refine eg_19 ?_ | with_reducible refine eg_20 ?_ | with_reducible refine eg_21 ?_ | with_reducible refine eg_22 ?_ | with_reducible refine eg_23 ?_ | with_reducible refine eg_24 ?_ | with_reducible refine eg_25 ?_ | with_reducible refine eg_39 ?_ | with_reducible refine eg_47 ?_ | with_reducible refine eg_48 ?_ | with_reducible refine eg_49 ?_ | with_reducible refine ep_0 ?_ | with_reducible refine ep_1 ?_ | with_reducible refine ep_2 ?_ | with_reducible refine ep_13 ?_ | with_reducible refine ep_15 ?_ | with_reducible refine ep_17 ?_ | with_reducible refine ep_19 ?_ | with_reducible refine ep_20 ?_ | with_reducible refine ep_21 ?_ | with_reducible refine ep_22 ?_ | with_reducible refine ep_23 ?_ | with_reducible refine ep_24 ?_ | with_reducible refine ep_25 ?_ | with_reducible refine ep_39 ?_ | with_reducible refine ep_48 ?_ | with_reducible refine ep_49 ?_ | with_reducible refine eo_3 ?_ | with_reducible refine eo_4 ?_ | with_reducible refine eo_5 ?_ | with_reducible refine eo_6 ?_ | with_reducible refine eo_7 ?_ | with_reducible refine eo_8 ?_ | with_reducible refine eo_9 ?_ | with_reducible refine eo_10 ?_ | with_reducible refine eo_11 ?_ | with_reducible refine eo_12 ?_ | with_reducible refine eo_14 ?_ | with_reducible refine eo_16 ?_ | with_reducible refine eo_18 ?_ | with_reducible refine eo_26 ?_ | with_reducible refine eo_27 ?_ | with_reducible refine eo_28 ?_ | with_reducible refine eo_29 ?_ | with_reducible refine eo_30 ?_ | with_reducible refine eo_31 ?_ | with_reducible refine eo_32 ?_ | with_reducible refine eo_33 ?_ | with_reducible refine eo_34 ?_ | with_reducible refine eo_35 ?_ | with_reducible refine eo_36 ?_ | with_reducible refine eo_37 ?_ | with_reducible refine eo_38 ?_ | with_reducible refine eo_40 ?_ | with_reducible refine eo_41 ?_ | with_reducible refine eo_42 ?_ | with_reducible refine eo_43 ?_ | with_reducible refine eo_44 ?_ | with_reducible refine eo_45 ?_ | with_reducible refine eo_46 ?_))
        rw [show (0 : Int32) = nI 0 from rfl, show (2 : Int32) = nI 2 from rfl, pk_mul, nI_add, nI_1]
        exact fin
      · rw [if_pos (by omega)] at fin
        refine sE_jn (sE_ifF (nI_ge (by omega) (by omega)) ?_)
        (repeat (first | with_reducible refine sE_letI ?_ | with_reducible refine sE_letL ?_ | with_reducible refine sE_nnS ?_ | with_reducible refine sE_is ?_ | with_reducible refine sE_nz (by decide) ?_ | with_reducible refine eg_0 ?_ | with_reducible refine eg_1 ?_ | with_reducible refine eg_2 ?_ | with_reducible refine eg_13 ?_ | with_reducible refine eg_15 ?_ | with_reducible refine eg_17 ?_ | with_reducible refine eg_19 ?_ | with_reducible refine eg_20 ?_ | with_reducible refine eg_21 ?_ | with_reducible refine eg_22 ?_ | with_reducible refine eg_23 ?_ | with_reducible refine eg_24 ?_ | with_reducible refine eg_25 ?_ | with_reducible refine eg_39 ?_ | with_reducible refine eg_47 ?_ | with_reducible refine eg_48 ?_ | with_reducible refine eg_49 ?_ | with_reducible refine ep_0 ?_ | with_reducible refine ep_1 ?_ | with_reducible refine ep_2 ?_ | with_reducible refine ep_13 ?_ | with_reducible refine ep_15 ?_ | with_reducible refine ep_17 ?_ | with_reducible refine ep_19 ?_ | with_reducible refine ep_20 ?_ | with_reducible refine ep_21 ?_ | with_reducible refine ep_22 ?_ | with_reducible refine ep_23 ?_ | with_reducible refine ep_24 ?_ | with_reducible refine ep_25 ?_ | with_reducible refine ep_39 ?_ | with_reducible refine ep_48 ?_ | with_reducible refine ep_49 ?_ | with_reducible refine eo_3 ?_ | with_reducible refine eo_4 ?_ | with_reducible refine eo_5 ?_ | with_reducible refine eo_6 ?_ | with_reducible refine eo_7 ?_ | with_reducible refine eo_8 ?_ | with_reducible refine eo_9 ?_ | with_reducible refine eo_10 ?_ | with_reducible refine eo_11 ?_ | with_reducible refine eo_12 ?_ | with_reducible refine eo_14 ?_ | with_reducible refine eo_16 ?_ | with_reducible refine eo_18 ?_ | with_reducible refine eo_26 ?_ | with_reducible refine eo_27 ?_ | with_reducible refine eo_28 ?_ | with_reducible refine eo_29 ?_ | with_reducible refine eo_30 ?_ | with_reducible refine eo_31 ?_ | with_reducible refine eo_32 ?_ | with_reducible refine eo_33 ?_ | with_reducible refine eo_34 ?_ | with_reducible refine eo_35 ?_ | with_reducible refine eo_36 ?_ | with_reducible refine eo_37 ?_ | with_reducible refine eo_38 ?_ | with_reducible refine eo_40 ?_ | with_reducible refine eo_41 ?_ | with_reducible refine eo_42 ?_ | with_reducible refine eo_43 ?_ | with_reducible refine eo_44 ?_ | with_reducible refine eo_45 ?_ | with_reducible refine eo_46 ?_))
        refine ea_1480 (16 * g + y) (by simp (disch := first | omega | (simp only [ne_eq, Prod.mk.injEq] <;> omega)) only [nI_lit, lN_lit, nI_add, nI_1, pk_mul, nI_l, lN_add, nI_leI, nI_ltI, nI_eq, lN_le2, lN_lt2, lN_eq2, bv_iIe, bv_iIn, ti_e, ti_n, ti_z, ti_t, ti_L, ti_k]) (by omega) ?_
        rw [j2.2.2.2 _ _ (by omega) (by omega), hs]
        (repeat (first | with_reducible refine sE_letI ?_ | with_reducible refine sE_letL ?_ | with_reducible refine sE_nnS ?_ | with_reducible refine sE_is ?_ | with_reducible refine sE_nz (by decide) ?_ | with_reducible refine eg_0 ?_ | with_reducible refine eg_1 ?_ | with_reducible refine eg_2 ?_ | with_reducible refine eg_13 ?_ | with_reducible refine eg_15 ?_ | with_reducible refine eg_17 ?_ | with_reducible refine eg_19 ?_ | with_reducible refine eg_20 ?_ | with_reducible refine eg_21 ?_ | with_reducible refine eg_22 ?_ | with_reducible refine eg_23 ?_ | with_reducible refine eg_24 ?_ | with_reducible refine eg_25 ?_ | with_reducible refine eg_39 ?_ | with_reducible refine eg_47 ?_ | with_reducible refine eg_48 ?_ | with_reducible refine eg_49 ?_ | with_reducible refine ep_0 ?_ | with_reducible refine ep_1 ?_ | with_reducible refine ep_2 ?_ | with_reducible refine ep_13 ?_ | with_reducible refine ep_15 ?_ | with_reducible refine ep_17 ?_ | with_reducible refine ep_19 ?_ | with_reducible refine ep_20 ?_ | with_reducible refine ep_21 ?_ | with_reducible refine ep_22 ?_ | with_reducible refine ep_23 ?_ | with_reducible refine ep_24 ?_ | with_reducible refine ep_25 ?_ | with_reducible refine ep_39 ?_ | with_reducible refine ep_48 ?_ | with_reducible refine ep_49 ?_ | with_reducible refine eo_3 ?_ | with_reducible refine eo_4 ?_ | with_reducible refine eo_5 ?_ | with_reducible refine eo_6 ?_ | with_reducible refine eo_7 ?_ | with_reducible refine eo_8 ?_ | with_reducible refine eo_9 ?_ | with_reducible refine eo_10 ?_ | with_reducible refine eo_11 ?_ | with_reducible refine eo_12 ?_ | with_reducible refine eo_14 ?_ | with_reducible refine eo_16 ?_ | with_reducible refine eo_18 ?_ | with_reducible refine eo_26 ?_ | with_reducible refine eo_27 ?_ | with_reducible refine eo_28 ?_ | with_reducible refine eo_29 ?_ | with_reducible refine eo_30 ?_ | with_reducible refine eo_31 ?_ | with_reducible refine eo_32 ?_ | with_reducible refine eo_33 ?_ | with_reducible refine eo_34 ?_ | with_reducible refine eo_35 ?_ | with_reducible refine eo_36 ?_ | with_reducible refine eo_37 ?_ | with_reducible refine eo_38 ?_ | with_reducible refine eo_40 ?_ | with_reducible refine eo_41 ?_ | with_reducible refine eo_42 ?_ | with_reducible refine eo_43 ?_ | with_reducible refine eo_44 ?_ | with_reducible refine eo_45 ?_ | with_reducible refine eo_46 ?_))
        rw [and1_v, b_sshr _ (by omega) _ (by omega), if_pos (by omega), Nat.add_zero, bt_nI (by omega), show (2 : Int32) = nI 2 from rfl, pk_mul, nI_add, nI_1]
        exact fin
end PT
