/-! Reading: what a segment refers to -/
set_option maxRecDepth 100000
/-- which segment that was found has a number -/
def fi (t : bT) (x : Int32) (m : Nat) : Option Nat := fd (fun k => ti t (20, 30 + k, 0)) x m
/-- the kept region among the first references -/
def kO (t : bT) (k : Nat) : Nat → Option Nat
  | 0 => none
  | i + 1 => match fi t (nI (ti t (26, 30 + k, i))) k with
    | some q => if tk t (30 + q) = 1 then some q else kO t k i
    | none => kO t k i
def kP (C : Nat) : Option Nat → Option Nat
  | some q => some (C + bv_sg (30 + q))
  | none => none
/-- who may refer to whom -/
def mRf (a b : Nat) : Prop := ((a = 0 ∨ a = 1 ∨ a = 2) ∧ (b = 0 ∨ b = 8)) ∨ (a = 2 ∧ b = 1)
def okR1 (t : bT) (k i q : Nat) : Prop := ti t (25, 30 + q, 0) = 0 ∧ (ti t (19, 30 + q, 0) = 0 ∨ ti t (19, 30 + q, 0) = ti t (19, 30 + k, 0)) ∧ mRf (tk t (30 + k)) (tk t (30 + q)) ∧ (tk t (30 + q) = 1 → kO t k i = none)
def okR (t : bT) (k i q : Nat) : Prop := okR1 t k i q ∧ ∀ j, j < i → ti t (26, 30 + k, j) ≠ ti t (26, 30 + k, i)
def refsOk (t : bT) (k : Nat) : Prop := (∀ i, i < ti t (21, 30 + k, 0) → ∃ q, q < k ∧ fi t (nI (ti t (26, 30 + k, i))) k = some q) ∧ ∀ i, i < ti t (21, 30 + k, 0) → ∀ q, fi t (nI (ti t (26, 30 + k, i))) k = some q → tk t (30 + q) = 1 → kO t k i = none
section RF
variable {α β : Type} {C : Nat} {sa : Nat → Nat} {s : bv_S} {t : bT} {Q : (bF ⊕ β) → bT → Prop} {R : β → bv_S → Prop}
theorem tE_find {x : Int32} {m : Nat} {K : Option Nat → bp_M β} (hm : m ≤ ti t (8, 0, 0)) (hf : ti t (8, 0, 0) ≤ 256) (k : tE C sa (K (kP C (fi t x m))) t Q) : tE C sa (bp_bind (bp_is 1 (C + 9) (PX2_find (C + 9) x (nI m))) K) t Q := by
  refine tE_c9 ?_
  unfold PX2_find
  refine tE_jn ?_
  refine tE_loop (fun (k : Int32 → bp_M (Option Nat)) (a : Int32) => k a) 0 rfl (fun a t1 => t1 = t ∧ ∃ i, i ≤ m ∧ a = nI i ∧ ∀ j, j < i → nI (ti t (20, 30 + j, 0)) ≠ x) (fun a _ => 300 - a.toNatClampNeg) (fun a s1 h => by unfold bv_fu; omega) (fun K2 a t1 h ih => ?_) ⟨rfl, 0, by omega, rfl, fun j hj => by omega⟩
  obtain ⟨rfl, i, i1, rfl, i3⟩ := h
  unfold BX2_find_2
  by_cases hi : m ≤ i
  · have : i = m := by omega
    subst this
    refine tE_ifT (nI_le hi (by omega)) (tE_ret ?_)
    have e : fi t1 x i = none := fd_none i3
    rw [e] at k
    exact k
  · refine tE_ifF (nI_ge (by omega) (by omega)) ?_
    (repeat (first | with_reducible refine tE_letI ?_ | with_reducible refine tE_letL ?_ | with_reducible refine tE_nnS ?_ | with_reducible refine uis_0 ?_ | with_reducible refine uis_1 ?_ | with_reducible refine uis_8 ?_ | with_reducible refine uis_9 ?_ | with_reducible refine uis_sg (by omega) ?_ | with_reducible refine uis_hp (by omega) ?_ | with_reducible refine tE_nz (by decide) ?_ | with_reducible refine uo_0_1 ?_ | with_reducible refine uo_0_2 ?_ | with_reducible refine uo_0_3 ?_ | with_reducible refine uo_0_4 ?_ | with_reducible refine uo_0_6 ?_ | with_reducible refine uo_0_8 ?_ | with_reducible refine uo_0_10 ?_ | with_reducible refine uo_0_11 ?_ | with_reducible refine uo_0_12 ?_ | with_reducible refine uo_9_0 ?_ | with_reducible refine uo_9_7 ?_ | with_reducible refine uo_sf (by omega) ?_ | with_reducible refine uo_sv (by omega) ?_ | with_reducible refine uo_sy (by omega) ?_ | with_reducible refine uo_sw (by omega) ?_ | with_reducible refine uo_hr (by omega) ?_ | with_reducible refine uo_hs (by omega) ?_ | with_reducible refine ug_o ?_ | with_reducible refine ug_wn ?_ | with_reducible refine ug_cn ?_ | with_reducible refine ug_gn ?_ | with_reducible refine ug_ir ?_ | with_reducible refine ug_fa ?_ | with_reducible refine ug_cs ?_ | with_reducible refine ug_n ?_ | with_reducible refine ug_fn ?_ | with_reducible refine ug_li ?_ | with_reducible refine ug_ra ?_ | with_reducible refine ug_la ?_ | with_reducible refine ug_op ?_ | with_reducible refine ug_sm ?_ | with_reducible refine ug_gl ?_ | with_reducible refine ug_sp (by omega) ?_ | with_reducible refine ug_sn (by omega) ?_ | with_reducible refine ug_sr (by omega) ?_ | with_reducible refine ug_sl (by omega) ?_ | with_reducible refine ug_sb (by omega) ?_ | with_reducible refine ug_sa (by omega) ?_ | with_reducible refine ug_sg (by omega) ?_ | with_reducible refine ug_hm (by omega) ?_ | with_reducible refine ug_hw (by omega) ?_ | with_reducible refine ug_hh (by omega) ?_ | with_reducible refine ug_ho (by omega) ?_ | with_reducible refine ug_ht (by omega) ?_ | with_reducible refine ug_sL (by omega) ?_ | with_reducible refine un_sh ?_ | with_reducible refine ut_alenS ?_ | with_reducible refine ut_alenK ?_))
    refine tE_c8V (fun s0 Q' q => t_get8 i rfl (by omega) (by omega) q) ?_
    (repeat (first | with_reducible refine tE_letI ?_ | with_reducible refine tE_letL ?_ | with_reducible refine tE_nnS ?_ | with_reducible refine uis_0 ?_ | with_reducible refine uis_1 ?_ | with_reducible refine uis_8 ?_ | with_reducible refine uis_9 ?_ | with_reducible refine uis_sg (by omega) ?_ | with_reducible refine uis_hp (by omega) ?_ | with_reducible refine tE_nz (by decide) ?_ | with_reducible refine uo_0_1 ?_ | with_reducible refine uo_0_2 ?_ | with_reducible refine uo_0_3 ?_ | with_reducible refine uo_0_4 ?_ | with_reducible refine uo_0_6 ?_ | with_reducible refine uo_0_8 ?_ | with_reducible refine uo_0_10 ?_ | with_reducible refine uo_0_11 ?_ | with_reducible refine uo_0_12 ?_ | with_reducible refine uo_9_0 ?_ | with_reducible refine uo_9_7 ?_ | with_reducible refine uo_sf (by omega) ?_ | with_reducible refine uo_sv (by omega) ?_ | with_reducible refine uo_sy (by omega) ?_ | with_reducible refine uo_sw (by omega) ?_ | with_reducible refine uo_hr (by omega) ?_ | with_reducible refine uo_hs (by omega) ?_ | with_reducible refine ug_o ?_ | with_reducible refine ug_wn ?_ | with_reducible refine ug_cn ?_ | with_reducible refine ug_gn ?_ | with_reducible refine ug_ir ?_ | with_reducible refine ug_fa ?_ | with_reducible refine ug_cs ?_ | with_reducible refine ug_n ?_ | with_reducible refine ug_fn ?_ | with_reducible refine ug_li ?_ | with_reducible refine ug_ra ?_ | with_reducible refine ug_la ?_ | with_reducible refine ug_op ?_ | with_reducible refine ug_sm ?_ | with_reducible refine ug_gl ?_ | with_reducible refine ug_sp (by omega) ?_ | with_reducible refine ug_sn (by omega) ?_ | with_reducible refine ug_sr (by omega) ?_ | with_reducible refine ug_sl (by omega) ?_ | with_reducible refine ug_sb (by omega) ?_ | with_reducible refine ug_sa (by omega) ?_ | with_reducible refine ug_sg (by omega) ?_ | with_reducible refine ug_hm (by omega) ?_ | with_reducible refine ug_hw (by omega) ?_ | with_reducible refine ug_hh (by omega) ?_ | with_reducible refine ug_ho (by omega) ?_ | with_reducible refine ug_ht (by omega) ?_ | with_reducible refine ug_sL (by omega) ?_ | with_reducible refine un_sh ?_ | with_reducible refine ut_alenS ?_ | with_reducible refine ut_alenK ?_))
    by_cases hx : nI (ti t1 (20, 30 + i, 0)) = x
    · refine tE_ifT hx ?_
      (repeat (first | with_reducible refine tE_letI ?_ | with_reducible refine tE_letL ?_ | with_reducible refine tE_nnS ?_ | with_reducible refine uis_0 ?_ | with_reducible refine uis_1 ?_ | with_reducible refine uis_8 ?_ | with_reducible refine uis_9 ?_ | with_reducible refine uis_sg (by omega) ?_ | with_reducible refine uis_hp (by omega) ?_ | with_reducible refine tE_nz (by decide) ?_ | with_reducible refine uo_0_1 ?_ | with_reducible refine uo_0_2 ?_ | with_reducible refine uo_0_3 ?_ | with_reducible refine uo_0_4 ?_ | with_reducible refine uo_0_6 ?_ | with_reducible refine uo_0_8 ?_ | with_reducible refine uo_0_10 ?_ | with_reducible refine uo_0_11 ?_ | with_reducible refine uo_0_12 ?_ | with_reducible refine uo_9_0 ?_ | with_reducible refine uo_9_7 ?_ | with_reducible refine uo_sf (by omega) ?_ | with_reducible refine uo_sv (by omega) ?_ | with_reducible refine uo_sy (by omega) ?_ | with_reducible refine uo_sw (by omega) ?_ | with_reducible refine uo_hr (by omega) ?_ | with_reducible refine uo_hs (by omega) ?_ | with_reducible refine ug_o ?_ | with_reducible refine ug_wn ?_ | with_reducible refine ug_cn ?_ | with_reducible refine ug_gn ?_ | with_reducible refine ug_ir ?_ | with_reducible refine ug_fa ?_ | with_reducible refine ug_cs ?_ | with_reducible refine ug_n ?_ | with_reducible refine ug_fn ?_ | with_reducible refine ug_li ?_ | with_reducible refine ug_ra ?_ | with_reducible refine ug_la ?_ | with_reducible refine ug_op ?_ | with_reducible refine ug_sm ?_ | with_reducible refine ug_gl ?_ | with_reducible refine ug_sp (by omega) ?_ | with_reducible refine ug_sn (by omega) ?_ | with_reducible refine ug_sr (by omega) ?_ | with_reducible refine ug_sl (by omega) ?_ | with_reducible refine ug_sb (by omega) ?_ | with_reducible refine ug_sa (by omega) ?_ | with_reducible refine ug_sg (by omega) ?_ | with_reducible refine ug_hm (by omega) ?_ | with_reducible refine ug_hw (by omega) ?_ | with_reducible refine ug_hh (by omega) ?_ | with_reducible refine ug_ho (by omega) ?_ | with_reducible refine ug_ht (by omega) ?_ | with_reducible refine ug_sL (by omega) ?_ | with_reducible refine un_sh ?_ | with_reducible refine ut_alenS ?_ | with_reducible refine ut_alenK ?_))
      refine tE_c8V (fun s0 Q' q => t_get8 i rfl (by omega) (by omega) q) ?_
      (repeat (first | with_reducible refine tE_letI ?_ | with_reducible refine tE_letL ?_ | with_reducible refine tE_nnS ?_ | with_reducible refine uis_0 ?_ | with_reducible refine uis_1 ?_ | with_reducible refine uis_8 ?_ | with_reducible refine uis_9 ?_ | with_reducible refine uis_sg (by omega) ?_ | with_reducible refine uis_hp (by omega) ?_ | with_reducible refine tE_nz (by decide) ?_ | with_reducible refine uo_0_1 ?_ | with_reducible refine uo_0_2 ?_ | with_reducible refine uo_0_3 ?_ | with_reducible refine uo_0_4 ?_ | with_reducible refine uo_0_6 ?_ | with_reducible refine uo_0_8 ?_ | with_reducible refine uo_0_10 ?_ | with_reducible refine uo_0_11 ?_ | with_reducible refine uo_0_12 ?_ | with_reducible refine uo_9_0 ?_ | with_reducible refine uo_9_7 ?_ | with_reducible refine uo_sf (by omega) ?_ | with_reducible refine uo_sv (by omega) ?_ | with_reducible refine uo_sy (by omega) ?_ | with_reducible refine uo_sw (by omega) ?_ | with_reducible refine uo_hr (by omega) ?_ | with_reducible refine uo_hs (by omega) ?_ | with_reducible refine ug_o ?_ | with_reducible refine ug_wn ?_ | with_reducible refine ug_cn ?_ | with_reducible refine ug_gn ?_ | with_reducible refine ug_ir ?_ | with_reducible refine ug_fa ?_ | with_reducible refine ug_cs ?_ | with_reducible refine ug_n ?_ | with_reducible refine ug_fn ?_ | with_reducible refine ug_li ?_ | with_reducible refine ug_ra ?_ | with_reducible refine ug_la ?_ | with_reducible refine ug_op ?_ | with_reducible refine ug_sm ?_ | with_reducible refine ug_gl ?_ | with_reducible refine ug_sp (by omega) ?_ | with_reducible refine ug_sn (by omega) ?_ | with_reducible refine ug_sr (by omega) ?_ | with_reducible refine ug_sl (by omega) ?_ | with_reducible refine ug_sb (by omega) ?_ | with_reducible refine ug_sa (by omega) ?_ | with_reducible refine ug_sg (by omega) ?_ | with_reducible refine ug_hm (by omega) ?_ | with_reducible refine ug_hw (by omega) ?_ | with_reducible refine ug_hh (by omega) ?_ | with_reducible refine ug_ho (by omega) ?_ | with_reducible refine ug_ht (by omega) ?_ | with_reducible refine ug_sL (by omega) ?_ | with_reducible refine un_sh ?_ | with_reducible refine ut_alenS ?_ | with_reducible refine ut_alenK ?_))
      refine tE_ret ?_
      have e : fi t1 x m = some i := fd_at hx i3 (by omega)
      rw [e] at k
      exact k
    · refine tE_ifF hx ?_
      (repeat (first | with_reducible refine tE_letI ?_ | with_reducible refine tE_letL ?_ | with_reducible refine tE_nnS ?_ | with_reducible refine uis_0 ?_ | with_reducible refine uis_1 ?_ | with_reducible refine uis_8 ?_ | with_reducible refine uis_9 ?_ | with_reducible refine uis_sg (by omega) ?_ | with_reducible refine uis_hp (by omega) ?_ | with_reducible refine tE_nz (by decide) ?_ | with_reducible refine uo_0_1 ?_ | with_reducible refine uo_0_2 ?_ | with_reducible refine uo_0_3 ?_ | with_reducible refine uo_0_4 ?_ | with_reducible refine uo_0_6 ?_ | with_reducible refine uo_0_8 ?_ | with_reducible refine uo_0_10 ?_ | with_reducible refine uo_0_11 ?_ | with_reducible refine uo_0_12 ?_ | with_reducible refine uo_9_0 ?_ | with_reducible refine uo_9_7 ?_ | with_reducible refine uo_sf (by omega) ?_ | with_reducible refine uo_sv (by omega) ?_ | with_reducible refine uo_sy (by omega) ?_ | with_reducible refine uo_sw (by omega) ?_ | with_reducible refine uo_hr (by omega) ?_ | with_reducible refine uo_hs (by omega) ?_ | with_reducible refine ug_o ?_ | with_reducible refine ug_wn ?_ | with_reducible refine ug_cn ?_ | with_reducible refine ug_gn ?_ | with_reducible refine ug_ir ?_ | with_reducible refine ug_fa ?_ | with_reducible refine ug_cs ?_ | with_reducible refine ug_n ?_ | with_reducible refine ug_fn ?_ | with_reducible refine ug_li ?_ | with_reducible refine ug_ra ?_ | with_reducible refine ug_la ?_ | with_reducible refine ug_op ?_ | with_reducible refine ug_sm ?_ | with_reducible refine ug_gl ?_ | with_reducible refine ug_sp (by omega) ?_ | with_reducible refine ug_sn (by omega) ?_ | with_reducible refine ug_sr (by omega) ?_ | with_reducible refine ug_sl (by omega) ?_ | with_reducible refine ug_sb (by omega) ?_ | with_reducible refine ug_sa (by omega) ?_ | with_reducible refine ug_sg (by omega) ?_ | with_reducible refine ug_hm (by omega) ?_ | with_reducible refine ug_hw (by omega) ?_ | with_reducible refine ug_hh (by omega) ?_ | with_reducible refine ug_ho (by omega) ?_ | with_reducible refine ug_ht (by omega) ?_ | with_reducible refine ug_sL (by omega) ?_ | with_reducible refine un_sh ?_ | with_reducible refine ut_alenS ?_ | with_reducible refine ut_alenK ?_))
      rw [nI_1]
      exact ih _ _ ⟨rfl, i + 1, by omega, rfl, fun j hj => by
        by_cases e : j = i
        · rw [e]; exact hx
        · exact i3 j (by omega)⟩ (by rw [nI_clamp (by omega), nI_clamp (by omega)]; omega)
theorem sE_segOf {x : Int32} {m : Nat} {K : Int32 → bp_M β} (hm : m ≤ 256) (hs : ∀ k, k < m → bv_i s 1486 k = nI (ti t (20, 30 + k, 0))) (k : sE C sa (K (match fi t x m with | some k => nI k | none => -1)) s R) : sE C sa (bp_bind (bp_is 4 (C + 1471) (PX6_segmentOf (C + 1471) x (nI m))) K) s R := by
  refine sE_c ?_
  unfold PX6_segmentOf
  refine sE_loop (fun (k : Int32 → bp_M Int32) (a : Int32) => k a) 0 rfl (fun a s1 => s1 = s ∧ ∃ i, i ≤ m ∧ a = nI i ∧ ∀ j, j < i → nI (ti t (20, 30 + j, 0)) ≠ x) (fun a _ => 300 - a.toNatClampNeg) (fun a s1 h => by unfold bv_fu; omega) (fun K2 a s1 h ih => ?_) ⟨rfl, 0, by omega, rfl, fun j hj => by omega⟩
  obtain ⟨rfl, i, i1, rfl, i3⟩ := h
  unfold BX6_segmentOf_2
  by_cases hi : m ≤ i
  · have : i = m := by omega
    subst this
    refine sE_ifT (nI_le hi (by omega)) (sE_ret ?_)
    have e : fi t x i = none := fd_none i3
    rw [e] at k
    exact k
  · refine sE_ifF (nI_ge (by omega) (by omega)) ?_
    (repeat (first | with_reducible refine sE_letI ?_ | with_reducible refine sE_letL ?_ | with_reducible refine sE_nnS ?_ | with_reducible refine sE_is ?_ | with_reducible refine sE_nz (by decide) ?_ | with_reducible refine eg_0 ?_ | with_reducible refine eg_1 ?_ | with_reducible refine eg_2 ?_ | with_reducible refine eg_13 ?_ | with_reducible refine eg_15 ?_ | with_reducible refine eg_17 ?_ | with_reducible refine eg_19 ?_ | with_reducible refine eg_20 ?_ | with_reducible refine eg_21 ?_ | with_reducible refine eg_22 ?_ | with_reducible refine eg_23 ?_ | with_reducible refine eg_24 ?_ | with_reducible refine eg_25 ?_ | with_reducible refine eg_39 ?_ | with_reducible refine eg_47 ?_ | with_reducible refine eg_48 ?_ | with_reducible refine eg_49 ?_ | with_reducible refine ep_0 ?_ | with_reducible refine ep_1 ?_ | with_reducible refine ep_2 ?_ | with_reducible refine ep_13 ?_ | with_reducible refine ep_15 ?_ | with_reducible refine ep_17 ?_ | with_reducible refine ep_19 ?_ | with_reducible refine ep_20 ?_ | with_reducible refine ep_21 ?_ | with_reducible refine ep_22 ?_ | with_reducible refine ep_23 ?_ | with_reducible refine ep_24 ?_ | with_reducible refine ep_25 ?_ | with_reducible refine ep_39 ?_ | with_reducible refine ep_48 ?_ | with_reducible refine ep_49 ?_ | with_reducible refine eo_3 ?_ | with_reducible refine eo_4 ?_ | with_reducible refine eo_5 ?_ | with_reducible refine eo_6 ?_ | with_reducible refine eo_7 ?_ | with_reducible refine eo_8 ?_ | with_reducible refine eo_9 ?_ | with_reducible refine eo_10 ?_ | with_reducible refine eo_11 ?_ | with_reducible refine eo_12 ?_ | with_reducible refine eo_14 ?_ | with_reducible refine eo_16 ?_ | with_reducible refine eo_18 ?_ | with_reducible refine eo_26 ?_ | with_reducible refine eo_27 ?_ | with_reducible refine eo_28 ?_ | with_reducible refine eo_29 ?_ | with_reducible refine eo_30 ?_ | with_reducible refine eo_31 ?_ | with_reducible refine eo_32 ?_ | with_reducible refine eo_33 ?_ | with_reducible refine eo_34 ?_ | with_reducible refine eo_35 ?_ | with_reducible refine eo_36 ?_ | with_reducible refine eo_37 ?_ | with_reducible refine eo_38 ?_ | with_reducible refine eo_40 ?_ | with_reducible refine eo_41 ?_ | with_reducible refine eo_42 ?_ | with_reducible refine eo_43 ?_ | with_reducible refine eo_44 ?_ | with_reducible refine eo_45 ?_ | with_reducible refine eo_46 ?_))
    refine ea_1486 i rfl (by omega) ?_
    rw [hs i (by omega)]
    by_cases hx : nI (ti t (20, 30 + i, 0)) = x
    · refine sE_ifT hx (sE_ret ?_)
      have e : fi t x m = some i := fd_at hx i3 (by omega)
      rw [e] at k
      exact k
    · refine sE_ifF hx ?_
      (repeat (first | with_reducible refine sE_letI ?_ | with_reducible refine sE_letL ?_ | with_reducible refine sE_nnS ?_ | with_reducible refine sE_is ?_ | with_reducible refine sE_nz (by decide) ?_ | with_reducible refine eg_0 ?_ | with_reducible refine eg_1 ?_ | with_reducible refine eg_2 ?_ | with_reducible refine eg_13 ?_ | with_reducible refine eg_15 ?_ | with_reducible refine eg_17 ?_ | with_reducible refine eg_19 ?_ | with_reducible refine eg_20 ?_ | with_reducible refine eg_21 ?_ | with_reducible refine eg_22 ?_ | with_reducible refine eg_23 ?_ | with_reducible refine eg_24 ?_ | with_reducible refine eg_25 ?_ | with_reducible refine eg_39 ?_ | with_reducible refine eg_47 ?_ | with_reducible refine eg_48 ?_ | with_reducible refine eg_49 ?_ | with_reducible refine ep_0 ?_ | with_reducible refine ep_1 ?_ | with_reducible refine ep_2 ?_ | with_reducible refine ep_13 ?_ | with_reducible refine ep_15 ?_ | with_reducible refine ep_17 ?_ | with_reducible refine ep_19 ?_ | with_reducible refine ep_20 ?_ | with_reducible refine ep_21 ?_ | with_reducible refine ep_22 ?_ | with_reducible refine ep_23 ?_ | with_reducible refine ep_24 ?_ | with_reducible refine ep_25 ?_ | with_reducible refine ep_39 ?_ | with_reducible refine ep_48 ?_ | with_reducible refine ep_49 ?_ | with_reducible refine eo_3 ?_ | with_reducible refine eo_4 ?_ | with_reducible refine eo_5 ?_ | with_reducible refine eo_6 ?_ | with_reducible refine eo_7 ?_ | with_reducible refine eo_8 ?_ | with_reducible refine eo_9 ?_ | with_reducible refine eo_10 ?_ | with_reducible refine eo_11 ?_ | with_reducible refine eo_12 ?_ | with_reducible refine eo_14 ?_ | with_reducible refine eo_16 ?_ | with_reducible refine eo_18 ?_ | with_reducible refine eo_26 ?_ | with_reducible refine eo_27 ?_ | with_reducible refine eo_28 ?_ | with_reducible refine eo_29 ?_ | with_reducible refine eo_30 ?_ | with_reducible refine eo_31 ?_ | with_reducible refine eo_32 ?_ | with_reducible refine eo_33 ?_ | with_reducible refine eo_34 ?_ | with_reducible refine eo_35 ?_ | with_reducible refine eo_36 ?_ | with_reducible refine eo_37 ?_ | with_reducible refine eo_38 ?_ | with_reducible refine eo_40 ?_ | with_reducible refine eo_41 ?_ | with_reducible refine eo_42 ?_ | with_reducible refine eo_43 ?_ | with_reducible refine eo_44 ?_ | with_reducible refine eo_45 ?_ | with_reducible refine eo_46 ?_))
      rw [nI_1]
      exact ih _ _ ⟨rfl, i + 1, by omega, rfl, fun j hj => by
        by_cases e : j = i
        · rw [e]; exact hx
        · exact i3 j (by omega)⟩ (by rw [nI_clamp (by omega), nI_clamp (by omega)]; omega)
theorem tE_ordinal {k : Nat} (hk : k < 10) {K : Int32 → bp_M β} (kk : tE C sa (K (nI k)) t Q) : tE C sa (bp_bind (bp_is 8 (sa (11 + k)) (PJ4_ordinal (sa (11 + k)))) K) t Q := tE_bindV (fun s0 Q' q => t_isK hk (by unfold PJ4_ordinal; exact t_getK2 hk (tw_ret q))) kk
theorem tE_mayRefer {a b : Nat} (ha : a < 10) (hb : b < 10) {K : Int32 → bp_M β} (k1 : mRf a b → tE C sa (K 1) t Q) (k0 : ¬ mRf a b → tE C sa (K 0) t Q) : tE C sa (bp_bind (bp_is 8 (sa (11 + a)) (PX5_mayReferTo (sa (11 + a)) (sa (11 + b)))) K) t Q := by
  refine tE_bind (tE_up (fun _ _ k => t_isK ha k) ?_)
  unfold PX5_mayReferTo
  refine tE_ordinal ha (tE_jn ?_)
  have two : (a = 0 ∨ a = 1) → ∀ (Q2 : (bF ⊕ Int32) → bT → Prop), (mRf a b → Q2 (.inr 1) t) → (¬ mRf a b → Q2 (.inr 0) t) → tE C sa (bp_gets 11 fun a3 => bp_if (some (sa (11 + b)) = some a3) (bp_retZ (1 : Int32)) (bp_gets 19 fun a4 => bp_if (some (sa (11 + b)) = some a4) (bp_retZ (1 : Int32)) (bp_retZ (0 : Int32)))) t Q2 := fun h Q2 q1 q0 => by
    refine ut_gets (by omega) (tE_ifK (b := 0) hb (by omega) (fun e => tE_retZ (by decide) (q1 (by unfold mRf; omega))) fun e => ?_)
    refine ut_gets (by omega) (tE_ifK (b := 8) hb (by omega) (fun e => tE_retZ (by decide) (q1 (by unfold mRf; omega))) fun e2 => tE_retZ (by decide) (q0 (by unfold mRf; omega)))
  rcases k10 ha with e | e | e | e | e | e | e | e | e | e
  · rw [e]
    (repeat first | refine tE_swT (by decide) ?_ | refine tE_swF (by decide) ?_ | refine tE_swN ?_)
    exact two (Or.inl e) _ k1 k0
  · rw [e]
    (repeat first | refine tE_swT (by decide) ?_ | refine tE_swF (by decide) ?_ | refine tE_swN ?_)
    exact two (Or.inr e) _ k1 k0
  · rw [e]
    (repeat first | refine tE_swT (by decide) ?_ | refine tE_swF (by decide) ?_ | refine tE_swN ?_)
    refine ut_gets (by omega) (tE_ifK (b := 0) hb (by omega) (fun e => tE_retZ (by decide) (k1 (by unfold mRf; omega))) fun e1 => ?_)
    refine ut_gets (by omega) (tE_ifK (b := 8) hb (by omega) (fun e => tE_retZ (by decide) (k1 (by unfold mRf; omega))) fun e2 => ?_)
    refine ut_gets (by omega) (tE_ifK (b := 1) hb (by omega) (fun e => tE_retZ (by decide) (k1 (by unfold mRf; omega))) fun e3 => tE_retZ (by decide) (k0 (by unfold mRf; omega)))
  all_goals
    rw [e]
    (repeat first | refine tE_swT (by decide) ?_ | refine tE_swF (by decide) ?_ | refine tE_swN ?_)
    exact tE_retZ (by decide) (k0 (by unfold mRf; omega))
/-- the reference's mayRefer: hk whether there's a kept region -/
theorem sE_mayRefer {k q a b : Nat} {hk : Int32} (hk1 : k < 256) (hq : q < 256) (ha : a < 10) (hb : b < 10) (ea : bv_i s 1487 k = bv_code a) (eb : bv_i s 1487 q = bv_code b) {K : Int32 → bp_M β} (k1 : mRf a b ∧ (b = 1 → hk = 0) → sE C sa (K 1) s R) (k0 : ¬ (mRf a b ∧ (b = 1 → hk = 0)) → sE C sa (K 0) s R) : sE C sa (bp_bind (bp_is 4 (C + 1471) (PX6_mayRefer (C + 1471) (nI k) (nI q) hk)) K) s R := by
  refine sE_c ?_
  unfold PX6_mayRefer
  have rd : ∀ (x y : Nat) (K2 : Int32 → bp_M Int32) (R2 : Int32 → bv_S → Prop), x < 256 → bv_i s 1487 x = bv_code y → sE C sa (K2 (bv_code y)) s R2 → sE C sa (bp_getN 4 28 (C + 1471) fun a1 => bp_aldI 20 a1 (nI x) K2) s R2 := fun x y K2 R2 hx e h => by
    (repeat (first | with_reducible refine sE_letI ?_ | with_reducible refine sE_letL ?_ | with_reducible refine sE_nnS ?_ | with_reducible refine sE_is ?_ | with_reducible refine sE_nz (by decide) ?_ | with_reducible refine eg_0 ?_ | with_reducible refine eg_1 ?_ | with_reducible refine eg_2 ?_ | with_reducible refine eg_13 ?_ | with_reducible refine eg_15 ?_ | with_reducible refine eg_17 ?_ | with_reducible refine eg_19 ?_ | with_reducible refine eg_20 ?_ | with_reducible refine eg_21 ?_ | with_reducible refine eg_22 ?_ | with_reducible refine eg_23 ?_ | with_reducible refine eg_24 ?_ | with_reducible refine eg_25 ?_ | with_reducible refine eg_39 ?_ | with_reducible refine eg_47 ?_ | with_reducible refine eg_48 ?_ | with_reducible refine eg_49 ?_ | with_reducible refine ep_0 ?_ | with_reducible refine ep_1 ?_ | with_reducible refine ep_2 ?_ | with_reducible refine ep_13 ?_ | with_reducible refine ep_15 ?_ | with_reducible refine ep_17 ?_ | with_reducible refine ep_19 ?_ | with_reducible refine ep_20 ?_ | with_reducible refine ep_21 ?_ | with_reducible refine ep_22 ?_ | with_reducible refine ep_23 ?_ | with_reducible refine ep_24 ?_ | with_reducible refine ep_25 ?_ | with_reducible refine ep_39 ?_ | with_reducible refine ep_48 ?_ | with_reducible refine ep_49 ?_ | with_reducible refine eo_3 ?_ | with_reducible refine eo_4 ?_ | with_reducible refine eo_5 ?_ | with_reducible refine eo_6 ?_ | with_reducible refine eo_7 ?_ | with_reducible refine eo_8 ?_ | with_reducible refine eo_9 ?_ | with_reducible refine eo_10 ?_ | with_reducible refine eo_11 ?_ | with_reducible refine eo_12 ?_ | with_reducible refine eo_14 ?_ | with_reducible refine eo_16 ?_ | with_reducible refine eo_18 ?_ | with_reducible refine eo_26 ?_ | with_reducible refine eo_27 ?_ | with_reducible refine eo_28 ?_ | with_reducible refine eo_29 ?_ | with_reducible refine eo_30 ?_ | with_reducible refine eo_31 ?_ | with_reducible refine eo_32 ?_ | with_reducible refine eo_33 ?_ | with_reducible refine eo_34 ?_ | with_reducible refine eo_35 ?_ | with_reducible refine eo_36 ?_ | with_reducible refine eo_37 ?_ | with_reducible refine eo_38 ?_ | with_reducible refine eo_40 ?_ | with_reducible refine eo_41 ?_ | with_reducible refine eo_42 ?_ | with_reducible refine eo_43 ?_ | with_reducible refine eo_44 ?_ | with_reducible refine eo_45 ?_ | with_reducible refine eo_46 ?_))
    refine ea_1487 x rfl hx ?_
    rw [e]; exact h
  have cd : ∀ y z, y < 10 → z < 10 → (bv_code y = bv_code z ↔ y = z) := fun y z h1 h2 => ⟨code_inj y h1 z h2, fun e => by rw [e]⟩
  refine rd q b _ _ hq eb ?_
  refine sE_jnV (bz (b = 0 ∨ b = 8)) (fun K2 hK => ?_) ?_
  · by_cases h0 : b = 0
    · rw [bz_T (Or.inl h0)] at hK
      exact sE_ifT (by rw [h0]; rfl) hK
    · refine sE_ifF (fun z => h0 ((cd b 0 hb (by omega)).mp z)) (rd q b _ _ hq eb ?_)
      by_cases h8 : b = 8
      · rw [bz_T (Or.inr h8)] at hK
        exact sE_ifT (by rw [h8]; rfl) hK
      · rw [bz_F (by omega)] at hK
        exact sE_ifF (fun z => h8 ((cd b 8 hb (by omega)).mp z)) hK
  refine rd q b _ _ hq eb ?_
  refine sE_jnV (bz (b = 1 ∧ hk = 0)) (fun K2 hK => ?_) ?_
  · by_cases h1 : b = 1
    · refine sE_ifT (by rw [h1]; rfl) ?_
      by_cases h2 : hk = 0
      · rw [bz_T ⟨h1, h2⟩] at hK
        exact sE_ifT h2 hK
      · rw [bz_F (fun z => h2 z.2)] at hK
        exact sE_ifF h2 hK
    · rw [bz_F (fun z => h1 z.1)] at hK
      exact sE_ifF (fun z => h1 ((cd b 1 hb (by omega)).mp z)) hK
  refine rd k a _ _ hk1 ea ?_
  have book : (a = 0 ∨ a = 1) → sE C sa (bp_retZ (bz (b = 0 ∨ b = 8))) s (fun v s1 => sE C sa (K v) s1 R) := fun h => by
    by_cases h2 : b = 0 ∨ b = 8
    · rw [bz_T h2]
      exact sE_retZ (by decide) (k1 ⟨Or.inl ⟨by omega, h2⟩, fun z => by omega⟩)
    · rw [bz_F h2]
      exact sE_retZ (by decide) (k0 fun z => by
        have := z.1
        unfold mRf at this; omega)
  by_cases a0 : a = 0
  · exact sE_ifT (by rw [a0]; rfl) (book (Or.inl a0))
  · refine sE_ifF (fun z => a0 ((cd a 0 ha (by omega)).mp z)) ?_
    by_cases a1 : a = 1
    · exact sE_ifT (by rw [a1]; rfl) (book (Or.inr a1))
    · refine sE_ifF (fun z => a1 ((cd a 1 ha (by omega)).mp z)) ?_
      by_cases a2 : a = 2
      · refine sE_ifT (by rw [a2]; rfl) ?_
        by_cases h2 : b = 0 ∨ b = 8
        · exact sE_ifF (by rw [bz_T h2]; decide) (sE_retZ (by decide) (k1 ⟨Or.inl ⟨by omega, h2⟩, fun z => by omega⟩))
        · refine sE_ifT (bz_F h2) ?_
          by_cases h3 : b = 1 ∧ hk = 0
          · exact sE_ifF (by rw [bz_T h3]; decide) (sE_retZ (by decide) (k1 ⟨Or.inr ⟨a2, h3.1⟩, fun _ => h3.2⟩))
          · refine sE_ifT (bz_F h3) (sE_retZ (by decide) (k0 fun z => ?_))
            have h4 := z.1
            unfold mRf at h4
            exact h3 ⟨by omega, z.2 (by omega)⟩
      · refine sE_ifF (fun z => a2 ((cd a 2 ha (by omega)).mp z)) (sE_retZ (by decide) (k0 fun z => ?_))
        have h4 := z.1
        unfold mRf at h4; omega
end RF
