/-! Data and heads written -/
set_option maxRecDepth 100000
noncomputable def lKind (t : bT) (g : Nat) : List Nat := if 1 ≤ tk t g ∧ tk t g ≤ 3 then lReg t g else if tk t g = 4 then l4 (nI (ti t (27, g, 0))) ++ (l4 (if ti t (27, g, 1) = 0 then -1 else nI (ti t (27, g, 1))) ++ ([bN (nI (ti t (27, g, 2)))] ++ [bN (nI (ti t (27, g, 3)))])) else if tk t g = 6 ∨ tk t g = 9 then l4 (nI (ti t (27, g, 0))) else []
noncomputable def lDat (t : bT) (g : Nat) : List Nat := lKind t g ++ cat (fun j => [ti t (28, g, j)]) (ti t (23, g, 0))
theorem lKind_len {t : bT} {g : Nat} (w : wG t g) : (lKind t g).length ≤ 71 := by
  unfold lKind
  split
  · rename_i h
    obtain ⟨⟨a0, a0'⟩, ⟨a1, a1'⟩, a2⟩ := w.2.2.2.2.2.2.2.2.1 h
    exact lReg_len t g a0' a1'
  · split
    · show 10 ≤ 71; omega
    · split
      · show 4 ≤ 71; omega
      · show 0 ≤ 71; omega
theorem lDat_len {t : bT} {g : Nat} (w : wG t g) : (lDat t g).length ≤ 91 := by
  unfold lDat
  rw [List.length_append, cat_len (c := 1) (fun _ => rfl)]
  have := lKind_len w
  have := w.2.2.2.2.2.2.1
  omega
/-- the length that the head tells -/
noncomputable def lSz (t : bT) (g : Nat) : Int32 := @ite _ (lO t g) (Classical.propDecidable _) (-1) (nI (lDat t g).length)
section PT
variable {α β : Type} {C : Nat} {sa : Nat → Nat} {s s0 : bv_S} {t t0 : bT} {Q : (bF ⊕ β) → bT → Prop} {R : β → bv_S → Prop}
theorem k10 {k : Nat} (h : k < 10) : k = 0 ∨ k = 1 ∨ k = 2 ∨ k = 3 ∨ k = 4 ∨ k = 5 ∨ k = 6 ∨ k = 7 ∨ k = 8 ∨ k = 9 := by omega
theorem tE_putData {g : Nat} {K : Unit → bp_M β} (hg : g < 30) (w : wG t0 g) (hF : wF t0 t) (hb : ti t (1, 0, 0) + 100 ≤ 6000) (k : ∀ t1, wE t (lDat t0 g) t1 → tE C sa (K ()) t1 Q) : tE C sa (bp_bind (bp_is 0 (C + 0) (PX1_putData (C + 0) (C + bv_sg g))) K) t Q := by
  obtain ⟨w1, w2, w3, w4, w5, w6, w7, w8, w9⟩ := id w
  refine tE_c0 ?_
  unfold PX1_putData
  have loopB : ∀ (Q2 : (bF ⊕ Unit) → bT → Prop), (∀ t1, wE t (lDat t0 g) t1 → Q2 (.inr ()) t1) → ∀ t1, wE t (lKind t0 g) t1 → tE C sa (bp_loop (fun _ => bp_no) (BX1_putData_129 (C + 0) (C + bv_sg g)) (fun k => k (0 : Int32))) t1 Q2 := fun Q2 k t1 h1 => by
    have hF1 := hF.tr h1.1
    have l1 := h1.2.1
    have l2 := lKind_len w
    refine tE_loop (fun (k : Int32 → bp_M Unit) (a : Int32) => k a) 0 rfl (fun a t2 => ∃ j, j ≤ ti t0 (23, g, 0) ∧ a = nI j ∧ wE t1 (cat (fun j => [ti t0 (28, g, j)]) j) t2) (fun a _ => 40 - a.toNatClampNeg) (fun a s1 h => by unfold bv_fu; omega) (fun K2 a t2 h ih => ?_) ⟨0, by omega, rfl, wE.nil⟩
    obtain ⟨j, j1, rfl, j2⟩ := h
    have hF2 := hF1.tr j2.1
    have l3 := j2.2.1
    rw [cat_len (c := 1) (fun _ => rfl)] at l3
    unfold BX1_putData_129
    (repeat (first | with_reducible refine tE_letI ?_ | with_reducible refine tE_letL ?_ | with_reducible refine tE_nnS ?_ | with_reducible refine uis_0 ?_ | with_reducible refine uis_1 ?_ | with_reducible refine uis_8 ?_ | with_reducible refine uis_9 ?_ | with_reducible refine uis_sg (by omega) ?_ | with_reducible refine uis_hp (by omega) ?_ | with_reducible refine tE_nz (by decide) ?_ | with_reducible refine uo_0_1 ?_ | with_reducible refine uo_0_2 ?_ | with_reducible refine uo_0_3 ?_ | with_reducible refine uo_0_4 ?_ | with_reducible refine uo_0_6 ?_ | with_reducible refine uo_0_8 ?_ | with_reducible refine uo_0_10 ?_ | with_reducible refine uo_0_11 ?_ | with_reducible refine uo_0_12 ?_ | with_reducible refine uo_9_0 ?_ | with_reducible refine uo_9_7 ?_ | with_reducible refine uo_sf (by omega) ?_ | with_reducible refine uo_sv (by omega) ?_ | with_reducible refine uo_sy (by omega) ?_ | with_reducible refine uo_sw (by omega) ?_ | with_reducible refine uo_hr (by omega) ?_ | with_reducible refine uo_hs (by omega) ?_ | with_reducible refine ug_o ?_ | with_reducible refine ug_wn ?_ | with_reducible refine ug_cn ?_ | with_reducible refine ug_gn ?_ | with_reducible refine ug_ir ?_ | with_reducible refine ug_fa ?_ | with_reducible refine ug_cs ?_ | with_reducible refine ug_n ?_ | with_reducible refine ug_fn ?_ | with_reducible refine ug_li ?_ | with_reducible refine ug_ra ?_ | with_reducible refine ug_la ?_ | with_reducible refine ug_op ?_ | with_reducible refine ug_sm ?_ | with_reducible refine ug_gl ?_ | with_reducible refine ug_sp (by omega) ?_ | with_reducible refine ug_sn (by omega) ?_ | with_reducible refine ug_sr (by omega) ?_ | with_reducible refine ug_sl (by omega) ?_ | with_reducible refine ug_sb (by omega) ?_ | with_reducible refine ug_sa (by omega) ?_ | with_reducible refine ug_sg (by omega) ?_ | with_reducible refine ug_hm (by omega) ?_ | with_reducible refine ug_hw (by omega) ?_ | with_reducible refine ug_hh (by omega) ?_ | with_reducible refine ug_ho (by omega) ?_ | with_reducible refine ug_ht (by omega) ?_ | with_reducible refine ug_sL (by omega) ?_ | with_reducible refine un_sh ?_ | with_reducible refine ut_alenS ?_ | with_reducible refine ut_alenK ?_))
    rw [hF2.v (by decide) (by decide)]
    by_cases hj : ti t0 (23, g, 0) ≤ j
    · have : j = ti t0 (23, g, 0) := by omega
      subst this
      exact tE_ifT (nI_le hj (by omega)) (tE_ret (k t2 (h1.app j2)))
    · refine tE_ifF (nI_ge (by omega) (by omega)) ?_
      (repeat (first | with_reducible refine tE_letI ?_ | with_reducible refine tE_letL ?_ | with_reducible refine tE_nnS ?_ | with_reducible refine uis_0 ?_ | with_reducible refine uis_1 ?_ | with_reducible refine uis_8 ?_ | with_reducible refine uis_9 ?_ | with_reducible refine uis_sg (by omega) ?_ | with_reducible refine uis_hp (by omega) ?_ | with_reducible refine tE_nz (by decide) ?_ | with_reducible refine uo_0_1 ?_ | with_reducible refine uo_0_2 ?_ | with_reducible refine uo_0_3 ?_ | with_reducible refine uo_0_4 ?_ | with_reducible refine uo_0_6 ?_ | with_reducible refine uo_0_8 ?_ | with_reducible refine uo_0_10 ?_ | with_reducible refine uo_0_11 ?_ | with_reducible refine uo_0_12 ?_ | with_reducible refine uo_9_0 ?_ | with_reducible refine uo_9_7 ?_ | with_reducible refine uo_sf (by omega) ?_ | with_reducible refine uo_sv (by omega) ?_ | with_reducible refine uo_sy (by omega) ?_ | with_reducible refine uo_sw (by omega) ?_ | with_reducible refine uo_hr (by omega) ?_ | with_reducible refine uo_hs (by omega) ?_ | with_reducible refine ug_o ?_ | with_reducible refine ug_wn ?_ | with_reducible refine ug_cn ?_ | with_reducible refine ug_gn ?_ | with_reducible refine ug_ir ?_ | with_reducible refine ug_fa ?_ | with_reducible refine ug_cs ?_ | with_reducible refine ug_n ?_ | with_reducible refine ug_fn ?_ | with_reducible refine ug_li ?_ | with_reducible refine ug_ra ?_ | with_reducible refine ug_la ?_ | with_reducible refine ug_op ?_ | with_reducible refine ug_sm ?_ | with_reducible refine ug_gl ?_ | with_reducible refine ug_sp (by omega) ?_ | with_reducible refine ug_sn (by omega) ?_ | with_reducible refine ug_sr (by omega) ?_ | with_reducible refine ug_sl (by omega) ?_ | with_reducible refine ug_sb (by omega) ?_ | with_reducible refine ug_sa (by omega) ?_ | with_reducible refine ug_sg (by omega) ?_ | with_reducible refine ug_hm (by omega) ?_ | with_reducible refine ug_hw (by omega) ?_ | with_reducible refine ug_hh (by omega) ?_ | with_reducible refine ug_ho (by omega) ?_ | with_reducible refine ug_ht (by omega) ?_ | with_reducible refine ug_sL (by omega) ?_ | with_reducible refine un_sh ?_ | with_reducible refine ut_alenS ?_ | with_reducible refine ut_alenK ?_))
      refine ug_sy j (by omega) rfl (by omega) ?_
      rw [hF2.v (by decide) (by decide)]
      refine tE_put (by omega) fun t3 e3 => ?_
      rw [bN_c (w8 j (by omega))] at e3
      (repeat (first | with_reducible refine tE_letI ?_ | with_reducible refine tE_letL ?_ | with_reducible refine tE_nnS ?_ | with_reducible refine uis_0 ?_ | with_reducible refine uis_1 ?_ | with_reducible refine uis_8 ?_ | with_reducible refine uis_9 ?_ | with_reducible refine uis_sg (by omega) ?_ | with_reducible refine uis_hp (by omega) ?_ | with_reducible refine tE_nz (by decide) ?_ | with_reducible refine uo_0_1 ?_ | with_reducible refine uo_0_2 ?_ | with_reducible refine uo_0_3 ?_ | with_reducible refine uo_0_4 ?_ | with_reducible refine uo_0_6 ?_ | with_reducible refine uo_0_8 ?_ | with_reducible refine uo_0_10 ?_ | with_reducible refine uo_0_11 ?_ | with_reducible refine uo_0_12 ?_ | with_reducible refine uo_9_0 ?_ | with_reducible refine uo_9_7 ?_ | with_reducible refine uo_sf (by omega) ?_ | with_reducible refine uo_sv (by omega) ?_ | with_reducible refine uo_sy (by omega) ?_ | with_reducible refine uo_sw (by omega) ?_ | with_reducible refine uo_hr (by omega) ?_ | with_reducible refine uo_hs (by omega) ?_ | with_reducible refine ug_o ?_ | with_reducible refine ug_wn ?_ | with_reducible refine ug_cn ?_ | with_reducible refine ug_gn ?_ | with_reducible refine ug_ir ?_ | with_reducible refine ug_fa ?_ | with_reducible refine ug_cs ?_ | with_reducible refine ug_n ?_ | with_reducible refine ug_fn ?_ | with_reducible refine ug_li ?_ | with_reducible refine ug_ra ?_ | with_reducible refine ug_la ?_ | with_reducible refine ug_op ?_ | with_reducible refine ug_sm ?_ | with_reducible refine ug_gl ?_ | with_reducible refine ug_sp (by omega) ?_ | with_reducible refine ug_sn (by omega) ?_ | with_reducible refine ug_sr (by omega) ?_ | with_reducible refine ug_sl (by omega) ?_ | with_reducible refine ug_sb (by omega) ?_ | with_reducible refine ug_sa (by omega) ?_ | with_reducible refine ug_sg (by omega) ?_ | with_reducible refine ug_hm (by omega) ?_ | with_reducible refine ug_hw (by omega) ?_ | with_reducible refine ug_hh (by omega) ?_ | with_reducible refine ug_ho (by omega) ?_ | with_reducible refine ug_ht (by omega) ?_ | with_reducible refine ug_sL (by omega) ?_ | with_reducible refine un_sh ?_ | with_reducible refine ut_alenS ?_ | with_reducible refine ut_alenK ?_))
      rw [nI_1]
      exact ih _ _ ⟨j + 1, by omega, rfl, j2.app e3⟩ (by rw [nI_clamp (by omega), nI_clamp (by omega)]; omega)
  refine ug_sk (by omega) (by rw [hF.k]; exact w1) ?_
  rw [hF.k]
  refine tE_bindV (fun s0 Q' q => t_isK w1 (by unfold PJ4_ordinal; exact t_getK2 w1 (tw_ret q))) ?_
  refine tE_jn (tE_jn (tE_jn ?_))
  rcases k10 w1 with e | e | e | e | e | e | e | e | e | e
  · rw [e]
    (repeat first | refine tE_swT (by decide) ?_ | refine tE_swF (by decide) ?_ | refine tE_swN ?_)
    refine loopB _ (fun t1 h => k t1 h) t ?_
    have : lKind t0 g = [] := by unfold lKind; rw [e]; rfl
    rw [this]; exact wE.nil
  · rw [e]
    (repeat first | refine tE_swT (by decide) ?_ | refine tE_swF (by decide) ?_ | refine tE_swN ?_)
    refine tE_putRegion hg w (by omega) hF (by omega) fun t1 e1 => loopB _ (fun t1 h => k t1 h) t1 ?_
    have : lKind t0 g = lReg t0 g := by unfold lKind; rw [if_pos (by omega)]
    rw [this]; exact e1
  · rw [e]
    (repeat first | refine tE_swT (by decide) ?_ | refine tE_swF (by decide) ?_ | refine tE_swN ?_)
    refine tE_putRegion hg w (by omega) hF (by omega) fun t1 e1 => loopB _ (fun t1 h => k t1 h) t1 ?_
    have : lKind t0 g = lReg t0 g := by unfold lKind; rw [if_pos (by omega)]
    rw [this]; exact e1
  · rw [e]
    (repeat first | refine tE_swT (by decide) ?_ | refine tE_swF (by decide) ?_ | refine tE_swN ?_)
    refine tE_putRegion hg w (by omega) hF (by omega) fun t1 e1 => loopB _ (fun t1 h => k t1 h) t1 ?_
    have : lKind t0 g = lReg t0 g := by unfold lKind; rw [if_pos (by omega)]
    rw [this]; exact e1
  · rw [e]
    (repeat first | refine tE_swT (by decide) ?_ | refine tE_swF (by decide) ?_ | refine tE_swN ?_)
    have ek : lKind t0 g = l4 (nI (ti t0 (27, g, 0))) ++ (l4 (if ti t0 (27, g, 1) = 0 then -1 else nI (ti t0 (27, g, 1))) ++ ([bN (nI (ti t0 (27, g, 2)))] ++ [bN (nI (ti t0 (27, g, 3)))])) := by unfold lKind; rw [if_neg (by omega), if_pos e]
    obtain ⟨a0, a1, a2, a3⟩ := w9.2.1 e
    refine tE_cgV (by omega) (fun s0 Q' q => t_wide (by omega) q) ?_
    rw [hF.v (by decide) (by decide)]
    refine tE_putFour (by omega) fun t1 e1 => ?_
    have f1 : ti t1 (1, 0, 0) = ti t (1, 0, 0) + 4 := e1.2.1
    have hF1 := hF.tr e1.1
    refine tE_cgV (by omega) (fun s0 Q' q => t_high (by omega) q) ?_
    rw [hF1.v (by decide) (by decide)]
    have rest : ∀ (Q2 : (bF ⊕ Unit) → bT → Prop), (∀ t1, wE t (lDat t0 g) t1 → Q2 (.inr ()) t1) → ∀ v : Int32, v = (if ti t0 (27, g, 1) = 0 then -1 else nI (ti t0 (27, g, 1))) → tE C sa (bp_bind (bp_is 0 (C + 0) (PX1_putFour (C + 0) v)) fun _ => bp_getN 3 6 (C + bv_sg g) fun a18 => bp_aldI 20 a18 (2 : Int32) fun x19 => bp_bind (bp_is 0 (C + 0) (PX1_put (C + 0) x19)) fun _ => bp_getN 3 6 (C + bv_sg g) fun a20 => bp_aldI 20 a20 (3 : Int32) fun x21 => bp_bind (bp_is 0 (C + 0) (PX1_put (C + 0) x21)) fun _ => bp_loop (fun _ => bp_no) (BX1_putData_129 (C + 0) (C + bv_sg g)) (fun k => k (0 : Int32))) t1 Q2 := fun Q2 kk v hv => by
      refine tE_putFour (by omega) fun t2 e2 => ?_
      have f2 : ti t2 (1, 0, 0) = ti t1 (1, 0, 0) + 4 := e2.2.1
      have hF2 := hF1.tr e2.1
      (repeat (first | with_reducible refine tE_letI ?_ | with_reducible refine tE_letL ?_ | with_reducible refine tE_nnS ?_ | with_reducible refine uis_0 ?_ | with_reducible refine uis_1 ?_ | with_reducible refine uis_8 ?_ | with_reducible refine uis_9 ?_ | with_reducible refine uis_sg (by omega) ?_ | with_reducible refine uis_hp (by omega) ?_ | with_reducible refine tE_nz (by decide) ?_ | with_reducible refine uo_0_1 ?_ | with_reducible refine uo_0_2 ?_ | with_reducible refine uo_0_3 ?_ | with_reducible refine uo_0_4 ?_ | with_reducible refine uo_0_6 ?_ | with_reducible refine uo_0_8 ?_ | with_reducible refine uo_0_10 ?_ | with_reducible refine uo_0_11 ?_ | with_reducible refine uo_0_12 ?_ | with_reducible refine uo_9_0 ?_ | with_reducible refine uo_9_7 ?_ | with_reducible refine uo_sf (by omega) ?_ | with_reducible refine uo_sv (by omega) ?_ | with_reducible refine uo_sy (by omega) ?_ | with_reducible refine uo_sw (by omega) ?_ | with_reducible refine uo_hr (by omega) ?_ | with_reducible refine uo_hs (by omega) ?_ | with_reducible refine ug_o ?_ | with_reducible refine ug_wn ?_ | with_reducible refine ug_cn ?_ | with_reducible refine ug_gn ?_ | with_reducible refine ug_ir ?_ | with_reducible refine ug_fa ?_ | with_reducible refine ug_cs ?_ | with_reducible refine ug_n ?_ | with_reducible refine ug_fn ?_ | with_reducible refine ug_li ?_ | with_reducible refine ug_ra ?_ | with_reducible refine ug_la ?_ | with_reducible refine ug_op ?_ | with_reducible refine ug_sm ?_ | with_reducible refine ug_gl ?_ | with_reducible refine ug_sp (by omega) ?_ | with_reducible refine ug_sn (by omega) ?_ | with_reducible refine ug_sr (by omega) ?_ | with_reducible refine ug_sl (by omega) ?_ | with_reducible refine ug_sb (by omega) ?_ | with_reducible refine ug_sa (by omega) ?_ | with_reducible refine ug_sg (by omega) ?_ | with_reducible refine ug_hm (by omega) ?_ | with_reducible refine ug_hw (by omega) ?_ | with_reducible refine ug_hh (by omega) ?_ | with_reducible refine ug_ho (by omega) ?_ | with_reducible refine ug_ht (by omega) ?_ | with_reducible refine ug_sL (by omega) ?_ | with_reducible refine un_sh ?_ | with_reducible refine ut_alenS ?_ | with_reducible refine ut_alenK ?_))
      refine ug_sv 2 (by omega) rfl (by omega) ?_
      rw [hF2.v (by decide) (by decide)]
      refine tE_put (by omega) fun t3 e3 => ?_
      have f3 : ti t3 (1, 0, 0) = ti t2 (1, 0, 0) + 1 := e3.2.1
      have hF3 := hF2.tr e3.1
      (repeat (first | with_reducible refine tE_letI ?_ | with_reducible refine tE_letL ?_ | with_reducible refine tE_nnS ?_ | with_reducible refine uis_0 ?_ | with_reducible refine uis_1 ?_ | with_reducible refine uis_8 ?_ | with_reducible refine uis_9 ?_ | with_reducible refine uis_sg (by omega) ?_ | with_reducible refine uis_hp (by omega) ?_ | with_reducible refine tE_nz (by decide) ?_ | with_reducible refine uo_0_1 ?_ | with_reducible refine uo_0_2 ?_ | with_reducible refine uo_0_3 ?_ | with_reducible refine uo_0_4 ?_ | with_reducible refine uo_0_6 ?_ | with_reducible refine uo_0_8 ?_ | with_reducible refine uo_0_10 ?_ | with_reducible refine uo_0_11 ?_ | with_reducible refine uo_0_12 ?_ | with_reducible refine uo_9_0 ?_ | with_reducible refine uo_9_7 ?_ | with_reducible refine uo_sf (by omega) ?_ | with_reducible refine uo_sv (by omega) ?_ | with_reducible refine uo_sy (by omega) ?_ | with_reducible refine uo_sw (by omega) ?_ | with_reducible refine uo_hr (by omega) ?_ | with_reducible refine uo_hs (by omega) ?_ | with_reducible refine ug_o ?_ | with_reducible refine ug_wn ?_ | with_reducible refine ug_cn ?_ | with_reducible refine ug_gn ?_ | with_reducible refine ug_ir ?_ | with_reducible refine ug_fa ?_ | with_reducible refine ug_cs ?_ | with_reducible refine ug_n ?_ | with_reducible refine ug_fn ?_ | with_reducible refine ug_li ?_ | with_reducible refine ug_ra ?_ | with_reducible refine ug_la ?_ | with_reducible refine ug_op ?_ | with_reducible refine ug_sm ?_ | with_reducible refine ug_gl ?_ | with_reducible refine ug_sp (by omega) ?_ | with_reducible refine ug_sn (by omega) ?_ | with_reducible refine ug_sr (by omega) ?_ | with_reducible refine ug_sl (by omega) ?_ | with_reducible refine ug_sb (by omega) ?_ | with_reducible refine ug_sa (by omega) ?_ | with_reducible refine ug_sg (by omega) ?_ | with_reducible refine ug_hm (by omega) ?_ | with_reducible refine ug_hw (by omega) ?_ | with_reducible refine ug_hh (by omega) ?_ | with_reducible refine ug_ho (by omega) ?_ | with_reducible refine ug_ht (by omega) ?_ | with_reducible refine ug_sL (by omega) ?_ | with_reducible refine un_sh ?_ | with_reducible refine ut_alenS ?_ | with_reducible refine ut_alenK ?_))
      refine ug_sv 3 (by omega) rfl (by omega) ?_
      rw [hF3.v (by decide) (by decide)]
      refine tE_put (by omega) fun t4 e4 => loopB Q2 kk t4 ?_
      rw [ek, ← hv]
      exact e1.app (e2.app (e3.app e4))
    by_cases h0 : ti t0 (27, g, 1) = 0
    · refine tE_jn (tE_ifT (by rw [h0]; rfl) (rest _ (fun t1 h => k t1 h) (-1) (by rw [if_pos h0])))
    · refine tE_jn (tE_ifF (nI_ne0 (by omega) (by omega)) ?_)
      refine tE_cgV (by omega) (fun s0 Q' q => t_high (by omega) q) ?_
      rw [hF1.v (by decide) (by decide)]
      exact rest _ (fun t1 h => k t1 h) _ (by rw [if_neg h0])
  · rw [e]
    (repeat first | refine tE_swT (by decide) ?_ | refine tE_swF (by decide) ?_ | refine tE_swN ?_)
    refine loopB _ (fun t1 h => k t1 h) t ?_
    have : lKind t0 g = [] := by unfold lKind; rw [e]; rfl
    rw [this]; exact wE.nil
  · rw [e]
    (repeat first | refine tE_swT (by decide) ?_ | refine tE_swF (by decide) ?_ | refine tE_swN ?_)
    (repeat (first | with_reducible refine tE_letI ?_ | with_reducible refine tE_letL ?_ | with_reducible refine tE_nnS ?_ | with_reducible refine uis_0 ?_ | with_reducible refine uis_1 ?_ | with_reducible refine uis_8 ?_ | with_reducible refine uis_9 ?_ | with_reducible refine uis_sg (by omega) ?_ | with_reducible refine uis_hp (by omega) ?_ | with_reducible refine tE_nz (by decide) ?_ | with_reducible refine uo_0_1 ?_ | with_reducible refine uo_0_2 ?_ | with_reducible refine uo_0_3 ?_ | with_reducible refine uo_0_4 ?_ | with_reducible refine uo_0_6 ?_ | with_reducible refine uo_0_8 ?_ | with_reducible refine uo_0_10 ?_ | with_reducible refine uo_0_11 ?_ | with_reducible refine uo_0_12 ?_ | with_reducible refine uo_9_0 ?_ | with_reducible refine uo_9_7 ?_ | with_reducible refine uo_sf (by omega) ?_ | with_reducible refine uo_sv (by omega) ?_ | with_reducible refine uo_sy (by omega) ?_ | with_reducible refine uo_sw (by omega) ?_ | with_reducible refine uo_hr (by omega) ?_ | with_reducible refine uo_hs (by omega) ?_ | with_reducible refine ug_o ?_ | with_reducible refine ug_wn ?_ | with_reducible refine ug_cn ?_ | with_reducible refine ug_gn ?_ | with_reducible refine ug_ir ?_ | with_reducible refine ug_fa ?_ | with_reducible refine ug_cs ?_ | with_reducible refine ug_n ?_ | with_reducible refine ug_fn ?_ | with_reducible refine ug_li ?_ | with_reducible refine ug_ra ?_ | with_reducible refine ug_la ?_ | with_reducible refine ug_op ?_ | with_reducible refine ug_sm ?_ | with_reducible refine ug_gl ?_ | with_reducible refine ug_sp (by omega) ?_ | with_reducible refine ug_sn (by omega) ?_ | with_reducible refine ug_sr (by omega) ?_ | with_reducible refine ug_sl (by omega) ?_ | with_reducible refine ug_sb (by omega) ?_ | with_reducible refine ug_sa (by omega) ?_ | with_reducible refine ug_sg (by omega) ?_ | with_reducible refine ug_hm (by omega) ?_ | with_reducible refine ug_hw (by omega) ?_ | with_reducible refine ug_hh (by omega) ?_ | with_reducible refine ug_ho (by omega) ?_ | with_reducible refine ug_ht (by omega) ?_ | with_reducible refine ug_sL (by omega) ?_ | with_reducible refine un_sh ?_ | with_reducible refine ut_alenS ?_ | with_reducible refine ut_alenK ?_))
    refine ug_sv 0 (by omega) rfl (by omega) ?_
    rw [hF.v (by decide) (by decide)]
    refine tE_putFour (by omega) fun t1 e1 => loopB _ (fun t1 h => k t1 h) t1 ?_
    have : lKind t0 g = l4 (nI (ti t0 (27, g, 0))) := by unfold lKind; rw [if_neg (by omega), if_neg (by omega), if_pos (by omega)]
    rw [this]; exact e1
  · rw [e]
    (repeat first | refine tE_swT (by decide) ?_ | refine tE_swF (by decide) ?_ | refine tE_swN ?_)
    refine loopB _ (fun t1 h => k t1 h) t ?_
    have : lKind t0 g = [] := by unfold lKind; rw [e]; rfl
    rw [this]; exact wE.nil
  · rw [e]
    (repeat first | refine tE_swT (by decide) ?_ | refine tE_swF (by decide) ?_ | refine tE_swN ?_)
    refine loopB _ (fun t1 h => k t1 h) t ?_
    have : lKind t0 g = [] := by unfold lKind; rw [e]; rfl
    rw [this]; exact wE.nil
  · rw [e]
    (repeat first | refine tE_swT (by decide) ?_ | refine tE_swF (by decide) ?_ | refine tE_swN ?_)
    (repeat (first | with_reducible refine tE_letI ?_ | with_reducible refine tE_letL ?_ | with_reducible refine tE_nnS ?_ | with_reducible refine uis_0 ?_ | with_reducible refine uis_1 ?_ | with_reducible refine uis_8 ?_ | with_reducible refine uis_9 ?_ | with_reducible refine uis_sg (by omega) ?_ | with_reducible refine uis_hp (by omega) ?_ | with_reducible refine tE_nz (by decide) ?_ | with_reducible refine uo_0_1 ?_ | with_reducible refine uo_0_2 ?_ | with_reducible refine uo_0_3 ?_ | with_reducible refine uo_0_4 ?_ | with_reducible refine uo_0_6 ?_ | with_reducible refine uo_0_8 ?_ | with_reducible refine uo_0_10 ?_ | with_reducible refine uo_0_11 ?_ | with_reducible refine uo_0_12 ?_ | with_reducible refine uo_9_0 ?_ | with_reducible refine uo_9_7 ?_ | with_reducible refine uo_sf (by omega) ?_ | with_reducible refine uo_sv (by omega) ?_ | with_reducible refine uo_sy (by omega) ?_ | with_reducible refine uo_sw (by omega) ?_ | with_reducible refine uo_hr (by omega) ?_ | with_reducible refine uo_hs (by omega) ?_ | with_reducible refine ug_o ?_ | with_reducible refine ug_wn ?_ | with_reducible refine ug_cn ?_ | with_reducible refine ug_gn ?_ | with_reducible refine ug_ir ?_ | with_reducible refine ug_fa ?_ | with_reducible refine ug_cs ?_ | with_reducible refine ug_n ?_ | with_reducible refine ug_fn ?_ | with_reducible refine ug_li ?_ | with_reducible refine ug_ra ?_ | with_reducible refine ug_la ?_ | with_reducible refine ug_op ?_ | with_reducible refine ug_sm ?_ | with_reducible refine ug_gl ?_ | with_reducible refine ug_sp (by omega) ?_ | with_reducible refine ug_sn (by omega) ?_ | with_reducible refine ug_sr (by omega) ?_ | with_reducible refine ug_sl (by omega) ?_ | with_reducible refine ug_sb (by omega) ?_ | with_reducible refine ug_sa (by omega) ?_ | with_reducible refine ug_sg (by omega) ?_ | with_reducible refine ug_hm (by omega) ?_ | with_reducible refine ug_hw (by omega) ?_ | with_reducible refine ug_hh (by omega) ?_ | with_reducible refine ug_ho (by omega) ?_ | with_reducible refine ug_ht (by omega) ?_ | with_reducible refine ug_sL (by omega) ?_ | with_reducible refine un_sh ?_ | with_reducible refine ut_alenS ?_ | with_reducible refine ut_alenK ?_))
    refine ug_sv 0 (by omega) rfl (by omega) ?_
    rw [hF.v (by decide) (by decide)]
    refine tE_putFour (by omega) fun t1 e1 => loopB _ (fun t1 h => k t1 h) t1 ?_
    have : lKind t0 g = l4 (nI (ti t0 (27, g, 0))) := by unfold lKind; rw [if_neg (by omega), if_neg (by omega), if_pos (by omega)]
    rw [this]; exact e1
theorem tE_sizeOf {g : Nat} {K : Int32 → bp_M β} (hg : g < 30) (w : wG t0 g) (hF : wF t0 t) (hb : ti t (1, 0, 0) + 100 ≤ 6000) (k : ∀ t1, wE t [] t1 → tE C sa (K (lSz t0 g)) t1 Q) : tE C sa (bp_bind (bp_is 0 (C + 0) (PX1_sizeOf (C + 0) (C + bv_sg g))) K) t Q := by
  have w1 := w.1
  have h5 : ti t0 (27, g, 5) ≤ 1 ∨ tk t0 g ≠ 3 := by
    by_cases e : tk t0 g = 3
    · exact Or.inl (w.2.2.2.2.2.2.2.2.1 (by omega)).2.2.2.2.2
    · exact Or.inr e
  refine tE_c0 ?_
  unfold PX1_sizeOf
  refine tE_isOpen hg h5 w1 hF (fun ho => ?_) (fun ho => ?_)
  · refine tE_ifF (by decide) (tE_ret ?_)
    have : lSz t0 g = -1 := if_pos ho
    rw [this] at k
    exact k t wE.nil
  · have e0 : lSz t0 g = nI (lDat t0 g).length := if_neg ho
    rw [e0] at k
    refine tE_ifT rfl ?_
    (repeat (first | with_reducible refine tE_letI ?_ | with_reducible refine tE_letL ?_ | with_reducible refine tE_nnS ?_ | with_reducible refine uis_0 ?_ | with_reducible refine uis_1 ?_ | with_reducible refine uis_8 ?_ | with_reducible refine uis_9 ?_ | with_reducible refine uis_sg (by omega) ?_ | with_reducible refine uis_hp (by omega) ?_ | with_reducible refine tE_nz (by decide) ?_ | with_reducible refine uo_0_1 ?_ | with_reducible refine uo_0_2 ?_ | with_reducible refine uo_0_3 ?_ | with_reducible refine uo_0_4 ?_ | with_reducible refine uo_0_6 ?_ | with_reducible refine uo_0_8 ?_ | with_reducible refine uo_0_10 ?_ | with_reducible refine uo_0_11 ?_ | with_reducible refine uo_0_12 ?_ | with_reducible refine uo_9_0 ?_ | with_reducible refine uo_9_7 ?_ | with_reducible refine uo_sf (by omega) ?_ | with_reducible refine uo_sv (by omega) ?_ | with_reducible refine uo_sy (by omega) ?_ | with_reducible refine uo_sw (by omega) ?_ | with_reducible refine uo_hr (by omega) ?_ | with_reducible refine uo_hs (by omega) ?_ | with_reducible refine ug_o ?_ | with_reducible refine ug_wn ?_ | with_reducible refine ug_cn ?_ | with_reducible refine ug_gn ?_ | with_reducible refine ug_ir ?_ | with_reducible refine ug_fa ?_ | with_reducible refine ug_cs ?_ | with_reducible refine ug_n ?_ | with_reducible refine ug_fn ?_ | with_reducible refine ug_li ?_ | with_reducible refine ug_ra ?_ | with_reducible refine ug_la ?_ | with_reducible refine ug_op ?_ | with_reducible refine ug_sm ?_ | with_reducible refine ug_gl ?_ | with_reducible refine ug_sp (by omega) ?_ | with_reducible refine ug_sn (by omega) ?_ | with_reducible refine ug_sr (by omega) ?_ | with_reducible refine ug_sl (by omega) ?_ | with_reducible refine ug_sb (by omega) ?_ | with_reducible refine ug_sa (by omega) ?_ | with_reducible refine ug_sg (by omega) ?_ | with_reducible refine ug_hm (by omega) ?_ | with_reducible refine ug_hw (by omega) ?_ | with_reducible refine ug_hh (by omega) ?_ | with_reducible refine ug_ho (by omega) ?_ | with_reducible refine ug_ht (by omega) ?_ | with_reducible refine ug_sL (by omega) ?_ | with_reducible refine un_sh ?_ | with_reducible refine ut_alenS ?_ | with_reducible refine ut_alenK ?_))
    refine tE_putData hg w hF hb fun t1 e1 => ?_
    have l1 := e1.2.1
    (repeat (first | with_reducible refine tE_letI ?_ | with_reducible refine tE_letL ?_ | with_reducible refine tE_nnS ?_ | with_reducible refine uis_0 ?_ | with_reducible refine uis_1 ?_ | with_reducible refine uis_8 ?_ | with_reducible refine uis_9 ?_ | with_reducible refine uis_sg (by omega) ?_ | with_reducible refine uis_hp (by omega) ?_ | with_reducible refine tE_nz (by decide) ?_ | with_reducible refine uo_0_1 ?_ | with_reducible refine uo_0_2 ?_ | with_reducible refine uo_0_3 ?_ | with_reducible refine uo_0_4 ?_ | with_reducible refine uo_0_6 ?_ | with_reducible refine uo_0_8 ?_ | with_reducible refine uo_0_10 ?_ | with_reducible refine uo_0_11 ?_ | with_reducible refine uo_0_12 ?_ | with_reducible refine uo_9_0 ?_ | with_reducible refine uo_9_7 ?_ | with_reducible refine uo_sf (by omega) ?_ | with_reducible refine uo_sv (by omega) ?_ | with_reducible refine uo_sy (by omega) ?_ | with_reducible refine uo_sw (by omega) ?_ | with_reducible refine uo_hr (by omega) ?_ | with_reducible refine uo_hs (by omega) ?_ | with_reducible refine ug_o ?_ | with_reducible refine ug_wn ?_ | with_reducible refine ug_cn ?_ | with_reducible refine ug_gn ?_ | with_reducible refine ug_ir ?_ | with_reducible refine ug_fa ?_ | with_reducible refine ug_cs ?_ | with_reducible refine ug_n ?_ | with_reducible refine ug_fn ?_ | with_reducible refine ug_li ?_ | with_reducible refine ug_ra ?_ | with_reducible refine ug_la ?_ | with_reducible refine ug_op ?_ | with_reducible refine ug_sm ?_ | with_reducible refine ug_gl ?_ | with_reducible refine ug_sp (by omega) ?_ | with_reducible refine ug_sn (by omega) ?_ | with_reducible refine ug_sr (by omega) ?_ | with_reducible refine ug_sl (by omega) ?_ | with_reducible refine ug_sb (by omega) ?_ | with_reducible refine ug_sa (by omega) ?_ | with_reducible refine ug_sg (by omega) ?_ | with_reducible refine ug_hm (by omega) ?_ | with_reducible refine ug_hw (by omega) ?_ | with_reducible refine ug_hh (by omega) ?_ | with_reducible refine ug_ho (by omega) ?_ | with_reducible refine ug_ht (by omega) ?_ | with_reducible refine ug_sL (by omega) ?_ | with_reducible refine un_sh ?_ | with_reducible refine ut_alenS ?_ | with_reducible refine ut_alenK ?_))
    rw [l1, pk_sub (by omega), show ti t (1, 0, 0) + (lDat t0 g).length - ti t (1, 0, 0) = (lDat t0 g).length by omega]
    refine up_wn (ti t (1, 0, 0)) rfl (tE_ret (k _ ⟨⟨fun l h1 h2 => (ti_c h1).trans (e1.1.1 l h1 h2), e1.1.2⟩, ti_e, fun i hi => absurd hi (Nat.not_lt_zero i), fun j hj => ?_, e1.2.2.2.2⟩))
    rw [ti_d (by decide)]
    exact e1.2.2.2.1 j hj
end PT
