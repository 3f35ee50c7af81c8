/-! The class's small methods -/
set_option maxRecDepth 100000
section SM
variable {α β : Type} {C : Nat} {sa : Nat → Nat} {s0 : bv_S} {t : bT}
theorem t_byteAt {x : Int32} (j : Nat) (hx : x = nI j) (hj : j < 3000) (hB : ti t (18, j, 0) < 256) {Q : (bv_E ⊕ Int32) → bT → Prop} (k : Q (.inr (nI (ti t (18, j, 0)))) t) : tw C sa s0 (PX2_byteAt (C + 9) x) t Q := by
  unfold PX2_byteAt
  exact o_9_0 (g_al j hx hj (tw_ret (by rw [cb_k hB]; exact k)))
/-- four bytes of the reader's -/
def b4 (t : bT) (j : Nat) : Nat := f4 (ti t (18, j, 0)) (ti t (18, j + 1, 0)) (ti t (18, j + 2, 0)) (ti t (18, j + 3, 0))
theorem t_four {x : Int32} (j : Nat) (hx : x = nI j) (hj : j + 3 < 3000) (hB : ∀ i, ti t (18, i, 0) < 256) {Q : (bv_E ⊕ Int64) → bT → Prop} (k : Q (.inr (lN (b4 t j))) t) : tw C sa s0 (PX2_four (C + 9) x) t Q := by
  subst hx
  unfold PX2_four
  refine tw_bindV (fun Q' q => is_9 (t_byteAt j rfl (by omega) (hB _) q)) ?_
  refine tw_bindV (fun Q' q => is_9 (t_byteAt (j + 1) (nI_1 j) (by omega) (hB _) q)) ?_
  refine tw_bindV (fun Q' q => is_9 (t_byteAt (j + 2) (nI_add j 2) (by omega) (hB _) q)) ?_
  refine tw_bindV (fun Q' q => is_9 (t_byteAt (j + 3) (nI_add j 3) (by omega) (hB _) q)) ?_
  exact tw_ret (by rw [f4_L (hB _) (hB _) (hB _) (hB _)]; exact k)
theorem t_needBytes {l : Int64} (n : Nat) (hl : l = lN n) (hn : n < 2 ^ 40) (h1 : ti t (10, 0, 0) < 2 ^ 31) (h2 : ti t (9, 0, 0) < 2 ^ 31) {Q : (bv_E ⊕ Unit) → bT → Prop} (k1 : ti t (10, 0, 0) + n ≤ ti t (9, 0, 0) → Q (.inr ()) t) (k2 : ti t (9, 0, 0) < ti t (10, 0, 0) + n → ∀ a, Q (.inl (5, a, 1, nI (ti t (9, 0, 0)))) (st (sz t 1 8) none)) : tw C sa s0 (PX2_needBytes (C + 9) l) t Q := by
  subst hl
  unfold PX2_needBytes
  (repeat (first | with_reducible refine tw_letI ?_ | with_reducible refine tw_letL ?_ | with_reducible refine tw_nnS ?_ | with_reducible refine is_0 ?_ | with_reducible refine is_1 ?_ | with_reducible refine is_8 ?_ | with_reducible refine is_9 ?_ | with_reducible refine is_sg (by omega) ?_ | with_reducible refine is_hp (by omega) ?_ | with_reducible refine tw_nz (by decide) ?_ | with_reducible refine o_0_1 ?_ | with_reducible refine o_0_2 ?_ | with_reducible refine o_0_3 ?_ | with_reducible refine o_0_4 ?_ | with_reducible refine o_0_6 ?_ | with_reducible refine o_0_8 ?_ | with_reducible refine o_0_10 ?_ | with_reducible refine o_0_11 ?_ | with_reducible refine o_0_12 ?_ | with_reducible refine o_9_0 ?_ | with_reducible refine o_9_7 ?_ | with_reducible refine o_sf (by omega) ?_ | with_reducible refine o_sv (by omega) ?_ | with_reducible refine o_sy (by omega) ?_ | with_reducible refine o_sw (by omega) ?_ | with_reducible refine o_hr (by omega) ?_ | with_reducible refine o_hs (by omega) ?_ | with_reducible refine g_o ?_ | with_reducible refine g_wn ?_ | with_reducible refine g_cn ?_ | with_reducible refine g_gn ?_ | with_reducible refine g_ir ?_ | with_reducible refine g_fa ?_ | with_reducible refine g_cs ?_ | with_reducible refine g_n ?_ | with_reducible refine g_fn ?_ | with_reducible refine g_li ?_ | with_reducible refine g_ra ?_ | with_reducible refine g_la ?_ | with_reducible refine g_op ?_ | with_reducible refine g_sm ?_ | with_reducible refine g_gl ?_ | with_reducible refine g_sp (by omega) ?_ | with_reducible refine g_sn (by omega) ?_ | with_reducible refine g_sr (by omega) ?_ | with_reducible refine g_sl (by omega) ?_ | with_reducible refine g_sb (by omega) ?_ | with_reducible refine g_sa (by omega) ?_ | with_reducible refine g_sg (by omega) ?_ | with_reducible refine g_hm (by omega) ?_ | with_reducible refine g_hw (by omega) ?_ | with_reducible refine g_hh (by omega) ?_ | with_reducible refine g_ho (by omega) ?_ | with_reducible refine g_ht (by omega) ?_ | with_reducible refine n_sh ?_))
  refine tw_jnV (bz (ti t (10, 0, 0) + n ≤ ti t (9, 0, 0))) (fun K hK => ?_) ?_
  · rw [nI_l h1, nI_l h2, lN_add]
    refine tw_if (fun h => ?_) (fun h => ?_)
    · rw [lg_cmp_gt, lN_lt2 (by omega) (by omega)] at h
      rw [bz_F (by omega)] at hK; exact hK
    · rw [lg_cmp_gt, lN_lt2 (by omega) (by omega)] at h
      rw [bz_T (by omega)] at hK; exact hK
  · (repeat (first | with_reducible refine tw_letI ?_ | with_reducible refine tw_letL ?_ | with_reducible refine tw_nnS ?_ | with_reducible refine is_0 ?_ | with_reducible refine is_1 ?_ | with_reducible refine is_8 ?_ | with_reducible refine is_9 ?_ | with_reducible refine is_sg (by omega) ?_ | with_reducible refine is_hp (by omega) ?_ | with_reducible refine tw_nz (by decide) ?_ | with_reducible refine o_0_1 ?_ | with_reducible refine o_0_2 ?_ | with_reducible refine o_0_3 ?_ | with_reducible refine o_0_4 ?_ | with_reducible refine o_0_6 ?_ | with_reducible refine o_0_8 ?_ | with_reducible refine o_0_10 ?_ | with_reducible refine o_0_11 ?_ | with_reducible refine o_0_12 ?_ | with_reducible refine o_9_0 ?_ | with_reducible refine o_9_7 ?_ | with_reducible refine o_sf (by omega) ?_ | with_reducible refine o_sv (by omega) ?_ | with_reducible refine o_sy (by omega) ?_ | with_reducible refine o_sw (by omega) ?_ | with_reducible refine o_hr (by omega) ?_ | with_reducible refine o_hs (by omega) ?_ | with_reducible refine g_o ?_ | with_reducible refine g_wn ?_ | with_reducible refine g_cn ?_ | with_reducible refine g_gn ?_ | with_reducible refine g_ir ?_ | with_reducible refine g_fa ?_ | with_reducible refine g_cs ?_ | with_reducible refine g_n ?_ | with_reducible refine g_fn ?_ | with_reducible refine g_li ?_ | with_reducible refine g_ra ?_ | with_reducible refine g_la ?_ | with_reducible refine g_op ?_ | with_reducible refine g_sm ?_ | with_reducible refine g_gl ?_ | with_reducible refine g_sp (by omega) ?_ | with_reducible refine g_sn (by omega) ?_ | with_reducible refine g_sr (by omega) ?_ | with_reducible refine g_sl (by omega) ?_ | with_reducible refine g_sb (by omega) ?_ | with_reducible refine g_sa (by omega) ?_ | with_reducible refine g_sg (by omega) ?_ | with_reducible refine g_hm (by omega) ?_ | with_reducible refine g_hw (by omega) ?_ | with_reducible refine g_hh (by omega) ?_ | with_reducible refine g_ho (by omega) ?_ | with_reducible refine g_ht (by omega) ?_ | with_reducible refine n_sh ?_))
    refine tw_bind (t_need (fun h => ?_) (fun h a => ?_))
    · exact tw_ret (k1 h)
    · exact k2 (by omega) a
theorem t_kindOf {x : Int32} {Q : (bv_E ⊕ Option Nat) → bT → Prop} (k1 : ∀ k, k < 10 → bv_code k = x → Q (.inr (some (sa (11 + k)))) t) (k2 : (∀ k, k < 10 → bv_code k ≠ x) → Q (.inr none) t) : tw C sa s0 (PX1_kindOf x) t Q := by
  unfold PX1_kindOf
  refine t_gets (by omega) (t_alenK ?_)
  refine tw_loop (fun (k : Int32 → bp_M (Option Nat)) (a : Int32) => k a) 0 rfl (fun a t1 => t1 = t ∧ ∃ i, i ≤ 10 ∧ a = nI i ∧ ∀ j, j < i → bv_code j ≠ x) (fun a _ => 10 - a.toNatClampNeg) (fun a t1 h => by unfold bv_fu; omega) (fun K a t1 h ih => ?_) ⟨rfl, 0, by omega, rfl, fun j hj => by omega⟩
  obtain ⟨rfl, i, h1, rfl, h3⟩ := h
  unfold BX1_kindOf_9
  refine tw_if (fun h => ?_) (fun h => ?_)
  · rw [nI_leI (by omega) (by omega)] at h
    exact tw_ret (k2 fun k hk => h3 k (by omega))
  · rw [nI_leI (by omega) (by omega)] at h
    refine t_aldK i rfl (by omega) (t_getK0 (by omega) ?_)
    refine tw_if (fun h4 => ?_) (fun h4 => ?_)
    · exact tw_ret (k1 i (by omega) h4)
    · (repeat (first | with_reducible refine tw_letI ?_ | with_reducible refine tw_letL ?_ | with_reducible refine tw_nnS ?_ | with_reducible refine is_0 ?_ | with_reducible refine is_1 ?_ | with_reducible refine is_8 ?_ | with_reducible refine is_9 ?_ | with_reducible refine is_sg (by omega) ?_ | with_reducible refine is_hp (by omega) ?_ | with_reducible refine tw_nz (by decide) ?_ | with_reducible refine o_0_1 ?_ | with_reducible refine o_0_2 ?_ | with_reducible refine o_0_3 ?_ | with_reducible refine o_0_4 ?_ | with_reducible refine o_0_6 ?_ | with_reducible refine o_0_8 ?_ | with_reducible refine o_0_10 ?_ | with_reducible refine o_0_11 ?_ | with_reducible refine o_0_12 ?_ | with_reducible refine o_9_0 ?_ | with_reducible refine o_9_7 ?_ | with_reducible refine o_sf (by omega) ?_ | with_reducible refine o_sv (by omega) ?_ | with_reducible refine o_sy (by omega) ?_ | with_reducible refine o_sw (by omega) ?_ | with_reducible refine o_hr (by omega) ?_ | with_reducible refine o_hs (by omega) ?_ | with_reducible refine g_o ?_ | with_reducible refine g_wn ?_ | with_reducible refine g_cn ?_ | with_reducible refine g_gn ?_ | with_reducible refine g_ir ?_ | with_reducible refine g_fa ?_ | with_reducible refine g_cs ?_ | with_reducible refine g_n ?_ | with_reducible refine g_fn ?_ | with_reducible refine g_li ?_ | with_reducible refine g_ra ?_ | with_reducible refine g_la ?_ | with_reducible refine g_op ?_ | with_reducible refine g_sm ?_ | with_reducible refine g_gl ?_ | with_reducible refine g_sp (by omega) ?_ | with_reducible refine g_sn (by omega) ?_ | with_reducible refine g_sr (by omega) ?_ | with_reducible refine g_sl (by omega) ?_ | with_reducible refine g_sb (by omega) ?_ | with_reducible refine g_sa (by omega) ?_ | with_reducible refine g_sg (by omega) ?_ | with_reducible refine g_hm (by omega) ?_ | with_reducible refine g_hw (by omega) ?_ | with_reducible refine g_hh (by omega) ?_ | with_reducible refine g_ho (by omega) ?_ | with_reducible refine g_ht (by omega) ?_ | with_reducible refine n_sh ?_))
      rw [nI_1]
      exact ih _ _ ⟨rfl, i + 1, by omega, rfl, fun j hj => by
        by_cases e : j = i
        · rw [e]; exact h4
        · exact h3 j (by omega)⟩ (by rw [nI_clamp (by omega), nI_clamp (by omega)]; omega)
theorem t_wide {g : Nat} (hg : g < 286) {Q : (bv_E ⊕ Int32) → bT → Prop} (k : Q (.inr (nI (ti t (27, g, 0)))) t) : tw C sa s0 (PX4_wide (C + bv_sg g)) t Q := by
  unfold PX4_wide
  exact o_sv hg (g_sv 0 hg rfl (by omega) (tw_ret k))
theorem t_high {g : Nat} (hg : g < 286) {Q : (bv_E ⊕ Int32) → bT → Prop} (k : Q (.inr (nI (ti t (27, g, 1)))) t) : tw C sa s0 (PX4_high (C + bv_sg g)) t Q := by
  unfold PX4_high
  exact o_sv hg (g_sv 1 hg rfl (by omega) (tw_ret k))
theorem t_rowBytes {g : Nat} (hg : g < 286) (hw : ti t (27, g, 0) < 2 ^ 30) {Q : (bv_E ⊕ Int32) → bT → Prop} (k : Q (.inr (nI ((ti t (27, g, 0) + 7) / 8))) t) : tw C sa s0 (PX4_rowBytes (C + bv_sg g)) t Q := by
  unfold PX4_rowBytes
  refine tw_bindV (fun Q' q => is_sg hg (t_wide hg q)) ?_
  (repeat (first | with_reducible refine tw_letI ?_ | with_reducible refine tw_letL ?_ | with_reducible refine tw_nnS ?_ | with_reducible refine is_0 ?_ | with_reducible refine is_1 ?_ | with_reducible refine is_8 ?_ | with_reducible refine is_9 ?_ | with_reducible refine is_sg (by omega) ?_ | with_reducible refine is_hp (by omega) ?_ | with_reducible refine tw_nz (by decide) ?_ | with_reducible refine o_0_1 ?_ | with_reducible refine o_0_2 ?_ | with_reducible refine o_0_3 ?_ | with_reducible refine o_0_4 ?_ | with_reducible refine o_0_6 ?_ | with_reducible refine o_0_8 ?_ | with_reducible refine o_0_10 ?_ | with_reducible refine o_0_11 ?_ | with_reducible refine o_0_12 ?_ | with_reducible refine o_9_0 ?_ | with_reducible refine o_9_7 ?_ | with_reducible refine o_sf (by omega) ?_ | with_reducible refine o_sv (by omega) ?_ | with_reducible refine o_sy (by omega) ?_ | with_reducible refine o_sw (by omega) ?_ | with_reducible refine o_hr (by omega) ?_ | with_reducible refine o_hs (by omega) ?_ | with_reducible refine g_o ?_ | with_reducible refine g_wn ?_ | with_reducible refine g_cn ?_ | with_reducible refine g_gn ?_ | with_reducible refine g_ir ?_ | with_reducible refine g_fa ?_ | with_reducible refine g_cs ?_ | with_reducible refine g_n ?_ | with_reducible refine g_fn ?_ | with_reducible refine g_li ?_ | with_reducible refine g_ra ?_ | with_reducible refine g_la ?_ | with_reducible refine g_op ?_ | with_reducible refine g_sm ?_ | with_reducible refine g_gl ?_ | with_reducible refine g_sp (by omega) ?_ | with_reducible refine g_sn (by omega) ?_ | with_reducible refine g_sr (by omega) ?_ | with_reducible refine g_sl (by omega) ?_ | with_reducible refine g_sb (by omega) ?_ | with_reducible refine g_sa (by omega) ?_ | with_reducible refine g_sg (by omega) ?_ | with_reducible refine g_hm (by omega) ?_ | with_reducible refine g_hw (by omega) ?_ | with_reducible refine g_hh (by omega) ?_ | with_reducible refine g_ho (by omega) ?_ | with_reducible refine g_ht (by omega) ?_ | with_reducible refine n_sh ?_))
  refine tw_ret ?_
  rw [show (7 : Int32) = nI 7 from rfl, show (8 : Int32) = nI 8 from rfl, nI_add, pk_div (by omega) (by omega) (by omega)]
  exact k
theorem t_isOpen {g : Nat} (hg : g < 286) (h5 : ti t (27, g, 5) < 2 ^ 31) {Q : (bv_E ⊕ Int32) → bT → Prop} (k : Q (.inr (bz (tk t g = 3 ∧ ti t (27, g, 5) = 1))) t) : tw C sa s0 (PX4_isOpen (C + bv_sg g)) t Q := by
  unfold PX4_isOpen
  refine g_sk hg fun hk => t_gets (by omega) (t_ifK (b := 3) hk (by omega) (fun e => ?_) (fun e => ?_))
  · (repeat (first | with_reducible refine tw_letI ?_ | with_reducible refine tw_letL ?_ | with_reducible refine tw_nnS ?_ | with_reducible refine is_0 ?_ | with_reducible refine is_1 ?_ | with_reducible refine is_8 ?_ | with_reducible refine is_9 ?_ | with_reducible refine is_sg (by omega) ?_ | with_reducible refine is_hp (by omega) ?_ | with_reducible refine tw_nz (by decide) ?_ | with_reducible refine o_0_1 ?_ | with_reducible refine o_0_2 ?_ | with_reducible refine o_0_3 ?_ | with_reducible refine o_0_4 ?_ | with_reducible refine o_0_6 ?_ | with_reducible refine o_0_8 ?_ | with_reducible refine o_0_10 ?_ | with_reducible refine o_0_11 ?_ | with_reducible refine o_0_12 ?_ | with_reducible refine o_9_0 ?_ | with_reducible refine o_9_7 ?_ | with_reducible refine o_sf (by omega) ?_ | with_reducible refine o_sv (by omega) ?_ | with_reducible refine o_sy (by omega) ?_ | with_reducible refine o_sw (by omega) ?_ | with_reducible refine o_hr (by omega) ?_ | with_reducible refine o_hs (by omega) ?_ | with_reducible refine g_o ?_ | with_reducible refine g_wn ?_ | with_reducible refine g_cn ?_ | with_reducible refine g_gn ?_ | with_reducible refine g_ir ?_ | with_reducible refine g_fa ?_ | with_reducible refine g_cs ?_ | with_reducible refine g_n ?_ | with_reducible refine g_fn ?_ | with_reducible refine g_li ?_ | with_reducible refine g_ra ?_ | with_reducible refine g_la ?_ | with_reducible refine g_op ?_ | with_reducible refine g_sm ?_ | with_reducible refine g_gl ?_ | with_reducible refine g_sp (by omega) ?_ | with_reducible refine g_sn (by omega) ?_ | with_reducible refine g_sr (by omega) ?_ | with_reducible refine g_sl (by omega) ?_ | with_reducible refine g_sb (by omega) ?_ | with_reducible refine g_sa (by omega) ?_ | with_reducible refine g_sg (by omega) ?_ | with_reducible refine g_hm (by omega) ?_ | with_reducible refine g_hw (by omega) ?_ | with_reducible refine g_hh (by omega) ?_ | with_reducible refine g_ho (by omega) ?_ | with_reducible refine g_ht (by omega) ?_ | with_reducible refine n_sh ?_))
    refine g_sv 5 hg rfl (by omega) ?_
    refine tw_if (fun h => ?_) (fun h => ?_)
    · rw [show (1 : Int32) = nI 1 from rfl, nI_eq h5 (by omega)] at h
      rw [bz_T ⟨e, h⟩] at k; exact tw_retZ (by decide) k
    · rw [show (1 : Int32) = nI 1 from rfl, nI_eq h5 (by omega)] at h
      rw [bz_F (fun z => h z.2)] at k; exact tw_retZ (by decide) k
  · rw [bz_F (fun z => e z.1)] at k; exact tw_retZ (by decide) k
end SM
