/-! Calls: bytes written and come -/
set_option maxRecDepth 100000
theorem rg_L {x : Int32} {n : Nat} (hn : n < 2 ^ 31) : ((0 : Int64) ≤ x.toInt64 ∧ x.toInt64 ≤ (nI n).toInt64 - (1 : Int64)) ↔ ∃ j, j < n ∧ x = nI j := by
  rw [nI_l hn]
  cases n with
  | zero =>
    rw [show lN 0 - (1 : Int64) = -1 by decide]
    constructor
    · intro h
      have h1 := Int64.le_iff_toInt_le.mp h.1
      have h2 := Int64.le_iff_toInt_le.mp h.2
      have e1 : (0 : Int64).toInt = 0 := rfl
      have e2 : (-1 : Int64).toInt = -1 := rfl
      omega
    · rintro ⟨j, h, -⟩; omega
  | succ m =>
    rw [show (1 : Int64) = lN 1 from rfl, lN_sub (by omega), show m + 1 - 1 = m by omega]
    constructor
    · intro h
      have h1 : ¬ x < 0 := fun z => by
        have := Int64.le_iff_toInt_le.mp h.1
        rw [Int32.toInt_toInt64] at this
        have e1 : (0 : Int64).toInt = 0 := rfl
        have := nI_neg.mp z
        omega
      obtain ⟨j, j1, rfl⟩ := nI_of h1
      rw [nI_l j1, lN_le2 (by omega) (by omega)] at h
      exact ⟨j, by omega, rfl⟩
    · rintro ⟨j, j1, rfl⟩
      rw [nI_l (by omega), lN_le2 (by omega) (by omega), show (0 : Int64) = lN 0 from rfl, lN_le2 (by omega) (by omega)]
      omega
theorem rg_I {x : Int32} {n : Nat} (hn : n < 2 ^ 31) : ((0 : Int32) ≤ x ∧ x ≤ nI n - (1 : Int32)) ↔ ∃ j, j < n ∧ x = nI j := by
  cases n with
  | zero =>
    rw [show nI 0 - (1 : Int32) = -1 by decide]
    constructor
    · intro h
      have h1 := Int32.le_iff_toInt_le.mp h.1
      have h2 := Int32.le_iff_toInt_le.mp h.2
      have e1 : (0 : Int32).toInt = 0 := rfl
      have e2 : (-1 : Int32).toInt = -1 := rfl
      omega
    · rintro ⟨j, h, -⟩; omega
  | succ m =>
    rw [nI_pred, nI_in2 (by omega)]
    constructor
    · rintro ⟨j, h1, h2⟩; exact ⟨j, by omega, h2⟩
    · rintro ⟨j, h1, h2⟩; exact ⟨j, by omega, h2⟩
/-- a constant's bounds -/
theorem rg_c {x : Int32} {n : Nat} {c : Int64} (hc : c = lN n) (hn : n + 1 < 2 ^ 31) : ((0 : Int64) ≤ x.toInt64 ∧ x.toInt64 ≤ c) ↔ ∃ j, j < n + 1 ∧ x = nI j := by
  rw [← rg_L hn, nI_l hn, hc, show (1 : Int64) = lN 1 from rfl, lN_sub (by omega), show n + 1 - 1 = n by omega]
theorem rg_C {x : Int32} {n : Nat} {c : Int32} (hc : c = nI n) (hn : n + 1 < 2 ^ 31) : ((0 : Int32) ≤ x ∧ x ≤ c) ↔ ∃ j, j < n + 1 ∧ x = nI j := by
  rw [← rg_I hn, hc, nI_pred]
theorem bz_iff {c d : Prop} [Decidable c] [Decidable d] (h : c ↔ d) : bz c = bz d := by
  unfold bz
  by_cases hc : c
  · rw [if_pos hc, if_pos (h.mp hc)]
  · rw [if_neg hc, if_neg (fun z => hc (h.mpr z))]
section WN
variable {β : Type} {C : Nat} {sa : Nat → Nat} {s0 : bv_S} {t : bT} {Q : (bv_E ⊕ β) → bT → Prop} {K : Unit → bp_M β}
theorem t_want {c : Prop} [Decidable c] (k1 : c → tw C sa s0 (K ()) t Q) (k2 : ¬ c → ∀ e, Q (.inl (1, e)) (sz t 1 6)) : tw C sa s0 (bp_bind (PX1_want (bz c)) K) t Q := by
  rw [p_want]
  exact tw_bind (tw_if (fun h => tw_ret (k1 h)) fun h => tw_throw0 (by decide) fun e => k2 h e)
theorem t_wantRoom {c : Prop} [Decidable c] (k1 : c → tw C sa s0 (K ()) t Q) (k2 : ¬ c → ∀ e, Q (.inl (2, e)) (sz t 1 6)) : tw C sa s0 (bp_bind (PX1_wantRoom (bz c)) K) t Q := by
  rw [p_wantRoom]
  exact tw_bind (tw_if (fun h => tw_ret (k1 h)) fun h => tw_throw0 (by decide) fun e => k2 h e)
theorem t_allow {c : Prop} [Decidable c] (k1 : c → tw C sa s0 (K ()) t Q) (k2 : ¬ c → ∀ e, Q (.inl (3, e)) (sz t 1 6)) : tw C sa s0 (bp_bind (PX1_allow (bz c)) K) t Q := by
  rw [p_allow]
  exact tw_bind (tw_if (fun h => tw_ret (k1 h)) fun h => tw_throw0 (by decide) fun e => k2 h e)
theorem t_wantIndex {c : Prop} [Decidable c] (k1 : c → tw C sa s0 (K ()) t Q) (k2 : ¬ c → ∀ e, Q (.inl (4, e)) (sz t 1 6)) : tw C sa s0 (bp_bind (PX1_wantIndex (bz c)) K) t Q := by
  rw [p_wantIndex]
  exact tw_bind (tw_if (fun h => tw_ret (k1 h)) fun h => tw_throw0 (by decide) fun e => k2 h e)
end WN
/-- parts that a new cell leaves -/
theorem mT.z {t : bT} {s : bv_S} (h : mT t s) (a b : Nat) : mT (sz t a b) s := h
theorem mT.c {t : bT} {s : bv_S} (h : mT t s) (v : Int32) : mT t (bv_I s 1471 0 v) :=
  ⟨h.1.to rfl (bv_iIn (by omega)), h.2.1.to (fun _ _ => rfl) (fun _ _ => rfl) (bv_iIn (by omega)) (fun o k _ _ => bv_iIn (by omega)), h.2.2.1.to (fun _ _ => rfl) (bv_iIn (by omega)) (fun k => bv_iIn (by omega)), h.2.2.2.1.to (fun _ _ => rfl) (bv_iIn (by omega)) (bv_iIn (by omega)) (fun k => bv_iIn (by omega)) (fun k => bv_iIn (by omega)), h.2.2.2.2.to (fun _ _ => rfl) (fun _ _ => rfl) (fun _ _ => rfl) (fun k _ => bv_iIn (by omega)) (fun o k _ _ => bv_iIn (by omega))⟩
section OPB
variable {C : Nat} {sa : Nat → Nat} {s : bv_S} {t : bT}
theorem o_byteAt (hR : bR s s t) (hT : mT t s) (x : Int32) : sw C sa (PX0_byteAt (C + 0) x (C + 1505)) s (bv_q (oQ C sa t Int32.toInt64 (PX6_byteAt (C + 1471) x))) := by
  refine op_I (F := fun k w t1 => (k = 1 ∧ (¬ ∃ j, j < ti t (1, 0, 0) ∧ x = nI j) ∧ t1 = sz t 1 6) ∨ (k = 0 ∧ t1 = t ∧ ∃ j, j < ti t (1, 0, 0) ∧ x = nI j ∧ w = (nI (ti t (15, j, 0))).toInt64)) hR hT ?_ ?_
  · obtain ⟨w1, w2, w3⟩ := hT.2.2.1
    unfold PX1_byteAt
    (repeat (first | with_reducible refine tw_letI ?_ | with_reducible refine tw_letL ?_ | with_reducible refine tw_nnS ?_ | with_reducible refine is_0 ?_ | with_reducible refine is_1 ?_ | with_reducible refine is_8 ?_ | with_reducible refine is_9 ?_ | with_reducible refine is_sg (by omega) ?_ | with_reducible refine is_hp (by omega) ?_ | with_reducible refine tw_nz (by decide) ?_ | with_reducible refine o_0_1 ?_ | with_reducible refine o_0_2 ?_ | with_reducible refine o_0_3 ?_ | with_reducible refine o_0_4 ?_ | with_reducible refine o_0_6 ?_ | with_reducible refine o_0_8 ?_ | with_reducible refine o_0_10 ?_ | with_reducible refine o_0_11 ?_ | with_reducible refine o_0_12 ?_ | with_reducible refine o_9_0 ?_ | with_reducible refine o_9_7 ?_ | with_reducible refine o_sf (by omega) ?_ | with_reducible refine o_sv (by omega) ?_ | with_reducible refine o_sy (by omega) ?_ | with_reducible refine o_sw (by omega) ?_ | with_reducible refine o_hr (by omega) ?_ | with_reducible refine o_hs (by omega) ?_ | with_reducible refine g_o ?_ | with_reducible refine g_wn ?_ | with_reducible refine g_cn ?_ | with_reducible refine g_gn ?_ | with_reducible refine g_ir ?_ | with_reducible refine g_fa ?_ | with_reducible refine g_cs ?_ | with_reducible refine g_n ?_ | with_reducible refine g_fn ?_ | with_reducible refine g_li ?_ | with_reducible refine g_ra ?_ | with_reducible refine g_la ?_ | with_reducible refine g_op ?_ | with_reducible refine g_sm ?_ | with_reducible refine g_gl ?_ | with_reducible refine g_sp (by omega) ?_ | with_reducible refine g_sn (by omega) ?_ | with_reducible refine g_sr (by omega) ?_ | with_reducible refine g_sl (by omega) ?_ | with_reducible refine g_sb (by omega) ?_ | with_reducible refine g_sa (by omega) ?_ | with_reducible refine g_sg (by omega) ?_ | with_reducible refine g_hm (by omega) ?_ | with_reducible refine g_hw (by omega) ?_ | with_reducible refine g_hh (by omega) ?_ | with_reducible refine g_ho (by omega) ?_ | with_reducible refine g_ht (by omega) ?_ | with_reducible refine n_sh ?_))
    rw [p_within, bp_bind_ret]
    refine t_wantIndex (fun h => ?_) (fun h e => ?_)
    · obtain ⟨j, hj, rfl⟩ := (rg_L (by omega)).mp h
      (repeat (first | with_reducible refine tw_letI ?_ | with_reducible refine tw_letL ?_ | with_reducible refine tw_nnS ?_ | with_reducible refine is_0 ?_ | with_reducible refine is_1 ?_ | with_reducible refine is_8 ?_ | with_reducible refine is_9 ?_ | with_reducible refine is_sg (by omega) ?_ | with_reducible refine is_hp (by omega) ?_ | with_reducible refine tw_nz (by decide) ?_ | with_reducible refine o_0_1 ?_ | with_reducible refine o_0_2 ?_ | with_reducible refine o_0_3 ?_ | with_reducible refine o_0_4 ?_ | with_reducible refine o_0_6 ?_ | with_reducible refine o_0_8 ?_ | with_reducible refine o_0_10 ?_ | with_reducible refine o_0_11 ?_ | with_reducible refine o_0_12 ?_ | with_reducible refine o_9_0 ?_ | with_reducible refine o_9_7 ?_ | with_reducible refine o_sf (by omega) ?_ | with_reducible refine o_sv (by omega) ?_ | with_reducible refine o_sy (by omega) ?_ | with_reducible refine o_sw (by omega) ?_ | with_reducible refine o_hr (by omega) ?_ | with_reducible refine o_hs (by omega) ?_ | with_reducible refine g_o ?_ | with_reducible refine g_wn ?_ | with_reducible refine g_cn ?_ | with_reducible refine g_gn ?_ | with_reducible refine g_ir ?_ | with_reducible refine g_fa ?_ | with_reducible refine g_cs ?_ | with_reducible refine g_n ?_ | with_reducible refine g_fn ?_ | with_reducible refine g_li ?_ | with_reducible refine g_ra ?_ | with_reducible refine g_la ?_ | with_reducible refine g_op ?_ | with_reducible refine g_sm ?_ | with_reducible refine g_gl ?_ | with_reducible refine g_sp (by omega) ?_ | with_reducible refine g_sn (by omega) ?_ | with_reducible refine g_sr (by omega) ?_ | with_reducible refine g_sl (by omega) ?_ | with_reducible refine g_sb (by omega) ?_ | with_reducible refine g_sa (by omega) ?_ | with_reducible refine g_sg (by omega) ?_ | with_reducible refine g_hm (by omega) ?_ | with_reducible refine g_hw (by omega) ?_ | with_reducible refine g_hh (by omega) ?_ | with_reducible refine g_ho (by omega) ?_ | with_reducible refine g_ht (by omega) ?_ | with_reducible refine n_sh ?_))
      refine g_wr j rfl (by omega) (tw_ret ?_)
      rw [cb_k (w3 j hj).1]
      exact Or.inr ⟨rfl, rfl, j, hj, rfl, rfl⟩
    · exact ⟨show 4 < 5 by decide, 1, by decide, fun a => bp_ifT rfl, Or.inl ⟨rfl, fun z => h ((rg_L (by omega)).mpr z), rfl⟩⟩
  · intro k w t1 s1 hF hT1
    obtain ⟨w1, w2, w3⟩ := hT1.2.2.1
    unfold PX6_byteAt
    (repeat (first | with_reducible refine sw_letI ?_ | with_reducible refine sw_letL ?_ | with_reducible refine sw_nnS ?_ | with_reducible refine m_is ?_ | with_reducible refine sw_nz (by decide) ?_ | with_reducible refine mg_0 ?_ | with_reducible refine mg_1 ?_ | with_reducible refine mg_2 ?_ | with_reducible refine mg_13 ?_ | with_reducible refine mg_15 ?_ | with_reducible refine mg_17 ?_ | with_reducible refine mg_19 ?_ | with_reducible refine mg_20 ?_ | with_reducible refine mg_21 ?_ | with_reducible refine mg_22 ?_ | with_reducible refine mg_23 ?_ | with_reducible refine mg_24 ?_ | with_reducible refine mg_25 ?_ | with_reducible refine mg_39 ?_ | with_reducible refine mg_47 ?_ | with_reducible refine mg_48 ?_ | with_reducible refine mg_49 ?_ | with_reducible refine mp_0 ?_ | with_reducible refine mp_1 ?_ | with_reducible refine mp_2 ?_ | with_reducible refine mp_13 ?_ | with_reducible refine mp_15 ?_ | with_reducible refine mp_17 ?_ | with_reducible refine mp_19 ?_ | with_reducible refine mp_20 ?_ | with_reducible refine mp_21 ?_ | with_reducible refine mp_22 ?_ | with_reducible refine mp_23 ?_ | with_reducible refine mp_24 ?_ | with_reducible refine mp_25 ?_ | with_reducible refine mp_39 ?_ | with_reducible refine mp_48 ?_ | with_reducible refine mp_49 ?_ | with_reducible refine mo_3 ?_ | with_reducible refine mo_4 ?_ | with_reducible refine mo_5 ?_ | with_reducible refine mo_6 ?_ | with_reducible refine mo_7 ?_ | with_reducible refine mo_8 ?_ | with_reducible refine mo_9 ?_ | with_reducible refine mo_10 ?_ | with_reducible refine mo_11 ?_ | with_reducible refine mo_12 ?_ | with_reducible refine mo_14 ?_ | with_reducible refine mo_16 ?_ | with_reducible refine mo_18 ?_ | with_reducible refine mo_26 ?_ | with_reducible refine mo_27 ?_ | with_reducible refine mo_28 ?_ | with_reducible refine mo_29 ?_ | with_reducible refine mo_30 ?_ | with_reducible refine mo_31 ?_ | with_reducible refine mo_32 ?_ | with_reducible refine mo_33 ?_ | with_reducible refine mo_34 ?_ | with_reducible refine mo_35 ?_ | with_reducible refine mo_36 ?_ | with_reducible refine mo_37 ?_ | with_reducible refine mo_38 ?_ | with_reducible refine mo_40 ?_ | with_reducible refine mo_41 ?_ | with_reducible refine mo_42 ?_ | with_reducible refine mo_43 ?_ | with_reducible refine mo_44 ?_ | with_reducible refine mo_45 ?_ | with_reducible refine mo_46 ?_))
    rw [p_isIn, bp_bind_ret]
    rcases hF with ⟨rfl, hn, rfl⟩ | ⟨rfl, rfl, j, hj, rfl, rfl⟩
    · rw [w2, bz_F (fun z => hn ((rg_I (by omega)).mp z))]
      refine sw_bindN (sw_is (o := 1471) (by decide) rfl (sw_may ⟨_, rfl, ?_⟩))
      refine sw_ifT (by decide) (sw_ret ⟨_, rfl, md.rf.I (by omega), rfl, bv_iIe, fun z => absurd z (by decide), (hT1.c _).z 1 6, ?_, ?_⟩)
      · show tz t + 1 ≤ _; omega
      · show tm t + 6 ≤ _; omega
    · rw [w2, bz_T ((rg_I (by omega)).mpr ⟨j, hj, rfl⟩)]
      refine sw_bindN (sw_is (o := 1471) (by decide) rfl (sw_may ⟨_, rfl, ?_⟩))
      refine sw_ifF (by decide) ?_
      (repeat (first | with_reducible refine sw_letI ?_ | with_reducible refine sw_letL ?_ | with_reducible refine sw_nnS ?_ | with_reducible refine m_is ?_ | with_reducible refine sw_nz (by decide) ?_ | with_reducible refine mg_0 ?_ | with_reducible refine mg_1 ?_ | with_reducible refine mg_2 ?_ | with_reducible refine mg_13 ?_ | with_reducible refine mg_15 ?_ | with_reducible refine mg_17 ?_ | with_reducible refine mg_19 ?_ | with_reducible refine mg_20 ?_ | with_reducible refine mg_21 ?_ | with_reducible refine mg_22 ?_ | with_reducible refine mg_23 ?_ | with_reducible refine mg_24 ?_ | with_reducible refine mg_25 ?_ | with_reducible refine mg_39 ?_ | with_reducible refine mg_47 ?_ | with_reducible refine mg_48 ?_ | with_reducible refine mg_49 ?_ | with_reducible refine mp_0 ?_ | with_reducible refine mp_1 ?_ | with_reducible refine mp_2 ?_ | with_reducible refine mp_13 ?_ | with_reducible refine mp_15 ?_ | with_reducible refine mp_17 ?_ | with_reducible refine mp_19 ?_ | with_reducible refine mp_20 ?_ | with_reducible refine mp_21 ?_ | with_reducible refine mp_22 ?_ | with_reducible refine mp_23 ?_ | with_reducible refine mp_24 ?_ | with_reducible refine mp_25 ?_ | with_reducible refine mp_39 ?_ | with_reducible refine mp_48 ?_ | with_reducible refine mp_49 ?_ | with_reducible refine mo_3 ?_ | with_reducible refine mo_4 ?_ | with_reducible refine mo_5 ?_ | with_reducible refine mo_6 ?_ | with_reducible refine mo_7 ?_ | with_reducible refine mo_8 ?_ | with_reducible refine mo_9 ?_ | with_reducible refine mo_10 ?_ | with_reducible refine mo_11 ?_ | with_reducible refine mo_12 ?_ | with_reducible refine mo_14 ?_ | with_reducible refine mo_16 ?_ | with_reducible refine mo_18 ?_ | with_reducible refine mo_26 ?_ | with_reducible refine mo_27 ?_ | with_reducible refine mo_28 ?_ | with_reducible refine mo_29 ?_ | with_reducible refine mo_30 ?_ | with_reducible refine mo_31 ?_ | with_reducible refine mo_32 ?_ | with_reducible refine mo_33 ?_ | with_reducible refine mo_34 ?_ | with_reducible refine mo_35 ?_ | with_reducible refine mo_36 ?_ | with_reducible refine mo_37 ?_ | with_reducible refine mo_38 ?_ | with_reducible refine mo_40 ?_ | with_reducible refine mo_41 ?_ | with_reducible refine mo_42 ?_ | with_reducible refine mo_43 ?_ | with_reducible refine mo_44 ?_ | with_reducible refine mo_45 ?_ | with_reducible refine mo_46 ?_))
      refine ma_1481 j rfl (by omega) (sw_ret ⟨_, rfl, md.rf.I (by omega), rfl, bv_iIe, fun _ => ?_, hT1.c _, ?_, ?_⟩)
      · rw [bv_iIn (by omega), (w3 j hj).2]
      · omega
      · omega
end OPB
