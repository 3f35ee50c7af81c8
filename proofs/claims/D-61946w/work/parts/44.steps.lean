/-! Steps that several calls take -/
set_option maxRecDepth 100000
theorem lN_lit (n : Nat) : (OfNat.ofNat n : Int64) = lN n := rfl
theorem p_isRegionK : ∀ k, k < 10 → PX6_isRegion (bv_code k) = bp_ret (bz (1 ≤ k ∧ k ≤ 3))
  | 0, _ => rfl | 1, _ => rfl | 2, _ => rfl | 3, _ => rfl | 4, _ => rfl | 5, _ => rfl | 6, _ => rfl | 7, _ => rfl | 8, _ => rfl | 9, _ => rfl | k + 10, h => by omega
theorem p_hasBytesK : ∀ k, k < 10 → PX6_hasBytes (bv_code k) = bp_ret (bz (k = 0 ∨ k = 8 ∨ k = 9))
  | 0, _ => rfl | 1, _ => rfl | 2, _ => rfl | 3, _ => rfl | 4, _ => rfl | 5, _ => rfl | 6, _ => rfl | 7, _ => rfl | 8, _ => rfl | 9, _ => rfl | k + 10, h => by omega
theorem p_isKindK : ∀ k, k < 10 → PX6_isKind (bv_code k) = bp_ret 1
  | 0, _ => rfl | 1, _ => rfl | 2, _ => rfl | 3, _ => rfl | 4, _ => rfl | 5, _ => rfl | 6, _ => rfl | 7, _ => rfl | 8, _ => rfl | 9, _ => rfl | k + 10, h => by omega
theorem p_isKindN {x : Int32} (h : ∀ k, k < 10 → bv_code k ≠ x) : PX6_isKind x = bp_ret 0 := by
  unfold PX6_isKind
  rw [bp_ifF (fun z => h 0 (by omega) z.symm), bp_ifF (fun z => h 1 (by omega) z.symm), bp_ifF (fun z => h 2 (by omega) z.symm), bp_ifF (fun z => h 3 (by omega) z.symm)]
  rw [bp_ifF (c := x = 53) (fun z => h 8 (by omega) z.symm), bp_ifF (c := x = 62) (fun z => h 9 (by omega) z.symm)]
  show bp_if (x < 48) (bp_retZ 0) (bp_if (x ≤ 51) (bp_retZ 1) (bp_retZ 0)) = _
  by_cases h1 : x < 48
  · rw [bp_ifT h1]; rfl
  · rw [bp_ifF h1]
    by_cases h2 : x ≤ 51
    · exfalso
      obtain ⟨j, j1, rfl⟩ := nI_of2 (M := 51) (n := 51) rfl (fun z => h1 (by
        have a := Int32.lt_iff_toInt_lt.mp z
        have e : (0 : Int32).toInt = 0 := rfl
        have e2 : (48 : Int32).toInt = 48 := rfl
        exact Int32.lt_iff_toInt_lt.mpr (by omega))) h2
      rw [show (48 : Int32) = nI 48 from rfl, nI_ltI (by omega) (by omega)] at h1
      have h3 : j = 48 ∨ j = 49 ∨ j = 50 ∨ j = 51 := by omega
      rcases h3 with rfl | rfl | rfl | rfl
      · exact h 4 (by omega) rfl
      · exact h 5 (by omega) rfl
      · exact h 6 (by omega) rfl
      · exact h 7 (by omega) rfl
    · rw [bp_ifF h2]; rfl
theorem code_inj : ∀ a, a < 10 → ∀ b, b < 10 → bv_code a = bv_code b → a = b := by decide
theorem ti_d {t : bT} {c c' v : Nat} {x y : Nat × Nat} (h : c ≠ c') : ti (si t (c', y) v) (c, x) = ti t (c, x) := ti_c h
/-- the footprint of one segment -/
theorem sg_si {t : bT} {l : bL} {v g c j : Nat} (h : ¬ (19 ≤ l.1 ∧ l.1 ≤ 29 ∧ l.2.1 = g)) (h2 : 19 ≤ c ∧ c ≤ 29) : ti (si t (c, g, j) v) l = ti t l := ti_n fun e => h (by rw [e]; exact ⟨h2.1, h2.2, rfl⟩)
section ST
variable {α β : Type} {C : Nat} {sa : Nat → Nat} {t : bT} {s : bv_S} {Q : (bF ⊕ β) → bT → Prop} {R : β → bv_S → Prop}
theorem tE_within {a b c : Int64} {K : Int32 → bp_M β} (k : tE C sa (K (bz (b ≤ a ∧ a ≤ c))) t Q) : tE C sa (bp_bind (PX1_within a b c) K) t Q := by
  rw [p_within]; exact k
theorem sE_isIn {a b c : Int32} {K : Int32 → bp_M β} (k : sE C sa (K (bz (b ≤ a ∧ a ≤ c))) s R) : sE C sa (bp_bind (PX6_isIn a b c) K) s R := by
  rw [p_isIn]; exact k
theorem i64_pred {n : Nat} (h : n < 2 ^ 31) : (nI n - (1 : Int32)).toInt64 = (nI n).toInt64 - (1 : Int64) := by
  cases n with
  | zero => decide
  | succ m => rw [nI_pred, nI_l (by omega), nI_l h, show (1 : Int64) = lN 1 from rfl, lN_sub (by omega)]; rfl
theorem tE_withinC (b2 c2 : Int32) {x : Int32} {b c : Int64} {K : Int32 → bp_M β} (hb : b2.toInt64 = b) (hc : c2.toInt64 = c) (k : tE C sa (K (bz (b2 ≤ x ∧ x ≤ c2))) t Q) : tE C sa (bp_bind (PX1_within x.toInt64 b c) K) t Q := by
  subst hb hc
  refine tE_within ?_
  have e : bz (b2.toInt64 ≤ x.toInt64 ∧ x.toInt64 ≤ c2.toInt64) = bz (b2 ≤ x ∧ x ≤ c2) := bz_iff (by rw [i64_le, i64_le])
  rw [e]; exact k
theorem tE_want1 {K : Unit → bp_M β} (k : tE C sa (K ()) t Q) : tE C sa (bp_bind (PX1_want 1) K) t Q := tE_want (c := True) (fun _ => k) (fun z => absurd trivial z)
theorem tE_want0 {K : Unit → bp_M β} (k : Q (.inl (1, 0, 0)) (sz t 1 6)) : tE C sa (bp_bind (PX1_want 0) K) t Q := tE_want (c := False) (fun z => z.elim) (fun _ => k)
theorem tE_wantRoom1 {K : Unit → bp_M β} (k : tE C sa (K ()) t Q) : tE C sa (bp_bind (PX1_wantRoom 1) K) t Q := tE_wantRoom (c := True) (fun _ => k) (fun z => absurd trivial z)
theorem tE_wantRoom0 {K : Unit → bp_M β} (k : Q (.inl (2, 0, 0)) (sz t 1 6)) : tE C sa (bp_bind (PX1_wantRoom 0) K) t Q := tE_wantRoom (c := False) (fun z => z.elim) (fun _ => k)
theorem tE_allow1 {K : Unit → bp_M β} (k : tE C sa (K ()) t Q) : tE C sa (bp_bind (PX1_allow 1) K) t Q := tE_allow (c := True) (fun _ => k) (fun z => absurd trivial z)
theorem tE_allow0 {K : Unit → bp_M β} (k : Q (.inl (3, 0, 0)) (sz t 1 6)) : tE C sa (bp_bind (PX1_allow 0) K) t Q := tE_allow (c := False) (fun z => z.elim) (fun _ => k)
theorem tE_wantIndex1 {K : Unit → bp_M β} (k : tE C sa (K ()) t Q) : tE C sa (bp_bind (PX1_wantIndex 1) K) t Q := tE_wantIndex (c := True) (fun _ => k) (fun z => absurd trivial z)
theorem tE_wantIndex0 {K : Unit → bp_M β} (k : Q (.inl (4, 0, 0)) (sz t 1 6)) : tE C sa (bp_bind (PX1_wantIndex 0) K) t Q := tE_wantIndex (c := False) (fun z => z.elim) (fun _ => k)
theorem tE_need1 {f p : Int32} {K : Unit → bp_M β} (k : tE C sa (K ()) t Q) : tE C sa (bp_bind (PX1_need 1 f p) K) t Q := tE_need (c := True) (fun _ => k) (fun z => absurd trivial z)
theorem tE_need0 {f p : Int32} {K : Unit → bp_M β} (k : Q (.inl (5, f, p)) (st (sz t 1 8) none)) : tE C sa (bp_bind (PX1_need 0 f p) K) t Q := tE_need (c := False) (fun z => z.elim) (fun _ => k)
theorem tE_wantT {c : Prop} [Decidable c] {K : Unit → bp_M β} (h : c) (k : tE C sa (K ()) t Q) : tE C sa (bp_bind (PX1_want (bz c)) K) t Q := tE_want (fun _ => k) (fun z => absurd h z)
theorem tE_wantF {c : Prop} [Decidable c] {K : Unit → bp_M β} (h : ¬ c) (k : Q (.inl (1, 0, 0)) (sz t 1 6)) : tE C sa (bp_bind (PX1_want (bz c)) K) t Q := tE_want (fun z => absurd z h) (fun _ => k)
theorem tE_wantRoomT {c : Prop} [Decidable c] {K : Unit → bp_M β} (h : c) (k : tE C sa (K ()) t Q) : tE C sa (bp_bind (PX1_wantRoom (bz c)) K) t Q := tE_wantRoom (fun _ => k) (fun z => absurd h z)
theorem tE_wantRoomF {c : Prop} [Decidable c] {K : Unit → bp_M β} (h : ¬ c) (k : Q (.inl (2, 0, 0)) (sz t 1 6)) : tE C sa (bp_bind (PX1_wantRoom (bz c)) K) t Q := tE_wantRoom (fun z => absurd z h) (fun _ => k)
theorem tE_allowT {c : Prop} [Decidable c] {K : Unit → bp_M β} (h : c) (k : tE C sa (K ()) t Q) : tE C sa (bp_bind (PX1_allow (bz c)) K) t Q := tE_allow (fun _ => k) (fun z => absurd h z)
theorem tE_allowF {c : Prop} [Decidable c] {K : Unit → bp_M β} (h : ¬ c) (k : Q (.inl (3, 0, 0)) (sz t 1 6)) : tE C sa (bp_bind (PX1_allow (bz c)) K) t Q := tE_allow (fun z => absurd z h) (fun _ => k)
theorem tE_wantIndexT {c : Prop} [Decidable c] {K : Unit → bp_M β} (h : c) (k : tE C sa (K ()) t Q) : tE C sa (bp_bind (PX1_wantIndex (bz c)) K) t Q := tE_wantIndex (fun _ => k) (fun z => absurd h z)
theorem tE_wantIndexF {c : Prop} [Decidable c] {K : Unit → bp_M β} (h : ¬ c) (k : Q (.inl (4, 0, 0)) (sz t 1 6)) : tE C sa (bp_bind (PX1_wantIndex (bz c)) K) t Q := tE_wantIndex (fun z => absurd z h) (fun _ => k)
theorem tE_needT {c : Prop} [Decidable c] {f p : Int32} {K : Unit → bp_M β} (h : c) (k : tE C sa (K ()) t Q) : tE C sa (bp_bind (PX1_need (bz c) f p) K) t Q := tE_need (fun _ => k) (fun z => absurd h z)
theorem tE_needF {c : Prop} [Decidable c] {f p : Int32} {K : Unit → bp_M β} (h : ¬ c) (k : Q (.inl (5, f, p)) (st (sz t 1 8) none)) : tE C sa (bp_bind (PX1_need (bz c) f p) K) t Q := tE_need (fun z => absurd z h) (fun _ => k)
theorem tE_at {x : Int32} {K : Nat → bp_M β} (hn : ti t (7, 0, 0) ≤ 30) (k1 : ∀ j, j < ti t (7, 0, 0) → x = nI j → tE C sa (K (C + bv_sg j)) t Q) (k2 : (¬ ∃ j, j < ti t (7, 0, 0) ∧ x = nI j) → Q (.inl (4, 0, 0)) (sz t 1 6)) : tE C sa (bp_bind (bp_is 0 (C + 0) (PX1_at (C + 0) x)) K) t Q := by
  refine tE_c0 ?_
  unfold PX1_at
  (repeat (first | with_reducible refine tE_letI ?_ | with_reducible refine tE_letL ?_ | with_reducible refine tE_nnS ?_ | with_reducible refine uis_0 ?_ | with_reducible refine uis_1 ?_ | with_reducible refine uis_8 ?_ | with_reducible refine uis_9 ?_ | with_reducible refine uis_sg (by omega) ?_ | with_reducible refine uis_hp (by omega) ?_ | with_reducible refine tE_nz (by decide) ?_ | with_reducible refine uo_0_1 ?_ | with_reducible refine uo_0_2 ?_ | with_reducible refine uo_0_3 ?_ | with_reducible refine uo_0_4 ?_ | with_reducible refine uo_0_6 ?_ | with_reducible refine uo_0_8 ?_ | with_reducible refine uo_0_10 ?_ | with_reducible refine uo_0_11 ?_ | with_reducible refine uo_0_12 ?_ | with_reducible refine uo_9_0 ?_ | with_reducible refine uo_9_7 ?_ | with_reducible refine uo_sf (by omega) ?_ | with_reducible refine uo_sv (by omega) ?_ | with_reducible refine uo_sy (by omega) ?_ | with_reducible refine uo_sw (by omega) ?_ | with_reducible refine uo_hr (by omega) ?_ | with_reducible refine uo_hs (by omega) ?_ | with_reducible refine ug_o ?_ | with_reducible refine ug_wn ?_ | with_reducible refine ug_cn ?_ | with_reducible refine ug_gn ?_ | with_reducible refine ug_ir ?_ | with_reducible refine ug_fa ?_ | with_reducible refine ug_cs ?_ | with_reducible refine ug_n ?_ | with_reducible refine ug_fn ?_ | with_reducible refine ug_li ?_ | with_reducible refine ug_ra ?_ | with_reducible refine ug_la ?_ | with_reducible refine ug_op ?_ | with_reducible refine ug_sm ?_ | with_reducible refine ug_gl ?_ | with_reducible refine ug_sp (by omega) ?_ | with_reducible refine ug_sn (by omega) ?_ | with_reducible refine ug_sr (by omega) ?_ | with_reducible refine ug_sl (by omega) ?_ | with_reducible refine ug_sb (by omega) ?_ | with_reducible refine ug_sa (by omega) ?_ | with_reducible refine ug_sg (by omega) ?_ | with_reducible refine ug_hm (by omega) ?_ | with_reducible refine ug_hw (by omega) ?_ | with_reducible refine ug_hh (by omega) ?_ | with_reducible refine ug_ho (by omega) ?_ | with_reducible refine ug_ht (by omega) ?_ | with_reducible refine ug_sL (by omega) ?_ | with_reducible refine un_sh ?_ | with_reducible refine ut_alenS ?_ | with_reducible refine ut_alenK ?_))
  refine tE_c1V (fun s0 Q' q => t_size1 q) (tE_within ?_)
  refine tE_wantIndex (fun h => ?_) (fun h => ?_)
  · obtain ⟨j, hj, rfl⟩ := (rg_L (by omega)).mp h
    (repeat (first | with_reducible refine tE_letI ?_ | with_reducible refine tE_letL ?_ | with_reducible refine tE_nnS ?_ | with_reducible refine uis_0 ?_ | with_reducible refine uis_1 ?_ | with_reducible refine uis_8 ?_ | with_reducible refine uis_9 ?_ | with_reducible refine uis_sg (by omega) ?_ | with_reducible refine uis_hp (by omega) ?_ | with_reducible refine tE_nz (by decide) ?_ | with_reducible refine uo_0_1 ?_ | with_reducible refine uo_0_2 ?_ | with_reducible refine uo_0_3 ?_ | with_reducible refine uo_0_4 ?_ | with_reducible refine uo_0_6 ?_ | with_reducible refine uo_0_8 ?_ | with_reducible refine uo_0_10 ?_ | with_reducible refine uo_0_11 ?_ | with_reducible refine uo_0_12 ?_ | with_reducible refine uo_9_0 ?_ | with_reducible refine uo_9_7 ?_ | with_reducible refine uo_sf (by omega) ?_ | with_reducible refine uo_sv (by omega) ?_ | with_reducible refine uo_sy (by omega) ?_ | with_reducible refine uo_sw (by omega) ?_ | with_reducible refine uo_hr (by omega) ?_ | with_reducible refine uo_hs (by omega) ?_ | with_reducible refine ug_o ?_ | with_reducible refine ug_wn ?_ | with_reducible refine ug_cn ?_ | with_reducible refine ug_gn ?_ | with_reducible refine ug_ir ?_ | with_reducible refine ug_fa ?_ | with_reducible refine ug_cs ?_ | with_reducible refine ug_n ?_ | with_reducible refine ug_fn ?_ | with_reducible refine ug_li ?_ | with_reducible refine ug_ra ?_ | with_reducible refine ug_la ?_ | with_reducible refine ug_op ?_ | with_reducible refine ug_sm ?_ | with_reducible refine ug_gl ?_ | with_reducible refine ug_sp (by omega) ?_ | with_reducible refine ug_sn (by omega) ?_ | with_reducible refine ug_sr (by omega) ?_ | with_reducible refine ug_sl (by omega) ?_ | with_reducible refine ug_sb (by omega) ?_ | with_reducible refine ug_sa (by omega) ?_ | with_reducible refine ug_sg (by omega) ?_ | with_reducible refine ug_hm (by omega) ?_ | with_reducible refine ug_hw (by omega) ?_ | with_reducible refine ug_hh (by omega) ?_ | with_reducible refine ug_ho (by omega) ?_ | with_reducible refine ug_ht (by omega) ?_ | with_reducible refine ug_sL (by omega) ?_ | with_reducible refine un_sh ?_ | with_reducible refine ut_alenS ?_ | with_reducible refine ut_alenK ?_))
    refine tE_c1V (fun s0 Q' q => t_get1 j rfl hj (by omega) q) ?_
    (repeat (first | with_reducible refine tE_letI ?_ | with_reducible refine tE_letL ?_ | with_reducible refine tE_nnS ?_ | with_reducible refine uis_0 ?_ | with_reducible refine uis_1 ?_ | with_reducible refine uis_8 ?_ | with_reducible refine uis_9 ?_ | with_reducible refine uis_sg (by omega) ?_ | with_reducible refine uis_hp (by omega) ?_ | with_reducible refine tE_nz (by decide) ?_ | with_reducible refine uo_0_1 ?_ | with_reducible refine uo_0_2 ?_ | with_reducible refine uo_0_3 ?_ | with_reducible refine uo_0_4 ?_ | with_reducible refine uo_0_6 ?_ | with_reducible refine uo_0_8 ?_ | with_reducible refine uo_0_10 ?_ | with_reducible refine uo_0_11 ?_ | with_reducible refine uo_0_12 ?_ | with_reducible refine uo_9_0 ?_ | with_reducible refine uo_9_7 ?_ | with_reducible refine uo_sf (by omega) ?_ | with_reducible refine uo_sv (by omega) ?_ | with_reducible refine uo_sy (by omega) ?_ | with_reducible refine uo_sw (by omega) ?_ | with_reducible refine uo_hr (by omega) ?_ | with_reducible refine uo_hs (by omega) ?_ | with_reducible refine ug_o ?_ | with_reducible refine ug_wn ?_ | with_reducible refine ug_cn ?_ | with_reducible refine ug_gn ?_ | with_reducible refine ug_ir ?_ | with_reducible refine ug_fa ?_ | with_reducible refine ug_cs ?_ | with_reducible refine ug_n ?_ | with_reducible refine ug_fn ?_ | with_reducible refine ug_li ?_ | with_reducible refine ug_ra ?_ | with_reducible refine ug_la ?_ | with_reducible refine ug_op ?_ | with_reducible refine ug_sm ?_ | with_reducible refine ug_gl ?_ | with_reducible refine ug_sp (by omega) ?_ | with_reducible refine ug_sn (by omega) ?_ | with_reducible refine ug_sr (by omega) ?_ | with_reducible refine ug_sl (by omega) ?_ | with_reducible refine ug_sb (by omega) ?_ | with_reducible refine ug_sa (by omega) ?_ | with_reducible refine ug_sg (by omega) ?_ | with_reducible refine ug_hm (by omega) ?_ | with_reducible refine ug_hw (by omega) ?_ | with_reducible refine ug_hh (by omega) ?_ | with_reducible refine ug_ho (by omega) ?_ | with_reducible refine ug_ht (by omega) ?_ | with_reducible refine ug_sL (by omega) ?_ | with_reducible refine un_sh ?_ | with_reducible refine ut_alenS ?_ | with_reducible refine ut_alenK ?_))
    exact tE_ret (k1 j hj rfl)
  · exact k2 fun z => h ((rg_L (by omega)).mpr z)
theorem tE_atV {j : Nat} {K : Nat → bp_M β} (hn : ti t (7, 0, 0) ≤ 30) (hj : j < ti t (7, 0, 0)) (k1 : tE C sa (K (C + bv_sg j)) t Q) : tE C sa (bp_bind (bp_is 0 (C + 0) (PX1_at (C + 0) (nI j))) K) t Q := tE_at hn (fun i hi e => by
  rw [nI_eq (by omega) (by omega)] at e
  subst e; exact k1) (fun h => absurd ⟨j, hj, rfl⟩ h)
theorem sE_seg1 {j n : Nat} {K : Int32 → bp_M β} (h2 : bv_i s 1471 2 = nI n) (hj : j < n) (hn : n ≤ 30) (k : sE C sa (K 1) s R) : sE C sa (bp_bind (bp_is 4 (C + 1471) (PX6_isSegment (C + 1471) (nI j))) K) s R := by
  refine sE_c ?_
  unfold PX6_isSegment
  (repeat (first | with_reducible refine sE_letI ?_ | with_reducible refine sE_letL ?_ | with_reducible refine sE_nnS ?_ | with_reducible refine sE_is ?_ | with_reducible refine sE_nz (by decide) ?_ | with_reducible refine eg_0 ?_ | with_reducible refine eg_1 ?_ | with_reducible refine eg_2 ?_ | with_reducible refine eg_13 ?_ | with_reducible refine eg_15 ?_ | with_reducible refine eg_17 ?_ | with_reducible refine eg_19 ?_ | with_reducible refine eg_20 ?_ | with_reducible refine eg_21 ?_ | with_reducible refine eg_22 ?_ | with_reducible refine eg_23 ?_ | with_reducible refine eg_24 ?_ | with_reducible refine eg_25 ?_ | with_reducible refine eg_39 ?_ | with_reducible refine eg_47 ?_ | with_reducible refine eg_48 ?_ | with_reducible refine eg_49 ?_ | with_reducible refine ep_0 ?_ | with_reducible refine ep_1 ?_ | with_reducible refine ep_2 ?_ | with_reducible refine ep_13 ?_ | with_reducible refine ep_15 ?_ | with_reducible refine ep_17 ?_ | with_reducible refine ep_19 ?_ | with_reducible refine ep_20 ?_ | with_reducible refine ep_21 ?_ | with_reducible refine ep_22 ?_ | with_reducible refine ep_23 ?_ | with_reducible refine ep_24 ?_ | with_reducible refine ep_25 ?_ | with_reducible refine ep_39 ?_ | with_reducible refine ep_48 ?_ | with_reducible refine ep_49 ?_ | with_reducible refine eo_3 ?_ | with_reducible refine eo_4 ?_ | with_reducible refine eo_5 ?_ | with_reducible refine eo_6 ?_ | with_reducible refine eo_7 ?_ | with_reducible refine eo_8 ?_ | with_reducible refine eo_9 ?_ | with_reducible refine eo_10 ?_ | with_reducible refine eo_11 ?_ | with_reducible refine eo_12 ?_ | with_reducible refine eo_14 ?_ | with_reducible refine eo_16 ?_ | with_reducible refine eo_18 ?_ | with_reducible refine eo_26 ?_ | with_reducible refine eo_27 ?_ | with_reducible refine eo_28 ?_ | with_reducible refine eo_29 ?_ | with_reducible refine eo_30 ?_ | with_reducible refine eo_31 ?_ | with_reducible refine eo_32 ?_ | with_reducible refine eo_33 ?_ | with_reducible refine eo_34 ?_ | with_reducible refine eo_35 ?_ | with_reducible refine eo_36 ?_ | with_reducible refine eo_37 ?_ | with_reducible refine eo_38 ?_ | with_reducible refine eo_40 ?_ | with_reducible refine eo_41 ?_ | with_reducible refine eo_42 ?_ | with_reducible refine eo_43 ?_ | with_reducible refine eo_44 ?_ | with_reducible refine eo_45 ?_ | with_reducible refine eo_46 ?_))
  refine sE_isIn ?_
  rw [h2, bz_T ((rg_I (by omega)).mpr ⟨j, hj, rfl⟩)]
  exact sE_retZ (by decide) k
theorem sE_seg0 {x : Int32} {n : Nat} {K : Int32 → bp_M β} (h2 : bv_i s 1471 2 = nI n) (hn : n ≤ 30) (h : ¬ ∃ j, j < n ∧ x = nI j) (k : sE C sa (K 0) s R) : sE C sa (bp_bind (bp_is 4 (C + 1471) (PX6_isSegment (C + 1471) x)) K) s R := by
  refine sE_c ?_
  unfold PX6_isSegment
  (repeat (first | with_reducible refine sE_letI ?_ | with_reducible refine sE_letL ?_ | with_reducible refine sE_nnS ?_ | with_reducible refine sE_is ?_ | with_reducible refine sE_nz (by decide) ?_ | with_reducible refine eg_0 ?_ | with_reducible refine eg_1 ?_ | with_reducible refine eg_2 ?_ | with_reducible refine eg_13 ?_ | with_reducible refine eg_15 ?_ | with_reducible refine eg_17 ?_ | with_reducible refine eg_19 ?_ | with_reducible refine eg_20 ?_ | with_reducible refine eg_21 ?_ | with_reducible refine eg_22 ?_ | with_reducible refine eg_23 ?_ | with_reducible refine eg_24 ?_ | with_reducible refine eg_25 ?_ | with_reducible refine eg_39 ?_ | with_reducible refine eg_47 ?_ | with_reducible refine eg_48 ?_ | with_reducible refine eg_49 ?_ | with_reducible refine ep_0 ?_ | with_reducible refine ep_1 ?_ | with_reducible refine ep_2 ?_ | with_reducible refine ep_13 ?_ | with_reducible refine ep_15 ?_ | with_reducible refine ep_17 ?_ | with_reducible refine ep_19 ?_ | with_reducible refine ep_20 ?_ | with_reducible refine ep_21 ?_ | with_reducible refine ep_22 ?_ | with_reducible refine ep_23 ?_ | with_reducible refine ep_24 ?_ | with_reducible refine ep_25 ?_ | with_reducible refine ep_39 ?_ | with_reducible refine ep_48 ?_ | with_reducible refine ep_49 ?_ | with_reducible refine eo_3 ?_ | with_reducible refine eo_4 ?_ | with_reducible refine eo_5 ?_ | with_reducible refine eo_6 ?_ | with_reducible refine eo_7 ?_ | with_reducible refine eo_8 ?_ | with_reducible refine eo_9 ?_ | with_reducible refine eo_10 ?_ | with_reducible refine eo_11 ?_ | with_reducible refine eo_12 ?_ | with_reducible refine eo_14 ?_ | with_reducible refine eo_16 ?_ | with_reducible refine eo_18 ?_ | with_reducible refine eo_26 ?_ | with_reducible refine eo_27 ?_ | with_reducible refine eo_28 ?_ | with_reducible refine eo_29 ?_ | with_reducible refine eo_30 ?_ | with_reducible refine eo_31 ?_ | with_reducible refine eo_32 ?_ | with_reducible refine eo_33 ?_ | with_reducible refine eo_34 ?_ | with_reducible refine eo_35 ?_ | with_reducible refine eo_36 ?_ | with_reducible refine eo_37 ?_ | with_reducible refine eo_38 ?_ | with_reducible refine eo_40 ?_ | with_reducible refine eo_41 ?_ | with_reducible refine eo_42 ?_ | with_reducible refine eo_43 ?_ | with_reducible refine eo_44 ?_ | with_reducible refine eo_45 ?_ | with_reducible refine eo_46 ?_))
  refine sE_isIn ?_
  rw [h2, bz_F (fun z => h ((rg_I (by omega)).mp z))]
  exact sE_retZ (by decide) k
theorem sE_mayT {x1 x2 x3 x4 : Int32} {K : Int32 → bp_M β} (hv : bv_may x1 x2 x3 x4 = 0) (k : sE C sa (K 1) (bv_I s 1471 0 0) R) : sE C sa (bp_bind (bp_is 4 (C + 1471) (PX6_may (C + 1471) x1 x2 x3 x4)) K) s R := sE_may 0 hv k
theorem sE_mayF {x1 x2 x3 x4 : Int32} {K : Int32 → bp_M β} (v : Int32) (hv : bv_may x1 x2 x3 x4 = v) (h0 : v ≠ 0) (k : sE C sa (K 0) (bv_I s 1471 0 v) R) : sE C sa (bp_bind (bp_is 4 (C + 1471) (PX6_may (C + 1471) x1 x2 x3 x4)) K) s R := sE_may v hv (by rw [bz_F h0]; exact k)
end ST
theorem oJ_rej {L : List (Nat × (Nat → bp_M Int32))} {cv cw : Int32 → Int64} {t : bT} {s : bv_S} {k : Nat} {c r2 : Int32} (hT : mT t s) (hk : k < 5) (hc : c ≠ 0) (hL : ∀ a, bp_hs L k a = bp_ret c) : oJ L cv cw t (.inl (k, 0, 0)) (sz t 1 6) r2 (bv_I s 1471 0 c) :=
  ⟨(hT.c _).z 1 6, by show tz t + 1 ≤ _; omega, by show tm t + 6 ≤ _; omega, hk, c, hc, hL, bv_iIe⟩
/-- a told segment changes -/
theorem mT.seg {t t' : bT} {s s' : bv_S} {g : Nat} (h : mT t s) (hg : g < ti t (7, 0, 0)) (h1 : wG t' g) (h2 : mG t' s' g) (h3 : ∀ x, x ≠ g → wG t x → mG t s x → mG t s' x) (hi : ∀ l : bL, ¬ (19 ≤ l.1 ∧ l.1 ≤ 29 ∧ l.2.1 = g) → ti t' l = ti t l) (hk : ∀ x, x ≠ g → tk t' x = tk t x) (hL : ∀ x, x ≠ g → tL t' x = tL t x)
    (hs : ∀ o k, 1471 ≤ o → (o < 1472 ∨ 1480 < o) → (o ≠ 1471 ∨ k ≠ 0) → bv_i s' o k = bv_i s o k) : mT t' s' := by
  obtain ⟨a1, a2, a3, a4, a5⟩ := h
  have n30 := a2.1
  have e := hi (7, 0, 0) (fun z => absurd z.1 (by decide))
  refine ⟨a1.to (hi _ (fun z => absurd z.1 (by decide))) (hs _ _ (by omega) (by omega) (by omega)), ⟨by rw [e]; exact a2.1, by rw [e, hs _ _ (by omega) (by omega) (by omega)]; exact a2.2.1, fun x hx => ?_⟩, a3.to (fun l hl => hi l (by omega)) (hs _ _ (by omega) (by omega) (by omega)) (fun k => hs _ _ (by omega) (by omega) (by omega)), a4.to (fun l hl => hi l (by omega)) (hs _ _ (by omega) (by omega) (by omega)) (hs _ _ (by omega) (by omega) (by omega)) (fun k => hs _ _ (by omega) (by omega) (by omega)) (fun k => hs _ _ (by omega) (by omega) (by omega)), a5.to (fun x hx => hk x (by omega)) (fun x hx => hL x (by omega)) (fun l hl => hi l (by unfold cR at hl; omega)) (fun k hk => hs _ _ (by omega) (by omega) (by omega)) (fun o k ho ho2 => hs _ _ (by omega) (by omega) (by omega))⟩
  rw [e] at hx
  by_cases hc : x = g
  · subst hc; exact ⟨h1, h2⟩
  · obtain ⟨b1, b2⟩ := a2.2.2 x hx
    have hi' : ∀ l : bL, (19 ≤ l.1 ∧ l.1 ≤ 29 ∧ l.2.1 = x) → ti t' l = ti t l := fun l hl => hi l (by omega)
    exact ⟨b1.to (hk x hc) hi', (h3 x hc b1 b2).to (hk x hc) hi' fun _ _ _ _ => rfl⟩
