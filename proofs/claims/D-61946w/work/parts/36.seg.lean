/-! Segments: places, beginning anew -/
set_option maxRecDepth 100000
/-- the first of n numbers that is x -/
def fd (f : Nat → Nat) (x : Int32) : Nat → Option Nat
  | 0 => none
  | n + 1 => match fd f x n with
    | some k => some k
    | none => if nI (f n) = x then some n else none
theorem fd_none {f : Nat → Nat} {x : Int32} : ∀ {n}, (∀ k, k < n → nI (f k) ≠ x) → fd f x n = none
  | 0, _ => rfl
  | n + 1, h => by
    unfold fd
    rw [fd_none fun k hk => h k (by omega)]
    exact if_neg (h n (by omega))
theorem fd_at {f : Nat → Nat} {x : Int32} {i : Nat} (h1 : nI (f i) = x) (h2 : ∀ k, k < i → nI (f k) ≠ x) : ∀ {n}, i < n → fd f x n = some i
  | 0, h => by omega
  | n + 1, h => by
    unfold fd
    by_cases e : i = n
    · subst e
      rw [fd_none h2]
      exact if_pos h1
    · rw [fd_at h1 h2 (by omega : i < n)]
theorem fd_some {f : Nat → Nat} {x : Int32} {i : Nat} : ∀ {n}, fd f x n = some i → i < n ∧ nI (f i) = x ∧ ∀ k, k < i → nI (f k) ≠ x
  | 0, h => by cases h
  | n + 1, h => by
    unfold fd at h
    cases e : fd f x n with
    | some k =>
      rw [e] at h
      cases h
      have := fd_some e
      exact ⟨by omega, this.2⟩
    | none =>
      rw [e] at h
      by_cases c : nI (f n) = x
      · rw [if_pos c] at h
        cases h
        refine ⟨by omega, c, fun k hk z => ?_⟩
        have := fd_no e k hk
        exact this z
      · rw [if_neg c] at h
        cases h
where
  fd_no {f : Nat → Nat} {x : Int32} : ∀ {n}, fd f x n = none → ∀ k, k < n → nI (f k) ≠ x
    | 0, _, k, hk => by omega
    | n + 1, h, k, hk => by
      unfold fd at h
      cases e : fd f x n with
      | some k => rw [e] at h; cases h
      | none =>
        rw [e] at h
        by_cases c : nI (f n) = x
        · rw [if_pos c] at h; cases h
        · by_cases hkn : k = n
          · rw [hkn]; exact c
          · exact fd_no e k (by omega)
/-- a segment's place of x: from 1 on; 0 itself; -1 -/
def pl (t : bT) (g : Nat) (x : Int32) : Int32 := match fd (fun k => ti t (26, g, k)) x (ti t (21, g, 0)) with
  | some k => nI (k + 1)
  | none => if nI (ti t (20, g, 0)) = x then 0 else -1
section SG
variable {α β : Type} {C : Nat} {sa : Nat → Nat} {s0 : bv_S} {t : bT}
theorem t_placeOf {g : Nat} {x : Int32} (hg : g < 286) (hr : ti t (21, g, 0) ≤ 10) {Q : (bv_E ⊕ Int32) → bT → Prop} (k : Q (.inr (pl t g x)) t) : tw C sa s0 (PX4_placeOf (C + bv_sg g) x) t Q := by
  unfold PX4_placeOf
  refine tw_jn (tw_jn ?_)
  refine tw_loop (fun (k : Int32 → bp_M Int32) (a : Int32) => k a) 0 rfl (fun a t1 => t1 = t ∧ ∃ i, i ≤ ti t (21, g, 0) ∧ a = nI i ∧ ∀ j, j < i → nI (ti t (26, g, j)) ≠ x) (fun a _ => 10 - a.toNatClampNeg) (fun a t1 h => by unfold bv_fu; omega) (fun K a t1 h ih => ?_) ⟨rfl, 0, by omega, rfl, fun j hj => by omega⟩
  obtain ⟨rfl, i, h1, rfl, h3⟩ := h
  unfold BX4_placeOf_2
  (repeat (first | with_reducible refine tw_letI ?_ | with_reducible refine tw_letL ?_ | with_reducible refine tw_nnS ?_ | with_reducible refine is_0 ?_ | with_reducible refine is_1 ?_ | with_reducible refine is_8 ?_ | with_reducible refine is_9 ?_ | with_reducible refine is_sg (by omega) ?_ | with_reducible refine is_hp (by omega) ?_ | with_reducible refine tw_nz (by decide) ?_ | with_reducible refine o_0_1 ?_ | with_reducible refine o_0_2 ?_ | with_reducible refine o_0_3 ?_ | with_reducible refine o_0_4 ?_ | with_reducible refine o_0_6 ?_ | with_reducible refine o_0_8 ?_ | with_reducible refine o_0_10 ?_ | with_reducible refine o_0_11 ?_ | with_reducible refine o_0_12 ?_ | with_reducible refine o_9_0 ?_ | with_reducible refine o_9_7 ?_ | with_reducible refine o_sf (by omega) ?_ | with_reducible refine o_sv (by omega) ?_ | with_reducible refine o_sy (by omega) ?_ | with_reducible refine o_sw (by omega) ?_ | with_reducible refine o_hr (by omega) ?_ | with_reducible refine o_hs (by omega) ?_ | with_reducible refine g_o ?_ | with_reducible refine g_wn ?_ | with_reducible refine g_cn ?_ | with_reducible refine g_gn ?_ | with_reducible refine g_ir ?_ | with_reducible refine g_fa ?_ | with_reducible refine g_cs ?_ | with_reducible refine g_n ?_ | with_reducible refine g_fn ?_ | with_reducible refine g_li ?_ | with_reducible refine g_ra ?_ | with_reducible refine g_la ?_ | with_reducible refine g_op ?_ | with_reducible refine g_sm ?_ | with_reducible refine g_gl ?_ | with_reducible refine g_sp (by omega) ?_ | with_reducible refine g_sn (by omega) ?_ | with_reducible refine g_sr (by omega) ?_ | with_reducible refine g_sl (by omega) ?_ | with_reducible refine g_sb (by omega) ?_ | with_reducible refine g_sa (by omega) ?_ | with_reducible refine g_sg (by omega) ?_ | with_reducible refine g_hm (by omega) ?_ | with_reducible refine g_hw (by omega) ?_ | with_reducible refine g_hh (by omega) ?_ | with_reducible refine g_ho (by omega) ?_ | with_reducible refine g_ht (by omega) ?_ | with_reducible refine n_sh ?_))
  refine tw_if (fun h => ?_) (fun h => ?_)
  · rw [nI_leI (by omega) (by omega)] at h
    have e : pl t1 g x = if nI (ti t1 (20, g, 0)) = x then 0 else -1 := by
      unfold pl
      rw [fd_none (fun k hk => h3 k (by omega))]
    rw [e] at k
    (repeat (first | with_reducible refine tw_letI ?_ | with_reducible refine tw_letL ?_ | with_reducible refine tw_nnS ?_ | with_reducible refine is_0 ?_ | with_reducible refine is_1 ?_ | with_reducible refine is_8 ?_ | with_reducible refine is_9 ?_ | with_reducible refine is_sg (by omega) ?_ | with_reducible refine is_hp (by omega) ?_ | with_reducible refine tw_nz (by decide) ?_ | with_reducible refine o_0_1 ?_ | with_reducible refine o_0_2 ?_ | with_reducible refine o_0_3 ?_ | with_reducible refine o_0_4 ?_ | with_reducible refine o_0_6 ?_ | with_reducible refine o_0_8 ?_ | with_reducible refine o_0_10 ?_ | with_reducible refine o_0_11 ?_ | with_reducible refine o_0_12 ?_ | with_reducible refine o_9_0 ?_ | with_reducible refine o_9_7 ?_ | with_reducible refine o_sf (by omega) ?_ | with_reducible refine o_sv (by omega) ?_ | with_reducible refine o_sy (by omega) ?_ | with_reducible refine o_sw (by omega) ?_ | with_reducible refine o_hr (by omega) ?_ | with_reducible refine o_hs (by omega) ?_ | with_reducible refine g_o ?_ | with_reducible refine g_wn ?_ | with_reducible refine g_cn ?_ | with_reducible refine g_gn ?_ | with_reducible refine g_ir ?_ | with_reducible refine g_fa ?_ | with_reducible refine g_cs ?_ | with_reducible refine g_n ?_ | with_reducible refine g_fn ?_ | with_reducible refine g_li ?_ | with_reducible refine g_ra ?_ | with_reducible refine g_la ?_ | with_reducible refine g_op ?_ | with_reducible refine g_sm ?_ | with_reducible refine g_gl ?_ | with_reducible refine g_sp (by omega) ?_ | with_reducible refine g_sn (by omega) ?_ | with_reducible refine g_sr (by omega) ?_ | with_reducible refine g_sl (by omega) ?_ | with_reducible refine g_sb (by omega) ?_ | with_reducible refine g_sa (by omega) ?_ | with_reducible refine g_sg (by omega) ?_ | with_reducible refine g_hm (by omega) ?_ | with_reducible refine g_hw (by omega) ?_ | with_reducible refine g_hh (by omega) ?_ | with_reducible refine g_ho (by omega) ?_ | with_reducible refine g_ht (by omega) ?_ | with_reducible refine n_sh ?_))
    refine tw_if (fun h5 => ?_) (fun h5 => ?_)
    · rw [if_pos h5.symm] at k; exact tw_ret k
    · rw [if_neg (fun z => h5 z.symm)] at k; exact tw_ret k
  · rw [nI_leI (by omega) (by omega)] at h
    (repeat (first | with_reducible refine tw_letI ?_ | with_reducible refine tw_letL ?_ | with_reducible refine tw_nnS ?_ | with_reducible refine is_0 ?_ | with_reducible refine is_1 ?_ | with_reducible refine is_8 ?_ | with_reducible refine is_9 ?_ | with_reducible refine is_sg (by omega) ?_ | with_reducible refine is_hp (by omega) ?_ | with_reducible refine tw_nz (by decide) ?_ | with_reducible refine o_0_1 ?_ | with_reducible refine o_0_2 ?_ | with_reducible refine o_0_3 ?_ | with_reducible refine o_0_4 ?_ | with_reducible refine o_0_6 ?_ | with_reducible refine o_0_8 ?_ | with_reducible refine o_0_10 ?_ | with_reducible refine o_0_11 ?_ | with_reducible refine o_0_12 ?_ | with_reducible refine o_9_0 ?_ | with_reducible refine o_9_7 ?_ | with_reducible refine o_sf (by omega) ?_ | with_reducible refine o_sv (by omega) ?_ | with_reducible refine o_sy (by omega) ?_ | with_reducible refine o_sw (by omega) ?_ | with_reducible refine o_hr (by omega) ?_ | with_reducible refine o_hs (by omega) ?_ | with_reducible refine g_o ?_ | with_reducible refine g_wn ?_ | with_reducible refine g_cn ?_ | with_reducible refine g_gn ?_ | with_reducible refine g_ir ?_ | with_reducible refine g_fa ?_ | with_reducible refine g_cs ?_ | with_reducible refine g_n ?_ | with_reducible refine g_fn ?_ | with_reducible refine g_li ?_ | with_reducible refine g_ra ?_ | with_reducible refine g_la ?_ | with_reducible refine g_op ?_ | with_reducible refine g_sm ?_ | with_reducible refine g_gl ?_ | with_reducible refine g_sp (by omega) ?_ | with_reducible refine g_sn (by omega) ?_ | with_reducible refine g_sr (by omega) ?_ | with_reducible refine g_sl (by omega) ?_ | with_reducible refine g_sb (by omega) ?_ | with_reducible refine g_sa (by omega) ?_ | with_reducible refine g_sg (by omega) ?_ | with_reducible refine g_hm (by omega) ?_ | with_reducible refine g_hw (by omega) ?_ | with_reducible refine g_hh (by omega) ?_ | with_reducible refine g_ho (by omega) ?_ | with_reducible refine g_ht (by omega) ?_ | with_reducible refine n_sh ?_))
    refine g_sf i hg rfl (by omega) ?_
    refine tw_if (fun h4 => ?_) (fun h4 => ?_)
    · have e : pl t1 g x = nI (i + 1) := by
        unfold pl
        rw [fd_at h4 h3 (by omega)]
      rw [e] at k
      refine tw_ret ?_
      rw [nI_1]; exact k
    · (repeat (first | with_reducible refine tw_letI ?_ | with_reducible refine tw_letL ?_ | with_reducible refine tw_nnS ?_ | with_reducible refine is_0 ?_ | with_reducible refine is_1 ?_ | with_reducible refine is_8 ?_ | with_reducible refine is_9 ?_ | with_reducible refine is_sg (by omega) ?_ | with_reducible refine is_hp (by omega) ?_ | with_reducible refine tw_nz (by decide) ?_ | with_reducible refine o_0_1 ?_ | with_reducible refine o_0_2 ?_ | with_reducible refine o_0_3 ?_ | with_reducible refine o_0_4 ?_ | with_reducible refine o_0_6 ?_ | with_reducible refine o_0_8 ?_ | with_reducible refine o_0_10 ?_ | with_reducible refine o_0_11 ?_ | with_reducible refine o_0_12 ?_ | with_reducible refine o_9_0 ?_ | with_reducible refine o_9_7 ?_ | with_reducible refine o_sf (by omega) ?_ | with_reducible refine o_sv (by omega) ?_ | with_reducible refine o_sy (by omega) ?_ | with_reducible refine o_sw (by omega) ?_ | with_reducible refine o_hr (by omega) ?_ | with_reducible refine o_hs (by omega) ?_ | with_reducible refine g_o ?_ | with_reducible refine g_wn ?_ | with_reducible refine g_cn ?_ | with_reducible refine g_gn ?_ | with_reducible refine g_ir ?_ | with_reducible refine g_fa ?_ | with_reducible refine g_cs ?_ | with_reducible refine g_n ?_ | with_reducible refine g_fn ?_ | with_reducible refine g_li ?_ | with_reducible refine g_ra ?_ | with_reducible refine g_la ?_ | with_reducible refine g_op ?_ | with_reducible refine g_sm ?_ | with_reducible refine g_gl ?_ | with_reducible refine g_sp (by omega) ?_ | with_reducible refine g_sn (by omega) ?_ | with_reducible refine g_sr (by omega) ?_ | with_reducible refine g_sl (by omega) ?_ | with_reducible refine g_sb (by omega) ?_ | with_reducible refine g_sa (by omega) ?_ | with_reducible refine g_sg (by omega) ?_ | with_reducible refine g_hm (by omega) ?_ | with_reducible refine g_hw (by omega) ?_ | with_reducible refine g_hh (by omega) ?_ | with_reducible refine g_ho (by omega) ?_ | with_reducible refine g_ht (by omega) ?_ | with_reducible refine n_sh ?_))
      rw [nI_1]
      exact ih _ _ ⟨rfl, i + 1, by omega, rfl, fun j hj => by
        by_cases e : j = i
        · rw [e]; exact h4
        · exact h3 j (by omega)⟩ (by rw [nI_clamp (by omega), nI_clamp (by omega)]; omega)
/-- whether a segment lets x go -/
def lg (t : bT) (g : Nat) (x : Int32) : Prop := ¬ pl t g x < 0 ∧ (nI (ti t (22, g, 0)) >>> (pl t g x &&& 31)) &&& 1 = 1
theorem t_letsGo {g : Nat} {x : Int32} (hg : g < 286) (hr : ti t (21, g, 0) ≤ 10) {Q : (bv_E ⊕ Int32) → bT → Prop} (k1 : lg t g x → Q (.inr 1) t) (k2 : ¬ lg t g x → Q (.inr 0) t) : tw C sa s0 (PX4_letsGo (C + bv_sg g) x) t Q := by
  unfold PX4_letsGo
  refine tw_bindV (fun Q' q => is_sg hg (t_placeOf hg hr q)) ?_
  refine tw_if (fun h => ?_) (fun h => ?_)
  · exact tw_retZ (by decide) (k2 fun z => z.1 h)
  · (repeat (first | with_reducible refine tw_letI ?_ | with_reducible refine tw_letL ?_ | with_reducible refine tw_nnS ?_ | with_reducible refine is_0 ?_ | with_reducible refine is_1 ?_ | with_reducible refine is_8 ?_ | with_reducible refine is_9 ?_ | with_reducible refine is_sg (by omega) ?_ | with_reducible refine is_hp (by omega) ?_ | with_reducible refine tw_nz (by decide) ?_ | with_reducible refine o_0_1 ?_ | with_reducible refine o_0_2 ?_ | with_reducible refine o_0_3 ?_ | with_reducible refine o_0_4 ?_ | with_reducible refine o_0_6 ?_ | with_reducible refine o_0_8 ?_ | with_reducible refine o_0_10 ?_ | with_reducible refine o_0_11 ?_ | with_reducible refine o_0_12 ?_ | with_reducible refine o_9_0 ?_ | with_reducible refine o_9_7 ?_ | with_reducible refine o_sf (by omega) ?_ | with_reducible refine o_sv (by omega) ?_ | with_reducible refine o_sy (by omega) ?_ | with_reducible refine o_sw (by omega) ?_ | with_reducible refine o_hr (by omega) ?_ | with_reducible refine o_hs (by omega) ?_ | with_reducible refine g_o ?_ | with_reducible refine g_wn ?_ | with_reducible refine g_cn ?_ | with_reducible refine g_gn ?_ | with_reducible refine g_ir ?_ | with_reducible refine g_fa ?_ | with_reducible refine g_cs ?_ | with_reducible refine g_n ?_ | with_reducible refine g_fn ?_ | with_reducible refine g_li ?_ | with_reducible refine g_ra ?_ | with_reducible refine g_la ?_ | with_reducible refine g_op ?_ | with_reducible refine g_sm ?_ | with_reducible refine g_gl ?_ | with_reducible refine g_sp (by omega) ?_ | with_reducible refine g_sn (by omega) ?_ | with_reducible refine g_sr (by omega) ?_ | with_reducible refine g_sl (by omega) ?_ | with_reducible refine g_sb (by omega) ?_ | with_reducible refine g_sa (by omega) ?_ | with_reducible refine g_sg (by omega) ?_ | with_reducible refine g_hm (by omega) ?_ | with_reducible refine g_hw (by omega) ?_ | with_reducible refine g_hh (by omega) ?_ | with_reducible refine g_ho (by omega) ?_ | with_reducible refine g_ht (by omega) ?_ | with_reducible refine n_sh ?_))
    refine tw_if (fun h4 => ?_) (fun h4 => ?_)
    · exact tw_retZ (by decide) (k1 ⟨h, h4⟩)
    · exact tw_retZ (by decide) (k2 fun z => h4 z.2)
/-- a segment begun anew, but its numbers and rows -/
def sB0 (t : bT) (g k p n : Nat) : bT := si (sL (si (si (si (si (si (si (sk t g k) (19, g, 0) p) (20, g, 0) n) (21, g, 0) 0) (22, g, 0) 0) (23, g, 0) 0) (24, g, 0) 0) g 0) (25, g, 0) 0
/-- numbers and rows set, up to i, y -/
def sB1 (t : bT) (g k i y : Nat) : bT := ((fun x => if x.1 = 27 ∧ x.2.1 = g ∧ x.2.2 < i then (if k = 9 ∨ kd_n k ≤ x.2.2 then 0 else iN (kd_least k x.2.2)) else if x.1 = 29 ∧ x.2.1 = g ∧ x.2.2 < y then 0 else t.1 x), t.2)
theorem sB1_00 (t : bT) (g k : Nat) : sB1 t g k 0 0 = t := by
  unfold sB1
  refine Prod.ext (funext fun x => ?_) rfl
  show (if x.1 = 27 ∧ x.2.1 = g ∧ x.2.2 < 0 then _ else if x.1 = 29 ∧ x.2.1 = g ∧ x.2.2 < 0 then 0 else t.1 x) = t.1 x
  rw [if_neg (by omega), if_neg (by omega)]
theorem sB1_i (t : bT) (g k i : Nat) : si (sB1 t g k i 0) (27, g, i) (if k = 9 ∨ kd_n k ≤ i then 0 else iN (kd_least k i)) = sB1 t g k (i + 1) 0 := by
  unfold sB1 si
  refine Prod.ext (funext fun x => ?_) rfl
  obtain ⟨a, b, c⟩ := x
  simp only [Prod.mk.injEq]
  by_cases h1 : a = 27 ∧ b = g ∧ c = i
  · rw [if_pos h1, if_pos (c := a = 27 ∧ b = g ∧ c < i + 1) ⟨h1.1, h1.2.1, by omega⟩, h1.2.2]
  · rw [if_neg h1]
    by_cases h2 : a = 27 ∧ b = g ∧ c < i
    · rw [if_pos h2, if_pos (c := a = 27 ∧ b = g ∧ c < i + 1) ⟨h2.1, h2.2.1, by omega⟩]
    · rw [if_neg h2, if_neg (c := a = 27 ∧ b = g ∧ c < i + 1) (by omega)]
theorem sB1_y (t : bT) (g k y : Nat) : si (sB1 t g k 6 y) (29, g, y) 0 = sB1 t g k 6 (y + 1) := by
  unfold sB1 si
  refine Prod.ext (funext fun x => ?_) rfl
  obtain ⟨a, b, c⟩ := x
  simp only [Prod.mk.injEq]
  by_cases h1 : a = 29 ∧ b = g ∧ c = y
  · rw [if_pos h1, if_neg (by omega), if_pos ⟨h1.1, h1.2.1, by omega⟩]
  · rw [if_neg h1]
    by_cases h3 : a = 27 ∧ b = g ∧ c < 6
    · rw [if_pos h3, if_pos h3]
    · rw [if_neg h3, if_neg h3]
      by_cases h2 : a = 29 ∧ b = g ∧ c < y
      · rw [if_pos h2, if_pos ⟨h2.1, h2.2.1, by omega⟩]
      · rw [if_neg h2, if_neg (c := a = 29 ∧ b = g ∧ c < y + 1) (by omega)]
theorem t_begin {g k p n : Nat} {xp xn : Int32} (hg : g < 286) (hk : k < 10) (hp : xp = nI p) (hn : xn = nI n) {Q : (bv_E ⊕ Nat) → bT → Prop} (kk : Q (.inr (C + bv_sg g)) (sB1 (sB0 t g k p n) g k 6 16)) : tw C sa s0 (PX4_begin (C + bv_sg g) (sa (11 + k)) xp xn) t Q := by
  subst hp hn
  unfold PX4_begin
  refine p_sk hg hk ?_
  refine p_sp hg p rfl (p_sn hg n rfl (p_sr hg 0 rfl (p_sl hg 0 rfl (p_sb hg 0 rfl (p_sa hg 0 rfl (p_sL hg 0 rfl (p_sg hg 0 rfl ?_)))))))
  show tw C sa s0 _ (sB0 t g k p n) Q
  refine tw_jnP (fun t' => t' = sB1 (sB0 t g k p n) g k 6 0) (fun K hK => ?_) (fun t' e => ?_)
  · refine tw_loop (fun (k : Int32 → bp_M Nat) (a : Int32) => k a) 0 rfl (fun a t1 => ∃ i, i ≤ 6 ∧ a = nI i ∧ t1 = sB1 (sB0 t g k p n) g k i 0) (fun a _ => 10 - a.toNatClampNeg) (fun a t1 h => by unfold bv_fu; omega) (fun K2 a t1 h ih => ?_) ⟨0, by omega, rfl, (sB1_00 _ g k).symm⟩
    obtain ⟨i, h1, rfl, rfl⟩ := h
    unfold BX4_begin_48
    (repeat (first | with_reducible refine tw_letI ?_ | with_reducible refine tw_letL ?_ | with_reducible refine tw_nnS ?_ | with_reducible refine is_0 ?_ | with_reducible refine is_1 ?_ | with_reducible refine is_8 ?_ | with_reducible refine is_9 ?_ | with_reducible refine is_sg (by omega) ?_ | with_reducible refine is_hp (by omega) ?_ | with_reducible refine tw_nz (by decide) ?_ | with_reducible refine o_0_1 ?_ | with_reducible refine o_0_2 ?_ | with_reducible refine o_0_3 ?_ | with_reducible refine o_0_4 ?_ | with_reducible refine o_0_6 ?_ | with_reducible refine o_0_8 ?_ | with_reducible refine o_0_10 ?_ | with_reducible refine o_0_11 ?_ | with_reducible refine o_0_12 ?_ | with_reducible refine o_9_0 ?_ | with_reducible refine o_9_7 ?_ | with_reducible refine o_sf (by omega) ?_ | with_reducible refine o_sv (by omega) ?_ | with_reducible refine o_sy (by omega) ?_ | with_reducible refine o_sw (by omega) ?_ | with_reducible refine o_hr (by omega) ?_ | with_reducible refine o_hs (by omega) ?_ | with_reducible refine g_o ?_ | with_reducible refine g_wn ?_ | with_reducible refine g_cn ?_ | with_reducible refine g_gn ?_ | with_reducible refine g_ir ?_ | with_reducible refine g_fa ?_ | with_reducible refine g_cs ?_ | with_reducible refine g_n ?_ | with_reducible refine g_fn ?_ | with_reducible refine g_li ?_ | with_reducible refine g_ra ?_ | with_reducible refine g_la ?_ | with_reducible refine g_op ?_ | with_reducible refine g_sm ?_ | with_reducible refine g_gl ?_ | with_reducible refine g_sp (by omega) ?_ | with_reducible refine g_sn (by omega) ?_ | with_reducible refine g_sr (by omega) ?_ | with_reducible refine g_sl (by omega) ?_ | with_reducible refine g_sb (by omega) ?_ | with_reducible refine g_sa (by omega) ?_ | with_reducible refine g_sg (by omega) ?_ | with_reducible refine g_hm (by omega) ?_ | with_reducible refine g_hw (by omega) ?_ | with_reducible refine g_hh (by omega) ?_ | with_reducible refine g_ho (by omega) ?_ | with_reducible refine g_ht (by omega) ?_ | with_reducible refine n_sh ?_))
    refine n_sv hg ?_
    refine tw_if (fun h => ?_) (fun h => ?_)
    · rw [nI_leI (by omega) (by omega)] at h
      have : i = 6 := by omega
      subst this
      exact hK _ rfl
    · rw [nI_leI (by omega) (by omega)] at h
      (repeat (first | with_reducible refine tw_letI ?_ | with_reducible refine tw_letL ?_ | with_reducible refine tw_nnS ?_ | with_reducible refine is_0 ?_ | with_reducible refine is_1 ?_ | with_reducible refine is_8 ?_ | with_reducible refine is_9 ?_ | with_reducible refine is_sg (by omega) ?_ | with_reducible refine is_hp (by omega) ?_ | with_reducible refine tw_nz (by decide) ?_ | with_reducible refine o_0_1 ?_ | with_reducible refine o_0_2 ?_ | with_reducible refine o_0_3 ?_ | with_reducible refine o_0_4 ?_ | with_reducible refine o_0_6 ?_ | with_reducible refine o_0_8 ?_ | with_reducible refine o_0_10 ?_ | with_reducible refine o_0_11 ?_ | with_reducible refine o_0_12 ?_ | with_reducible refine o_9_0 ?_ | with_reducible refine o_9_7 ?_ | with_reducible refine o_sf (by omega) ?_ | with_reducible refine o_sv (by omega) ?_ | with_reducible refine o_sy (by omega) ?_ | with_reducible refine o_sw (by omega) ?_ | with_reducible refine o_hr (by omega) ?_ | with_reducible refine o_hs (by omega) ?_ | with_reducible refine g_o ?_ | with_reducible refine g_wn ?_ | with_reducible refine g_cn ?_ | with_reducible refine g_gn ?_ | with_reducible refine g_ir ?_ | with_reducible refine g_fa ?_ | with_reducible refine g_cs ?_ | with_reducible refine g_n ?_ | with_reducible refine g_fn ?_ | with_reducible refine g_li ?_ | with_reducible refine g_ra ?_ | with_reducible refine g_la ?_ | with_reducible refine g_op ?_ | with_reducible refine g_sm ?_ | with_reducible refine g_gl ?_ | with_reducible refine g_sp (by omega) ?_ | with_reducible refine g_sn (by omega) ?_ | with_reducible refine g_sr (by omega) ?_ | with_reducible refine g_sl (by omega) ?_ | with_reducible refine g_sb (by omega) ?_ | with_reducible refine g_sa (by omega) ?_ | with_reducible refine g_sg (by omega) ?_ | with_reducible refine g_hm (by omega) ?_ | with_reducible refine g_hw (by omega) ?_ | with_reducible refine g_hh (by omega) ?_ | with_reducible refine g_ho (by omega) ?_ | with_reducible refine g_ht (by omega) ?_ | with_reducible refine n_sh ?_))
      refine t_getK1 hk ?_
      have fin : tw C sa s0 (bp_astI (C + (bv_sg g + 2)) (nI i) (nI (if k = 9 ∨ kd_n k ≤ i then 0 else iN (kd_least k i))) (bp_letI (nI i + 1) fun x14 => K2 x14)) (sB1 (sB0 t g k p n) g k i 0) Q := by
        refine p_sv i _ hg rfl (by omega) rfl ?_
        rw [sB1_i]
        (repeat (first | with_reducible refine tw_letI ?_ | with_reducible refine tw_letL ?_ | with_reducible refine tw_nnS ?_ | with_reducible refine is_0 ?_ | with_reducible refine is_1 ?_ | with_reducible refine is_8 ?_ | with_reducible refine is_9 ?_ | with_reducible refine is_sg (by omega) ?_ | with_reducible refine is_hp (by omega) ?_ | with_reducible refine tw_nz (by decide) ?_ | with_reducible refine o_0_1 ?_ | with_reducible refine o_0_2 ?_ | with_reducible refine o_0_3 ?_ | with_reducible refine o_0_4 ?_ | with_reducible refine o_0_6 ?_ | with_reducible refine o_0_8 ?_ | with_reducible refine o_0_10 ?_ | with_reducible refine o_0_11 ?_ | with_reducible refine o_0_12 ?_ | with_reducible refine o_9_0 ?_ | with_reducible refine o_9_7 ?_ | with_reducible refine o_sf (by omega) ?_ | with_reducible refine o_sv (by omega) ?_ | with_reducible refine o_sy (by omega) ?_ | with_reducible refine o_sw (by omega) ?_ | with_reducible refine o_hr (by omega) ?_ | with_reducible refine o_hs (by omega) ?_ | with_reducible refine g_o ?_ | with_reducible refine g_wn ?_ | with_reducible refine g_cn ?_ | with_reducible refine g_gn ?_ | with_reducible refine g_ir ?_ | with_reducible refine g_fa ?_ | with_reducible refine g_cs ?_ | with_reducible refine g_n ?_ | with_reducible refine g_fn ?_ | with_reducible refine g_li ?_ | with_reducible refine g_ra ?_ | with_reducible refine g_la ?_ | with_reducible refine g_op ?_ | with_reducible refine g_sm ?_ | with_reducible refine g_gl ?_ | with_reducible refine g_sp (by omega) ?_ | with_reducible refine g_sn (by omega) ?_ | with_reducible refine g_sr (by omega) ?_ | with_reducible refine g_sl (by omega) ?_ | with_reducible refine g_sb (by omega) ?_ | with_reducible refine g_sa (by omega) ?_ | with_reducible refine g_sg (by omega) ?_ | with_reducible refine g_hm (by omega) ?_ | with_reducible refine g_hw (by omega) ?_ | with_reducible refine g_hh (by omega) ?_ | with_reducible refine g_ho (by omega) ?_ | with_reducible refine g_ht (by omega) ?_ | with_reducible refine n_sh ?_))
        rw [nI_1]
        exact ih _ _ ⟨i + 1, by omega, rfl, rfl⟩ (by rw [nI_clamp (by omega), nI_clamp (by omega)]; omega)
      have hkn : kd_n k ≤ 6 := by unfold kd_n; split <;> omega
      refine tw_jnV (nI (if k = 9 ∨ kd_n k ≤ i then 0 else iN (kd_least k i))) (fun K3 hK3 => ?_) fin
      rw [bv_nums_n]
      refine tw_if (fun h2 => ?_) (fun h2 => ?_)
      · rw [nI_leI (by omega) (by omega)] at h2
        rw [if_pos (Or.inr h2)] at hK3; exact hK3
      · rw [nI_leI (by omega) (by omega)] at h2
        refine t_gets (by omega) (t_ifK (b := 9) hk (by omega) (fun e => ?_) (fun e => ?_))
        · rw [if_pos (Or.inl e)] at hK3; exact hK3
        · rw [if_neg (by omega), nI_iN] at hK3
          refine tw_bindV (fun Q' q => t_isK hk (t_least hk rfl ?_ (by omega) q)) hK3
          by_cases h4 : k = 4
          · left
            subst h4
            have : kd_n 4 = 4 := rfl
            omega
          · exact Or.inr h4
  · subst e
    refine tw_loop (fun (k : Int32 → bp_M Nat) (a : Int32) => k a) 0 rfl (fun a t1 => ∃ i, i ≤ 16 ∧ a = nI i ∧ t1 = sB1 (sB0 t g k p n) g k 6 i) (fun a _ => 20 - a.toNatClampNeg) (fun a t1 h => by unfold bv_fu; omega) (fun K2 a t1 h ih => ?_) ⟨0, by omega, rfl, rfl⟩
    obtain ⟨i, h1, rfl, rfl⟩ := h
    unfold BX4_begin_100
    refine tw_if (fun h => ?_) (fun h => ?_)
    · rw [show (16 : Int32) = nI 16 from rfl, nI_leI (by omega) (by omega)] at h
      have : i = 16 := by omega
      subst this
      exact tw_ret kk
    · rw [show (16 : Int32) = nI 16 from rfl, nI_leI (by omega) (by omega)] at h
      (repeat (first | with_reducible refine tw_letI ?_ | with_reducible refine tw_letL ?_ | with_reducible refine tw_nnS ?_ | with_reducible refine is_0 ?_ | with_reducible refine is_1 ?_ | with_reducible refine is_8 ?_ | with_reducible refine is_9 ?_ | with_reducible refine is_sg (by omega) ?_ | with_reducible refine is_hp (by omega) ?_ | with_reducible refine tw_nz (by decide) ?_ | with_reducible refine o_0_1 ?_ | with_reducible refine o_0_2 ?_ | with_reducible refine o_0_3 ?_ | with_reducible refine o_0_4 ?_ | with_reducible refine o_0_6 ?_ | with_reducible refine o_0_8 ?_ | with_reducible refine o_0_10 ?_ | with_reducible refine o_0_11 ?_ | with_reducible refine o_0_12 ?_ | with_reducible refine o_9_0 ?_ | with_reducible refine o_9_7 ?_ | with_reducible refine o_sf (by omega) ?_ | with_reducible refine o_sv (by omega) ?_ | with_reducible refine o_sy (by omega) ?_ | with_reducible refine o_sw (by omega) ?_ | with_reducible refine o_hr (by omega) ?_ | with_reducible refine o_hs (by omega) ?_ | with_reducible refine g_o ?_ | with_reducible refine g_wn ?_ | with_reducible refine g_cn ?_ | with_reducible refine g_gn ?_ | with_reducible refine g_ir ?_ | with_reducible refine g_fa ?_ | with_reducible refine g_cs ?_ | with_reducible refine g_n ?_ | with_reducible refine g_fn ?_ | with_reducible refine g_li ?_ | with_reducible refine g_ra ?_ | with_reducible refine g_la ?_ | with_reducible refine g_op ?_ | with_reducible refine g_sm ?_ | with_reducible refine g_gl ?_ | with_reducible refine g_sp (by omega) ?_ | with_reducible refine g_sn (by omega) ?_ | with_reducible refine g_sr (by omega) ?_ | with_reducible refine g_sl (by omega) ?_ | with_reducible refine g_sb (by omega) ?_ | with_reducible refine g_sa (by omega) ?_ | with_reducible refine g_sg (by omega) ?_ | with_reducible refine g_hm (by omega) ?_ | with_reducible refine g_hw (by omega) ?_ | with_reducible refine g_hh (by omega) ?_ | with_reducible refine g_ho (by omega) ?_ | with_reducible refine g_ht (by omega) ?_ | with_reducible refine n_sh ?_))
      refine p_sw i 0 hg rfl (by omega) rfl ?_
      rw [sB1_y]
      (repeat (first | with_reducible refine tw_letI ?_ | with_reducible refine tw_letL ?_ | with_reducible refine tw_nnS ?_ | with_reducible refine is_0 ?_ | with_reducible refine is_1 ?_ | with_reducible refine is_8 ?_ | with_reducible refine is_9 ?_ | with_reducible refine is_sg (by omega) ?_ | with_reducible refine is_hp (by omega) ?_ | with_reducible refine tw_nz (by decide) ?_ | with_reducible refine o_0_1 ?_ | with_reducible refine o_0_2 ?_ | with_reducible refine o_0_3 ?_ | with_reducible refine o_0_4 ?_ | with_reducible refine o_0_6 ?_ | with_reducible refine o_0_8 ?_ | with_reducible refine o_0_10 ?_ | with_reducible refine o_0_11 ?_ | with_reducible refine o_0_12 ?_ | with_reducible refine o_9_0 ?_ | with_reducible refine o_9_7 ?_ | with_reducible refine o_sf (by omega) ?_ | with_reducible refine o_sv (by omega) ?_ | with_reducible refine o_sy (by omega) ?_ | with_reducible refine o_sw (by omega) ?_ | with_reducible refine o_hr (by omega) ?_ | with_reducible refine o_hs (by omega) ?_ | with_reducible refine g_o ?_ | with_reducible refine g_wn ?_ | with_reducible refine g_cn ?_ | with_reducible refine g_gn ?_ | with_reducible refine g_ir ?_ | with_reducible refine g_fa ?_ | with_reducible refine g_cs ?_ | with_reducible refine g_n ?_ | with_reducible refine g_fn ?_ | with_reducible refine g_li ?_ | with_reducible refine g_ra ?_ | with_reducible refine g_la ?_ | with_reducible refine g_op ?_ | with_reducible refine g_sm ?_ | with_reducible refine g_gl ?_ | with_reducible refine g_sp (by omega) ?_ | with_reducible refine g_sn (by omega) ?_ | with_reducible refine g_sr (by omega) ?_ | with_reducible refine g_sl (by omega) ?_ | with_reducible refine g_sb (by omega) ?_ | with_reducible refine g_sa (by omega) ?_ | with_reducible refine g_sg (by omega) ?_ | with_reducible refine g_hm (by omega) ?_ | with_reducible refine g_hw (by omega) ?_ | with_reducible refine g_hh (by omega) ?_ | with_reducible refine g_ho (by omega) ?_ | with_reducible refine g_ht (by omega) ?_ | with_reducible refine n_sh ?_))
      rw [nI_1]
      exact ih _ _ ⟨i + 1, by omega, rfl, rfl⟩ (by rw [nI_clamp (by omega), nI_clamp (by omega)]; omega)
end SG
