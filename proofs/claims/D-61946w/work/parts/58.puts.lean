/-! Bytes written: lists -/
set_option maxRecDepth 100000
/-- the low byte -/
def bN (v : Int32) : Nat := v.toBitVec.toNat % 256
theorem bN_lt (v : Int32) : bN v < 256 := Nat.mod_lt _ (by omega)
theorem bN_and (v : Int32) : v &&& 255 = nI (bN v) := pk_and v 8 rfl
theorem bN_i8 (x : Int32) : x.toInt8.toInt32 &&& 255 = x &&& 255 := by
  apply Int32.toBitVec_inj.mp
  rw [Int32.toBitVec_and, Int32.toBitVec_and, Int8.toBitVec_toInt32, Int32.toBitVec_toInt8]
  apply BitVec.eq_of_getLsbD_eq
  intro i hi
  rw [BitVec.getLsbD_and, BitVec.getLsbD_and]
  have hm : ∀ i < 32, 8 ≤ i → (255 : Int32).toBitVec.getLsbD i = false := by decide
  rcases Nat.lt_or_ge i 8 with z | z
  · rw [BitVec.getLsbD_signExtend, BitVec.getLsbD_signExtend, if_pos z, if_pos hi]
    simp only [z, hi, decide_true, Bool.true_and]
  · rw [hm i hi z]; simp
theorem bN_cb (v : Int32) : v.toInt8.toInt32 = cb (bN v) := (sc_eq (i8_i8 v) (bN_lt v)).mpr ((bN_i8 v).trans (bN_and v))
def lat (L : List Nat) (i : Nat) : Nat := (L[i]?).getD 0
theorem lat_l {L M : List Nat} {i : Nat} (h : i < L.length) : lat (L ++ M) i = lat L i := by unfold lat; rw [List.getElem?_append_left h]
theorem lat_r {L M : List Nat} {i : Nat} (h : L.length ≤ i) : lat (L ++ M) i = lat M (i - L.length) := by unfold lat; rw [List.getElem?_append_right h]
def cat (f : Nat → List Nat) : Nat → List Nat
  | 0 => []
  | k + 1 => cat f k ++ f k
theorem cat_len {f : Nat → List Nat} {c : Nat} (h : ∀ k, (f k).length = c) : ∀ n, (cat f n).length = n * c
  | 0 => by rw [Nat.zero_mul]; rfl
  | n + 1 => by
    show (cat f n ++ f n).length = _
    rw [List.length_append, cat_len h n, h, Nat.succ_mul]
theorem cat_le {f : Nat → List Nat} {c : Nat} (h : ∀ k, (f k).length ≤ c) : ∀ n, (cat f n).length ≤ n * c
  | 0 => by rw [Nat.zero_mul]; exact Nat.le_refl _
  | n + 1 => by
    show (cat f n ++ f n).length ≤ _
    have := cat_le h n
    have := h n
    rw [List.length_append, Nat.succ_mul]; omega
theorem cat_mono {f : Nat → List Nat} {n m : Nat} (h : n ≤ m) : (cat f n).length ≤ (cat f m).length := by
  induction m with
  | zero => have : n = 0 := by omega
            subst this; exact Nat.le_refl _
  | succ m ih =>
    by_cases e : n = m + 1
    · subst e; exact Nat.le_refl _
    · have := ih (by omega)
      show _ ≤ (cat f m ++ f m).length
      rw [List.length_append]; omega
/-- only what is written changes -/
def wF (t0 t : bT) : Prop := (∀ l : bL, l.1 ≠ 1 → l.1 ≠ 15 → ti t l = ti t0 l) ∧ ∀ g, tk t g = tk t0 g
theorem wF.v {t0 t : bT} (h : wF t0 t) {c : Nat} {x : Nat × Nat} (h1 : c ≠ 1) (h2 : c ≠ 15) : ti t (c, x) = ti t0 (c, x) := h.1 _ h1 h2
theorem wF.k {t0 t : bT} (h : wF t0 t) (g : Nat) : tk t g = tk t0 g := h.2 g
theorem wF.rf {t : bT} : wF t t := ⟨fun _ _ _ => rfl, fun _ => rfl⟩
theorem wF.tr {t0 t t1 : bT} (h : wF t0 t) (h1 : wF t t1) : wF t0 t1 := ⟨fun l a b => (h1.1 l a b).trans (h.1 l a b), fun g => (h1.2 g).trans (h.2 g)⟩
/-- the bytes L are added -/
def wE (t : bT) (L : List Nat) (t1 : bT) : Prop := wF t t1 ∧ ti t1 (1, 0, 0) = ti t (1, 0, 0) + L.length ∧ (∀ i, i < L.length → ti t1 (15, ti t (1, 0, 0) + i, 0) = lat L i) ∧ (∀ j, j < ti t (1, 0, 0) → ti t1 (15, j, 0) = ti t (15, j, 0)) ∧ t1.2 = t.2
theorem wE.nil {t : bT} : wE t [] t := ⟨wF.rf, rfl, fun i hi => absurd hi (Nat.not_lt_zero i), fun _ _ => rfl, rfl⟩
theorem wE.app {t t1 t2 : bT} {L M : List Nat} (h : wE t L t1) (h2 : wE t1 M t2) : wE t (L ++ M) t2 := by
  obtain ⟨a1, a2, a3, a4, a5⟩ := h
  obtain ⟨b1, b2, b3, b4, b5⟩ := h2
  refine ⟨a1.tr b1, by rw [b2, a2, List.length_append]; omega, fun i hi => ?_, fun j hj => (b4 j (by omega)).trans (a4 j hj), b5.trans a5⟩
  rw [List.length_append] at hi
  by_cases e : i < L.length
  · rw [lat_l e, b4 _ (by omega), a3 i e]
  · rw [lat_r (by omega), ← b3 _ (by omega), a2]
    congr 3; omega
/-- the reference's -/
def uE (n : Nat) (s : bv_S) (L : List Nat) (s1 : bv_S) : Prop := bv_i s1 1471 13 = nI (n + L.length) ∧ (∀ i, i < L.length → bv_i s1 1481 (n + i) = nI (lat L i)) ∧ (∀ j, j < n → bv_i s1 1481 j = bv_i s 1481 j) ∧ ∀ o k, o ≠ 1481 → (o ≠ 1471 ∨ k ≠ 13) → bv_i s1 o k = bv_i s o k
theorem uE.nil {n : Nat} {s : bv_S} (h : bv_i s 1471 13 = nI n) : uE n s [] s := ⟨h, fun i hi => absurd hi (Nat.not_lt_zero i), fun _ _ => rfl, fun _ _ _ _ => rfl⟩
theorem uE.app {n : Nat} {s s1 s2 : bv_S} {L M : List Nat} (h : uE n s L s1) (h2 : uE (n + L.length) s1 M s2) : uE n s (L ++ M) s2 := by
  obtain ⟨a2, a3, a4, a1⟩ := h
  obtain ⟨b2, b3, b4, b1⟩ := h2
  refine ⟨by rw [b2, List.length_append, Nat.add_assoc], fun i hi => ?_, fun j hj => (b4 j (by omega)).trans (a4 j hj), fun o k h1 h2 => (b1 o k h1 h2).trans (a1 o k h1 h2)⟩
  rw [List.length_append] at hi
  by_cases e : i < L.length
  · rw [lat_l e, b4 _ (by omega), a3 i e]
  · rw [lat_r (by omega), ← b3 _ (by omega)]
    congr 1; omega
/-- an int's four bytes -/
def l4 (v : Int32) : List Nat := [bN (v >>> ((24 : Int32) &&& 31)), bN (v >>> ((16 : Int32) &&& 31)), bN (v >>> ((8 : Int32) &&& 31)), bN (v >>> ((0 : Int32) &&& 31))]
section PT
variable {α β : Type} {C : Nat} {sa : Nat → Nat} {s : bv_S} {t : bT} {Q : (bF ⊕ β) → bT → Prop} {R : β → bv_S → Prop}
theorem tE_tw {P : bp_M β} (h : tE C sa P t Q) (s0 : bv_S) : tw C sa s0 P t (fun r t1 => Q (fo r) t1) := by
  obtain ⟨r, t1, a, b⟩ := h
  refine tw_mono (a s0) fun r' t' q => ?_
  obtain ⟨q1, rfl⟩ := q
  rw [q1]; exact b
theorem tE_put {v : Int32} {K : Unit → bp_M β} (hb : ti t (1, 0, 0) < 6000) (k : ∀ t1, wE t [bN v] t1 → tE C sa (K ()) t1 Q) : tE C sa (bp_bind (bp_is 0 (C + 0) (PX1_put (C + 0) v)) K) t Q := by
  refine tE_c0 ?_
  unfold PX1_put
  (repeat (first | with_reducible refine tE_letI ?_ | with_reducible refine tE_letL ?_ | with_reducible refine tE_nnS ?_ | with_reducible refine uis_0 ?_ | with_reducible refine uis_1 ?_ | with_reducible refine uis_8 ?_ | with_reducible refine uis_9 ?_ | with_reducible refine uis_sg (by omega) ?_ | with_reducible refine uis_hp (by omega) ?_ | with_reducible refine tE_nz (by decide) ?_ | with_reducible refine uo_0_1 ?_ | with_reducible refine uo_0_2 ?_ | with_reducible refine uo_0_3 ?_ | with_reducible refine uo_0_4 ?_ | with_reducible refine uo_0_6 ?_ | with_reducible refine uo_0_8 ?_ | with_reducible refine uo_0_10 ?_ | with_reducible refine uo_0_11 ?_ | with_reducible refine uo_0_12 ?_ | with_reducible refine uo_9_0 ?_ | with_reducible refine uo_9_7 ?_ | with_reducible refine uo_sf (by omega) ?_ | with_reducible refine uo_sv (by omega) ?_ | with_reducible refine uo_sy (by omega) ?_ | with_reducible refine uo_sw (by omega) ?_ | with_reducible refine uo_hr (by omega) ?_ | with_reducible refine uo_hs (by omega) ?_ | with_reducible refine ug_o ?_ | with_reducible refine ug_wn ?_ | with_reducible refine ug_cn ?_ | with_reducible refine ug_gn ?_ | with_reducible refine ug_ir ?_ | with_reducible refine ug_fa ?_ | with_reducible refine ug_cs ?_ | with_reducible refine ug_n ?_ | with_reducible refine ug_fn ?_ | with_reducible refine ug_li ?_ | with_reducible refine ug_ra ?_ | with_reducible refine ug_la ?_ | with_reducible refine ug_op ?_ | with_reducible refine ug_sm ?_ | with_reducible refine ug_gl ?_ | with_reducible refine ug_sp (by omega) ?_ | with_reducible refine ug_sn (by omega) ?_ | with_reducible refine ug_sr (by omega) ?_ | with_reducible refine ug_sl (by omega) ?_ | with_reducible refine ug_sb (by omega) ?_ | with_reducible refine ug_sa (by omega) ?_ | with_reducible refine ug_sg (by omega) ?_ | with_reducible refine ug_hm (by omega) ?_ | with_reducible refine ug_hw (by omega) ?_ | with_reducible refine ug_hh (by omega) ?_ | with_reducible refine ug_ho (by omega) ?_ | with_reducible refine ug_ht (by omega) ?_ | with_reducible refine ug_sL (by omega) ?_ | with_reducible refine un_sh ?_ | with_reducible refine ut_alenS ?_ | with_reducible refine ut_alenK ?_))
  refine up_wn (ti t (1, 0, 0) + 1) (nI_1 _) (up_wr (ti t (1, 0, 0)) (bN v) rfl hb (by rw [i8_i8, bN_cb]) (tE_ret (k _ ⟨⟨fun l h1 h2 => (ti_c h2).trans (ti_c h1), fun _ => rfl⟩, by rw [ti_d (by decide), ti_e]; rfl, fun i hi => ?_, fun j hj => ?_, rfl⟩)))
  · have : i = 0 := by
      have : i < 1 := hi
      omega
    subst this
    show ti (si (si t (1, 0, 0) (ti t (1, 0, 0) + 1)) (15, ti t (1, 0, 0), 0) (bN v)) (15, ti t (1, 0, 0), 0) = bN v
    exact ti_e
  · rw [ti_n (by simp only [ne_eq, Prod.mk.injEq]; omega), ti_d (by decide)]
theorem sE_put1 {v : Int32} {n : Nat} {K : Unit → bp_M β} (hn : bv_i s 1471 13 = nI n) (hb : n < 5000) (k : ∀ s1, uE n s [bN v] s1 → sE C sa (K ()) s1 R) : sE C sa (bp_bind (bp_is 4 (C + 1471) (PX6_put (C + 1471) v)) K) s R := by
  refine sE_c ?_
  unfold PX6_put
  (repeat (first | with_reducible refine sE_letI ?_ | with_reducible refine sE_letL ?_ | with_reducible refine sE_nnS ?_ | with_reducible refine sE_is ?_ | with_reducible refine sE_nz (by decide) ?_ | with_reducible refine eg_0 ?_ | with_reducible refine eg_1 ?_ | with_reducible refine eg_2 ?_ | with_reducible refine eg_13 ?_ | with_reducible refine eg_15 ?_ | with_reducible refine eg_17 ?_ | with_reducible refine eg_19 ?_ | with_reducible refine eg_20 ?_ | with_reducible refine eg_21 ?_ | with_reducible refine eg_22 ?_ | with_reducible refine eg_23 ?_ | with_reducible refine eg_24 ?_ | with_reducible refine eg_25 ?_ | with_reducible refine eg_39 ?_ | with_reducible refine eg_47 ?_ | with_reducible refine eg_48 ?_ | with_reducible refine eg_49 ?_ | with_reducible refine ep_0 ?_ | with_reducible refine ep_1 ?_ | with_reducible refine ep_2 ?_ | with_reducible refine ep_13 ?_ | with_reducible refine ep_15 ?_ | with_reducible refine ep_17 ?_ | with_reducible refine ep_19 ?_ | with_reducible refine ep_20 ?_ | with_reducible refine ep_21 ?_ | with_reducible refine ep_22 ?_ | with_reducible refine ep_23 ?_ | with_reducible refine ep_24 ?_ | with_reducible refine ep_25 ?_ | with_reducible refine ep_39 ?_ | with_reducible refine ep_48 ?_ | with_reducible refine ep_49 ?_ | with_reducible refine eo_3 ?_ | with_reducible refine eo_4 ?_ | with_reducible refine eo_5 ?_ | with_reducible refine eo_6 ?_ | with_reducible refine eo_7 ?_ | with_reducible refine eo_8 ?_ | with_reducible refine eo_9 ?_ | with_reducible refine eo_10 ?_ | with_reducible refine eo_11 ?_ | with_reducible refine eo_12 ?_ | with_reducible refine eo_14 ?_ | with_reducible refine eo_16 ?_ | with_reducible refine eo_18 ?_ | with_reducible refine eo_26 ?_ | with_reducible refine eo_27 ?_ | with_reducible refine eo_28 ?_ | with_reducible refine eo_29 ?_ | with_reducible refine eo_30 ?_ | with_reducible refine eo_31 ?_ | with_reducible refine eo_32 ?_ | with_reducible refine eo_33 ?_ | with_reducible refine eo_34 ?_ | with_reducible refine eo_35 ?_ | with_reducible refine eo_36 ?_ | with_reducible refine eo_37 ?_ | with_reducible refine eo_38 ?_ | with_reducible refine eo_40 ?_ | with_reducible refine eo_41 ?_ | with_reducible refine eo_42 ?_ | with_reducible refine eo_43 ?_ | with_reducible refine eo_44 ?_ | with_reducible refine eo_45 ?_ | with_reducible refine eo_46 ?_))
  rw [hn, bN_and]
  refine eb_1481 n rfl hb ?_
  (repeat (first | with_reducible refine sE_letI ?_ | with_reducible refine sE_letL ?_ | with_reducible refine sE_nnS ?_ | with_reducible refine sE_is ?_ | with_reducible refine sE_nz (by decide) ?_ | with_reducible refine eg_0 ?_ | with_reducible refine eg_1 ?_ | with_reducible refine eg_2 ?_ | with_reducible refine eg_13 ?_ | with_reducible refine eg_15 ?_ | with_reducible refine eg_17 ?_ | with_reducible refine eg_19 ?_ | with_reducible refine eg_20 ?_ | with_reducible refine eg_21 ?_ | with_reducible refine eg_22 ?_ | with_reducible refine eg_23 ?_ | with_reducible refine eg_24 ?_ | with_reducible refine eg_25 ?_ | with_reducible refine eg_39 ?_ | with_reducible refine eg_47 ?_ | with_reducible refine eg_48 ?_ | with_reducible refine eg_49 ?_ | with_reducible refine ep_0 ?_ | with_reducible refine ep_1 ?_ | with_reducible refine ep_2 ?_ | with_reducible refine ep_13 ?_ | with_reducible refine ep_15 ?_ | with_reducible refine ep_17 ?_ | with_reducible refine ep_19 ?_ | with_reducible refine ep_20 ?_ | with_reducible refine ep_21 ?_ | with_reducible refine ep_22 ?_ | with_reducible refine ep_23 ?_ | with_reducible refine ep_24 ?_ | with_reducible refine ep_25 ?_ | with_reducible refine ep_39 ?_ | with_reducible refine ep_48 ?_ | with_reducible refine ep_49 ?_ | with_reducible refine eo_3 ?_ | with_reducible refine eo_4 ?_ | with_reducible refine eo_5 ?_ | with_reducible refine eo_6 ?_ | with_reducible refine eo_7 ?_ | with_reducible refine eo_8 ?_ | with_reducible refine eo_9 ?_ | with_reducible refine eo_10 ?_ | with_reducible refine eo_11 ?_ | with_reducible refine eo_12 ?_ | with_reducible refine eo_14 ?_ | with_reducible refine eo_16 ?_ | with_reducible refine eo_18 ?_ | with_reducible refine eo_26 ?_ | with_reducible refine eo_27 ?_ | with_reducible refine eo_28 ?_ | with_reducible refine eo_29 ?_ | with_reducible refine eo_30 ?_ | with_reducible refine eo_31 ?_ | with_reducible refine eo_32 ?_ | with_reducible refine eo_33 ?_ | with_reducible refine eo_34 ?_ | with_reducible refine eo_35 ?_ | with_reducible refine eo_36 ?_ | with_reducible refine eo_37 ?_ | with_reducible refine eo_38 ?_ | with_reducible refine eo_40 ?_ | with_reducible refine eo_41 ?_ | with_reducible refine eo_42 ?_ | with_reducible refine eo_43 ?_ | with_reducible refine eo_44 ?_ | with_reducible refine eo_45 ?_ | with_reducible refine eo_46 ?_))
  refine sE_ret (k _ ⟨?_, fun i hi => ?_, fun j hj => by (repeat rw [bv_iIn (by omega)]), fun o k h1 h2 => by (repeat rw [bv_iIn (by omega)])⟩)
  · rw [bv_iIe, bv_iIn (by omega), hn, nI_1]; rfl
  · have : i = 0 := by
      have : i < 1 := hi
      omega
    subst this
    rw [bv_iIn (by omega), Nat.add_zero, bv_iIe]; rfl
theorem tE_putFour {v : Int32} {K : Unit → bp_M β} (hb : ti t (1, 0, 0) + 4 ≤ 6000) (k : ∀ t1, wE t (l4 v) t1 → tE C sa (K ()) t1 Q) : tE C sa (bp_bind (bp_is 0 (C + 0) (PX1_putFour (C + 0) v)) K) t Q := by
  refine tE_c0 ?_
  unfold PX1_putFour
  refine tE_loopF ?_
  have st : ∀ (m : Nat) (x : Int32) (t2 : bT) (Q2 : (bF ⊕ Unit) → bT → Prop), ¬ x < 0 → ti t2 (1, 0, 0) < 6000 → (∀ t3, wE t2 [bN (v >>> (x &&& 31))] t3 → tE C sa (bp_fix (fun _ => bp_no) (BX1_putFour_3 (C + 0) v) m (x + (-8 : Int32))) t3 Q2) → tE C sa (bp_fix (fun _ => bp_no) (BX1_putFour_3 (C + 0) v) (m + 1) x) t2 Q2 := by
    intro m x t2 Q2 hx hb h
    show tE C sa (BX1_putFour_3 (C + 0) v (bp_fix (fun _ => bp_no) (BX1_putFour_3 (C + 0) v) m) x) t2 Q2
    unfold BX1_putFour_3
    exact tE_ifF hx (tE_put hb fun t3 e => h t3 e)
  refine st 99999 24 t _ (by decide) (by omega) fun t1 e1 => ?_
  have f1 := e1.2.1
  refine st 99998 16 t1 _ (by decide) (by rw [f1]; show ti t (1, 0, 0) + 1 < 6000; omega) fun t2 e2 => ?_
  have f2 := e2.2.1
  rw [f1] at f2
  refine st 99997 8 t2 _ (by decide) (by rw [f2]; show ti t (1, 0, 0) + 1 + 1 < 6000; omega) fun t3 e3 => ?_
  have f3 := e3.2.1
  rw [f2] at f3
  refine st 99996 0 t3 _ (by decide) (by rw [f3]; show ti t (1, 0, 0) + 1 + 1 + 1 < 6000; omega) fun t4 e4 => ?_
  show tE C sa (BX1_putFour_3 (C + 0) v (bp_fix (fun _ => bp_no) (BX1_putFour_3 (C + 0) v) 99995) (-8)) t4 _
  unfold BX1_putFour_3
  exact tE_ifT (by decide) (tE_ret (k t4 (((e1.app e2).app e3).app e4)))
theorem sE_putFour {v : Int32} {n : Nat} {K : Unit → bp_M β} (hn : bv_i s 1471 13 = nI n) (hb : n + 4 ≤ 5000) (k : ∀ s1, uE n s (l4 v) s1 → sE C sa (K ()) s1 R) : sE C sa (bp_bind (bp_is 4 (C + 1471) (PX6_putFour (C + 1471) v)) K) s R := by
  refine sE_c ?_
  unfold PX6_putFour
  refine sE_loopF ?_
  have st : ∀ (m n : Nat) (x : Int32) (s2 : bv_S) (Q2 : Unit → bv_S → Prop), ¬ x < 0 → bv_i s2 1471 13 = nI n → n < 5000 → (∀ s3, uE n s2 [bN (v >>> (x &&& 31))] s3 → sE C sa (bp_fix (fun _ => bp_no) (BX6_putFour_3 (C + 1471) v) m (x + (-8 : Int32))) s3 Q2) → sE C sa (bp_fix (fun _ => bp_no) (BX6_putFour_3 (C + 1471) v) (m + 1) x) s2 Q2 := by
    intro m n x s2 Q2 hx hn hb h
    show sE C sa (BX6_putFour_3 (C + 1471) v (bp_fix (fun _ => bp_no) (BX6_putFour_3 (C + 1471) v) m) x) s2 Q2
    unfold BX6_putFour_3
    exact sE_ifF hx (sE_put1 hn hb fun t3 e => h t3 e)
  refine st 99999 n 24 s _ (by decide) hn (by omega) fun s1 e1 => ?_
  refine st 99998 (n + 1) 16 s1 _ (by decide) e1.1 (by omega) fun s2 e2 => ?_
  refine st 99997 (n + 1 + 1) 8 s2 _ (by decide) e2.1 (by omega) fun s3 e3 => ?_
  refine st 99996 (n + 1 + 1 + 1) 0 s3 _ (by decide) e3.1 (by omega) fun s4 e4 => ?_
  show sE C sa (BX6_putFour_3 (C + 1471) v (bp_fix (fun _ => bp_no) (BX6_putFour_3 (C + 1471) v) 99995) (-8)) s4 _
  unfold BX6_putFour_3
  exact sE_ifT (by decide) (sE_ret (k s4 (((e1.app e2).app e3).app e4)))
end PT
