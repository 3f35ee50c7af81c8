/-! Calls by places: lists, iterators, faults, copies, kinds -/
set_option maxRecDepth 100000
def bv_A (s : bv_S) (o : Nat) (f : Nat → Int32) : bv_S := ((fun x y => if x = o then f y else s.1 x y), s.2)
/-- bytes of c's array come into the reader's, from d on -/
def sA (t : bT) (c d n : Nat) : bT := ((fun x => if x.1 = 18 ∧ x.2.2 = 0 ∧ d ≤ x.2.1 ∧ x.2.1 < d + n then t.1 (c, x.2.1 - d, 0) else t.1 x), t.2)
theorem cb_i (n : Nat) : (cb n).toInt8.toInt32 = cb n := by
  unfold cb
  rw [Int8.toInt8_toInt32]
section CL
variable {α β : Type} {C : Nat} {sa : Nat → Nat} {s0 s : bv_S} {P P1 P2 : bp_M β} {t : bT} {Q : (bv_E ⊕ β) → bT → Prop}
theorem tw_bindV {f : bp_M α} {K : α → bp_M β} {v : α} {t1 : bT} (hf : ∀ Q' : (bv_E ⊕ α) → bT → Prop, Q' (.inr v) t1 → tw C sa s0 f t Q') (k : tw C sa s0 (K v) t1 Q) : tw C sa s0 (bp_bind f K) t Q := tw_bind (hf _ k)
theorem sw_copyI {o0 o1 L0 L1 d n : Nat} {dp xn : Int32} {P : bp_M β} {Q : (bv_E ⊕ β) → bv_S → Prop} (h0 : o0 < 1506) (h1 : o1 < 1506) (e0 : bv_sh o0 = (21, L0)) (e1 : bv_sh o1 = (21, L1)) (hl : o1 ≠ 1 ∧ o1 ≠ 8) (hd : dp = nI d) (hn : xn = nI n) (b0 : n ≤ L0) (b1 : d + n ≤ L1) (bb : L0 < 2 ^ 31 ∧ L1 < 2 ^ 31)
    (hb : ∀ i, i < n → (bv_i s o0 i).toInt8.toInt32 = bv_i s o0 i) (k : sw C sa P (bv_A s o1 (va_cpy (bv_i s o0) (bv_i s o1) 0 d n)) Q) : sw C sa (bp_copyI 21 (C + o0) 0 (C + o1) dp xn P) s Q := fun h hV => by
  subst hd hn
  have hB := hV.base
  unfold bp_copyI
  have e00 : (0 : Int32).toNatClampNeg = 0 := rfl
  rw [if_pos]
  · rw [e00, nI_clamp (by omega), nI_clamp (by omega)]
    refine k _ ?_
    have r0 : bp_I h (C + o0) = bv_i s o0 := funext fun y => hV.i h0 y
    have r1 : bp_I h (C + o1) = bv_i s o1 := funext fun y => hV.i h1 y
    rw [r0, r1]
    obtain ⟨v1, v2, v3, v4, v5, v6, v7, v8, v9, v10, v11, v12⟩ := hV
    have li : ∀ o' g0 mx, o1 ≠ o' → bv_Li C sa h s o' g0 mx → bv_Li C sa (bp_setA h (C + o1) (va_cpy (bv_i s o0) (bv_i s o1) 0 d n)) (bv_A s o1 (va_cpy (bv_i s o0) (bv_i s o1) 0 d n)) o' g0 mx := fun o' g0 mx hn hL => by
      obtain ⟨e, n, l1, l2, l3, l4, l5⟩ := hL
      exact ⟨e, n, l1, l2, l3, (if_neg (by omega)).trans l4, l5⟩
    obtain ⟨c1, c2, c3, c4, c5, c6, c7, c8, c9⟩ := v7
    have c1' : bp_B h ≤ C := c1
    have ne : ∀ i, (i < 9 ∨ (11 ≤ i ∧ i < 21)) → ∀ y, bp_I (bp_setA h (C + o1) (va_cpy (bv_i s o0) (bv_i s o1) 0 d n)) (sa i) y = bp_I h (sa i) y := fun i hi y => if_neg (by have := c3 i hi; omega)
    refine ⟨fun x hx => ⟨(v1 x hx).1, fun y => ?_, (v1 x hx).2.2⟩, v2, v3, li 1 _ _ hl.1 v4, li 8 _ _ hl.2 v5, v6, ⟨c1, c2, c3, fun i i1 i2 => ⟨(c4 i i1 i2).1, fun j hj => by rw [ne i (by omega)]; exact (c4 i i1 i2).2 j hj⟩, c5, c6, c7, fun q hq => ?_, c9⟩, v8, v9, v10, v11, fun a o' j hi => ?_⟩
    · show (if C + x = C + o1 then _ else bp_I h (C + x) y) = if x = o1 then _ else bv_i s x y
      by_cases hc : x = o1
      · rw [if_pos hc, if_pos (by rw [hc])]
      · rw [if_neg hc, if_neg (by omega)]; exact (v1 x hx).2.1 y
    · rw [ne (11 + q) (by omega), ne (11 + q) (by omega), ne (11 + q) (by omega)]
      exact c8 q hq
    · obtain ⟨i1, i2, i3, i4, i5, i6, i7⟩ := v12 a o' j hi
      exact ⟨i1, i2, i3, (if_neg (by omega)).trans i4, ((if_neg (by omega)).trans i5).trans (if_neg (by omega)).symm, i6, i7⟩
  · rw [e00, nI_clamp (by omega), nI_clamp (by omega), hV.sh h0, hV.sh h1, e0, e1]
    exact ⟨rfl, rfl, by omega, by omega, by decide, nI_pos (by omega), nI_pos (by omega), by show 0 + n ≤ L0; omega, b1, fun i hi => by rw [hV.i h0, Nat.zero_add]; exact hb i hi⟩
theorem la_in {l : bL} (hl : lok l) : ((la l).1 = 1 → (la l).2 = 2 ∧ l = (7, 0, 0)) ∧ ((la l).1 = 8 → (la l).2 = 2 ∧ l = (8, 0, 0)) ∧ ((la l).1 = 10 → l = (18, (la l).2, 0)) := by
  have h := hl.1
  refine ⟨fun e => ?_, fun e => ?_, fun e => ?_⟩
  · have : ld (la l) = (7, 0, 0) := by unfold ld; rw [if_neg (by omega), if_pos e]
    rw [h] at this; subst this; exact ⟨rfl, rfl⟩
  · have : ld (la l) = (8, 0, 0) := by unfold ld; rw [if_neg (by omega), if_neg (by omega), if_pos e]
    rw [h] at this; subst this; exact ⟨rfl, rfl⟩
  · have : ld (la l) = (18, (la l).2, 0) := by unfold ld; rw [if_neg (by omega), if_neg (by omega), if_neg (by omega), if_neg (by omega), if_neg (by omega), if_neg (by omega), if_neg (by omega), if_pos e]
    rw [h] at this; exact this
theorem bR.ls {o c0 n c z q : Nat} {m : Int32} (hR : bR s0 s t) (ho : o = 1 ∧ c0 = 7 ∨ o = 8 ∧ c0 = 8) (hc : bv_c s o ≤ c) (hz : z ≤ bv_Z s + (c - bv_c s o)) (hq : q ≤ bv_N s + 4 * (c - bv_c s o)) : bR s0 (bv_Ls s o m n c z q) (st (si t (c0, 0, 0) n) none) := by
  obtain ⟨h1, h2, h3, h4, h5, h7, h6⟩ := hR
  have hcc : bv_u1 (bv_c s) o c 1 + bv_u1 (bv_c s) o c 8 = bv_c s 1 + bv_c s 8 + (c - bv_c s o) := by
    unfold bv_u1
    rcases ho with ⟨rfl, -⟩ | ⟨rfl, -⟩
    · rw [if_pos rfl, if_neg (by omega)]; omega
    · rw [if_neg (by omega), if_pos rfl]; omega
  refine ⟨fun l hl => ?_, h2, h3, ?_, ?_, (fun x hx => by cases hx), fun x hx => ⟨fun k => ?_, (h6 x hx).2⟩⟩
  · show bp_u2 (bp_u2 s.1 o 0 m) o 2 (nI n) (la l).1 (la l).2 = lv l (if l = (c0, 0, 0) then n else ti t l)
    have L := la_in hl
    by_cases e : (la l).1 = o
    · have e2 : (la l).2 = 2 ∧ l = (c0, 0, 0) := by rcases ho with ⟨rfl, rfl⟩ | ⟨rfl, rfl⟩; exact L.1 e; exact L.2.1 e
      rw [if_pos e2.2, e, e2.1]
      refine (if_pos ⟨rfl, rfl⟩).trans ?_
      rw [e2.2]
      rcases ho with ⟨rfl, rfl⟩ | ⟨rfl, rfl⟩ <;> rfl
    · have e2 : l ≠ (c0, 0, 0) := fun z => e (by rw [z]; rcases ho with ⟨rfl, rfl⟩ | ⟨rfl, rfl⟩ <;> rfl)
      rw [if_neg e2, bp_u2_ne (Or.inl e), bp_u2_ne (Or.inl e)]
      exact h1 l hl
  · show z ≤ tz t + (bv_u1 (bv_c s) o c 1 + bv_u1 (bv_c s) o c 8)
    rw [hcc]; omega
  · show q ≤ tm t + 4 * (bv_u1 (bv_c s) o c 1 + bv_u1 (bv_c s) o c 8)
    rw [hcc]; omega
  · have : x ≠ o := by rcases ho with ⟨rfl, -⟩ | ⟨rfl, -⟩ <;> omega
    refine Eq.trans ?_ ((h6 x hx).1 k)
    show bp_u2 (bp_u2 s.1 o 0 m) o 2 (nI n) x k = _
    rw [bp_u2_ne (Or.inl this), bp_u2_ne (Or.inl this)]; rfl
theorem ls_le (n c : Nat) : c ≤ ls_c n c := by
  unfold ls_c
  split
  · omega
  · split <;> omega
theorem t_size1 {Q : (bv_E ⊕ Int32) → bT → Prop} (k : Q (.inr (nI (ti t (7, 0, 0)))) t) : tw C sa s0 (PJ2_size (C + 1)) t Q := by
  unfold PJ2_size
  exact g_n (tw_ret k)
theorem t_size8 {Q : (bv_E ⊕ Int32) → bT → Prop} (k : Q (.inr (nI (ti t (8, 0, 0)))) t) : tw C sa s0 (PJ2_size (C + 8)) t Q := by
  unfold PJ2_size
  exact g_fn (tw_ret k)
theorem t_get1 {x : Int32} (j : Nat) {Q : (bv_E ⊕ Nat) → bT → Prop} (hx : x = nI j) (hj : j < ti t (7, 0, 0)) (hn : ti t (7, 0, 0) < 2 ^ 31) (k : Q (.inr (C + bv_sg j)) t) : tw C sa s0 (PJ2_get (C + 1) x) t Q := fun s hR => sw_lget (g0 := 0) (mx := 30) (o2 := 8) (g2 := 30) (mx2 := 256) (Or.inl ⟨rfl, rfl, rfl, rfl, rfl, rfl⟩) (hR.1 (7, 0, 0) k_n) hn hx hj ⟨t, hR, by rw [Nat.zero_add]; exact k⟩
theorem t_get8 {x : Int32} (j : Nat) {Q : (bv_E ⊕ Nat) → bT → Prop} (hx : x = nI j) (hj : j < ti t (8, 0, 0)) (hn : ti t (8, 0, 0) < 2 ^ 31) (k : Q (.inr (C + bv_sg (30 + j))) t) : tw C sa s0 (PJ2_get (C + 8) x) t Q := fun s hR => sw_lget (g0 := 30) (mx := 256) (o2 := 1) (g2 := 0) (mx2 := 30) (Or.inr ⟨rfl, rfl, rfl, rfl, rfl, rfl⟩) (hR.1 (8, 0, 0) k_fn) hn hx hj ⟨t, hR, k⟩
theorem t_add1 {Q : (bv_E ⊕ Int32) → bT → Prop} (hn : ti t (7, 0, 0) < 30) (k : Q (.inr 1) (st (si t (7, 0, 0) (ti t (7, 0, 0) + 1)) none)) : tw C sa s0 (PJ2_add (C + 1) (C + bv_sg (ti t (7, 0, 0)))) t Q := fun s hR => by
  have := sw_add (sa := sa) (C := C) (s := s) (o := 1) (g0 := 0) (mx := 30) (o2 := 8) (g2 := 30) (mx2 := 256) (n := ti t (7, 0, 0)) (Q := fun r s1 => ∃ t1, bR s0 s1 t1 ∧ Q r t1) (Or.inl ⟨rfl, rfl, rfl, rfl, rfl, rfl⟩) (hR.1 (7, 0, 0) k_n) hn (fun z q m hz hq => ⟨_, hR.ls (Or.inl ⟨rfl, rfl⟩) (ls_le _ _) hz hq, k⟩)
  rw [Nat.zero_add] at this
  exact this
theorem t_add8 {Q : (bv_E ⊕ Int32) → bT → Prop} (hn : ti t (8, 0, 0) < 256) (k : Q (.inr 1) (st (si t (8, 0, 0) (ti t (8, 0, 0) + 1)) none)) : tw C sa s0 (PJ2_add (C + 8) (C + bv_sg (30 + ti t (8, 0, 0)))) t Q := fun s hR => sw_add (o := 8) (g0 := 30) (mx := 256) (o2 := 1) (g2 := 0) (mx2 := 30) (n := ti t (8, 0, 0)) (Or.inr ⟨rfl, rfl, rfl, rfl, rfl, rfl⟩) (hR.1 (8, 0, 0) k_fn) hn (fun z q m hz hq => ⟨_, hR.ls (Or.inr ⟨rfl, rfl⟩) (ls_le _ _) hz hq, k⟩)
theorem t_clear1 {Q : (bv_E ⊕ Unit) → bT → Prop} (k : Q (.inr ()) (st (si t (7, 0, 0) 0) none)) : tw C sa s0 (PJ2_clear (C + 1)) t Q := fun s hR => sw_clear (n := 0) (o := 1) (g0 := 0) (mx := 30) (o2 := 8) (g2 := 30) (mx2 := 256) (Or.inl ⟨rfl, rfl, rfl, rfl, rfl, rfl⟩) fun m => ⟨_, hR.ls (Or.inl ⟨rfl, rfl⟩) (Nat.le_refl _) (by omega) (by omega), k⟩
theorem t_clear8 {Q : (bv_E ⊕ Unit) → bT → Prop} (k : Q (.inr ()) (st (si t (8, 0, 0) 0) none)) : tw C sa s0 (PJ2_clear (C + 8)) t Q := fun s hR => sw_clear (n := 0) (o := 8) (g0 := 30) (mx := 256) (o2 := 1) (g2 := 0) (mx2 := 30) (Or.inr ⟨rfl, rfl, rfl, rfl, rfl, rfl⟩) fun m => ⟨_, hR.ls (Or.inr ⟨rfl, rfl⟩) (Nat.le_refl _) (by omega) (by omega), k⟩
theorem bR.it (hR : bR s0 s t) (z n : Nat) {x : Option (Nat × Nat × Nat)} : bR s0 (bv_si (bv_ZN s z n) x) (st (sz t z n) x) := by
  obtain ⟨h1, h2, h3, h4, h5, h7, h6⟩ := hR
  refine ⟨h1, h2, h3, ?_, ?_, fun _ h => h, h6⟩
  · show bv_Z s + z ≤ tz t + z + (bv_c s 1 + bv_c s 8)
    omega
  · show bv_N s + n ≤ tm t + n + 4 * (bv_c s 1 + bv_c s 8)
    omega
theorem t_iterator {Q : (bv_E ⊕ Nat) → bT → Prop} (k : ∀ a, Q (.inr a) (st (sz t 1 4) (some (a, 1, 0)))) : tw C sa s0 (PJ2_iterator (C + 1)) t Q := fun s hR => sw_iterator fun a => ⟨_, hR.it 1 4, k a⟩
theorem t_isIt {a o j : Nat} (hi : tt t = some (a, o, j)) (k : tw C sa s0 P t Q) : tw C sa s0 (bp_is 7 a P) t Q := fun s hR => sw_isIt (hR.2.2.2.2.2.1 _ hi) (k s hR)
theorem t_hasNext {a j : Nat} {Q : (bv_E ⊕ Int32) → bT → Prop} (hi : tt t = some (a, 1, j)) (hj : j ≤ ti t (7, 0, 0)) (hn2 : ti t (7, 0, 0) < 2 ^ 31) (k : Q (.inr (bz (j < ti t (7, 0, 0)))) t) : tw C sa s0 (PJ18_hasNext a) t Q := fun s hR => sw_hasNext (hR.2.2.2.2.2.1 _ hi) (hR.1 (7, 0, 0) k_n) hj hn2 ⟨t, hR, k⟩
theorem t_next {a j : Nat} {Q : (bv_E ⊕ Nat) → bT → Prop} (hi : tt t = some (a, 1, j)) (hj : j < ti t (7, 0, 0)) (hn2 : ti t (7, 0, 0) < 2 ^ 31) (k : Q (.inr (C + bv_sg j)) (st t (some (a, 1, j + 1)))) : tw C sa s0 (PJ18_next a) t Q := fun s hR => sw_next (hR.2.2.2.2.2.1 _ hi) (hR.1 (7, 0, 0) k_n) hj hn2 ⟨st t (some (a, 1, j + 1)), ⟨hR.1, hR.2.1, hR.2.2.1, hR.2.2.2.1, hR.2.2.2.2.1, fun _ h => h, hR.2.2.2.2.2.2⟩, k⟩
theorem t_need {c : Prop} [Decidable c] {f p : Int32} {Q : (bv_E ⊕ Unit) → bT → Prop} (k1 : c → Q (.inr ()) t) (k2 : ¬ c → ∀ a, Q (.inl (5, a, f, p)) (st (sz t 1 8) none)) : tw C sa s0 (PX1_need (bz c) f p) t Q := fun s hR => sw_need (fun h => ⟨t, hR, k1 h⟩) fun h a => ⟨_, hR.it 1 8, k2 h a⟩
theorem t_copy {o0 c d n : Nat} {dp xn : Int32} (ho : o0 = 5 ∧ c = 16 ∨ o0 = 6 ∧ c = 17) (hd : dp = nI d) (hn : xn = nI n) (hb : d + n ≤ 3000) (k : tw C sa s0 P (sA t c d n) Q) : tw C sa s0 (bp_copyI 21 (C + o0) 0 (C + 10) dp xn P) t Q := fun s hR => by
  have hv : ∀ i, i < 3000 → bv_i s o0 i = cb (ti t (c, i, 0)) := fun i hi => by
    rcases ho with ⟨rfl, rfl⟩ | ⟨rfl, rfl⟩
    · exact hR.1 (16, i, 0) (k_cm hi)
    · exact hR.1 (17, i, 0) (k_gm hi)
  refine sw_copyI (L0 := 3000) (L1 := 3000) (by omega) (by decide) (by rcases ho with ⟨rfl, rfl⟩ | ⟨rfl, rfl⟩ <;> rfl) rfl (by decide) hd hn (by omega) hb (by decide) (fun i hi => by rw [hv i (by omega), cb_i]) (k _ ?_)
  obtain ⟨h1, h2, h3, h4, h5, h7, h6⟩ := hR
  refine ⟨fun l hl => ?_, h2, h3, h4, h5, h7, fun x hx => ⟨fun y => (if_neg (by omega)).trans ((h6 x hx).1 y), (h6 x hx).2⟩⟩
  show (if (la l).1 = 10 then va_cpy (bv_i s o0) (bv_i s 10) 0 d n (la l).2 else bv_i s (la l).1 (la l).2) = lv l (if l.1 = 18 ∧ l.2.2 = 0 ∧ d ≤ l.2.1 ∧ l.2.1 < d + n then ti t (c, l.2.1 - d, 0) else ti t l)
  by_cases e : (la l).1 = 10
  · have e2 := (la_in hl).2.2 e
    rw [if_pos e]
    by_cases e3 : d ≤ (la l).2 ∧ (la l).2 < d + n
    · rw [if_pos (by rw [e2]; exact ⟨rfl, rfl, e3⟩), pk_cpy_in e3.1 e3.2, Nat.zero_add, hv _ (by omega)]
      rw [show lv l = cb by rw [e2]; rfl, show l.2.1 = (la l).2 by rw [e2]; rfl]
    · rw [if_neg (by rw [e2]; exact fun z => e3 z.2.2), pk_cpy_out (by omega), ← h1 l hl, e]
  · rw [if_neg e, if_neg]
    · exact h1 l hl
    · intro z
      apply e
      obtain ⟨a, b, c⟩ := l
      have : a = 18 := z.1
      subst this
      rfl
/-- kinds -/
theorem t_isRegion {k : Nat} (hk : k < 10) {Q : (bv_E ⊕ Int32) → bT → Prop} (kk : Q (.inr (bz (1 ≤ k ∧ k ≤ 3))) t) : tw C sa s0 (PX5_isRegion (sa (11 + k))) t Q := by
  unfold PX5_isRegion
  refine t_gets (by omega) (t_ifK (b := 1) hk (by omega) (fun e => tw_retZ (by decide) (by rw [bz_T (by omega)] at kk; exact kk)) fun e1 => ?_)
  refine t_gets (by omega) (t_ifK (b := 2) hk (by omega) (fun e => tw_retZ (by decide) (by rw [bz_T (by omega)] at kk; exact kk)) fun e2 => ?_)
  refine t_gets (by omega) (t_ifK (b := 3) hk (by omega) (fun e => tw_retZ (by decide) (by rw [bz_T (by omega)] at kk; exact kk)) fun e3 => tw_retZ (by decide) (by rw [bz_F (by omega)] at kk; exact kk))
theorem t_hasBytes {k : Nat} (hk : k < 10) {Q : (bv_E ⊕ Int32) → bT → Prop} (kk : Q (.inr (bz (k = 0 ∨ k = 8 ∨ k = 9))) t) : tw C sa s0 (PX5_hasBytes (sa (11 + k))) t Q := by
  unfold PX5_hasBytes
  refine t_gets (by omega) (t_ifK (b := 0) hk (by omega) (fun e => tw_retZ (by decide) (by rw [bz_T (by omega)] at kk; exact kk)) fun e1 => ?_)
  refine t_gets (by omega) (t_ifK (b := 8) hk (by omega) (fun e => tw_retZ (by decide) (by rw [bz_T (by omega)] at kk; exact kk)) fun e2 => ?_)
  refine t_gets (by omega) (t_ifK (b := 9) hk (by omega) (fun e => tw_retZ (by decide) (by rw [bz_T (by omega)] at kk; exact kk)) fun e3 => tw_retZ (by decide) (by rw [bz_F (by omega)] at kk; exact kk))
def kd_least (k w : Nat) : Int32 := if k = 4 then (bv_tb 4).getD w 0 else if 1 ≤ k ∧ k ≤ 3 then (bv_tb 2).getD w 0 else (bv_tb 6).getD (if k = 6 then 0 else 1) 0
def kd_most (k w : Nat) : Int32 := if k = 4 then (bv_tb 5).getD w 0 else if 1 ≤ k ∧ k ≤ 3 then (bv_tb 3).getD w 0 else (bv_tb 7).getD (if k = 6 then 0 else 1) 0
/-- the number of numbers -/
def kd_n (k : Nat) : Nat := match k with
  | 0 => 0 | 1 => 5 | 2 => 5 | 3 => 6 | 4 => 4 | 5 => 0 | 6 => 1 | 7 => 0 | 8 => 0 | _ => 1
theorem bv_nums_n : ∀ k : Nat, bv_nums k = nI (kd_n k)
  | 0 => rfl | 1 => rfl | 2 => rfl | 3 => rfl | 4 => rfl | 5 => rfl | 6 => rfl | 7 => rfl | 8 => rfl | _ + 9 => rfl
theorem t_least {k w : Nat} {x : Int32} (hk : k < 10) (hx : x = nI w) (hw : w < 4 ∨ ¬ k = 4) (hw6 : w < 6) {Q : (bv_E ⊕ Int32) → bT → Prop} (kk : Q (.inr (kd_least k w)) t) : tw C sa s0 (PX5_least (sa (11 + k)) x) t Q := by
  unfold PX5_least
  unfold kd_least at kk
  refine t_gets (by omega) (t_ifK (b := 4) hk (by omega) (fun e => ?_) fun e1 => ?_)
  · refine t_gets (by omega) (t_aldS (by omega) (by omega) hx (by show w < 4; omega) (by decide) (tw_ret ?_))
    rw [if_pos e] at kk; exact kk
  · rw [if_neg e1] at kk
    refine tw_bindV (fun Q' q => t_isK hk (t_isRegion hk q)) ?_
    refine tw_if (fun e => ?_) (fun e => ?_)
    · rw [bz_0] at e
      rw [if_neg e] at kk
      refine t_gets (by omega) (t_gets (by omega) ?_)
      refine tw_jn (t_ifK (b := 6) hk (by omega) (fun e6 => ?_) (fun e6 => ?_))
      · rw [if_pos e6] at kk
        exact t_aldS (j := 0) (by omega) (by omega) rfl (by decide) (by decide) (tw_ret kk)
      · rw [if_neg e6] at kk
        exact t_aldS (j := 1) (by omega) (by omega) rfl (by decide) (by decide) (tw_ret kk)
    · have e : 1 ≤ k ∧ k ≤ 3 := Classical.byContradiction fun z => e (bz_F z)
      rw [if_pos e] at kk
      exact t_gets (by omega) (t_aldS (by omega) (by omega) hx (by show w < 6; omega) (by decide) (tw_ret kk))
theorem t_most {k w : Nat} {x : Int32} (hk : k < 10) (hx : x = nI w) (hw : w < 4 ∨ ¬ k = 4) (hw6 : w < 6) {Q : (bv_E ⊕ Int32) → bT → Prop} (kk : Q (.inr (kd_most k w)) t) : tw C sa s0 (PX5_most (sa (11 + k)) x) t Q := by
  unfold PX5_most
  unfold kd_most at kk
  refine t_gets (by omega) (t_ifK (b := 4) hk (by omega) (fun e => ?_) fun e1 => ?_)
  · refine t_gets (by omega) (t_aldS (by omega) (by omega) hx (by show w < 4; omega) (by decide) (tw_ret ?_))
    rw [if_pos e] at kk; exact kk
  · rw [if_neg e1] at kk
    refine tw_bindV (fun Q' q => t_isK hk (t_isRegion hk q)) ?_
    refine tw_if (fun e => ?_) (fun e => ?_)
    · rw [bz_0] at e
      rw [if_neg e] at kk
      refine t_gets (by omega) (t_gets (by omega) ?_)
      refine tw_jn (t_ifK (b := 6) hk (by omega) (fun e6 => ?_) (fun e6 => ?_))
      · rw [if_pos e6] at kk
        exact t_aldS (j := 0) (by omega) (by omega) rfl (by decide) (by decide) (tw_ret kk)
      · rw [if_neg e6] at kk
        exact t_aldS (j := 1) (by omega) (by omega) rfl (by decide) (by decide) (tw_ret kk)
    · have e : 1 ≤ k ∧ k ≤ 3 := Classical.byContradiction fun z => e (bz_F z)
      rw [if_pos e] at kk
      exact t_gets (by omega) (t_aldS (by omega) (by omega) hx (by show w < 6; omega) (by decide) (tw_ret kk))
end CL
