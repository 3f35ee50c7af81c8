/-! What ties the class's state to the reference's -/
set_option maxRecDepth 100000
theorem ti_c {t : bT} {l l' : bL} {v : Nat} (h : l.1 ≠ l'.1) : ti (si t l' v) l = ti t l := if_neg (fun e => h (by rw [e]))
theorem ti_n {t : bT} {l l' : bL} {v : Nat} (h : l ≠ l') : ti (si t l' v) l = ti t l := if_neg h
theorem ti_e {t : bT} {l : bL} {v : Nat} : ti (si t l v) l = v := if_pos rfl
theorem ti_L {t : bT} {l : bL} {g v : Nat} : ti (sL t g v) l = ti t l := rfl
theorem ti_k {t : bT} {l : bL} {g v : Nat} : ti (sk t g v) l = ti t l := rfl
theorem ti_z {t : bT} {l : bL} {a b : Nat} : ti (sz t a b) l = ti t l := rfl
theorem ti_t {t : bT} {l : bL} {x : Option (Nat × Nat × Nat)} : ti (st t x) l = ti t l := rfl
/-- numbers of a kind are within what is allowed -/
def wN (t : bT) (g : Nat) : Prop :=
  (1 ≤ tk t g ∧ tk t g ≤ 3 → (1 ≤ ti t (27, g, 0) ∧ ti t (27, g, 0) ≤ 16) ∧ (1 ≤ ti t (27, g, 1) ∧ ti t (27, g, 1) ≤ 16) ∧ ti t (27, g, 2) ≤ 31 ∧ ti t (27, g, 3) ≤ 31 ∧ ti t (27, g, 4) ≤ 5 ∧ ti t (27, g, 5) ≤ 1) ∧
  (tk t g = 4 → (1 ≤ ti t (27, g, 0) ∧ ti t (27, g, 0) ≤ 32) ∧ ti t (27, g, 1) ≤ 32 ∧ ti t (27, g, 2) ≤ 1 ∧ ti t (27, g, 3) ≤ 4) ∧ (tk t g = 6 → ti t (27, g, 0) ≤ 31) ∧ (¬ (tk t g = 0 ∨ tk t g = 8 ∨ tk t g = 9) → ti t (23, g, 0) = 0)
/-- a segment that is told -/
def wG (t : bT) (g : Nat) : Prop :=
  tk t g < 10 ∧ ti t (19, g, 0) ≤ 9 ∧ ti t (20, g, 0) = g ∧ ti t (21, g, 0) ≤ 10 ∧ (∀ j, j < ti t (21, g, 0) → ti t (26, g, j) < g) ∧ ti t (22, g, 0) < 2048 ∧ ti t (23, g, 0) ≤ 20 ∧ (∀ j, j < ti t (23, g, 0) → ti t (28, g, j) < 256) ∧ wN t g
def mG (t : bT) (s : bv_S) (g : Nat) : Prop :=
  bv_i s 1472 g = bv_code (tk t g) ∧ bv_i s 1473 g = nI (ti t (19, g, 0)) ∧ bv_i s 1474 g = nI (ti t (21, g, 0)) ∧ (∀ j, j < ti t (21, g, 0) → bv_i s 1475 (10 * g + j) = nI (ti t (26, g, j))) ∧ bv_i s 1476 g = nI (ti t (22, g, 0)) ∧ bv_i s 1477 g = nI (ti t (23, g, 0)) ∧
  (∀ j, j < ti t (23, g, 0) → bv_i s 1478 (20 * g + j) = nI (ti t (28, g, j))) ∧ (∀ j, j < 6 → bv_i s 1479 (6 * g + j) = nI (ti t (27, g, j))) ∧ ∀ j, j < 16 → bv_i s 1480 (16 * g + j) = nI (ti t (29, g, j))
def mO (t : bT) (s : bv_S) : Prop := ti t (0, 0, 0) ≤ 2 ∧ bv_i s 1471 1 = nI (ti t (0, 0, 0))
def mS (t : bT) (s : bv_S) : Prop := ti t (7, 0, 0) ≤ 30 ∧ bv_i s 1471 2 = nI (ti t (7, 0, 0)) ∧ ∀ g, g < ti t (7, 0, 0) → wG t g ∧ mG t s g
def mW (t : bT) (s : bv_S) : Prop := ti t (1, 0, 0) ≤ 5000 ∧ bv_i s 1471 13 = nI (ti t (1, 0, 0)) ∧ ∀ j, j < ti t (1, 0, 0) → ti t (15, j, 0) < 256 ∧ bv_i s 1481 j = nI (ti t (15, j, 0))
def mC (t : bT) (s : bv_S) : Prop := ti t (2, 0, 0) + ti t (3, 0, 0) ≤ 3000 ∧ bv_i s 1471 17 = nI (ti t (2, 0, 0)) ∧ bv_i s 1471 15 = nI (ti t (3, 0, 0)) ∧ (∀ j, j < ti t (2, 0, 0) → ti t (16, j, 0) < 256 ∧ bv_i s 1483 j = nI (ti t (16, j, 0))) ∧ ∀ j, j < ti t (3, 0, 0) → ti t (17, j, 0) < 256 ∧ bv_i s 1482 j = nI (ti t (17, j, 0))
/-- bit x of a row -/
def rb (r x : Nat) : Bool := r.testBit x
/-- a page that was read -/
def mP (t : bT) (s : bv_S) (p : Nat) : Prop :=
  bv_i s 1498 p = nI (ti t (34, p, 0)) ∧ ti t (34, p, 0) ≤ 1 ∧ (ti t (34, p, 0) = 1 → (1 ≤ ti t (31, p, 0) ∧ ti t (31, p, 0) ≤ 32 ∧ bv_i s 1499 p = nI (ti t (31, p, 0))) ∧ (1 ≤ ti t (32, p, 0) ∧ ti t (32, p, 0) ≤ 32 ∧ bv_i s 1500 p = nI (ti t (32, p, 0))) ∧
    (ti t (30, p, 0) ≤ 32 ∧ bv_i s 1502 p = nI (ti t (30, p, 0))) ∧ (∀ j, j < ti t (30, p, 0) → bv_i s 1503 (32 * p + j) = nI (ti t (36, p, j))) ∧ (∀ y, y < 32 → ti t (35, p, y) < 4294967296 ∧ ∀ x, x < 32 → bv_i s 1504 (1024 * p + 32 * y + x) = if rb (ti t (35, p, y)) x then 1 else 0))
/-- how many pages are there -/
def mN (t : bT) : Nat → Nat
  | 0 => 0
  | p + 1 => mN t p + ti t (34, p, 0)
def mF (t : bT) (s : bv_S) (k : Nat) : Prop :=
  tk t (30 + k) < 10 ∧ bv_i s 1486 k = nI (ti t (20, 30 + k, 0)) ∧ bv_i s 1487 k = bv_code (tk t (30 + k)) ∧ bv_i s 1488 k = nI (ti t (19, 30 + k, 0)) ∧ bv_i s 1489 k = nI (ti t (21, 30 + k, 0)) ∧ bv_i s 1494 k = nI (ti t (25, 30 + k, 0)) - 1 ∧ bv_i s 1493 k = nI (tL t (30 + k))
def mR (t : bT) (s : bv_S) : Prop :=
  ti t (4, 0, 0) ≤ 1 ∧ ti t (8, 0, 0) ≤ 256 ∧ bv_i s 1471 47 = nI (ti t (4, 0, 0)) ∧ bv_i s 1471 49 = nI (ti t (5, 0, 0)) ∧ bv_i s 1471 48 = nI (if ti t (4, 0, 0) = 0 then 0 else ti t (8, 0, 0)) ∧
  (ti t (4, 0, 0) = 1 → ti t (34, 0, 0) = 0 ∧ ti t (6, 0, 0) = mN t 10 ∧ (∀ k, k < ti t (8, 0, 0) → mF t s k) ∧ ∀ p, p < 10 → mP t s p)
def mT (t : bT) (s : bv_S) : Prop := mO t s ∧ mS t s ∧ mW t s ∧ mC t s ∧ mR t s
/-- footprints: places of the class, places of the reference -/
def cS (l : bL) : Prop := l.1 = 7 ∨ (19 ≤ l.1 ∧ l.1 ≤ 29 ∧ l.2.1 < 30)
def cR (l : bL) : Prop := (4 ≤ l.1 ∧ l.1 ≤ 6) ∨ l.1 = 8 ∨ 30 ≤ l.1 ∨ (19 ≤ l.1 ∧ l.1 ≤ 29 ∧ 30 ≤ l.2.1)
theorem wN.to {t t' : bT} {g : Nat} (h : wN t g) (hk : tk t' g = tk t g) (hi : ∀ j, ti t' (27, g, j) = ti t (27, g, j)) (hb : ti t' (23, g, 0) = ti t (23, g, 0)) : wN t' g := by
  unfold wN at h ⊢
  rw [hk, hi, hi, hi, hi, hi, hi, hb]
  exact h
theorem wG.to {t t' : bT} {g : Nat} (h : wG t g) (hk : tk t' g = tk t g) (hi : ∀ l : bL, (19 ≤ l.1 ∧ l.1 ≤ 29 ∧ l.2.1 = g) → ti t' l = ti t l) : wG t' g := by
  obtain ⟨h1, h2, h3, h4, h5, h6, h7, h8, h9⟩ := h
  have f : ∀ c j, 19 ≤ c → c ≤ 29 → ti t' (c, g, j) = ti t (c, g, j) := fun c j c1 c2 => hi _ ⟨c1, c2, rfl⟩
  refine ⟨by rw [hk]; exact h1, by rw [f _ _ (by omega) (by omega)]; exact h2, by rw [f _ _ (by omega) (by omega)]; exact h3, by rw [f _ _ (by omega) (by omega)]; exact h4, fun j hj => ?_, by rw [f _ _ (by omega) (by omega)]; exact h6, by rw [f _ _ (by omega) (by omega)]; exact h7, fun j hj => ?_, h9.to hk (fun j => f _ _ (by omega) (by omega)) (f _ _ (by omega) (by omega))⟩
  · rw [f _ _ (by omega) (by omega)] at hj ⊢; exact h5 j hj
  · rw [f _ _ (by omega) (by omega)] at hj ⊢; exact h8 j hj
theorem mG.to {t t' : bT} {s s' : bv_S} {g : Nat} (h : mG t s g) (hk : tk t' g = tk t g) (hi : ∀ l : bL, (19 ≤ l.1 ∧ l.1 ≤ 29 ∧ l.2.1 = g) → ti t' l = ti t l) (hs : ∀ o k, 1472 ≤ o → o ≤ 1480 → bv_i s' o k = bv_i s o k) : mG t' s' g := by
  obtain ⟨h1, h2, h3, h4, h5, h6, h7, h8, h9⟩ := h
  have f : ∀ c j, 19 ≤ c → c ≤ 29 → ti t' (c, g, j) = ti t (c, g, j) := fun c j c1 c2 => hi _ ⟨c1, c2, rfl⟩
  refine ⟨by rw [hs _ _ (by omega) (by omega), hk]; exact h1, by rw [hs _ _ (by omega) (by omega), f _ _ (by omega) (by omega)]; exact h2, by rw [hs _ _ (by omega) (by omega), f _ _ (by omega) (by omega)]; exact h3, fun j hj => ?_, by rw [hs _ _ (by omega) (by omega), f _ _ (by omega) (by omega)]; exact h5, by rw [hs _ _ (by omega) (by omega), f _ _ (by omega) (by omega)]; exact h6, fun j hj => ?_, fun j hj => ?_, fun j hj => ?_⟩
  · rw [f _ _ (by omega) (by omega)] at hj; rw [hs _ _ (by omega) (by omega), f _ _ (by omega) (by omega)]; exact h4 j hj
  · rw [f _ _ (by omega) (by omega)] at hj; rw [hs _ _ (by omega) (by omega), f _ _ (by omega) (by omega)]; exact h7 j hj
  · rw [hs _ _ (by omega) (by omega), f _ _ (by omega) (by omega)]; exact h8 j hj
  · rw [hs _ _ (by omega) (by omega), f _ _ (by omega) (by omega)]; exact h9 j hj
theorem mO.to {t t' : bT} {s s' : bv_S} (h : mO t s) (hi : ti t' (0, 0, 0) = ti t (0, 0, 0)) (hs : bv_i s' 1471 1 = bv_i s 1471 1) : mO t' s' := by
  unfold mO at h ⊢
  rw [hi, hs]; exact h
theorem mS.to {t t' : bT} {s s' : bv_S} (h : mS t s) (hk : ∀ g, g < 30 → tk t' g = tk t g) (hi : ∀ l : bL, cS l → ti t' l = ti t l) (h2 : bv_i s' 1471 2 = bv_i s 1471 2) (hs : ∀ o k, 1472 ≤ o → o ≤ 1480 → bv_i s' o k = bv_i s o k) : mS t' s' := by
  obtain ⟨a, b, c⟩ := h
  have e := hi (7, 0, 0) (Or.inl rfl)
  refine ⟨by rw [e]; exact a, by rw [h2, e]; exact b, fun g hg => ?_⟩
  rw [e] at hg
  exact ⟨(c g hg).1.to (hk g (by omega)) fun l hl => hi l (Or.inr ⟨hl.1, hl.2.1, by omega⟩), (c g hg).2.to (hk g (by omega)) (fun l hl => hi l (Or.inr ⟨hl.1, hl.2.1, by omega⟩)) hs⟩
theorem mW.to {t t' : bT} {s s' : bv_S} (h : mW t s) (hi : ∀ l : bL, l.1 = 1 ∨ l.1 = 15 → ti t' l = ti t l) (h2 : bv_i s' 1471 13 = bv_i s 1471 13) (hs : ∀ k, bv_i s' 1481 k = bv_i s 1481 k) : mW t' s' := by
  obtain ⟨a, b, c⟩ := h
  have e := hi (1, 0, 0) (Or.inl rfl)
  refine ⟨by rw [e]; exact a, by rw [h2, e]; exact b, fun j hj => ?_⟩
  rw [e] at hj
  rw [hi (15, j, 0) (Or.inr rfl), hs]
  exact c j hj
theorem mC.to {t t' : bT} {s s' : bv_S} (h : mC t s) (hi : ∀ l : bL, l.1 = 2 ∨ l.1 = 3 ∨ l.1 = 16 ∨ l.1 = 17 → ti t' l = ti t l) (h1 : bv_i s' 1471 17 = bv_i s 1471 17) (h2 : bv_i s' 1471 15 = bv_i s 1471 15) (hs : ∀ k, bv_i s' 1483 k = bv_i s 1483 k) (hs2 : ∀ k, bv_i s' 1482 k = bv_i s 1482 k) : mC t' s' := by
  obtain ⟨a, b, c, d, e⟩ := h
  have e1 := hi (2, 0, 0) (Or.inl rfl)
  have e2 := hi (3, 0, 0) (Or.inr (Or.inl rfl))
  refine ⟨by rw [e1, e2]; exact a, by rw [h1, e1]; exact b, by rw [h2, e2]; exact c, fun j hj => ?_, fun j hj => ?_⟩
  · rw [e1] at hj
    rw [hi (16, j, 0) (Or.inr (Or.inr (Or.inl rfl))), hs]; exact d j hj
  · rw [e2] at hj
    rw [hi (17, j, 0) (Or.inr (Or.inr (Or.inr rfl))), hs2]; exact e j hj
theorem mN.to {t t' : bT} (hi : ∀ l : bL, 30 ≤ l.1 → ti t' l = ti t l) : ∀ n, mN t' n = mN t n
  | 0 => rfl
  | n + 1 => by
    unfold mN
    rw [mN.to hi n, hi _ (by show 30 ≤ 34; omega)]
theorem mR.to {t t' : bT} {s s' : bv_S} (h : mR t s) (hk : ∀ g, 30 ≤ g → tk t' g = tk t g) (hL : ∀ g, 30 ≤ g → tL t' g = tL t g) (hi : ∀ l : bL, cR l → ti t' l = ti t l) (h2 : ∀ k, 47 ≤ k → bv_i s' 1471 k = bv_i s 1471 k) (hs : ∀ o k, 1486 ≤ o → o ≤ 1504 → bv_i s' o k = bv_i s o k) : mR t' s' := by
  obtain ⟨a1, a2, a3, a4, a5, a6⟩ := h
  have e1 := hi (4, 0, 0) (Or.inl ⟨by show 4 ≤ 4; omega, by show 4 ≤ 6; omega⟩)
  have e2 := hi (5, 0, 0) (Or.inl ⟨by show 4 ≤ 5; omega, by show 5 ≤ 6; omega⟩)
  have e3 := hi (6, 0, 0) (Or.inl ⟨by show 4 ≤ 6; omega, by show 6 ≤ 6; omega⟩)
  have e4 := hi (8, 0, 0) (Or.inr (Or.inl rfl))
  have e5 : ∀ l : bL, 30 ≤ l.1 → ti t' l = ti t l := fun l hl => hi l (Or.inr (Or.inr (Or.inl hl)))
  have e6 : ∀ c k, 19 ≤ c → c ≤ 29 → ti t' (c, 30 + k, 0) = ti t (c, 30 + k, 0) := fun c k c1 c2 => hi _ (Or.inr (Or.inr (Or.inr ⟨c1, c2, by show 30 ≤ 30 + k; omega⟩)))
  refine ⟨by rw [e1]; exact a1, by rw [e4]; exact a2, by rw [h2 _ (by omega), e1]; exact a3, by rw [h2 _ (by omega), e2]; exact a4, by rw [h2 _ (by omega), e1, e4]; exact a5, fun hir => ?_⟩
  rw [e1] at hir
  obtain ⟨b1, b2, b3, b4⟩ := a6 hir
  refine ⟨by rw [e5 _ (by show 30 ≤ 34; omega)]; exact b1, by rw [e3, mN.to e5]; exact b2, fun k hk' => ?_, fun p hp => ?_⟩
  · rw [e4] at hk'
    obtain ⟨c1, c2, c3, c4, c5, c6, c7⟩ := b3 k hk'
    unfold mF
    rw [hk _ (by omega), hL _ (by omega), e6 20 k (by omega) (by omega), e6 19 k (by omega) (by omega), e6 21 k (by omega) (by omega), e6 25 k (by omega) (by omega), hs _ _ (by omega) (by omega), hs _ _ (by omega) (by omega), hs _ _ (by omega) (by omega), hs _ _ (by omega) (by omega), hs _ _ (by omega) (by omega), hs _ _ (by omega) (by omega)]
    exact ⟨c1, c2, c3, c4, c5, c6, c7⟩
  · have := b4 p hp
    have f : ∀ c j, 30 ≤ c → ti t' (c, p, j) = ti t (c, p, j) := fun c j hc => e5 _ hc
    unfold mP at this ⊢
    rw [f 34 0 (by omega), f 31 0 (by omega), f 32 0 (by omega), f 30 0 (by omega), hs 1498 _ (by omega) (by omega), hs 1499 _ (by omega) (by omega), hs 1500 _ (by omega) (by omega), hs 1502 _ (by omega) (by omega)]
    refine ⟨this.1, this.2.1, fun q => ?_⟩
    obtain ⟨d1, d2, d3, d4, d5⟩ := this.2.2 q
    exact ⟨d1, d2, d3, fun j hj => by rw [hs _ _ (by omega) (by omega), f 36 j (by omega)]; exact d4 j hj, fun y hy => by rw [f 35 y (by omega)]; exact ⟨(d5 y hy).1, fun x hx => by rw [hs _ _ (by omega) (by omega)]; exact (d5 y hy).2 x hx⟩⟩
