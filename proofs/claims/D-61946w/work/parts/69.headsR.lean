/-! Reading: heads, what is told of them -/
set_option maxRecDepth 100000
/-- what stays when a reading fails -/
def kf (l : bL) : Prop := kp l ∨ l.1 = 4 ∨ l.1 = 5 ∨ l.1 = 8
theorem RF.of {t t' : bT} {s s' : bv_S} {n d T F : Nat} {p : Int32} (h : RI t s n d T) (hfn : ti t (8, 0, 0) ≤ 256) (hi : ∀ l : bL, kf l → ti t' l = ti t l) (hk : ∀ g, g < 30 → tk t' g = tk t g) (hz : tz t' = tz t ∧ tm t' = tm t) (hs : ∀ o k, kq o k → bv_i s' o k = bv_i s o k) (h0 : 0 < F) (h1 : F < 11) : RF (st (sz t' 1 8) none) (sF s' (nI F) p) (tz t) (tm t) (nI F) p := by
  obtain ⟨a1, a2, -⟩ := h
  obtain ⟨-, -, -, -, -, -, -, b8, b9⟩ := a2
  refine ⟨a1.to (fun l hl => hi l (Or.inl hl)) hk fun o k hq => ?_, Nat.le_trans (Nat.le_of_eq (hi (8, 0, 0) (by unfold kf; omega))) hfn, (hi (4, 0, 0) (by unfold kf; omega)).trans b8, (hi (5, 0, 0) (by unfold kf; omega)).trans b9.1, by show tz t' + 1 = _; rw [hz.1], by show tm t' + 8 = _; rw [hz.2], (bv_iIn (by omega)).trans bv_iIe, bv_iIe, F, h0, h1, rfl⟩
  unfold sF
  unfold kq at hq
  rw [bv_iIn (by omega), bv_iIn (by omega)]
  exact hs o k hq
theorem let_v {f k : Nat} (hk : k ≤ 11) (hf : f < 2 ^ k) : (nI f ^^^ (-1 : Int32)) &&& nI (2 ^ k - 1) = nI (2 ^ k - 1 - f) := by
  have p1 : 2 ^ k ≤ 2048 := Nat.pow_le_pow_right (by omega) hk
  have p0 : 0 < 2 ^ k := Nat.two_pow_pos k
  rw [pk_and _ k (pk_tn (by omega))]
  congr 1
  have e : (nI f ^^^ (-1 : Int32)).toBitVec = ~~~ (nI f).toBitVec := by
    rw [Int32.toBitVec_xor, show (-1 : Int32).toBitVec = BitVec.allOnes 32 from by decide, BitVec.xor_allOnes]
  rw [e, BitVec.toNat_not, show (nI f).toBitVec.toNat = f from pk_tn (by omega)]
  have e2 : 2 ^ 32 - 1 - f = (2 ^ k - 1 - f) + 2 ^ k * (2 ^ (32 - k) - 1) := by
    have e3 : 2 ^ k * 2 ^ (32 - k) = 2 ^ 32 := by rw [← Nat.pow_add]; congr 1; omega
    rw [Nat.mul_sub, e3]
    have : 2 ^ k * 1 ≤ 2 ^ 32 := by omega
    omega
  rw [e2, Nat.add_mul_mod_self_left]
  exact Nat.mod_eq_of_lt (by omega)
theorem la_lt {v l : Nat} (hv : v < 4294967296) (hl : l ≤ 256) : (lN v ≤ (nI l - (1 : Int32)).toInt64) ↔ v < l := by
  cases l with
  | zero =>
    rw [show (nI 0 - (1 : Int32)).toInt64 = (-1 : Int64) from by decide]
    constructor
    · intro z
      exfalso
      have h1 := Int64.le_iff_toInt_le.mp z
      rw [lN_toI (by omega)] at h1
      have e : (-1 : Int64).toInt = -1 := rfl
      omega
    · intro z; omega
  | succ k =>
    rw [nI_pred, nI_l (by omega), lN_le2 (by omega) (by omega)]; omega
theorem f4_far {a b c d : Nat} (ha : a < 256) (hb : b < 256) (hc : c < 256) (hd : d < 256) : f4 a b c d = 3758096384 + d ↔ a = 224 ∧ b = 0 ∧ c = 0 := by
  unfold f4; omega
theorem far_or {n : Nat} (hn : n < 256) : (3758096384 : Int64) ||| (nI n).toInt64 = lN (3758096384 + n) := by
  rw [nI_l (by omega), show (3758096384 : Int64) = lN 3758096384 from rfl, lN_or]
  congr 1
  have := Nat.two_pow_add_eq_or_of_lt (i := 8) (b := n) (by omega) 14680064
  rw [show 2 ^ 8 * 14680064 = 3758096384 from rfl] at this
  exact this.symm
theorem fl_or {a b : Nat} (ha : a < 256) (hb : b < 256) : nI a ||| (nI b <<< ((8 : Int32) &&& 31)) = nI (256 * b + a) := by
  rw [show nI b <<< ((8 : Int32) &&& 31) = nI (b * 2 ^ 8) from nI_shl (k := 8) (by omega) (by omega), nI_or]
  congr 1
  have := Nat.two_pow_add_eq_or_of_lt (i := 8) (b := a) (by omega) b
  rw [Nat.or_comm, show b * 2 ^ 8 = 2 ^ 8 * b by omega, ← this]
/-- a head is told: at o, kind k, number v, n references, flags f, data behind it at e -/
def Hd (t t1 : bT) (g o k v n f e : Nat) : Prop :=
  (∀ l : bL, ¬ (19 ≤ l.1 ∧ l.1 ≤ 29 ∧ l.2.1 = g) → l.1 ≠ 10 → l.1 ≠ 11 → ti t1 l = ti t l) ∧ (∀ x, x ≠ g → tk t1 x = tk t x) ∧ (∀ x, x ≠ g → tL t1 x = tL t x) ∧ (tz t1 = tz t ∧ tm t1 = tm t) ∧ tk t1 g = k ∧ tL t1 g = b4 t (e - 4) ∧ ti t1 (10, 0, 0) = e ∧ ti t1 (11, 0, 0) = v + 1 ∧ ti t1 (20, g, 0) = v ∧ ti t1 (19, g, 0) = ti t (18, e - 5, 0) ∧ ti t1 (21, g, 0) = n ∧ (∀ j, j < n → ti t1 (26, g, j) = ti t (18, e - 5 - n + j, 0)) ∧ ti t1 (22, g, 0) = 2 ^ (n + 1) - 1 - f ∧ ti t1 (24, g, 0) = o ∧ ti t1 (25, g, 0) = 0
def Hs (t : bT) (s s1 : bv_S) (n o k v r f e : Nat) : Prop :=
  (∀ x y, (x < 1485 ∨ 1494 < x ∨ x = 1492 ∨ x = 1493) → (x ≠ 1471 ∨ y ≠ 21 ∧ y ≠ 24) → bv_i s1 x y = bv_i s x y) ∧ (∀ x y, 1485 ≤ x → x ≤ 1494 → x ≠ 1490 → y ≠ n → bv_i s1 x y = bv_i s x y) ∧ (∀ y, y < 10 * n → bv_i s1 1490 y = bv_i s 1490 y) ∧ (∀ x y, x ≠ 1492 ∨ y ≠ n → bv_l s1 x y = bv_l s x y) ∧ bv_i s1 1471 21 = nI e ∧ bv_i s1 1471 24 = nI (n + 1) ∧ bv_i s1 1485 n = nI o ∧ bv_i s1 1486 n = nI v ∧ bv_i s1 1487 n = bv_code k ∧ bv_i s1 1488 n = nI (ti t (18, e - 5, 0)) ∧ bv_i s1 1489 n = nI r ∧ (∀ j, j < r → bv_i s1 1490 (10 * n + j) = nI (ti t (18, e - 5 - r + j, 0))) ∧ bv_i s1 1491 n = nI f ∧ bv_i s1 1494 n = -1 ∧ bv_l s1 1492 n = lN (b4 t (e - 4))
theorem RI.head {t t1 : bT} {s s1 : bv_S} {n d T o k v r f e : Nat} (h : RI t s n d T) (hn : n < 256) (hk : k < 10) (hv : v < 256) (hla : ti t (11, 0, 0) ≤ v) (hr : r ≤ 10) (hf : f < 2 ^ (r + 1)) (ho : o ≤ 3000) (he : e ≤ T) (he2 : 5 + r ≤ e) (h7 : ti t (0, 0, 0) = 2 → k ≠ 7) (h1 : Hd t t1 (30 + n) o k v r f e) (h2 : Hs t s s1 n o k v r f e) : RI t1 s1 (n + 1) d T := by
  obtain ⟨i1, i2, i3, i4, i5, i6, i7, i8⟩ := h
  obtain ⟨⟨a1, a2, a3⟩, ⟨a4, a5⟩, ⟨a6, a7, a8, a9, a10⟩, a11, ⟨a12, a13, a14, a15⟩, a16, a17, a18, a19⟩ := i2
  obtain ⟨c1, c2, c3, c4, c5, c6, c7, c8, c9, c10, c11, c12, c13, c14, c15⟩ := h1
  obtain ⟨d1, d2, d3, d4, d5, d6, d7, d8, d9, d10, d11, d12, d13, d14, d15⟩ := h2
  have fl : ∀ l : bL, (l.1 < 10 ∨ (12 ≤ l.1 ∧ l.1 ≤ 18) ∨ 30 ≤ l.1) → ti t1 l = ti t l := fun l hl => c1 l (by omega) (by omega) (by omega)
  have fh : ∀ p, ti t1 (34, p, 0) = ti t (34, p, 0) := fun p => fl _ (Or.inr (Or.inr (by show 30 ≤ 34; omega)))
  have fop : ti t1 (12, 0, 0) = ti t (12, 0, 0) := fl _ (Or.inr (Or.inl ⟨by show 12 ≤ 12; omega, by show 12 ≤ 18; omega⟩))
  refine ⟨i1.to (fun l hl => c1 l (by unfold kp at hl; omega) (by unfold kp at hl; omega) (by unfold kp at hl; omega)) (fun g hg => c2 g (by omega)) (fun x y hq => d1 x y (by unfold kq at hq; omega) (by unfold kq at hq; omega)), ⟨⟨a1, (d1 _ _ (by omega) (by omega)).trans a2, fun j hj => ?_⟩, ⟨by rw [c7]; exact he, by rw [c7]; exact d5⟩, ⟨d6, by rw [c8]; omega, by rw [c8]; omega, fun z => absurd z (by omega), fun _ => ?_⟩, (d1 _ _ (by omega) (by omega)).trans a11, ⟨by rw [fop]; exact a12, by rw [fop]; exact a13, by rw [fop]; exact (d1 _ _ (by omega) (by omega)).trans a14, by rw [fop, fh]; exact a15⟩, by rw [fh]; exact a16, ?_, (fl _ (Or.inl (by show 4 < 10; omega))).trans a18, (fl _ (Or.inl (by show 5 < 10; omega))).trans a19.1, fun x hx ho => ?_⟩, fun x hx => ?_, fun x hx1 hx2 => ?_, fun x hx => ?_, fun p hp => ?_, by omega, (d1 _ _ (by omega) (by omega)).trans i8⟩
  · rw [fl _ (Or.inr (Or.inl ⟨by show 12 ≤ 18; omega, by show 18 ≤ 18; omega⟩)), d1 _ _ (by omega) (by omega)]
    exact a3 j hj
  · rw [Nat.add_sub_cancel, d8, c8, Nat.add_sub_cancel]
  · rw [fl _ (Or.inr (Or.inl ⟨by show 12 ≤ 13; omega, by show 13 ≤ 18; omega⟩)), a17]
    exact (mN.to (fun l hl => fl l (Or.inr (Or.inr hl))) 10).symm
  · rw [fl _ (Or.inl (by show 0 < 10; omega))] at ho
    by_cases hc : x = n
    · subst hc
      rw [c5]; exact h7 ho
    · rw [c2 _ (by omega)]; exact a19.2 x (by omega) ho
  · by_cases hc : x = n
    · subst hc
      unfold Rh
      rw [c5, c14, c9, c10, c11, c13, c15, d9, d7, d8, d10, d11, d13, d14]
      refine ⟨⟨hk, rfl⟩, ⟨ho, rfl⟩, ⟨hv, rfl⟩, ⟨(a3 _ (by omega)).1, rfl⟩, ⟨hr, rfl⟩, fun i hi => ?_, ⟨f, hf, rfl, rfl⟩, by omega, by decide⟩
      rw [c12 i hi, d12 i hi]
      exact ⟨(a3 _ (by omega)).1, rfl⟩
    · exact (i3 x (by omega)).to (c2 _ (by omega)) (fun l l1 l2 l3 => c1 l (by omega) (by omega) (by omega)) (fun o o1 o2 o3 o4 => d2 o x o1 o2 o3 hc) (fun j hj => d3 _ (by omega))
  · by_cases hc : x = n
    · subst hc
      unfold Rl
      rw [c6, d15]
      refine ⟨b4_lt fun i q1 q2 => (a3 i (by omega)).1, rfl⟩
    · exact (i4 x hx1 (by omega)).to (c3 _ (by omega)) (d4 _ _ (by omega))
  · exact (i5 x hx).to (c2 _ (by omega)) (c3 _ (by omega)) (fun l l1 l2 => c1 l (by omega) (by omega) (by omega)) (fun o o1 => d1 _ _ (by omega) (by omega)) (fun j hj => d1 _ _ (by omega) (by omega))
  · exact (i6 p hp).to (fun l l1 l2 => fl l (by omega)) fop (fun o o1 o2 => d1 _ _ (by omega) (by omega)) (fun j hj => d1 _ _ (by omega) (by omega)) (fun j hj => d1 _ _ (by omega) (by omega))
theorem mask32 {w : Nat} (h : w < 4294967296) : (nI w).toInt64 &&& (4294967295 : Int64) = lN w := by
  apply Int64.toBitVec_inj.mp
  rw [Int64.toBitVec_and, Int32.toBitVec_toInt64]
  show ((BitVec.ofNat 32 w).signExtend 64) &&& (4294967295 : Int64).toBitVec = BitVec.ofNat 64 w
  apply BitVec.eq_of_getLsbD_eq
  intro i hi
  have hm : ∀ i < 64, (4294967295 : Int64).toBitVec.getLsbD i = decide (i < 32) := by decide +kernel
  rw [BitVec.getLsbD_and, hm i hi, BitVec.getLsbD_signExtend, BitVec.getLsbD_ofNat, BitVec.getLsbD_ofNat]
  by_cases h32 : i < 32
  · simp [h32, hi]
  · have : w.testBit i = false := Nat.testBit_lt_two_pow (Nat.lt_of_lt_of_le (show w < 2 ^ 32 from h) (Nat.pow_le_pow_right (n := 2) (by omega) (show 32 ≤ i by omega)))
    simp [h32, this]
