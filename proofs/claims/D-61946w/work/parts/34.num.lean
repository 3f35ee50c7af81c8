/-! Numbers: four bytes, shifts, bits -/
set_option maxRecDepth 100000
theorem nI_or (a b : Nat) : nI a ||| nI b = nI (a ||| b) := Int32.toBitVec_inj.mp (by rw [Int32.toBitVec_or]; exact BitVec.ofNat_or.symm)
theorem nI_and (a b : Nat) : nI a &&& nI b = nI (a &&& b) := Int32.toBitVec_inj.mp (by rw [Int32.toBitVec_and]; exact BitVec.ofNat_and.symm)
theorem nI_xor (a b : Nat) : nI a ^^^ nI b = nI (a ^^^ b) := Int32.toBitVec_inj.mp (by rw [Int32.toBitVec_xor]; exact BitVec.ofNat_xor.symm)
theorem lN_or (a b : Nat) : lN a ||| lN b = lN (a ||| b) := Int64.toBitVec_inj.mp (by rw [Int64.toBitVec_or]; exact BitVec.ofNat_or.symm)
theorem s_l : ∀ n, n < 32 → ((nI n &&& 31).toBitVec.smod 32).toNat = n := by decide
theorem nI_shr {n k : Nat} (h : n < 2 ^ 31) (hk : k < 32) : nI n >>> (nI k &&& 31) = nI (n / 2 ^ k) := pk_shrN h _ k (s_l k hk)
theorem nI_shl {n k : Nat} (hk : k < 32) (h : n * 2 ^ k < 2 ^ 32) : nI n <<< (nI k &&& 31) = nI (n * 2 ^ k) := pk_shlN _ k (s_l k hk) h
theorem f4_hi : ∀ n, n < 256 → lN n <<< ((24 : Int32).toInt64 &&& 63) = lN (n * 16777216) := by decide
/-- four bytes as a number -/
def f4 (a b c d : Nat) : Nat := a * 16777216 + b * 65536 + c * 256 + d
theorem f4_or {a b c d : Nat} (hb : b < 256) (hc : c < 256) (hd : d < 256) : a * 16777216 ||| b * 65536 ||| c * 256 ||| d = f4 a b c d := by
  have e1 : a * 16777216 ||| b * 65536 = a * 16777216 + b * 65536 := by
    have := Nat.two_pow_add_eq_or_of_lt (i := 24) (b := b * 65536) (by omega) a
    rw [Nat.mul_comm (2 ^ 24) a] at this
    exact this.symm
  have e2 : a * 16777216 + b * 65536 ||| c * 256 = a * 16777216 + b * 65536 + c * 256 := by
    have := Nat.two_pow_add_eq_or_of_lt (i := 16) (b := c * 256) (by omega) (a * 256 + b)
    rw [show 2 ^ 16 * (a * 256 + b) = a * 16777216 + b * 65536 by omega] at this
    exact this.symm
  have e3 : a * 16777216 + b * 65536 + c * 256 ||| d = a * 16777216 + b * 65536 + c * 256 + d := by
    have := Nat.two_pow_add_eq_or_of_lt (i := 8) (b := d) (by omega) (a * 65536 + b * 256 + c)
    rw [show 2 ^ 8 * (a * 65536 + b * 256 + c) = a * 16777216 + b * 65536 + c * 256 by omega] at this
    exact this.symm
  rw [e1, e2, e3]; rfl
theorem f4_L {a b c d : Nat} (ha : a < 256) (hb : b < 256) (hc : c < 256) (hd : d < 256) : (((nI a).toInt64 <<< ((24 : Int32).toInt64 &&& 63) ||| (nI b <<< ((16 : Int32) &&& 31)).toInt64) ||| (nI c <<< ((8 : Int32) &&& 31)).toInt64) ||| (nI d).toInt64 = lN (f4 a b c d) := by
  rw [show nI b <<< ((16 : Int32) &&& 31) = nI (b * 65536) from pk_shlN _ 16 (by decide) (by omega), show nI c <<< ((8 : Int32) &&& 31) = nI (c * 256) from pk_shlN _ 8 (by decide) (by omega), nI_l (by omega), nI_l (by omega), nI_l (by omega), nI_l (by omega), f4_hi a ha, lN_or, lN_or, lN_or, f4_or hb hc hd]
theorem f4_I {a b c d : Nat} (ha : a < 256) (hb : b < 256) (hc : c < 256) (hd : d < 256) : ((nI a <<< ((24 : Int32) &&& 31) ||| nI b <<< ((16 : Int32) &&& 31)) ||| nI c <<< ((8 : Int32) &&& 31)) ||| nI d = nI (f4 a b c d) := by
  rw [show nI a <<< ((24 : Int32) &&& 31) = nI (a * 16777216) from pk_shlN _ 24 (by decide) (by omega), show nI b <<< ((16 : Int32) &&& 31) = nI (b * 65536) from pk_shlN _ 16 (by decide) (by omega), show nI c <<< ((8 : Int32) &&& 31) = nI (c * 256) from pk_shlN _ 8 (by decide) (by omega), nI_or, nI_or, nI_or, f4_or hb hc hd]
theorem f4_lt {a b c d : Nat} (ha : a < 256) (hb : b < 256) (hc : c < 256) (hd : d < 256) : f4 a b c d < 4294967296 := by unfold f4; omega
theorem cb_k {n : Nat} (h : n < 256) : cb n &&& 255 = nI n := sc_k8 n h
/-- longs by numbers, below 2^62 -/
theorem lN_toI {n : Nat} (h : n < 2 ^ 63) : (lN n).toInt = (n : Int) := by
  show (Int64.ofNat n).toInt = _
  rw [Int64.toInt_ofNat_of_lt h]
theorem lN_lt2 {a b : Nat} (ha : a < 2 ^ 63) (hb : b < 2 ^ 63) : lN a < lN b ↔ a < b := by
  rw [Int64.lt_iff_toInt_lt, lN_toI ha, lN_toI hb]; omega
theorem lN_le2 {a b : Nat} (ha : a < 2 ^ 63) (hb : b < 2 ^ 63) : lN a ≤ lN b ↔ a ≤ b := by
  rw [Int64.le_iff_toInt_le, lN_toI ha, lN_toI hb]; omega
theorem lN_eq2 {a b : Nat} (ha : a < 2 ^ 63) (hb : b < 2 ^ 63) : lN a = lN b ↔ a = b := by
  constructor
  · intro h
    have := congrArg Int64.toInt h
    rw [lN_toI ha, lN_toI hb] at this
    omega
  · intro h; rw [h]
theorem nI_neg {x : Int32} : x < 0 ↔ x.toInt < 0 := by rw [Int32.lt_iff_toInt_lt]; rfl
/-- any int against the numbers 0 .. n -/
theorem nI_in2 {x : Int32} {n : Nat} (hn : n < 2 ^ 31) : (0 ≤ x ∧ x ≤ nI n) ↔ ∃ j, j ≤ n ∧ x = nI j := by
  constructor
  · intro h
    obtain ⟨j, h1, h2⟩ := nI_of (Int32.not_lt.mpr h.1)
    exact ⟨j, by rw [h2] at h; exact (nI_leI (by omega) hn).mp h.2, h2⟩
  · rintro ⟨j, h1, rfl⟩
    exact ⟨nI_pos' (by omega), nI_le h1 hn⟩
