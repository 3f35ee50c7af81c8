/-! Programs that neither read nor write; numbers; agreement of states -/
set_option maxRecDepth 100000
def bz (c : Prop) [Decidable c] : Int32 := if c then 1 else 0
theorem bz_0 {c : Prop} [Decidable c] : (bz c = 0) ↔ ¬ c := by unfold bz; split <;> simp_all
theorem bz_1 {c : Prop} [Decidable c] : (bz c = 1) ↔ c := by unfold bz; split <;> simp_all
theorem bz_T {c : Prop} [Decidable c] (h : c) : bz c = 1 := if_pos h
theorem bz_F {c : Prop} [Decidable c] (h : ¬ c) : bz c = 0 := if_neg h
theorem bz_b {c : Prop} [Decidable c] : bz c = 0 ∨ bz c = 1 := by unfold bz; split <;> simp
section PURE
variable {α β : Type}
theorem bp_bind_ret {v : α} {K : α → bp_M β} : bp_bind (bp_ret v) K = K v := rfl
theorem bp_retZ_0 : bp_retZ 0 = bp_ret (0 : Int32) := rfl
theorem bp_retZ_1 : bp_retZ 1 = bp_ret (1 : Int32) := rfl
theorem bp_retZ_bz {c : Prop} [Decidable c] : bp_retZ (bz c) = bp_ret (bz c) := funext fun h => if_pos bz_b
theorem bp_ifT {c : Prop} [Decidable c] {P1 P2 : bp_M β} (h : c) : bp_if c P1 P2 = P1 := funext fun _ => if_pos h
theorem bp_ifF {c : Prop} [Decidable c] {P1 P2 : bp_M β} (h : ¬ c) : bp_if c P1 P2 = P2 := funext fun _ => if_neg h
theorem bp_if_r {c : Prop} [Decidable c] {a b : α} : bp_if c (bp_ret a) (bp_ret b) = bp_ret (if c then a else b) := by
  by_cases h : c
  · rw [bp_ifT h, if_pos h]
  · rw [bp_ifF h, if_neg h]
theorem bp_jn_if {c : Prop} [Decidable c] {a b : α} {K : α → bp_M β} : bp_jn (fun k => bp_if c (k a) (k b)) K = K (if c then a else b) := by
  show bp_if c (K a) (K b) = _
  by_cases h : c
  · rw [bp_ifT h, if_pos h]
  · rw [bp_ifF h, if_neg h]
theorem bp_jn_i2 {c d : Prop} [Decidable c] [Decidable d] {a b e : α} {K : α → bp_M β} : bp_jn (fun k => bp_if c (k a) (bp_if d (k b) (k e))) K = K (if c then a else if d then b else e) := by
  show bp_if c (K a) (bp_if d (K b) (K e)) = _
  by_cases h : c
  · rw [bp_ifT h, if_pos h]
  · rw [bp_ifF h, if_neg h]
    by_cases h : d
    · rw [bp_ifT h, if_pos h]
    · rw [bp_ifF h, if_neg h]
theorem bz_if {c : Prop} [Decidable c] : (if c then (1 : Int32) else 0) = bz c := rfl
theorem bz_in {c : Prop} [Decidable c] : (if c then (0 : Int32) else 1) = bz (¬ c) := by unfold bz; by_cases h : c <;> simp [h]
end PURE
theorem p_within (a b c : Int64) : PX1_within a b c = bp_ret (bz (b ≤ a ∧ a ≤ c)) := by
  unfold PX1_within
  rw [bp_retZ_0, bp_retZ_1, bp_if_r, bp_if_r]
  congr 1
  simp only [lg_cmp_lt, lg_cmp_gt]
  unfold bz
  by_cases h1 : a < b
  · rw [if_pos h1, if_neg (fun z => Int64.not_lt.mpr z.1 h1)]
  · rw [if_neg h1]
    by_cases h2 : c < a
    · rw [if_pos h2, if_neg (fun z => Int64.not_lt.mpr z.2 h2)]
    · rw [if_neg h2, if_pos ⟨Int64.not_lt.mp h1, Int64.not_lt.mp h2⟩]
theorem p_isIn (a b c : Int32) : PX6_isIn a b c = bp_ret (bz (b ≤ a ∧ a ≤ c)) := by
  unfold PX6_isIn
  rw [bp_retZ_0, bp_retZ_1, bp_if_r, bp_if_r]
  congr 1
  unfold bz
  by_cases h1 : a < b
  · rw [if_pos h1, if_neg (fun z => Int32.not_lt.mpr z.1 h1)]
  · rw [if_neg h1]
    by_cases h2 : c < a
    · rw [if_pos h2, if_neg (fun z => Int32.not_lt.mpr z.2 h2)]
    · rw [if_neg h2, if_pos ⟨Int32.not_lt.mp h1, Int32.not_lt.mp h2⟩]
/-- what a test asks, as a program -/
theorem p_want (c : Prop) [Decidable c] : PX1_want (bz c) = bp_if c (bp_ret ()) (bp_throw0 1) := by
  unfold PX1_want
  by_cases h : c
  · rw [bz_T h, bp_ifT h, bp_ifF (by decide)]
  · rw [bz_F h, bp_ifF h, bp_ifT rfl]
theorem p_wantRoom (c : Prop) [Decidable c] : PX1_wantRoom (bz c) = bp_if c (bp_ret ()) (bp_throw0 2) := by
  unfold PX1_wantRoom
  by_cases h : c
  · rw [bz_T h, bp_ifT h, bp_ifF (by decide)]
  · rw [bz_F h, bp_ifF h, bp_ifT rfl]
theorem p_allow (c : Prop) [Decidable c] : PX1_allow (bz c) = bp_if c (bp_ret ()) (bp_throw0 3) := by
  unfold PX1_allow
  by_cases h : c
  · rw [bz_T h, bp_ifT h, bp_ifF (by decide)]
  · rw [bz_F h, bp_ifF h, bp_ifT rfl]
theorem p_wantIndex (c : Prop) [Decidable c] : PX1_wantIndex (bz c) = bp_if c (bp_ret ()) (bp_throw0 4) := by
  unfold PX1_wantIndex
  by_cases h : c
  · rw [bz_T h, bp_ifT h, bp_ifF (by decide)]
  · rw [bz_F h, bp_ifF h, bp_ifT rfl]
/-- numbers -/
theorem i64_le (a b : Int32) : a.toInt64 ≤ b.toInt64 ↔ a ≤ b := by
  rw [Int64.le_iff_toInt_le, Int32.le_iff_toInt_le, Int32.toInt_toInt64, Int32.toInt_toInt64]
theorem nI_lit (n : Nat) : (OfNat.ofNat n : Int32) = nI n := rfl
theorem bv_in {j n : Nat} (h : j < n) (hn : n < 2 ^ 31) : ¬ (nI j < 0 ∨ n ≤ (nI j).toNatClampNeg) := nI_in h hn
theorem bv_255 {b : Int32} (h : 0 ≤ b ∧ b ≤ 255) : ∃ n : Nat, n < 256 ∧ b = nI n := by
  obtain ⟨j, h1, h2⟩ := nI_of2 (M := 255) (n := 255) rfl (Int32.not_lt.mpr h.1) h.2
  exact ⟨j, by omega, h2⟩
/-- the parts of a changed state -/
theorem bv_iI (s : bv_S) (o k : Nat) (v : Int32) (x y : Nat) : bv_i (bv_I s o k v) x y = if x = o ∧ y = k then v else bv_i s x y := rfl
theorem bv_iIe {s : bv_S} {o k : Nat} {v : Int32} : bv_i (bv_I s o k v) o k = v := if_pos ⟨rfl, rfl⟩
theorem bv_iIn {s : bv_S} {o k : Nat} {v : Int32} {x y : Nat} (h : x ≠ o ∨ y ≠ k) : bv_i (bv_I s o k v) x y = bv_i s x y := bp_u2_ne h
theorem bv_lI (s : bv_S) (o k : Nat) (v : Int32) : bv_l (bv_I s o k v) = bv_l s := rfl
theorem bv_kI (s : bv_S) (o k : Nat) (v : Int32) : bv_k (bv_I s o k v) = bv_k s := rfl
theorem bv_cI (s : bv_S) (o k : Nat) (v : Int32) : bv_c (bv_I s o k v) = bv_c s := rfl
theorem bv_tI (s : bv_S) (o k : Nat) (v : Int32) : bv_it (bv_I s o k v) = bv_it s := rfl
theorem bv_ZI (s : bv_S) (o k : Nat) (v : Int32) : bv_Z (bv_I s o k v) = bv_Z s := rfl
theorem bv_NI (s : bv_S) (o k : Nat) (v : Int32) : bv_N (bv_I s o k v) = bv_N s := rfl
theorem bv_iL (s : bv_S) (o k : Nat) (v : Int64) : bv_i (bv_L s o k v) = bv_i s := rfl
theorem bv_kL (s : bv_S) (o k : Nat) (v : Int64) : bv_k (bv_L s o k v) = bv_k s := rfl
theorem bv_cL (s : bv_S) (o k : Nat) (v : Int64) : bv_c (bv_L s o k v) = bv_c s := rfl
theorem bv_tL (s : bv_S) (o k : Nat) (v : Int64) : bv_it (bv_L s o k v) = bv_it s := rfl
theorem bv_ZL (s : bv_S) (o k : Nat) (v : Int64) : bv_Z (bv_L s o k v) = bv_Z s := rfl
theorem bv_NL (s : bv_S) (o k : Nat) (v : Int64) : bv_N (bv_L s o k v) = bv_N s := rfl
theorem bv_lL (s : bv_S) (o k : Nat) (v : Int64) (x y : Nat) : bv_l (bv_L s o k v) x y = if x = o ∧ y = k then v else bv_l s x y := rfl
theorem bv_lLe {s : bv_S} {o k : Nat} {v : Int64} : bv_l (bv_L s o k v) o k = v := if_pos ⟨rfl, rfl⟩
theorem bv_iZ (s : bv_S) (z n : Nat) : bv_i (bv_ZN s z n) = bv_i s := rfl
theorem bv_lZ (s : bv_S) (z n : Nat) : bv_l (bv_ZN s z n) = bv_l s := rfl
theorem bv_kZ (s : bv_S) (z n : Nat) : bv_k (bv_ZN s z n) = bv_k s := rfl
theorem bv_cZ (s : bv_S) (z n : Nat) : bv_c (bv_ZN s z n) = bv_c s := rfl
theorem bv_ZZ (s : bv_S) (z n : Nat) : bv_Z (bv_ZN s z n) = bv_Z s + z := rfl
theorem bv_NZ (s : bv_S) (z n : Nat) : bv_N (bv_ZN s z n) = bv_N s + n := rfl
theorem bv_iK (s : bv_S) (g k : Nat) : bv_i (bv_K s g k) = bv_i s := rfl
theorem bv_lK (s : bv_S) (g k : Nat) : bv_l (bv_K s g k) = bv_l s := rfl
theorem bv_kK (s : bv_S) (g k x : Nat) : bv_k (bv_K s g k) x = if x = g then k else bv_k s x := rfl
theorem bv_cK (s : bv_S) (g k : Nat) : bv_c (bv_K s g k) = bv_c s := rfl
theorem bv_ZK (s : bv_S) (g k : Nat) : bv_Z (bv_K s g k) = bv_Z s := rfl
theorem bv_NK (s : bv_S) (g k : Nat) : bv_N (bv_K s g k) = bv_N s := rfl
section SW2
variable {α β : Type} {C : Nat} {sa : Nat → Nat} {P P1 P2 : bp_M β} {s : bv_S} {Q : (bv_E ⊕ β) → bv_S → Prop}
/-- a new cell behind the region -/
theorem bv_V.mk {h : bp_H} (hV : bv_V C sa h s) (q : Nat × Nat) (n : Nat) : bv_V C sa (bp_mk h q n) (bv_ZN s 1 n) := by
  obtain ⟨v1, v2, v3, v4, v5, v6, v7, v8, v9, v10, v11, v12⟩ := hV
  have hR : ∀ a k, a < bp_Z h → bp_R (bp_mk h q n) a k = bp_R h a k := fun a k ha => if_neg (by omega)
  have hI : ∀ a k, a < bp_Z h → bp_I (bp_mk h q n) a k = bp_I h a k := fun a k ha => if_neg (by omega)
  have hL : ∀ a k, a < bp_Z h → bp_L (bp_mk h q n) a k = bp_L h a k := fun a k ha => if_neg (by omega)
  have hS : ∀ a, a < bp_Z h → bp_S (bp_mk h q n) a = bp_S h a := fun a ha => if_neg (by omega)
  obtain ⟨r1, r2, r3, r4, r5, r6⟩ := v2
  have rfb : ∀ o k x, bv_rf o k = some x → o < 1506 := by
    intro o k x h
    unfold bv_rf at h
    split at h <;> first | omega | cases h
  have hp : ∀ p, p < 10 → bv_hp p < 1506 := fun p hp => by unfold bv_hp; omega
  have hg : ∀ g, g < 286 → bv_sg g < 1506 := fun p hp => by unfold bv_sg; omega
  obtain ⟨c1, c2, c3, c4, c5, c6, c7, c8, c9⟩ := v7
  have hsa : ∀ i, (i < 9 ∨ (11 ≤ i ∧ i < 21)) → sa i < bp_Z h := fun i hi => by have := c3 i hi; omega
  have li : ∀ o g0 mx, o < 1506 → bv_Li C sa h s o g0 mx → bv_Li C sa (bp_mk h q n) (bv_ZN s 1 n) o g0 mx := fun o g0 mx ho hL2 => by
    obtain ⟨e, m, l1, l2, l3, l4, l5, l6, l7, l8⟩ := hL2
    have he : e < bp_Z h := by
      rcases l3 with ⟨rfl, -⟩ | ⟨-, z, -⟩
      · exact hsa 8 (by omega)
      · exact z
    refine ⟨e, m, by rw [hR _ _ (by omega)]; exact l1, by rw [hS _ he]; exact l2, ?_, l4, l5, l6, l7, fun j hj => by rw [hR _ _ he]; exact l8 j hj⟩
    rcases l3 with z | ⟨z1, z2, z3⟩
    · exact Or.inl z
    · exact Or.inr ⟨z1, by show e < bp_Z h + 1; omega, z3⟩
  refine ⟨fun o ho => ⟨by rw [hS _ (by omega)]; exact (v1 o ho).1, fun k => by rw [hI _ _ (by omega)]; exact (v1 o ho).2.1 k, fun k => by rw [hL _ _ (by omega)]; exact (v1 o ho).2.2 k⟩,
    ⟨fun o k x hx => by have := rfb o k x hx; rw [hR _ _ (by omega)]; exact r1 o k x hx, fun j hj => by rw [hR _ _ (by omega)]; exact r2 j hj, fun j hj => by rw [hR _ _ (by omega)]; exact r3 j hj, fun j hj => by rw [hR _ _ (by omega)]; exact r4 j hj, fun p hp' => by have := hp p hp'; rw [hR _ _ (by omega), hR _ _ (by omega)]; exact r5 p hp', fun g hg' => by have := hg g hg'; rw [hR _ _ (by omega), hR _ _ (by omega), hR _ _ (by omega), hR _ _ (by omega)]; exact r6 g hg'⟩,
    fun g hg' => by have := hg g hg'; rw [hR _ _ (by omega)]; exact v3 g hg', li 1 _ _ (by omega) v4, li 8 _ _ (by omega) v5, fun e he hC => ?_,
    ⟨c1, c2, c3, fun i h1 h2 => ?_, by rw [hS _ (hsa 0 (by omega))]; exact c5, fun k hk => by rw [hR _ _ (hsa 0 (by omega))]; exact c6 k hk, by rw [hS _ (hsa 8 (by omega))]; exact c7, fun k hk => ?_, c9⟩, ?_, ?_, ?_, v11, fun a o j hi => ?_⟩
  · rw [hR _ _ (by omega)] at he ⊢
    exact v6 e he hC
  · rw [hS _ (hsa i (by omega))]
    exact ⟨(c4 i h1 h2).1, fun j hj => by rw [hI _ _ (hsa i (by omega))]; exact (c4 i h1 h2).2 j hj⟩
  · have hk' := hsa (11 + k) (by omega)
    rw [hS _ hk', hI _ _ hk', hI _ _ hk', hI _ _ hk']
    exact c8 k hk
  · show bp_Z h + 1 = bv_Z s + 1
    rw [v8]
  · show bp_N h + n = bv_N s + n
    rw [v9]
  · show C + 1506 ≤ bp_Z h + 1
    omega
  · obtain ⟨i1, i2, i3, i4, i5, i6, i7⟩ := v12 a o j hi
    exact ⟨i1, by show a < bp_Z h + 1; omega, (hS _ i2).trans i3, (hI _ _ i2).trans i4, (hI _ _ i2).trans i5, (hR _ _ i2).trans i6, i7⟩
theorem sw_throw0 {k : Nat} (hk : k ≠ 5) (kk : ∀ e, Q (.inl (k, e)) (bv_ZN s 1 6)) : sw C sa (bp_throw0 k) s Q := fun h hV => ⟨_, _, rfl, _, hV.mk (99, 0) 6, by
  show Q (.inl (bv_kd (bp_mk h (99, 0) 6) (k, bp_Z h), bp_Z h, _, _)) _
  rw [bv_kn hk]; exact kk _⟩
theorem sw_try {f : bp_M α} {K : α → bp_M β} {X : Nat → Nat → bp_M β} (k : sw C sa f s (fun r s1 => match r with | .inl e => e.1 ≠ 5 ∧ e.1 ≠ 6 ∧ sw C sa (X e.1 e.2.1) s1 Q | .inr v => sw C sa (K v) s1 Q)) : sw C sa (bp_try f K X) s Q := fun h hV => by
  obtain ⟨r, h', e, s', v, q⟩ := k h hV
  unfold bp_try
  rw [e]
  cases r with
  | inl x =>
    obtain ⟨q1, q2, q3⟩ := q
    have e1 : bv_kd h' x = x.1 := by
      show (if x.1 = 5 ∧ (bp_S h' x.2).1 ≠ 5 then 6 else x.1) = x.1
      refine if_neg fun z => ?_
      exact q2 (if_pos z)
    have q4 : sw C sa (X (bv_kd h' x) x.2) s' Q := q3
    rw [e1] at q4
    exact q4 h' v
  | inr x =>
    exact q h' v
/-- the reading's end: the handler of a fault -/
theorem sw_try5 {f : bp_M α} {K : α → bp_M Int32} {Q : (bv_E ⊕ Int32) → bv_S → Prop} (k : sw C sa f s (fun r s1 => match r with | .inl e => e.1 = 5 ∧ Q (.inr ((-1 : Int32) - e.2.2.2)) (bv_I s1 0 14 e.2.2.1) | .inr v => sw C sa (K v) s1 Q)) :
    sw C sa (bp_try f K (bp_hs [(5, fun a4 => bp_getI 5 6 a4 fun x5 => bp_putI 0 14 (C + 0) x5 <| bp_getI 5 7 a4 fun x6 => bp_ret ((-1 : Int32) - x6))])) s Q := fun h hV => by
  obtain ⟨r, h', e, s', v, q⟩ := k h hV
  unfold bp_try
  rw [e]
  cases r with
  | inl x =>
    obtain ⟨q1, q2⟩ := q
    have e0 : (if x.1 = 5 ∧ (bp_S h' x.2).1 ≠ 5 then 6 else x.1) = 5 := q1
    have e1 : x.1 = 5 ∧ (bp_S h' x.2).1 = 5 := by
      by_cases z : x.1 = 5 ∧ (bp_S h' x.2).1 ≠ 5
      · rw [if_pos z] at e0; omega
      · rw [if_neg z] at e0
        exact ⟨e0, Classical.byContradiction fun z2 => z ⟨e0, z2⟩⟩
    have hne : x.2 ≠ C + 0 := fun z => by
      have h2 := v.sh (o := 0) (by decide)
      rw [← z] at h2
      rw [h2] at e1
      exact absurd e1.2 (by decide)
    have hb := v.base
    refine ⟨.inr ((-1 : Int32) - bp_I h' x.2 7), bp_setI h' (C + 0) 14 (bp_I h' x.2 6), ?_, _, v.setI _ (by decide) (by decide), q2⟩
    show bp_hs _ x.1 x.2 h' = _
    unfold bp_hs
    rw [bp_if, if_pos e1.1]
    show (if (bp_S h' x.2).1 = 5 then (if (bp_S h' (C + 0)).1 = 0 ∧ bp_B h' ≤ C + 0 then (if (bp_S h' x.2).1 = 5 then (some (.inr ((-1 : Int32) - bp_I (bp_setI h' (C + 0) 14 (bp_I h' x.2 6)) x.2 7), bp_setI h' (C + 0) 14 (bp_I h' x.2 6)) : Option ((bp_E ⊕ Int32) × bp_H)) else none) else none) else none) = _
    rw [if_pos e1.2, if_pos ⟨by rw [v.sh (o := 0) (by decide)]; rfl, by omega⟩, if_pos e1.2, show bp_I (bp_setI h' (C + 0) 14 (bp_I h' x.2 6)) x.2 7 = bp_I h' x.2 7 from bp_u2_ne (Or.inl hne)]
  | inr x =>
    exact q h' v
/-- may(..): what it answers, what it notes -/
def bv_may (x1 x2 x3 x4 : Int32) : Int32 := if x1 = 0 then 1 else if x2 = 0 then 2 else if x3 = 0 then 3 else if x4 = 0 then 4 else 0
theorem sw_may {x1 x2 x3 x4 : Int32} {Q : (bv_E ⊕ Int32) → bv_S → Prop} (k : Q (.inr (bz (bv_may x1 x2 x3 x4 = 0))) (bv_I s 1471 0 (bv_may x1 x2 x3 x4))) : sw C sa (PX6_may (C + 1471) x1 x2 x3 x4) s Q := by
  unfold PX6_may
  refine sw_jnV (bv_may x1 x2 x3 x4) (fun K hK => ?_) ?_
  · unfold bv_may at hK
    refine sw_if (fun h => ?_) (fun h => ?_)
    · rw [if_pos h] at hK; exact hK
    rw [if_neg h] at hK
    refine sw_if (fun h => ?_) (fun h => ?_)
    · rw [if_pos h] at hK; exact hK
    rw [if_neg h] at hK
    refine sw_if (fun h => ?_) (fun h => ?_)
    · rw [if_pos h] at hK; exact hK
    rw [if_neg h] at hK
    refine sw_if (fun h => ?_) (fun h => ?_)
    · rw [if_pos h] at hK; exact hK
    rw [if_neg h] at hK
    exact hK
  · (repeat (first | refine sw_getI (by decide) rfl ?_ | refine sw_getN rfl (by decide) rfl ?_ | refine sw_letI ?_ | refine sw_letL ?_ | refine sw_is (by decide) rfl ?_ | refine sw_putI (by decide) rfl (by decide) ?_ | refine sw_nz (by decide) ?_ | refine sw_nnS ?_ | refine sw_getL (by decide) rfl ?_))
    rw [bv_iIe, bp_retZ_0, bp_retZ_1, bp_if_r]
    exact sw_ret k
end SW2
