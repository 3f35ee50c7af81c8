/-! Constants, kinds, arrays of objects -/
set_option maxRecDepth 100000
section SW3
variable {α β : Type} {C : Nat} {sa : Nat → Nat} {P P1 P2 : bp_M β} {s : bv_S} {Q : (bv_E ⊕ β) → bv_S → Prop}
theorem bv_V.cn {h : bp_H} (hV : bv_V C sa h s) : bv_Cn C sa h := hV.2.2.2.2.2.2.1
theorem sw_gets {i : Nat} {K : Nat → bp_M β} (hi : i < 9 ∨ (11 ≤ i ∧ i < 22)) (k : sw C sa (K (sa i)) s Q) : sw C sa (bp_gets i K) s Q := fun h hV => by
  unfold bp_gets bp_getsR
  rw [hV.cn.2.1 i hi]; exact k h hV
theorem sw_aldS {i j : Nat} {x : Int32} {K : Int32 → bp_M β} (h1 : 1 ≤ i) (h2 : i < 8) (hx : x = nI j) (hj : j < (bv_tb i).length) (hl : (bv_tb i).length < 2 ^ 31) (k : sw C sa (K ((bv_tb i).getD j 0)) s Q) : sw C sa (bp_aldI 20 (sa i) x K) s Q := fun h hV => by
  obtain ⟨a1, a2⟩ := hV.cn.2.2.2.1 i h1 h2
  subst hx
  unfold bp_aldI
  rw [if_pos (by rw [bp_in, a1]; exact ⟨rfl, bv_in hj hl⟩), nI_clamp (by omega), a2 j hj]; exact k h hV
theorem sw_alenS {i : Nat} {K : Int32 → bp_M β} (h1 : 1 ≤ i) (h2 : i < 8) (k : sw C sa (K (Int32.ofNat (bv_tb i).length)) s Q) : sw C sa (bp_alen 20 (sa i) K) s Q := fun h hV => by
  obtain ⟨a1, a2⟩ := hV.cn.2.2.2.1 i h1 h2
  unfold bp_alen
  rw [if_pos (by rw [a1]), a1]; exact k h hV
theorem sw_alenK {K : Int32 → bp_M β} (k : sw C sa (K (Int32.ofNat 10)) s Q) : sw C sa (bp_alen 26 (sa 0) K) s Q := fun h hV => by
  have a1 := hV.cn.2.2.2.2.1
  unfold bp_alen
  rw [if_pos (by rw [a1]), a1]; exact k h hV
theorem sw_aldK {x : Int32} {j : Nat} {K : Nat → bp_M β} (hx : x = nI j) (hj : j < 10) (k : sw C sa (K (sa (11 + j))) s Q) : sw C sa (bp_aldN 26 (sa 0) x K) s Q := fun h hV => by
  have a1 := hV.cn.2.2.2.2.1
  have a2 := hV.cn.2.2.2.2.2.1 j hj
  subst hx
  unfold bp_aldN bp_aldR
  rw [if_pos (by rw [bp_in, a1]; exact ⟨rfl, bv_in hj (by omega)⟩), nI_clamp (by omega), a2]; exact k h hV
theorem sw_getK0 {j : Nat} {K : Int32 → bp_M β} (hj : j < 10) (k : sw C sa (K (bv_code j)) s Q) : sw C sa (bp_getI 8 0 (sa (11 + j)) K) s Q := fun h hV => by
  obtain ⟨a1, a2, a3, a4⟩ := hV.cn.2.2.2.2.2.2.2.1 j hj
  unfold bp_getI
  rw [if_pos a1, a2]; exact k h hV
theorem sw_getK1 {j : Nat} {K : Int32 → bp_M β} (hj : j < 10) (k : sw C sa (K (bv_nums j)) s Q) : sw C sa (bp_getI 8 1 (sa (11 + j)) K) s Q := fun h hV => by
  obtain ⟨a1, a2, a3, a4⟩ := hV.cn.2.2.2.2.2.2.2.1 j hj
  unfold bp_getI
  rw [if_pos a1, a3]; exact k h hV
theorem sw_getK2 {j : Nat} {K : Int32 → bp_M β} (hj : j < 10) (k : sw C sa (K (Int32.ofNat j)) s Q) : sw C sa (bp_getI 8 2 (sa (11 + j)) K) s Q := fun h hV => by
  obtain ⟨a1, a2, a3, a4⟩ := hV.cn.2.2.2.2.2.2.2.1 j hj
  unfold bp_getI
  rw [if_pos a1, a4]; exact k h hV
theorem sw_isK {j : Nat} (hj : j < 10) (k : sw C sa P s Q) : sw C sa (bp_is 8 (sa (11 + j)) P) s Q := fun h hV => by
  unfold bp_is
  rw [if_pos (hV.cn.2.2.2.2.2.2.2.1 j hj).1]; exact k h hV
theorem sw_ifK {a b : Nat} [Decidable (some (sa (11 + a)) = some (sa (11 + b)))] (ha : a < 10) (hb : b < 10) (k1 : a = b → sw C sa P1 s Q) (k2 : a ≠ b → sw C sa P2 s Q) : sw C sa (bp_if (some (sa (11 + a)) = some (sa (11 + b))) P1 P2) s Q := fun h hV => by
  unfold bp_if
  by_cases e : a = b
  · rw [if_pos (by rw [e])]; exact k1 e h hV
  · rw [if_neg (fun z => e (hV.cn.2.2.2.2.2.2.2.2 a b ha hb (Option.some.inj z)))]; exact k2 e h hV
theorem sw_kind {g : Nat} (hg : g < 286) (k : bv_k s g < 10 → sw C sa P s Q) : sw C sa P s Q := fun h hV => k (hV.2.2.1 g hg).1 h hV
theorem sh_sg {g r : Nat} (hg : g < 286) (hr : r < 5) : bv_sh (bv_sg g + r) = bv_ss r := by
  unfold bv_sh bv_sg
  rw [if_neg (by omega), if_neg (by omega), if_pos (by omega), show (41 + 5 * g + r - 41) % 5 = r by omega]
theorem sh_hp {p r : Nat} (hp : p < 10) (hr : r < 3) : bv_sh (bv_hp p + r) = if r = 0 then (2, 0) else (20, 32) := by
  unfold bv_sh bv_hp
  rw [if_neg (by omega), if_pos (by omega), show (11 + 3 * p + r - 11) % 3 = r by omega]
theorem sh_sg0 {g : Nat} (hg : g < 286) : bv_sh (bv_sg g) = (3, 0) := sh_sg (r := 0) hg (by omega)
theorem sh_hp0 {p : Nat} (hp : p < 10) : bv_sh (bv_hp p) = (2, 0) := sh_hp (r := 0) hp (by omega)
theorem sg_lt {g r : Nat} (hg : g < 286) (hr : r < 5) : bv_sg g + r < 1471 := by unfold bv_sg; omega
theorem hp_lt {p r : Nat} (hp : p < 10) (hr : r < 3) : bv_hp p + r < 41 := by unfold bv_hp; omega
theorem ld_sg {g r k : Nat} (hr : r < 5) : ld (bv_sg g + r, k) = if r = 0 then (l3 k, g, 0) else (r + 25, g, k) := by
  unfold ld bv_sg
  simp only
  rw [if_neg (by omega), if_neg (by omega), if_neg (by omega), if_neg (by omega), if_neg (by omega), if_neg (by omega), if_neg (by omega), if_neg (by omega), if_neg (by omega), show (41 + 5 * g + r - 41) % 5 = r by omega, show (41 + 5 * g + r - 41) / 5 = g by omega]
theorem ld_hp {p r k : Nat} (hp : p < 10) (hr : r < 3) : ld (bv_hp p + r, k) = if r = 0 then (28 + k, p, 0) else (r + 34, p, k) := by
  unfold ld bv_hp
  simp only
  rw [if_neg (by omega), if_neg (by omega), if_neg (by omega), if_neg (by omega), if_neg (by omega), if_neg (by omega), if_neg (by omega), if_neg (by omega), if_pos (by omega), show (11 + 3 * p + r - 11) % 3 = r by omega, show (11 + 3 * p + r - 11) / 3 = p by omega]
theorem sw_getK {g : Nat} (hg : g < 286) {K : Nat → bp_M β} (k : bv_k s g < 10 → sw C sa (K (sa (11 + bv_k s g))) s Q) : sw C sa (bp_getN 3 0 (C + bv_sg g) K) s Q := fun h hV => by
  have a := hV.2.2.1 g hg
  exact sw_getNx (by have := sg_lt (r := 0) hg (by omega); omega) (by rw [sh_sg0 hg]) (fun h' hV' => (hV'.2.2.1 g hg).2) (k a.1) h hV
theorem bv_V.setK {h : bp_H} (hV : bv_V C sa h s) {g k : Nat} (hg : g < 286) (hk : k < 10) : bv_V C sa (bp_setR h (C + bv_sg g) 0 (some (sa (11 + k)))) (bv_K s g k) := by
  obtain ⟨v1, v2, v3, v4, v5, v6, v7, v8, v9, v10, v11, v12⟩ := hV
  have hs := sg_lt (r := 0) hg (by omega)
  have sgi : ∀ x, bv_sg x = bv_sg g → x = g := fun x hx => by unfold bv_sg at hx; omega
  have hR : ∀ a y, (a ≠ C + bv_sg g ∨ y ≠ 0) → bp_R (bp_setR h (C + bv_sg g) 0 (some (sa (11 + k)))) a y = bp_R h a y := fun a y hy => bp_u2_ne hy
  obtain ⟨r1, r2, r3, r4, r5, r6⟩ := v2
  have sge : ∀ x, bv_sg x = 41 + 5 * x := fun _ => rfl
  have hpe : ∀ x, bv_hp x = 11 + 3 * x := fun _ => rfl
  have li : ∀ o g0 mx, o < 41 → bv_Li C sa h s o g0 mx → bv_Li C sa (bp_setR h (C + bv_sg g) 0 (some (sa (11 + k)))) (bv_K s g k) o g0 mx := fun o g0 mx ho hL => by
    obtain ⟨e, n, l1, l2, l3, l4, l5, l6, l7, l8⟩ := hL
    refine ⟨e, n, by rw [hR _ _ (by rw [sge]; omega)]; exact l1, l2, l3, l4, l5, l6, l7, fun j hj => ?_⟩
    rw [hR]
    · exact l8 j hj
    · left
      rcases l3 with ⟨rfl, -⟩ | ⟨z, -, -⟩
      · have := v7.2.2.1 8 (by omega)
        have := v7.1
        rw [sge]; omega
      · omega
  refine ⟨v1, ⟨fun o f x hx => ?_, fun j hj => by rw [hR _ _ (by rw [sge]; omega)]; exact r2 j hj, fun j hj => by rw [hR _ _ (by rw [sge]; omega)]; exact r3 j hj, fun j hj => by rw [hR _ _ (by rw [sge]; omega)]; exact r4 j hj, fun p hp => by rw [hR _ _ (by rw [sge, hpe]; omega), hR _ _ (by omega)]; exact r5 p hp, fun x hx => by rw [hR _ _ (by omega), hR _ _ (by omega), hR _ _ (by omega), hR _ _ (by omega)]; exact r6 x hx⟩, fun x hx => ?_, li 1 _ _ (by omega) v4, li 8 _ _ (by omega) v5, fun e he hC => ?_, ?_, v8, v9, v10, v11, fun a o j hi => ?_⟩
  · rw [hR]
    · exact r1 o f x hx
    · unfold bv_rf at hx
      rw [sge]
      split at hx <;> first | omega | cases hx
  · show (if x = g then k else bv_k s x) < 10 ∧ bp_R (bp_setR h (C + bv_sg g) 0 (some (sa (11 + k)))) (C + bv_sg x) 0 = some (sa (11 + (if x = g then k else bv_k s x)))
    by_cases e : x = g
    · rw [if_pos e, e]
      exact ⟨hk, if_pos ⟨rfl, rfl⟩⟩
    · rw [if_neg e, hR _ _ (by rw [sge, sge]; omega)]
      exact v3 x hx
  · rw [hR _ _ (by rw [sge]; omega)] at he ⊢
    exact v6 e he hC
  · obtain ⟨c1, c2, c3, c4, c5, c6, c7, c8, c9⟩ := v7
    exact ⟨c1, c2, c3, c4, c5, fun q hq => by rw [hR]; exact c6 q hq; have := c3 0 (by omega); have c1' : bp_B h ≤ C := c1; omega, c7, c8, c9⟩
  · obtain ⟨i1, i2, i3, i4, i5, i6, i7⟩ := v12 a o j hi
    exact ⟨i1, i2, i3, i4, i5, by rw [hR _ _ (by omega)]; exact i6, i7⟩
theorem sw_putK {g k : Nat} (hg : g < 286) (hk : k < 10) (kk : sw C sa P (bv_K s g k) Q) : sw C sa (bp_putR 3 0 (C + bv_sg g) (some (sa (11 + k))) P) s Q := fun h hV => by
  have hs := sg_lt (r := 0) hg (by omega)
  unfold bp_putR
  rw [if_pos ⟨by rw [hV.sh (by omega), sh_sg0 hg], by have := hV.base; omega⟩]
  exact kk _ (hV.setK hg hk)
theorem sw_aldRx {o T x j : Nat} {i : Int32} {K : Nat → bp_M β} (ho : o < 1506) (ht : (bv_sh o).1 = T) (hi : i = nI j) (hj : j < (bv_sh o).2) (hb : (bv_sh o).2 < 2 ^ 31) (hr : ∀ h, bv_V C sa h s → bp_R h (C + o) j = some x) (k : sw C sa (K x) s Q) : sw C sa (bp_aldN T (C + o) i K) s Q := fun h hV => by
  subst hi
  unfold bp_aldN bp_aldR
  rw [if_pos (by rw [bp_in, hV.sh ho]; exact ⟨ht, bv_in hj hb⟩), nI_clamp (by omega), hr h hV]; exact k h hV
end SW3
