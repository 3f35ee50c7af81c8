/-! Iterators, faults, bytes copied, kinds -/
set_option maxRecDepth 100000
def bv_si (s : bv_S) (x : Option (Nat × Nat × Nat)) : bv_S := (s.1, s.2.1, s.2.2.1, s.2.2.2.1, s.2.2.2.2.1, x)
section IT
variable {α β : Type} {C : Nat} {sa : Nat → Nat} {P P1 P2 : bp_M β} {s : bv_S} {Q : (bv_E ⊕ β) → bv_S → Prop} {h h' : bp_H}
theorem bv_V.outI (hV : bv_V C sa h s) {a k : Nat} {v : Int32} (ha : C + 1506 ≤ a) : bv_V C sa (bp_setI h a k v) (bv_si s none) := by
  obtain ⟨v1, v2, v3, v4, v5, v6, v7, v8, v9, v10, v11, v12⟩ := hV
  obtain ⟨c1, c2, c3, c4, c5, c6, c7, c8, c9⟩ := v7
  have c1' : bp_B h ≤ C := c1
  have ne : ∀ i, (i < 9 ∨ (11 ≤ i ∧ i < 21)) → ∀ y, bp_I (bp_setI h a k v) (sa i) y = bp_I h (sa i) y := fun i hi y => bp_u2_ne (Or.inl (by have := c3 i hi; omega))
  refine ⟨fun x hx => ⟨(v1 x hx).1, fun y => (bp_u2_ne (Or.inl (by omega))).trans ((v1 x hx).2.1 y), (v1 x hx).2.2⟩, v2, v3, v4, v5, v6, ⟨c1, c2, c3, fun i i1 i2 => ⟨(c4 i i1 i2).1, fun j hj => by rw [ne i (by omega)]; exact (c4 i i1 i2).2 j hj⟩, c5, c6, c7, fun q hq => ?_, c9⟩, v8, v9, v10, v11, fun a o j hi => by cases hi⟩
  rw [ne (11 + q) (by omega), ne (11 + q) (by omega), ne (11 + q) (by omega)]
  exact c8 q hq
theorem bv_V.outR (hV : bv_V C sa h s) {a k : Nat} {v : Option Nat} (ha : C + 1506 ≤ a) (ht : (bp_S h a).1 ≠ 27) : bv_V C sa (bp_setR h a k v) (bv_si s none) := by
  obtain ⟨v1, v2, v3, v4, v5, v6, v7, v8, v9, v10, v11, v12⟩ := hV
  obtain ⟨c1, c2, c3, c4, c5, c6, c7, c8, c9⟩ := v7
  have c1' : bp_B h ≤ C := c1
  have hR : ∀ x y, x ≠ a → bp_R (bp_setR h a k v) x y = bp_R h x y := fun x y hx => bp_u2_ne (Or.inl hx)
  obtain ⟨r1, r2, r3, r4, r5, r6⟩ := v2
  have rfb : ∀ o k x, bv_rf o k = some x → o < 1506 := by
    intro o k x h
    unfold bv_rf at h
    split at h <;> first | omega | cases h
  have hp : ∀ p, p < 10 → bv_hp p < 1506 := fun p hp => by unfold bv_hp; omega
  have hg : ∀ g, g < 286 → bv_sg g < 1506 := fun p hp => by unfold bv_sg; omega
  have li : ∀ o g0 mx, o < 1506 → bv_Li C sa h s o g0 mx → bv_Li C sa (bp_setR h a k v) (bv_si s none) o g0 mx := fun o g0 mx ho hL => by
    obtain ⟨e, n, l1, l2, l3, l4, l5, l6, l7, l8⟩ := hL
    refine ⟨e, n, by rw [hR _ _ (by omega)]; exact l1, l2, l3, l4, l5, l6, l7, fun j hj => ?_⟩
    rw [hR]
    · exact l8 j hj
    · intro z
      rw [← z, l2] at ht
      exact ht rfl
  refine ⟨v1, ⟨fun o f x hx => by have := rfb o f x hx; rw [hR _ _ (by omega)]; exact r1 o f x hx, fun j hj => by rw [hR _ _ (by omega)]; exact r2 j hj, fun j hj => by rw [hR _ _ (by omega)]; exact r3 j hj, fun j hj => by rw [hR _ _ (by omega)]; exact r4 j hj, fun p hp' => by have := hp p hp'; rw [hR _ _ (by omega), hR _ _ (by omega)]; exact r5 p hp', fun g hg' => by have := hg g hg'; rw [hR _ _ (by omega), hR _ _ (by omega), hR _ _ (by omega), hR _ _ (by omega)]; exact r6 g hg'⟩,
    fun g hg' => by have := hg g hg'; rw [hR _ _ (by omega)]; exact v3 g hg', li 1 _ _ (by omega) v4, li 8 _ _ (by omega) v5, fun e he hC => ?_, ⟨c1, c2, c3, c4, c5, fun q hq => by have := c3 0 (by omega); rw [hR _ _ (by omega)]; exact c6 q hq, c7, c8, c9⟩, v8, v9, v10, v11, fun a o j hi => by cases hi⟩
  rw [hR _ _ (by omega)] at he ⊢
  exact v6 e he hC
theorem bv_V.drop (hV : bv_V C sa h s) : bv_V C sa h (bv_si s none) := ⟨hV.1, hV.2.1, hV.2.2.1, hV.2.2.2.1, hV.2.2.2.2.1, hV.2.2.2.2.2.1, hV.2.2.2.2.2.2.1, hV.2.2.2.2.2.2.2.1, hV.2.2.2.2.2.2.2.2.1, hV.2.2.2.2.2.2.2.2.2.1, hV.2.2.2.2.2.2.2.2.2.2.1, fun a o j hi => by cases hi⟩
theorem bv_V.give (hV : bv_V C sa h s) {a o j : Nat} (h1 : C + 1506 ≤ a) (h2 : a < bp_Z h) (h3 : bp_S h a = (7, 0)) (h4 : bp_I h a 0 = nI j) (h5 : bp_I h a 2 = bv_i s o 0) (h6 : bp_R h a 3 = some (C + o)) (h7 : o = 1 ∨ o = 8) : bv_V C sa h (bv_si s (some (a, o, j))) := ⟨hV.1, hV.2.1, hV.2.2.1, hV.2.2.2.1, hV.2.2.2.2.1, hV.2.2.2.2.2.1, hV.2.2.2.2.2.2.1, hV.2.2.2.2.2.2.2.1, hV.2.2.2.2.2.2.2.2.1, hV.2.2.2.2.2.2.2.2.2.1, hV.2.2.2.2.2.2.2.2.2.2.1, fun a o j hi => by
  cases hi
  exact ⟨h1, h2, h3, h4, h5, h6, h7⟩⟩
theorem bv_V.zz (hV : bv_V C sa h s) : C + 1506 ≤ bp_Z h := hV.2.2.2.2.2.2.2.2.2.1
theorem sw_iterator {Q : (bv_E ⊕ Nat) → bv_S → Prop} (k : ∀ a, Q (.inr a) (bv_si (bv_ZN s 1 4) (some (a, 1, 0)))) : sw C sa (PJ2_iterator (C + 1)) s Q := fun h hV => by
  have hz := hV.zz
  have hb := hV.base
  have t1 : (bp_S (bp_mk h (7, 0) 4) (bp_Z h)).1 = 7 := congrArg Prod.fst mk_S
  have t2 : (bp_S (bp_mk h (7, 0) 4) (C + 1)).1 = 6 := (congrArg Prod.fst (if_neg (by omega))).trans (hV.lt6 (Or.inl rfl))
  have hm : bp_I (bp_mk h (7, 0) 4) (C + 1) 0 = bp_I h (C + 1) 0 := if_neg (by omega)
  refine ⟨.inr (bp_Z h), bp_setI (bp_setI (bp_setR (bp_mk h (7, 0) 4) (bp_Z h) 3 (some (C + 1))) (bp_Z h) 1 (-1)) (bp_Z h) 2 (bp_I h (C + 1) 0), ?_, _, ?_, k (bp_Z h)⟩
  · unfold PJ2_iterator
    show bp_bind (PJ18_init (bp_Z h) (C + 1)) _ (bp_mk h (7, 0) 4) = _
    rw [e_bind (v := ()) (h1 := bp_setI (bp_setI (bp_setR (bp_mk h (7, 0) 4) (bp_Z h) 3 (some (C + 1))) (bp_Z h) 1 (-1)) (bp_Z h) 2 (bp_I h (C + 1) 0))]
    · rfl
    · unfold PJ18_init
      rw [e_putR t1 (by show bp_B h ≤ _; omega), e_putI (by exact t1) (by show bp_B h ≤ _; omega), e_getN (x := C + 1) (by exact t1) (by exact if_pos ⟨rfl, rfl⟩), e_getI (by exact t2), e_putI (by exact t1) (by show bp_B h ≤ _; omega)]
      rw [show bp_I (bp_setI (bp_setR (bp_mk h (7, 0) 4) (bp_Z h) 3 (some (C + 1))) (bp_Z h) 1 (-1)) (C + 1) 0 = bp_I h (C + 1) 0 from (bp_u2_ne (by omega)).trans hm]
      rfl
  · have V1 := hV.mk (7, 0) 4
    have V2 := V1.outR (a := bp_Z h) (k := 3) (v := some (C + 1)) (by omega) (by rw [t1]; omega)
    have V3 := V2.outI (a := bp_Z h) (k := 1) (v := -1) (by omega)
    have V4 := V3.outI (a := bp_Z h) (k := 2) (v := bp_I h (C + 1) 0) (by omega)
    exact V4.give (a := bp_Z h) (o := 1) (j := 0) (by omega) (by show bp_Z h < bp_Z h + 1; omega) mk_S ((bp_u2_ne (by omega)).trans ((bp_u2_ne (by omega)).trans (if_pos rfl))) ((if_pos ⟨rfl, rfl⟩).trans (hV.i (by omega) 0)) (if_pos ⟨rfl, rfl⟩) (Or.inl rfl)
theorem sw_isIt {a o j : Nat} (hi : bv_it s = some (a, o, j)) (k : sw C sa P s Q) : sw C sa (bp_is 7 a P) s Q := fun h hV => by
  obtain ⟨i1, i2, i3, -⟩ := hV.2.2.2.2.2.2.2.2.2.2.2 a o j hi
  rw [e_is (by rw [i3])]
  exact k h hV
theorem sw_hasNext {a j n : Nat} {Q : (bv_E ⊕ Int32) → bv_S → Prop} (hi : bv_it s = some (a, 1, j)) (hn : bv_i s 1 2 = nI n) (hj : j ≤ n) (hn2 : n < 2 ^ 31) (k : Q (.inr (bz (j < n))) s) : sw C sa (PJ18_hasNext a) s Q := fun h hV => by
  obtain ⟨i1, i2, i3, i4, i5, i6, i7⟩ := hV.2.2.2.2.2.2.2.2.2.2.2 a 1 j hi
  refine ⟨.inr (bz (j < n)), h, ?_, s, hV, k⟩
  unfold PJ18_hasNext
  rw [e_getI (by rw [i3]), e_getN (by rw [i3]) i6, e_getI (hV.lt6 (Or.inl rfl)), i4, hV.i (by omega), hn]
  by_cases hc : j = n
  · rw [e_ifT (by rw [hc]), bz_F (by omega)]; rfl
  · rw [e_ifF (fun z => hc ((nI_eq (by omega) hn2).mp z)), bz_T (by omega)]; rfl
theorem sw_next {a j n : Nat} {Q : (bv_E ⊕ Nat) → bv_S → Prop} (hi : bv_it s = some (a, 1, j)) (hn : bv_i s 1 2 = nI n) (hj : j < n) (hn2 : n < 2 ^ 31) (k : Q (.inr (C + bv_sg j)) (bv_si s (some (a, 1, j + 1)))) : sw C sa (PJ18_next a) s Q := fun h hV => by
  obtain ⟨i1, i2, i3, i4, i5, i6, i7⟩ := hV.2.2.2.2.2.2.2.2.2.2.2 a 1 j hi
  obtain ⟨e, n', l1, l2, l3, l4, l5, l6, l7, l8⟩ := hV.2.2.2.1
  have : n' = n := (nI_eq (by omega) hn2).mp (l4.symm.trans hn)
  subst this
  have t7 : (bp_S h a).1 = 7 := by rw [i3]
  have t6 := hV.lt6 (o := 1) (Or.inl rfl)
  have hb := hV.base
  refine ⟨.inr (C + bv_sg j), bp_setI (bp_setI h a 0 (nI j + 1)) a 1 (nI j), ?_, _, ?_, k⟩
  · unfold PJ18_next
    have hck : PJ18_checkForComodification a h = some (.inr (), h) := by
      unfold PJ18_checkForComodification
      rw [e_getN t7 i6, e_getI t6, e_getI t7, i5, hV.i (by omega), e_ifT rfl]; rfl
    rw [e_bind (v := ()) (h1 := h) (by rw [e_is t7]; exact hck), e_getI t7, i4, e_getN t7 i6, e_getI t6, hV.i (by omega), hn, e_ifT (nI_lt hj hn2), e_getN t7 i6, e_getN t6 l1, e_alen l2, e_ifT (nI_lt (by omega) (by omega)), e_putI t7 (by omega), e_putI (by exact t7) (by show bp_B h ≤ a; omega), e_aldN (h := bp_setI (bp_setI h a 0 (nI j + 1)) a 1 (nI j)) (n := bv_c s 1) l2 (by omega) (by omega) ((l8 j hj).trans (by rw [Nat.zero_add]))]
    rfl
  · have V2 := (hV.outI (a := a) (k := 0) (v := nI j + 1) (by omega)).outI (a := a) (k := 1) (v := nI j) (by omega)
    exact V2.give (a := a) (o := 1) (j := j + 1) (by omega) i2 i3 ((bp_u2_ne (by omega)).trans ((if_pos ⟨rfl, rfl⟩).trans (nI_1 j))) ((bp_u2_ne (by omega)).trans ((bp_u2_ne (by omega)).trans i5)) i6 (Or.inl rfl)
/-- a fault -/
theorem sw_need {c : Prop} [Decidable c] {f p : Int32} {Q : (bv_E ⊕ Unit) → bv_S → Prop} (k1 : c → Q (.inr ()) s) (k2 : ¬ c → ∀ a, Q (.inl (5, a, f, p)) (bv_si (bv_ZN s 1 8) none)) : sw C sa (PX1_need (bz c) f p) s Q := by
  unfold PX1_need
  by_cases hc : c
  · exact sw_ifF (by rw [bz_T hc]; decide) (sw_ret (k1 hc))
  refine sw_ifT (bz_F hc) fun h hV => ?_
  have hz := hV.zz
  have hb := hV.base
  have t1 : (bp_S (bp_mk h (5, 0) 8) (bp_Z h)).1 = 5 := congrArg Prod.fst mk_S
  have V1 := hV.mk (5, 0) 8
  have ini : ∃ h1, PX7_init (bp_Z h) f p (bp_mk h (5, 0) 8) = some (.inr (), h1) ∧ bv_V C sa h1 (bv_si (bv_ZN s 1 8) none) ∧ (bp_S h1 (bp_Z h)).1 = 5 ∧ bp_I h1 (bp_Z h) 6 = f ∧ bp_I h1 (bp_Z h) 7 = p := by
    have W : ∀ (g : bp_H) (y : Nat) (v : Option Nat), bv_V C sa g (bv_si (bv_ZN s 1 8) none) → (bp_S g (bp_Z h)).1 = 5 → bv_V C sa (bp_setR g (bp_Z h) y v) (bv_si (bv_ZN s 1 8) none) := fun g y v hg ht => hg.outR (by omega) (by rw [ht]; omega)
    have V0 := V1.drop
    have wb : ∀ g, bv_V C sa g (bv_si (bv_ZN s 1 8) none) → bp_B g ≤ bp_Z h := fun g hg => by have := hg.base; omega
    let g1 := bp_setR (bp_mk h (5, 0) 8) (bp_Z h) 0 (some (bp_Z h))
    let g2 := bp_setR g1 (bp_Z h) 1 (bp_s h 9)
    let g3 := bp_setR g2 (bp_Z h) 2 (bp_s h 10)
    let g4 := bp_setR g3 (bp_Z h) 1 none
    let g5 := bp_setR g4 (bp_Z h) 3 none
    let g6 := bp_setR g5 (bp_Z h) 0 none
    let g7 := bp_setR g6 (bp_Z h) 2 none
    have v1 : bv_V C sa g1 _ := W _ _ _ V0 t1
    have v2 : bv_V C sa g2 _ := W _ _ _ v1 t1
    have v3 : bv_V C sa g3 _ := W _ _ _ v2 t1
    have v4 : bv_V C sa g4 _ := W _ _ _ v3 t1
    have v5 : bv_V C sa g5 _ := W _ _ _ v4 t1
    have v6 : bv_V C sa g6 _ := W _ _ _ v5 t1
    have v7 : bv_V C sa g7 _ := W _ _ _ v6 t1
    have i5 : PJ5_init_2 (bp_Z h) none none 0 0 (bp_mk h (5, 0) 8) = some (.inr (), g7) := by
      unfold PJ5_init_2
      rw [e_putR t1 (wb _ V0)]
      show bp_putR 5 1 (bp_Z h) (bp_s h 9) _ g1 = _
      rw [e_putR (by exact t1) (wb _ v1)]
      show bp_putR 5 2 (bp_Z h) (bp_s h 10) _ g2 = _
      rw [e_putR (by exact t1) (wb _ v2), e_jn, e_ifT rfl]
      show bp_putR 5 1 (bp_Z h) none _ g3 = _
      rw [e_putR (by exact t1) (wb _ v3)]
      show bp_putR 5 3 (bp_Z h) none _ g4 = _
      rw [e_putR (by exact t1) (wb _ v4)]
      show bp_putR 5 0 (bp_Z h) none _ g5 = _
      rw [e_putR (by exact t1) (wb _ v5), e_ifT rfl]
      show bp_putR 5 2 (bp_Z h) none _ g6 = _
      rw [e_putR (by exact t1) (wb _ v6)]
      rfl
    have v8 : bv_V C sa (bp_setI g7 (bp_Z h) 6 f) (bv_si (bv_ZN s 1 8) none) := v7.outI (by omega)
    refine ⟨bp_setI (bp_setI g7 (bp_Z h) 6 f) (bp_Z h) 7 p, ?_, v8.outI (by omega), t1, (bp_u2_ne (by omega)).trans (if_pos ⟨rfl, rfl⟩), if_pos ⟨rfl, rfl⟩⟩
    unfold PX7_init PJ6_init
    rw [e_bind (v := ()) (h1 := g7) (by rw [e_bind i5]; rfl), e_putI (by exact t1) (wb _ v7), e_putI (by exact t1) (wb _ v8)]
    rfl
  obtain ⟨h1, q1, q2, q3, q4, q5⟩ := ini
  refine ⟨.inl (5, bp_Z h), h1, ?_, _, q2, ?_⟩
  · show bp_bind (PX7_init (bp_Z h) f p) _ (bp_mk h (5, 0) 8) = _
    rw [e_bind q1]
    unfold bp_thrW
    rw [e_is q3]; rfl
  · show Q (.inl (bv_kd h1 (5, bp_Z h), bp_Z h, bp_I h1 (bp_Z h) 6, bp_I h1 (bp_Z h) 7)) _
    rw [q4, q5, bv_k5 q3]
    exact k2 hc _
end IT
