/-! The lists -/
set_option maxRecDepth 100000
section EQ
variable {α β : Type} {h h1 : bp_H}
theorem e_getI {t k a : Nat} {K : Int32 → bp_M β} (ht : (bp_S h a).1 = t) : bp_getI t k a K h = K (bp_I h a k) h := if_pos ht
theorem e_getN {t k a x : Nat} {K : Nat → bp_M β} (ht : (bp_S h a).1 = t) (hr : bp_R h a k = some x) : bp_getN t k a K h = K x h := by
  unfold bp_getN bp_getR
  rw [if_pos ht, hr]; rfl
theorem e_putI {t k a : Nat} {v : Int32} {P : bp_M β} (ht : (bp_S h a).1 = t) (hb : bp_B h ≤ a) : bp_putI t k a v P h = P (bp_setI h a k v) := if_pos ⟨ht, hb⟩
theorem e_putR {t k a : Nat} {v : Option Nat} {P : bp_M β} (ht : (bp_S h a).1 = t) (hb : bp_B h ≤ a) : bp_putR t k a v P h = P (bp_setR h a k v) := if_pos ⟨ht, hb⟩
theorem e_is {t a : Nat} {P : bp_M β} (ht : (bp_S h a).1 = t) : bp_is t a P h = P h := if_pos ht
theorem e_alen {t a n : Nat} {K : Int32 → bp_M β} (ht : bp_S h a = (t, n)) : bp_alen t a K h = K (nI n) h := by
  unfold bp_alen
  rw [if_pos (by rw [ht]), ht]; rfl
theorem e_ifT {c : Prop} [Decidable c] {P1 P2 : bp_M β} (hc : c) : bp_if c P1 P2 h = P1 h := if_pos hc
theorem e_ifF {c : Prop} [Decidable c] {P1 P2 : bp_M β} (hc : ¬ c) : bp_if c P1 P2 h = P2 h := if_neg hc
theorem e_bind {f : bp_M α} {K : α → bp_M β} {v : α} (e : f h = some (.inr v, h1)) : bp_bind f K h = K v h1 := by
  unfold bp_bind
  rw [e]
theorem mk_S {q : Nat × Nat} {n : Nat} : bp_S (bp_mk h q n) (bp_Z h) = q := if_pos rfl
theorem e_letI {v : Int32} {K : Int32 → bp_M β} : bp_letI v K h = K v h := rfl
theorem e_jn {κ : Sort _} {b : κ → bp_M β} {K : κ} : bp_jn b K h = b K h := rfl
theorem e_gets {i x : Nat} {K : Nat → bp_M β} (e : bp_s h i = some x) : bp_gets i K h = K x h := by
  unfold bp_gets bp_getsR
  rw [e]; rfl
theorem e_newa {t n : Nat} {K : Nat → bp_M β} (hn : n ≤ 65536) : bp_newa t (nI n) K h = K (bp_Z h) (bp_mk h (t, n) n) := by
  unfold bp_newa
  rw [nI_clamp (by omega), if_pos ⟨nI_pos (by omega), hn⟩]
theorem e_aldN {t a n j x : Nat} {K : Nat → bp_M β} (hs : bp_S h a = (t, n)) (hn : n < 2 ^ 31) (hj : j < n) (hr : bp_R h a j = some x) : bp_aldN t a (nI j) K h = K x h := by
  unfold bp_aldN bp_aldR
  rw [if_pos (by rw [bp_in, hs]; exact ⟨rfl, bv_in hj hn⟩), nI_clamp (by omega), hr]; rfl
theorem e_astO {tv a n j v : Nat} {P : bp_M β} (hs : bp_S h a = (27, n)) (hn : n < 2 ^ 31) (hj : j < n) (hb : bp_B h ≤ a) (hv : (bp_S h v).1 = tv) : bp_astO tv a (nI j) v P h = P (bp_setR h a j (some v)) := by
  unfold bp_astO
  rw [if_pos ⟨by rw [bp_in, hs]; exact ⟨rfl, bv_in hj hn⟩, hb, hv⟩, nI_clamp (by omega)]
theorem e_ast0 {a n j : Nat} {P : bp_M β} (hs : bp_S h a = (27, n)) (hn : n < 2 ^ 31) (hj : j < n) (hb : bp_B h ≤ a) : bp_ast0 27 a (nI j) P h = P (bp_setR h a j none) := by
  unfold bp_ast0
  rw [if_pos ⟨by rw [bp_in, hs]; exact ⟨rfl, bv_in hj hn⟩, hb⟩, nI_clamp (by omega)]
end EQ
def bv_Ls (s : bv_S) (o : Nat) (m : Int32) (n c z k : Nat) : bv_S := (bp_u2 (bp_u2 s.1 o 0 m) o 2 (nI n), s.2.1, s.2.2.1, (z, k), bv_u1 (bv_c s) o c, none)
def bv_l2 (o g0 mx o2 g2 mx2 : Nat) : Prop := (o = 1 ∧ g0 = 0 ∧ mx = 30 ∧ o2 = 8 ∧ g2 = 30 ∧ mx2 = 256) ∨ (o = 8 ∧ g0 = 30 ∧ mx = 256 ∧ o2 = 1 ∧ g2 = 0 ∧ mx2 = 30)
section LS
variable {α β : Type} {C : Nat} {sa : Nat → Nat} {P P1 P2 : bp_M β} {s : bv_S} {Q : (bv_E ⊕ β) → bv_S → Prop} {h h' : bp_H} {o g0 mx o2 g2 mx2 : Nat}
theorem bv_V.li (hV : bv_V C sa h s) (ho : bv_l2 o g0 mx o2 g2 mx2) : bv_Li C sa h s o g0 mx := by
  rcases ho with ⟨rfl, rfl, rfl, -⟩ | ⟨rfl, rfl, rfl, -⟩
  · exact hV.2.2.2.1
  · exact hV.2.2.2.2.1
theorem bv_l2.sy (ho : bv_l2 o g0 mx o2 g2 mx2) : bv_l2 o2 g2 mx2 o g0 mx := by
  rcases ho with ⟨rfl, rfl, rfl, rfl, rfl, rfl⟩ | ⟨rfl, rfl, rfl, rfl, rfl, rfl⟩
  · exact Or.inr ⟨rfl, rfl, rfl, rfl, rfl, rfl⟩
  · exact Or.inl ⟨rfl, rfl, rfl, rfl, rfl, rfl⟩
theorem bv_V.ne (hV : bv_V C sa h s) (ho : bv_l2 o g0 mx o2 g2 mx2) {e : Nat} (he : bp_R h (C + o) 1 = some e) (hC : C ≤ e) : bp_R h (C + o2) 1 ≠ some e := by
  rcases ho with ⟨rfl, rfl, rfl, rfl, rfl, rfl⟩ | ⟨rfl, rfl, rfl, rfl, rfl, rfl⟩
  · exact hV.2.2.2.2.2.1 e he hC
  · exact fun z => hV.2.2.2.2.2.1 e z hC he
theorem bv_V.lst (hV : bv_V C sa h s) (ho : bv_l2 o g0 mx o2 g2 mx2) {e e' n c : Nat} {m : Int32} (he : bp_R h (C + o) 1 = some e) (hS : ∀ x, x < bp_Z h → bp_S h' x = bp_S h x) (hL : ∀ x, x < bp_Z h → ∀ k, bp_L h' x k = bp_L h x k)
    (hI : ∀ x, x < bp_Z h → ∀ k, x ≠ C + o ∨ (k ≠ 0 ∧ k ≠ 2) → bp_I h' x k = bp_I h x k) (hm : bp_I h' (C + o) 0 = m) (hn : bp_I h' (C + o) 2 = nI n)
    (hR : ∀ x, x < bp_Z h → ∀ k, (x ≠ C + o ∨ k ≠ 1) → (x ≠ e ∨ x < C) → bp_R h' x k = bp_R h x k) (he' : bp_R h' (C + o) 1 = some e') (hSe : bp_S h' e' = (27, c)) (hc : e' = sa 8 ∧ c = 0 ∨ C + 1506 ≤ e' ∧ e' < bp_Z h' ∧ 0 < c)
    (h1 : n ≤ c) (h2 : n ≤ mx) (h3 : c ≤ 4096) (hel : ∀ j, j < n → bp_R h' e' j = some (C + bv_sg (g0 + j))) (hne : e' = e ∨ bp_Z h ≤ e') (hZ : bp_Z h ≤ bp_Z h') (hB : bp_B h' = bp_B h) (hs : bp_s h' = bp_s h) (hF : bp_F h' = bp_F h) :
    bv_V C sa h' (bv_Ls s o m n c (bp_Z h') (bp_N h')) := by
  have hli := hV.li ho
  have hli2 := hV.li ho.sy
  have hne2 : ∀ {e : Nat}, bp_R h (C + o) 1 = some e → C ≤ e → bp_R h (C + o2) 1 ≠ some e := fun he hC => hV.ne ho he hC
  obtain ⟨v1, v2, v3, v4, v5, v6, v7, v8, v9, v10, v11, v12⟩ := hV
  obtain ⟨r1, r2, r3, r4, r5, r6⟩ := v2
  obtain ⟨c1, c2, c3, c4, c5, c6, c7, c8, c9⟩ := v7
  have hob : (o = 1 ∨ o = 8) ∧ (o2 = 1 ∨ o2 = 8) ∧ o ≠ o2 := by rcases ho with z | z <;> omega
  have heb : e < C ∨ C + 1506 ≤ e := by
    obtain ⟨e0, n0, l1, l2, l3, -⟩ := hli
    have : e0 = e := Option.some.inj (l1.symm.trans he)
    subst this
    rcases l3 with ⟨rfl, -⟩ | ⟨z, -, -⟩
    · left
      have := c3 8 (by omega)
      omega
    · exact Or.inr z
  have hRg : ∀ x k, x < 1506 → (x ≠ o ∨ k ≠ 1) → bp_R h' (C + x) k = bp_R h (C + x) k := fun x k hx hk => hR _ (by omega) k (by omega) (by omega)
  have hsa : ∀ i, (i < 9 ∨ (11 ≤ i ∧ i < 21)) → sa i < C := fun i hi => by have := c3 i hi; omega
  have rfb : ∀ o' k x, bv_rf o' k = some x → o' < 1506 ∧ (o' ≠ o ∨ k ≠ 1) := by
    intro o' k x hx
    unfold bv_rf at hx
    split at hx <;> first | omega | cases hx
  have hg : ∀ g, g < 286 → bv_sg g + 4 < 1506 ∧ 41 ≤ bv_sg g := fun p hp => by unfold bv_sg; omega
  have hp : ∀ p, p < 10 → bv_hp p + 2 < 41 ∧ 11 ≤ bv_hp p := fun p hp => by unfold bv_hp; omega
  have L2 : bv_Li C sa h' (bv_Ls s o m n c (bp_Z h') (bp_N h')) o2 g2 mx2 := by
    obtain ⟨e2, n2, l1, l2, l3, l4, l5, l6, l7, l8⟩ := hli2
    have e2b : e2 < bp_Z h := by
      rcases l3 with ⟨rfl, -⟩ | ⟨-, z, -⟩
      · have := hsa 8 (by omega); omega
      · exact z
    refine ⟨e2, n2, by rw [hRg o2 1 (by omega) (by omega)]; exact l1, ?_, ?_, ?_, ?_, l6, ?_, fun j hj => ?_⟩
    · rw [hS _ e2b, l2]
      show _ = (27, bv_u1 (bv_c s) o c o2)
      unfold bv_u1; rw [if_neg (by omega)]
    · show e2 = sa 8 ∧ bv_u1 (bv_c s) o c o2 = 0 ∨ _ ∧ _ ∧ 0 < bv_u1 (bv_c s) o c o2
      unfold bv_u1; rw [if_neg (by omega)]
      rcases l3 with z | ⟨z1, z2, z3⟩
      · exact Or.inl z
      · exact Or.inr ⟨z1, by omega, z3⟩
    · show bp_u2 (bp_u2 s.1 o 0 m) o 2 (nI n) o2 2 = nI n2
      rw [bp_u2_ne (by omega), bp_u2_ne (by omega)]; exact l4
    · show n2 ≤ bv_u1 (bv_c s) o c o2
      unfold bv_u1; rw [if_neg (by omega)]; exact l5
    · show bv_u1 (bv_c s) o c o2 ≤ 4096
      unfold bv_u1; rw [if_neg (by omega)]; exact l7
    · rw [hR _ e2b j (by
        rcases l3 with ⟨rfl, -⟩ | ⟨z, -, -⟩
        · have := hsa 8 (by omega); omega
        · omega) ?_]
      · exact l8 j hj
      · by_cases hCe : C ≤ e
        · left
          intro z
          exact hne2 he hCe (by rw [← z]; exact l1)
        · rcases l3 with ⟨rfl, -⟩ | ⟨z, -, -⟩
          · exact Or.inr (hsa 8 (by omega))
          · left; omega
  have L1 : bv_Li C sa h' (bv_Ls s o m n c (bp_Z h') (bp_N h')) o g0 mx := by
    refine ⟨e', n, he', ?_, ?_, ?_, ?_, h2, ?_, hel⟩
    · show _ = (27, bv_u1 (bv_c s) o c o)
      unfold bv_u1; rw [if_pos rfl]; exact hSe
    · show e' = sa 8 ∧ bv_u1 (bv_c s) o c o = 0 ∨ _ ∧ _ ∧ 0 < bv_u1 (bv_c s) o c o
      unfold bv_u1; rw [if_pos rfl]; exact hc
    · exact if_pos ⟨rfl, rfl⟩
    · show n ≤ bv_u1 (bv_c s) o c o
      unfold bv_u1; rw [if_pos rfl]; exact h1
    · show bv_u1 (bv_c s) o c o ≤ 4096
      unfold bv_u1; rw [if_pos rfl]; exact h3
  have NE : ∀ e3, bp_R h' (C + o) 1 = some e3 → C ≤ e3 → bp_R h' (C + o2) 1 ≠ some e3 := fun e3 h3 hC z => by
    rw [hRg o2 1 (by omega) (by omega)] at z
    have : e' = e3 := Option.some.inj (he'.symm.trans h3)
    subst this
    rcases hne with y | y
    · subst y
      exact hne2 he hC z
    · obtain ⟨e2, n2, l1, l2, l3, -⟩ := hli2
      have : e2 = e' := Option.some.inj (l1.symm.trans z)
      subst this
      rcases l3 with ⟨rfl, -⟩ | ⟨-, w, -⟩
      · have := hsa 8 (by omega); omega
      · omega
  refine ⟨fun x hx => ⟨by rw [hS _ (by omega)]; exact (v1 x hx).1, fun k => ?_, fun k => by rw [hL _ (by omega)]; exact (v1 x hx).2.2 k⟩,
    ⟨fun o' k x hx => by have := rfb o' k x hx; rw [hRg _ _ this.1 this.2]; exact r1 o' k x hx, fun j hj => by rw [hRg _ _ (by omega) (by omega)]; exact r2 j hj, fun j hj => by rw [hRg _ _ (by omega) (by omega)]; exact r3 j hj, fun j hj => by rw [hRg _ _ (by omega) (by omega)]; exact r4 j hj, fun p hp' => by have := hp p hp'; rw [hRg _ _ (by omega) (by omega), hRg _ _ (by omega) (by omega)]; exact r5 p hp', fun g hg' => by have := hg g hg'; rw [hRg _ _ (by omega) (by omega), hRg _ _ (by omega) (by omega), hRg _ _ (by omega) (by omega), hRg _ _ (by omega) (by omega)]; exact r6 g hg'⟩,
    fun g hg' => by have := hg g hg'; rw [hRg _ _ (by omega) (by omega)]; exact v3 g hg', ?_, ?_, ?_, ⟨by rw [hB]; exact c1, by rw [hs]; exact c2, by rw [hB]; exact c3, fun i i1 i2 => ?_, ?_, fun k hk => ?_, ?_, fun k hk => ?_, c9⟩, rfl, rfl, by omega, by rw [hF]; exact v11, fun a o' j hi => by cases hi⟩
  · show bp_I h' (C + x) k = bp_u2 (bp_u2 s.1 o 0 m) o 2 (nI n) x k
    by_cases hc1 : x = o ∧ k = 2
    · rw [hc1.1, hc1.2, hn]; exact (if_pos ⟨rfl, rfl⟩).symm
    · rw [bp_u2_ne (by omega)]
      by_cases hc2 : x = o ∧ k = 0
      · rw [hc2.1, hc2.2, hm]; exact (if_pos ⟨rfl, rfl⟩).symm
      · rw [bp_u2_ne (by omega), hI _ (by omega) k (by omega)]; exact (v1 x hx).2.1 k
  · rcases ho with ⟨rfl, rfl, rfl, rfl, rfl, rfl⟩ | ⟨rfl, rfl, rfl, rfl, rfl, rfl⟩
    · exact L1
    · exact L2
  · rcases ho with ⟨rfl, rfl, rfl, rfl, rfl, rfl⟩ | ⟨rfl, rfl, rfl, rfl, rfl, rfl⟩
    · exact L2
    · exact L1
  · rcases ho with ⟨rfl, rfl, rfl, rfl, rfl, rfl⟩ | ⟨rfl, rfl, rfl, rfl, rfl, rfl⟩
    · exact NE
    · exact fun e3 z1 z2 z3 => NE e3 z3 z2 z1
  · have := hsa i (by omega)
    rw [hS _ (by omega)]
    exact ⟨(c4 i i1 i2).1, fun j hj => by rw [hI _ (by omega) _ (by omega)]; exact (c4 i i1 i2).2 j hj⟩
  · have := hsa 0 (by omega)
    rw [hS _ (by omega)]; exact c5
  · have := hsa 0 (by omega)
    rw [hR _ (by omega) _ (by omega) (by omega)]; exact c6 k hk
  · have := hsa 8 (by omega)
    rw [hS _ (by omega)]; exact c7
  · have := hsa (11 + k) (by omega)
    rw [hS _ (by omega), hI _ (by omega) _ (by omega), hI _ (by omega) _ (by omega), hI _ (by omega) _ (by omega)]
    exact c8 k hk
theorem sw_lget (ho : bv_l2 o g0 mx o2 g2 mx2) {n j : Nat} {x : Int32} {Q : (bv_E ⊕ Nat) → bv_S → Prop} (hn : bv_i s o 2 = nI n) (hn2 : n < 2 ^ 31) (hx : x = nI j) (hj : j < n) (k : Q (.inr (C + bv_sg (g0 + j))) s) : sw C sa (PJ2_get (C + o) x) s Q := fun h hV => by
  subst hx
  have hob : (o = 1 ∨ o = 8) ∧ mx ≤ 256 := by rcases ho with z | z <;> omega
  obtain ⟨e, n', l1, l2, l3, l4, l5, l6, l7, l8⟩ := hV.li ho
  have : n' = n := (nI_eq (by omega) hn2).mp (l4.symm.trans hn)
  subst this
  have ht : (bp_S h (C + o)).1 = 6 := by
    rw [hV.sh (by omega)]
    rcases hob.1 with rfl | rfl <;> rfl
  refine ⟨.inr (C + bv_sg (g0 + j)), h, ?_, s, hV, k⟩
  unfold PJ2_get PJ2_elementData
  rw [e_getI ht, hV.i (by omega), hn]
  have hc : PJ15_checkIndex (nI j) (nI n') h = some (.inr (nI j), h) := by
    unfold PJ15_checkIndex PJ16_checkIndex bp_jn
    rw [e_bind (v := nI j) (h1 := h) (by show bp_if (nI j < 0) bp_no (bp_if (nI j < nI n') (bp_ret (nI j)) bp_no) h = _; rw [e_ifF (nI_pos (by omega)), e_ifT (nI_lt hj (by omega))]; rfl)]
    rfl
  rw [e_bind hc, e_bind (v := C + bv_sg (g0 + j)) (h1 := h) (by rw [e_is ht, e_getN ht l1, e_aldN l2 (by omega) (by omega) (l8 j hj)]; rfl)]
  rfl
theorem bv_V.lt6 (hV : bv_V C sa h s) (ho : o = 1 ∨ o = 8) : (bp_S h (C + o)).1 = 6 := by
  rw [hV.sh (by omega)]
  rcases ho with rfl | rfl <;> rfl
theorem nI_sub {a b : Nat} (h : b ≤ a) : nI a - nI b = nI (a - b) := by
  have : nI a = nI (a - b) + nI b := by rw [nI_add, Nat.sub_add_cancel h]
  rw [this, Int32.add_sub_cancel]
theorem nI_shr1 {a : Nat} (h : a < 2 ^ 31) : nI a >>> ((1 : Int32) &&& 31) = nI (a / 2) := pk_shrN h _ 1 (by decide)
/-- what an addition needs of the room, and gives -/
def ls_c (n c : Nat) : Nat := if n < c then c else if c = 0 then 10 else c + (if 1 < c / 2 then c / 2 else 1)
theorem ls_newLength {n c : Nat} (hn : n = c) (hc : 0 < c) (hc2 : c ≤ 2000) : PJ10_newLength (nI c) (nI (n + 1) - nI c) (nI c >>> ((1 : Int32) &&& 31)) h = some (.inr (nI (ls_c n c)), h) := by
  subst hn
  have e2 : ls_c n n = n + (if 1 < n / 2 then n / 2 else 1) := by unfold ls_c; rw [if_neg (by omega), if_neg (by omega)]
  have e1 : (if nI 1 < nI (n / 2) then nI (n / 2) else nI 1) = nI (if 1 < n / 2 then n / 2 else 1) := by
    by_cases hh : 1 < n / 2
    · rw [if_pos (nI_lt hh (by omega)), if_pos hh]
    · rw [if_neg (nI_nlt (by omega) (by omega)), if_neg hh]
  have hl : (if 1 < n / 2 then n / 2 else 1) ≤ 1000 ∧ 1 ≤ (if 1 < n / 2 then n / 2 else 1) := by split <;> omega
  rw [nI_sub (by omega), nI_shr1 (by omega), show n + 1 - n = 1 by omega]
  unfold PJ10_newLength
  rw [e1, e_letI, e_letI, e_jn, nI_add]
  show bp_if (nI (n + (if 1 < n / 2 then n / 2 else 1)) ≤ nI 0) _ (bp_if (nI 2147483639 < _) _ (bp_ret _)) h = _
  rw [e_ifF (nI_ge (by omega) (by omega)), e_ifF (nI_nlt (by omega) (by omega)), e2]; rfl
/-- the list's array after room was made for one more -/
theorem ls_grow (hV : bv_V C sa h s) (ho : bv_l2 o g0 mx o2 g2 mx2) {n : Nat} (hn : bv_i s o 2 = nI n) (hn2 : n < mx) (hnc : n = bv_c s o) (hc : bv_c s o ≤ 2000) {m : Int32} :
    ∃ h', PJ2_grow (C + o) (bp_setI h (C + o) 0 m) = some (.inr (bp_Z h), h') ∧ bp_S h' (bp_Z h) = (27, ls_c n (bv_c s o)) ∧ bp_Z h' = bp_Z h + 1 ∧ bp_N h' = bp_N h + ls_c n (bv_c s o) ∧ (∀ j, j < n → bp_R h' (bp_Z h) j = some (C + bv_sg (g0 + j))) ∧
      bp_R h' (C + o) 1 = some (bp_Z h) ∧ (∀ x, x < bp_Z h → bp_S h' x = bp_S h x) ∧ (∀ x, x < bp_Z h → ∀ k, bp_L h' x k = bp_L h x k) ∧ (∀ x, x < bp_Z h → ∀ k, x ≠ C + o ∨ k ≠ 0 → bp_I h' x k = bp_I h x k) ∧ bp_I h' (C + o) 0 = m ∧
      (∀ x, x < bp_Z h → ∀ k, (x ≠ C + o ∨ k ≠ 1) → bp_R h' x k = bp_R h x k) ∧ bp_B h' = bp_B h ∧ bp_s h' = bp_s h ∧ bp_F h' = bp_F h := by
  have hob : (o = 1 ∨ o = 8) ∧ mx ≤ 256 := by rcases ho with z | z <;> omega
  obtain ⟨e, n', l1, l2, l3, l4, l5, l6, l7, l8⟩ := hV.li ho
  have : n' = n := (nI_eq (by omega) (by omega)).mp (l4.symm.trans hn)
  subst this
  have ht := hV.lt6 hob.1
  have hz : C + 1506 ≤ bp_Z h := hV.2.2.2.2.2.2.2.2.2.1
  have hb : bp_B h ≤ C := hV.base
  have cn := hV.cn
  have hsa8 : sa 8 < bp_B h := cn.2.2.1 8 (by omega)
  have heZ : e < bp_Z h := by rcases l3 with ⟨rfl, -⟩ | ⟨-, z, -⟩ <;> omega
  have o1506 : o < 1506 := by omega
  -- the heap with the count raised
  have k1 : (bp_S (bp_setI h (C + o) 0 m) (C + o)).1 = 6 := ht
  have k2 : bp_I (bp_setI h (C + o) 0 m) (C + o) 2 = nI n' := (bp_u2_ne (by omega)).trans ((hV.i o1506 2).trans hn)
  have k3 : bp_R (bp_setI h (C + o) 0 m) (C + o) 1 = some e := l1
  have k4 : bp_S (bp_setI h (C + o) 0 m) e = (27, bv_c s o) := l2
  by_cases hc0 : bv_c s o = 0
  · have e8 : e = sa 8 := by rcases l3 with z | z; exact z.1; omega
    have n0 : n' = 0 := by omega
    have ec : ls_c n' (bv_c s o) = 10 := by unfold ls_c; rw [if_neg (by omega), if_pos hc0]
    refine ⟨bp_setR (bp_mk (bp_setI h (C + o) 0 m) (27, 10) 10) (C + o) 1 (some (bp_Z h)), ?_, ?_, rfl, by rw [ec]; rfl, fun j hj => by omega, if_pos ⟨rfl, rfl⟩, fun x hx => if_neg (by show x ≠ bp_Z h; omega), fun x hx k => if_neg (by show x ≠ bp_Z h; omega), fun x hx k hk => (if_neg (by show x ≠ bp_Z h; omega)).trans (bp_u2_ne (by omega)), (if_neg (by show C + o ≠ bp_Z h; omega)).trans (if_pos ⟨rfl, rfl⟩), fun x hx k hk => (bp_u2_ne (by omega)).trans (if_neg (by show x ≠ bp_Z h; omega)), rfl, rfl, rfl⟩
    · unfold PJ2_grow
      rw [e_getI k1, k2]
      have hg : PJ2_grow_2 (C + o) (nI n' + 1) (bp_setI h (C + o) 0 m) = some (.inr (bp_Z h), bp_setR (bp_mk (bp_setI h (C + o) 0 m) (27, 10) 10) (C + o) 1 (some (bp_Z h))) := by
        unfold PJ2_grow_2
        rw [e_getN k1 k3, e_alen k4, hc0, e_jn]
        show bp_if (nI 0 < nI 0) _ _ _ = _
        rw [e_ifF (nI_nlt (by omega) (by omega)), e_getN k1 k3, e_gets (h := bp_setI h (C + o) 0 m) (x := sa 8) (cn.2.1 8 (by omega)), e_ifT (by rw [e8])]
        rw [e_letI, n0, show (if (10 : Int32) < nI 0 + 1 then nI 0 + 1 else 10) = nI 10 from rfl, e_newa (by omega), e_putR (by show (if C + o = bp_Z h then (27, 10) else bp_S h (C + o)).1 = 6; rw [if_neg (by omega)]; exact ht) (by show bp_B h ≤ C + o; omega)]
        rfl
      rw [e_bind (v := bp_Z h) (h1 := _) (by rw [e_is k1]; exact hg)]
      rfl
    · rw [ec]; exact if_pos rfl
  · have hC : C + 1506 ≤ e := by rcases l3 with z | z <;> omega
    have hlen : ls_c n' (bv_c s o) ≤ 65536 ∧ n' < ls_c n' (bv_c s o) := by unfold ls_c; rw [if_neg (by omega), if_neg hc0]; split <;> omega
    refine ⟨bp_setR (bp_setQ (bp_mk (bp_setI h (C + o) 0 m) (27, ls_c n' (bv_c s o)) (ls_c n' (bv_c s o))) (bp_Z h) (va_cpy (bp_R h e) (fun _ => none) 0 0 n')) (C + o) 1 (some (bp_Z h)), ?_, if_pos rfl, rfl, rfl, fun j hj => ?_, if_pos ⟨rfl, rfl⟩, fun x hx => if_neg (by show x ≠ bp_Z h; omega), fun x hx k => if_neg (by show x ≠ bp_Z h; omega), fun x hx k hk => (if_neg (by show x ≠ bp_Z h; omega)).trans (bp_u2_ne (by omega)), (if_neg (by show C + o ≠ bp_Z h; omega)).trans (if_pos ⟨rfl, rfl⟩), fun x hx k hk => by
      have hx' : x ≠ bp_Z h := by omega
      refine (bp_u2_ne (by omega)).trans ?_
      refine (if_neg hx').trans ?_
      exact if_neg hx', rfl, rfl, rfl⟩
    · unfold PJ2_grow
      rw [e_getI k1, k2]
      have hg : PJ2_grow_2 (C + o) (nI n' + 1) (bp_setI h (C + o) 0 m) = some (.inr (bp_Z h), bp_setR (bp_setQ (bp_mk (bp_setI h (C + o) 0 m) (27, ls_c n' (bv_c s o)) (ls_c n' (bv_c s o))) (bp_Z h) (va_cpy (bp_R h e) (fun _ => none) 0 0 n')) (C + o) 1 (some (bp_Z h))) := by
        unfold PJ2_grow_2
        rw [e_getN k1 k3, e_alen k4, e_jn]
        show bp_if (nI 0 < nI (bv_c s o)) _ _ _ = _
        rw [e_ifT (nI_lt (by omega) (by omega)), nI_1, e_bind (ls_newLength hnc (by omega) hc), e_getN k1 k3]
        have hcp : PJ11_copyOf e (nI (ls_c n' (bv_c s o))) (bp_setI h (C + o) 0 m) = some (.inr (bp_Z h), bp_setQ (bp_mk (bp_setI h (C + o) 0 m) (27, ls_c n' (bv_c s o)) (ls_c n' (bv_c s o))) (bp_Z h) (va_cpy (bp_R h e) (fun _ => none) 0 0 n')) := by
          unfold PJ11_copyOf bp_own
          rw [if_pos (by show bp_B h ≤ e; omega), e_is (by rw [k4]), e_gets (h := bp_setI h (C + o) 0 m) (x := sa 21) (cn.2.1 21 (by omega))]
          have hcp2 : PJ11_copyOf_2 e (nI (ls_c n' (bv_c s o))) (sa 21) (bp_setI h (C + o) 0 m) = some (.inr (bp_Z h), bp_setQ (bp_mk (bp_setI h (C + o) 0 m) (27, ls_c n' (bv_c s o)) (ls_c n' (bv_c s o))) (bp_Z h) (va_cpy (bp_R h e) (fun _ => none) 0 0 n')) := by
            unfold PJ11_copyOf_2
            rw [e_gets (h := bp_setI h (C + o) 0 m) (x := sa 21) (cn.2.1 21 (by omega)), e_jn, e_ifT rfl, e_newa hlen.1]
            show bp_alen 27 e _ _ = _
            rw [e_alen (n := bv_c s o) (by show (if e = bp_Z h then _ else bp_S h e) = _; rw [if_neg (by omega)]; exact l2)]
            rw [e_letI, if_neg (nI_nlt (by omega) (by omega)), ← hnc]
            unfold bp_copyR
            rw [if_pos]
            · show bp_ret (bp_Z h) _ = _
              unfold bp_ret
              congr 2
              rw [show (0 : Int32).toNatClampNeg = 0 from rfl, nI_clamp (by omega)]
              unfold bp_setQ
              congr 4
              funext x y
              rw [show bp_Z (bp_setI h (C + o) 0 m) = bp_Z h from rfl]
              by_cases hx : x = bp_Z h
              · rw [if_pos hx, if_pos hx]
                unfold va_cpy
                split
                · show (if e = bp_Z h then _ else bp_R h e _) = _
                  rw [if_neg (by omega)]
                · show (if bp_Z h = bp_Z h then none else _) = _
                  rw [if_pos rfl]
              · rw [if_neg hx, if_neg hx]
            · rw [show (0 : Int32).toNatClampNeg = 0 from rfl, nI_clamp (by omega)]
              refine ⟨by show (if e = bp_Z h then _ else bp_S h e).1 = 27; rw [if_neg (by omega), l2], congrArg Prod.fst (mk_S (h := bp_setI h (C + o) 0 m)), by show bp_B h ≤ e; omega, by show bp_B h ≤ bp_Z h; omega, by decide, by decide, nI_pos (by omega), by show _ ≤ (if e = bp_Z h then _ else bp_S h e).2; rw [if_neg (by omega), l2]; omega, by rw [mk_S]; have := hlen.2; rw [← hnc] at this; show 0 + n' ≤ ls_c n' n'; omega, fun i hi => ?_⟩
              show bp_okq _ (if e = bp_Z h then none else bp_R h e (0 + i)) = true
              rw [if_neg (by omega), Nat.zero_add, l8 i hi]
              have hg : g0 + i < 286 := by rcases ho with z | z <;> omega
              have := sg_lt (r := 0) hg (by omega)
              show decide ((if C + bv_sg (g0 + i) = bp_Z h then _ else bp_S h (C + bv_sg (g0 + i))).1 = 3) = true
              rw [if_neg (by omega), hV.sh (by omega), sh_sg0 hg]; rfl
          rw [e_bind hcp2]
          rfl
        rw [e_bind hcp, e_putR (by show (if C + o = bp_Z h then _ else bp_S h (C + o)).1 = 6; rw [if_neg (by omega)]; exact ht) (by show bp_B h ≤ C + o; omega)]
        rfl
      rw [e_bind (v := bp_Z h) (h1 := _) (by rw [e_is k1]; exact hg)]
      rfl
    · refine (bp_u2_ne (by omega)).trans ((if_pos rfl).trans ?_)
      rw [pk_cpy_in (by omega) (by omega)]
      simp only [Nat.sub_zero, Nat.zero_add]
      exact l8 j hj
/-- adding a segment -/
theorem sw_add (ho : bv_l2 o g0 mx o2 g2 mx2) {n : Nat} {Q : (bv_E ⊕ Int32) → bv_S → Prop} (hn : bv_i s o 2 = nI n) (hn2 : n < mx)
    (k : ∀ z q m, z ≤ bv_Z s + (ls_c n (bv_c s o) - bv_c s o) → q ≤ bv_N s + 4 * (ls_c n (bv_c s o) - bv_c s o) → Q (.inr 1) (bv_Ls s o m (n + 1) (ls_c n (bv_c s o)) z q)) : sw C sa (PJ2_add (C + o) (C + bv_sg (g0 + n))) s Q := fun h hV => by
  have hob : (o = 1 ∨ o = 8) ∧ mx ≤ 256 := by rcases ho with z | z <;> omega
  have hg : g0 + n < 286 := by rcases ho with z | z <;> omega
  have hgl := sg_lt (r := 0) hg (by omega)
  obtain ⟨e, n', l1, l2, l3, l4, l5, l6, l7, l8⟩ := hV.li ho
  have : n' = n := (nI_eq (by omega) (by omega)).mp (l4.symm.trans hn)
  subst this
  have ht := hV.lt6 hob.1
  have hz : C + 1506 ≤ bp_Z h := hV.2.2.2.2.2.2.2.2.2.1
  have hZs : bp_Z h = bv_Z s := hV.2.2.2.2.2.2.2.1
  have hNs : bp_N h = bv_N s := hV.2.2.2.2.2.2.2.2.1
  have hb : bp_B h ≤ C := hV.base
  have o1506 : o < 1506 := by omega
  have heZ : e < bp_Z h := by
    rcases l3 with ⟨rfl, -⟩ | ⟨-, z, -⟩
    · have := hV.cn.2.2.1 8 (by omega); omega
    · exact z
  have hsg : (bp_S h (C + bv_sg (g0 + n'))).1 = 3 := by rw [hV.sh (by omega), sh_sg0 hg]
  have k1 : (bp_S (bp_setI h (C + o) 0 (bp_I h (C + o) 0 + 1)) (C + o)).1 = 6 := ht
  have k2 : bp_I (bp_setI h (C + o) 0 (bp_I h (C + o) 0 + 1)) (C + o) 2 = nI n' := (bp_u2_ne (by omega)).trans ((hV.i o1506 2).trans hn)
  have k3 : bp_R (bp_setI h (C + o) 0 (bp_I h (C + o) 0 + 1)) (C + o) 1 = some e := l1
  have k4 : bp_S (bp_setI h (C + o) 0 (bp_I h (C + o) 0 + 1)) e = (27, bv_c s o) := l2
  by_cases hf : n' = bv_c s o
  · have hc : bv_c s o ≤ 2000 := by omega
    obtain ⟨h', f1, f2, f3, f4, f5, f6, f7, f8, f9, f10, f11, f12, f13, f14⟩ := ls_grow hV ho hn hn2 hf hc (m := bp_I h (C + o) 0 + 1)
    have hlen : n' < ls_c n' (bv_c s o) ∧ ls_c n' (bv_c s o) ≤ 4096 ∧ 4 * (ls_c n' (bv_c s o) - bv_c s o) ≥ ls_c n' (bv_c s o) := by
      unfold ls_c
      rw [if_neg (by omega)]
      split
      · omega
      · split <;> omega
    have t1 : (bp_S h' (C + o)).1 = 6 := by rw [f7 _ (by omega)]; exact ht
    refine ⟨.inr 1, bp_setI (bp_setR h' (bp_Z h) n' (some (C + bv_sg (g0 + n')))) (C + o) 2 (nI n' + 1), ?_, bv_Ls s o (bp_I h (C + o) 0 + 1) (n' + 1) (ls_c n' (bv_c s o)) (bp_Z h') (bp_N h'), ?_, ?_⟩
    · unfold PJ2_add
      rw [e_getI ht, e_putI ht (by omega), e_getN k1 k3, e_getI k1, k2]
      have ha : PJ2_add_2 (C + o) (C + bv_sg (g0 + n')) e (nI n') (bp_setI h (C + o) 0 (bp_I h (C + o) 0 + 1)) = some (.inr (), bp_setI (bp_setR h' (bp_Z h) n' (some (C + bv_sg (g0 + n')))) (C + o) 2 (nI n' + 1)) := by
        unfold PJ2_add_2
        rw [e_alen k4, e_jn, e_ifT (by rw [hf]), e_bind (v := bp_Z h) (h1 := h') (by rw [e_is k1]; exact f1)]
        show bp_astO 3 (bp_Z h) (nI n') _ _ h' = _
        rw [e_astO f2 (by omega) hlen.1 (by rw [f12]; omega) (by rw [f7 _ (by omega)]; exact hsg), e_putI (by exact t1) (by show bp_B h' ≤ _; rw [f12]; omega)]
        rfl
      rw [e_bind (v := ()) (h1 := _) (by rw [e_is k1]; exact ha)]
      rfl
    · refine hV.lst ho (e' := bp_Z h) l1 f7 f8 (fun x hx y hy => (bp_u2_ne (by omega)).trans (f9 x hx y (by omega))) ((bp_u2_ne (by omega)).trans f10) ((if_pos ⟨rfl, rfl⟩).trans (nI_1 n')) (fun x hx y hy _ => (bp_u2_ne (by omega)).trans (f11 x hx y hy)) ((bp_u2_ne (by omega)).trans f6) f2 (Or.inr ⟨by omega, by show _ < bp_Z h'; omega, by omega⟩) hlen.1 hn2 hlen.2.1 (fun j hj => ?_) (Or.inr (Nat.le_refl _)) (by show _ ≤ bp_Z h'; omega) f12 f13 f14
      by_cases hj2 : j = n'
      · subst hj2; exact if_pos ⟨rfl, rfl⟩
      · exact (bp_u2_ne (by omega)).trans (f5 j (by omega))
    · exact k _ _ _ (by omega) (by omega)
  · have hlt : n' < bv_c s o := by omega
    have ec : ls_c n' (bv_c s o) = bv_c s o := by unfold ls_c; rw [if_pos hlt]
    have hC : C + 1506 ≤ e := by rcases l3 with z | z <;> omega
    refine ⟨.inr 1, bp_setI (bp_setR (bp_setI h (C + o) 0 (bp_I h (C + o) 0 + 1)) e n' (some (C + bv_sg (g0 + n')))) (C + o) 2 (nI n' + 1), ?_, bv_Ls s o (bp_I h (C + o) 0 + 1) (n' + 1) (ls_c n' (bv_c s o)) (bp_Z h) (bp_N h), ?_, ?_⟩
    · unfold PJ2_add
      rw [e_getI ht, e_putI ht (by omega), e_getN k1 k3, e_getI k1, k2]
      have ha : PJ2_add_2 (C + o) (C + bv_sg (g0 + n')) e (nI n') (bp_setI h (C + o) 0 (bp_I h (C + o) 0 + 1)) = some (.inr (), bp_setI (bp_setR (bp_setI h (C + o) 0 (bp_I h (C + o) 0 + 1)) e n' (some (C + bv_sg (g0 + n')))) (C + o) 2 (nI n' + 1)) := by
        unfold PJ2_add_2
        rw [e_alen k4, e_jn, e_ifF (fun z => hf ((nI_eq (by omega) (by omega)).mp z))]
        show bp_astO 3 e (nI n') _ _ _ = _
        rw [e_astO k4 (by omega) hlt (by show bp_B h ≤ e; omega) hsg, e_putI (by exact ht) (by show bp_B h ≤ C + o; omega)]
        rfl
      rw [e_bind (v := ()) (h1 := _) (by rw [e_is k1]; exact ha)]
      rfl
    · rw [ec]
      refine hV.lst ho (e' := e) l1 (fun _ _ => rfl) (fun _ _ _ => rfl) (fun x hx y hy => (bp_u2_ne (by omega)).trans (bp_u2_ne (by omega))) ((bp_u2_ne (by omega)).trans (if_pos ⟨rfl, rfl⟩)) ((if_pos ⟨rfl, rfl⟩).trans (nI_1 n')) (fun x hx y hy hq => bp_u2_ne (by omega)) ((bp_u2_ne (by omega)).trans l1) l2 (Or.inr ⟨hC, heZ, by omega⟩) (by omega) (by omega) l7 (fun j hj => ?_) (Or.inl rfl) (Nat.le_refl _) rfl rfl rfl
      by_cases hj2 : j = n'
      · subst hj2; exact if_pos ⟨rfl, rfl⟩
      · exact (bp_u2_ne (by omega)).trans (l8 j (by omega))
    · rw [ec]
      exact ec ▸ k _ _ _ (by omega) (by omega)
/-- emptying a list -/
theorem sw_clear (ho : bv_l2 o g0 mx o2 g2 mx2) {n : Nat} {Q : (bv_E ⊕ Unit) → bv_S → Prop} (k : ∀ m, Q (.inr ()) (bv_Ls s o m 0 (bv_c s o) (bv_Z s) (bv_N s))) : sw C sa (PJ2_clear (C + o)) s Q := fun h hV => by
  have hob : (o = 1 ∨ o = 8) ∧ mx ≤ 256 := by rcases ho with z | z <;> omega
  obtain ⟨e, n', l1, l2, l3, l4, l5, l6, l7, l8⟩ := hV.li ho
  have ht := hV.lt6 hob.1
  have hz : C + 1506 ≤ bp_Z h := hV.2.2.2.2.2.2.2.2.2.1
  have hZs : bp_Z h = bv_Z s := hV.2.2.2.2.2.2.2.1
  have hNs : bp_N h = bv_N s := hV.2.2.2.2.2.2.2.2.1
  have hb : bp_B h ≤ C := hV.base
  have hF : bp_F h = bv_fu := hV.2.2.2.2.2.2.2.2.2.2.1
  have o1506 : o < 1506 := by omega
  have hm := hV.i o1506 2
  have heZ : e < bp_Z h := by
    rcases l3 with ⟨rfl, -⟩ | ⟨-, z, -⟩
    · have := hV.cn.2.2.1 8 (by omega); omega
    · exact z
  have hV1 : bv_V C sa (bp_setI (bp_setI h (C + o) 0 (bp_I h (C + o) 0 + 1)) (C + o) 2 0) (bv_Ls s o (bp_I h (C + o) 0 + 1) 0 (bv_c s o) (bv_Z s) (bv_N s)) := by
    rw [← hZs, ← hNs]
    exact hV.lst (h' := bp_setI (bp_setI h (C + o) 0 (bp_I h (C + o) 0 + 1)) (C + o) 2 0) ho (e' := e) l1 (fun _ _ => rfl) (fun _ _ _ => rfl) (fun x hx y hy => (bp_u2_ne (by omega)).trans (bp_u2_ne (by omega))) ((bp_u2_ne (by omega)).trans (if_pos ⟨rfl, rfl⟩)) (if_pos ⟨rfl, rfl⟩) (fun x hx y hy hq => rfl) l1 l2 (l3.imp id fun z => ⟨z.1, heZ, z.2.2⟩) (by omega) (by omega) l7 (fun j hj => by omega) (Or.inl rfl) (Nat.le_refl _) rfl rfl rfl
  have lp : ∀ f i h1, n' - i < f → bv_V C sa h1 (bv_Ls s o (bp_I h (C + o) 0 + 1) 0 (bv_c s o) (bv_Z s) (bv_N s)) → bp_R h1 (C + o) 1 = some e → bp_S h1 e = (27, bv_c s o) → i ≤ n' → ∃ h2, bp_fix (fun _ => bp_no) (BJ2_clear_27 e (nI n')) f (nI i) h1 = some (.inr (), h2) ∧ bv_V C sa h2 (bv_Ls s o (bp_I h (C + o) 0 + 1) 0 (bv_c s o) (bv_Z s) (bv_N s)) := by
    intro f
    induction f with
    | zero => intro i h1 hi; omega
    | succ f ih =>
      intro i h1 hi hV2 hr hs hin
      by_cases hii : i = n'
      · refine ⟨h1, ?_, hV2⟩
        show BJ2_clear_27 e (nI n') _ (nI i) h1 = _
        unfold BJ2_clear_27
        rw [e_ifT (nI_le (by omega) (by omega))]; rfl
      · have hC : C + 1506 ≤ e := by rcases l3 with z | z <;> omega
        have hb1 : bp_B h1 ≤ C := hV2.base
        have hV3 : bv_V C sa (bp_setR h1 e i none) (bv_Ls s o (bp_I h (C + o) 0 + 1) 0 (bv_c s o) (bv_Z s) (bv_N s)) := by
          have hz1 : bp_Z h1 = bv_Z s := hV2.2.2.2.2.2.2.2.1
          have hn1 : bp_N h1 = bv_N s := hV2.2.2.2.2.2.2.2.2.1
          have := hV2.lst (h' := bp_setR h1 e i none) ho (e' := e) (n := 0) (c := bv_c s o) (m := bp_I h (C + o) 0 + 1) hr (fun _ _ => rfl) (fun _ _ _ => rfl) (fun x hx y hy => rfl) ((hV2.i o1506 0).trans ((bp_u2_ne (by omega)).trans (if_pos ⟨rfl, rfl⟩))) ((hV2.i o1506 2).trans (if_pos ⟨rfl, rfl⟩)) (fun x hx y hy hq => bp_u2_ne (by omega)) ((bp_u2_ne (by omega)).trans hr) hs (Or.inr ⟨hC, by show e < bp_Z h1; omega, by omega⟩) (by omega) (by omega) l7 (fun j hj => by omega) (Or.inl rfl) (Nat.le_refl _) rfl rfl rfl
          have es : bv_Ls (bv_Ls s o (bp_I h (C + o) 0 + 1) 0 (bv_c s o) (bv_Z s) (bv_N s)) o (bp_I h (C + o) 0 + 1) 0 (bv_c s o) (bp_Z (bp_setR h1 e i none)) (bp_N (bp_setR h1 e i none)) = bv_Ls s o (bp_I h (C + o) 0 + 1) 0 (bv_c s o) (bv_Z s) (bv_N s) := by
            show bv_Ls _ _ _ _ _ (bp_Z h1) (bp_N h1) = _
            rw [hz1, hn1]
            unfold bv_Ls
            congr 1
            · funext x y
              unfold bp_u2
              by_cases q1 : x = o ∧ y = 2
              · simp only [q1, and_self, if_true]
              · by_cases q2 : x = o ∧ y = 0
                · simp only [q2, and_self, if_true]
                · simp only [if_neg q1, if_neg q2]
            · congr 4
              show bv_u1 (bv_u1 (bv_c s) o (bv_c s o)) o (bv_c s o) = bv_u1 (bv_c s) o (bv_c s o)
              funext x
              unfold bv_u1
              split <;> rfl
          rw [es] at this
          exact this
        obtain ⟨h2, q1, q2⟩ := ih (i + 1) (bp_setR h1 e i none) (by omega) hV3 ((bp_u2_ne (by omega)).trans hr) hs (by omega)
        refine ⟨h2, ?_, q2⟩
        show BJ2_clear_27 e (nI n') _ (nI i) h1 = _
        unfold BJ2_clear_27
        rw [e_ifF (nI_ge (by omega) (by omega)), e_ast0 hs (by omega) (by omega) (by omega), e_letI, nI_1]
        exact q1
  obtain ⟨h2, q1, q2⟩ := lp bv_fu 0 _ (by unfold bv_fu; omega) hV1 l1 l2 (by omega)
  refine ⟨.inr (), h2, ?_, _, q2, k _⟩
  unfold PJ2_clear
  rw [e_getI ht, e_putI ht (by omega), e_getN (h := bp_setI h (C + o) 0 (bp_I h (C + o) 0 + 1)) (x := e) ht l1, e_getI (h := bp_setI h (C + o) 0 (bp_I h (C + o) 0 + 1)) ht]
  rw [show bp_I (bp_setI h (C + o) 0 (bp_I h (C + o) 0 + 1)) (C + o) 2 = nI n' from (bp_u2_ne (by omega)).trans (hm.trans l4), e_putI (h := bp_setI h (C + o) 0 (bp_I h (C + o) 0 + 1)) ht (by show bp_B h ≤ C + o; omega)]
  unfold bp_loop
  rw [show bp_F (bp_setI (bp_setI h (C + o) 0 (bp_I h (C + o) 0 + 1)) (C + o) 2 0) = bv_fu from hF]
  exact q1
end LS
