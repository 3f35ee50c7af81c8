/-! The plain law: a run's state by offsets, and what programs do to it -/
set_option maxRecDepth 100000
/-- ints, longs by offset and place; kinds of segments; (size, slots made); the lists' capacities; the iterator at hand: its cell, its list, its place -/
abbrev bv_S : Type := (Nat → Nat → Int32) × (Nat → Nat → Int64) × (Nat → Nat) × (Nat × Nat) × (Nat → Nat) × Option (Nat × Nat × Nat)
def bv_i (s : bv_S) : Nat → Nat → Int32 := s.1
def bv_l (s : bv_S) : Nat → Nat → Int64 := s.2.1
def bv_k (s : bv_S) : Nat → Nat := s.2.2.1
def bv_Z (s : bv_S) : Nat := s.2.2.2.1.1
def bv_N (s : bv_S) : Nat := s.2.2.2.1.2
def bv_c (s : bv_S) : Nat → Nat := s.2.2.2.2.1
def bv_it (s : bv_S) : Option (Nat × Nat × Nat) := s.2.2.2.2.2
def bv_u1 {α : Type} (f : Nat → α) (k : Nat) (v : α) : Nat → α := fun x => if x = k then v else f x
def bv_I (s : bv_S) (o k : Nat) (v : Int32) : bv_S := (bp_u2 s.1 o k v, s.2)
def bv_L (s : bv_S) (o k : Nat) (v : Int64) : bv_S := (s.1, bp_u2 s.2.1 o k v, s.2.2)
def bv_K (s : bv_S) (g v : Nat) : bv_S := (s.1, s.2.1, bv_u1 s.2.2.1 g v, s.2.2.2)
def bv_ZN (s : bv_S) (z n : Nat) : bv_S := (s.1, s.2.1, s.2.2.1, (bv_Z s + z, bv_N s + n), s.2.2.2.2)
/-- offsets: segment g, sheet p -/
def bv_sg (g : Nat) : Nat := 41 + 5 * g
def bv_hp (p : Nat) : Nat := 11 + 3 * p
/-- shapes of the reference's arrays, in their order -/
def bv_ms (j : Nat) : Nat × Nat := match j with
  | 0 => (4, 0) | 1 => (20, 30) | 2 => (20, 30) | 3 => (20, 30) | 4 => (20, 300) | 5 => (20, 30) | 6 => (20, 30) | 7 => (20, 600) | 8 => (20, 180) | 9 => (20, 480)
  | 10 => (20, 5000) | 11 => (20, 3000) | 12 => (20, 3000) | 13 => (20, 3000) | 14 => (20, 256) | 15 => (20, 256) | 16 => (20, 256) | 17 => (20, 256) | 18 => (20, 256) | 19 => (20, 2560)
  | 20 => (20, 256) | 21 => (23, 256) | 22 => (20, 256) | 23 => (20, 256) | 24 => (20, 256) | 25 => (20, 256) | 26 => (20, 4096) | 27 => (22, 10) | 28 => (20, 10) | 29 => (20, 10) | 30 => (20, 10)
  | 31 => (20, 10) | 32 => (20, 320) | 33 => (22, 10240) | _ => (23, 1)
def bv_cs (o : Nat) : Nat × Nat := match o with
  | 0 => (0, 0) | 1 => (6, 0) | 2 => (24, 30) | 3 => (24, 256) | 4 => (21, 6000) | 5 => (21, 3000) | 6 => (21, 3000) | 7 => (25, 10) | 8 => (6, 0) | 9 => (1, 0) | _ => (21, 3000)
def bv_ss (r : Nat) : Nat × Nat := match r with
  | 0 => (3, 0) | 1 => (20, 10) | 2 => (20, 6) | 3 => (21, 20) | _ => (20, 16)
def bv_sh (o : Nat) : Nat × Nat := if o < 11 then bv_cs o else if o < 41 then (if (o - 11) % 3 = 0 then (2, 0) else (20, 32)) else if o < 1471 then bv_ss ((o - 41) % 5) else bv_ms (o - 1471)
/-- references that never change, but those of segments and sheets -/
def bv_rf (o k : Nat) : Option Nat := match o, k with
  | 0, 1 => some 1 | 0, 2 => some 2 | 0, 3 => some 3 | 0, 4 => some 4 | 0, 6 => some 5 | 0, 8 => some 6 | 0, 10 => some 7 | 0, 11 => some 8 | 0, 12 => some 9 | 9, 0 => some 10 | 9, 7 => some 0
  | 1471, 3 => some 1472 | 1471, 4 => some 1473 | 1471, 5 => some 1474 | 1471, 6 => some 1475 | 1471, 7 => some 1476 | 1471, 8 => some 1477 | 1471, 9 => some 1478 | 1471, 10 => some 1479 | 1471, 11 => some 1480 | 1471, 12 => some 1481
  | 1471, 14 => some 1482 | 1471, 16 => some 1483 | 1471, 18 => some 1484 | 1471, 26 => some 1485 | 1471, 27 => some 1486 | 1471, 28 => some 1487 | 1471, 29 => some 1488 | 1471, 30 => some 1489 | 1471, 31 => some 1490
  | 1471, 32 => some 1491 | 1471, 33 => some 1492 | 1471, 34 => some 1493 | 1471, 35 => some 1494 | 1471, 36 => some 1495 | 1471, 37 => some 1496 | 1471, 38 => some 1497 | 1471, 40 => some 1498 | 1471, 41 => some 1499
  | 1471, 42 => some 1500 | 1471, 43 => some 1501 | 1471, 44 => some 1502 | 1471, 45 => some 1503 | 1471, 46 => some 1504
  | _, _ => none
def bv_Rf (C : Nat) (h : bp_H) : Prop :=
  (∀ o k x, bv_rf o k = some x → bp_R h (C + o) k = some (C + x)) ∧
  (∀ j, j < 30 → bp_R h (C + 2) j = some (C + bv_sg j)) ∧ (∀ j, j < 256 → bp_R h (C + 3) j = some (C + bv_sg (30 + j))) ∧ (∀ p, p < 10 → bp_R h (C + 7) p = some (C + bv_hp p)) ∧
  (∀ p, p < 10 → bp_R h (C + bv_hp p) 0 = some (C + (bv_hp p + 1)) ∧ bp_R h (C + bv_hp p) 1 = some (C + (bv_hp p + 2))) ∧
  ∀ g, g < 286 → bp_R h (C + bv_sg g) 3 = some (C + (bv_sg g + 1)) ∧ bp_R h (C + bv_sg g) 6 = some (C + (bv_sg g + 2)) ∧ bp_R h (C + bv_sg g) 7 = some (C + (bv_sg g + 3)) ∧ bp_R h (C + bv_sg g) 9 = some (C + (bv_sg g + 4))
/-- a kind's code, how many numbers it has -/
def bv_code (k : Nat) : Int32 := match k with
  | 0 => 0 | 1 => 4 | 2 => 6 | 3 => 38 | 4 => 48 | 5 => 49 | 6 => 50 | 7 => 51 | 8 => 53 | _ => 62
def bv_nums (k : Nat) : Int32 := match k with
  | 0 => 0 | 1 => 5 | 2 => 5 | 3 => 6 | 4 => 4 | 5 => 0 | 6 => 1 | 7 => 0 | 8 => 0 | _ => 1
/-- static tables of ints: number, length, what they hold -/
def bv_tb (i : Nat) : List Int32 := match i with
  | 1 => [151, 74, 66, 50, 13, 10, 26, 10] | 2 => [1, 1, 0, 0, 0, 0] | 3 => [16, 16, 31, 31, 5, 1] | 4 => [1, 0, 0, 0] | 5 => [32, 32, 1, 4] | 6 => [0, -2147483648] | 7 => [31, 2147483647] | _ => []
/-- what holds of the constants -/
def bv_Cn (C : Nat) (sa : Nat → Nat) (h : bp_H) : Prop :=
  bp_B h ≤ C ∧ (∀ i, i < 9 ∨ (11 ≤ i ∧ i < 22) → bp_s h i = some (sa i)) ∧ (∀ i, i < 9 ∨ (11 ≤ i ∧ i < 21) → sa i < bp_B h) ∧
  (∀ i, 1 ≤ i → i < 8 → bp_S h (sa i) = (20, (bv_tb i).length) ∧ ∀ j, j < (bv_tb i).length → bp_I h (sa i) j = (bv_tb i).getD j 0) ∧
  bp_S h (sa 0) = (26, 10) ∧ (∀ k, k < 10 → bp_R h (sa 0) k = some (sa (11 + k))) ∧ bp_S h (sa 8) = (27, 0) ∧
  (∀ k, k < 10 → (bp_S h (sa (11 + k))).1 = 8 ∧ bp_I h (sa (11 + k)) 0 = bv_code k ∧ bp_I h (sa (11 + k)) 1 = bv_nums k ∧ bp_I h (sa (11 + k)) 2 = Int32.ofNat k) ∧
  (∀ a b, a < 10 → b < 10 → sa (11 + a) = sa (11 + b) → a = b)
/-- a list of segments: its object at o, its segments from g0 on -/
def bv_Li (C : Nat) (sa : Nat → Nat) (h : bp_H) (s : bv_S) (o g0 mx : Nat) : Prop :=
  ∃ e n : Nat, bp_R h (C + o) 1 = some e ∧ bp_S h e = (27, bv_c s o) ∧ (e = sa 8 ∧ bv_c s o = 0 ∨ C + 1506 ≤ e ∧ e < bp_Z h ∧ 0 < bv_c s o) ∧ bv_i s o 2 = nI n ∧ n ≤ bv_c s o ∧ n ≤ mx ∧ bv_c s o ≤ 4096 ∧ ∀ j, j < n → bp_R h e j = some (C + bv_sg (g0 + j))
def bv_It (C : Nat) (h : bp_H) (s : bv_S) : Prop := ∀ a o j, bv_it s = some (a, o, j) → C + 1506 ≤ a ∧ a < bp_Z h ∧ bp_S h a = (7, 0) ∧ bp_I h a 0 = nI j ∧ bp_I h a 2 = bv_i s o 0 ∧ bp_R h a 3 = some (C + o) ∧ (o = 1 ∨ o = 8)
/-- fuel of every loop -/
def bv_fu : Nat := 100000
def bv_V (C : Nat) (sa : Nat → Nat) (h : bp_H) (s : bv_S) : Prop :=
  (∀ o, o < 1506 → bp_S h (C + o) = bv_sh o ∧ (∀ k, bp_I h (C + o) k = bv_i s o k) ∧ ∀ k, bp_L h (C + o) k = bv_l s o k) ∧
  bv_Rf C h ∧ (∀ g, g < 286 → bv_k s g < 10 ∧ bp_R h (C + bv_sg g) 0 = some (sa (11 + bv_k s g))) ∧
  bv_Li C sa h s 1 0 30 ∧ bv_Li C sa h s 8 30 256 ∧ (∀ e, bp_R h (C + 1) 1 = some e → C ≤ e → bp_R h (C + 8) 1 ≠ some e) ∧
  bv_Cn C sa h ∧ bp_Z h = bv_Z s ∧ bp_N h = bv_N s ∧ C + 1506 ≤ bp_Z h ∧ bp_F h = bv_fu ∧ bv_It C h s
/-- what is thrown: its kind, its cell, the cell's last two ints -/
abbrev bv_E : Type := Nat × Nat × Int32 × Int32
/-- the kind thrown; 6: one of kind 5 whose cell isn't what it should be -/
def bv_kd (h : bp_H) (e : bp_E) : Nat := if e.1 = 5 ∧ (bp_S h e.2).1 ≠ 5 then 6 else e.1
def bv_x {β : Type} (h : bp_H) : (bp_E ⊕ β) → (bv_E ⊕ β)
  | .inl e => .inl (bv_kd h e, e.2, bp_I h e.2 6, bp_I h e.2 7)
  | .inr v => .inr v
def sw {β : Type} (C : Nat) (sa : Nat → Nat) (P : bp_M β) (s : bv_S) (Q : (bv_E ⊕ β) → bv_S → Prop) : Prop :=
  ∀ h, bv_V C sa h s → ∃ r h', P h = some (r, h') ∧ ∃ s', bv_V C sa h' s' ∧ Q (bv_x h' r) s'
/-- ends without a throw -/
def bv_q {β : Type} (Q : β → bv_S → Prop) : (bv_E ⊕ β) → bv_S → Prop := fun r s => ∃ v, r = .inr v ∧ Q v s
section SW
variable {α β : Type} {C : Nat} {sa : Nat → Nat} {P P1 P2 : bp_M β} {s : bv_S} {Q : (bv_E ⊕ β) → bv_S → Prop}
theorem sw_mono {Q' : (bv_E ⊕ β) → bv_S → Prop} (k : sw C sa P s Q') (hq : ∀ r s', Q' r s' → Q r s') : sw C sa P s Q := fun h hV => by
  obtain ⟨r, h', e, s', v, q⟩ := k h hV
  exact ⟨r, h', e, s', v, hq _ _ q⟩
theorem sw_ret {v : β} (k : Q (.inr v) s) : sw C sa (bp_ret v) s Q := fun h hV => ⟨_, h, rfl, s, hV, k⟩
theorem sw_retZ {v : Int32} {Q : (bv_E ⊕ Int32) → bv_S → Prop} (hv : v = 0 ∨ v = 1) (k : Q (.inr v) s) : sw C sa (bp_retZ v) s Q := fun h hV => ⟨_, h, if_pos hv, s, hV, k⟩
theorem bv_kn {h : bp_H} {a b : Nat} (ha : a ≠ 5) : bv_kd h (a, b) = a := if_neg fun z => ha z.1
theorem bv_k5 {h : bp_H} {b : Nat} (hb : (bp_S h b).1 = 5) : bv_kd h (5, b) = 5 := if_neg fun z => z.2 hb
theorem sw_thr {a b : Nat} (ha : a ≠ 5) (k : ∀ f p, Q (.inl (a, b, f, p)) s) : sw C sa (bp_thr a b) s Q := fun h hV => ⟨_, h, rfl, s, hV, by
  show Q (.inl (bv_kd h (a, b), b, _, _)) s
  rw [bv_kn ha]; exact k _ _⟩
theorem sw_bind {f : bp_M α} {K : α → bp_M β} (k : sw C sa f s (fun r s1 => match r with | .inl e => Q (.inl e) s1 | .inr v => sw C sa (K v) s1 Q)) : sw C sa (bp_bind f K) s Q := fun h hV => by
  obtain ⟨r, h', e, s', v, q⟩ := k h hV
  unfold bp_bind
  rw [e]
  cases r with
  | inl x => exact ⟨_, h', rfl, s', v, q⟩
  | inr x =>
    exact q h' v
theorem bv_xr {h : bp_H} {r : bp_E ⊕ α} {v : α} (e : bv_x h r = .inr v) : r = .inr v := by
  cases r with
  | inl x => cases e
  | inr x => cases e; rfl
theorem sw_bindN {f : bp_M α} {K : α → bp_M β} (k : sw C sa f s (bv_q fun v s1 => sw C sa (K v) s1 Q)) : sw C sa (bp_bind f K) s Q := sw_bind (sw_mono k fun r s' q => by
  obtain ⟨v, rfl, q⟩ := q
  exact q)
theorem sw_bindNN {f : bp_M α} {K : α → bp_M β} (k : sw C sa f s (bv_q fun v s1 => sw C sa (K v) s1 Q)) : sw C sa (bp_bindN f K) s Q := fun h hV => by
  obtain ⟨r, h', e, s', v, x, hx, q⟩ := k h hV
  cases bv_xr hx
  unfold bp_bindN
  rw [e]
  exact q h' v
theorem sw_if {c : Prop} [Decidable c] (k1 : c → sw C sa P1 s Q) (k2 : ¬ c → sw C sa P2 s Q) : sw C sa (bp_if c P1 P2) s Q := fun h hV => by
  unfold bp_if
  by_cases hc : c
  · rw [if_pos hc]; exact k1 hc h hV
  · rw [if_neg hc]; exact k2 hc h hV
theorem sw_ifT {c : Prop} [Decidable c] (hc : c) (k1 : sw C sa P1 s Q) : sw C sa (bp_if c P1 P2) s Q := sw_if (fun _ => k1) (fun n => absurd hc n)
theorem sw_ifF {c : Prop} [Decidable c] (hc : ¬ c) (k2 : sw C sa P2 s Q) : sw C sa (bp_if c P1 P2) s Q := sw_if (fun n => absurd n hc) (fun _ => k2)
theorem sw_letI {v : Int32} {K : Int32 → bp_M β} (k : sw C sa (K v) s Q) : sw C sa (bp_letI v K) s Q := k
theorem sw_letL {v : Int64} {K : Int64 → bp_M β} (k : sw C sa (K v) s Q) : sw C sa (bp_letL v K) s Q := k
theorem sw_jn {κ : Sort _} {b : κ → bp_M β} {K : κ} (k : sw C sa (b K) s Q) : sw C sa (bp_jn b K) s Q := k
/-- a join, all roads to which bring the value e and leave the state -/
theorem sw_jnV {b : (α → bp_M β) → bp_M β} {K : α → bp_M β} (e : α) (k : ∀ K' : α → bp_M β, sw C sa (K' e) s Q → sw C sa (b K') s Q) (kk : sw C sa (K e) s Q) : sw C sa (bp_jn b K) s Q := k K kk
theorem sw_nz {y : Int32} (hy : y ≠ 0) (k : sw C sa P s Q) : sw C sa (bp_nz y P) s Q := fun h hV => by
  unfold bp_nz
  rw [if_neg hy]; exact k h hV
theorem sw_nnS {a : Nat} {K : Nat → bp_M β} (k : sw C sa (K a) s Q) : sw C sa (bp_nn (some a) K) s Q := k
theorem bv_V.sh {h : bp_H} (hV : bv_V C sa h s) {o : Nat} (ho : o < 1506) : bp_S h (C + o) = bv_sh o := (hV.1 o ho).1
theorem bv_V.i {h : bp_H} (hV : bv_V C sa h s) {o : Nat} (ho : o < 1506) (k : Nat) : bp_I h (C + o) k = bv_i s o k := (hV.1 o ho).2.1 k
theorem sw_is {o t : Nat} (ho : o < 1506) (ht : (bv_sh o).1 = t) (k : sw C sa P s Q) : sw C sa (bp_is t (C + o) P) s Q := fun h hV => by
  unfold bp_is
  rw [if_pos (by rw [hV.sh ho]; exact ht)]; exact k h hV
theorem sw_getI {o t f : Nat} {K : Int32 → bp_M β} (ho : o < 1506) (ht : (bv_sh o).1 = t) (k : sw C sa (K (bv_i s o f)) s Q) : sw C sa (bp_getI t f (C + o) K) s Q := fun h hV => by
  unfold bp_getI
  rw [if_pos (by rw [hV.sh ho]; exact ht), hV.i ho]; exact k h hV
theorem sw_getL {o t f : Nat} {K : Int64 → bp_M β} (ho : o < 1506) (ht : (bv_sh o).1 = t) (k : sw C sa (K (bv_l s o f)) s Q) : sw C sa (bp_getL t f (C + o) K) s Q := fun h hV => by
  unfold bp_getL
  rw [if_pos (by rw [hV.sh ho]; exact ht), (hV.1 o ho).2.2]; exact k h hV
theorem sw_getRx {o t f x : Nat} {K : Option Nat → bp_M β} (ho : o < 1506) (ht : (bv_sh o).1 = t) (hr : ∀ h, bv_V C sa h s → bp_R h (C + o) f = some x) (k : sw C sa (K (some x)) s Q) : sw C sa (bp_getR t f (C + o) K) s Q := fun h hV => by
  unfold bp_getR
  rw [if_pos (by rw [hV.sh ho]; exact ht), hr h hV]; exact k h hV
theorem sw_getNx {o t f x : Nat} {K : Nat → bp_M β} (ho : o < 1506) (ht : (bv_sh o).1 = t) (hr : ∀ h, bv_V C sa h s → bp_R h (C + o) f = some x) (k : sw C sa (K x) s Q) : sw C sa (bp_getN t f (C + o) K) s Q := sw_getRx ho ht hr k
theorem sw_getN {o t f x : Nat} {K : Nat → bp_M β} (hx : bv_rf o f = some x) (ho : o < 1506) (ht : (bv_sh o).1 = t) (k : sw C sa (K (C + x)) s Q) : sw C sa (bp_getN t f (C + o) K) s Q := sw_getNx ho ht (fun _ hV => hV.2.1.1 _ _ _ hx) k
theorem sw_aldI {o t : Nat} {i : Int32} {K : Int32 → bp_M β} (ho : o < 1506) (ht : (bv_sh o).1 = t) (hi : ¬ (i < 0 ∨ (bv_sh o).2 ≤ i.toNatClampNeg)) (k : sw C sa (K (bv_i s o i.toNatClampNeg)) s Q) : sw C sa (bp_aldI t (C + o) i K) s Q := fun h hV => by
  unfold bp_aldI
  rw [if_pos (by rw [bp_in, hV.sh ho]; exact ⟨ht, hi⟩), hV.i ho]; exact k h hV
theorem sw_aldL {o : Nat} {i : Int32} {K : Int64 → bp_M β} (ho : o < 1506) (ht : (bv_sh o).1 = 23) (hi : ¬ (i < 0 ∨ (bv_sh o).2 ≤ i.toNatClampNeg)) (k : sw C sa (K (bv_l s o i.toNatClampNeg)) s Q) : sw C sa (bp_aldL (C + o) i K) s Q := fun h hV => by
  unfold bp_aldL
  rw [if_pos (by rw [bp_in, hV.sh ho]; exact ⟨ht, hi⟩), (hV.1 o ho).2.2]; exact k h hV
theorem sw_alen {o t : Nat} {K : Int32 → bp_M β} (ho : o < 1506) (ht : (bv_sh o).1 = t) (k : sw C sa (K (Int32.ofNat (bv_sh o).2)) s Q) : sw C sa (bp_alen t (C + o) K) s Q := fun h hV => by
  unfold bp_alen
  rw [if_pos (by rw [hV.sh ho]; exact ht), hV.sh ho]; exact k h hV
/-- ints change at an offset that isn't a list's -/
theorem bv_V.setI {h : bp_H} (hV : bv_V C sa h s) {o k : Nat} (v : Int32) (ho : o < 1506) (hl : o ≠ 1 ∧ o ≠ 8) : bv_V C sa (bp_setI h (C + o) k v) (bv_I s o k v) := by
  obtain ⟨v1, v2, v3, v4, v5, v6, v7, v8, v9, v10, v11, v12⟩ := hV
  have li : ∀ o' g0 mx, (o ≠ o') → bv_Li C sa h s o' g0 mx → bv_Li C sa (bp_setI h (C + o) k v) (bv_I s o k v) o' g0 mx := fun o' g0 mx hn hL => by
    obtain ⟨e, n, l1, l2, l3, l4, l5⟩ := hL
    refine ⟨e, n, l1, l2, l3, ?_, l5⟩
    rw [← l4]
    exact bp_u2_ne (by omega)
  refine ⟨fun x hx => ⟨(v1 x hx).1, fun y => ?_, (v1 x hx).2.2⟩, v2, v3, li 1 _ _ hl.1 v4, li 8 _ _ hl.2 v5, v6, ?_, v8, v9, v10, v11, fun a o' j hi => ?_⟩
  · show bp_u2 h.1 (C + o) k v (C + x) y = bp_u2 s.1 o k v x y
    unfold bp_u2
    by_cases hc : x = o ∧ y = k
    · rw [if_pos hc, if_pos ⟨by omega, hc.2⟩]
    · rw [if_neg hc, if_neg (fun z => hc ⟨by omega, z.2⟩)]
      exact (v1 x hx).2.1 y
  · obtain ⟨c1, c2, c3, c4, c5, c6, c7, c8, c9⟩ := v7
    have c1' : bp_B h ≤ C := c1
    have ne : ∀ i, (i < 9 ∨ (11 ≤ i ∧ i < 21)) → ∀ y, bp_I (bp_setI h (C + o) k v) (sa i) y = bp_I h (sa i) y := fun i hi y => bp_u2_ne (Or.inl (by have := c3 i hi; omega))
    refine ⟨c1, c2, c3, fun i i1 i2 => ⟨(c4 i i1 i2).1, fun j hj => by rw [ne i (by omega)]; exact (c4 i i1 i2).2 j hj⟩, c5, c6, c7, fun q hq => ?_, c9⟩
    rw [ne (11 + q) (by omega), ne (11 + q) (by omega), ne (11 + q) (by omega)]
    exact c8 q hq
  · obtain ⟨i1, i2, i3, i4, i5, i6, i7⟩ := v12 a o' j hi
    exact ⟨i1, i2, i3, (bp_u2_ne (Or.inl (by omega))).trans i4, ((bp_u2_ne (Or.inl (by omega))).trans i5).trans (bp_u2_ne (Or.inl (by omega))).symm, i6, i7⟩
theorem bv_V.setL {h : bp_H} (hV : bv_V C sa h s) {o k : Nat} (v : Int64) (_ : o < 1506) : bv_V C sa (bp_setL h (C + o) k v) (bv_L s o k v) := by
  obtain ⟨v1, v2, v3, v4, v5, v6, v7, v8⟩ := hV
  refine ⟨fun x hx => ⟨(v1 x hx).1, (v1 x hx).2.1, fun y => ?_⟩, v2, v3, v4, v5, v6, v7, v8⟩
  show bp_u2 h.2.1 (C + o) k v (C + x) y = bp_u2 s.2.1 o k v x y
  unfold bp_u2
  by_cases hc : x = o ∧ y = k
  · rw [if_pos hc, if_pos ⟨by omega, hc.2⟩]
  · rw [if_neg hc, if_neg (fun z => hc ⟨by omega, z.2⟩)]
    exact (v1 x hx).2.2 y
theorem bv_V.base {h : bp_H} (hV : bv_V C sa h s) : bp_B h ≤ C := hV.2.2.2.2.2.2.1.1
theorem sw_putI {o t f : Nat} {v : Int32} (ho : o < 1506) (ht : (bv_sh o).1 = t) (hl : o ≠ 1 ∧ o ≠ 8) (k : sw C sa P (bv_I s o f v) Q) : sw C sa (bp_putI t f (C + o) v P) s Q := fun h hV => by
  unfold bp_putI
  rw [if_pos ⟨by rw [hV.sh ho]; exact ht, by have := hV.base; omega⟩]
  exact k _ (hV.setI v ho hl)
theorem sw_putZ {o t f : Nat} {v : Int32} (hv : v = 0 ∨ v = 1) (ho : o < 1506) (ht : (bv_sh o).1 = t) (hl : o ≠ 1 ∧ o ≠ 8) (k : sw C sa P (bv_I s o f v) Q) : sw C sa (bp_putZ t f (C + o) v P) s Q := fun h hV => by
  unfold bp_putZ
  rw [if_pos ⟨hv, by rw [hV.sh ho]; exact ht, by have := hV.base; omega⟩]
  exact k _ (hV.setI v ho hl)
theorem sw_putL {o t f : Nat} {v : Int64} (ho : o < 1506) (ht : (bv_sh o).1 = t) (k : sw C sa P (bv_L s o f v) Q) : sw C sa (bp_putL t f (C + o) v P) s Q := fun h hV => by
  unfold bp_putL
  rw [if_pos ⟨by rw [hV.sh ho]; exact ht, by have := hV.base; omega⟩]
  exact k _ (hV.setL v ho)
theorem sw_astI {o : Nat} {i v : Int32} (ho : o < 1506) (ht : (bv_sh o).1 = 20) (hl : o ≠ 1 ∧ o ≠ 8) (hi : ¬ (i < 0 ∨ (bv_sh o).2 ≤ i.toNatClampNeg)) (k : sw C sa P (bv_I s o i.toNatClampNeg v) Q) : sw C sa (bp_astI (C + o) i v P) s Q := fun h hV => by
  unfold bp_astI
  rw [if_pos ⟨by rw [bp_in, hV.sh ho]; exact ⟨ht, hi⟩, by have := hV.base; omega⟩]
  exact k _ (hV.setI v ho hl)
theorem sw_astB {o : Nat} {i v : Int32} (ho : o < 1506) (ht : (bv_sh o).1 = 21) (hl : o ≠ 1 ∧ o ≠ 8) (hi : ¬ (i < 0 ∨ (bv_sh o).2 ≤ i.toNatClampNeg)) (k : sw C sa P (bv_I s o i.toNatClampNeg v.toInt8.toInt32) Q) : sw C sa (bp_astB (C + o) i v P) s Q := fun h hV => by
  unfold bp_astB
  rw [if_pos ⟨by rw [bp_in, hV.sh ho]; exact ⟨ht, hi⟩, by have := hV.base; omega⟩]
  exact k _ (hV.setI v.toInt8.toInt32 ho hl)
theorem sw_astZ {o : Nat} {i v : Int32} (hv : v = 0 ∨ v = 1) (ho : o < 1506) (ht : (bv_sh o).1 = 22) (hl : o ≠ 1 ∧ o ≠ 8) (hi : ¬ (i < 0 ∨ (bv_sh o).2 ≤ i.toNatClampNeg)) (k : sw C sa P (bv_I s o i.toNatClampNeg v) Q) : sw C sa (bp_astZ (C + o) i v P) s Q := fun h hV => by
  unfold bp_astZ
  rw [if_pos ⟨hv, by rw [bp_in, hV.sh ho]; exact ⟨ht, hi⟩, by have := hV.base; omega⟩]
  exact k _ (hV.setI v ho hl)
theorem sw_astL {o : Nat} {i : Int32} {v : Int64} (ho : o < 1506) (ht : (bv_sh o).1 = 23) (hi : ¬ (i < 0 ∨ (bv_sh o).2 ≤ i.toNatClampNeg)) (k : sw C sa P (bv_L s o i.toNatClampNeg v) Q) : sw C sa (bp_astL (C + o) i v P) s Q := fun h hV => by
  unfold bp_astL
  rw [if_pos ⟨by rw [bp_in, hV.sh ho]; exact ⟨ht, hi⟩, by have := hV.base; omega⟩]
  exact k _ (hV.setL v ho)
/-- loops: an invariant and what falls -/
theorem sw_loop {κ σ : Type} {bot : κ} {body : κ → κ} {app : κ → bp_M β} (ap : κ → σ → bp_M β) (a0 : σ) (happ : app = fun k => ap k a0) (I : σ → bv_S → Prop) (μ : σ → bv_S → Nat) (hb : ∀ a s, I a s → μ a s < bv_fu)
    (hs : ∀ (k : κ) a s, I a s → (∀ a' s', I a' s' → μ a' s' < μ a s → sw C sa (ap k a') s' Q) → sw C sa (ap (body k) a) s Q) (h0 : I a0 s) : sw C sa (bp_loop bot body app) s Q := by
  have key : ∀ n a s, I a s → μ a s < n → sw C sa (ap (bp_fix bot body n) a) s Q := by
    intro n
    induction n with
    | zero => intro a s _ h; omega
    | succ n ih => exact fun a s hI hm => hs _ a s hI fun a' s' h1 h2 => ih a' s' h1 (by omega)
  intro h hV
  unfold bp_loop
  rw [hV.2.2.2.2.2.2.2.2.2.2.1, happ]
  exact key bv_fu a0 s h0 (hb _ _ h0) h hV
end SW
