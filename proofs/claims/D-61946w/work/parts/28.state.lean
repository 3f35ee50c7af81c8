/-! The class's state by names of its places -/
set_option maxRecDepth 100000
/-- places of the class's objects by code: 0 order; 1.. bytes written, come, global; 4 read?, fault, pages; 7 sizes of the lists; 9.. the reader: limit, at, last, open, pages, global?; 15.. bytes written, come, global, all; 19.. a segment's page, number, references, lets, bytes, at, gone; 26.. its references, numbers, bytes, rows; 30.. a sheet's stripes, width, height, operator, there?; 35 its rows, 36 its stripes -/
abbrev bL : Type := Nat × Nat × Nat
def la (l : bL) : Nat × Nat := match l.1 with
  | 0 => (0, 0) | 1 => (0, 5) | 2 => (0, 7) | 3 => (0, 9) | 4 => (0, 13) | 5 => (0, 14) | 6 => (0, 15) | 7 => (1, 2) | 8 => (8, 2)
  | 9 => (9, 1) | 10 => (9, 2) | 11 => (9, 3) | 12 => (9, 4) | 13 => (9, 5) | 14 => (9, 6)
  | 15 => (4, l.2.1) | 16 => (5, l.2.1) | 17 => (6, l.2.1) | 18 => (10, l.2.1)
  | 19 => (bv_sg l.2.1, 1) | 20 => (bv_sg l.2.1, 2) | 21 => (bv_sg l.2.1, 4) | 22 => (bv_sg l.2.1, 5) | 23 => (bv_sg l.2.1, 8) | 24 => (bv_sg l.2.1, 10) | 25 => (bv_sg l.2.1, 12)
  | 26 => (bv_sg l.2.1 + 1, l.2.2) | 27 => (bv_sg l.2.1 + 2, l.2.2) | 28 => (bv_sg l.2.1 + 3, l.2.2) | 29 => (bv_sg l.2.1 + 4, l.2.2)
  | 30 => (bv_hp l.2.1, 2) | 31 => (bv_hp l.2.1, 3) | 32 => (bv_hp l.2.1, 4) | 33 => (bv_hp l.2.1, 5) | 34 => (bv_hp l.2.1, 6) | 35 => (bv_hp l.2.1 + 1, l.2.2) | _ => (bv_hp l.2.1 + 2, l.2.2)
def l0 (k : Nat) : Nat := match k with
  | 0 => 0 | 5 => 1 | 7 => 2 | 9 => 3 | 13 => 4 | 14 => 5 | _ => 6
def l3 (k : Nat) : Nat := match k with
  | 1 => 19 | 2 => 20 | 4 => 21 | 5 => 22 | 8 => 23 | 10 => 24 | _ => 25
def ld (x : Nat × Nat) : bL :=
  if x.1 = 0 then (l0 x.2, 0, 0) else if x.1 = 1 then (7, 0, 0) else if x.1 = 8 then (8, 0, 0) else if x.1 = 9 then (x.2 + 8, 0, 0) else if x.1 = 4 then (15, x.2, 0) else if x.1 = 5 then (16, x.2, 0) else if x.1 = 6 then (17, x.2, 0) else if x.1 = 10 then (18, x.2, 0)
  else if x.1 < 41 then (if (x.1 - 11) % 3 = 0 then (28 + x.2, (x.1 - 11) / 3, 0) else ((x.1 - 11) % 3 + 34, (x.1 - 11) / 3, x.2))
  else if (x.1 - 41) % 5 = 0 then (l3 x.2, (x.1 - 41) / 5, 0) else ((x.1 - 41) % 5 + 25, (x.1 - 41) / 5, x.2)
def lok (l : bL) : Prop := ld (la l) = l ∧ (la l).1 < 1471 ∧ ((bv_sh (la l).1).2 = 0 ∨ (la l).2 < (bv_sh (la l).1).2)
/-- a byte as an array holds it -/
def cb (n : Nat) : Int32 := (nI n).toInt8.toInt32
/-- how a place's number is held -/
def lv (l : bL) : Nat → Int32 := match l.1 with
  | 15 => cb | 16 => cb | 17 => cb | 18 => cb | 28 => cb
  | 11 => fun n => nI n - 1 | 12 => fun n => nI n - 1 | 25 => fun n => nI n - 1
  | _ => nI
def iN (x : Int32) : Nat := x.toUInt32.toNat
theorem nI_iN (x : Int32) : nI (iN x) = x := by
  show (⟨UInt32.ofNat x.toUInt32.toNat⟩ : Int32) = x
  rw [UInt32.ofNat_toNat]
/-- ints by place; segments' lengths and kinds; bounds of size and slots -/
abbrev bT : Type := (bL → Nat) × (Nat → Nat) × (Nat → Nat) × Nat × Nat × Option (Nat × Nat × Nat)
def ti (t : bT) (l : bL) : Nat := t.1 l
def tL (t : bT) (g : Nat) : Nat := t.2.1 g
def tk (t : bT) (g : Nat) : Nat := t.2.2.1 g
def tz (t : bT) : Nat := t.2.2.2.1
def tm (t : bT) : Nat := t.2.2.2.2.1
def tt (t : bT) : Option (Nat × Nat × Nat) := t.2.2.2.2.2
def si (t : bT) (l : bL) (v : Nat) : bT := (fun x => if x = l then v else t.1 x, t.2)
def sL (t : bT) (g v : Nat) : bT := (t.1, (fun x => if x = g then v else t.2.1 x), t.2.2)
def sk (t : bT) (g v : Nat) : bT := (t.1, t.2.1, (fun x => if x = g then v else t.2.2.1 x), t.2.2.2)
def sz (t : bT) (a b : Nat) : bT := (t.1, t.2.1, t.2.2.1, t.2.2.2.1 + a, t.2.2.2.2.1 + b, t.2.2.2.2.2)
def st (t : bT) (x : Option (Nat × Nat × Nat)) : bT := (t.1, t.2.1, t.2.2.1, t.2.2.2.1, t.2.2.2.2.1, x)
theorem lok.inj {l l' : bL} (h : lok l) (h' : lok l') (e : la l = la l') : l = l' := by
  rw [← h.1, ← h'.1, e]
def bR (s0 s : bv_S) (t : bT) : Prop :=
  (∀ l : bL, lok l → bv_i s (la l).1 (la l).2 = lv l (ti t l)) ∧ (∀ g, g < 286 → bv_l s (bv_sg g) 11 = Int64.ofNat (tL t g)) ∧ (∀ g, g < 286 → bv_k s g = tk t g) ∧
  (bv_Z s ≤ tz t + (bv_c s 1 + bv_c s 8)) ∧ (bv_N s ≤ tm t + 4 * (bv_c s 1 + bv_c s 8)) ∧ (∀ x, tt t = some x → bv_it s = some x) ∧ ∀ o, 1471 ≤ o → (∀ k, bv_i s o k = bv_i s0 o k) ∧ ∀ k, bv_l s o k = bv_l s0 o k
theorem bR.s {s0 s : bv_S} {t : bT} (h : bR s0 s t) {l : bL} (hl : lok l) {v : Int32} {n : Nat} (hv : v = lv l n) : bR s0 (bv_I s (la l).1 (la l).2 v) (si t l n) := by
  obtain ⟨h1, h2, h3, h4, h5, h7, h6⟩ := h
  refine ⟨fun x hx => ?_, h2, h3, h4, h5, h7, fun o ho => ⟨fun k => ?_, (h6 o ho).2⟩⟩
  · show (if (la x).1 = (la l).1 ∧ (la x).2 = (la l).2 then v else bv_i s (la x).1 (la x).2) = lv x (if x = l then n else ti t x)
    by_cases hc : x = l
    · subst hc
      rw [if_pos ⟨rfl, rfl⟩, if_pos rfl]; exact hv
    · rw [if_neg hc, if_neg (fun z => hc (lok.inj hx hl (Prod.ext z.1 z.2)))]
      exact h1 x hx
  · have := hl.2.1
    rw [bv_iIn (Or.inl (by omega))]
    exact (h6 o ho).1 k
theorem bR.sL {s0 s : bv_S} {t : bT} (h : bR s0 s t) {g n : Nat} (hg : g < 286) : bR s0 (bv_L s (bv_sg g) 11 (Int64.ofNat n)) (sL t g n) := by
  obtain ⟨h1, h2, h3, h4, h5, h7, h6⟩ := h
  refine ⟨h1, fun x hx => ?_, h3, h4, h5, h7, fun o ho => ⟨(h6 o ho).1, fun k => ?_⟩⟩
  · show (if bv_sg x = bv_sg g ∧ 11 = 11 then Int64.ofNat n else bv_l s (bv_sg x) 11) = Int64.ofNat (if x = g then n else tL t x)
    by_cases hc : x = g
    · rw [if_pos hc, if_pos ⟨by rw [hc], rfl⟩]
    · rw [if_neg hc, if_neg (fun z => hc (by have := z.1; unfold bv_sg at this; omega))]
      exact h2 x hx
  · rw [bv_lL, if_neg (by unfold bv_sg; omega)]
    exact (h6 o ho).2 k
section TW
variable {α β : Type} {C : Nat} {sa : Nat → Nat} {s0 : bv_S} {P P1 P2 : bp_M β} {t : bT} {Q : (bv_E ⊕ β) → bT → Prop}
def tw {β : Type} (C : Nat) (sa : Nat → Nat) (s0 : bv_S) (P : bp_M β) (t : bT) (Q : (bv_E ⊕ β) → bT → Prop) : Prop :=
  ∀ s, bR s0 s t → sw C sa P s (fun r s1 => ∃ t1, bR s0 s1 t1 ∧ Q r t1)
def tq {β : Type} (Q : β → bT → Prop) : (bv_E ⊕ β) → bT → Prop := fun r t => ∃ v, r = .inr v ∧ Q v t
theorem tw_mono {Q' : (bv_E ⊕ β) → bT → Prop} (k : tw C sa s0 P t Q') (hq : ∀ r t1, Q' r t1 → Q r t1) : tw C sa s0 P t Q := fun s hR => sw_mono (k s hR) fun r s1 ⟨t1, a, b⟩ => ⟨t1, a, hq _ _ b⟩
theorem tw_ret {v : β} (k : Q (.inr v) t) : tw C sa s0 (bp_ret v) t Q := fun s hR => sw_ret ⟨t, hR, k⟩
theorem tw_retZ {v : Int32} {Q : (bv_E ⊕ Int32) → bT → Prop} (hv : v = 0 ∨ v = 1) (k : Q (.inr v) t) : tw C sa s0 (bp_retZ v) t Q := fun s hR => sw_retZ hv ⟨t, hR, k⟩
theorem tw_thr {a b : Nat} (ha : a ≠ 5) (k : ∀ f p, Q (.inl (a, b, f, p)) t) : tw C sa s0 (bp_thr a b) t Q := fun s hR => sw_thr ha fun f p => ⟨t, hR, k f p⟩
theorem tw_bind {f : bp_M α} {K : α → bp_M β} (k : tw C sa s0 f t (fun r t1 => match r with | .inl e => Q (.inl e) t1 | .inr v => tw C sa s0 (K v) t1 Q)) : tw C sa s0 (bp_bind f K) t Q := fun s hR => sw_bind (sw_mono (k s hR) fun r s1 ⟨t1, a, b⟩ => by
  cases r with
  | inl e => exact ⟨t1, a, b⟩
  | inr v => exact b s1 a)
theorem tw_bindN {f : bp_M α} {K : α → bp_M β} (k : tw C sa s0 f t (tq fun v t1 => tw C sa s0 (K v) t1 Q)) : tw C sa s0 (bp_bind f K) t Q := tw_bind (tw_mono k fun r t1 q => by
  obtain ⟨v, rfl, q⟩ := q
  exact q)
theorem tw_try {f : bp_M α} {K : α → bp_M β} {X : Nat → Nat → bp_M β} (k : tw C sa s0 f t (fun r t1 => match r with | .inl e => e.1 ≠ 5 ∧ e.1 ≠ 6 ∧ tw C sa s0 (X e.1 e.2.1) t1 Q | .inr v => tw C sa s0 (K v) t1 Q)) : tw C sa s0 (bp_try f K X) t Q := fun s hR => sw_try (sw_mono (k s hR) fun r s1 ⟨t1, a, b⟩ => by
  cases r with
  | inl e => exact ⟨b.1, b.2.1, b.2.2 s1 a⟩
  | inr v => exact b s1 a)
theorem tw_if {c : Prop} [Decidable c] (k1 : c → tw C sa s0 P1 t Q) (k2 : ¬ c → tw C sa s0 P2 t Q) : tw C sa s0 (bp_if c P1 P2) t Q := fun s hR => sw_if (fun h => k1 h s hR) (fun h => k2 h s hR)
theorem tw_ifT {c : Prop} [Decidable c] (hc : c) (k1 : tw C sa s0 P1 t Q) : tw C sa s0 (bp_if c P1 P2) t Q := tw_if (fun _ => k1) (fun n => absurd hc n)
theorem tw_ifF {c : Prop} [Decidable c] (hc : ¬ c) (k2 : tw C sa s0 P2 t Q) : tw C sa s0 (bp_if c P1 P2) t Q := tw_if (fun n => absurd n hc) (fun _ => k2)
theorem tw_letI {v : Int32} {K : Int32 → bp_M β} (k : tw C sa s0 (K v) t Q) : tw C sa s0 (bp_letI v K) t Q := k
theorem tw_letL {v : Int64} {K : Int64 → bp_M β} (k : tw C sa s0 (K v) t Q) : tw C sa s0 (bp_letL v K) t Q := k
theorem tw_jn {κ : Sort _} {b : κ → bp_M β} {K : κ} (k : tw C sa s0 (b K) t Q) : tw C sa s0 (bp_jn b K) t Q := k
theorem tw_jnV {b : (α → bp_M β) → bp_M β} {K : α → bp_M β} (e : α) (k : ∀ K' : α → bp_M β, tw C sa s0 (K' e) t Q → tw C sa s0 (b K') t Q) (kk : tw C sa s0 (K e) t Q) : tw C sa s0 (bp_jn b K) t Q := k K kk
/-- a join without a value: what holds there -/
theorem tw_jnP {b : bp_M β → bp_M β} {K : bp_M β} (I : bT → Prop) (k : ∀ K' : bp_M β, (∀ t', I t' → tw C sa s0 K' t' Q) → tw C sa s0 (b K') t Q) (kk : ∀ t', I t' → tw C sa s0 K t' Q) : tw C sa s0 (bp_jn b K) t Q := k K kk
/-- a join with a value: what holds there -/
theorem tw_jnW {b : (α → bp_M β) → bp_M β} {K : α → bp_M β} (I : α → bT → Prop) (k : ∀ K' : α → bp_M β, (∀ v t', I v t' → tw C sa s0 (K' v) t' Q) → tw C sa s0 (b K') t Q) (kk : ∀ v t', I v t' → tw C sa s0 (K v) t' Q) : tw C sa s0 (bp_jn b K) t Q := k K kk
theorem tw_nz {y : Int32} (hy : y ≠ 0) (k : tw C sa s0 P t Q) : tw C sa s0 (bp_nz y P) t Q := fun s hR => sw_nz hy (k s hR)
theorem tw_nnS {a : Nat} {K : Nat → bp_M β} (k : tw C sa s0 (K a) t Q) : tw C sa s0 (bp_nn (some a) K) t Q := k
theorem tw_is {o T : Nat} (ho : o < 1506) (ht : (bv_sh o).1 = T) (k : tw C sa s0 P t Q) : tw C sa s0 (bp_is T (C + o) P) t Q := fun s hR => sw_is ho ht (k s hR)
theorem tw_getNx {o T f x : Nat} {K : Nat → bp_M β} (ho : o < 1506) (ht : (bv_sh o).1 = T) (hr : ∀ h s, bv_V C sa h s → bp_R h (C + o) f = some x) (k : tw C sa s0 (K x) t Q) : tw C sa s0 (bp_getN T f (C + o) K) t Q := fun s hR => sw_getNx ho ht (fun h => hr h s) (k s hR)
theorem tw_getN {o T f x : Nat} {K : Nat → bp_M β} (hx : bv_rf o f = some x) (ho : o < 1506) (ht : (bv_sh o).1 = T) (k : tw C sa s0 (K (C + x)) t Q) : tw C sa s0 (bp_getN T f (C + o) K) t Q := tw_getNx ho ht (fun _ _ hV => hV.2.1.1 _ _ _ hx) k
theorem tw_alen {o T : Nat} {K : Int32 → bp_M β} (ho : o < 1506) (ht : (bv_sh o).1 = T) (k : tw C sa s0 (K (Int32.ofNat (bv_sh o).2)) t Q) : tw C sa s0 (bp_alen T (C + o) K) t Q := fun s hR => sw_alen ho ht (k s hR)
theorem tw_getI (l : bL) (hl : lok l) {T : Nat} {K : Int32 → bp_M β} (ht : (bv_sh (la l).1).1 = T) (k : tw C sa s0 (K (lv l (ti t l))) t Q) : tw C sa s0 (bp_getI T (la l).2 (C + (la l).1) K) t Q := fun s hR => sw_getI (by have := hl.2.1; omega) ht (by rw [hR.1 l hl]; exact k s hR)
theorem tw_aldI (l : bL) (hl : lok l) {T : Nat} {i : Int32} {K : Int32 → bp_M β} (ht : (bv_sh (la l).1).1 = T) (hi : i = nI (la l).2) (hb : (la l).2 < (bv_sh (la l).1).2) (hb2 : (bv_sh (la l).1).2 < 2 ^ 31) (k : tw C sa s0 (K (lv l (ti t l))) t Q) : tw C sa s0 (bp_aldI T (C + (la l).1) i K) t Q := fun s hR => by
  subst hi
  exact sw_aldI (by have := hl.2.1; omega) ht (bv_in hb hb2) (by rw [nI_clamp (by omega), hR.1 l hl]; exact k s hR)
theorem tw_putI (l : bL) (hl : lok l) {T n : Nat} {v : Int32} (hv : v = lv l n) (ht : (bv_sh (la l).1).1 = T) (hn : (la l).1 ≠ 1 ∧ (la l).1 ≠ 8) (k : tw C sa s0 P (si t l n) Q) : tw C sa s0 (bp_putI T (la l).2 (C + (la l).1) v P) t Q := fun s hR => sw_putI (by have := hl.2.1; omega) ht hn (k _ (hR.s hl hv))
theorem tw_putZ (l : bL) (hl : lok l) {T n : Nat} {v : Int32} (hz : v = 0 ∨ v = 1) (hv : v = lv l n) (ht : (bv_sh (la l).1).1 = T) (hn : (la l).1 ≠ 1 ∧ (la l).1 ≠ 8) (k : tw C sa s0 P (si t l n) Q) : tw C sa s0 (bp_putZ T (la l).2 (C + (la l).1) v P) t Q := fun s hR => sw_putZ hz (by have := hl.2.1; omega) ht hn (k _ (hR.s hl hv))
theorem tw_astI (l : bL) (hl : lok l) {n : Nat} {i v : Int32} (hi : i = nI (la l).2) (hv : v = lv l n) (ht : (bv_sh (la l).1).1 = 20) (hb : (la l).2 < (bv_sh (la l).1).2) (hb2 : (bv_sh (la l).1).2 < 2 ^ 31) (hn : (la l).1 ≠ 1 ∧ (la l).1 ≠ 8) (k : tw C sa s0 P (si t l n) Q) : tw C sa s0 (bp_astI (C + (la l).1) i v P) t Q := fun s hR => by
  subst hi
  exact sw_astI (by have := hl.2.1; omega) ht hn (bv_in hb hb2) (by rw [nI_clamp (by omega)]; exact k _ (hR.s hl hv))
theorem tw_astB (l : bL) (hl : lok l) {n : Nat} {i v : Int32} (hi : i = nI (la l).2) (hv : v.toInt8.toInt32 = lv l n) (ht : (bv_sh (la l).1).1 = 21) (hb : (la l).2 < (bv_sh (la l).1).2) (hb2 : (bv_sh (la l).1).2 < 2 ^ 31) (hn : (la l).1 ≠ 1 ∧ (la l).1 ≠ 8) (k : tw C sa s0 P (si t l n) Q) : tw C sa s0 (bp_astB (C + (la l).1) i v P) t Q := fun s hR => by
  subst hi
  exact sw_astB (by have := hl.2.1; omega) ht hn (bv_in hb hb2) (by rw [nI_clamp (by omega)]; exact k _ (hR.s hl hv))
theorem tw_getL {g : Nat} (hg : g < 286) {K : Int64 → bp_M β} (k : tw C sa s0 (K (Int64.ofNat (tL t g))) t Q) : tw C sa s0 (bp_getL 3 11 (C + bv_sg g) K) t Q := fun s hR => sw_getL (by unfold bv_sg; omega) (by
  unfold bv_sh bv_sg
  rw [if_neg (by omega), if_neg (by omega), if_pos (by omega), show (41 + 5 * g - 41) % 5 = 0 by omega]; rfl) (by rw [hR.2.1 g hg]; exact k s hR)
theorem tw_throw0 {k : Nat} (hk : k ≠ 5) (kk : ∀ e, Q (.inl (k, e)) (sz t 1 6)) : tw C sa s0 (bp_throw0 k) t Q := fun s hR => sw_throw0 hk fun e => by
  obtain ⟨h1, h2, h3, h4, h5, h7, h6⟩ := hR
  refine ⟨sz t 1 6, ⟨h1, h2, h3, ?_, ?_, h7, h6⟩, kk e⟩
  · show bv_Z s + 1 ≤ tz t + 1 + (bv_c s 1 + bv_c s 8)
    omega
  · show bv_N s + 6 ≤ tm t + 6 + 4 * (bv_c s 1 + bv_c s 8)
    omega
/-- loops -/
theorem tw_loop {κ σ : Type} {bot : κ} {body : κ → κ} {app : κ → bp_M β} (ap : κ → σ → bp_M β) (a0 : σ) (happ : app = fun k => ap k a0) (I : σ → bT → Prop) (μ : σ → bT → Nat) (hb : ∀ a t, I a t → μ a t < bv_fu)
    (hs : ∀ (k : κ) a t, I a t → (∀ a' t', I a' t' → μ a' t' < μ a t → tw C sa s0 (ap k a') t' Q) → tw C sa s0 (ap (body k) a) t Q) (h0 : I a0 t) : tw C sa s0 (bp_loop bot body app) t Q := by
  have key : ∀ n a t, I a t → μ a t < n → tw C sa s0 (ap (bp_fix bot body n) a) t Q := by
    intro n
    induction n with
    | zero => intro a t _ h; omega
    | succ n ih => exact fun a t hI hm => hs _ a t hI fun a' t' h1 h2 => ih a' t' h1 (by omega)
  intro s hR h hV
  unfold bp_loop
  rw [hV.2.2.2.2.2.2.2.2.2.2.1, happ]
  exact key bv_fu a0 t h0 (hb _ _ h0) s hR h hV
end TW
