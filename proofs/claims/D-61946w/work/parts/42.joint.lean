/-! Runs whose outcome is known: of the class (tE), of the reference (sE) -/
set_option maxRecDepth 100000
abbrev bF : Type := Nat × Int32 × Int32
/-- what was thrown: its kind; of kind 5 the fault and the place -/
def fo {β : Type} : (bv_E ⊕ β) → (bF ⊕ β)
  | .inl e => .inl (if e.1 = 5 then (5, e.2.2.1, e.2.2.2) else (e.1, 0, 0))
  | .inr v => .inr v
section TE
variable {α β : Type} {C : Nat} {sa : Nat → Nat} {P P' P1 P2 : bp_M β} {t t' t1 : bT} {Q : (bF ⊕ β) → bT → Prop}
def tD {β : Type} (C : Nat) (sa : Nat → Nat) (P : bp_M β) (t : bT) (r : bF ⊕ β) (t1 : bT) : Prop := ∀ s0, tw C sa s0 P t (fun r' t' => fo r' = r ∧ t' = t1)
def tE {β : Type} (C : Nat) (sa : Nat → Nat) (P : bp_M β) (t : bT) (Q : (bF ⊕ β) → bT → Prop) : Prop := ∃ r t1, tD C sa P t r t1 ∧ Q r t1
theorem tE_up (k : ∀ s0 (Q' : (bv_E ⊕ β) → bT → Prop), tw C sa s0 P' t' Q' → tw C sa s0 P t Q') (h : tE C sa P' t' Q) : tE C sa P t Q := by
  obtain ⟨r, t1, a, b⟩ := h
  exact ⟨r, t1, fun s0 => k s0 _ (a s0), b⟩
theorem tE_mono {Q' : (bF ⊕ β) → bT → Prop} (k : tE C sa P t Q') (hq : ∀ r t1, Q' r t1 → Q r t1) : tE C sa P t Q := by
  obtain ⟨r, t1, a, b⟩ := k
  exact ⟨r, t1, a, hq _ _ b⟩
theorem tE_ret {v : β} (k : Q (.inr v) t) : tE C sa (bp_ret v) t Q := ⟨.inr v, t, fun _ => tw_ret ⟨rfl, rfl⟩, k⟩
theorem tE_retZ {v : Int32} {Q : (bF ⊕ Int32) → bT → Prop} (hv : v = 0 ∨ v = 1) (k : Q (.inr v) t) : tE C sa (bp_retZ v) t Q := ⟨.inr v, t, fun _ => tw_retZ hv ⟨rfl, rfl⟩, k⟩
theorem tE_of {v : β} (k : ∀ s0 (Q' : (bv_E ⊕ β) → bT → Prop), Q' (.inr v) t1 → tw C sa s0 P t Q') (q : Q (.inr v) t1) : tE C sa P t Q := ⟨.inr v, t1, fun s0 => k s0 _ ⟨rfl, rfl⟩, q⟩
theorem tE_ifT {c : Prop} [Decidable c] (h : c) (k1 : tE C sa P1 t Q) : tE C sa (bp_if c P1 P2) t Q := tE_up (fun _ _ => tw_ifT h) k1
theorem tE_ifF {c : Prop} [Decidable c] (h : ¬ c) (k2 : tE C sa P2 t Q) : tE C sa (bp_if c P1 P2) t Q := tE_up (fun _ _ => tw_ifF h) k2
theorem tE_if {c : Prop} [Decidable c] (k1 : c → tE C sa P1 t Q) (k2 : ¬ c → tE C sa P2 t Q) : tE C sa (bp_if c P1 P2) t Q := by
  by_cases h : c
  · exact tE_ifT h (k1 h)
  · exact tE_ifF h (k2 h)
theorem fo_l {e : bv_E} {x : bF} (q : fo (.inl e : bv_E ⊕ α) = .inl x) : fo (.inl e : bv_E ⊕ β) = .inl x := congrArg Sum.inl (Sum.inl.inj q)
theorem fo_lr {e : bv_E} {v : α} (q : fo (.inl e : bv_E ⊕ α) = .inr v) : False := by
  have q2 : (Sum.inl (if e.1 = 5 then (5, e.2.2.1, e.2.2.2) else (e.1, 0, 0)) : bF ⊕ α) = .inr v := q
  cases q2
theorem fo_rl {e : bF} {v : α} (q : fo (.inr v : bv_E ⊕ α) = .inl e) : False := by
  have q2 : (Sum.inr v : bF ⊕ α) = .inl e := q
  cases q2
theorem fo_r {v w : α} (q : fo (.inr v : bv_E ⊕ α) = .inr w) : v = w := Sum.inr.inj q
theorem tE_bind {f : bp_M α} {K : α → bp_M β} (k : tE C sa f t (fun r t1 => match r with | .inl e => Q (.inl e) t1 | .inr v => tE C sa (K v) t1 Q)) : tE C sa (bp_bind f K) t Q := by
  obtain ⟨r, t1, a, b⟩ := k
  cases r with
  | inl e =>
    refine ⟨.inl e, t1, fun s0 => tw_bind (tw_mono (a s0) fun r' t' q => ?_), b⟩
    obtain ⟨q1, rfl⟩ := q
    cases r' with
    | inl e' => exact ⟨fo_l q1, rfl⟩
    | inr v => exact (fo_rl q1).elim
  | inr v =>
    obtain ⟨r2, t2, a2, b2⟩ := b
    refine ⟨r2, t2, fun s0 => tw_bind (tw_mono (a s0) fun r' t' q => ?_), b2⟩
    obtain ⟨q1, rfl⟩ := q
    cases r' with
    | inl e' => exact (fo_lr q1).elim
    | inr v' =>
      have q2 := fo_r q1
      subst q2
      exact a2 s0
theorem tE_bindD {f : bp_M α} {K : α → bp_M β} {v : α} (hf : tD C sa f t (.inr v) t1) (k : tE C sa (K v) t1 Q) : tE C sa (bp_bind f K) t Q := tE_bind ⟨_, _, hf, k⟩
theorem tE_bindX {f : bp_M α} {K : α → bp_M β} {e : bF} (hf : tD C sa f t (.inl e) t1) (k : Q (.inl e) t1) : tE C sa (bp_bind f K) t Q := tE_bind ⟨_, _, hf, k⟩
theorem tE_bindV {f : bp_M α} {K : α → bp_M β} {v : α} (hf : ∀ s0 (Q' : (bv_E ⊕ α) → bT → Prop), Q' (.inr v) t1 → tw C sa s0 f t Q') (k : tE C sa (K v) t1 Q) : tE C sa (bp_bind f K) t Q := tE_bindD (fun s0 => hf s0 _ ⟨rfl, rfl⟩) k
theorem tE_isD {o T : Nat} {r : bF ⊕ β} (ho : o < 1506) (ht : (bv_sh o).1 = T) (h : tD C sa P t r t1) : tD C sa (bp_is T (C + o) P) t r t1 := fun s0 => tw_is ho ht (h s0)
theorem tE_is {o T : Nat} (ho : o < 1506) (ht : (bv_sh o).1 = T) (h : tE C sa P t Q) : tE C sa (bp_is T (C + o) P) t Q := tE_up (fun _ _ k => tw_is ho ht k) h
/-- calls -/
theorem tE_c0 {f : bp_M α} {K : α → bp_M β} (k : tE C sa f t (fun r t1 => match r with | .inl e => Q (.inl e) t1 | .inr v => tE C sa (K v) t1 Q)) : tE C sa (bp_bind (bp_is 0 (C + 0) f) K) t Q := tE_bind (tE_is (by decide) rfl k)
theorem tE_c9 {f : bp_M α} {K : α → bp_M β} (k : tE C sa f t (fun r t1 => match r with | .inl e => Q (.inl e) t1 | .inr v => tE C sa (K v) t1 Q)) : tE C sa (bp_bind (bp_is 1 (C + 9) f) K) t Q := tE_bind (tE_is (by decide) rfl k)
theorem tE_cg {g : Nat} (hg : g < 286) {f : bp_M α} {K : α → bp_M β} (k : tE C sa f t (fun r t1 => match r with | .inl e => Q (.inl e) t1 | .inr v => tE C sa (K v) t1 Q)) : tE C sa (bp_bind (bp_is 3 (C + bv_sg g) f) K) t Q := tE_bind (tE_is (by have := sg_lt (r := 0) hg (by omega); omega) (by rw [sh_sg0 hg]) k)
theorem tE_cp {p : Nat} (hp : p < 10) {f : bp_M α} {K : α → bp_M β} (k : tE C sa f t (fun r t1 => match r with | .inl e => Q (.inl e) t1 | .inr v => tE C sa (K v) t1 Q)) : tE C sa (bp_bind (bp_is 2 (C + bv_hp p) f) K) t Q := tE_bind (tE_is (by have := hp_lt (r := 0) hp (by omega); omega) (by rw [sh_hp0 hp]) k)
theorem tE_c0V {f : bp_M α} {K : α → bp_M β} {v : α} (hf : ∀ s0 (Q' : (bv_E ⊕ α) → bT → Prop), Q' (.inr v) t1 → tw C sa s0 f t Q') (k : tE C sa (K v) t1 Q) : tE C sa (bp_bind (bp_is 0 (C + 0) f) K) t Q := tE_c0 ⟨.inr v, t1, fun s0 => hf s0 _ ⟨rfl, rfl⟩, k⟩
theorem tE_c9V {f : bp_M α} {K : α → bp_M β} {v : α} (hf : ∀ s0 (Q' : (bv_E ⊕ α) → bT → Prop), Q' (.inr v) t1 → tw C sa s0 f t Q') (k : tE C sa (K v) t1 Q) : tE C sa (bp_bind (bp_is 1 (C + 9) f) K) t Q := tE_c9 ⟨.inr v, t1, fun s0 => hf s0 _ ⟨rfl, rfl⟩, k⟩
theorem tE_cgV {g : Nat} (hg : g < 286) {f : bp_M α} {K : α → bp_M β} {v : α} (hf : ∀ s0 (Q' : (bv_E ⊕ α) → bT → Prop), Q' (.inr v) t1 → tw C sa s0 f t Q') (k : tE C sa (K v) t1 Q) : tE C sa (bp_bind (bp_is 3 (C + bv_sg g) f) K) t Q := tE_cg hg ⟨.inr v, t1, fun s0 => hf s0 _ ⟨rfl, rfl⟩, k⟩
theorem tE_cpV {p : Nat} (hp : p < 10) {f : bp_M α} {K : α → bp_M β} {v : α} (hf : ∀ s0 (Q' : (bv_E ⊕ α) → bT → Prop), Q' (.inr v) t1 → tw C sa s0 f t Q') (k : tE C sa (K v) t1 Q) : tE C sa (bp_bind (bp_is 2 (C + bv_hp p) f) K) t Q := tE_cp hp ⟨.inr v, t1, fun s0 => hf s0 _ ⟨rfl, rfl⟩, k⟩
/-- lists' calls: 1 the told segments, 8 the found -/
theorem tE_c1V {f : bp_M α} {K : α → bp_M β} {v : α} (hf : ∀ s0 (Q' : (bv_E ⊕ α) → bT → Prop), Q' (.inr v) t1 → tw C sa s0 f t Q') (k : tE C sa (K v) t1 Q) : tE C sa (bp_bind (bp_is 6 (C + 1) f) K) t Q := tE_bind (tE_is (by decide) rfl ⟨.inr v, t1, fun s0 => hf s0 _ ⟨rfl, rfl⟩, k⟩)
theorem tE_c8V {f : bp_M α} {K : α → bp_M β} {v : α} (hf : ∀ s0 (Q' : (bv_E ⊕ α) → bT → Prop), Q' (.inr v) t1 → tw C sa s0 f t Q') (k : tE C sa (K v) t1 Q) : tE C sa (bp_bind (bp_is 6 (C + 8) f) K) t Q := tE_bind (tE_is (by decide) rfl ⟨.inr v, t1, fun s0 => hf s0 _ ⟨rfl, rfl⟩, k⟩)
theorem tE_jn {κ : Sort _} {b : κ → bp_M β} {K : κ} (k : tE C sa (b K) t Q) : tE C sa (bp_jn b K) t Q := k
/-- a join, all roads to which bring the value e and leave the state -/
theorem tE_jnV {b : (α → bp_M β) → bp_M β} {K : α → bp_M β} (e : α) (k : ∀ K' : α → bp_M β, tE C sa (K' e) t Q → tE C sa (b K') t Q) (kk : tE C sa (K e) t Q) : tE C sa (bp_jn b K) t Q := k K kk
theorem tE_jnP {b : bp_M β → bp_M β} {K : bp_M β} (I : bT → Prop) (k : ∀ K' : bp_M β, (∀ t', I t' → tE C sa K' t' Q) → tE C sa (b K') t Q) (kk : ∀ t', I t' → tE C sa K t' Q) : tE C sa (bp_jn b K) t Q := k K kk
theorem tE_jnW {b : (α → bp_M β) → bp_M β} {K : α → bp_M β} (I : α → bT → Prop) (k : ∀ K' : α → bp_M β, (∀ v t', I v t' → tE C sa (K' v) t' Q) → tE C sa (b K') t Q) (kk : ∀ v t', I v t' → tE C sa (K v) t' Q) : tE C sa (bp_jn b K) t Q := k K kk
theorem tE_letI {v : Int32} {K : Int32 → bp_M β} (k : tE C sa (K v) t Q) : tE C sa (bp_letI v K) t Q := k
theorem tE_letL {v : Int64} {K : Int64 → bp_M β} (k : tE C sa (K v) t Q) : tE C sa (bp_letL v K) t Q := k
theorem tE_nz {y : Int32} (hy : y ≠ 0) (k : tE C sa P t Q) : tE C sa (bp_nz y P) t Q := tE_up (fun _ _ k => tw_nz hy k) k
theorem tE_nnS {a : Nat} {K : Nat → bp_M β} (k : tE C sa (K a) t Q) : tE C sa (bp_nn (some a) K) t Q := k
theorem tw_loopF {κ : Type} {bot : κ} {body : κ → κ} {app : κ → bp_M β} {s0 : bv_S} {Q : (bv_E ⊕ β) → bT → Prop} (k : tw C sa s0 (app (bp_fix bot body bv_fu)) t Q) : tw C sa s0 (bp_loop bot body app) t Q := fun s hR h hV => by
  unfold bp_loop
  rw [hV.2.2.2.2.2.2.2.2.2.2.1]
  exact k s hR h hV
theorem tE_loopF {κ : Type} {bot : κ} {body : κ → κ} {app : κ → bp_M β} (k : tE C sa (app (bp_fix bot body bv_fu)) t Q) : tE C sa (bp_loop bot body app) t Q := tE_up (fun _ _ => tw_loopF) k
theorem tE_loop {κ σ : Type} {bot : κ} {body : κ → κ} {app : κ → bp_M β} (ap : κ → σ → bp_M β) (a0 : σ) (happ : app = fun k => ap k a0) (I : σ → bT → Prop) (μ : σ → bT → Nat) (hb : ∀ a t, I a t → μ a t < bv_fu)
    (hs : ∀ (k : κ) a t, I a t → (∀ a' t', I a' t' → μ a' t' < μ a t → tE C sa (ap k a') t' Q) → tE C sa (ap (body k) a) t Q) (h0 : I a0 t) : tE C sa (bp_loop bot body app) t Q := by
  have key : ∀ n a t, I a t → μ a t < n → tE C sa (ap (bp_fix bot body n) a) t Q := by
    intro n
    induction n with
    | zero => intro a t _ h; omega
    | succ n ih => exact fun a t hI hm => hs _ a t hI fun a' t' h1 h2 => ih a' t' h1 (by omega)
  refine tE_loopF ?_
  rw [happ]
  exact key bv_fu a0 t h0 (hb _ _ h0)
/-- tests -/
theorem tE_need {c : Prop} [Decidable c] {f p : Int32} {K : Unit → bp_M β} (k1 : c → tE C sa (K ()) t Q) (k2 : ¬ c → Q (.inl (5, f, p)) (st (sz t 1 8) none)) : tE C sa (bp_bind (PX1_need (bz c) f p) K) t Q := by
  by_cases h : c
  · exact tE_bindV (fun s0 Q' q => t_need (fun _ => q) (fun z => absurd h z)) (k1 h)
  · exact tE_bindX (fun s0 => t_need (fun z => absurd z h) (fun _ a => ⟨rfl, rfl⟩)) (k2 h)
theorem tE_want {c : Prop} [Decidable c] {K : Unit → bp_M β} (k1 : c → tE C sa (K ()) t Q) (k2 : ¬ c → Q (.inl (1, 0, 0)) (sz t 1 6)) : tE C sa (bp_bind (PX1_want (bz c)) K) t Q := by
  rw [p_want]
  exact tE_bind (tE_if (fun h => tE_ret (k1 h)) fun h => ⟨.inl (1, 0, 0), sz t 1 6, fun s0 => tw_throw0 (by decide) fun e => ⟨rfl, rfl⟩, k2 h⟩)
theorem tE_wantRoom {c : Prop} [Decidable c] {K : Unit → bp_M β} (k1 : c → tE C sa (K ()) t Q) (k2 : ¬ c → Q (.inl (2, 0, 0)) (sz t 1 6)) : tE C sa (bp_bind (PX1_wantRoom (bz c)) K) t Q := by
  rw [p_wantRoom]
  exact tE_bind (tE_if (fun h => tE_ret (k1 h)) fun h => ⟨.inl (2, 0, 0), sz t 1 6, fun s0 => tw_throw0 (by decide) fun e => ⟨rfl, rfl⟩, k2 h⟩)
theorem tE_allow {c : Prop} [Decidable c] {K : Unit → bp_M β} (k1 : c → tE C sa (K ()) t Q) (k2 : ¬ c → Q (.inl (3, 0, 0)) (sz t 1 6)) : tE C sa (bp_bind (PX1_allow (bz c)) K) t Q := by
  rw [p_allow]
  exact tE_bind (tE_if (fun h => tE_ret (k1 h)) fun h => ⟨.inl (3, 0, 0), sz t 1 6, fun s0 => tw_throw0 (by decide) fun e => ⟨rfl, rfl⟩, k2 h⟩)
theorem tE_wantIndex {c : Prop} [Decidable c] {K : Unit → bp_M β} (k1 : c → tE C sa (K ()) t Q) (k2 : ¬ c → Q (.inl (4, 0, 0)) (sz t 1 6)) : tE C sa (bp_bind (PX1_wantIndex (bz c)) K) t Q := by
  rw [p_wantIndex]
  exact tE_bind (tE_if (fun h => tE_ret (k1 h)) fun h => ⟨.inl (4, 0, 0), sz t 1 6, fun s0 => tw_throw0 (by decide) fun e => ⟨rfl, rfl⟩, k2 h⟩)
theorem tE_ifK {a b : Nat} [Decidable (some (sa (11 + a)) = some (sa (11 + b)))] (ha : a < 10) (hb : b < 10) (k1 : a = b → tE C sa P1 t Q) (k2 : a ≠ b → tE C sa P2 t Q) : tE C sa (bp_if (some (sa (11 + a)) = some (sa (11 + b))) P1 P2) t Q := by
  by_cases h : a = b
  · exact tE_up (fun _ _ k => t_ifK ha hb (fun _ => k) (fun z => absurd h z)) (k1 h)
  · exact tE_up (fun _ _ k => t_ifK ha hb (fun z => absurd z h) (fun _ => k)) (k2 h)
/-- a kind is one of ten: known of every segment -/
theorem tE_kd {g : Nat} (hg : g < 286) (k : tk t g < 10 → tE C sa P t Q) (hk : tk t g < 10) : tE C sa P t Q := k hk
end TE
/-- the reference's part of two states is the same -/
def rq (u s : bv_S) : Prop := (∀ o k, 1471 ≤ o → bv_i u o k = bv_i s o k) ∧ ∀ o k, 1471 ≤ o → o < 1505 → bv_l u o k = bv_l s o k
theorem rq.rf {s : bv_S} : rq s s := ⟨fun _ _ _ => rfl, fun _ _ _ _ => rfl⟩
theorem rq.I {u s : bv_S} (h : rq u s) (o k : Nat) (v : Int32) : rq (bv_I u o k v) (bv_I s o k v) := ⟨fun x y hx => by rw [bv_iI, bv_iI, h.1 x y hx], h.2⟩
theorem rq.L {u s : bv_S} (h : rq u s) (o k : Nat) (v : Int64) : rq (bv_L u o k v) (bv_L s o k v) := ⟨h.1, fun x y hx hx2 => by rw [bv_lL, bv_lL, h.2 x y hx hx2]⟩
section SE
variable {α β : Type} {C : Nat} {sa : Nat → Nat} {P P' P1 P2 : bp_M β} {s s' s1 : bv_S} {Q : β → bv_S → Prop}
def sD {β : Type} (C : Nat) (sa : Nat → Nat) (P : bp_M β) (s : bv_S) (r : β) (s2 : bv_S) : Prop := ∀ u, rq u s → sw C sa P u (fun r' u' => r' = .inr r ∧ (md u u' ∧ bv_l u' 1505 0 = bv_l u 1505 0) ∧ rq u' s2)
def sE {β : Type} (C : Nat) (sa : Nat → Nat) (P : bp_M β) (s : bv_S) (Q : β → bv_S → Prop) : Prop := ∃ r s2, sD C sa P s r s2 ∧ Q r s2
theorem sE_up (k : ∀ u (Q' : (bv_E ⊕ β) → bv_S → Prop), sw C sa P' u Q' → sw C sa P u Q') (h : sE C sa P' s Q) : sE C sa P s Q := by
  obtain ⟨r, s2, a, b⟩ := h
  exact ⟨r, s2, fun u hu => k u _ (a u hu), b⟩
theorem sE_get {o j : Nat} {K : Int32 → bp_M β} (ho : 1471 ≤ o) (k : ∀ u (Q' : (bv_E ⊕ β) → bv_S → Prop), sw C sa (K (bv_i u o j)) u Q' → sw C sa P u Q') (h : sE C sa (K (bv_i s o j)) s Q) : sE C sa P s Q := by
  obtain ⟨r, s2, a, b⟩ := h
  exact ⟨r, s2, fun u hu => k u _ (by rw [hu.1 o j ho]; exact a u hu), b⟩
theorem sE_getl {o j : Nat} {K : Int64 → bp_M β} (ho : 1471 ≤ o) (ho2 : o < 1505) (k : ∀ u (Q' : (bv_E ⊕ β) → bv_S → Prop), sw C sa (K (bv_l u o j)) u Q' → sw C sa P u Q') (h : sE C sa (K (bv_l s o j)) s Q) : sE C sa P s Q := by
  obtain ⟨r, s2, a, b⟩ := h
  exact ⟨r, s2, fun u hu => k u _ (by rw [hu.2 o j ho ho2]; exact a u hu), b⟩
theorem sE_put {o j : Nat} {v : Int32} (ho : 1471 ≤ o) (k : ∀ u (Q' : (bv_E ⊕ β) → bv_S → Prop), sw C sa P' (bv_I u o j v) Q' → sw C sa P u Q') (h : sE C sa P' (bv_I s o j v) Q) : sE C sa P s Q := by
  obtain ⟨r, s2, a, b⟩ := h
  exact ⟨r, s2, fun u hu => k u _ (sw_mono (a _ (hu.I o j v)) fun r' u' q => ⟨q.1, ⟨(md.rf.I ho).trans q.2.1.1, q.2.1.2⟩, q.2.2⟩), b⟩
theorem sE_putl {o j : Nat} {v : Int64} (ho : 1471 ≤ o) (ho2 : o < 1505) (k : ∀ u (Q' : (bv_E ⊕ β) → bv_S → Prop), sw C sa P' (bv_L u o j v) Q' → sw C sa P u Q') (h : sE C sa P' (bv_L s o j v) Q) : sE C sa P s Q := by
  obtain ⟨r, s2, a, b⟩ := h
  exact ⟨r, s2, fun u hu => k u _ (sw_mono (a _ (hu.L o j v)) fun r' u' q => ⟨q.1, ⟨(md.rf.L ho).trans q.2.1.1, q.2.1.2.trans (by rw [bv_lL, if_neg (by omega)])⟩, q.2.2⟩), b⟩
theorem sE_mono {Q' : β → bv_S → Prop} (k : sE C sa P s Q') (hq : ∀ r s1, Q' r s1 → Q r s1) : sE C sa P s Q := by
  obtain ⟨r, s2, a, b⟩ := k
  exact ⟨r, s2, a, hq _ _ b⟩
theorem sE_ret {v : β} (k : Q v s) : sE C sa (bp_ret v) s Q := ⟨v, s, fun _ h => sw_ret ⟨rfl, ⟨md.rf, rfl⟩, h⟩, k⟩
theorem sE_retZ {v : Int32} {Q : Int32 → bv_S → Prop} (hv : v = 0 ∨ v = 1) (k : Q v s) : sE C sa (bp_retZ v) s Q := ⟨v, s, fun _ h => sw_retZ hv ⟨rfl, ⟨md.rf, rfl⟩, h⟩, k⟩
theorem sE_ifT {c : Prop} [Decidable c] (h : c) (k1 : sE C sa P1 s Q) : sE C sa (bp_if c P1 P2) s Q := sE_up (fun _ _ => sw_ifT h) k1
theorem sE_ifF {c : Prop} [Decidable c] (h : ¬ c) (k2 : sE C sa P2 s Q) : sE C sa (bp_if c P1 P2) s Q := sE_up (fun _ _ => sw_ifF h) k2
theorem sE_if {c : Prop} [Decidable c] (k1 : c → sE C sa P1 s Q) (k2 : ¬ c → sE C sa P2 s Q) : sE C sa (bp_if c P1 P2) s Q := by
  by_cases h : c
  · exact sE_ifT h (k1 h)
  · exact sE_ifF h (k2 h)
theorem sE_bind {f : bp_M α} {K : α → bp_M β} (k : sE C sa f s (fun v s1 => sE C sa (K v) s1 Q)) : sE C sa (bp_bind f K) s Q := by
  obtain ⟨v, s1, a, r, s2, b, q⟩ := k
  refine ⟨r, s2, fun u hu => sw_bind (sw_mono (a u hu) fun r' u' q => ?_), q⟩
  obtain ⟨rfl, m, h'⟩ := q
  exact sw_mono (b u' h') fun r'' u'' q => ⟨q.1, ⟨m.1.trans q.2.1.1, q.2.1.2.trans m.2⟩, q.2.2⟩
theorem sE_bindD {f : bp_M α} {K : α → bp_M β} {v : α} (hf : sD C sa f s v s1) (k : sE C sa (K v) s1 Q) : sE C sa (bp_bind f K) s Q := sE_bind ⟨_, _, hf, k⟩
theorem sE_is (h : sE C sa P s Q) : sE C sa (bp_is 4 (C + 1471) P) s Q := sE_up (fun _ _ k => m_is k) h
theorem sE_c {f : bp_M α} {K : α → bp_M β} (k : sE C sa f s (fun v s1 => sE C sa (K v) s1 Q)) : sE C sa (bp_bind (bp_is 4 (C + 1471) f) K) s Q := sE_bind (sE_is k)
theorem sE_cD {f : bp_M α} {K : α → bp_M β} {v : α} (hf : sD C sa f s v s1) (k : sE C sa (K v) s1 Q) : sE C sa (bp_bind (bp_is 4 (C + 1471) f) K) s Q := sE_c ⟨_, _, hf, k⟩
theorem sE_jn {κ : Sort _} {b : κ → bp_M β} {K : κ} (k : sE C sa (b K) s Q) : sE C sa (bp_jn b K) s Q := k
theorem sE_jnV {b : (α → bp_M β) → bp_M β} {K : α → bp_M β} (e : α) (k : ∀ K' : α → bp_M β, sE C sa (K' e) s Q → sE C sa (b K') s Q) (kk : sE C sa (K e) s Q) : sE C sa (bp_jn b K) s Q := k K kk
theorem sE_jnW {b : (α → bp_M β) → bp_M β} {K : α → bp_M β} (I : α → bv_S → Prop) (k : ∀ K' : α → bp_M β, (∀ v s', I v s' → sE C sa (K' v) s' Q) → sE C sa (b K') s Q) (kk : ∀ v s', I v s' → sE C sa (K v) s' Q) : sE C sa (bp_jn b K) s Q := k K kk
theorem sE_jnP {b : bp_M β → bp_M β} {K : bp_M β} (I : bv_S → Prop) (k : ∀ K' : bp_M β, (∀ s', I s' → sE C sa K' s' Q) → sE C sa (b K') s Q) (kk : ∀ s', I s' → sE C sa K s' Q) : sE C sa (bp_jn b K) s Q := k K kk
theorem sE_letI {v : Int32} {K : Int32 → bp_M β} (k : sE C sa (K v) s Q) : sE C sa (bp_letI v K) s Q := k
theorem sE_letL {v : Int64} {K : Int64 → bp_M β} (k : sE C sa (K v) s Q) : sE C sa (bp_letL v K) s Q := k
theorem sE_nz {y : Int32} (hy : y ≠ 0) (k : sE C sa P s Q) : sE C sa (bp_nz y P) s Q := sE_up (fun _ _ k => sw_nz hy k) k
theorem sE_nnS {a : Nat} {K : Nat → bp_M β} (k : sE C sa (K a) s Q) : sE C sa (bp_nn (some a) K) s Q := k
theorem sw_loopF {κ : Type} {bot : κ} {body : κ → κ} {app : κ → bp_M β} {Q : (bv_E ⊕ β) → bv_S → Prop} (k : sw C sa (app (bp_fix bot body bv_fu)) s Q) : sw C sa (bp_loop bot body app) s Q := fun h hV => by
  unfold bp_loop
  rw [hV.2.2.2.2.2.2.2.2.2.2.1]
  exact k h hV
theorem sE_loopF {κ : Type} {bot : κ} {body : κ → κ} {app : κ → bp_M β} (k : sE C sa (app (bp_fix bot body bv_fu)) s Q) : sE C sa (bp_loop bot body app) s Q := sE_up (fun _ _ => sw_loopF) k
theorem sE_loop {κ σ : Type} {bot : κ} {body : κ → κ} {app : κ → bp_M β} (ap : κ → σ → bp_M β) (a0 : σ) (happ : app = fun k => ap k a0) (I : σ → bv_S → Prop) (μ : σ → bv_S → Nat) (hb : ∀ a s, I a s → μ a s < bv_fu)
    (hs : ∀ (k : κ) a s, I a s → (∀ a' s', I a' s' → μ a' s' < μ a s → sE C sa (ap k a') s' Q) → sE C sa (ap (body k) a) s Q) (h0 : I a0 s) : sE C sa (bp_loop bot body app) s Q := by
  have key : ∀ n a s, I a s → μ a s < n → sE C sa (ap (bp_fix bot body n) a) s Q := by
    intro n
    induction n with
    | zero => intro a s _ h; omega
    | succ n ih => exact fun a s hI hm => hs _ a s hI fun a' s' h1 h2 => ih a' s' h1 (by omega)
  refine sE_loopF ?_
  rw [happ]
  exact key bv_fu a0 s h0 (hb _ _ h0)
/-- may: its answer is taken -/
theorem sE_may {x1 x2 x3 x4 : Int32} {K : Int32 → bp_M β} (v : Int32) (hv : bv_may x1 x2 x3 x4 = v) (k : sE C sa (K (bz (v = 0))) (bv_I s 1471 0 v) Q) : sE C sa (bp_bind (bp_is 4 (C + 1471) (PX6_may (C + 1471) x1 x2 x3 x4)) K) s Q := by
  subst hv
  obtain ⟨r, s2, a, b⟩ := k
  refine ⟨r, s2, fun u hu => sw_bindN (m_is (sw_may ⟨_, rfl, ?_⟩)), b⟩
  exact sw_mono (a _ (hu.I 1471 0 _)) fun r' u' q => ⟨q.1, ⟨(md.rf.I (by omega)).trans q.2.1.1, q.2.1.2⟩, q.2.2⟩
end SE
/-- the second run advances under the first -/
theorem jR {α β : Type} {C : Nat} {sa : Nat → Nat} {P : bp_M α} {P1 P2 : bp_M β} {t : bT} {s s1 : bv_S} {Q : (bF ⊕ α) → bT → β → bv_S → Prop} (k : ∀ Q' : β → bv_S → Prop, sE C sa P2 s1 Q' → sE C sa P1 s Q') (h : tE C sa P t (fun r t1 => sE C sa P2 s1 (Q r t1))) : tE C sa P t (fun r t1 => sE C sa P1 s (Q r t1)) := tE_mono h fun _ _ h => k _ h
section OJ
variable {C : Nat} {sa : Nat → Nat} {s : bv_S} {t : bT}
/-- the first call's code and what is noted -/
def oK (L : List (Nat × (Nat → bp_M Int32))) (cw : Int32 → Int64) (k : Int32) (w : Int64) : (bF ⊕ Int32) → Prop
  | .inr v => k = 0 ∧ w = cw v
  | .inl e => k ≠ 0 ∧ ∀ a, bp_hs L e.1 a = bp_ret k
/-- what both leave: k is the code, 0 if the first answered v -/
def oJ (L : List (Nat × (Nat → bp_M Int32))) (cv : Int32 → Int64) (cw : Int32 → Int64) (t : bT) (r : bF ⊕ Int32) (t1 : bT) (r2 : Int32) (s2 : bv_S) : Prop :=
  mT t1 s2 ∧ tz t1 ≤ tz t + 8 ∧ tm t1 ≤ tm t + 40 ∧ match r with
    | .inr v => bv_i s2 1471 0 = 0 ∧ cw v = cv r2
    | .inl e => e.1 < 5 ∧ ∃ c : Int32, c ≠ 0 ∧ (∀ a, bp_hs L e.1 a = bp_ret c) ∧ bv_i s2 1471 0 = c
theorem oJ_q {L : List (Nat × (Nat → bp_M Int32))} {cv cw : Int32 → Int64} {Pm : bp_M Int32} {r : bF ⊕ Int32} {t1 : bT} {r2 : Int32} {s2 : bv_S} (hS : sD C sa Pm s r2 s2) (hJ : oJ L cv cw t r t1 r2 s2) {k : Int32} {s1 : bv_S}
    (h : ∃ w t1', oC s s1 k w t1' ∧ t1' = t1 ∧ oK L cw k w r) : oQ C sa t cv Pm k s1 := by
  obtain ⟨w, t1', hc, rfl, hF⟩ := h
  have hs : rq s1 s ∧ (k = 0 → bv_l s1 1505 0 = w) ∧ ∃ s0, bR s0 s1 t1' := by
    rcases hc with ⟨e, h⟩ | ⟨e, h⟩
    · exact ⟨⟨fun o y ho => (h.2.2.2.2.2.2 o ho).1 y, fun o y ho ho2 => ((h.2.2.2.2.2.2 o ho).2 y).trans (by rw [bv_lL, if_neg (by omega)])⟩, fun _ => ((h.2.2.2.2.2.2 1505 (by omega)).2 0).trans bv_lLe, _, h⟩
    · exact ⟨⟨fun o y ho => (h.2.2.2.2.2.2 o ho).1 y, fun o y ho _ => (h.2.2.2.2.2.2 o ho).2 y⟩, fun z => absurd z e, _, h⟩
  obtain ⟨h1, h2, s0, h3⟩ := hs
  obtain ⟨j1, j2, j3, j4⟩ := hJ
  refine sw_is (o := 1471) (by decide) rfl (sw_mono (hS s1 h1) fun r' u' q => ?_)
  obtain ⟨rfl, ⟨m, l⟩, hq⟩ := q
  refine ⟨r2, rfl, ?_, ?_, t1', h3.md m, j1.s fun o y ho => hq.1 o y ho, j2, j3⟩
  · rw [hq.1 1471 0 (by omega)]
    cases r with
    | inr v => rw [j4.1, hF.1]
    | inl e =>
      obtain ⟨-, c, -, c2, c3⟩ := j4
      have e1 : (bp_ret k : bp_M Int32) = bp_ret c := (hF.2 0).symm.trans (c2 0)
      have e2 := congrFun e1 (bp_mk ((fun _ _ => 0), (fun _ _ => 0), (fun _ _ => none), (fun _ => (0, 0)), (0, 0), 0, (fun _ => none), 0) (0, 0) 0)
      have e3 : k = c := Sum.inr.inj (Prod.mk.inj (Option.some.inj e2)).1
      rw [c3, e3]
  · intro z
    rw [l, h2 z]
    cases r with
    | inr v => rw [hF.2]; exact j4.2
    | inl e => exact absurd z hF.1
theorem oj_I {f : bp_M Int32} {L : List (Nat × (Nat → bp_M Int32))} {Pm : bp_M Int32} (hR : bR s s t) (h : tE C sa f t (fun r t1 => sE C sa Pm s (oJ L Int32.toInt64 Int32.toInt64 t r t1))) :
    sw C sa (bp_try (bp_is 0 C f) (fun x1 => bp_astL (C + 1505) 0 x1.toInt64 <| bp_ret 0) (bp_hs L)) s (bv_q (oQ C sa t Int32.toInt64 Pm)) := by
  obtain ⟨r, t1, hD, r2, s2, hS, hJ⟩ := h
  refine sw_mono (x_I (F := fun k w t1' => t1' = t1 ∧ oK L Int32.toInt64 k w r) hR (tw_mono (hD s) fun r' t' q => ?_)) fun r' s1 q => ?_
  · obtain ⟨q1, rfl⟩ := q
    cases r' with
    | inr v =>
      subst q1
      exact ⟨rfl, rfl, rfl⟩
    | inl e =>
      subst q1
      obtain ⟨c0, c, c1, c2, -⟩ := hJ.2.2.2
      have e5 : e.1 ≠ 5 := fun z => by
        rw [if_pos z] at c0
        exact absurd (show 5 < 5 from c0) (by decide)
      rw [if_neg e5] at c0 c2
      refine ⟨c0, c, c1, c2, rfl, c1, ?_⟩
      rw [if_neg e5]; exact c2
  · obtain ⟨k, e, q⟩ := q
    exact ⟨k, e, oJ_q hS hJ q⟩
theorem oj_Z {f : bp_M Int32} {L : List (Nat × (Nat → bp_M Int32))} {Pm : bp_M Int32} (hR : bR s s t) (h : tE C sa f t (fun r t1 => sE C sa Pm s (oJ L cvZ cvZ t r t1))) :
    sw C sa (bp_try (bp_is 0 C f) (fun x1 => bp_jn (fun (k5 : Int64 → bp_M Int32) => bp_if (x1 = 0) (k5 (0 : Int64)) (k5 (1 : Int64))) (fun (l4 : Int64) => bp_astL (C + 1505) 0 l4 <| bp_ret 0)) (bp_hs L)) s (bv_q (oQ C sa t cvZ Pm)) := by
  obtain ⟨r, t1, hD, r2, s2, hS, hJ⟩ := h
  refine sw_mono (x_Z (F := fun k w t1' => t1' = t1 ∧ oK L cvZ k w r) hR (tw_mono (hD s) fun r' t' q => ?_)) fun r' s1 q => ?_
  · obtain ⟨q1, rfl⟩ := q
    cases r' with
    | inr v =>
      subst q1
      exact ⟨rfl, rfl, rfl⟩
    | inl e =>
      subst q1
      obtain ⟨c0, c, c1, c2, -⟩ := hJ.2.2.2
      have e5 : e.1 ≠ 5 := fun z => by
        rw [if_pos z] at c0
        exact absurd (show 5 < 5 from c0) (by decide)
      rw [if_neg e5] at c0 c2
      refine ⟨c0, c, c1, c2, rfl, c1, ?_⟩
      rw [if_neg e5]; exact c2
  · obtain ⟨k, e, q⟩ := q
    exact ⟨k, e, oJ_q hS hJ q⟩
end OJ
