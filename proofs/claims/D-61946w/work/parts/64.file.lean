/-! Calls: write, the class's side -/
set_option maxRecDepth 100000
def bB (L : List Nat) : Prop := ∀ b ∈ L, b < 256
theorem bB_nil : bB [] := fun b hb => absurd hb List.not_mem_nil
theorem bB_app {L M : List Nat} (h : bB L) (h2 : bB M) : bB (L ++ M) := fun b hb => by
  rcases List.mem_append.mp hb with z | z
  · exact h b z
  · exact h2 b z
theorem bB_1 {a : Nat} (h : a < 256) : bB [a] := fun b hb => by
  rw [List.mem_singleton] at hb
  subst hb; exact h
theorem bB_4 (v : Int32) : bB (l4 v) := bB_app (L := [_]) (bB_1 (bN_lt _)) (bB_app (L := [_]) (bB_1 (bN_lt _)) (bB_app (L := [_]) (bB_1 (bN_lt _)) (bB_1 (bN_lt _))))
theorem bB_cat {f : Nat → List Nat} : ∀ n, (∀ i, i < n → bB (f i)) → bB (cat f n)
  | 0, _ => bB_nil
  | n + 1, h => bB_app (bB_cat n fun i hi => h i (by omega)) (h n (by omega))
theorem bB_lat {L : List Nat} (h : bB L) (i : Nat) : lat L i < 256 := by
  unfold lat
  cases e : L[i]? with
  | none => show 0 < 256; omega
  | some v => exact h v (List.mem_of_getElem? e)
theorem bB_row (t : bT) (g y : Nat) : bB (lRow t g y) := bB_cat _ fun i _ => bB_1 (rB_lt t g y (8 * i) 8)
theorem bB_reg (t : bT) (g : Nat) : bB (lReg t g) := by
  unfold lReg
  refine bB_app (bB_cat _ fun i _ => bB_4 _) (bB_app (bB_1 (bN_lt _)) (bB_app (bB_cat _ fun i _ => ?_) ?_))
  · unfold lRow2
    split
    · exact bB_app (bB_1 (bN_lt _)) (bB_row t g i)
    · exact bB_row t g i
  · unfold lEnd
    split
    · exact bB_app (bB_1 (bN_lt _)) (bB_app (bB_1 (bN_lt _)) (bB_4 _))
    · exact bB_nil
theorem bB_dat {t : bT} {g : Nat} (w : wG t g) : bB (lDat t g) := by
  refine bB_app ?_ (bB_cat _ fun i hi => bB_1 (w.2.2.2.2.2.2.2.1 i hi))
  unfold lKind
  split
  · exact bB_reg t g
  · split
    · exact bB_app (bB_4 _) (bB_app (bB_4 _) (bB_app (bB_1 (bN_lt _)) (bB_1 (bN_lt _))))
    · split
      · exact bB_4 _
      · exact bB_nil
theorem bB_head {t : bT} {g : Nat} (hg : g < 30) (w : wG t g) : bB (lHead t g) := by
  refine bB_app (bB_app (bB_app (bB_app (bB_app (bB_4 _) (bB_1 (bN_lt _))) ?_) (bB_cat _ fun i hi => bB_1 ?_)) (bB_1 ?_)) (bB_4 _)
  · unfold lFl
    split
    · exact bB_1 (bN_lt _)
    · exact bB_app (bB_4 _) (bB_app (bB_1 (bN_lt _)) (bB_1 (bN_lt _)))
  · have := w.2.2.2.2.1 i hi
    omega
  · have := w.2.1
    omega
/-- how many segments begin pages -/
def pC (t : bT) : Nat → Nat
  | 0 => 0
  | k + 1 => pC t k + if tk t k = 4 then 1 else 0
theorem pC_le (t : bT) : ∀ k, pC t k ≤ k
  | 0 => Nat.le_refl _
  | k + 1 => by
    have := pC_le t k
    show pC t k + (if tk t k = 4 then 1 else 0) ≤ k + 1
    split <;> omega
def lMag : List Nat := cat (fun j => [bN ((bv_tb 1).getD j 0)]) 8
def lHdr (t : bT) : List Nat := if ti t (0, 0, 0) < 2 then (lMag ++ [bN ((1 : Int32) - nI (ti t (0, 0, 0)))]) ++ l4 (nI (pC t (ti t (7, 0, 0)))) else []
theorem lHdr_len (t : bT) : (lHdr t).length ≤ 13 := by
  unfold lHdr
  split
  · show 13 ≤ 13; omega
  · show 0 ≤ 13; omega
theorem bB_hdr (t : bT) : bB (lHdr t) := by
  unfold lHdr
  split
  · exact bB_app (bB_app (bB_cat _ fun i _ => bB_1 (bN_lt _)) (bB_1 (bN_lt _))) (bB_4 _)
  · exact bB_nil
/-- a segment that is written -/
def lSel (t : bT) (part : Int32) (g : Nat) : Prop := ti t (0, 0, 0) < 2 ∨ (part = 1 ↔ ti t (19, g, 0) = 0)
noncomputable def lIt (t : bT) (part : Int32) (g : Nat) : List Nat := @ite _ (lSel t part g) (Classical.propDecidable _) (if ti t (0, 0, 0) = 1 then lHead t g else lHead t g ++ lDat t g) []
noncomputable def lI2 (t : bT) (g : Nat) : List Nat := if ti t (0, 0, 0) = 1 then lDat t g else []
noncomputable def lFile (t : bT) (part : Int32) : List Nat := (lHdr t ++ cat (lIt t part) (ti t (7, 0, 0))) ++ cat (lI2 t) (ti t (7, 0, 0))
/-- what a written state keeps: a new cells -/
def wI (t : bT) (a : Nat) (L : List Nat) (t' : bT) : Prop := (∀ l : bL, l.1 ≠ 1 → l.1 ≠ 15 → ti t' l = ti t l) ∧ (∀ g, tk t' g = tk t g) ∧ (∀ g, tL t' g = tL t g) ∧ (tz t' ≤ tz t + a ∧ tm t' ≤ tm t + 4 * a) ∧ ti t' (1, 0, 0) = L.length ∧ ∀ i, i < L.length → ti t' (15, i, 0) = lat L i
theorem wI.app {t t' t2 : bT} {a : Nat} {L M : List Nat} (h : wI t a L t') (e : wE t' M t2) : wI t a (L ++ M) t2 := by
  obtain ⟨h1, h2, h3, h4, h5, h6⟩ := h
  obtain ⟨⟨e1, e1'⟩, e3, e4, e5, e2⟩ := e
  refine ⟨fun l a b => (e1 l a b).trans (h1 l a b), fun g => (congrArg (fun x => x.2.1 g) e2).trans (h2 g), fun g => (congrArg (fun x => x.1 g) e2).trans (h3 g), ⟨?_, ?_⟩, by rw [e3, h5, List.length_append], fun i hi => ?_⟩
  · have : tz t2 = tz t' := congrArg (fun x => x.2.2.1) e2
    omega
  · have : tm t2 = tm t' := congrArg (fun x => x.2.2.2.1) e2
    omega
  · rw [List.length_append] at hi
    by_cases c : i < L.length
    · rw [lat_l c, e5 i (by omega)]; exact h6 i c
    · rw [lat_r (by omega), ← e4 (i - L.length) (by omega), h5]
      congr 3; omega
theorem wI.it {t t' : bT} {a : Nat} {L : List Nat} (h : wI t a L t') (x : Option (Nat × Nat × Nat)) : wI t (a + 1) L (st (sz t' 1 4) x) := by
  obtain ⟨h1, h2, h3, h4, h5, h6⟩ := h
  exact ⟨h1, h2, h3, ⟨by show tz t' + 1 ≤ _; omega, by show tm t' + 4 ≤ _; omega⟩, h5, h6⟩
theorem wI.st {t t' : bT} {a : Nat} {L : List Nat} (h : wI t a L t') (x : Option (Nat × Nat × Nat)) : wI t a L (st t' x) := h
theorem wI.f {t t' : bT} {a : Nat} {L : List Nat} (h : wI t a L t') : wF t t' := ⟨h.1, h.2.1⟩
theorem wG.wi {t t' : bT} {a g : Nat} {L : List Nat} (h : wI t a L t') (w : wG t g) : wG t' g := w.to (h.2.1 g) fun l hl => h.1 l (by omega) (by omega)
theorem bp_bind_r {α : Type} {f : bp_M α} : bp_bind f bp_ret = f := by
  funext h
  unfold bp_bind
  cases f h with
  | none => rfl
  | some x =>
    obtain ⟨r, h1⟩ := x
    cases r <;> rfl
section PT
variable {α β : Type} {C : Nat} {sa : Nat → Nat} {s s0 : bv_S} {t t0 : bT} {Q : (bv_E ⊕ β) → bT → Prop}
theorem tw_e {f : bp_M Unit} {K : Unit → bp_M β} {L : List Nat} (h : ∀ (K' : Unit → bp_M Unit) (Q' : (bF ⊕ Unit) → bT → Prop), (∀ t1, wE t L t1 → tE C sa (K' ()) t1 Q') → tE C sa (bp_bind f K') t Q') (k : ∀ t1, wE t L t1 → tw C sa s0 (K ()) t1 Q) : tw C sa s0 (bp_bind f K) t Q := by
  have h1 := h bp_ret (fun r t1 => r = .inr () ∧ wE t L t1) fun t1 e => tE_ret ⟨rfl, e⟩
  rw [bp_bind_r] at h1
  refine tw_bind (tw_mono (tE_tw h1 s0) fun r t1 q => ?_)
  cases r with
  | inl e => exact (fo_lr q.1).elim
  | inr v => exact k t1 q.2
end PT
