/-! Calls: write -/
set_option maxRecDepth 100000
theorem p_magic : ∀ j, j < 8 → PX6_magic (nI j) = bp_ret ((bv_tb 1).getD j 0)
  | 0, _ => rfl | 1, _ => rfl | 2, _ => rfl | 3, _ => rfl | 4, _ => rfl | 5, _ => rfl | 6, _ => rfl | 7, _ => rfl | j + 8, h => by omega
def pOkW (t : bT) (part : Int32) : Prop := part = 0 ∨ (part = 1 ∧ ti t (0, 0, 0) = 2)
theorem lIt_len {t : bT} {part : Int32} {g : Nat} (w : wG t g) : (lIt t part g).length ≤ 121 := by
  have a := lHead_len w.2.2.2.1
  have b := lDat_len w
  unfold lIt
  split
  · split
    · omega
    · rw [List.length_append]; omega
  · show 0 ≤ 121; omega
theorem cat_leB {f : Nat → List Nat} {c N : Nat} (h : ∀ k, k < N → (f k).length ≤ c) : ∀ n, n ≤ N → (cat f n).length ≤ n * c
  | 0, _ => by rw [Nat.zero_mul]; exact Nat.le_refl _
  | n + 1, hn => by
    show (cat f n ++ f n).length ≤ _
    have := cat_leB h n (by omega)
    have := h n (by omega)
    rw [List.length_append, Nat.succ_mul]; omega
section PT
variable {α β : Type} {C : Nat} {sa : Nat → Nat} {s s0 : bv_S} {t t0 : bT} {Q : (bv_E ⊕ β) → bT → Prop} {R : β → bv_S → Prop}
set_option maxHeartbeats 4000000 in
theorem tw_write {part : Int32} {Q : (bv_E ⊕ Int32) → bT → Prop} (ho : ti t (0, 0, 0) ≤ 2) (hn : ti t (7, 0, 0) ≤ 30) (hw : ∀ g, g < ti t (7, 0, 0) → wG t g) (k0 : ¬ pOkW t part → ∀ e, Q (.inl (1, e)) (sz t 1 6)) (k1 : pOkW t part → ∀ t1, wI t 3 (lFile t part) t1 → Q (.inr (nI (lFile t part).length)) t1) : tw C sa s0 (PX1_write (C + 0) part) t Q := by
  unfold PX1_write
  have o3 : ti t (0, 0, 0) = 0 ∨ ti t (0, 0, 0) = 1 ∨ ti t (0, 0, 0) = 2 := by omega
  by_cases hp : pOkW t part
  · have k1 := k1 hp
    refine tw_jnV 1 (fun K hK => ?_) ?_
    · rcases hp with rfl | ⟨rfl, e⟩
      · exact tw_ifT rfl hK
      · refine tw_ifF (by decide) (tw_ifT rfl (g_o (tw_ifT ?_ hK)))
        rw [e]; rfl
    · rw [show (1 : Int32) = bz True from (bz_T trivial).symm]
      refine t_want (fun _ => ?_) (fun z => absurd trivial z)
      refine p_wn 0 rfl (g_o ?_)
      have i0 : wI t 0 [] (si t (1, 0, 0) 0) := ⟨fun l h1 h2 => ti_c h1, fun _ => rfl, fun _ => rfl, ⟨Nat.le_refl _, Nat.le_refl _⟩, ti_e, fun i hi => absurd hi (Nat.not_lt_zero i)⟩
      rw [i0.1 (0, 0, 0) (by decide) (by decide)]
      refine tw_jnP (fun t' => wI t 1 (lHdr t) t') (fun K hK => ?_) (fun t1 i1 => ?_)
      · by_cases h2 : ti t (0, 0, 0) < 2
        · have eh : lHdr t = (lMag ++ [bN ((1 : Int32) - nI (ti t (0, 0, 0)))]) ++ l4 (nI (pC t (ti t (7, 0, 0)))) := if_pos h2
          refine tw_ifF (nI_ge (b := 2) h2 (by omega)) ?_
          refine t_gets (by omega) (t_alenS (tw_jn ?_))
          refine tw_loop (fun (k : Int32 → bp_M Int32) (a : Int32) => k a) 0 rfl (fun a t1 => ∃ j, j ≤ 8 ∧ a = nI j ∧ wI t 0 (cat (fun j => [bN ((bv_tb 1).getD j 0)]) j) t1) (fun a _ => 40 - a.toNatClampNeg) (fun a s1 h => by unfold bv_fu; omega) (fun K2 a t1 h ih => ?_) ⟨0, by omega, rfl, i0⟩
          obtain ⟨j, j1, rfl, j2⟩ := h
          have l1 := j2.2.2.2.2.1
          rw [cat_len (c := 1) (fun _ => rfl)] at l1
          unfold BX1_write_48
          by_cases hj : 8 ≤ j
          · have : j = 8 := by omega
            subst this
            refine tw_ifT (by decide) ?_
            have j2 : wI t 0 lMag t1 := j2
            refine g_o ?_
            rw [j2.1 (0, 0, 0) (by decide) (by decide)]
            refine tw_e (fun K' Q' kk => tE_put (by omega) kk) fun t2 e2 => ?_
            have i2 := j2.app e2
            refine o_0_1 ?_
            refine tw_bind (is_1 (t_iterator fun a => ?_))
            refine tw_jn ?_
            have i3 := i2.it (some (a, 1, 0))
            refine tw_loop (fun (k : Int32 → bp_M Int32) (a : Int32) => k a) 0 rfl (fun x t3 => ∃ i, i ≤ ti t (7, 0, 0) ∧ x = nI (pC t i) ∧ tt t3 = some (a, 1, i) ∧ wI t 1 (lMag ++ [bN ((1 : Int32) - nI (ti t (0, 0, 0)))]) t3) (fun _ t3 => 40 - (match tt t3 with | some x => x.2.2 | none => 0)) (fun a s1 h => by unfold bv_fu; omega) (fun K3 x t3 h ih2 => ?_) ⟨0, by omega, rfl, rfl, i3⟩
            obtain ⟨i, y1, rfl, y2, y3⟩ := h
            have en : ti t3 (7, 0, 0) = ti t (7, 0, 0) := y3.1 _ (by decide) (by decide)
            unfold BX1_write_92
            refine tw_bind (t_isIt y2 (t_hasNext y2 (by omega) (by omega) ?_))
            rw [en]
            by_cases hi : i < ti t (7, 0, 0)
            · refine tw_ifF (by rw [bz_T hi]; decide) ?_
              refine tw_bind (t_isIt y2 (t_next y2 (by omega) (by omega) ?_))
              refine is_sg (by omega) (g_sk (by omega) fun hk => t_gets (by omega) (tw_jn ?_))
              have ek : tk (st t3 (some (a, 1, i + 1))) i = tk t i := y3.2.1 i
              rw [ek]
              have pl := pC_le t i
              have fin := fun (x : Int32) (hx : x = nI (pC t (i + 1))) => ih2 x (st t3 (some (a, 1, i + 1))) ⟨i + 1, by omega, hx, rfl, y3.st _⟩ (by
                show 40 - (i + 1) < 40 - (match tt t3 with | some x => x.2.2 | none => 0)
                rw [y2]
                show 40 - (i + 1) < 40 - i
                omega)
              have ep : pC t (i + 1) = pC t i + if tk t i = 4 then 1 else 0 := rfl
              rw [ek] at hk
              refine t_ifK (b := 4) hk (by omega) (fun e => ?_) (fun e => ?_)
              · refine tw_letI (fin _ ?_)
                rw [ep, if_pos e, nI_1]
              · refine tw_letI (fin _ ?_)
                rw [ep, if_neg e, Nat.add_zero, show (0 : Int32) = nI 0 from rfl, nI_add, Nat.add_zero]
            · have : i = ti t (7, 0, 0) := by omega
              subst this
              refine tw_ifT (bz_F hi) ?_
              have l3 := y3.2.2.2.2.1
              have l3 : ti t3 (1, 0, 0) = 9 := l3
              refine tw_e (fun K' Q' kk => tE_putFour (by omega) kk) fun t4 e4 => hK t4 ?_
              rw [eh]
              exact y3.app e4
          · refine tw_ifF (nI_ge (by omega) (by omega)) ?_
            refine t_aldS (by omega) (by omega) rfl (by show j < 8; omega) (by decide) ?_
            refine tw_e (fun K' Q' kk => tE_put (by omega) kk) fun t2 e2 => tw_letI ?_
            rw [nI_1]
            exact ih _ _ ⟨j + 1, by omega, rfl, j2.app e2⟩ (by rw [nI_clamp (by omega), nI_clamp (by omega)]; omega)
        · have eh : lHdr t = [] := if_neg h2
          refine tw_ifT (nI_le (a := 2) (by omega) (by omega)) (hK _ ?_)
          rw [eh]
          obtain ⟨a1, a2, a3, a4, a5⟩ := i0
          exact ⟨a1, a2, a3, ⟨by omega, by omega⟩, a5⟩
      · have hl := lHdr_len t
        refine o_0_1 (tw_bind (is_1 (t_iterator fun a => tw_jn ?_)))
        have i2 := i1.it (some (a, 1, 0))
        refine tw_loop (fun (k : bp_M Int32) (_ : Unit) => k) () rfl (fun _ t3 => ∃ i, i ≤ ti t (7, 0, 0) ∧ tt t3 = some (a, 1, i) ∧ wI t 2 (lHdr t ++ cat (lIt t part) i) t3) (fun _ t3 => 40 - (match tt t3 with | some x => x.2.2 | none => 0)) (fun a s1 h => by unfold bv_fu; omega) (fun K3 x t3 h ih2 => ?_) ⟨0, by omega, rfl, by rw [show cat (lIt t part) 0 = [] from rfl, List.append_nil]; exact i2⟩
        obtain ⟨i, y1, y2, y3⟩ := h
        have en : ti t3 (7, 0, 0) = ti t (7, 0, 0) := y3.1 _ (by decide) (by decide)
        have cl := cat_leB (f := lIt t part) (c := 121) (N := ti t (7, 0, 0)) (fun g hg => lIt_len (hw g hg)) i y1
        have l3 := y3.2.2.2.2.1
        rw [List.length_append] at l3
        have c2 : i * 121 ≤ 30 * 121 := Nat.mul_le_mul_right _ (by omega)
        unfold BX1_write_147
        refine tw_bind (t_isIt y2 (t_hasNext y2 (by omega) (by omega) ?_))
        rw [en]
        by_cases hi : i < ti t (7, 0, 0)
        · refine tw_ifF (by rw [bz_T hi]; decide) ?_
          refine tw_bind (t_isIt y2 (t_next y2 (by omega) (by omega) ?_))
          refine is_sg (by omega) (g_o ?_)
          have w := hw i hi
          have y4 := y3.st (some (a, 1, i + 1))
          generalize hg4 : st t3 (some (a, 1, i + 1)) = t4 at *
          have y5 : tt t4 = some (a, 1, i + 1) := by rw [← hg4]; rfl
          have l4' : ti t4 (1, 0, 0) = ti t3 (1, 0, 0) := by rw [← hg4]; rfl
          rw [y4.1 (0, 0, 0) (by decide) (by decide)]
          have step : ∀ t5, tt t5 = some (a, 1, i + 1) → wI t 2 ((lHdr t ++ cat (lIt t part) i) ++ lIt t part i) t5 → tw C sa s0 K3 t5 Q := fun t5 h5 h6 => by
            refine ih2 () t5 ⟨i + 1, by omega, h5, ?_⟩ (by
              rw [y2, h5]
              show 40 - (i + 1) < 40 - i
              omega)
            rw [List.append_assoc] at h6
            exact h6
          have go : lSel t part i → tw C sa s0 (bp_bind (bp_is 0 (C + 0) (PX1_putHead (C + 0) (C + bv_sg i))) fun _ => bp_getI 0 0 (C + 0) fun x21 => bp_if (x21 = (1 : Int32)) (K3) (bp_bind (bp_is 0 (C + 0) (PX1_putData (C + 0) (C + bv_sg i))) fun _ => K3)) t4 Q := fun hs => by
            have ei : lIt t part i = if ti t (0, 0, 0) = 1 then lHead t i else lHead t i ++ lDat t i := if_pos hs
            refine tw_e (fun K' Q' kk => tE_putHead (by omega) w y4.f (by omega) kk) fun t5 e5 => ?_
            have y6 := y4.app e5
            have z5 : tt t5 = some (a, 1, i + 1) := (congrArg (fun x => x.2.2.2.2) e5.2.2.2.2).trans y5
            have hl5 := lHead_len w.2.2.2.1
            have n5 := e5.2.1
            refine g_o ?_
            rw [y6.1 (0, 0, 0) (by decide) (by decide)]
            by_cases h1 : ti t (0, 0, 0) = 1
            · refine tw_ifT (by rw [h1]; rfl) (step t5 z5 ?_)
              rw [ei, if_pos h1]; exact y6
            · refine tw_ifF (fun z => h1 ((nI_eq (b := 1) (by omega) (by omega)).mp z)) ?_
              refine tw_e (fun K' Q' kk => tE_putData (by omega) w y6.f (by omega) kk) fun t6 e6 => step t6 ((congrArg (fun x => x.2.2.2.2) e6.2.2.2.2).trans z5) ?_
              rw [ei, if_neg h1, ← List.append_assoc]
              exact y6.app e6
          refine tw_jn ?_
          by_cases h2 : ti t (0, 0, 0) < 2
          · exact tw_ifT (nI_lt (b := 2) h2 (by omega)) (go (Or.inl h2))
          · refine tw_ifF (nI_nlt (b := 2) (by omega) (by omega)) (g_sp (by omega) (tw_jn ?_))
            rw [y4.1 (19, i, 0) (by show 19 ≠ 1; omega) (by show 19 ≠ 15; omega)]
            have sp9 := w.2.1
            have no : ¬ lSel t part i → tw C sa s0 K3 t4 Q := fun hs => by
              refine step t4 y5 ?_
              have ei : lIt t part i = [] := if_neg hs
              rw [ei, List.append_nil]; exact y4
            by_cases hp1 : part = 1
            · by_cases h0 : ti t (19, i, 0) = 0
              · refine tw_ifT (by rw [h0]; rfl) (tw_jn (tw_ifT hp1 (tw_ifT rfl (go (Or.inr ⟨fun _ => h0, fun _ => hp1⟩)))))
              · exact tw_ifF (nI_ne0 (by omega) (by omega)) (tw_jn (tw_ifT hp1 (tw_ifF (by decide) (no fun z => z.elim h2 fun z => h0 (z.mp hp1)))))
            · by_cases h0 : ti t (19, i, 0) = 0
              · refine tw_ifT (by rw [h0]; rfl) (tw_jn (tw_ifF hp1 (tw_ifF (by decide) (no fun z => z.elim h2 fun z => hp1 (z.mpr h0)))))
              · exact tw_ifF (nI_ne0 (by omega) (by omega)) (tw_jn (tw_ifF hp1 (tw_ifT rfl (go (Or.inr ⟨fun z => absurd z hp1, fun z => absurd z h0⟩)))))
        · have : i = ti t (7, 0, 0) := by omega
          subst this
          refine tw_ifT (bz_F hi) ?_
          refine o_0_1 (tw_bind (is_1 (t_iterator fun a2 => tw_jn ?_)))
          have i3 := y3.it (some (a2, 1, 0))
          have c3 : (cat (lIt t part) (ti t (7, 0, 0))).length ≤ 30 * 121 := by omega
          have c4 : ti t (0, 0, 0) = 1 → (cat (lIt t part) (ti t (7, 0, 0))).length ≤ 30 * 30 := fun h1 => by
            have := cat_leB (f := lIt t part) (c := 30) (N := ti t (7, 0, 0)) (fun g hg => by
              unfold lIt
              split
              · exact lHead_len (hw g hg).2.2.2.1
              · show 0 ≤ 30; omega) (ti t (7, 0, 0)) (Nat.le_refl _)
            have : ti t (7, 0, 0) * 30 ≤ 30 * 30 := Nat.mul_le_mul_right _ (by omega)
            omega
          refine tw_loop (fun (k : bp_M Int32) (_ : Unit) => k) () rfl (fun _ t3 => ∃ i, i ≤ ti t (7, 0, 0) ∧ tt t3 = some (a2, 1, i) ∧ wI t 3 ((lHdr t ++ cat (lIt t part) (ti t (7, 0, 0))) ++ cat (lI2 t) i) t3) (fun _ t3 => 40 - (match tt t3 with | some x => x.2.2 | none => 0)) (fun a s1 h => by unfold bv_fu; omega) (fun K4 x t5 h ih3 => ?_) ⟨0, by omega, rfl, by rw [show cat (lI2 t) 0 = [] from rfl, List.append_nil]; exact i3⟩
          obtain ⟨i, z1, z2, z3⟩ := h
          have en : ti t5 (7, 0, 0) = ti t (7, 0, 0) := z3.1 _ (by decide) (by decide)
          have l5 := z3.2.2.2.2.1
          rw [List.length_append, List.length_append] at l5
          unfold BX1_write_228
          refine tw_bind (t_isIt z2 (t_hasNext z2 (by omega) (by omega) ?_))
          rw [en]
          by_cases hi2 : i < ti t (7, 0, 0)
          · refine tw_ifF (by rw [bz_T hi2]; decide) ?_
            refine tw_bind (t_isIt z2 (t_next z2 (by omega) (by omega) ?_))
            refine is_sg (by omega) (g_o ?_)
            have w := hw i hi2
            have y4 := z3.st (some (a2, 1, i + 1))
            generalize hg4 : st t5 (some (a2, 1, i + 1)) = t4 at *
            have y5 : tt t4 = some (a2, 1, i + 1) := by rw [← hg4]; rfl
            have l4' : ti t4 (1, 0, 0) = ti t5 (1, 0, 0) := by rw [← hg4]; rfl
            rw [y4.1 (0, 0, 0) (by decide) (by decide)]
            have step : ∀ t6, tt t6 = some (a2, 1, i + 1) → wI t 3 (((lHdr t ++ cat (lIt t part) (ti t (7, 0, 0))) ++ cat (lI2 t) i) ++ lI2 t i) t6 → tw C sa s0 K4 t6 Q := fun t6 h5 h6 => by
              refine ih3 () t6 ⟨i + 1, by omega, h5, ?_⟩ (by
                rw [z2, h5]
                show 40 - (i + 1) < 40 - i
                omega)
              rw [List.append_assoc] at h6
              exact h6
            by_cases h1 : ti t (0, 0, 0) = 1
            · have e2 : lI2 t i = lDat t i := if_pos h1
              have c5 := cat_leB (f := lI2 t) (c := 91) (N := ti t (7, 0, 0)) (fun g hg => by
                unfold lI2
                rw [if_pos h1]; exact lDat_len (hw g hg)) i z1
              have : i * 91 ≤ 30 * 91 := Nat.mul_le_mul_right _ (by omega)
              have := c4 h1
              refine tw_ifT (by rw [h1]; rfl) ?_
              refine tw_e (fun K' Q' kk => tE_putData (by omega) w y4.f (by omega) kk) fun t6 e6 => step t6 ((congrArg (fun x => x.2.2.2.2) e6.2.2.2.2).trans y5) ?_
              rw [e2]; exact y4.app e6
            · have e2 : lI2 t i = [] := if_neg h1
              refine tw_ifF (fun z => h1 ((nI_eq (b := 1) (by omega) (by omega)).mp z)) (step t4 y5 ?_)
              rw [e2, List.append_nil]; exact y4
          · have : i = ti t (7, 0, 0) := by omega
            subst this
            refine tw_ifT (bz_F hi2) (g_wn (tw_ret ?_))
            rw [z3.2.2.2.2.1]
            exact k1 t5 z3
  · have o3 : part = 0 ∨ part = 1 ∨ (part ≠ 0 ∧ part ≠ 1) := by
      by_cases h0 : part = 0
      · exact Or.inl h0
      · by_cases h1 : part = 1
        · exact Or.inr (Or.inl h1)
        · exact Or.inr (Or.inr ⟨h0, h1⟩)
    refine tw_jnV 0 (fun K hK => ?_) ?_
    · rcases o3 with rfl | rfl | ⟨h0, h1⟩
      · exact absurd (Or.inl rfl) hp
      · refine tw_ifF (by decide) (tw_ifT rfl (g_o (tw_ifF (fun z => hp (Or.inr ⟨rfl, (nI_eq (b := 2) (by omega) (by omega)).mp z⟩)) hK)))
      · exact tw_ifF h0 (tw_ifF h1 hK)
    · rw [show (0 : Int32) = bz False from (bz_F id).symm]
      exact t_want (fun z => z.elim) (fun _ e => k0 hp e)
end PT
