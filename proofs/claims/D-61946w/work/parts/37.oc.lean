/-! The law's helpers: what a call of the class leaves -/
set_option maxRecDepth 100000
theorem bR.out {s0 s : bv_S} {t : bT} (h : bR s0 s t) (w : Int64) : bR (bv_L s0 1505 0 w) (bv_L s 1505 0 w) t := by
  obtain ⟨h1, h2, h3, h4, h5, h7, h6⟩ := h
  refine ⟨h1, fun g hg => ?_, h3, h4, h5, h7, fun o ho => ⟨(h6 o ho).1, fun k => ?_⟩⟩
  · have := sg_lt (r := 0) hg (by omega)
    rw [bv_lL, if_neg (by omega)]
    exact h2 g hg
  · rw [bv_lL, bv_lL, (h6 o ho).2 k]
/-- after a call: code k; v is noted when k = 0 -/
def oC (s s1 : bv_S) (k : Int32) (w : Int64) (t1 : bT) : Prop := (k = 0 ∧ bR (bv_L s 1505 0 w) s1 t1) ∨ (k ≠ 0 ∧ bR s s1 t1)
section OC
variable {C : Nat} {sa : Nat → Nat} {s : bv_S} {t : bT}
theorem x_I {f : bp_M Int32} {L : List (Nat × (Nat → bp_M Int32))} {F : Int32 → Int64 → bT → Prop} (hR : bR s s t)
    (hf : tw C sa s f t (fun r t1 => match r with | .inr v => F 0 v.toInt64 t1 | .inl e => e.1 < 5 ∧ ∃ c : Int32, c ≠ 0 ∧ (∀ a, bp_hs L e.1 a = bp_ret c) ∧ F c 0 t1)) :
    sw C sa (bp_try (bp_is 0 C f) (fun x1 => bp_astL (C + 1505) 0 x1.toInt64 <| bp_ret 0) (bp_hs L)) s (bv_q fun k s1 => ∃ w t1, oC s s1 k w t1 ∧ F k w t1) := by
  refine sw_try (sw_is (o := 0) (by decide) rfl (sw_mono (hf s hR) fun r s1 ⟨t1, h1, h2⟩ => ?_))
  cases r with
  | inl e =>
    obtain ⟨c0, c, c1, c2, c3⟩ := h2
    refine ⟨by omega, by omega, ?_⟩
    show sw C sa (bp_hs L e.1 e.2.1) s1 _
    rw [c2]
    exact sw_ret ⟨c, rfl, 0, t1, Or.inr ⟨c1, h1⟩, c3⟩
  | inr v =>
    refine sw_astL (i := 0) (by decide) rfl (by decide) (sw_ret ⟨0, rfl, v.toInt64, t1, Or.inl ⟨rfl, h1.out _⟩, h2⟩)
theorem x_Z {f : bp_M Int32} {L : List (Nat × (Nat → bp_M Int32))} {F : Int32 → Int64 → bT → Prop} (hR : bR s s t)
    (hf : tw C sa s f t (fun r t1 => match r with | .inr v => F 0 (if v = 0 then 0 else 1) t1 | .inl e => e.1 < 5 ∧ ∃ c : Int32, c ≠ 0 ∧ (∀ a, bp_hs L e.1 a = bp_ret c) ∧ F c 0 t1)) :
    sw C sa (bp_try (bp_is 0 C f) (fun x1 => bp_jn (fun (k5 : Int64 → bp_M Int32) => bp_if (x1 = 0) (k5 (0 : Int64)) (k5 (1 : Int64))) (fun (l4 : Int64) => bp_astL (C + 1505) 0 l4 <| bp_ret 0)) (bp_hs L)) s (bv_q fun k s1 => ∃ w t1, oC s s1 k w t1 ∧ F k w t1) := by
  refine sw_try (sw_is (o := 0) (by decide) rfl (sw_mono (hf s hR) fun r s1 ⟨t1, h1, h2⟩ => ?_))
  cases r with
  | inl e =>
    obtain ⟨c0, c, c1, c2, c3⟩ := h2
    refine ⟨by omega, by omega, ?_⟩
    show sw C sa (bp_hs L e.1 e.2.1) s1 _
    rw [c2]
    exact sw_ret ⟨c, rfl, 0, t1, Or.inr ⟨c1, h1⟩, c3⟩
  | inr v =>
    show sw C sa (bp_jn _ _) s1 _
    rw [bp_jn_if]
    exact sw_astL (i := 0) (by decide) rfl (by decide) (sw_ret ⟨0, rfl, if v = 0 then 0 else 1, t1, Or.inl ⟨rfl, h1.out _⟩, h2⟩)
end OC
