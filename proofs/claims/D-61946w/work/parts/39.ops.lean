/-! Calls of the law: the class's, then the reference's -/
set_option maxRecDepth 100000
/-- only the reference's side changes -/
def md (s1 s2 : bv_S) : Prop := (∀ o k, o < 1471 → bv_i s2 o k = bv_i s1 o k) ∧ (∀ o k, o < 1471 → bv_l s2 o k = bv_l s1 o k) ∧ bv_k s2 = bv_k s1 ∧ bv_Z s2 = bv_Z s1 ∧ bv_N s2 = bv_N s1 ∧ bv_c s2 = bv_c s1 ∧ bv_it s2 = bv_it s1
theorem md.rf {s : bv_S} : md s s := ⟨fun _ _ _ => rfl, fun _ _ _ => rfl, rfl, rfl, rfl, rfl, rfl⟩
theorem md.trans {s1 s2 s3 : bv_S} (a : md s1 s2) (b : md s2 s3) : md s1 s3 := ⟨fun o k h => (b.1 o k h).trans (a.1 o k h), fun o k h => (b.2.1 o k h).trans (a.2.1 o k h), b.2.2.1.trans a.2.2.1, b.2.2.2.1.trans a.2.2.2.1, b.2.2.2.2.1.trans a.2.2.2.2.1, b.2.2.2.2.2.1.trans a.2.2.2.2.2.1, b.2.2.2.2.2.2.trans a.2.2.2.2.2.2⟩
theorem md.I {s1 s2 : bv_S} (a : md s1 s2) {o k : Nat} {v : Int32} (ho : 1471 ≤ o) : md s1 (bv_I s2 o k v) := ⟨fun x y h => (bv_iIn (by omega)).trans (a.1 x y h), a.2.1, a.2.2.1, a.2.2.2.1, a.2.2.2.2.1, a.2.2.2.2.2.1, a.2.2.2.2.2.2⟩
theorem md.L {s1 s2 : bv_S} (a : md s1 s2) {o k : Nat} {v : Int64} (ho : 1471 ≤ o) : md s1 (bv_L s2 o k v) := ⟨a.1, fun x y h => by rw [bv_lL, if_neg (by omega)]; exact a.2.1 x y h, a.2.2.1, a.2.2.2.1, a.2.2.2.2.1, a.2.2.2.2.2.1, a.2.2.2.2.2.2⟩
theorem bR.md {s0 s1 s2 : bv_S} {t : bT} (h : bR s0 s1 t) (m : md s1 s2) : bR s2 s2 t := by
  obtain ⟨h1, h2, h3, h4, h5, h7, h6⟩ := h
  obtain ⟨m1, m2, m3, m4, m5, m6, m7⟩ := m
  refine ⟨fun l hl => by rw [m1 _ _ hl.2.1]; exact h1 l hl, fun g hg => ?_, fun g hg => by rw [m3]; exact h3 g hg, by rw [m4, m6]; exact h4, by rw [m5, m6]; exact h5, fun x hx => by rw [m7]; exact h7 x hx, fun o ho => ⟨fun _ => rfl, fun _ => rfl⟩⟩
  have := sg_lt (r := 0) hg (by omega)
  rw [m2 _ _ (by omega)]
  exact h2 g hg
theorem mT.s {t : bT} {s s' : bv_S} (h : mT t s) (hs : ∀ o k, 1471 ≤ o → bv_i s' o k = bv_i s o k) : mT t s' :=
  ⟨h.1.to rfl (hs _ _ (by omega)), h.2.1.to (fun _ _ => rfl) (fun _ _ => rfl) (hs _ _ (by omega)) (fun o k _ _ => hs o k (by omega)), h.2.2.1.to (fun _ _ => rfl) (hs _ _ (by omega)) (fun k => hs _ k (by omega)), h.2.2.2.1.to (fun _ _ => rfl) (hs _ _ (by omega)) (hs _ _ (by omega)) (fun k => hs _ k (by omega)) (fun k => hs _ k (by omega)), h.2.2.2.2.to (fun _ _ => rfl) (fun _ _ => rfl) (fun _ _ => rfl) (fun k _ => hs _ _ (by omega)) (fun o k _ _ => hs o k (by omega))⟩
/-- what the second call must bring -/
def oQ (C : Nat) (sa : Nat → Nat) (t : bT) (cv : Int32 → Int64) (Pm : bp_M Int32) (k : Int32) (s1 : bv_S) : Prop :=
  sw C sa (bp_is 4 (C + 1471) Pm) s1 (bv_q fun r s2 => bv_i s2 1471 0 = k ∧ (k = 0 → bv_l s2 1505 0 = cv r) ∧ ∃ t2, bR s2 s2 t2 ∧ mT t2 s2 ∧ tz t2 ≤ tz t + 8 ∧ tm t2 ≤ tm t + 40)
def cvZ (r : Int32) : Int64 := if r = 0 then 0 else 1
section OP
variable {C : Nat} {sa : Nat → Nat} {s : bv_S} {t : bT}
theorem oC_q {cv : Int32 → Int64} {Pm : bp_M Int32} {F : Int32 → Int64 → bT → Prop} (hT : mT t s)
    (hm : ∀ k w t1 s1, F k w t1 → mT t s1 → sw C sa Pm s1 (bv_q fun r s2 => md s1 s2 ∧ bv_l s2 1505 0 = bv_l s1 1505 0 ∧ bv_i s2 1471 0 = k ∧ (k = 0 → w = cv r) ∧ mT t1 s2 ∧ tz t1 ≤ tz t + 8 ∧ tm t1 ≤ tm t + 40))
    {k : Int32} {s1 : bv_S} (h : ∃ w t1, oC s s1 k w t1 ∧ F k w t1) : oQ C sa t cv Pm k s1 := by
  obtain ⟨w, t1, hc, hF⟩ := h
  have hs : (∀ o y, 1471 ≤ o → bv_i s1 o y = bv_i s o y) ∧ (k = 0 → bv_l s1 1505 0 = w) ∧ ∃ s0, bR s0 s1 t1 := by
    rcases hc with ⟨e, h⟩ | ⟨e, h⟩
    · exact ⟨fun o y ho => (h.2.2.2.2.2.2 o ho).1 y, fun _ => ((h.2.2.2.2.2.2 1505 (by omega)).2 0).trans bv_lLe, _, h⟩
    · exact ⟨fun o y ho => (h.2.2.2.2.2.2 o ho).1 y, fun z => absurd z e, _, h⟩
  obtain ⟨h1, h2, s0, h3⟩ := hs
  refine sw_is (o := 1471) (by decide) rfl (sw_mono (hm k w t1 s1 hF (hT.s h1)) fun r s2 q => ?_)
  obtain ⟨r', e, q1, q2, q3, q4, q5, q6⟩ := q
  exact ⟨r', e, q3, fun z => by rw [q2, h2 z]; exact q4 z, t1, h3.md q1, q5, q6⟩
theorem op_I {f : bp_M Int32} {L : List (Nat × (Nat → bp_M Int32))} {Pm : bp_M Int32} (F : Int32 → Int64 → bT → Prop) (hR : bR s s t) (hT : mT t s)
    (hf : tw C sa s f t (fun r t1 => match r with | .inr v => F 0 v.toInt64 t1 | .inl e => e.1 < 5 ∧ ∃ c : Int32, c ≠ 0 ∧ (∀ a, bp_hs L e.1 a = bp_ret c) ∧ F c 0 t1))
    (hm : ∀ k w t1 s1, F k w t1 → mT t s1 → sw C sa Pm s1 (bv_q fun r s2 => md s1 s2 ∧ bv_l s2 1505 0 = bv_l s1 1505 0 ∧ bv_i s2 1471 0 = k ∧ (k = 0 → w = r.toInt64) ∧ mT t1 s2 ∧ tz t1 ≤ tz t + 8 ∧ tm t1 ≤ tm t + 40)) :
    sw C sa (bp_try (bp_is 0 C f) (fun x1 => bp_astL (C + 1505) 0 x1.toInt64 <| bp_ret 0) (bp_hs L)) s (bv_q (oQ C sa t Int32.toInt64 Pm)) :=
  sw_mono (x_I hR hf) fun r s1 ⟨k, e, q⟩ => ⟨k, e, oC_q hT hm q⟩
theorem op_Z {f : bp_M Int32} {L : List (Nat × (Nat → bp_M Int32))} {Pm : bp_M Int32} (F : Int32 → Int64 → bT → Prop) (hR : bR s s t) (hT : mT t s)
    (hf : tw C sa s f t (fun r t1 => match r with | .inr v => F 0 (if v = 0 then 0 else 1) t1 | .inl e => e.1 < 5 ∧ ∃ c : Int32, c ≠ 0 ∧ (∀ a, bp_hs L e.1 a = bp_ret c) ∧ F c 0 t1))
    (hm : ∀ k w t1 s1, F k w t1 → mT t s1 → sw C sa Pm s1 (bv_q fun r s2 => md s1 s2 ∧ bv_l s2 1505 0 = bv_l s1 1505 0 ∧ bv_i s2 1471 0 = k ∧ (k = 0 → w = cvZ r) ∧ mT t1 s2 ∧ tz t1 ≤ tz t + 8 ∧ tm t1 ≤ tm t + 40)) :
    sw C sa (bp_try (bp_is 0 C f) (fun x1 => bp_jn (fun (k5 : Int64 → bp_M Int32) => bp_if (x1 = 0) (k5 (0 : Int64)) (k5 (1 : Int64))) (fun (l4 : Int64) => bp_astL (C + 1505) 0 l4 <| bp_ret 0)) (bp_hs L)) s (bv_q (oQ C sa t cvZ Pm)) :=
  sw_mono (x_Z hR hf) fun r s1 ⟨k, e, q⟩ => ⟨k, e, oC_q hT hm q⟩
end OP
