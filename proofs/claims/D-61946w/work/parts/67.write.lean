/-! Calls: write -/
set_option maxRecDepth 100000
theorem bB_file {t : bT} {part : Int32} (hn : ti t (7, 0, 0) ≤ 30) (hw : ∀ g, g < ti t (7, 0, 0) → wG t g) : bB (lFile t part) := by
  refine bB_app (bB_app (bB_hdr t) (bB_cat _ fun i hi => ?_)) (bB_cat _ fun i hi => ?_)
  · have w := hw i hi
    unfold lIt
    split
    · split
      · exact bB_head (by omega) w
      · exact bB_app (bB_head (by omega) w) (bB_dat w)
    · exact bB_nil
  · unfold lI2
    split
    · exact bB_dat (hw i hi)
    · exact bB_nil
theorem lFile_len {t : bT} {part : Int32} (hn : ti t (7, 0, 0) ≤ 30) (hw : ∀ g, g < ti t (7, 0, 0) → wG t g) : (lFile t part).length ≤ 5000 := by
  have hl := lHdr_len t
  unfold lFile
  rw [List.length_append, List.length_append]
  by_cases h1 : ti t (0, 0, 0) = 1
  · have a := cat_leB (f := lIt t part) (c := 30) (N := ti t (7, 0, 0)) (fun g hg => by
      unfold lIt
      split
      · exact lHead_len (hw g hg).2.2.2.1
      · show 0 ≤ 30; omega) (ti t (7, 0, 0)) (Nat.le_refl _)
    have b := cat_leB (f := lI2 t) (c := 91) (N := ti t (7, 0, 0)) (fun g hg => by
      unfold lI2
      rw [if_pos h1]; exact lDat_len (hw g hg)) (ti t (7, 0, 0)) (Nat.le_refl _)
    omega
  · have a := cat_leB (f := lIt t part) (c := 121) (N := ti t (7, 0, 0)) (fun g hg => lIt_len (hw g hg)) (ti t (7, 0, 0)) (Nat.le_refl _)
    have b := cat_leB (f := lI2 t) (c := 0) (N := ti t (7, 0, 0)) (fun g hg => by
      unfold lI2
      rw [if_neg h1]; exact Nat.le_refl _) (ti t (7, 0, 0)) (Nat.le_refl _)
    omega
section OPB
variable {C : Nat} {sa : Nat → Nat} {s : bv_S} {t : bT}
theorem o_write (hR : bR s s t) (hT : mT t s) (part : Int32) : sw C sa (PX0_write (C + 0) part (C + 1505)) s (bv_q (oQ C sa t Int32.toInt64 (PX6_write (C + 1471) part))) := by
  have hw : ∀ g, g < ti t (7, 0, 0) → wG t g := fun g hg => (hT.2.1.2.2 g hg).1
  have hn := hT.2.1.1
  refine op_I (F := fun k w t1 => (k = 1 ∧ ¬ pOkW t part ∧ t1 = sz t 1 6) ∨ (k = 0 ∧ pOkW t part ∧ wI t 3 (lFile t part) t1 ∧ w = (nI (lFile t part).length).toInt64)) hR hT ?_ ?_
  · exact tw_write hT.1.1 hn hw (fun h e => ⟨show 1 < 5 by decide, 1, by decide, fun a => bp_ifT rfl, Or.inl ⟨rfl, h, rfl⟩⟩) (fun h t1 h1 => Or.inr ⟨rfl, h, h1, rfl⟩)
  · intro k w t1 s1 hF hT1
    have hE : sE C sa (PX6_write (C + 1471) part) s1 (fun r s2 => bv_i s2 1471 0 = k ∧ (k = 0 → w = r.toInt64) ∧ mT t1 s2 ∧ tz t1 ≤ tz t + 8 ∧ tm t1 ≤ tm t + 40) := by
      refine sE_write hT1.1.1 hT1.1.2 hn hT1.2.1.2.1 hT1.2.1.2.2 (fun h => ?_) (fun h s2 u => ?_)
      · rcases hF with ⟨rfl, -, rfl⟩ | ⟨-, h2, -⟩
        · exact ⟨bv_iIe, fun z => absurd z (by decide), (hT1.c 1).z 1 6, by show tz t + 1 ≤ _; omega, by show tm t + 6 ≤ _; omega⟩
        · exact absurd h2 h
      · rcases hF with ⟨-, h2, -⟩ | ⟨rfl, -, h1, rfl⟩
        · exact absurd h h2
        · obtain ⟨u1, u2, u3, u4⟩ := u
          have fo : ∀ o k, o ≠ 1481 → (o ≠ 1471 ∨ k ≠ 0 ∧ k ≠ 13) → bv_i s2 o k = bv_i s1 o k := fun o k h1 h2 => (u4 o k h1 (by omega)).trans (by (repeat rw [bv_iIn (by omega)]))
          obtain ⟨x1, x2, x3, x4, x5, x6⟩ := h1
          have len := lFile_len (part := part) hn hw
          obtain ⟨a1, a2, a3, a4, a5⟩ := hT1
          refine ⟨(u4 _ _ (by omega) (by omega)).trans ((bv_iIn (by omega)).trans bv_iIe), fun _ => rfl, ⟨a1.to (x1 _ (by decide) (by decide)) (fo _ _ (by omega) (by omega)), a2.to (fun g _ => x2 g) (fun l hl => x1 l (by unfold cS at hl; omega) (by unfold cS at hl; omega)) (fo _ _ (by omega) (by omega)) (fun o k _ _ => fo _ _ (by omega) (by omega)), ⟨by rw [x5]; exact len, ?_, fun j hj => ?_⟩, a4.to (fun l hl => x1 l (by omega) (by omega)) (fo _ _ (by omega) (by omega)) (fo _ _ (by omega) (by omega)) (fun k => fo _ _ (by omega) (by omega)) (fun k => fo _ _ (by omega) (by omega)), a5.to (fun g _ => x2 g) (fun g _ => x3 g) (fun l hl => x1 l (by unfold cR at hl; omega) (by unfold cR at hl; omega)) (fun k _ => fo _ _ (by omega) (by omega)) (fun o k _ _ => fo _ _ (by omega) (by omega))⟩, by omega, by omega⟩
          · rw [u1, x5, Nat.zero_add]
          · rw [x5] at hj
            have := u2 j hj
            rw [Nat.zero_add] at this
            rw [x6 j hj, this]
            exact ⟨bB_lat (bB_file hn hw) j, rfl⟩
    obtain ⟨r2, s2, hD, q1, q2, q3, q4, q5⟩ := hE
    refine sw_mono (hD s1 rq.rf) fun r' u' q => ?_
    obtain ⟨rfl, ⟨m, l⟩, hq⟩ := q
    exact ⟨r2, rfl, m, l, (hq.1 1471 0 (by omega)).trans q1, q2, q3.s fun o y ho => hq.1 o y ho, q4, q5⟩
end OPB
