/-! Rows that read and write the pure heap -/
set_option maxRecDepth 100000
theorem bp_cls {t : Nat} {q : vw_C} (hq : bp_cl[t]? = some q) (ht : t < 8) : (∀ w ∈ u_ws q.1 q.2.1 q.2.2, w ∈ lw_all) ∧ (∀ k, k < q.2.2 → parseFieldDescriptor (q.2.1 k).2.2.1 = some (bp_ft t k)) ∧ (∀ a, a < q.2.2 → ∀ b, b < q.2.2 → a ≠ b → (q.2.1 a).2.1 ≠ (q.2.1 b).2.1) := by
  match t, hq, ht with
  | 0, hq, _ => cases hq; exact ⟨in_X1, tyX1_ok, nmX1⟩
  | 1, hq, _ => cases hq; exact ⟨in_X2, tyX2_ok, nmX2⟩
  | 2, hq, _ => cases hq; exact ⟨in_X3, tyX3_ok, nmX3⟩
  | 3, hq, _ => cases hq; exact ⟨in_X4, tyX4_ok, nmX4⟩
  | 4, hq, _ => cases hq; exact ⟨in_X6, tyX6_ok, nmX6⟩
  | 5, hq, _ => cases hq; exact ⟨in_X7, tyX7_ok, nmX7⟩
  | 6, hq, _ => cases hq; exact ⟨in_J2, tyJ2_ok, nmJ2⟩
  | 7, hq, _ => cases hq; exact ⟨in_J18, tyJ18_ok, nmJ18⟩
  | t + 8, _, ht => exact absurd ht (by omega)
theorem bp_clt {t : Nat} {q : vw_C} (hq : bp_cl[t]? = some q) : t < 9 := (List.getElem?_eq_some_iff.mp hq).1
/-- how a field is linked: by its class, by an heir, by a nest mate -/
def bp_Lk (own : String) (index : Nat) (o n d : String) : Prop :=
  (∃ ref, Cond.fieldLink own index ref n d ∈ lw_all ∧ (ref = o ∨ Cond.sameField ref o n d ∈ lw_all)) ∨ ∃ host, Cond.fieldLinkNest own index o n d host ∈ bp_nw
theorem bp_lk {own : String} {index : Nat} {o n d : String} (h : Cond.fieldLink own index o n d ∈ lw_all) : bp_Lk own index o n d := Or.inl ⟨o, h, Or.inl rfl⟩
theorem bp_lkS {own ref : String} {index : Nat} {o n d : String} (h : Cond.fieldLink own index ref n d ∈ lw_all) (h2 : Cond.sameField ref o n d ∈ lw_all) : bp_Lk own index o n d := Or.inl ⟨ref, h, Or.inr h2⟩
theorem bp_lkN {own host : String} {index : Nat} {o n d : String} (h : Cond.fieldLinkNest own index o n d host ∈ lw_tbl) : bp_Lk own index o n d := Or.inr ⟨host, List.mem_filter.mpr ⟨h, rfl⟩⟩
section JM
variable {p : Program} {l : Launch} {e : Env} {R : Room} {s : State} {m : MethodId} {args : Array Value} {below : List Frame} {meth : Method} {c : Code} {H H' : Heap} {locs : List Loc} {cells slots : Nat} {Q : State → Prop} {ls : Array Slot}
variable {G : bp_GT} {i : bp_MI} {pc : Nat} {st : List Value} {h : bp_H}
theorem bp_wget (C : bp_Cx G i p l R s m args meth c) {index : Nat} {o n d : String} (hl : bp_Lk i.1.cls index o n d) {cf fi : Nat} {kf : Class} {f : Field} (hi : s.fieldFound? o n d = some (cf, kf, fi, f)) (hst : f.isStatic = false) {a : Nat} {cell : Cell} {v : Value} (hcell : H[a]? = some cell) (hvm : cell.vm ≠ .unknown) (hs : cell.slots[f.slot]? = some v)
    (dd : decode i.2.1 pc = .ok (.getfield index, 3)) (kk : W p l e R s m args below meth c H locs cells slots Q (F0 m (pc + 3) ls (v :: st))) : W p l e R s m args below meth c H locs cells slots Q (F0 m pc ls (.ref a :: st)) := by
  obtain ⟨hx, hb, hml, hown, hts, -, -, -, -, -, -, -, hK⟩ := C
  rcases hl with ⟨ref, hw, hr⟩ | ⟨host, hw⟩
  · have hi2 : s.fieldFound? ref n d = some (cf, kf, fi, f) := by
      rcases hr with rfl | hr
      · exact hi
      · exact u_same (hts _ hr) _ hi
    exact W.getf hx hb hown (hts _ hw) hi2 hst hcell hvm hs rfl rfl dd kk
  · exact va_Wgetf hx hb hown (va_Nw.use rfl (hK.2.2.1 _ hw)) hi hst hcell hvm hs rfl rfl dd kk
theorem bp_wput (C : bp_Cx G i p l R s m args meth c) {index : Nat} {o n d : String} (hl : bp_Lk i.1.cls index o n d) {cf fi : Nat} {kf : Class} {f : Field} (hi : s.fieldFound? o n d = some (cf, kf, fi, f)) (hst : f.isStatic = false) {a : Nat} {cell : Cell} {v : Value} (hcell : H[a]? = some cell) (hvm : cell.vm = .none) (hlt : f.slot < cell.slots.size) (hS : k2_Sd s f cell.cls v)
    (dd : decode i.2.1 pc = .ok (.putfield index, 3)) (kk : ∀ H' : Heap, H'[a]? = some (cell.setSlot f.slot v) → H'.size = H.size → (∀ q, q ≠ a → H'[q]? = H[q]?) → W p l e R s m args below meth c H' (locs ++ [⟨a, f.slot⟩]) cells slots Q (F0 m (pc + 3) ls st)) : W p l e R s m args below meth c H locs cells slots Q (F0 m pc ls (v :: .ref a :: st)) := by
  obtain ⟨hx, hb, hml, hown, hts, -, -, -, -, -, -, -, hK⟩ := C
  rcases hl with ⟨ref, hw, hr⟩ | ⟨host, hw⟩
  · have hi2 : s.fieldFound? ref n d = some (cf, kf, fi, f) := by
      rcases hr with rfl | hr
      · exact hi
      · exact u_same (hts _ hr) _ hi
    exact W.putK hx hb (f := f) ⟨hown, hts _ hw, ⟨_, _, _, hi2⟩, hst⟩ hS hcell hvm hlt rfl rfl dd kk
  · exact va_WputK hx hb (f := f) hown (va_Nw.use rfl (hK.2.2.1 _ hw)) hi hst hS hcell hvm hlt rfl rfl dd kk
/-- a field of a cell of the pure heap, in the machine's -/
theorem bp_fld (hR : bp_Rel G h H) (hK : bp_K G s) (hts : ∀ w ∈ lw_all, w.before args s = true) {t k a : Nat} {q : vw_C} (ht : (bp_S h a).1 = t) (hq : bp_cl[t]? = some q) (hk : k < q.2.2) :
    ∃ (cf fi : Nat) (kf : Class) (f : Field) (cell : Cell), s.fieldFound? (q.2.1 k).1 (q.2.1 k).2.1 (q.2.1 k).2.2.1 = some (cf, kf, fi, f) ∧ f.isStatic = false ∧ f.slot = G.1.2 t k ∧ H[a]? = some cell ∧ (cell.vm ≠ .unknown ∧ (t < 8 → cell.vm = .none)) ∧ cell.cls = G.1.1 t ∧
      (∀ j, j < q.2.2 → cell.slots[G.1.2 t j]? = some (bp_tv (bp_ft t j) (bp_I h a j) (bp_L h a j) (bp_R h a j))) := by
  have hC := (hR.2.2.2.2.2 a).1
  rw [ht] at hC
  obtain ⟨cell, q1, q2, q3u, q3s, q3o, q4⟩ := hC q hq
  obtain ⟨hS, hfc, kC, hkC, hkind⟩ := hK.1.1 t _ hq
  obtain ⟨cf, kf, fi, f, hi, hsl⟩ := hS k hk
  refine ⟨cf, fi, kf, f, cell, hi, ?_, hsl, q1, ⟨q3u, q3o⟩, q2, q4⟩
  by_cases h8 : t < 8
  · exact (u_facts hfc hkC (u_lays hts (bp_cls hq h8).1 hk) hi).1
  · have h9 : t = 8 := by have := bp_clt hq; omega
    subst h9
    cases hq
    obtain ⟨cf', kf', fi', f', e1, e2⟩ := hK.2.2.2.1 k hk
    cases hi.symm.trans e1
    exact e2
theorem bp_Rel.lt (hR : bp_Rel G h H) {a t : Nat} (ht : (bp_S h a).1 = t) (hk : t < 9 ∨ (bp_et t).isSome) : a < H.size := by
  have hC := hR.2.2.2.2.2 a
  rcases hk with hk | hk
  · obtain ⟨q, hq⟩ : ∃ q, bp_cl[t]? = some q := ⟨_, List.getElem?_eq_getElem (by simpa using hk)⟩
    obtain ⟨cell, q1, -⟩ := hC.1 q (by rw [ht]; exact hq)
    exact (Array.getElem?_eq_some_iff.mp q1).1
  · obtain ⟨ty, hty⟩ := Option.isSome_iff_exists.mp hk
    obtain ⟨cell, q1, -⟩ := hC.2 ty (by rw [ht]; exact hty)
    exact (Array.getElem?_eq_some_iff.mp q1).1
theorem bp_OB.to {own : Prop} {o : Nat} {cC : ClassId} {N : Nat} {iS : Nat → Nat} {H : Heap} {V V' : Nat → Value} (h : bp_OB own o cC N iS H V) (hv : ∀ k, V k = V' k) : bp_OB own o cC N iS H V' := by
  rw [← (funext hv : V = V')]; exact h
theorem bp_AR.to {t n a : Nat} {V V' : Nat → Value} (h : bp_AR G t n a H V) (hv : ∀ k, V k = V' k) : bp_AR G t n a H V' := by
  rw [← (funext hv : V = V')]; exact h
/-- one cell has changed -/
theorem bp_Rel.upd {h' : bp_H} {a : Nat} (hR : bp_Rel G h H) (e1 : bp_Z h' = bp_Z h) (e2 : bp_B h' = bp_B h) (e3 : bp_s h' = bp_s h) (e4 : bp_S h' = bp_S h) (e5 : ∀ x, x ≠ a → ∀ k, bp_I h' x k = bp_I h x k ∧ bp_L h' x k = bp_L h x k ∧ bp_R h' x k = bp_R h x k)
    (hz : H'.size = H.size) (ho : ∀ q, q ≠ a → H'[q]? = H[q]?) (hb : bp_B h ≤ a) (hc : bp_C G h' H' a) : bp_Rel G h' H' := by
  obtain ⟨r1, r2, r3, r4, r5, r6⟩ := hR
  refine ⟨by rw [hz, e1]; exact r1, by rw [e2]; exact r2, by rw [hz]; exact r3, by rw [e3]; exact r4, fun q hq => ?_, fun x => ?_⟩
  · rw [ho q (by omega)]
    exact r5 q hq
  · by_cases hx : x = a
    · rw [hx]; exact hc
    · obtain ⟨c1, c2⟩ := r6 x
      unfold bp_C
      rw [e4]
      refine ⟨fun q hq => ?_, fun ty hty => ?_⟩
      · exact ((c1 q hq).kept (ho x hx)).to fun k => by
          obtain ⟨z1, z2, z3⟩ := e5 x hx k
          show bp_tv _ _ _ _ = bp_tv _ _ _ _
          rw [z1, z2, z3]
      · exact ((c2 ty hty).kept (ho x hx)).to fun k => by
          obtain ⟨z1, z2, z3⟩ := e5 x hx k
          show bp_tv _ _ _ _ = bp_tv _ _ _ _
          rw [z1, z2, z3]
theorem bp_lc {a j : Nat} (hL : ∀ z ∈ locs, bp_b G ≤ z.base) (ha : bp_b G ≤ a) : ∀ z ∈ locs ++ [⟨a, j⟩], bp_b G ≤ z.base := by
  intro z hz
  rcases List.mem_append.mp hz with h1 | h1
  · exact hL z h1
  · cases List.mem_singleton.mp h1
    exact ha
/-- an object's field has changed -/
theorem bp_Rel.putf {h' : bp_H} {t k a : Nat} {q : vw_C} {v : Value} {cell : Cell} (hR : bp_Rel G h H) (hK : bp_K G s) (hts : ∀ w ∈ lw_all, w.before args s = true) (ht : (bp_S h a).1 = t) (h8 : t < 8) (hq : bp_cl[t]? = some q) (hk : k < q.2.2) (hb : bp_B h ≤ a)
    (e1 : bp_Z h' = bp_Z h) (e2 : bp_B h' = bp_B h) (e3 : bp_s h' = bp_s h) (e4 : bp_S h' = bp_S h) (e5 : ∀ x, x ≠ a → ∀ k, bp_I h' x k = bp_I h x k ∧ bp_L h' x k = bp_L h x k ∧ bp_R h' x k = bp_R h x k)
    (e6 : ∀ j, j ≠ k → bp_tv (bp_ft t j) (bp_I h' a j) (bp_L h' a j) (bp_R h' a j) = bp_tv (bp_ft t j) (bp_I h a j) (bp_L h a j) (bp_R h a j)) (e7 : bp_tv (bp_ft t k) (bp_I h' a k) (bp_L h' a k) (bp_R h' a k) = v)
    (q1 : H[a]? = some cell) (q2 : cell.vm = .none) (q3 : cell.cls = G.1.1 t) (q4 : ∀ j, j < q.2.2 → cell.slots[G.1.2 t j]? = some (bp_tv (bp_ft t j) (bp_I h a j) (bp_L h a j) (bp_R h a j)))
    (hH : H'[a]? = some (cell.setSlot (G.1.2 t k) v)) (hz : H'.size = H.size) (ho : ∀ q, q ≠ a → H'[q]? = H[q]?) : bp_Rel G h' H' := by
  refine hR.upd e1 e2 e3 e4 e5 hz ho hb ⟨fun q' hq' => ?_, fun ty hty => ?_⟩
  · rw [e4, ht] at hq' ⊢
    cases hq.symm.trans hq'
    obtain ⟨c1, c2, c3⟩ := bp_cls hq h8
    have hap := va_apart (own := "") (C := q.1) (T := q.2.1) (N := q.2.2) hts c1 (bp_ft t) c2 c3 hK.1 hq
    have q2' : (cell.setSlot (G.1.2 t k) v).vm = .none := q2
    refine bp_OB.to (V := fun j => if j < q.2.2 then updV (fun j => bp_tv (bp_ft t j) (bp_I h a j) (bp_L h a j) (bp_R h a j)) k v j else bp_tv (bp_ft t j) (bp_I h' a j) (bp_L h' a j) (bp_R h' a j)) ⟨_, hH, q3, by rw [q2']; exact fun z => (by cases z), by rw [q2']; rfl, fun _ => q2', fun j hj => by
      show _ = some (if j < q.2.2 then _ else _)
      rw [if_pos hj]
      exact t_set q4 hap hk v j hj⟩ fun j => ?_
    split
    case isFalse => rfl
    by_cases hj : j = k
    · subst hj
      simp only [updV, if_true]
      exact e7.symm
    · simp only [updV, if_neg hj]
      exact (e6 j hj).symm
  · exfalso
    rw [e4, ht] at hty
    have : bp_et t = none := by
      match t, h8 with
      | 0, _ => rfl
      | 1, _ => rfl
      | 2, _ => rfl
      | 3, _ => rfl
      | 4, _ => rfl
      | 5, _ => rfl
      | 6, _ => rfl
      | 7, _ => rfl
      | t + 8, h8 => exact absurd h8 (by omega)
    rw [this] at hty
    cases hty
theorem bp_tyK {t : Nat} {ty : FieldType} (G : bp_GT) (h : bp_et t = some ty) : ∃ j : Nat, (bp_tys G)[j]? = some (G.2.1 t, ty) := by
  unfold bp_et at h
  split at h <;> cases h
  · exact ⟨0, rfl⟩
  · exact ⟨1, rfl⟩
  · exact ⟨2, rfl⟩
  · exact ⟨3, rfl⟩
  · exact ⟨4, rfl⟩
  · exact ⟨5, rfl⟩
  · exact ⟨6, rfl⟩
  · exact ⟨7, rfl⟩
theorem bp_etC {t : Nat} {ty : FieldType} (h : bp_et t = some ty) : bp_cl[t]? = none := by
  unfold bp_et at h
  split at h <;> first | rfl | cases h
theorem bp_arr (hR : bp_Rel G h H) (hK : bp_K G s) {t a : Nat} {ty : FieldType} (ht : (bp_S h a).1 = t) (he : bp_et t = some ty) :
    ∃ cell : Cell, H[a]? = some cell ∧ s.isArrayOf cell ty ∧ cell.vm ≠ .unknown ∧ cell.slots.size = (bp_S h a).2 ∧ (∀ j, j < (bp_S h a).2 → cell.slots[j]? = some (bp_tv ty (bp_I h a j) (bp_L h a j) (bp_R h a j))) := by
  have hC := (hR.2.2.2.2.2 a).2 ty (by rw [ht]; exact he)
  rw [ht] at hC
  obtain ⟨cell, c1, c2, c3, c4, -, c6, c7⟩ := hC
  obtain ⟨k, comp, k1, k2⟩ := (hK.2.2.2.2.2.2.2.2.2.2.2.2.2.2 t ty he).2 _ c4
  exact ⟨cell, c1, ⟨c3, k, k1, comp, k2⟩, c2, c6, c7⟩
/-- .. of an array that the run made -/
theorem bp_arw (hR : bp_Rel G h H) (hK : bp_K G s) {t a : Nat} {ty : FieldType} (ht : (bp_S h a).1 = t) (he : bp_et t = some ty) (hb : bp_B h ≤ a) :
    H[a]? = some (arrV (G.2.1 t) (bp_S h a).2 (fun k => bp_tv ty (bp_I h a k) (bp_L h a k) (bp_R h a k))) ∧ (∀ (n : Nat) (z : Nat → Value), s.isArrayOf (arrV (G.2.1 t) n z) ty) ∧ va_RA s (G.2.1 t) ty := by
  have hC := (hR.2.2.2.2.2 a).2 ty (by rw [ht]; exact he)
  rw [ht] at hC
  obtain ⟨cell, c1, c2, c3, c4, c5, c6, c7⟩ := hC
  obtain ⟨j, hj⟩ := bp_tyK G he
  obtain ⟨k1, k2⟩ := hK.1.2 j _ hj
  exact ⟨by rw [c1, c5 (by rw [hR.2.1]; exact hb)], k1, k2⟩
/-- a place of an array has changed -/
theorem bp_Rel.puta {h' : bp_H} {t a j : Nat} {ty : FieldType} {v : Value} (hR : bp_Rel G h H) (hK : bp_K G s) (ht : (bp_S h a).1 = t) (he : bp_et t = some ty) (hb : bp_B h ≤ a)
    (e1 : bp_Z h' = bp_Z h) (e2 : bp_B h' = bp_B h) (e3 : bp_s h' = bp_s h) (e4 : bp_S h' = bp_S h) (e5 : ∀ x, x ≠ a → ∀ k, bp_I h' x k = bp_I h x k ∧ bp_L h' x k = bp_L h x k ∧ bp_R h' x k = bp_R h x k)
    (e6 : ∀ k, k ≠ j → bp_tv ty (bp_I h' a k) (bp_L h' a k) (bp_R h' a k) = bp_tv ty (bp_I h a k) (bp_L h a k) (bp_R h a k)) (e7 : bp_tv ty (bp_I h' a j) (bp_L h' a j) (bp_R h' a j) = v)
    (hH : H'[a]? = some ((arrV (G.2.1 t) (bp_S h a).2 (fun k => bp_tv ty (bp_I h a k) (bp_L h a k) (bp_R h a k))).setSlot j v)) (hz : H'.size = H.size) (ho : ∀ q, q ≠ a → H'[q]? = H[q]?) : bp_Rel G h' H' := by
  refine hR.upd e1 e2 e3 e4 e5 hz ho hb ⟨fun q' hq' => ?_, fun ty' hty => ?_⟩
  · rw [e4, ht, bp_etC he] at hq'
    cases hq'
  · rw [e4, ht] at hty ⊢
    cases he.symm.trans hty
    refine bp_AR.own (hK.2.2.2.2.2.2.2.2.2.2.2.2.2.2 t ty he).1 ?_
    rw [hH, arrV_store]
    congr 2
    funext k
    by_cases hk : k = j
    · subst hk
      simp only [updV, if_true]
      exact e7.symm
    · simp only [updV, if_neg hk]
      exact (e6 k hk).symm
/-- a new cell -/
theorem bp_Rel.mk {q : Nat × Nat} {n : Nat} (hR : bp_Rel G h H) (hz : H'.size = H.size + 1) (ho : ∀ x, x < H.size → H'[x]? = H[x]?) (hc : bp_C G (bp_mk h q n) H' H.size) : bp_Rel G (bp_mk h q n) H' := by
  obtain ⟨r1, r2, r3, r4, r5, r6⟩ := hR
  refine ⟨by rw [hz, r1]; rfl, r2, by omega, r4, fun x hx => ?_, fun x => ?_⟩
  · rw [ho x (by omega)]
    exact r5 x hx
  · by_cases hx : x = H.size
    · rw [hx]; exact hc
    · have hxz : x ≠ bp_Z h := by rw [← r1]; exact hx
      obtain ⟨c1, c2⟩ := r6 x
      have s1 : bp_S (bp_mk h q n) x = bp_S h x := if_neg hxz
      have i1 : ∀ k, bp_I (bp_mk h q n) x k = bp_I h x k := fun k => if_neg hxz
      have i2 : ∀ k, bp_L (bp_mk h q n) x k = bp_L h x k := fun k => if_neg hxz
      have i3 : ∀ k, bp_R (bp_mk h q n) x k = bp_R h x k := fun k => if_neg hxz
      unfold bp_C
      rw [s1]
      refine ⟨fun q' hq' => ?_, fun ty hty => ?_⟩
      · have c3 := c1 q' hq'
        have hlt : x < H.size := by
          obtain ⟨cell, z1, -⟩ := c3
          exact (Array.getElem?_eq_some_iff.mp z1).1
        exact (c3.kept (ho x hlt)).to fun k => by
          show bp_tv _ _ _ _ = bp_tv _ _ _ _
          rw [i1, i2, i3]
      · have c3 := c2 ty hty
        have hlt : x < H.size := by
          obtain ⟨cell, z1, -⟩ := c3
          exact (Array.getElem?_eq_some_iff.mp z1).1
        exact (c3.kept (ho x hlt)).to fun k => by
          show bp_tv _ _ _ _ = bp_tv _ _ _ _
          rw [i1, i2, i3]
end JM
/-! The judgement's rows that read and write the pure heap -/
theorem bp_u2_ne {α : Type} {f : Nat → Nat → α} {a k x y : Nat} {v : α} (h : x ≠ a ∨ y ≠ k) : bp_u2 f a k v x y = f x y := by
  unfold bp_u2
  rw [if_neg]
  rintro ⟨h1, h2⟩
  rcases h with h | h
  · exact h h1
  · exact h h2
theorem bp_u2_eq {α : Type} {f : Nat → Nat → α} {a k : Nat} {v : α} : bp_u2 f a k v a k = v := if_pos ⟨rfl, rfl⟩
theorem bp_dv (ty : FieldType) (h1 : ty ≠ .float) (h2 : ty ≠ .double) : defaultValue ty = bp_tv ty 0 0 none := by
  cases ty <;> first | rfl | exact absurd rfl h1 | exact absurd rfl h2
theorem bp_ftd0 : ∀ t, t < 8 → ∀ k, k < 50 → bp_ft t k ≠ .float ∧ bp_ft t k ≠ .double := by decide +kernel
theorem bp_ftd {t k : Nat} (ht : t < 8) (hk : k < 50) : bp_ft t k ≠ .float ∧ bp_ft t k ≠ .double := bp_ftd0 t ht k hk
section JRM
variable {β : Type} {G : bp_GT} {i : bp_MI} {Qf : bp_QT β} {P : bp_M β} {pc : Nat} {lv : List (Nat × Value)} {st : List Value}
theorem bp_j_nn {r : Option Nat} {K : Nat → bp_M β} (k : ∀ a, bp_J G i Qf (K a) pc lv (.ref a :: st)) : bp_J G i Qf (bp_nn r K) pc lv (va_rf r :: st) := by
  cases r with
  | none => exact bp_j_no
  | some a => exact k a
/-- what was a reference or null is one -/
theorem bp_j_nz {r : Option Nat} {K : Nat → bp_M β} (k : ∀ a, r = some a → bp_J G i Qf (K a) pc lv st) : bp_J G i Qf (bp_nn r K) pc lv st := by
  cases r with
  | none => exact bp_j_no
  | some a => exact k a rfl
theorem bp_j_getV {t k a index : Nat} {q : vw_C} (hq : bp_cl[t]? = some q) (hk : k < q.2.2) (hl : bp_Lk i.1.cls index (q.2.1 k).1 (q.2.1 k).2.1 (q.2.1 k).2.2.1) (d : decode i.2.1 pc = .ok (.getfield index, 3))
    (hP : ∀ h r, P h = some r → (bp_S h a).1 = t ∧ ∃ P', P' h = some r ∧ bp_J G i Qf P' (pc + 3) lv (bp_tv (bp_ft t k) (bp_I h a k) (bp_L h a k) (bp_R h a k) :: st)) : bp_J G i Qf P pc lv (.ref a :: st) := by
  intro h r E
  obtain ⟨ht, P', E', hJ⟩ := hP h r E
  refine ⟨(hJ h r E').1, fun p l e R s m args below meth c C H locs ls cells slots hR hL hlv hc hs => ?_⟩
  obtain ⟨cf, fi, kf, f, cell, hi, hst, hsl, q1, q2, q3, q4⟩ := bp_fld hR C.2.2.2.2.2.2.2.2.2.2.2.2 C.2.2.2.2.1 ht hq hk
  exact bp_wget C hl hi hst q1 q2.1 (by rw [hsl]; exact q4 k hk) d ((hJ h r E').2 p l e R s m args below meth c C H locs ls cells slots hR hL hlv hc hs)
theorem bp_j_getI {t k a index : Nat} {q : vw_C} {K : Int32 → bp_M β} (hq : bp_cl[t]? = some q) (hk : k < q.2.2) (hl : bp_Lk i.1.cls index (q.2.1 k).1 (q.2.1 k).2.1 (q.2.1 k).2.2.1) (d : decode i.2.1 pc = .ok (.getfield index, 3)) (hty : ∀ x l r, bp_tv (bp_ft t k) x l r = .int x)
    (kk : ∀ x, bp_J G i Qf (K x) (pc + 3) lv (.int x :: st)) : bp_J G i Qf (bp_getI t k a K) pc lv (.ref a :: st) := by
  refine bp_j_getV hq hk hl d fun h r E => ?_
  unfold bp_getI at E
  by_cases ht : (bp_S h a).1 = t
  · rw [if_pos ht] at E
    exact ⟨ht, _, E, by rw [hty]; exact kk _⟩
  · rw [if_neg ht] at E; cases E
theorem bp_j_getL {t k a index : Nat} {q : vw_C} {K : Int64 → bp_M β} (hq : bp_cl[t]? = some q) (hk : k < q.2.2) (hl : bp_Lk i.1.cls index (q.2.1 k).1 (q.2.1 k).2.1 (q.2.1 k).2.2.1) (d : decode i.2.1 pc = .ok (.getfield index, 3)) (hty : ∀ x l r, bp_tv (bp_ft t k) x l r = .long l)
    (kk : ∀ x, bp_J G i Qf (K x) (pc + 3) lv (.long x :: st)) : bp_J G i Qf (bp_getL t k a K) pc lv (.ref a :: st) := by
  refine bp_j_getV hq hk hl d fun h r E => ?_
  unfold bp_getL at E
  by_cases ht : (bp_S h a).1 = t
  · rw [if_pos ht] at E
    exact ⟨ht, _, E, by rw [hty]; exact kk _⟩
  · rw [if_neg ht] at E; cases E
theorem bp_j_getR {t k a index : Nat} {q : vw_C} {K : Option Nat → bp_M β} (hq : bp_cl[t]? = some q) (hk : k < q.2.2) (hl : bp_Lk i.1.cls index (q.2.1 k).1 (q.2.1 k).2.1 (q.2.1 k).2.2.1) (d : decode i.2.1 pc = .ok (.getfield index, 3)) (hty : ∀ x l r, bp_tv (bp_ft t k) x l r = va_rf r)
    (kk : ∀ x, bp_J G i Qf (K x) (pc + 3) lv (va_rf x :: st)) : bp_J G i Qf (bp_getR t k a K) pc lv (.ref a :: st) := by
  refine bp_j_getV hq hk hl d fun h r E => ?_
  unfold bp_getR at E
  by_cases ht : (bp_S h a).1 = t
  · rw [if_pos ht] at E
    exact ⟨ht, _, E, by rw [hty]; exact kk _⟩
  · rw [if_neg ht] at E; cases E
theorem bp_j_getN {t k a index : Nat} {q : vw_C} {K : Nat → bp_M β} (hq : bp_cl[t]? = some q) (hk : k < q.2.2) (hl : bp_Lk i.1.cls index (q.2.1 k).1 (q.2.1 k).2.1 (q.2.1 k).2.2.1) (d : decode i.2.1 pc = .ok (.getfield index, 3)) (hty : ∀ x l r, bp_tv (bp_ft t k) x l r = va_rf r)
    (kk : ∀ x, bp_J G i Qf (K x) (pc + 3) lv (.ref x :: st)) : bp_J G i Qf (bp_getN t k a K) pc lv (.ref a :: st) := bp_j_getR hq hk hl d hty fun r => bp_j_nn kk
/-- a field written: h' is the pure heap behind it -/
theorem bp_j_putV {t k a index : Nat} {q : vw_C} {v : Value} {h' : bp_H → bp_H} (hq : bp_cl[t]? = some q) (h8 : t < 8) (hk : k < q.2.2) (hl : bp_Lk i.1.cls index (q.2.1 k).1 (q.2.1 k).2.1 (q.2.1 k).2.2.1) (hfin : (q.2.1 k).2.2.2 = false) (d : decode i.2.1 pc = .ok (.putfield index, 3)) (hn : narrow (bp_ft t k) v = v) (hv : fits (bp_ft t k) v = true)
    (e1 : ∀ h, bp_Z (h' h) = bp_Z h ∧ bp_B (h' h) = bp_B h ∧ bp_s (h' h) = bp_s h ∧ bp_S (h' h) = bp_S h ∧ bp_N (h' h) = bp_N h) (e5 : ∀ h x, x ≠ a → ∀ k, bp_I (h' h) x k = bp_I h x k ∧ bp_L (h' h) x k = bp_L h x k ∧ bp_R (h' h) x k = bp_R h x k)
    (e6 : ∀ h j, j ≠ k → bp_tv (bp_ft t j) (bp_I (h' h) a j) (bp_L (h' h) a j) (bp_R (h' h) a j) = bp_tv (bp_ft t j) (bp_I h a j) (bp_L h a j) (bp_R h a j)) (e7 : ∀ h, bp_tv (bp_ft t k) (bp_I (h' h) a k) (bp_L (h' h) a k) (bp_R (h' h) a k) = v)
    {P' : bp_M β} (hP : ∀ h r, P h = some r → (bp_S h a).1 = t ∧ bp_B h ≤ a ∧ P' (h' h) = some r) (kk : bp_J G i Qf P' (pc + 3) lv st) : bp_J G i Qf P pc lv (v :: .ref a :: st) := by
  intro h r E
  obtain ⟨ht, hb, E'⟩ := hP h r E
  obtain ⟨z1, z2, z3, z4, z5⟩ := e1 h
  have K1 := kk (h' h) r E'
  rw [z1, z5] at K1
  refine ⟨K1.1, fun p l e R s m args below meth c C H locs ls cells slots hR hL hlv hc hs => ?_⟩
  have hK : bp_K G s := C.2.2.2.2.2.2.2.2.2.2.2.2
  have hts := C.2.2.2.2.1
  obtain ⟨cf, fi, kf, f, cell, hi, hst, hsl, q1, ⟨-, q2⟩, q3, q4⟩ := bp_fld hR hK hts ht hq hk
  have q2 := q2 h8
  obtain ⟨hS, hfc, kC, hkC, hkind⟩ := hK.1.1 t _ hq
  obtain ⟨c1, c2, c3⟩ := bp_cls hq h8
  have hlay := hts _ (c1 _ (u_in_lay hk))
  unfold u_lay at hlay
  rw [if_neg (by rw [hfin]; decide)] at hlay
  have h6 := u_store hfc hkC hkind hlay hi (c2 k hk) hn hv
  refine bp_wput C hl hi hst q1 q2 (by rw [hsl]; exact k2_hasslot (q4 k hk)) (by rw [q3]; exact h6) d fun H' f1 f2 f3 => ?_
  have hba : bp_b G ≤ a := by rw [hR.2.1]; exact hb
  exact K1.2 p l e R s m args below meth c C H' _ ls cells slots (hR.putf hK hts ht h8 hq hk hb z1 z2 z3 z4 (e5 h) (e6 h) (e7 h) q1 q2 q3 q4 (by rw [← hsl]; exact f1) f2 f3) (bp_lc hL hba) hlv hc hs
theorem bp_j_putI {t k a index : Nat} {q : vw_C} {v : Int32} (hq : bp_cl[t]? = some q) (h8 : t < 8) (hk : k < q.2.2) (hl : bp_Lk i.1.cls index (q.2.1 k).1 (q.2.1 k).2.1 (q.2.1 k).2.2.1) (hfin : (q.2.1 k).2.2.2 = false) (d : decode i.2.1 pc = .ok (.putfield index, 3)) (hty : bp_ft t k = .int)
    (kk : bp_J G i Qf P (pc + 3) lv st) : bp_J G i Qf (bp_putI t k a v P) pc lv (.int v :: .ref a :: st) := by
  refine bp_j_putV (h' := fun h => bp_setI h a k v) hq h8 hk hl hfin d (by rw [hty]; rfl) (by rw [hty]; rfl) (fun h => ⟨rfl, rfl, rfl, rfl, rfl⟩) (fun h x hx j => ⟨bp_u2_ne (Or.inl hx), rfl, rfl⟩) (fun h j hj => ?_) (fun h => ?_) (fun h r E => ?_) kk
  · show bp_tv _ (bp_u2 _ _ _ _ _ _) _ _ = _
    rw [bp_u2_ne (Or.inr hj)]; rfl
  · rw [hty]
    show Value.int (bp_u2 _ _ _ _ _ _) = _
    rw [bp_u2_eq]
  · unfold bp_putI at E
    by_cases hc : (bp_S h a).1 = t ∧ bp_B h ≤ a
    · rw [if_pos hc] at E; exact ⟨hc.1, hc.2, E⟩
    · rw [if_neg hc] at E; cases E
theorem bp_j_putZ {t k a index : Nat} {q : vw_C} {v : Int32} (hq : bp_cl[t]? = some q) (h8 : t < 8) (hk : k < q.2.2) (hl : bp_Lk i.1.cls index (q.2.1 k).1 (q.2.1 k).2.1 (q.2.1 k).2.2.1) (hfin : (q.2.1 k).2.2.2 = false) (d : decode i.2.1 pc = .ok (.putfield index, 3)) (hty : bp_ft t k = .boolean)
    (kk : bp_J G i Qf P (pc + 3) lv st) : bp_J G i Qf (bp_putZ t k a v P) pc lv (.int v :: .ref a :: st) := by
  by_cases hv : v = 0 ∨ v = 1
  · refine bp_j_putV (h' := fun h => bp_setI h a k v) hq h8 hk hl hfin d (by rw [hty]; rcases hv with rfl | rfl <;> rfl) (by rw [hty]; rcases hv with rfl | rfl <;> rfl) (fun h => ⟨rfl, rfl, rfl, rfl, rfl⟩) (fun h x hx j => ⟨bp_u2_ne (Or.inl hx), rfl, rfl⟩) (fun h j hj => ?_) (fun h => ?_) (fun h r E => ?_) kk
    · show bp_tv _ (bp_u2 _ _ _ _ _ _) _ _ = _
      rw [bp_u2_ne (Or.inr hj)]; rfl
    · rw [hty]
      show Value.int (bp_u2 _ _ _ _ _ _) = _
      rw [bp_u2_eq]
    · unfold bp_putZ at E
      by_cases hc : (v = 0 ∨ v = 1) ∧ (bp_S h a).1 = t ∧ bp_B h ≤ a
      · rw [if_pos hc] at E; exact ⟨hc.2.1, hc.2.2, E⟩
      · rw [if_neg hc] at E; cases E
  · intro h r E
    unfold bp_putZ at E
    rw [if_neg (fun hc => hv hc.1)] at E
    cases E
theorem bp_j_putL {t k a index : Nat} {q : vw_C} {v : Int64} (hq : bp_cl[t]? = some q) (h8 : t < 8) (hk : k < q.2.2) (hl : bp_Lk i.1.cls index (q.2.1 k).1 (q.2.1 k).2.1 (q.2.1 k).2.2.1) (hfin : (q.2.1 k).2.2.2 = false) (d : decode i.2.1 pc = .ok (.putfield index, 3)) (hty : bp_ft t k = .long)
    (kk : bp_J G i Qf P (pc + 3) lv st) : bp_J G i Qf (bp_putL t k a v P) pc lv (.long v :: .ref a :: st) := by
  refine bp_j_putV (h' := fun h => bp_setL h a k v) hq h8 hk hl hfin d (by rw [hty]; rfl) (by rw [hty]; rfl) (fun h => ⟨rfl, rfl, rfl, rfl, rfl⟩) (fun h x hx j => ⟨rfl, bp_u2_ne (Or.inl hx), rfl⟩) (fun h j hj => ?_) (fun h => ?_) (fun h r E => ?_) kk
  · show bp_tv _ _ (bp_u2 _ _ _ _ _ _) _ = _
    rw [bp_u2_ne (Or.inr hj)]; rfl
  · rw [hty]
    show Value.long (bp_u2 _ _ _ _ _ _) = _
    rw [bp_u2_eq]
  · unfold bp_putL at E
    by_cases hc : (bp_S h a).1 = t ∧ bp_B h ≤ a
    · rw [if_pos hc] at E; exact ⟨hc.1, hc.2, E⟩
    · rw [if_neg hc] at E; cases E
theorem bp_nf {ty : FieldType} (hty : ∀ x l r, bp_tv ty x l r = va_rf r) (v : Option Nat) : narrow ty (va_rf v) = va_rf v ∧ fits ty (va_rf v) = true := by
  have h0 := hty 0 0 none
  have h1 := hty 0 0 (some 0)
  cases ty <;> first | (cases h0; done) | (cases v <;> exact ⟨rfl, rfl⟩)
theorem bp_j_putR {t k a index : Nat} {q : vw_C} (v : Option Nat) (hq : bp_cl[t]? = some q) (h8 : t < 8) (hk : k < q.2.2) (hl : bp_Lk i.1.cls index (q.2.1 k).1 (q.2.1 k).2.1 (q.2.1 k).2.2.1) (hfin : (q.2.1 k).2.2.2 = false) (d : decode i.2.1 pc = .ok (.putfield index, 3)) (hty : ∀ x l r, bp_tv (bp_ft t k) x l r = va_rf r)
    (kk : bp_J G i Qf P (pc + 3) lv st) : bp_J G i Qf (bp_putR t k a v P) pc lv (va_rf v :: .ref a :: st) := by
  refine bp_j_putV (h' := fun h => bp_setR h a k v) hq h8 hk hl hfin d (bp_nf hty v).1 (bp_nf hty v).2 (fun h => ⟨rfl, rfl, rfl, rfl, rfl⟩) (fun h x hx j => ⟨rfl, rfl, bp_u2_ne (Or.inl hx)⟩) (fun h j hj => ?_) (fun h => ?_) (fun h r E => ?_) kk
  · show bp_tv _ _ _ (bp_u2 _ _ _ _ _ _) = _
    rw [bp_u2_ne (Or.inr hj)]; rfl
  · rw [hty]
    show va_rf (bp_u2 _ _ _ _ _ _) = _
    rw [bp_u2_eq]
  · unfold bp_putR at E
    by_cases hc : (bp_S h a).1 = t ∧ bp_B h ≤ a
    · rw [if_pos hc] at E; exact ⟨hc.1, hc.2, E⟩
    · rw [if_neg hc] at E; cases E
/-- a final field, in its class's constructor -/
theorem bp_j_putF {t k a index : Nat} {q : vw_C} {v : Value} {h' : bp_H → bp_H} (hq : bp_cl[t]? = some q) (h8 : t < 8) (hk : k < q.2.2) (hl : Cond.fieldLink i.1.cls index (q.2.1 k).1 (q.2.1 k).2.1 (q.2.1 k).2.2.1 ∈ lw_all) (hfin : (q.2.1 k).2.2.2 = true) (hin : i.1.name = "<init>") (hdecl : (q.2.1 k).1 = i.1.cls) (d : decode i.2.1 pc = .ok (.putfield index, 3)) (hn : narrow (bp_ft t k) v = v) (hv : fits (bp_ft t k) v = true)
    (e1 : ∀ h, bp_Z (h' h) = bp_Z h ∧ bp_B (h' h) = bp_B h ∧ bp_s (h' h) = bp_s h ∧ bp_S (h' h) = bp_S h ∧ bp_N (h' h) = bp_N h) (e5 : ∀ h x, x ≠ a → ∀ k, bp_I (h' h) x k = bp_I h x k ∧ bp_L (h' h) x k = bp_L h x k ∧ bp_R (h' h) x k = bp_R h x k)
    (e6 : ∀ h j, j ≠ k → bp_tv (bp_ft t j) (bp_I (h' h) a j) (bp_L (h' h) a j) (bp_R (h' h) a j) = bp_tv (bp_ft t j) (bp_I h a j) (bp_L h a j) (bp_R h a j)) (e7 : ∀ h, bp_tv (bp_ft t k) (bp_I (h' h) a k) (bp_L (h' h) a k) (bp_R (h' h) a k) = v)
    {P' : bp_M β} (hP : ∀ h r, P h = some r → (bp_S h a).1 = t ∧ bp_B h ≤ a ∧ P' (h' h) = some r) (kk : bp_J G i Qf P' (pc + 3) lv st) : bp_J G i Qf P pc lv (v :: .ref a :: st) := by
  intro h r E
  obtain ⟨ht, hb, E'⟩ := hP h r E
  obtain ⟨z1, z2, z3, z4, z5⟩ := e1 h
  have K1 := kk (h' h) r E'
  rw [z1, z5] at K1
  refine ⟨K1.1, fun p l e R s m args below meth c C H locs ls cells slots hR hL hlv hc hs => ?_⟩
  have hK : bp_K G s := C.2.2.2.2.2.2.2.2.2.2.2.2
  have hts := C.2.2.2.2.1
  obtain ⟨cf, fi, kf, f, cell, hi, hst, hsl, q1, ⟨-, q2⟩, q3, q4⟩ := bp_fld hR hK hts ht hq hk
  have q2 := q2 h8
  obtain ⟨hS, hfc, kC, hkC, hkind⟩ := hK.1.1 t _ hq
  obtain ⟨c1, c2, c3⟩ := bp_cls hq h8
  have hlay := hts _ (c1 _ (u_in_lay hk))
  unfold u_lay at hlay
  rw [if_pos hfin] at hlay
  have hcf : m.cls = cf := by
    obtain ⟨_, _, c', _, _, _, -, -, hf', -, -, -, hown2, -⟩ := Cond.laysFinal_spec hlay
    have e1 : c' = cf := by have := hi.symm.trans hf'; simp at this; exact this.1.symm
    rw [hdecl, C.2.2.2.1] at hown2
    exact (Option.some.inj hown2).trans e1
  have h6 := u_fits hfc hkC hkind (u_lays hts c1 hk) hi (c2 k hk) hn hv
  refine W.putFinK C.1 C.2.1 (f := f) C.2.2.2.1 (hts _ hl) hi hst hcf (by rw [C.2.2.2.2.2.2.2.2.2.2.1]; exact hin) (by rw [q3]; exact h6) q1 q2 (by rw [hsl]; exact k2_hasslot (q4 k hk)) rfl rfl d fun H' f1 f2 f3 => ?_
  have hba : bp_b G ≤ a := by rw [hR.2.1]; exact hb
  exact K1.2 p l e R s m args below meth c C H' _ ls cells slots (hR.putf hK hts ht h8 hq hk hb z1 z2 z3 z4 (e5 h) (e6 h) (e7 h) q1 q2 q3 q4 (by rw [← hsl]; exact f1) f2 f3) (bp_lc hL hba) hlv hc hs
theorem bp_j_putFI {t k a index : Nat} {q : vw_C} {v : Int32} (hq : bp_cl[t]? = some q) (h8 : t < 8) (hk : k < q.2.2) (hl : Cond.fieldLink i.1.cls index (q.2.1 k).1 (q.2.1 k).2.1 (q.2.1 k).2.2.1 ∈ lw_all) (hfin : (q.2.1 k).2.2.2 = true) (hin : i.1.name = "<init>") (hdecl : (q.2.1 k).1 = i.1.cls) (d : decode i.2.1 pc = .ok (.putfield index, 3)) (hty : bp_ft t k = .int)
    (kk : bp_J G i Qf P (pc + 3) lv st) : bp_J G i Qf (bp_putI t k a v P) pc lv (.int v :: .ref a :: st) := by
  refine bp_j_putF (h' := fun h => bp_setI h a k v) hq h8 hk hl hfin hin hdecl d (by rw [hty]; rfl) (by rw [hty]; rfl) (fun h => ⟨rfl, rfl, rfl, rfl, rfl⟩) (fun h x hx j => ⟨bp_u2_ne (Or.inl hx), rfl, rfl⟩) (fun h j hj => ?_) (fun h => ?_) (fun h r E => ?_) kk
  · show bp_tv _ (bp_u2 _ _ _ _ _ _) _ _ = _
    rw [bp_u2_ne (Or.inr hj)]; rfl
  · rw [hty]
    show Value.int (bp_u2 _ _ _ _ _ _) = _
    rw [bp_u2_eq]
  · unfold bp_putI at E
    by_cases hc : (bp_S h a).1 = t ∧ bp_B h ≤ a
    · rw [if_pos hc] at E; exact ⟨hc.1, hc.2, E⟩
    · rw [if_neg hc] at E; cases E
theorem bp_j_putFR {t k a index : Nat} {q : vw_C} (v : Option Nat) (hq : bp_cl[t]? = some q) (h8 : t < 8) (hk : k < q.2.2) (hl : Cond.fieldLink i.1.cls index (q.2.1 k).1 (q.2.1 k).2.1 (q.2.1 k).2.2.1 ∈ lw_all) (hfin : (q.2.1 k).2.2.2 = true) (hin : i.1.name = "<init>") (hdecl : (q.2.1 k).1 = i.1.cls) (d : decode i.2.1 pc = .ok (.putfield index, 3)) (hty : ∀ x l r, bp_tv (bp_ft t k) x l r = va_rf r)
    (kk : bp_J G i Qf P (pc + 3) lv st) : bp_J G i Qf (bp_putR t k a v P) pc lv (va_rf v :: .ref a :: st) := by
  refine bp_j_putF (h' := fun h => bp_setR h a k v) hq h8 hk hl hfin hin hdecl d (bp_nf hty v).1 (bp_nf hty v).2 (fun h => ⟨rfl, rfl, rfl, rfl, rfl⟩) (fun h x hx j => ⟨rfl, rfl, bp_u2_ne (Or.inl hx)⟩) (fun h j hj => ?_) (fun h => ?_) (fun h r E => ?_) kk
  · show bp_tv _ _ _ (bp_u2 _ _ _ _ _ _) = _
    rw [bp_u2_ne (Or.inr hj)]; rfl
  · rw [hty]
    show va_rf (bp_u2 _ _ _ _ _ _) = _
    rw [bp_u2_eq]
  · unfold bp_putR at E
    by_cases hc : (bp_S h a).1 = t ∧ bp_B h ≤ a
    · rw [if_pos hc] at E; exact ⟨hc.1, hc.2, E⟩
    · rw [if_neg hc] at E; cases E
end JRM
/-! The judgement's rows: arrays, new cells, statics, casts -/
section JRA
variable {β : Type} {G : bp_GT} {i : bp_MI} {Qf : bp_QT β} {P : bp_M β} {pc : Nat} {lv : List (Nat × Value)} {st : List Value}
/-- a load out of an array: the machine's row is given -/
theorem bp_j_aldV {t a : Nat} {x : Int32} {ty : FieldType} (he : bp_et t = some ty)
    (f : ∀ {p : Program} {l : Launch} {e : Env} {R : Room} {s : State} {m : MethodId} {args : Array Value} {below : List Frame} {meth : Method} {c : Code} {H : Heap} {locs : List Loc} {cells slots : Nat} {Q : State → Prop} {ls : Array Slot} {cell : Cell} {v : Value},
      p.tables.exec = Jvm.exec → c.code = i.2.1 → H[a]? = some cell → s.isArrayOf cell ty → cell.vm ≠ .unknown → ¬ (x < 0 ∨ cell.slots.size ≤ x.toNatClampNeg) → cell.slots[x.toNatClampNeg]? = some v → W p l e R s m args below meth c H locs cells slots Q (F0 m (pc + 1) ls (v :: st)) → W p l e R s m args below meth c H locs cells slots Q (F0 m pc ls (.int x :: .ref a :: st)))
    (hP : ∀ h r, P h = some r → bp_in h t a x ∧ ∃ P', P' h = some r ∧ bp_J G i Qf P' (pc + 1) lv (bp_tv ty (bp_I h a x.toNatClampNeg) (bp_L h a x.toNatClampNeg) (bp_R h a x.toNatClampNeg) :: st)) : bp_J G i Qf P pc lv (.int x :: .ref a :: st) := by
  intro h r E
  obtain ⟨⟨ht, hin⟩, P', E', hJ⟩ := hP h r E
  refine ⟨(hJ h r E').1, fun p l e R s m args below meth c C H locs ls cells slots hR hL hlv hc hs => ?_⟩
  obtain ⟨cell, a1, a2, a3, a4, a5⟩ := bp_arr hR C.2.2.2.2.2.2.2.2.2.2.2.2 ht he
  have hlt : x.toNatClampNeg < (bp_S h a).2 := Nat.not_le.mp fun q => hin (Or.inr q)
  exact f C.1 C.2.1 a1 a2 a3 (by rw [a4]; exact hin) (a5 _ hlt) ((hJ h r E').2 p l e R s m args below meth c C H locs ls cells slots hR hL hlv hc hs)
theorem bp_ofI {t a : Nat} {x : Int32} {K : Int32 → bp_M β} {h : bp_H} {r : (bp_E ⊕ β) × bp_H} (E : bp_aldI t a x K h = some r) : bp_in h t a x ∧ K (bp_I h a x.toNatClampNeg) h = some r := by
  unfold bp_aldI at E
  by_cases hc : bp_in h t a x
  · rw [if_pos hc] at E; exact ⟨hc, E⟩
  · rw [if_neg hc] at E; cases E
theorem bp_j_iaload {a : Nat} {x : Int32} {K : Int32 → bp_M β} (d : decode i.2.1 pc = .ok (.iaload, 1)) (kk : ∀ v, bp_J G i Qf (K v) (pc + 1) lv (.int v :: st)) : bp_J G i Qf (bp_aldI 20 a x K) pc lv (.int x :: .ref a :: st) :=
  bp_j_aldV (t := 20) rfl (fun hx hb h1 h2 h3 h4 h5 w => W.iald hx hb h1 h2 h3 h4 h5 rfl rfl d w) fun h r E => ⟨(bp_ofI E).1, _, (bp_ofI E).2, kk _⟩
theorem bp_j_baloadB {a : Nat} {x : Int32} {K : Int32 → bp_M β} (d : decode i.2.1 pc = .ok (.baload, 1)) (kk : ∀ v, bp_J G i Qf (K v) (pc + 1) lv (.int v :: st)) : bp_J G i Qf (bp_aldI 21 a x K) pc lv (.int x :: .ref a :: st) :=
  bp_j_aldV (t := 21) rfl (fun hx hb h1 h2 h3 h4 h5 w => W.bald hx hb h1 h2 h3 h4 h5 rfl rfl d w) fun h r E => ⟨(bp_ofI E).1, _, (bp_ofI E).2, kk _⟩
theorem bp_j_baloadZ {a : Nat} {x : Int32} {K : Int32 → bp_M β} (d : decode i.2.1 pc = .ok (.baload, 1)) (kk : ∀ v, bp_J G i Qf (K v) (pc + 1) lv (.int v :: st)) : bp_J G i Qf (bp_aldI 22 a x K) pc lv (.int x :: .ref a :: st) :=
  bp_j_aldV (t := 22) rfl (fun hx hb h1 h2 h3 h4 h5 w => W.zald hx hb h1 h2 h3 h4 h5 rfl rfl d w) fun h r E => ⟨(bp_ofI E).1, _, (bp_ofI E).2, kk _⟩
theorem bp_j_laload {a : Nat} {x : Int32} {K : Int64 → bp_M β} (d : decode i.2.1 pc = .ok (.laload, 1)) (kk : ∀ v, bp_J G i Qf (K v) (pc + 1) lv (.long v :: st)) : bp_J G i Qf (bp_aldL a x K) pc lv (.int x :: .ref a :: st) :=
  bp_j_aldV (t := 23) rfl (fun hx hb h1 h2 h3 h4 h5 w => W.lald hx hb h1 h2 h3 h4 h5 rfl rfl d w) fun h r E => by
    unfold bp_aldL at E
    by_cases hc : bp_in h 23 a x
    · rw [if_pos hc] at E; exact ⟨hc, _, E, kk _⟩
    · rw [if_neg hc] at E; cases E
theorem bp_j_aaload {t a : Nat} {x : Int32} {C : String} {K : Option Nat → bp_M β} (he : bp_et t = some (.object C)) (d : decode i.2.1 pc = .ok (.aaload, 1)) (kk : ∀ v, bp_J G i Qf (K v) (pc + 1) lv (va_rf v :: st)) : bp_J G i Qf (bp_aldR t a x K) pc lv (.int x :: .ref a :: st) :=
  bp_j_aldV he (fun hx hb h1 h2 h3 h4 h5 w => W.aald hx hb h1 h2 rfl h3 h4 h5 rfl rfl d w) fun h r E => by
    unfold bp_aldR at E
    by_cases hc : bp_in h t a x
    · rw [if_pos hc] at E; exact ⟨hc, _, E, kk _⟩
    · rw [if_neg hc] at E; cases E
theorem bp_j_aaloadN {t a : Nat} {x : Int32} {C : String} {K : Nat → bp_M β} (he : bp_et t = some (.object C)) (d : decode i.2.1 pc = .ok (.aaload, 1)) (kk : ∀ v, bp_J G i Qf (K v) (pc + 1) lv (.ref v :: st)) : bp_J G i Qf (bp_aldN t a x K) pc lv (.int x :: .ref a :: st) := bp_j_aaload he d fun r => bp_j_nn kk
theorem bp_j_alen {t a : Nat} {ty : FieldType} {K : Int32 → bp_M β} (he : bp_et t = some ty) (d : decode i.2.1 pc = .ok (.arraylength, 1)) (kk : ∀ v, bp_J G i Qf (K v) (pc + 1) lv (.int v :: st)) : bp_J G i Qf (bp_alen t a K) pc lv (.ref a :: st) := by
  intro h r E
  unfold bp_alen at E
  by_cases ht : (bp_S h a).1 = t
  · rw [if_pos ht] at E
    refine ⟨(kk _ h r E).1, fun p l e R s m args below meth c C H locs ls cells slots hR hL hlv hc hs => ?_⟩
    obtain ⟨cell, a1, a2, a3, a4, a5⟩ := bp_arr hR C.2.2.2.2.2.2.2.2.2.2.2.2 ht he
    exact W.alen (n := Int32.ofNat (bp_S h a).2) C.1 C.2.1 a1 a2 (by rw [a4] <;> rfl) rfl rfl d ((kk _ h r E).2 p l e R s m args below meth c C H locs ls cells slots hR hL hlv hc hs)
  · rw [if_neg ht] at E; cases E
/-- a store into an array: the machine's row is given -/
theorem bp_j_astV {t a : Nat} {x : Int32} {ty : FieldType} {v w : Value} {h' : bp_H → bp_H} (he : bp_et t = some ty)
    (f : ∀ {p : Program} {l : Launch} {e : Env} {R : Room} {s : State} {m : MethodId} {args : Array Value} {below : List Frame} {meth : Method} {c : Code} {H : Heap} {locs : List Loc} {cells slots : Nat} {Q : State → Prop} {ls : Array Slot} {h : bp_H} {r : (bp_E ⊕ β) × bp_H},
      bp_Cx G i p l R s m args meth c → bp_Rel G h H → P h = some r → (bp_S h a).1 = t → bp_B h ≤ a → ¬ (x < 0 ∨ (bp_S h a).2 ≤ x.toNatClampNeg) →
      (∀ H' : Heap, H'[a]? = some ((arrV (G.2.1 t) (bp_S h a).2 (fun k => bp_tv ty (bp_I h a k) (bp_L h a k) (bp_R h a k))).setSlot x.toNatClampNeg w) → H'.size = H.size → (∀ q, q ≠ a → H'[q]? = H[q]?) → W p l e R s m args below meth c H' (locs ++ [⟨a, x.toNatClampNeg⟩]) cells slots Q (F0 m (pc + 1) ls st)) →
      W p l e R s m args below meth c H locs cells slots Q (F0 m pc ls (v :: .int x :: .ref a :: st)))
    (e1 : ∀ h, bp_Z (h' h) = bp_Z h ∧ bp_B (h' h) = bp_B h ∧ bp_s (h' h) = bp_s h ∧ bp_S (h' h) = bp_S h ∧ bp_N (h' h) = bp_N h) (e5 : ∀ h y, y ≠ a → ∀ k, bp_I (h' h) y k = bp_I h y k ∧ bp_L (h' h) y k = bp_L h y k ∧ bp_R (h' h) y k = bp_R h y k)
    (e6 : ∀ h k, k ≠ x.toNatClampNeg → bp_tv ty (bp_I (h' h) a k) (bp_L (h' h) a k) (bp_R (h' h) a k) = bp_tv ty (bp_I h a k) (bp_L h a k) (bp_R h a k)) (e7 : ∀ h, bp_tv ty (bp_I (h' h) a x.toNatClampNeg) (bp_L (h' h) a x.toNatClampNeg) (bp_R (h' h) a x.toNatClampNeg) = w)
    {P' : bp_M β} (hP : ∀ h r, P h = some r → bp_in h t a x ∧ bp_B h ≤ a ∧ P' (h' h) = some r) (kk : bp_J G i Qf P' (pc + 1) lv st) : bp_J G i Qf P pc lv (v :: .int x :: .ref a :: st) := by
  intro h r E
  obtain ⟨⟨ht, hin⟩, hb, E'⟩ := hP h r E
  obtain ⟨z1, z2, z3, z4, z5⟩ := e1 h
  have K1 := kk (h' h) r E'
  rw [z1, z5] at K1
  refine ⟨K1.1, fun p l e R s m args below meth c C H locs ls cells slots hR hL hlv hc hs => ?_⟩
  refine f C hR E ht hb hin fun H' f1 f2 f3 => ?_
  have hba : bp_b G ≤ a := by rw [hR.2.1]; exact hb
  exact K1.2 p l e R s m args below meth c C H' _ ls cells slots (hR.puta C.2.2.2.2.2.2.2.2.2.2.2.2 ht he hb z1 z2 z3 z4 (e5 h) (e6 h) (e7 h) f1 f2 f3) (bp_lc hL hba) hlv hc hs
theorem bp_j_iastore {a : Nat} {x v : Int32} (d : decode i.2.1 pc = .ok (.iastore, 1)) (kk : bp_J G i Qf P (pc + 1) lv st) : bp_J G i Qf (bp_astI a x v P) pc lv (.int v :: .int x :: .ref a :: st) := by
  refine bp_j_astV (t := 20) (w := .int v) (h' := fun h => bp_setI h a x.toNatClampNeg v) rfl (fun C hR E ht hb hin w => ?_) (fun h => ⟨rfl, rfl, rfl, rfl, rfl⟩) (fun h y hy k => ⟨bp_u2_ne (Or.inl hy), rfl, rfl⟩) (fun h k hk => ?_) (fun h => ?_) (fun h r E => ?_) kk
  · obtain ⟨a1, a2, -⟩ := bp_arw hR C.2.2.2.2.2.2.2.2.2.2.2.2 ht (ty := .int) rfl hb
    exact W.iast C.1 C.2.1 a1 (a2 _ _) (fun q => by cases q) (by rw [arrV_size]; exact hin) rfl rfl d w
  · show Value.int (bp_u2 _ _ _ _ _ _) = _
    rw [bp_u2_ne (Or.inr hk)]; rfl
  · show Value.int (bp_u2 _ _ _ _ _ _) = _
    rw [bp_u2_eq]
  · unfold bp_astI at E
    by_cases hc : bp_in h 20 a x ∧ bp_B h ≤ a
    · rw [if_pos hc] at E; exact ⟨hc.1, hc.2, E⟩
    · rw [if_neg hc] at E; cases E
theorem bp_j_bastoreB {a : Nat} {x v : Int32} (d : decode i.2.1 pc = .ok (.bastore, 1)) (kk : bp_J G i Qf P (pc + 1) lv st) : bp_J G i Qf (bp_astB a x v P) pc lv (.int v :: .int x :: .ref a :: st) := by
  refine bp_j_astV (t := 21) (w := .int v.toInt8.toInt32) (h' := fun h => bp_setI h a x.toNatClampNeg v.toInt8.toInt32) rfl (fun C hR E ht hb hin w => ?_) (fun h => ⟨rfl, rfl, rfl, rfl, rfl⟩) (fun h y hy k => ⟨bp_u2_ne (Or.inl hy), rfl, rfl⟩) (fun h k hk => ?_) (fun h => ?_) (fun h r E => ?_) kk
  · obtain ⟨a1, a2, -⟩ := bp_arw hR C.2.2.2.2.2.2.2.2.2.2.2.2 ht (ty := .byte) rfl hb
    exact W.bast C.1 C.2.1 a1 (a2 _ _) (fun q => by cases q) (by rw [arrV_size]; exact hin) rfl rfl d w
  · show Value.int (bp_u2 _ _ _ _ _ _) = _
    rw [bp_u2_ne (Or.inr hk)]; rfl
  · show Value.int (bp_u2 _ _ _ _ _ _) = _
    rw [bp_u2_eq]
  · unfold bp_astB at E
    by_cases hc : bp_in h 21 a x ∧ bp_B h ≤ a
    · rw [if_pos hc] at E; exact ⟨hc.1, hc.2, E⟩
    · rw [if_neg hc] at E; cases E
theorem bp_j_bastoreZ {a : Nat} {x v : Int32} (d : decode i.2.1 pc = .ok (.bastore, 1)) (kk : bp_J G i Qf P (pc + 1) lv st) : bp_J G i Qf (bp_astZ a x v P) pc lv (.int v :: .int x :: .ref a :: st) := by
  by_cases hv : v = 0 ∨ v = 1
  · have hn : narrow .boolean (.int v) = .int v := by rcases hv with rfl | rfl <;> rfl
    refine bp_j_astV (t := 22) (w := .int v) (h' := fun h => bp_setI h a x.toNatClampNeg v) rfl (fun C hR E ht hb hin w => ?_) (fun h => ⟨rfl, rfl, rfl, rfl, rfl⟩) (fun h y hy k => ⟨bp_u2_ne (Or.inl hy), rfl, rfl⟩) (fun h k hk => ?_) (fun h => ?_) (fun h r E => ?_) kk
    · obtain ⟨a1, a2, -⟩ := bp_arw hR C.2.2.2.2.2.2.2.2.2.2.2.2 ht (ty := .boolean) rfl hb
      exact W.zast C.1 C.2.1 a1 (a2 _ _) (fun q => by cases q) (by rw [arrV_size]; exact hin) rfl rfl d (by rw [hn]; exact w)
    · show Value.int (bp_u2 _ _ _ _ _ _) = _
      rw [bp_u2_ne (Or.inr hk)]; rfl
    · show Value.int (bp_u2 _ _ _ _ _ _) = _
      rw [bp_u2_eq]
    · unfold bp_astZ at E
      by_cases hc : (v = 0 ∨ v = 1) ∧ bp_in h 22 a x ∧ bp_B h ≤ a
      · rw [if_pos hc] at E; exact ⟨hc.2.1, hc.2.2, E⟩
      · rw [if_neg hc] at E; cases E
  · intro h r E
    unfold bp_astZ at E
    rw [if_neg (fun hc => hv hc.1)] at E
    cases E
theorem bp_j_lastore {a : Nat} {x : Int32} {v : Int64} (d : decode i.2.1 pc = .ok (.lastore, 1)) (kk : bp_J G i Qf P (pc + 1) lv st) : bp_J G i Qf (bp_astL a x v P) pc lv (.long v :: .int x :: .ref a :: st) := by
  refine bp_j_astV (t := 23) (w := .long v) (h' := fun h => bp_setL h a x.toNatClampNeg v) rfl (fun C hR E ht hb hin w => ?_) (fun h => ⟨rfl, rfl, rfl, rfl, rfl⟩) (fun h y hy k => ⟨rfl, bp_u2_ne (Or.inl hy), rfl⟩) (fun h k hk => ?_) (fun h => ?_) (fun h r E => ?_) kk
  · obtain ⟨a1, a2, -⟩ := bp_arw hR C.2.2.2.2.2.2.2.2.2.2.2.2 ht (ty := .long) rfl hb
    exact W.last C.1 C.2.1 a1 (a2 _ _) (fun q => by cases q) (by rw [arrV_size]; exact hin) rfl rfl d w
  · show Value.long (bp_u2 _ _ _ _ _ _) = _
    rw [bp_u2_ne (Or.inr hk)]; rfl
  · show Value.long (bp_u2 _ _ _ _ _ _) = _
    rw [bp_u2_eq]
  · unfold bp_astL at E
    by_cases hc : bp_in h 23 a x ∧ bp_B h ≤ a
    · rw [if_pos hc] at E; exact ⟨hc.1, hc.2, E⟩
    · rw [if_neg hc] at E; cases E
/-- a reference into an array: the value's class tv may stand there -/
theorem bp_j_astQ {t tv a v : Nat} {x : Int32} {C : String} {q : vw_C} (he : bp_et t = some (.object C)) (hq : bp_cl[tv]? = some q) (hcast : C = q.1 ∨ Cond.castable q.1 C ∈ bp_nw) (d : decode i.2.1 pc = .ok (.aastore, 1)) {P' : bp_M β}
    (hP : ∀ h r, P h = some r → bp_in h t a x ∧ bp_B h ≤ a ∧ (bp_S h v).1 = tv ∧ P' (bp_setR h a x.toNatClampNeg (some v)) = some r) (kk : bp_J G i Qf P' (pc + 1) lv st) : bp_J G i Qf P pc lv (.ref v :: .int x :: .ref a :: st) := by
  refine bp_j_astV (t := t) (w := .ref v) (h' := fun h => bp_setR h a x.toNatClampNeg (some v)) he (@fun p l e R s m args below meth c H locs cells slots Q ls h r CX hR E ht hb hin w => ?_) (fun h => ⟨rfl, rfl, rfl, rfl, rfl⟩) (fun h y hy k => ⟨rfl, rfl, bp_u2_ne (Or.inl hy)⟩) (fun h k hk => ?_) (fun h => ?_) (fun h r E => ⟨(hP h r E).1, (hP h r E).2.1, (hP h r E).2.2.2⟩) kk
  · have hK : bp_K G s := CX.2.2.2.2.2.2.2.2.2.2.2.2
    obtain ⟨a1, a2, kA, comp, k1, k2, k3, k4⟩ := bp_arw hR hK ht he hb
    obtain ⟨cell, g1, g2, -, g3, -⟩ := (hR.2.2.2.2.2 v).1 q (by rw [(hP _ _ E).2.2.1]; exact hq)
    rw [(hP _ _ E).2.2.1] at g2
    obtain ⟨-, hcls⟩ := hK.1.1 tv _ hq
    obtain ⟨kC, hkC, -⟩ := hcls.2
    obtain ⟨hasg, kcomp, hkc⟩ : s.vm.assignable (G.1.1 tv) comp = true ∧ ∃ kcomp, s.vm.classes[comp]? = some kcomp := by
      rcases hcast with rfl | hcast
      · cases k3.symm.trans hcls.1
        exact ⟨va_assign hcls, kC, hkC⟩
      · obtain ⟨c0, t0, f1, f2, f3⟩ := Cond.castable_spec (hK.2.2.1 _ hcast)
        cases hcls.1.symm.trans f1
        cases k3.symm.trans f2
        obtain ⟨k9, h9, -⟩ := Vm.findClass_spec f2
        exact ⟨f3, k9, h9⟩
    exact W.aast CX.1 CX.2.1 a1 (fun q h => by cases h) (fun h => by cases h) k1 k2 rfl hkc ⟨fun z => hin (Or.inl z), by rw [arrV_size]; exact Nat.not_le.mp fun z => hin (Or.inr z)⟩ g1 (fun q h => by rw [h] at g3; cases g3) (by rw [g2]; exact hkC) (by rw [g2]; exact hasg) rfl rfl d w
  · show va_rf (bp_u2 _ _ _ _ _ _) = _
    rw [bp_u2_ne (Or.inr hk)]; rfl
  · show va_rf (bp_u2 _ _ _ _ _ _) = _
    rw [bp_u2_eq]; rfl
theorem bp_j_aastore {t a v : Nat} {x : Int32} {q : vw_C} (he : bp_et t = some (.object q.1)) (hq : bp_cl[bp_ec t]? = some q) (d : decode i.2.1 pc = .ok (.aastore, 1)) (kk : bp_J G i Qf P (pc + 1) lv st) : bp_J G i Qf (bp_astR t a x v P) pc lv (.ref v :: .int x :: .ref a :: st) :=
  bp_j_astQ he hq (Or.inl rfl) d (fun h r E => by
    unfold bp_astR at E
    by_cases hc : bp_in h t a x ∧ bp_B h ≤ a ∧ (bp_S h v).1 = bp_ec t
    · rw [if_pos hc] at E; exact ⟨hc.1, hc.2.1, hc.2.2, E⟩
    · rw [if_neg hc] at E; cases E) kk
theorem bp_j_aastoreO {tv a v : Nat} {x : Int32} {q : vw_C} (hq : bp_cl[tv]? = some q) (hc : Cond.castable q.1 "java/lang/Object" ∈ lw_tbl) (d : decode i.2.1 pc = .ok (.aastore, 1)) (kk : bp_J G i Qf P (pc + 1) lv st) : bp_J G i Qf (bp_astO tv a x v P) pc lv (.ref v :: .int x :: .ref a :: st) :=
  bp_j_astQ (t := 27) rfl hq (Or.inr (List.mem_filter.mpr ⟨hc, rfl⟩)) d (fun h r E => by
    unfold bp_astO at E
    by_cases hc : bp_in h 27 a x ∧ bp_B h ≤ a ∧ (bp_S h v).1 = tv
    · rw [if_pos hc] at E; exact ⟨hc.1, hc.2.1, hc.2.2, E⟩
    · rw [if_neg hc] at E; cases E) kk
theorem bp_j_aastore0 {t a : Nat} {x : Int32} {C : String} (he : bp_et t = some (.object C)) (d : decode i.2.1 pc = .ok (.aastore, 1)) (kk : bp_J G i Qf P (pc + 1) lv st) : bp_J G i Qf (bp_ast0 t a x P) pc lv (.null :: .int x :: .ref a :: st) := by
  refine bp_j_astV (t := t) (w := .null) (h' := fun h => bp_setR h a x.toNatClampNeg none) he (fun C hR E ht hb hin w => ?_) (fun h => ⟨rfl, rfl, rfl, rfl, rfl⟩) (fun h y hy k => ⟨rfl, rfl, bp_u2_ne (Or.inl hy)⟩) (fun h k hk => ?_) (fun h => ?_) (fun h r E => ?_) kk
  · obtain ⟨a1, a2, -⟩ := bp_arw hR C.2.2.2.2.2.2.2.2.2.2.2.2 ht he hb
    exact va_WaastN C.1 C.2.1 a1 (a2 _ _) (fun q => by cases q) (by rw [arrV_size]; exact hin) rfl rfl d w
  · show va_rf (bp_u2 _ _ _ _ _ _) = _
    rw [bp_u2_ne (Or.inr hk)]; rfl
  · show va_rf (bp_u2 _ _ _ _ _ _) = _
    rw [bp_u2_eq]; rfl
  · unfold bp_ast0 at E
    by_cases hc : bp_in h t a x ∧ bp_B h ≤ a
    · rw [if_pos hc] at E; exact ⟨hc.1, hc.2, E⟩
    · rw [if_neg hc] at E; cases E
/-- new C -/
theorem bp_j_new {t n index : Nat} {q : vw_C} {K : Nat → bp_M β} (hq : bp_cl[t]? = some q) (h8 : t < 8) (hn : q.2.2 = n) (h50 : n ≤ 50) (hw1 : Cond.classLink i.1.cls index q.1 ∈ lw_all) (hw2 : Cond.instantiable q.1 n ∈ lw_all) (hw3 : Cond.initialized q.1 ∈ lw_all) (d : decode i.2.1 pc = .ok (.new index, 3))
    (kk : ∀ x, bp_J G i Qf (K x) (pc + 3) lv (.ref x :: st)) : bp_J G i Qf (bp_new t n K) pc lv st := by
  intro h r E
  have E1 : K (bp_Z h) (bp_mk h (t, 0) n) = some r := E
  have K1 := kk (bp_Z h) _ r E1
  have z1 : bp_Z (bp_mk h (t, 0) n) = bp_Z h + 1 := rfl
  have z2 : bp_N (bp_mk h (t, 0) n) = bp_N h + n := rfl
  rw [z1, z2] at K1
  refine ⟨⟨by omega, by omega⟩, fun p l e R s m args below meth c C H locs ls cells slots hR hL hlv hc hs => ?_⟩
  have hK : bp_K G s := C.2.2.2.2.2.2.2.2.2.2.2.2
  have hts := C.2.2.2.2.1
  have hKn := hK.1.1 t _ hq
  obtain ⟨c1, c2, c3⟩ := bp_cls hq h8
  refine W.newcK C.1 C.2.1 C.2.2.2.1 (hts _ hw1) (hts _ hw2) (hts _ hw3) rfl d (by omega) (by omega) hKn.2.1 hR.1 fun H' kC hkC f1 f2 f3 => ?_
  rw [← hR.1] at f1 f2 f3
  refine K1.2 p l e R s m args below meth c C H' locs ls (cells + 1) (slots + n) (hR.mk f2 f3 ⟨fun q' hq' => ?_, fun ty hty => ?_⟩) hL hlv (by omega) (by omega)
  · have s1 : bp_S (bp_mk h (t, 0) n) H.size = (t, 0) := if_pos hR.1
    rw [s1] at hq' ⊢
    cases hq.symm.trans hq'
    obtain ⟨cell, u1, u2, u3, u4⟩ := u_born (bp_ft t) hts c1 hKn hkC f1 c2
    refine ⟨cell, u1, u2, by rw [u3]; exact fun z => (by cases z), by rw [u3]; rfl, fun _ => u3, fun k hk => ?_⟩
    rw [u4 k hk]
    congr 1
    have i1 : bp_I (bp_mk h (t, 0) n) H.size k = 0 := if_pos hR.1
    have i2 : bp_L (bp_mk h (t, 0) n) H.size k = 0 := if_pos hR.1
    have i3 : bp_R (bp_mk h (t, 0) n) H.size k = none := if_pos hR.1
    show defaultValue (bp_ft t k) = bp_tv (bp_ft t k) _ _ _
    rw [i1, i2, i3]
    exact bp_dv _ (bp_ftd h8 (by omega)).1 (bp_ftd h8 (by omega)).2
  · have s1 : bp_S (bp_mk h (t, 0) n) H.size = (t, 0) := if_pos hR.1
    rw [s1] at hty
    rw [bp_etC hty] at hq
    cases hq
/-- new array of ints, bytes, booleans, longs -/
theorem bp_j_newarray {t : Nat} {n : Int32} {aty : ArrayType} {K : Nat → bp_M β} (he : bp_et t = some (newarray.typeOf aty)) (h23 : t < 24) (hw : Cond.arrayClass (newarray.typeOf aty) ∈ lw_all) (hcb : componentBytes (newarray.typeOf aty) ≤ 8) (d : decode i.2.1 pc = .ok (.newarray aty, 2))
    (kk : ∀ x, bp_J G i Qf (K x) (pc + 2) lv (.ref x :: st)) : bp_J G i Qf (bp_newa t n K) pc lv (.int n :: st) := by
  intro h r E
  unfold bp_newa at E
  by_cases hcn : ¬ n < 0 ∧ n.toNatClampNeg ≤ 65536
  · rw [if_pos hcn] at E
    have K1 := kk (bp_Z h) _ r E
    have z1 : bp_Z (bp_mk h (t, n.toNatClampNeg) n.toNatClampNeg) = bp_Z h + 1 := rfl
    have z2 : bp_N (bp_mk h (t, n.toNatClampNeg) n.toNatClampNeg) = bp_N h + n.toNatClampNeg := rfl
    rw [z1, z2] at K1
    refine ⟨⟨by omega, by omega⟩, fun p l e R s m args below meth c C H locs ls cells slots hR hL hlv hc hs => ?_⟩
    have hK : bp_K G s := C.2.2.2.2.2.2.2.2.2.2.2.2
    have hts := C.2.2.2.2.1
    refine va_newaK C.1 C.2.1 (hts _ hw) rfl d rfl hcn.1 rfl (Nat.le_trans (Nat.mul_le_mul hcn.2 hcb) (by decide)) (by omega) (by omega) hR.1 fun H' cA f1 f2 f3 f4 f5 => ?_
    rw [← hR.1] at f1 f2 f3
    have hcA : cA = G.2.1 t := by
      obtain ⟨j, hj⟩ := bp_tyK G he
      have h2 := (hK.1.2 j _ hj).2
      have h3 : s.vm.findClass ("[" ++ (newarray.typeOf aty).toString) = some (G.2.1 t) := by
        cases aty <;> exact h2
      exact Option.some.inj (f5.symm.trans h3)
    subst hcA
    refine K1.2 p l e R s m args below meth c C H' locs ls (cells + 1) (slots + n.toNatClampNeg) (hR.mk f2 f3 ⟨fun q' hq' => ?_, fun ty hty => ?_⟩) hL hlv (by omega) (by omega)
    · have s1 : bp_S (bp_mk h (t, n.toNatClampNeg) n.toNatClampNeg) H.size = (t, n.toNatClampNeg) := if_pos hR.1
      rw [s1, bp_etC he] at hq'
      cases hq'
    · have s1 : bp_S (bp_mk h (t, n.toNatClampNeg) n.toNatClampNeg) H.size = (t, n.toNatClampNeg) := if_pos hR.1
      rw [s1] at hty ⊢
      cases he.symm.trans hty
      refine bp_AR.own (hK.2.2.2.2.2.2.2.2.2.2.2.2.2.2 t _ he).1 ?_
      rw [f1]
      congr 2
      funext k
      have i1 : bp_I (bp_mk h (t, n.toNatClampNeg) n.toNatClampNeg) H.size k = 0 := if_pos hR.1
      have i2 : bp_L (bp_mk h (t, n.toNatClampNeg) n.toNatClampNeg) H.size k = 0 := if_pos hR.1
      have i3 : bp_R (bp_mk h (t, n.toNatClampNeg) n.toNatClampNeg) H.size k = none := if_pos hR.1
      rw [i1, i2, i3]
      unfold bp_et at he
      split at he <;> first | (exfalso; omega) | (have he' := Option.some.inj he; rw [← he']; rfl) | (cases he; done)
  · rw [if_neg hcn] at E; cases E
theorem bp_aoK {U : State} {t : Nat} {C : String} (hK : bp_K G U) (h1 : 24 ≤ t) (h2 : t ≠ 26) (he : bp_et t = some (.object C)) : va_AO C U := by
  unfold bp_et at he
  split at he <;> first | (exfalso; omega) | (cases he; first | exact hK.2.2.2.2.1 | exact hK.2.2.2.2.2.1 | exact hK.2.2.2.2.2.2.1) | (exfalso; exact h2 rfl) | cases he
/-- new array of references -/
theorem bp_j_anewarray {t index : Nat} {n : Int32} {C0 : String} {K : Nat → bp_M β} (he : bp_et t = some (.object C0)) (h1 : 24 ≤ t) (h2 : t ≠ 26) (hw : Cond.classLink i.1.cls index C0 ∈ lw_all) (d : decode i.2.1 pc = .ok (.anewarray index, 3))
    (kk : ∀ x, bp_J G i Qf (K x) (pc + 3) lv (.ref x :: st)) : bp_J G i Qf (bp_newa t n K) pc lv (.int n :: st) := by
  intro h r E
  unfold bp_newa at E
  by_cases hcn : ¬ n < 0 ∧ n.toNatClampNeg ≤ 65536
  · rw [if_pos hcn] at E
    have K1 := kk (bp_Z h) _ r E
    have z1 : bp_Z (bp_mk h (t, n.toNatClampNeg) n.toNatClampNeg) = bp_Z h + 1 := rfl
    have z2 : bp_N (bp_mk h (t, n.toNatClampNeg) n.toNatClampNeg) = bp_N h + n.toNatClampNeg := rfl
    rw [z1, z2] at K1
    refine ⟨⟨by omega, by omega⟩, fun p l e R s m args below meth c C H locs ls cells slots hR hL hlv hc hs => ?_⟩
    have hK : bp_K G s := C.2.2.2.2.2.2.2.2.2.2.2.2
    have hts := C.2.2.2.2.1
    refine W.anew C.1 C.2.1 C.2.2.2.1 (hts _ hw) (va_AO.use (bp_aoK hK h1 h2 he)) rfl d rfl hcn.1 (by omega) (by omega) (by omega) fun cA kA comp f1 f2 f3 f4 => ?_
    have hcA : cA = G.2.1 t := by
      obtain ⟨j, hj⟩ := bp_tyK G he
      obtain ⟨kA', comp', g1, g2, g3, g4⟩ := (hK.1.2 j _ hj).2
      exact Option.some.inj (f1.symm.trans g4)
    subst hcA
    rw [hR.1]
    refine K1.2 p l e R s m args below meth c C _ locs ls (cells + 1) (slots + n.toNatClampNeg) (hR.mk (by simp) (fun x hx => by rw [Array.getElem?_push, if_neg (Nat.ne_of_lt hx)]) ⟨fun q' hq' => ?_, fun ty hty => ?_⟩) hL hlv (by omega) (by omega)
    · have s1 : bp_S (bp_mk h (t, n.toNatClampNeg) n.toNatClampNeg) H.size = (t, n.toNatClampNeg) := if_pos hR.1
      rw [s1, bp_etC he] at hq'
      cases hq'
    · have s1 : bp_S (bp_mk h (t, n.toNatClampNeg) n.toNatClampNeg) H.size = (t, n.toNatClampNeg) := if_pos hR.1
      rw [s1] at hty ⊢
      cases he.symm.trans hty
      refine bp_AR.own (hK.2.2.2.2.2.2.2.2.2.2.2.2.2.2 t _ he).1 ?_
      rw [arrV_new, Array.getElem?_push, if_pos rfl]
      congr 2
      funext k
      have i3 : bp_R (bp_mk h (t, n.toNatClampNeg) n.toNatClampNeg) H.size k = none := if_pos hR.1
      rw [i3]
      rfl
  · rw [if_neg hcn] at E; cases E
/-- a static that holds a reference or null -/
theorem bp_j_getsR {j index : Nat} {q : String × String × String} {K : Option Nat → bp_M β} (hq : bp_st[j]? = some q) (hl : bp_Lk i.1.cls index q.1 q.2.1 q.2.2) (d : decode i.2.1 pc = .ok (.getstatic index, 3)) (kk : ∀ x, bp_J G i Qf (K x) (pc + 3) lv (va_rf x :: st)) : bp_J G i Qf (bp_getsR j K) pc lv st := by
  intro h r E
  have K1 := kk (bp_s h j) h r E
  refine ⟨K1.1, fun p l e R s m args below meth c C H locs ls cells slots hR hL hlv hc hs => ?_⟩
  have hK : bp_K G s := C.2.2.2.2.2.2.2.2.2.2.2.2
  have hZ := hK.2.1 j q hq
  rw [hR.2.2.2.1] at hZ
  obtain ⟨cf, kf, fi, f, a, cell, h1, h2, h3, h4, h5, h6, h7, h8⟩ := hZ
  have h5' : H[a]? = some cell := by
    rw [hR.2.2.2.2.1 a (Nat.not_le.mp h8)]
    exact h5
  have W1 := K1.2 p l e R s m args below meth c C H locs ls cells slots hR hL hlv hc hs
  rcases hl with ⟨ref, hw, hr⟩ | ⟨host, hw⟩
  · have hi2 : s.fieldFound? ref q.2.1 q.2.2 = some (cf, kf, fi, f) := by
      rcases hr with rfl | hr
      · exact h1
      · exact u_same (C.2.2.2.2.1 _ hr) _ h1
    exact W.gets C.1 C.2.1 C.2.2.2.1 (C.2.2.2.2.1 _ hw) hi2 h2 h3 h4 h5' (fun e => by rw [e] at h6; cases h6) h7 rfl d W1
  · exact va_WgetsN C.1 C.2.1 C.2.2.2.1 (va_Nw.use rfl (hK.2.2.1 _ hw)) h1 h2 h3 h4 h5' (fun e => by rw [e] at h6; cases h6) h7 rfl d W1
theorem bp_j_gets {j index : Nat} {q : String × String × String} {K : Nat → bp_M β} (hq : bp_st[j]? = some q) (hl : bp_Lk i.1.cls index q.1 q.2.1 q.2.2) (d : decode i.2.1 pc = .ok (.getstatic index, 3)) (kk : ∀ x, bp_J G i Qf (K x) (pc + 3) lv (.ref x :: st)) : bp_J G i Qf (bp_gets j K) pc lv st := bp_j_getsR hq hl d fun r => bp_j_nn kk
/-- a cast that holds -/
theorem bp_j_cast {t a index : Nat} {nm : String} {q : vw_C} (hq : bp_cl[t]? = some q) (hw : Cond.classLink i.1.cls index nm ∈ lw_all) (hcast : Cond.castable q.1 nm ∈ lw_tbl) (d : decode i.2.1 pc = .ok (.checkcast index, 3)) (kk : bp_J G i Qf P (pc + 3) lv (.ref a :: st)) : bp_J G i Qf (bp_is t a P) pc lv (.ref a :: st) := by
  intro h r E
  unfold bp_is at E
  by_cases ht : (bp_S h a).1 = t
  · rw [if_pos ht] at E
    have K1 := kk h r E
    refine ⟨K1.1, fun p l e R s m args below meth c C H locs ls cells slots hR hL hlv hc hs => ?_⟩
    have hK : bp_K G s := C.2.2.2.2.2.2.2.2.2.2.2.2
    obtain ⟨cell, g1, g2, -, g3, -⟩ := (hR.2.2.2.2.2 a).1 q (by rw [ht]; exact hq)
    rw [ht] at g2
    exact va_castY C.1 C.2.1 C.2.2.2.1 (C.2.2.2.2.1 _ hw) (hK.2.2.1 _ (List.mem_filter.mpr ⟨hcast, rfl⟩)) ⟨cell, g1, g3, by rw [g2]; exact (hK.1.1 t _ hq).2.1⟩ d (K1.2 p l e R s m args below meth c C H locs ls cells slots hR hL hlv hc hs)
  · rw [if_neg ht] at E; cases E
end JRA
/-! Contracts: a method follows its program; returns, throws, calls -/
def bp_eI (v : Int32) : Option Value := some (.int v)
def bp_eL (v : Int64) : Option Value := some (.long v)
def bp_eN (v : Nat) : Option Value := some (.ref v)
def bp_eR (v : Option Nat) : Option Value := some (va_rf v)
def bp_eU (_ : Unit) : Option Value := none
/-- the classes that are thrown -/
def bp_en (k : Nat) : String := match k with
  | 1 => "java/lang/IllegalArgumentException"
  | 2 => "java/lang/UnsupportedOperationException"
  | 3 => "java/lang/IllegalStateException"
  | 4 => "java/lang/IndexOutOfBoundsException"
  | _ => "BilevelPages$WrongSegment"
def bp_Qc {α : Type} (G : bp_GT) (en : α → Option Value) (r : (bp_E ⊕ α) × bp_H) : Array Value → State → Outcome → State → Prop := fun _ _ o t => ∃ v : α, r.1 = .inr v ∧ o = .returned (en v) ∧ bp_Rel G r.2 t.heap
def bp_XC {α : Type} (G : bp_GT) (r : (bp_E ⊕ α) × bp_H) : String → Nat → State → State → Prop := fun E q _ t => ∃ k : Nat, r.1 = .inl (k, q) ∧ E = bp_en k ∧ bp_Rel G r.2 t.heap
def bp_Qn {α : Type} (G : bp_GT) (en : α → Option Value) : bp_QT α := fun r R s args below => vx_MQ below (bp_Qc G en r) (bp_XC G r) args s R.cells R.slots (fun q => bp_b G ≤ q)
def bp_Pre (G : bp_GT) (h : bp_H) (av : List Value) : Array Value → State → Prop := va_Pc av (fun U => bp_Rel G h U.heap ∧ bp_K G U)
theorem bp_blind {G : bp_GT} {h : bp_H} {av : List Value} : FrameBlind (bp_Pre G h av) := fun a U g mk q => ⟨q.1, q.2.1, bp_K.same (U := U) rfl q.2.2⟩
/-- the contract: the method follows the program f -/
def bp_Con {α : Type} (G : bp_GT) (i : bp_MI) (ws : List Cond) (av : List Value) (f : bp_M α) (en : α → Option Value) : Prop :=
  ∀ (h : bp_H) (r : (bp_E ⊕ α) × bp_H), f h = some r → (bp_Z h ≤ bp_Z r.2 ∧ bp_N h ≤ bp_N r.2) ∧
    ∀ l : Launch, l.stackTraces = false → vx_Met l i.1 ws { frames := i.2.2.2.2.2.1, cells := bp_Z r.2 - bp_Z h, slots := bp_N r.2 - bp_N h, locals := i.2.2.2.2.2.2 } (bp_Pre G h av) (bp_Qc G en r) (bp_XC G r) (bp_Z r.2 - bp_Z h) (bp_N r.2 - bp_N h) (fun q => bp_b G ≤ q)
section CON
variable {β : Type} {G : bp_GT} {i : bp_MI}
/-- a method without handlers -/
theorem bp_con_of {en : β → Option Value} {f : bp_M β} {av : List Value} (lv : List (Nat × Value)) (hh : i.2.2.2.2.1 = []) (hy : plainName i.1.cls = true) (hlen : (lg_sl av).length ≤ i.2.2.1) (hlv : lv_args 0 av = lv) (hJ : bp_J G i (bp_Qn G en) f 0 lv []) : bp_Con G i (ws_ i.1 i.2.1 i.2.2.1 i.2.2.2.1) av f en := by
  intro h r E
  refine ⟨(hJ h r E).1, fun l hl => ?_⟩
  refine vx_ofW (cc := i.2.1) (maxL := i.2.2.1) (ret := i.2.2.2.1) hy rfl ?_
  intro p e s m args below meth c s₁ B hml ht hv
  obtain ⟨rfl, hR, hK⟩ := hv
  have hts := atoms_spec (ws := ws_ i.1 i.2.1 i.2.2.1 i.2.2.2.1) B.pre
  have hts : ∀ w ∈ lw_all, w.before _ s = true := fun w h => hts w (List.mem_cons_of_mem _ h)
  have hlv0 := lv_entry av hlen
  rw [lg_entry_eq]
  rw [hlv] at hlv0
  have htab : c.exceptionTable.toList = tableOf i.2.2.2.2.1 := by
    rw [hh]
    cases hq : c.exceptionTable.toList with
    | nil => rfl
    | cons x xs => exact absurd (ht x (by rw [hq]; exact List.mem_cons_self)) (fun z => z)
  refine (hJ h r E).2 p l e _ s m _ below meth c ⟨B.exec, B.bytes, hml, findClass_of_methodNamed B.named, hts, B.notSynchronized, B.returns, htab, rfl, rfl, (name_of_methodNamed B.named B.method).1, ⟨hl, by have := hR.2.2.1; exact this, hR.2.2.2.2.1⟩, hK⟩ s.heap [] _ 0 0 hR (fun z hz => by cases hz) hlv0 ?_ ?_
  · show 0 + _ ≤ bp_Z r.2 - bp_Z h
    omega
  · show 0 + _ ≤ bp_N r.2 - bp_N h
    omega
/-- a method with handlers -/
theorem bp_con_ofH {en : β → Option Value} {f : bp_M β} {av : List Value} (lv : List (Nat × Value)) (hy : plainName i.1.cls = true) (hlen : (lg_sl av).length ≤ i.2.2.1) (hlv : lv_args 0 av = lv) (hJ : bp_J G i (bp_Qn G en) f 0 lv []) : bp_Con G i (wsW_ i.1 i.2.1 i.2.2.1 i.2.2.2.1 i.2.2.2.2.1) av f en := by
  intro h r E
  refine ⟨(hJ h r E).1, fun l hl => ?_⟩
  refine vx_ofWH (cc := i.2.1) (maxL := i.2.2.1) (ret := i.2.2.2.1) (hh := i.2.2.2.2.1) hy rfl ?_
  intro p e s m args below meth c s₁ B hml hv
  obtain ⟨rfl, hR, hK⟩ := hv
  have hts0 := atoms_spec (ws := wsW_ i.1 i.2.1 i.2.2.1 i.2.2.2.1 i.2.2.2.2.1) B.pre
  have hts : ∀ w ∈ lw_all, w.before _ s = true := fun w h => hts0 w (List.mem_cons_of_mem _ h)
  have hlv0 := lv_entry av hlen
  rw [lg_entry_eq]
  rw [hlv] at hlv0
  have htab : c.exceptionTable.toList = tableOf i.2.2.2.2.1 := vx_table (x := i.1) B (hts0 _ List.mem_cons_self)
  refine (hJ h r E).2 p l e _ s m _ below meth c ⟨B.exec, B.bytes, hml, findClass_of_methodNamed B.named, hts, B.notSynchronized, B.returns, htab, rfl, rfl, (name_of_methodNamed B.named B.method).1, ⟨hl, by have := hR.2.2.1; exact this, hR.2.2.2.2.1⟩, hK⟩ s.heap [] _ 0 0 hR (fun z hz => by cases hz) hlv0 ?_ ?_
  · show 0 + _ ≤ bp_Z r.2 - bp_Z h
    omega
  · show 0 + _ ≤ bp_N r.2 - bp_N h
    omega
variable {pc : Nat} {lv : List (Nat × Value)} {st : List Value}
/-- the end of a body that returns v -/
theorem bp_j_retV {v : β} {en : β → Option Value} (f : ∀ {p : Program} {l : Launch} {e : Env} {R : Room} {s : State} {m : MethodId} {args : Array Value} {below : List Frame} {meth : Method} {c : Code} {H : Heap} {locs : List Loc} {cells slots : Nat} {ls : Array Slot} {Qc : Array Value → State → Outcome → State → Prop} {free : Addr → Prop},
      bp_Cx G i p l R s m args meth c → (∀ t : State, t.heap = H → s.WarmedH t.vm → Qc args s (.returned (en v)) t) → (∀ q ∈ locs, free q.base) → W p l e R s m args below meth c H locs cells slots (MQ below Qc args s cells slots free) (F0 m pc ls st)) : bp_J G i (bp_Qn G en) (bp_ret v) pc lv st := by
  intro h r E
  cases E
  refine ⟨⟨Nat.le_refl _, Nat.le_refl _⟩, fun p l e R s m args below meth c C H locs ls cells slots hR hL hlv hc hs => ?_⟩
  refine W.widen (k := R.cells) (n := R.slots) (by omega) (by omega) (vx_ret ?_)
  exact f C (fun t ht hW => ⟨v, rfl, rfl, by rw [ht]; exact hR⟩) hL
theorem bp_j_iret {v : Int32} (hr : i.2.2.2.1 = some .int) (d : decode i.2.1 pc = .ok (.ireturn, 1)) : bp_J G i (bp_Qn G bp_eI) (bp_ret v) pc lv [.int v] :=
  bp_j_retV fun C hq hf => W.iret C.1 C.2.1 (C.2.2.2.2.2.2.1.trans hr) hq hf d C.2.2.2.2.2.1
/-- a boolean answer: one bit -/
def bp_retZ (v : Int32) : bp_M Int32 := fun h => if v = 0 ∨ v = 1 then some (.inr v, h) else none
theorem bp_j_zret {v : Int32} (hr : i.2.2.2.1 = some .boolean) (d : decode i.2.1 pc = .ok (.ireturn, 1)) : bp_J G i (bp_Qn G bp_eI) (bp_retZ v) pc lv [.int v] := by
  by_cases hv : v = 0 ∨ v = 1
  · have e : bp_retZ v = bp_ret v := funext fun h => if_pos hv
    rw [e]
    exact bp_j_retV fun C hq hf => W.zret C.1 C.2.1 (C.2.2.2.2.2.2.1.trans hr) (by rcases hv with rfl | rfl <;> rfl) hq hf d C.2.2.2.2.2.1
  · intro h r E
    rw [show bp_retZ v h = none from if_neg hv] at E
    cases E
theorem bp_j_lret {v : Int64} (hr : i.2.2.2.1 = some .long) (d : decode i.2.1 pc = .ok (.lreturn, 1)) : bp_J G i (bp_Qn G bp_eL) (bp_ret v) pc lv [.long v] :=
  bp_j_retV fun C hq hf => W.lret C.1 C.2.1 (C.2.2.2.2.2.2.1.trans hr) hq hf d C.2.2.2.2.2.1
theorem bp_j_vret (hr : i.2.2.2.1 = none) (d : decode i.2.1 pc = .ok (.return_, 1)) : bp_J G i (bp_Qn G bp_eU) (bp_ret ()) pc lv [] :=
  bp_j_retV fun C hq hf => W.vret C.1 C.2.1 (C.2.2.2.2.2.2.1.trans hr) hq hf d C.2.2.2.2.2.1
theorem bp_j_aretN {v : Nat} {rt : FieldType} (hr : i.2.2.2.1 = some rt) (hrt : (∃ n, rt = .object n) ∨ ∃ t, rt = .array t) (d : decode i.2.1 pc = .ok (.areturn, 1)) : bp_J G i (bp_Qn G bp_eN) (bp_ret v) pc lv [.ref v] :=
  bp_j_retV fun C hq hf => W.aret C.1 C.2.1 (C.2.2.2.2.2.2.1.trans hr) hrt (Or.inr ⟨v, rfl⟩) hq hf d C.2.2.2.2.2.1
theorem bp_j_aretR {v : Option Nat} {rt : FieldType} (hr : i.2.2.2.1 = some rt) (hrt : (∃ n, rt = .object n) ∨ ∃ t, rt = .array t) (d : decode i.2.1 pc = .ok (.areturn, 1)) : bp_J G i (bp_Qn G bp_eR) (bp_ret v) pc lv [va_rf v] :=
  bp_j_retV fun C hq hf => W.aret C.1 C.2.1 (C.2.2.2.2.2.2.1.trans hr) hrt (by cases v; exact Or.inl rfl; exact Or.inr ⟨_, rfl⟩) hq hf d C.2.2.2.2.2.1
/-- Object.<init> -/
theorem bp_j_objInit {Qf : bp_QT β} {P : bp_M β} {index a : Nat} (hw : Cond.methodLink i.1.cls index objectInit ∈ lw_all) (h1 : Cond.instanceMethod objectInit ∈ lw_all) (h2 : Cond.code objectInit ⟨#[0xb1]⟩ 1 none ∈ lw_all) (d : decode i.2.1 pc = .ok (.invokespecial index, 3)) (hf : 1 ≤ i.2.2.2.2.2.1) (hlo : (st.map fun v => v.category).sum + 12 ≤ i.2.2.2.2.2.2)
    (kk : bp_J G i Qf P (pc + 3) lv st) : bp_J G i Qf P pc lv (.ref a :: st) := by
  intro h r E
  refine ⟨(kk h r E).1, fun p l e R s m args below meth c C H locs ls cells slots hR hL hlv hc hs => ?_⟩
  have hts := C.2.2.2.2.1
  exact W.objInit C.1 C.2.1 C.2.2.2.1 (hts _ hw) (hts _ h1) (hts _ h2) rfl (hlv.1.trans C.2.2.1.symm) rfl d (by rw [C.2.2.2.2.2.2.2.2.1]; exact hf) (by rw [C.2.2.2.2.2.2.2.2.2.1]; show 2 * 0 + _ + 12 ≤ _; omega) ((kk h r E).2 p l e R s m args below meth c C H locs ls cells slots hR hL hlv hc hs)
/-- a call has run -/
def bp_Ran {α : Type} (G : bp_GT) (i : bp_MI) (f : bp_M α) (en : α → Option Value) (pc : Nat) (st0 rest : List Value) : Prop :=
  ∀ (h : bp_H) (r : (bp_E ⊕ α) × bp_H), f h = some r → (bp_Z h ≤ bp_Z r.2 ∧ bp_N h ≤ bp_N r.2) ∧
    ∀ (p : Program) (l : Launch) (e : Env) (R : Room) (s : State) (m : MethodId) (args : Array Value) (below : List Frame) (meth : Method) (c : Code), bp_Cx G i p l R s m args meth c →
      ∀ (H : Heap) (locs : List Loc) (ls : Array Slot) (cells slots : Nat), bp_Rel G h H → ls.size = i.2.2.1 → cells + (bp_Z r.2 - bp_Z h) ≤ R.cells → slots + (bp_N r.2 - bp_N h) ≤ R.slots →
        ∃ a, vx_Run p l e R s m args below meth c H locs cells slots (bp_Z r.2 - bp_Z h) (bp_N r.2 - bp_N h) (F0 m pc ls st0) rest (bp_Qc G en r a) (bp_XC G r) (fun q => bp_b G ≤ q)
theorem bp_j_run {α : Type} {f : bp_M α} {en : α → Option Value} {Qf : bp_QT β} {st0 rest : List Value} {K : α → bp_M β} {X : Nat → Nat → bp_M β} (hrun : bp_Ran G i f en pc st0 rest) {P : bp_M β}
    (hP : ∀ h r, P h = some r → (∃ v h1, f h = some (.inr v, h1) ∧ K v h1 = some r) ∨ ∃ k a h1, f h = some (.inl (k, a), h1) ∧ X k a h1 = some r)
    (kx : ∀ k a h r, X k a h = some r → (bp_Z h ≤ bp_Z r.2 ∧ bp_N h ≤ bp_N r.2) ∧ ∀ (p : Program) (l : Launch) (e : Env) (R : Room) (s : State) (m : MethodId) (args : Array Value) (below : List Frame) (meth : Method) (c : Code), bp_Cx G i p l R s m args meth c →
      ∀ (H : Heap) (locs : List Loc) (ls : Array Slot) (cells slots : Nat) (ce : Cell), bp_Rel G h H → (∀ z ∈ locs, bp_b G ≤ z.base) → lv_has ls i.2.2.1 lv → cells + (bp_Z r.2 - bp_Z h) ≤ R.cells → slots + (bp_N r.2 - bp_N h) ≤ R.slots → H[a]? = some ce → ce.vm = .none → s.vm.findClass (bp_en k) = some ce.cls →
        vx_W p l e R s m args below meth c H locs cells slots (Qf r R s args below) (F0 m pc ls rest) a)
    (kk : ∀ v, bp_J G i Qf (K v) (pc + 3) lv ((en v).toList ++ rest)) : bp_J G i Qf P pc lv st0 := by
  intro h r E
  rcases hP h r E with ⟨v, h1, E1, E2⟩ | ⟨k, a, h1, E1, E2⟩
  · obtain ⟨⟨m1, m2⟩, hr1⟩ := hrun h _ E1
    obtain ⟨⟨m3, m4⟩, hk1⟩ := kk v h1 r E2
    dsimp only at m1 m2 hr1
    refine ⟨⟨by omega, by omega⟩, fun p l e R s m args below meth c C H locs ls cells slots hR hL hlv hc hs => ?_⟩
    obtain ⟨a, hr2⟩ := hr1 p l e R s m args below meth c C H locs ls cells slots hR hlv.1 (by omega) (by omega)
    intro T hT X
    rcases hr2 T hT X with ⟨v', st₀, t, T', L, h0, X', hL', e1, e2, ⟨w, q1, q2, q3⟩, stp⟩ | ⟨q, st₀, t, T', L, E9, ce, h0, X', hL', e1, e2, ⟨k, q1, -⟩, -⟩
    · cases q1
      cases q2
      obtain ⟨t2, a1, b1⟩ := hk1 p l e R s m args below meth c C T'.heap (locs ++ L) ls (cells + (bp_Z h1 - bp_Z h)) (slots + (bp_N h1 - bp_N h)) (by rw [e1]; exact q3) (fun z hz => (List.mem_append.mp hz).elim (hL z) (hL' z)) hlv (by omega) (by omega) T' rfl X'
      exact ⟨t2, stp t2 a1, b1⟩
    · cases q1
  · obtain ⟨⟨m1, m2⟩, hr1⟩ := hrun h _ E1
    obtain ⟨⟨m3, m4⟩, hk1⟩ := kx k a h1 r E2
    dsimp only at m1 m2 hr1
    refine ⟨⟨by omega, by omega⟩, fun p l e R s m args below meth c C H locs ls cells slots hR hL hlv hc hs => ?_⟩
    obtain ⟨a9, hr2⟩ := hr1 p l e R s m args below meth c C H locs ls cells slots hR hlv.1 (by omega) (by omega)
    intro T hT X
    rcases hr2 T hT X with ⟨v', st₀, t, T', L, h0, X', hL', e1, e2, ⟨w, q1, -⟩, -⟩ | ⟨q, st₀, t, T', L, E9, ce, h0, X', hL', e1, e2, ⟨k', q1, q2, q3⟩, g1, g2, g3, stp⟩
    · cases q1
    · cases q1
      subst q2
      obtain ⟨t2, a1, b1⟩ := hk1 p l e R s m args below meth c C T'.heap (locs ++ L) ls (cells + (bp_Z h1 - bp_Z h)) (slots + (bp_N h1 - bp_N h)) ce (by rw [e1]; exact q3) (fun z hz => (List.mem_append.mp hz).elim (hL z) (hL' z)) hlv (by omega) (by omega) (by rw [e1]; exact g1) g2 g3 T' rfl X'
      exact ⟨t2, stp.trans a1, b1⟩
/-- nothing here catches: what is thrown goes on -/
theorem bp_out {en : β → Option Value} {k a : Nat} (hout : ∀ x ∈ tableOf i.2.2.2.2.1, covers x pc = false) (h : bp_H) (r : (bp_E ⊕ β) × bp_H) (E : (bp_thr k a : bp_M β) h = some r) : (bp_Z h ≤ bp_Z r.2 ∧ bp_N h ≤ bp_N r.2) ∧ ∀ (p : Program) (l : Launch) (e : Env) (R : Room) (s : State) (m : MethodId) (args : Array Value) (below : List Frame) (meth : Method) (c : Code), bp_Cx G i p l R s m args meth c →
      ∀ (H : Heap) (locs : List Loc) (ls : Array Slot) (cells slots : Nat) (ce : Cell), bp_Rel G h H → (∀ z ∈ locs, bp_b G ≤ z.base) → lv_has ls i.2.2.1 lv → cells + (bp_Z r.2 - bp_Z h) ≤ R.cells → slots + (bp_N r.2 - bp_N h) ≤ R.slots → H[a]? = some ce → ce.vm = .none → s.vm.findClass (bp_en k) = some ce.cls →
        vx_W p l e R s m args below meth c H locs cells slots (bp_Qn G en r R s args below) (F0 m pc ls st) a := by
  cases E
  refine ⟨⟨Nat.le_refl _, Nat.le_refl _⟩, fun p l e R s m args below meth c C H locs ls cells slots ce hR hL hlv hc hs g1 g2 g3 => ?_⟩
  exact vx_out (by rw [C.2.2.2.2.2.2.2.1]; exact hout) C.2.2.2.2.2.1 g1 g2 g3 (fun t ht hW => ⟨k, rfl, rfl, by rw [ht]; exact hR⟩) hL (by omega) (by omega)
/-- a call that may throw what isn't caught here -/
theorem bp_j_call {α : Type} {f : bp_M α} {en : α → Option Value} {eb : β → Option Value} {st0 rest : List Value} {K : α → bp_M β} (hrun : bp_Ran G i f en pc st0 rest) (hout : ∀ x ∈ tableOf i.2.2.2.2.1, covers x pc = false) (kk : ∀ v, bp_J G i (bp_Qn G eb) (K v) (pc + 3) lv ((en v).toList ++ rest)) : bp_J G i (bp_Qn G eb) (bp_bind f K) pc lv st0 := by
  refine bp_j_run (X := fun k a => bp_thr k a) hrun (fun h r E => ?_) (fun k a h r E => bp_out hout h r E) kk
  unfold bp_bind at E
  cases hf : f h with
  | none => rw [hf] at E; cases E
  | some q =>
    obtain ⟨q, h1⟩ := q
    rw [hf] at E
    cases q with
    | inl e => exact Or.inr ⟨e.1, e.2, h1, rfl, E⟩
    | inr v => exact Or.inl ⟨v, h1, rfl, E⟩
/-- a call that doesn't throw -/
def bp_bindN {α β : Type} (f : bp_M α) (K : α → bp_M β) : bp_M β := fun h => match f h with
  | none => none
  | some (.inl _, _) => none
  | some (.inr v, h1) => K v h1
theorem bp_j_callN {α : Type} {f : bp_M α} {en : α → Option Value} {Qf : bp_QT β} {st0 rest : List Value} {K : α → bp_M β} (hrun : bp_Ran G i f en pc st0 rest) (kk : ∀ v, bp_J G i Qf (K v) (pc + 3) lv ((en v).toList ++ rest)) : bp_J G i Qf (bp_bindN f K) pc lv st0 := by
  refine bp_j_run (X := fun k a => bp_no) hrun (fun h r E => ?_) (fun k a h r E => by cases E) kk
  unfold bp_bindN at E
  cases hf : f h with
  | none => rw [hf] at E; cases E
  | some q =>
    obtain ⟨q, h1⟩ := q
    rw [hf] at E
    cases q with
    | inl e => cases E
    | inr v => exact Or.inl ⟨v, h1, rfl, E⟩
/-- what a handler catches: k is caught at pc, its handler begins at hp -/
def bp_Cat (G : bp_GT) (i : bp_MI) (pc k hp : Nat) : Prop := ∀ {p : Program} {l : Launch} {e : Env} {R : Room} {s : State} {m : MethodId} {args : Array Value} {below : List Frame} {meth : Method} {c : Code} {H : Heap} {locs : List Loc} {cells slots : Nat} {Q : State → Prop} {ls : Array Slot} {ce : Cell} {q : Nat} {rest : List Value},
  bp_Cx G i p l R s m args meth c → H[q]? = some ce → ce.vm = .none → s.vm.findClass (bp_en k) = some ce.cls → W p l e R s m args below meth c H locs cells slots Q (F0 m hp ls [.ref q]) → vx_W p l e R s m args below meth c H locs cells slots Q (F0 m pc ls rest) q
/-- handlers by kind -/
def bp_hs {β : Type} : List (Nat × (Nat → bp_M β)) → Nat → Nat → bp_M β
  | [], _, _ => bp_no
  | (k0, P) :: r, k, a => bp_if (k = k0) (P a) (bp_hs r k a)
def bp_HS {β : Type} (G : bp_GT) (i : bp_MI) (Qf : bp_QT β) (pc : Nat) (lv : List (Nat × Value)) : List (Nat × (Nat → bp_M β)) → List Nat → Prop
  | (k, P) :: r, hp :: ts => (bp_Cat G i pc k hp ∧ ∀ a, bp_J G i Qf (P a) hp lv [.ref a]) ∧ bp_HS G i Qf pc lv r ts
  | [], [] => True
  | _, _ => False
theorem bp_j_try {α : Type} {f : bp_M α} {en : α → Option Value} {Qf : bp_QT β} {st0 rest : List Value} {K : α → bp_M β} {cs : List (Nat × (Nat → bp_M β))} (ts : List Nat) (hrun : bp_Ran G i f en pc st0 rest) (hx : bp_HS G i Qf pc lv cs ts) (kk : ∀ v, bp_J G i Qf (K v) (pc + 3) lv ((en v).toList ++ rest)) : bp_J G i Qf (bp_try f K (bp_hs cs)) pc lv st0 := by
  have key : ∀ (cs : List (Nat × (Nat → bp_M β))) (ts : List Nat), bp_HS G i Qf pc lv cs ts → ∀ k a h r, bp_hs cs k a h = some r → ∃ (hp : Nat) (P : Nat → bp_M β), bp_Cat G i pc k hp ∧ (∀ a, bp_J G i Qf (P a) hp lv [.ref a]) ∧ P a h = some r := by
    intro cs
    induction cs with
    | nil => intro ts _ k a h r E; cases E
    | cons q cs ih =>
      intro ts hx k a h r E
      obtain ⟨k0, P⟩ := q
      cases ts with
      | nil => exact absurd hx (fun z => z)
      | cons hp ts =>
        obtain ⟨⟨x1, x2⟩, x3⟩ := hx
        by_cases hk : k = k0
        · subst hk
          have E1 : P a h = some r := by rw [← E]; exact (if_pos rfl).symm
          exact ⟨hp, P, x1, x2, E1⟩
        · have E1 : bp_hs cs k a h = some r := by rw [← E]; exact (if_neg hk).symm
          exact ih ts x3 k a h r E1
  refine bp_j_run (X := bp_hs cs) hrun (fun h r E => ?_) (fun k a h r E => ?_) kk
  · unfold bp_try at E
    cases hf : f h with
    | none => rw [hf] at E; cases E
    | some q =>
      obtain ⟨q, h1⟩ := q
      rw [hf] at E
      cases q with
      | inl e => exact Or.inr ⟨e.1, e.2, h1, rfl, E⟩
      | inr v => exact Or.inl ⟨v, h1, rfl, E⟩
  · obtain ⟨hp, P, x1, x2, E1⟩ := key cs ts hx k a h r E
    refine ⟨(x2 a h r E1).1, fun p l e R s m args below meth c C H locs ls cells slots ce hR hL hlv hc hs g1 g2 g3 => ?_⟩
    exact x1 C g1 g2 g3 ((x2 a h r E1).2 p l e R s m args below meth c C H locs ls cells slots hR hL hlv hc hs)
end CON
