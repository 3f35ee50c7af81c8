/-! Calls, throws, copies -/
set_option maxRecDepth 100000
section CALLS
variable {α β : Type} {G : bp_GT} {i j : bp_MI} {f : bp_M α} {en : α → Option Value} {pc : Nat} {st0 rest As : List Value}
theorem bp_isE {t b : Nat} {h : bp_H} {r : (bp_E ⊕ α) × bp_H} (E : bp_is t b f h = some r) : (bp_S h b).1 = t ∧ f h = some r := by
  unfold bp_is at E
  by_cases ht : (bp_S h b).1 = t
  · rw [if_pos ht] at E; exact ⟨ht, E⟩
  · rw [if_neg ht] at E; cases E
theorem bp_recv {h : bp_H} {H : Heap} {s : State} {t b : Nat} {q : vw_C} (hR : bp_Rel G h H) (hK : bp_K G s) (ht : (bp_S h b).1 = t) (hq : bp_cl[t]? = some q) : ∃ cell : Cell, H[b]? = some cell ∧ cell.vm.isStatics = false ∧ s.vm.findClass q.1 = some cell.cls := by
  obtain ⟨cell, g1, g2, -, g3, -⟩ := (hR.2.2.2.2.2 b).1 q (by rw [ht]; exact hq)
  rw [ht] at g2
  exact ⟨cell, g1, g3, by rw [g2]; exact (hK.1.1 t _ hq).2.1⟩
/-- a method of the receiver's own class -/
theorem bp_ranV {t b index n : Nat} {q : vw_C} (hcon : bp_Con G j (ws_ j.1 j.2.1 j.2.2.1 j.2.2.2.1) (.ref b :: As) f en) (hq : bp_cl[t]? = some q) (hw : GoodIn lw_all (wsV i.1.cls index q.1 j.1 (ws_ j.1 j.2.1 j.2.2.1 j.2.2.2.1)))
    (hd : j.1.cls = q.1 ∧ j.1.cls ≠ "java/lang/invoke/MethodHandle" ∧ j.1.cls ≠ "java/lang/invoke/VarHandle" ∧ (parseMethodDescriptor j.1.desc).map (fun d => d.parameters.length) = some n) (hR : j.2.2.2.2.2.1 + 1 ≤ i.2.2.2.2.2.1 ∧ 8 + (j.2.2.1 + 11) + j.2.2.2.2.2.2 ≤ i.2.2.2.2.2.2)
    (hn : As.length = n) (hst : st0 = As.reverse ++ .ref b :: rest) (hW : (rest.map fun v => v.category).sum ≤ 8) (d : decode i.2.1 pc = .ok (.invokevirtual index, 3)) : bp_Ran G i (bp_is t b f) en pc st0 rest := by
  intro h r E
  obtain ⟨ht, E⟩ := bp_isE E
  obtain ⟨m0, hM⟩ := hcon h r E
  refine ⟨m0, fun p l e R s m args below meth c C H locs ls cells slots hRel hsz hc hs => ?_⟩
  have hK : bp_K G s := C.2.2.2.2.2.2.2.2.2.2.2.2
  exact ⟨_, vx_runV (C := q.1) ⟨C.1, C.2.1, C.2.2.1, C.2.2.2.1, C.2.2.2.2.1⟩ (hM l C.2.2.2.2.2.2.2.2.2.2.2.1.1) (cwV n C.2.2.2.2.1 hw rfl rfl rfl hd ⟨by rw [C.2.2.2.2.2.2.2.2.1]; exact hR.1, by rw [C.2.2.2.2.2.2.2.2.2.1]; exact hR.2⟩) ⟨bp_blind, bp_recv hRel hK ht hq, fun U hU hW1 => ⟨rfl, by rw [hU]; exact hRel, hK.moved hW1⟩⟩ rfl hn hsz hst (lv_room hW) d ⟨hc, hs⟩⟩
/-- .. with handlers of its own -/
theorem bp_ranVX {t b index n : Nat} {q : vw_C} (hcon : bp_Con G j (wsW_ j.1 j.2.1 j.2.2.1 j.2.2.2.1 j.2.2.2.2.1) (.ref b :: As) f en) (hq : bp_cl[t]? = some q) (hw : GoodIn lw_all (wsV i.1.cls index q.1 j.1 (wsW_ j.1 j.2.1 j.2.2.1 j.2.2.2.1 j.2.2.2.2.1)))
    (hd : j.1.cls = q.1 ∧ j.1.cls ≠ "java/lang/invoke/MethodHandle" ∧ j.1.cls ≠ "java/lang/invoke/VarHandle" ∧ (parseMethodDescriptor j.1.desc).map (fun d => d.parameters.length) = some n) (hR : j.2.2.2.2.2.1 + 1 ≤ i.2.2.2.2.2.1 ∧ 8 + (j.2.2.1 + 11) + j.2.2.2.2.2.2 ≤ i.2.2.2.2.2.2)
    (hn : As.length = n) (hst : st0 = As.reverse ++ .ref b :: rest) (hW : (rest.map fun v => v.category).sum ≤ 8) (d : decode i.2.1 pc = .ok (.invokevirtual index, 3)) : bp_Ran G i (bp_is t b f) en pc st0 rest := by
  intro h r E
  obtain ⟨ht, E⟩ := bp_isE E
  obtain ⟨m0, hM⟩ := hcon h r E
  refine ⟨m0, fun p l e R s m args below meth c C H locs ls cells slots hRel hsz hc hs => ?_⟩
  have hK : bp_K G s := C.2.2.2.2.2.2.2.2.2.2.2.2
  exact ⟨_, vx_runVX (C := q.1) ⟨C.1, C.2.1, C.2.2.1, C.2.2.2.1, C.2.2.2.2.1⟩ (hM l C.2.2.2.2.2.2.2.2.2.2.2.1.1) (vx_cwVW n C.2.2.2.2.1 hw rfl rfl rfl hd ⟨by rw [C.2.2.2.2.2.2.2.2.1]; exact hR.1, by rw [C.2.2.2.2.2.2.2.2.2.1]; exact hR.2⟩) ⟨bp_blind, bp_recv hRel hK ht hq, fun U hU hW1 => ⟨rfl, by rw [hU]; exact hRel, hK.moved hW1⟩⟩ rfl hn hsz hst (lv_room hW) d ⟨hc, hs⟩⟩
/-- a static method -/
theorem bp_ranS {index n : Nat} (hcon : bp_Con G j (ws_ j.1 j.2.1 j.2.2.1 j.2.2.2.1) As f en) (hw : GoodIn lw_all (va_wsS i.1.cls index j.1 (ws_ j.1 j.2.1 j.2.2.1 j.2.2.2.1)))
    (hd : j.1.cls ≠ "java/lang/invoke/MethodHandle" ∧ j.1.cls ≠ "java/lang/invoke/VarHandle" ∧ (parseMethodDescriptor j.1.desc).map (fun d => d.parameters.length) = some n) (hR : j.2.2.2.2.2.1 + 1 ≤ i.2.2.2.2.2.1 ∧ 8 + (j.2.2.1 + 11) + j.2.2.2.2.2.2 ≤ i.2.2.2.2.2.2)
    (hn : As.length = n) (hst : st0 = As.reverse ++ rest) (hW : (rest.map fun v => v.category).sum ≤ 8) (d : decode i.2.1 pc = .ok (.invokestatic index, 3)) : bp_Ran G i f en pc st0 rest := by
  intro h r E
  obtain ⟨m0, hM⟩ := hcon h r E
  refine ⟨m0, fun p l e R s m args below meth c C H locs ls cells slots hRel hsz hc hs => ?_⟩
  have hK : bp_K G s := C.2.2.2.2.2.2.2.2.2.2.2.2
  exact ⟨_, vx_runS ⟨C.1, C.2.1, C.2.2.1, C.2.2.2.1, C.2.2.2.2.1⟩ (hM l C.2.2.2.2.2.2.2.2.2.2.2.1.1) (va_cwS n C.2.2.2.2.1 hw rfl rfl rfl hd ⟨by rw [C.2.2.2.2.2.2.2.2.1]; exact hR.1, by rw [C.2.2.2.2.2.2.2.2.2.1]; exact hR.2⟩) ⟨bp_blind, fun U hU hW1 => ⟨rfl, by rw [hU]; exact hRel, hK.moved hW1⟩⟩ rfl hn hsz hst (lv_room hW) d ⟨hc, hs⟩⟩
theorem bp_ranSX {index n : Nat} (hcon : bp_Con G j (wsW_ j.1 j.2.1 j.2.2.1 j.2.2.2.1 j.2.2.2.2.1) As f en) (hw : GoodIn lw_all (va_wsS i.1.cls index j.1 (wsW_ j.1 j.2.1 j.2.2.1 j.2.2.2.1 j.2.2.2.2.1)))
    (hd : j.1.cls ≠ "java/lang/invoke/MethodHandle" ∧ j.1.cls ≠ "java/lang/invoke/VarHandle" ∧ (parseMethodDescriptor j.1.desc).map (fun d => d.parameters.length) = some n) (hR : j.2.2.2.2.2.1 + 1 ≤ i.2.2.2.2.2.1 ∧ 8 + (j.2.2.1 + 11) + j.2.2.2.2.2.2 ≤ i.2.2.2.2.2.2)
    (hn : As.length = n) (hst : st0 = As.reverse ++ rest) (hW : (rest.map fun v => v.category).sum ≤ 8) (d : decode i.2.1 pc = .ok (.invokestatic index, 3)) : bp_Ran G i f en pc st0 rest := by
  intro h r E
  obtain ⟨m0, hM⟩ := hcon h r E
  refine ⟨m0, fun p l e R s m args below meth c C H locs ls cells slots hRel hsz hc hs => ?_⟩
  have hK : bp_K G s := C.2.2.2.2.2.2.2.2.2.2.2.2
  exact ⟨_, vx_runSX ⟨C.1, C.2.1, C.2.2.1, C.2.2.2.1, C.2.2.2.2.1⟩ (hM l C.2.2.2.2.2.2.2.2.2.2.2.1.1) (vx_cwSW n C.2.2.2.2.1 hw rfl rfl rfl hd ⟨by rw [C.2.2.2.2.2.2.2.2.1]; exact hR.1, by rw [C.2.2.2.2.2.2.2.2.2.1]; exact hR.2⟩) ⟨bp_blind, fun U hU hW1 => ⟨rfl, by rw [hU]; exact hRel, hK.moved hW1⟩⟩ rfl hn hsz hst (lv_room hW) d ⟨hc, hs⟩⟩
/-- a constructor -/
theorem bp_ranI {b index n : Nat} (hret : j.2.2.2.1 = none) (hcon : bp_Con G j (ws_ j.1 j.2.1 j.2.2.1 j.2.2.2.1) (.ref b :: As) f en) (hw : Cond.code j.1 j.2.1 j.2.2.1 none ∈ lw_all) (hini : Cond.initialized j.1.cls ∈ lw_all) (hlk : Cond.methodLink i.1.cls index j.1 ∈ lw_all) (hin : Cond.instanceMethod j.1 ∈ lw_all) (hy1 : j.1.name = "<init>")
    (hd : j.1.cls ≠ "java/lang/invoke/MethodHandle" ∧ j.1.cls ≠ "java/lang/invoke/VarHandle" ∧ (parseMethodDescriptor j.1.desc).map (fun d => d.parameters.length) = some n) (hR : j.2.2.2.2.2.1 + 1 ≤ i.2.2.2.2.2.1 ∧ 8 + (j.2.2.1 + 11) + j.2.2.2.2.2.2 ≤ i.2.2.2.2.2.2)
    (hn : As.length = n) (hst : st0 = As.reverse ++ .ref b :: rest) (hW : (rest.map fun v => v.category).sum ≤ 8) (d : decode i.2.1 pc = .ok (.invokespecial index, 3)) : bp_Ran G i f en pc st0 rest := by
  rw [hret] at hcon
  intro h r E
  obtain ⟨m0, hM⟩ := hcon h r E
  refine ⟨m0, fun p l e R s m args below meth c C H locs ls cells slots hRel hsz hc hs => ?_⟩
  have hK : bp_K G s := C.2.2.2.2.2.2.2.2.2.2.2.2
  have hts := C.2.2.2.2.1
  exact ⟨_, vx_runI ⟨C.1, C.2.1, C.2.2.1, C.2.2.2.1, hts⟩ (hM l C.2.2.2.2.2.2.2.2.2.2.2.1.1) (cwI n hts (lw_meth hw) rfl rfl rfl (hts _ hini) (hts _ hlk) (hts _ hin) hy1 hd ⟨by rw [C.2.2.2.2.2.2.2.2.1]; exact hR.1, by rw [C.2.2.2.2.2.2.2.2.2.1]; exact hR.2⟩) ⟨bp_blind, fun U hU hW1 => ⟨rfl, by rw [hU]; exact hRel, hK.moved hW1⟩⟩ rfl hn hsz hst (lv_room hW) d ⟨hc, hs⟩⟩
theorem bp_nwOf {w : Cond} (h : w ∈ lw_tbl) (hk : bp_nk w = true) : w ∈ bp_nw := List.mem_filter.mpr ⟨h, hk⟩
/-- a private constructor of a nest mate -/
theorem bp_ranIN {b index n : Nat} {host : String} (hret : j.2.2.2.1 = none) (hcon : bp_Con G j (ws_ j.1 j.2.1 j.2.2.1 j.2.2.2.1) (.ref b :: As) f en) (hw : Cond.code j.1 j.2.1 j.2.2.1 none ∈ lw_all) (hini : Cond.initialized j.1.cls ∈ lw_all) (hlk : Cond.methodLinkNest i.1.cls index j.1 host ∈ lw_tbl) (hin : Cond.instanceMethod j.1 ∈ lw_all) (hy1 : j.1.name = "<init>")
    (hd : j.1.cls ≠ "java/lang/invoke/MethodHandle" ∧ j.1.cls ≠ "java/lang/invoke/VarHandle" ∧ (parseMethodDescriptor j.1.desc).map (fun d => d.parameters.length) = some n) (hR : j.2.2.2.2.2.1 + 1 ≤ i.2.2.2.2.2.1 ∧ 8 + (j.2.2.1 + 11) + j.2.2.2.2.2.2 ≤ i.2.2.2.2.2.2)
    (hn : As.length = n) (hst : st0 = As.reverse ++ .ref b :: rest) (hW : (rest.map fun v => v.category).sum ≤ 8) (d : decode i.2.1 pc = .ok (.invokespecial index, 3)) : bp_Ran G i f en pc st0 rest := by
  rw [hret] at hcon
  intro h r E
  obtain ⟨m0, hM⟩ := hcon h r E
  refine ⟨m0, fun p l e R s m args below meth c C H locs ls cells slots hRel hsz hc hs => ?_⟩
  have hK : bp_K G s := C.2.2.2.2.2.2.2.2.2.2.2.2
  have hts := C.2.2.2.2.1
  exact ⟨_, vx_runIN ⟨C.1, C.2.1, C.2.2.1, C.2.2.2.1, hts⟩ (hM l C.2.2.2.2.2.2.2.2.2.2.2.1.1) ⟨va_cnB n hts (lw_meth hw) rfl rfl rfl (hK.2.2.1 _ (bp_nwOf hlk rfl)) (hts _ hini) hd ⟨by rw [C.2.2.2.2.2.2.2.2.1]; exact hR.1, by rw [C.2.2.2.2.2.2.2.2.2.1]; exact hR.2⟩, hy1, hts _ hin⟩ ⟨bp_blind, fun U hU hW1 => ⟨rfl, by rw [hU]; exact hRel, hK.moved hW1⟩⟩ rfl hn hsz hst (lv_room hW) d ⟨hc, hs⟩⟩
/-- a private method of a nest mate -/
theorem bp_ranVN {t b index n : Nat} {host : String} {q : vw_C} (hcon : bp_Con G j (ws_ j.1 j.2.1 j.2.2.1 j.2.2.2.1) (.ref b :: As) f en) (hq : bp_cl[t]? = some q) (hw : Cond.code j.1 j.2.1 j.2.2.1 j.2.2.2.1 ∈ lw_all) (hini : Cond.initialized j.1.cls ∈ lw_all) (hlk : Cond.methodLinkNest i.1.cls index j.1 host ∈ lw_tbl) (hin : Cond.instanceMethod j.1 ∈ lw_all) (hsel : Cond.selects q.1 j.1 j.1 ∈ lw_all)
    (hd : j.1.cls ≠ "java/lang/invoke/MethodHandle" ∧ j.1.cls ≠ "java/lang/invoke/VarHandle" ∧ (parseMethodDescriptor j.1.desc).map (fun d => d.parameters.length) = some n) (hR : j.2.2.2.2.2.1 + 1 ≤ i.2.2.2.2.2.1 ∧ 8 + (j.2.2.1 + 11) + j.2.2.2.2.2.2 ≤ i.2.2.2.2.2.2)
    (hn : As.length = n) (hst : st0 = As.reverse ++ .ref b :: rest) (hW : (rest.map fun v => v.category).sum ≤ 8) (d : decode i.2.1 pc = .ok (.invokevirtual index, 3)) : bp_Ran G i (bp_is t b f) en pc st0 rest := by
  intro h r E
  obtain ⟨ht, E⟩ := bp_isE E
  obtain ⟨m0, hM⟩ := hcon h r E
  refine ⟨m0, fun p l e R s m args below meth c C H locs ls cells slots hRel hsz hc hs => ?_⟩
  have hK : bp_K G s := C.2.2.2.2.2.2.2.2.2.2.2.2
  have hts := C.2.2.2.2.1
  exact ⟨_, vx_runVN (C := q.1) ⟨C.1, C.2.1, C.2.2.1, C.2.2.2.1, hts⟩ (hM l C.2.2.2.2.2.2.2.2.2.2.2.1.1) ⟨va_cnB n hts (lw_meth hw) rfl rfl rfl (hK.2.2.1 _ (bp_nwOf hlk rfl)) (hts _ hini) hd ⟨by rw [C.2.2.2.2.2.2.2.2.1]; exact hR.1, by rw [C.2.2.2.2.2.2.2.2.2.1]; exact hR.2⟩, hts _ hin, hts _ hsel⟩ ⟨bp_blind, bp_recv hRel hK ht hq, fun U hU hW1 => ⟨rfl, by rw [hU]; exact hRel, hK.moved hW1⟩⟩ rfl hn hsz hst (lv_room hW) d ⟨hc, hs⟩⟩
/-- a private static method of a nest mate -/
theorem bp_ranSN {index n : Nat} {host : String} (hcon : bp_Con G j (ws_ j.1 j.2.1 j.2.2.1 j.2.2.2.1) As f en) (hw : Cond.code j.1 j.2.1 j.2.2.1 j.2.2.2.1 ∈ lw_all) (hini : Cond.initialized j.1.cls ∈ lw_all) (hlk : Cond.methodLinkNest i.1.cls index j.1 host ∈ lw_tbl) (hsta : Cond.static j.1 ∈ lw_all)
    (hd : j.1.cls ≠ "java/lang/invoke/MethodHandle" ∧ j.1.cls ≠ "java/lang/invoke/VarHandle" ∧ (parseMethodDescriptor j.1.desc).map (fun d => d.parameters.length) = some n) (hR : j.2.2.2.2.2.1 + 1 ≤ i.2.2.2.2.2.1 ∧ 8 + (j.2.2.1 + 11) + j.2.2.2.2.2.2 ≤ i.2.2.2.2.2.2)
    (hn : As.length = n) (hst : st0 = As.reverse ++ rest) (hW : (rest.map fun v => v.category).sum ≤ 8) (d : decode i.2.1 pc = .ok (.invokestatic index, 3)) : bp_Ran G i f en pc st0 rest := by
  intro h r E
  obtain ⟨m0, hM⟩ := hcon h r E
  refine ⟨m0, fun p l e R s m args below meth c C H locs ls cells slots hRel hsz hc hs => ?_⟩
  have hK : bp_K G s := C.2.2.2.2.2.2.2.2.2.2.2.2
  have hts := C.2.2.2.2.1
  exact ⟨_, vx_runSN ⟨C.1, C.2.1, C.2.2.1, C.2.2.2.1, hts⟩ (hM l C.2.2.2.2.2.2.2.2.2.2.2.1.1) ⟨va_cnB n hts (lw_meth hw) rfl rfl rfl (hK.2.2.1 _ (bp_nwOf hlk rfl)) (hts _ hini) hd ⟨by rw [C.2.2.2.2.2.2.2.2.1]; exact hR.1, by rw [C.2.2.2.2.2.2.2.2.2.1]; exact hR.2⟩, hts _ hsta, trivial⟩ ⟨bp_blind, fun U hU hW1 => ⟨rfl, by rw [hU]; exact hRel, hK.moved hW1⟩⟩ rfl hn hsz hst (lv_room hW) d ⟨hc, hs⟩⟩
/-- an inherited method, called by its heir's name -/
theorem bp_ranU {t b index n : Nat} {owner : String} {x : MethodName} {q : vw_C} (hcon : bp_Con G j (ws_ j.1 j.2.1 j.2.2.1 j.2.2.2.1) (.ref b :: As) f en) (hq : bp_cl[t]? = some q) (hw : ∀ w ∈ ([.methodLink i.1.cls index x, .sameMethod x.cls owner x.name x.desc, .selects q.1 x j.1, .instanceMethod j.1, .initialized j.1.cls] : List Cond), w ∈ lw_all) (hcode : Cond.code j.1 j.2.1 j.2.2.1 j.2.2.2.1 ∈ lw_all) (hyx : j.1 = ⟨owner, x.name, x.desc⟩)
    (hd : owner ≠ "java/lang/invoke/MethodHandle" ∧ owner ≠ "java/lang/invoke/VarHandle" ∧ (parseMethodDescriptor x.desc).map (fun d => d.parameters.length) = some n) (hR : j.2.2.2.2.2.1 + 1 ≤ i.2.2.2.2.2.1 ∧ 8 + (j.2.2.1 + 11) + j.2.2.2.2.2.2 ≤ i.2.2.2.2.2.2)
    (hn : As.length = n) (hst : st0 = As.reverse ++ .ref b :: rest) (hW : (rest.map fun v => v.category).sum ≤ 8) (d : decode i.2.1 pc = .ok (.invokevirtual index, 3)) : bp_Ran G i (bp_is t b f) en pc st0 rest := by
  intro h r E
  obtain ⟨ht, E⟩ := bp_isE E
  obtain ⟨m0, hM⟩ := hcon h r E
  refine ⟨m0, fun p l e R s m args below meth c C H locs ls cells slots hRel hsz hc hs => ?_⟩
  have hK : bp_K G s := C.2.2.2.2.2.2.2.2.2.2.2.2
  have hts := C.2.2.2.2.1
  exact ⟨_, vx_runU (C := q.1) (owner := owner) ⟨C.1, C.2.1, C.2.2.1, C.2.2.2.1, hts⟩ (hM l C.2.2.2.2.2.2.2.2.2.2.2.1.1) (va_cwU n hts (lw_app hw (lw_meth hcode)) rfl rfl rfl hyx hd ⟨by rw [C.2.2.2.2.2.2.2.2.1]; exact hR.1, by rw [C.2.2.2.2.2.2.2.2.2.1]; exact hR.2⟩) ⟨bp_blind, bp_recv hRel hK ht hq, fun U hU hW1 => ⟨rfl, by rw [hU]; exact hRel, hK.moved hW1⟩⟩ rfl hn hsz hst (lv_room hW) d ⟨hc, hs⟩⟩
/-- a method of ArrayList's iterator through its interface -/
def bp_Ran5 {α : Type} (G : bp_GT) (i : bp_MI) (f : bp_M α) (en : α → Option Value) (pc : Nat) (st0 rest : List Value) : Prop :=
  ∀ (h : bp_H) (r : (bp_E ⊕ α) × bp_H), f h = some r → (bp_Z h ≤ bp_Z r.2 ∧ bp_N h ≤ bp_N r.2) ∧
    ∀ (p : Program) (l : Launch) (e : Env) (R : Room) (s : State) (m : MethodId) (args : Array Value) (below : List Frame) (meth : Method) (c : Code), bp_Cx G i p l R s m args meth c →
      ∀ (H : Heap) (locs : List Loc) (ls : Array Slot) (cells slots : Nat), bp_Rel G h H → ls.size = i.2.2.1 → cells + (bp_Z r.2 - bp_Z h) ≤ R.cells → slots + (bp_N r.2 - bp_N h) ≤ R.slots →
        ∃ a, vx_Run5 p l e R s m args below meth c H locs cells slots (bp_Z r.2 - bp_Z h) (bp_N r.2 - bp_N h) (F0 m pc ls st0) rest (bp_Qc G en r a) (bp_XC G r) (fun q => bp_b G ≤ q)
theorem bp_ranF {b index n count : Nat} {x : MethodName} (hcon : bp_Con G j (ws_ j.1 j.2.1 j.2.2.1 j.2.2.2.1) (.ref b :: As) f en) (hF : ∀ s, bp_K G s → va_Fw RJ18 x j.1 s) (hw : ∀ w ∈ ([.methodLink i.1.cls index x, .selects RJ18 x j.1, .instanceMethod j.1, .initialized j.1.cls] : List Cond), w ∈ lw_all) (hcode : Cond.code j.1 j.2.1 j.2.2.1 j.2.2.2.1 ∈ lw_all)
    (hd : x.cls ≠ "java/lang/invoke/MethodHandle" ∧ x.cls ≠ "java/lang/invoke/VarHandle" ∧ (parseMethodDescriptor x.desc).map (fun d => d.parameters.length) = some n) (hR : j.2.2.2.2.2.1 + 1 ≤ i.2.2.2.2.2.1 ∧ 8 + (j.2.2.1 + 11) + j.2.2.2.2.2.2 ≤ i.2.2.2.2.2.2)
    (hn : As.length = n) (hst : st0 = As.reverse ++ .ref b :: rest) (hW : (rest.map fun v => v.category).sum ≤ 8) (d : decode i.2.1 pc = .ok (.invokeinterface index count, 5)) : bp_Ran5 G i (bp_is 7 b f) en pc st0 rest := by
  intro h r E
  obtain ⟨ht, E⟩ := bp_isE E
  obtain ⟨m0, hM⟩ := hcon h r E
  refine ⟨m0, fun p l e R s m args below meth c C H locs ls cells slots hRel hsz hc hs => ?_⟩
  have hK : bp_K G s := C.2.2.2.2.2.2.2.2.2.2.2.2
  have hts := C.2.2.2.2.1
  exact ⟨_, vx_runF (C := RJ18) (hK.1.1 7 _ rfl).2 ⟨C.1, C.2.1, C.2.2.1, C.2.2.2.1, hts⟩ (hM l C.2.2.2.2.2.2.2.2.2.2.2.1.1) (va_cwF n hts (lw_app hw (lw_meth hcode)) rfl rfl rfl (hF s hK) hd ⟨by rw [C.2.2.2.2.2.2.2.2.1]; exact hR.1, by rw [C.2.2.2.2.2.2.2.2.2.1]; exact hR.2⟩) ⟨bp_blind, bp_recv (q := (RJ18, TJ18, 4)) hRel hK ht rfl, fun U hU hW1 => ⟨rfl, by rw [hU]; exact hRel, hK.moved hW1⟩⟩ rfl hn hsz hst (lv_room hW) d ⟨hc, hs⟩⟩
variable {Qf : bp_QT β} {P : bp_M β} {lv : List (Nat × Value)} {st : List Value}
theorem bp_j_callF {eb : β → Option Value} {K : α → bp_M β} (hrun : bp_Ran5 G i f en pc st0 rest) (hout : ∀ x ∈ tableOf i.2.2.2.2.1, covers x pc = false) (kk : ∀ v, bp_J G i (bp_Qn G eb) (K v) (pc + 5) lv ((en v).toList ++ rest)) : bp_J G i (bp_Qn G eb) (bp_bind f K) pc lv st0 := by
  intro h r E
  unfold bp_bind at E
  cases hf : f h with
  | none => rw [hf] at E; cases E
  | some q =>
    obtain ⟨q, h1⟩ := q
    rw [hf] at E
    obtain ⟨⟨m1, m2⟩, hr1⟩ := hrun h _ hf
    dsimp only at m1 m2 hr1
    cases q with
    | inl ex =>
      obtain ⟨k, a⟩ := ex
      have E2 : (bp_thr k a : bp_M β) h1 = some r := E
      obtain ⟨⟨m3, m4⟩, hk1⟩ := bp_out (G := G) (en := eb) (pc := pc) (lv := lv) (st := rest) hout h1 r E2
      refine ⟨⟨by omega, by omega⟩, fun p l e R s m args below meth c C H locs ls cells slots hR hL hlv hc hs => ?_⟩
      obtain ⟨a9, hr2⟩ := hr1 p l e R s m args below meth c C H locs ls cells slots hR hlv.1 (by omega) (by omega)
      intro T hT X
      rcases hr2 T hT X with ⟨v', st₀, t, T', L, h0, X', hL', e1, e2, ⟨w, q1, -⟩, -⟩ | ⟨q, st₀, t, T', L, E9, ce, h0, X', hL', e1, e2, ⟨k', q1, q2, q3⟩, g1, g2, g3, stp⟩
      · cases q1
      · cases q1
        subst q2
        obtain ⟨t2, a1, b1⟩ := hk1 p l e R s m args below meth c C T'.heap (locs ++ L) ls (cells + (bp_Z h1 - bp_Z h)) (slots + (bp_N h1 - bp_N h)) ce (by rw [e1]; exact q3) (fun z hz => (List.mem_append.mp hz).elim (hL z) (hL' z)) hlv (by omega) (by omega) (by rw [e1]; exact g1) g2 g3 T' rfl X'
        exact ⟨t2, stp.trans a1, b1⟩
    | inr v =>
      have E2 : K v h1 = some r := E
      obtain ⟨⟨m3, m4⟩, hk1⟩ := kk v h1 r E2
      refine ⟨⟨by omega, by omega⟩, fun p l e R s m args below meth c C H locs ls cells slots hR hL hlv hc hs => ?_⟩
      obtain ⟨a9, hr2⟩ := hr1 p l e R s m args below meth c C H locs ls cells slots hR hlv.1 (by omega) (by omega)
      intro T hT X
      rcases hr2 T hT X with ⟨v', st₀, t, T', L, h0, X', hL', e1, e2, ⟨w, q1, q2, q3⟩, stp⟩ | ⟨q, st₀, t, T', L, E9, ce, h0, X', hL', e1, e2, ⟨k, q1, -⟩, -⟩
      · cases q1
        cases q2
        obtain ⟨t2, a1, b1⟩ := hk1 p l e R s m args below meth c C T'.heap (locs ++ L) ls (cells + (bp_Z h1 - bp_Z h)) (slots + (bp_N h1 - bp_N h)) (by rw [e1]; exact q3) (fun z hz => (List.mem_append.mp hz).elim (hL z) (hL' z)) hlv (by omega) (by omega) T' rfl X'
        exact ⟨t2, stp t2 a1, b1⟩
      · cases q1
/-- 'throw new E()' -/
def bp_throw0 {β : Type} (k : Nat) : bp_M β := fun h => some (.inl (k, bp_Z h), bp_mk h (99, 0) 6)
theorem bp_old {h : bp_H} {H : Heap} {p : Program} {l : Launch} {e : Env} {R : Room} {s : State} {m : MethodId} {args : Array Value} {below : List Frame} {meth : Method} {c : Code} {locs : List Loc} {cells slots : Nat} {T : State} (hR : bp_Rel G h H) (hT : T.heap = H) (X : Stand p l e R s m args below meth c T locs cells slots) (ho : ∀ q, q < bp_b G → s.heap[q]? = G.2.2.1[q]?) (hL : ∀ z ∈ locs, bp_b G ≤ z.base) : va_S (fun a => bp_b G ≤ a) s.heap H locs := by
  refine ⟨?_, fun q h1 h2 => ?_, hL⟩
  · have h9 : s.heap.size ≤ (T.setVm s.vm).heap.size := X.same.2.1
    rw [← hT]
    exact h9
  · rw [hR.2.2.2.2.1 q (Nat.not_le.mp h2), ho q (Nat.not_le.mp h2)]
theorem bp_zqOld {C n d : String} {U : State} {H1 : Heap} (h : vx_Zq C n d (fun a => bp_b G ≤ a) U G.2.2.1) (ho : ∀ q, q < bp_b G → H1[q]? = G.2.2.1[q]?) : vx_Zq C n d (fun a => bp_b G ≤ a) U H1 := h.kept fun a h1 _ => ho a h1
theorem bp_j_throw0 {eb : β → Option Value} {k ik ic : Nat} (names : List String) (hcls : Bundle.fit (bp_en k) = true) (hnames : ∀ n ∈ names, Bundle.fit n = true) (hk : Cond.classLink i.1.cls ik (bp_en k) ∈ lw_all) (hini : Cond.initialized (bp_en k) ∈ lw_all) (hat1 : ∀ w ∈ vx_at0 i.1.cls ic (bp_en k) names, w ∈ lw_tbl) (hat2 : ∀ w ∈ vx_at0 i.1.cls ic (bp_en k) names, goodWord w = true ∨ bp_nk w = true)
    (hgood : ∀ w ∈ Cond.classLink i.1.cls ik (bp_en k) :: Cond.initialized (bp_en k) :: vx_at0 i.1.cls ic (bp_en k) names, vx_ot w = true)
    (d0 : decode i.2.1 pc = .ok (.new ik, 3)) (d3 : decode i.2.1 (pc + 3) = .ok (.dup, 1)) (d4 : decode i.2.1 (pc + 4) = .ok (.invokespecial ic, 3)) (d7 : decode i.2.1 (pc + 7) = .ok (.athrow, 1)) (hout : ∀ x ∈ tableOf i.2.2.2.2.1, covers x (pc + 7) = false)
    (hf : names.length + 3 < i.2.2.2.2.2.1) (hlo : (st.map fun v => v.category).sum + (13 * (names.length + 1) + 42) ≤ i.2.2.2.2.2.2) : bp_J G i (bp_Qn G eb) (bp_throw0 k) pc lv st := by
  intro h r E
  cases E
  have z1 : bp_Z (bp_mk h (99, 0) 6) = bp_Z h + 1 := rfl
  have z2 : bp_N (bp_mk h (99, 0) 6) = bp_N h + 6 := rfl
  refine ⟨⟨by rw [z1]; omega, by rw [z2]; omega⟩, fun p l e R s m args below meth c C H locs ls cells slots hR hL hlv hc hs => ?_⟩
  rw [z1] at hc
  rw [z2] at hs
  have hK : bp_K G s := C.2.2.2.2.2.2.2.2.2.2.2.2
  have hts := C.2.2.2.2.1
  obtain ⟨hl, ho1, ho2⟩ := C.2.2.2.2.2.2.2.2.2.2.2.1
  intro T hT X
  have hS := bp_old hR hT X ho2 hL
  refine vx_throw0 (cls := bp_en k) (names := names) (ik := ik) (ic := ic) C.1 C.2.1 hl C.2.2.2.1 hcls hnames (hts _ hk) (hts _ hini) (fun w hw => ?_) hgood (bp_zqOld hK.2.2.2.2.2.2.2.1 ho2) (bp_zqOld hK.2.2.2.2.2.2.2.2.1 ho2) hS (hlv.1.trans C.2.2.1.symm) d0 d3 d4 d7 (by rw [C.2.2.2.2.2.2.2.1]; exact hout) (by rw [C.2.2.2.2.2.2.2.2.1]; exact hf) (by rw [C.2.2.2.2.2.2.2.2.2.1]; exact hlo) (by omega) (by omega) C.2.2.2.2.2.1
    (fun t ht1 ht2 ht3 ht4 => ⟨k, by rw [hR.1], rfl, hR.mk ht4 ht3 ⟨fun q hq => ?_, fun ty hty => ?_⟩⟩) hL (by omega) (by omega) T hT X
  · rcases hat2 w hw with g | g
    · exact hts _ (List.mem_filter.mpr ⟨hat1 w hw, g⟩)
    · have h9 := hK.2.2.1 w (List.mem_filter.mpr ⟨hat1 w hw, g⟩)
      refine va_Nw.use ?_ h9
      cases w <;> first | exact absurd (show false = true from g) (by decide) | rfl
  · have s1 : bp_S (bp_mk h (99, 0) 6) H.size = (99, 0) := if_pos hR.1
    rw [s1] at hq
    cases hq
  · have s1 : bp_S (bp_mk h (99, 0) 6) H.size = (99, 0) := if_pos hR.1
    rw [s1] at hty
    cases hty
/-- athrow of a WrongSegment -/
def bp_thrW {β : Type} (a : Nat) : bp_M β := bp_is 5 a (bp_thr 5 a)
theorem bp_j_athrow {eb : β → Option Value} {a : Nat} (d : decode i.2.1 pc = .ok (.athrow, 1)) (hout : ∀ x ∈ tableOf i.2.2.2.2.1, covers x pc = false) : bp_J G i (bp_Qn G eb) (bp_thrW a) pc lv (.ref a :: st) := by
  intro h r E
  obtain ⟨ht, E⟩ := bp_isE E
  obtain ⟨m0, hk1⟩ := bp_out (G := G) (en := eb) (pc := pc) (lv := lv) (st := st) hout h r E
  refine ⟨m0, fun p l e R s m args below meth c C H locs ls cells slots hR hL hlv hc hs => ?_⟩
  have hK : bp_K G s := C.2.2.2.2.2.2.2.2.2.2.2.2
  obtain ⟨cell, g1, g2, -, -, g3, -⟩ := (hR.2.2.2.2.2 a).1 (RX7, TX7, 8) (by rw [ht]; rfl)
  rw [ht] at g2 g3
  have g3 := g3 (by decide)
  exact vx_athrow C.1 C.2.1 d (hk1 p l e R s m args below meth c C H locs ls cells slots cell hR hL hlv hc hs g1 g3 (by rw [g2]; exact (hK.1.1 5 _ rfl).2.1))
/-- a handler -/
theorem bp_cat_of {pc k : Nat} {name : String} (pre : List (Nat × Nat × Nat × Nat)) (x : Nat × Nat × Nat × Nat) (suf : List (Nat × Nat × Nat × Nat)) (hsplit : i.2.2.2.2.1 = pre ++ x :: suf)
    (hpass : ∀ z ∈ pre, z.2.2.2 ≠ 0 ∧ ∃ nm : String, Cond.classLink i.1.cls z.2.2.2 nm ∈ lw_all ∧ (bp_en k, nm) ∈ bp_nc) (hx1 : x.1 ≤ pc) (hx2 : pc < x.2.1) (h0 : x.2.2.2 ≠ 0) (hlink : Cond.classLink i.1.cls x.2.2.2 name ∈ lw_all) (hcast : Cond.castable (bp_en k) name ∈ lw_tbl) : bp_Cat G i pc k x.2.2.1 := by
  intro p l e R s m args below meth c H locs cells slots Q ls ce q rest C g1 g2 g3 w
  have hK : bp_K G s := C.2.2.2.2.2.2.2.2.2.2.2.2
  have hts := C.2.2.2.2.1
  refine vx_catch (name := name) C.2.2.2.1 (tableOf pre) ⟨x.1, x.2.1, x.2.2.1, x.2.2.2⟩ (tableOf suf) (by rw [C.2.2.2.2.2.2.2.1, hsplit]; simp [tableOf]) (fun z hz => ?_) (by show (decide (x.1 ≤ pc) && decide (pc < x.2.1)) = true; rw [decide_eq_true hx1, decide_eq_true hx2]; rfl) h0 (hts _ hlink) (va_Nw.use rfl (hK.2.2.1 _ (bp_nwOf hcast rfl))) g1 g2 g3 w
  obtain ⟨y, hy, rfl⟩ := List.mem_map.mp hz
  obtain ⟨n1, nm, n2, n3⟩ := hpass y hy
  exact Or.inr ⟨n1, nm, hts _ n2, hK.2.2.2.2.2.2.2.2.2.2.2.2.2.1 _ n3⟩
/-- a cell that the run made -/
def bp_own {β : Type} (a : Nat) (K : bp_M β) : bp_M β := fun h => if bp_B h ≤ a then K h else none
/-- the class of an Object[], as an object -/
theorem bp_j_getClass {a index : Nat} {K : Nat → bp_M β} (hlink : Cond.methodLink i.1.cls index ⟨"java/lang/Object", "getClass", "()Ljava/lang/Class;"⟩ ∈ lw_all) (hsel : Cond.selects "[Ljava/lang/Object;" ⟨"java/lang/Object", "getClass", "()Ljava/lang/Class;"⟩ ⟨"java/lang/Object", "getClass", "()Ljava/lang/Class;"⟩ ∈ lw_all) (hinst : Cond.instanceMethod ⟨"java/lang/Object", "getClass", "()Ljava/lang/Class;"⟩ ∈ lw_all) (hnat : Cond.native ⟨"java/lang/Object", "getClass", "()Ljava/lang/Class;"⟩ ∈ lw_all)
    (hf : 1 ≤ i.2.2.2.2.2.1) (hlo : (st.map fun v => v.category).sum + 14 ≤ i.2.2.2.2.2.2) (d : decode i.2.1 pc = .ok (.invokevirtual index, 3)) (kk : ∀ x, bp_J G i Qf (K x) (pc + 3) lv (.ref x :: st)) : bp_J G i Qf (bp_own a (bp_is 27 a (bp_gets 21 K))) pc lv (.ref a :: st) := by
  intro h r E
  unfold bp_own at E
  by_cases hb : bp_B h ≤ a
  case neg => rw [if_neg hb] at E; cases E
  rw [if_pos hb] at E
  obtain ⟨ht, E⟩ := bp_isE E
  unfold bp_gets bp_getsR at E
  cases hm : bp_s h 21 with
  | none => rw [hm] at E; cases E
  | some mi =>
    rw [hm] at E
    have K1 := kk mi h r E
    refine ⟨K1.1, fun p l e R s m args below meth c C H locs ls cells slots hR hL hlv hc hs => ?_⟩
    have hK : bp_K G s := C.2.2.2.2.2.2.2.2.2.2.2.2
    have hts := C.2.2.2.2.1
    obtain ⟨mi', e1, hM⟩ := hK.2.2.2.2.2.2.2.2.2.2.2.2.1
    rw [hR.2.2.2.1, hm] at e1
    cases e1
    obtain ⟨a1, -, kA, comp, k1, k2, k3, k4⟩ := bp_arw hR hK ht (ty := .object "java/lang/Object") rfl hb
    exact va_getC C.1 C.2.1 (C.2.2.1.trans hlv.1.symm) C.2.2.2.1 (hts _ hlink) (va_Dc.use hK.2.2.2.2.2.2.2.2.2.2.2.1) (hts _ hsel) (hts _ hinst) (hts _ hnat) hM ⟨_, a1, rfl, k4⟩ (by rw [C.2.2.2.2.2.2.2.2.1]; exact hf) (by rw [C.2.2.2.2.2.2.2.2.2.1]; exact hlo) d (K1.2 p l e R s m args below meth c C H locs ls cells slots hR hL hlv hc hs)
theorem bp_j_ldcClass {index : Nat} {K : Nat → bp_M β} (hlink : Cond.classLink i.1.cls index "[Ljava/lang/Object;" ∈ lw_all) (d : decode i.2.1 pc = .ok (.ldc index, 2)) (kk : ∀ x, bp_J G i Qf (K x) (pc + 2) lv (.ref x :: st)) : bp_J G i Qf (bp_gets 21 K) pc lv st := by
  intro h r E
  unfold bp_gets bp_getsR at E
  cases hm : bp_s h 21 with
  | none => rw [hm] at E; cases E
  | some mi =>
    rw [hm] at E
    have K1 := kk mi h r E
    refine ⟨K1.1, fun p l e R s m args below meth c C H locs ls cells slots hR hL hlv hc hs => ?_⟩
    have hK : bp_K G s := C.2.2.2.2.2.2.2.2.2.2.2.2
    obtain ⟨mi', e1, hM⟩ := hK.2.2.2.2.2.2.2.2.2.2.2.2.1
    rw [hR.2.2.2.1, hm] at e1
    cases e1
    exact va_ldcM C.1 C.2.1 C.2.2.2.1 (C.2.2.2.2.1 _ hlink) hM d (K1.2 p l e R s m args below meth c C H locs ls cells slots hR hL hlv hc hs)
/-- a whole row of an array has changed -/
theorem bp_Rel.putr {h h' : bp_H} {H H' : Heap} {t a : Nat} {ty : FieldType} {s : State} (hR : bp_Rel G h H) (hK : bp_K G s) (ht : (bp_S h a).1 = t) (he : bp_et t = some ty) (hb : bp_B h ≤ a)
    (e1 : bp_Z h' = bp_Z h) (e2 : bp_B h' = bp_B h) (e3 : bp_s h' = bp_s h) (e4 : bp_S h' = bp_S h) (e5 : ∀ x, x ≠ a → ∀ k, bp_I h' x k = bp_I h x k ∧ bp_L h' x k = bp_L h x k ∧ bp_R h' x k = bp_R h x k)
    (hH : H'[a]? = some (arrV (G.2.1 t) (bp_S h a).2 (fun k => bp_tv ty (bp_I h' a k) (bp_L h' a k) (bp_R h' a k)))) (hz : H'.size = H.size) (ho : ∀ q, q ≠ a → H'[q]? = H[q]?) : bp_Rel G h' H' := by
  refine hR.upd e1 e2 e3 e4 e5 hz ho hb ⟨fun q' hq' => ?_, fun ty' hty => ?_⟩
  · rw [e4, ht, bp_etC he] at hq'
    cases hq'
  · rw [e4, ht] at hty ⊢
    cases he.symm.trans hty
    exact bp_AR.own (hK.2.2.2.2.2.2.2.2.2.2.2.2.2.2 t ty he).1 hH
theorem bp_cpLocs {a : Nat} {locs L : List Loc} (hL : ∀ z ∈ locs, bp_b G ≤ z.base) (ha : bp_b G ≤ a) (h2 : ∀ z ∈ L, z.base = a) : ∀ z ∈ locs ++ L, bp_b G ≤ z.base := by
  intro z hz
  rcases List.mem_append.mp hz with h1 | h1
  · exact hL z h1
  · rw [h2 z h1]; exact ha
theorem bp_nnI (z : Int32) (hz : ¬ z < 0) : z.toInt = (z.toNatClampNeg : Int) := by
  have hz0 : (0 : Int) ≤ z.toInt := by
    have := Int32.not_lt.mp hz
    simpa using Int32.le_iff_toInt_le.mp this
  show z.toInt = ((z.toInt.toNat : Nat) : Int)
  omega
/-- System.arraycopy of bytes -/
theorem bp_j_copyB {a0 a1 index : Nat} {sp dp n : Int32} (hlink : Cond.methodLink i.1.cls index arraycopyName ∈ lw_all) (hnat : Cond.native arraycopyName ∈ lw_all) (hstat : Cond.static arraycopyName ∈ lw_all) (hini : Cond.initialized "java/lang/System" ∈ lw_all) (hf : 1 ≤ i.2.2.2.2.2.1) (hlo : (st.map fun v => v.category).sum + (nativeFrameWords "java/lang/System" "arraycopy" 5 + 11) ≤ i.2.2.2.2.2.2) (d : decode i.2.1 pc = .ok (.invokestatic index, 3))
    (kk : bp_J G i Qf P (pc + 3) lv st) : bp_J G i Qf (bp_copyI 21 a0 sp a1 dp n P) pc lv (.int n :: .int dp :: .ref a1 :: .int sp :: .ref a0 :: st) := by
  intro h r E
  unfold bp_copyI at E
  split at E
  · rename_i hcn
    obtain ⟨t0, t1, hb0, hb, h1, h2, h3, h4, h5, hfit⟩ := hcn
    have K1 := kk _ r E
    refine ⟨K1.1, fun p l e R s m args below meth c C H locs ls cells slots hR hL hlv hc hs => ?_⟩
    have hK : bp_K G s := C.2.2.2.2.2.2.2.2.2.2.2.2
    have hts := C.2.2.2.2.1
    obtain ⟨hc0, hA0, -⟩ := bp_arw hR hK t0 (ty := .byte) rfl hb0
    obtain ⟨hc1, hA1, -⟩ := bp_arw hR hK t1 (ty := .byte) rfl hb
    have hba : bp_b G ≤ a1 := by rw [hR.2.1]; exact hb
    intro T hT X
    obtain ⟨-, k0, hk0, cm0, hkk0⟩ := hA0 (bp_S h a0).2 (fun k => .int (bp_I h a0 k))
    obtain ⟨-, k1, hk1, cm1, hkk1⟩ := hA1 (bp_S h a1).2 (fun k => .int (bp_I h a1 k))
    obtain ⟨vm', X', step⟩ := X.arraycopy C.1 C.2.2.2.1 (hts _ hlink) (hts _ hnat) (hts _ hstat) (hts _ hini) (src := a0) (dst := a1) (cs := arrV (G.2.1 21) (bp_S h a0).2 (fun k => .int (bp_I h a0 k))) (cd := arrV (G.2.1 21) (bp_S h a1).2 (fun k => .int (bp_I h a1 k))) (srcPos := sp) (destPos := dp) (n := n) (by rw [hT]; exact hc0) (by rw [hT]; exact hc1)
      (fun _ h => by cases h) (fun _ h => by cases h) (fun h => by cases h) (fun h => by cases h) hk0 hk1 hkk0 hkk1 (by simp [refKind]) h1 h2 h3
      (by rw [bp_nnI sp h1, bp_nnI n h3, arrV_size]; omega)
      (by rw [bp_nnI dp h2, bp_nnI n h3, arrV_size]; omega)
      (fun vm₁ _ i hi => by
        have e : (arrV (G.2.1 21) (bp_S h a0).2 (fun k => Value.int (bp_I h a0 k))).slots.getD (sp.toNatClampNeg + i) .null = .int (bp_I h a0 (sp.toNatClampNeg + i)) := by
          rw [Array.getD_eq_getD_getElem?, arrV_read _ _ (by omega)]
          rfl
        refine ⟨?_, ?_⟩
        · rw [e, ← hfit i hi]
          exact pk_fb _
        · rw [e]
          exact trivial)
      (g := F0 m pc ls (.int n :: .int dp :: .ref a1 :: .int sp :: .ref a0 :: st)) rfl (by rw [C.2.2.1, hlv.1]) (rest := st) rfl (by rw [C.2.1]; exact d) (by rw [C.2.2.2.2.2.2.2.2.1]; exact hf) (by rw [C.2.2.2.2.2.2.2.2.2.1]; show 2 * 0 + _ + _ ≤ _; omega)
    have e1 : copied (arrV (G.2.1 21) (bp_S h a0).2 (fun k => Value.int (bp_I h a0 k))) (arrV (G.2.1 21) (bp_S h a1).2 (fun k => Value.int (bp_I h a1 k))) sp dp n = arrV (G.2.1 21) (bp_S h a1).2 (fun k => Value.int (va_cpy (bp_I h a0) (bp_I h a1) sp.toNatClampNeg dp.toNatClampNeg n.toNatClampNeg k)) := va_copied (fun z => Value.int z) (G.2.1 21) (G.2.1 21) (bp_I h a0) (bp_I h a1) h4
    rw [e1] at X' step
    have hl : a1 < H.size := (Array.getElem?_eq_some_iff.mp hc1).1
    have hheap : ((T.setVm vm').setCell a1 (arrV (G.2.1 21) (bp_S h a1).2 (fun k => Value.int (va_cpy (bp_I h a0) (bp_I h a1) sp.toNatClampNeg dp.toNatClampNeg n.toNatClampNeg k)))).heap = H.setIfInBounds a1 (arrV (G.2.1 21) (bp_S h a1).2 (fun k => Value.int (va_cpy (bp_I h a0) (bp_I h a1) sp.toNatClampNeg dp.toNatClampNeg n.toNatClampNeg k))) := by rw [← hT]; rfl
    have i1 : ∀ k, bp_I (bp_setA h a1 (va_cpy (bp_I h a0) (bp_I h a1) sp.toNatClampNeg dp.toNatClampNeg n.toNatClampNeg)) a1 k = va_cpy (bp_I h a0) (bp_I h a1) sp.toNatClampNeg dp.toNatClampNeg n.toNatClampNeg k := fun k => if_pos rfl
    obtain ⟨t, g1, g2⟩ := K1.2 p l e R s m args below meth c C _ _ ls cells slots (hR.putr (s := s) (h' := bp_setA h a1 (va_cpy (bp_I h a0) (bp_I h a1) sp.toNatClampNeg dp.toNatClampNeg n.toNatClampNeg)) (H' := H.setIfInBounds a1 (arrV (G.2.1 21) (bp_S h a1).2 (fun k => Value.int (va_cpy (bp_I h a0) (bp_I h a1) sp.toNatClampNeg dp.toNatClampNeg n.toNatClampNeg k)))) hK t1 (ty := .byte) rfl hb rfl rfl rfl rfl (fun x hx k => ⟨if_neg hx, rfl, rfl⟩) (by
        rw [Array.getElem?_setIfInBounds, if_pos rfl, if_pos hl]
        congr 2
        funext k
        rw [i1]; rfl) (by simp) (fun q hq => by simp [Array.getElem?_setIfInBounds, Ne.symm hq])) (bp_cpLocs hL hba fun z hz => by obtain ⟨z', -, hz'⟩ := List.mem_map.mp hz; rw [← hz']) hlv hc hs _ hheap X'
    exact ⟨t, step t g1, g2⟩
  · cases E
def bp_okq (h : bp_H) (r : Option Nat) : Bool := match r with
  | none => true
  | some y => decide ((bp_S h y).1 = 3)
/-- System.arraycopy of Object[]s that hold Segments -/
def bp_copyR {β : Type} (a0 : Nat) (sp : Int32) (a1 : Nat) (dp n : Int32) (K : bp_M β) : bp_M β := fun h =>
  if (bp_S h a0).1 = 27 ∧ (bp_S h a1).1 = 27 ∧ bp_B h ≤ a0 ∧ bp_B h ≤ a1 ∧ ¬ sp < 0 ∧ ¬ dp < 0 ∧ ¬ n < 0 ∧ sp.toNatClampNeg + n.toNatClampNeg ≤ (bp_S h a0).2 ∧ dp.toNatClampNeg + n.toNatClampNeg ≤ (bp_S h a1).2 ∧ (∀ i, i < n.toNatClampNeg → bp_okq h (bp_R h a0 (sp.toNatClampNeg + i)) = true) then
    K (bp_setQ h a1 (va_cpy (bp_R h a0) (bp_R h a1) sp.toNatClampNeg dp.toNatClampNeg n.toNatClampNeg)) else none
theorem bp_j_copyR {a0 a1 index : Nat} {sp dp n : Int32} (hlink : Cond.methodLink i.1.cls index arraycopyName ∈ lw_all) (hnat : Cond.native arraycopyName ∈ lw_all) (hstat : Cond.static arraycopyName ∈ lw_all) (hini : Cond.initialized "java/lang/System" ∈ lw_all) (hcast : Cond.castable RX4 "java/lang/Object" ∈ lw_tbl) (hf : 1 ≤ i.2.2.2.2.2.1) (hlo : (st.map fun v => v.category).sum + (nativeFrameWords "java/lang/System" "arraycopy" 5 + 11) ≤ i.2.2.2.2.2.2) (d : decode i.2.1 pc = .ok (.invokestatic index, 3))
    (kk : bp_J G i Qf P (pc + 3) lv st) : bp_J G i Qf (bp_copyR a0 sp a1 dp n P) pc lv (.int n :: .int dp :: .ref a1 :: .int sp :: .ref a0 :: st) := by
  intro h r E
  unfold bp_copyR at E
  split at E
  · rename_i hcn
    obtain ⟨t0, t1, hb0, hb, h1, h2, h3, h4, h5, hfit⟩ := hcn
    have K1 := kk _ r E
    refine ⟨K1.1, fun p l e R s m args below meth c C H locs ls cells slots hR hL hlv hc hs => ?_⟩
    have hK : bp_K G s := C.2.2.2.2.2.2.2.2.2.2.2.2
    have hts := C.2.2.2.2.1
    obtain ⟨hc0, hA0, -⟩ := bp_arw hR hK t0 (ty := .object "java/lang/Object") rfl hb0
    obtain ⟨hc1, hA1, hra⟩ := bp_arw hR hK t1 (ty := .object "java/lang/Object") rfl hb
    have hba : bp_b G ≤ a1 := by rw [hR.2.1]; exact hb
    obtain ⟨cc0, cc1, f1, f2, f3⟩ := Cond.castable_spec (hK.2.2.1 _ (bp_nwOf hcast rfl))
    intro T hT X
    obtain ⟨-, k0, hk0, cm0, hkk0⟩ := hA0 (bp_S h a0).2 (fun k => va_rf (bp_R h a0 k))
    obtain ⟨-, k1, hk1, cm1, hkk1⟩ := hA1 (bp_S h a1).2 (fun k => va_rf (bp_R h a1 k))
    obtain ⟨vm', X', step⟩ := X.arraycopy C.1 C.2.2.2.1 (hts _ hlink) (hts _ hnat) (hts _ hstat) (hts _ hini) (src := a0) (dst := a1) (cs := arrV (G.2.1 27) (bp_S h a0).2 (fun k => va_rf (bp_R h a0 k))) (cd := arrV (G.2.1 27) (bp_S h a1).2 (fun k => va_rf (bp_R h a1 k))) (srcPos := sp) (destPos := dp) (n := n) (by rw [hT]; exact hc0) (by rw [hT]; exact hc1)
      (fun _ h => by cases h) (fun _ h => by cases h) (fun h => by cases h) (fun h => by cases h) hk0 hk1 hkk0 hkk1 rfl h1 h2 h3
      (by rw [bp_nnI sp h1, bp_nnI n h3, arrV_size]; omega)
      (by rw [bp_nnI dp h2, bp_nnI n h3, arrV_size]; omega)
      (fun vm₁ hal i hi => by
        have e : (arrV (G.2.1 27) (bp_S h a0).2 (fun k => va_rf (bp_R h a0 k))).slots.getD (sp.toNatClampNeg + i) .null = va_rf (bp_R h a0 (sp.toNatClampNeg + i)) := by
          rw [Array.getD_eq_getD_getElem?, arrV_read _ _ (by omega)]
          rfl
        rw [e]
        have hq := hfit i hi
        cases hy : bp_R h a0 (sp.toNatClampNeg + i) with
        | none => exact ⟨rfl, trivial⟩
        | some y =>
          rw [hy] at hq
          have hq3 : (bp_S h y).1 = 3 := of_decide_eq_true hq
          obtain ⟨cellV, g1, g2, g3⟩ := bp_recv (q := (RX4, TX4, 13)) hR hK hq3 rfl
          obtain ⟨kA, comp, r1, r2, r3, -⟩ := hra
          cases hk1.symm.trans r1
          cases hkk1.symm.trans r2
          obtain ⟨kC, hkC, -⟩ := Vm.findClass_spec g3
          obtain ⟨kE, hkE, -⟩ := Vm.findClass_spec r3
          obtain ⟨kC', hkC', -⟩ := hal.2.2 _ _ hkC
          obtain ⟨kE', hkE', -⟩ := hal.2.2 _ _ hkE
          refine ⟨rfl, cellV, (show T.heap[y]? = some cellV by rw [hT]; exact g1), (fun q h => by rw [h] at g2; cases g2), ⟨kC', hkC'⟩, ?_, ?_⟩
          · exact ⟨kE', hkE'⟩
          · show vm₁.assignable _ _ = true
            rw [hal.assignable]
            cases g3.symm.trans f1
            cases r3.symm.trans f2
            exact f3)
      (g := F0 m pc ls (.int n :: .int dp :: .ref a1 :: .int sp :: .ref a0 :: st)) rfl (by rw [C.2.2.1, hlv.1]) (rest := st) rfl (by rw [C.2.1]; exact d) (by rw [C.2.2.2.2.2.2.2.2.1]; exact hf) (by rw [C.2.2.2.2.2.2.2.2.2.1]; show 2 * 0 + _ + _ ≤ _; omega)
    have e1 : copied (arrV (G.2.1 27) (bp_S h a0).2 (fun k => va_rf (bp_R h a0 k))) (arrV (G.2.1 27) (bp_S h a1).2 (fun k => va_rf (bp_R h a1 k))) sp dp n = arrV (G.2.1 27) (bp_S h a1).2 (fun k => va_rf (va_cpy (bp_R h a0) (bp_R h a1) sp.toNatClampNeg dp.toNatClampNeg n.toNatClampNeg k)) := va_copied (fun z => va_rf z) (G.2.1 27) (G.2.1 27) (bp_R h a0) (bp_R h a1) h4
    rw [e1] at X' step
    have hl : a1 < H.size := (Array.getElem?_eq_some_iff.mp hc1).1
    have hheap : ((T.setVm vm').setCell a1 (arrV (G.2.1 27) (bp_S h a1).2 (fun k => va_rf (va_cpy (bp_R h a0) (bp_R h a1) sp.toNatClampNeg dp.toNatClampNeg n.toNatClampNeg k)))).heap = H.setIfInBounds a1 (arrV (G.2.1 27) (bp_S h a1).2 (fun k => va_rf (va_cpy (bp_R h a0) (bp_R h a1) sp.toNatClampNeg dp.toNatClampNeg n.toNatClampNeg k))) := by rw [← hT]; rfl
    have i1 : ∀ k, bp_R (bp_setQ h a1 (va_cpy (bp_R h a0) (bp_R h a1) sp.toNatClampNeg dp.toNatClampNeg n.toNatClampNeg)) a1 k = va_cpy (bp_R h a0) (bp_R h a1) sp.toNatClampNeg dp.toNatClampNeg n.toNatClampNeg k := fun k => if_pos rfl
    obtain ⟨t, g1, g2⟩ := K1.2 p l e R s m args below meth c C _ _ ls cells slots (hR.putr (s := s) (h' := bp_setQ h a1 (va_cpy (bp_R h a0) (bp_R h a1) sp.toNatClampNeg dp.toNatClampNeg n.toNatClampNeg)) (H' := H.setIfInBounds a1 (arrV (G.2.1 27) (bp_S h a1).2 (fun k => va_rf (va_cpy (bp_R h a0) (bp_R h a1) sp.toNatClampNeg dp.toNatClampNeg n.toNatClampNeg k)))) hK t1 (ty := .object "java/lang/Object") rfl hb rfl rfl rfl rfl (fun x hx k => ⟨rfl, rfl, if_neg hx⟩) (by
        rw [Array.getElem?_setIfInBounds, if_pos rfl, if_pos hl]
        congr 2
        funext k
        rw [i1]; rfl) (by simp) (fun q hq => by simp [Array.getElem?_setIfInBounds, Ne.symm hq])) (bp_cpLocs hL hba fun z hz => by obtain ⟨z', -, hz'⟩ := List.mem_map.mp hz; rw [← hz']) hlv hc hs _ hheap X'
    exact ⟨t, step t g1, g2⟩
  · cases E
end CALLS
