/-! the law: its walk -/
set_option maxRecDepth 100000
/-! THE CLAIM OUT OF ONE WALK OF THE LAW'S BODY. Your part is whole_start (and what it stands on); all else here is the same for every law, but numbers. -/
def R_law : String := "BilevelPagesLaw"
def lw_P (b : Addr) (xs : List Int32) (args : Array Value) (s : State) : Prop := args = #[.ref b] ∧ s.IntsAt b xs ∧ xs.length ≤ 321 ∧ (Jvm.Cond.and given_1 narrow_1).before args s = true
def lw_Q (_ : Array Value) (s : State) (o : Outcome) (t : State) : Prop := o = .returned (some (.int 1)) ∧ Framed s o t [] 603072 7165560
def lw_Z (below : List Frame) (a : Array Value) (s : State) : State → Prop := fun t => ∃ o, t.status = .running ∧ Ended t below o ∧ lw_Q a s o t
/-- the law's own end, with 1 on the stack, nothing written that was there before, its room as the claim has it -/
theorem lw_ret {p : Program} {l : Launch} {e : Env} {s : State} {m : MethodId} {below : List Frame} {meth : Method} {c : Code} {b : Nat} (hx : p.tables.exec = Jvm.exec) (hb : c.code = code) (hr : meth.sig.returnType = ret) (hlocks : meth.locks = false) {pc : Nat} {H : Heap} {ls : Array Slot} (hdg : decode code pc = .ok (.ireturn, 1)) : W p l e room_1 s m #[Value.ref b] below meth c H [] 603072 7165560 (lw_Z below #[Value.ref b] s) (F0 m pc ls [.int 1]) := by
  intro T hT X
  obtain ⟨fs, hret, hrun, hended, hW, hframe⟩ := X.leave (v := some (.int 1)) (hlocks := hlocks) (fun h => by rw [hr] at h; cases h)
  have hmeth' : T.vm.method? m = some meth := X.method'
  refine ⟨T.setFrames fs, ?_, .returned (some (.int 1)), hrun, hended, rfl, ⟨_, rfl⟩, hW, hframe⟩
  jvm_step X.here [X.here.top, hx, hb, hdg, hmeth', hr, ret, narrow_b1]
  (try refine ⟨rfl, ?_⟩); (try refine ⟨rfl, ?_⟩)
  first | (intro acts; rw [hret _ acts rfl rfl rfl]) | rw [hret _ _ rfl rfl rfl]
  exact Steps.refl _
/-- what holds at the law's entry: the machine, the code, the tables' words (any of lw_tbl by 'hts w (by decide +kernel)'), the script of L ints xs at the cell b, what the Statement gives of the start (any of its parts by flat_of_before) -/
def lw_At (p : Program) (s : State) (m : MethodId) (meth : Method) (c : Code) (b L : Nat) (xs : Nat → Int32) : Prop :=
  p.tables.exec = Jvm.exec ∧ c.code = code ∧ meth.sig.returnType = ret ∧ c.maxLocals = 7 ∧ s.vm.findClass R_law = some m.cls ∧ (∀ w ∈ lw_tbl, w.before #[Value.ref b] s = true) ∧ va_X b L xs s s.heap ∧ b < s.heap.size ∧ meth.locks = false ∧ (c.exceptionTable.toList = [] ∧ meth.name = "law") ∧ (Jvm.Cond.and given_1 narrow_1).before #[Value.ref b] s = true

/-- the law's end: what is asked of its start stands ahead -/
def bp_QL (G : bp_GT) : bp_QT Int32 := fun r R s args below t => R = room_1 → (∃ b, args = #[Value.ref b]) → s.heap.size = bp_b G → lw_Z below args s t
def bp_retLaw (v : Int32) : bp_M Int32 := fun h => if v = 1 then some (.inr v, h) else none
theorem bp_j_lawret {G : bp_GT} {i : bp_MI} {v : Int32} {pc : Nat} {lv : List (Nat × Value)} (hc : i.2.1 = code) (hr : i.2.2.2.1 = ret) (d : decode i.2.1 pc = .ok (.ireturn, 1)) : bp_J G i (bp_QL G) (bp_retLaw v) pc lv [.int v] := by
  intro h r E
  unfold bp_retLaw at E
  split at E
  · rename_i hv
    subst hv
    cases E
    refine ⟨⟨Nat.le_refl _, Nat.le_refl _⟩, fun p l e R s m args below meth c C H locs ls cells slots hR hL hlv hc9 hs => ?_⟩
    rw [hc] at d
    by_cases h1 : R = room_1 ∧ (∃ b, args = #[Value.ref b]) ∧ s.heap.size = bp_b G
    · obtain ⟨rfl, ⟨b, rfl⟩, h3⟩ := h1
      have hcells : cells ≤ 603072 := Nat.le_trans (Nat.le_add_right _ _) hc9
      have hslots : slots ≤ 7165560 := Nat.le_trans (Nat.le_add_right _ _) hs
      have W0 := lw_ret (p := p) (l := l) (e := e) (s := s) (m := m) (below := below) (meth := meth) (c := c) (b := b) (H := H) (ls := ls) (pc := pc) C.1 (C.2.1.trans hc) (C.2.2.2.2.2.2.1.trans hr) C.2.2.2.2.2.1 d
      intro T hT X
      obtain ⟨t, a1, b1⟩ := va_forget (fun q hq => by rw [h3]; exact hL q hq) (W.widen hcells hslots W0) T hT X
      exact ⟨t, a1, fun _ _ _ => b1⟩
    · intro T hT X
      exact ⟨T.setTop (F0 m pc ls [.int 1]), Steps.refl _, fun a1 a2 a3 => absurd ⟨a1, a2, a3⟩ h1⟩
  · cases E
/-- BilevelPagesLaw.law([I)Z -/
abbrev iL_law : bp_MI := (x, cL_law, 7, some Jvm.ClassFile.FieldType.boolean, [], 23, 10988)
def BL_law_33 (bp0 : Nat) (a1 : Nat) (a3 : Nat) (a5 : Nat) (k7 : Int32 → bp_M Int32) : Int32 → bp_M Int32 :=
  fun x6 =>
  bp_alen 20 bp0 fun x8 =>
  bp_if ((x8 - (5 : Int32)) < x6) (
  bp_retLaw (1 : Int32)) (
  bp_aldI 20 bp0 x6 fun x9 =>
  bp_jn (fun (k10 : bp_M Int32) =>
  bp_sw ((x9 &&& (31 : Int32))).toInt [(0, (
  bp_aldI 20 bp0 (x6 + (1 : Int32)) fun x12 =>
  bp_aldI 20 bp0 (x6 + (2 : Int32)) fun x13 =>
  bp_bindN (PX0_segment a1 x12 x13 a5) fun x14 =>
  bp_aldI 20 bp0 (x6 + (1 : Int32)) fun x15 =>
  bp_aldI 20 bp0 (x6 + (2 : Int32)) fun x16 =>
  bp_bindN (bp_is 4 a3 (PX6_segment a3 x15 x16)) fun x17 =>
  bp_bindN (bp_is 4 a3 (PX6_thrown a3)) fun x18 =>
  bp_if (x18 = x14) (
  bp_if (x14 = 0) (
  bp_aldL a5 (0 : Int32) fun l19 =>
  bp_if ((lg_cmp l19 x17.toInt64) = 0) (
  k10) (
  bp_retLaw (0 : Int32))) (
  k10)) (
  bp_retLaw (0 : Int32)))), (1, (
  bp_aldI 20 bp0 (x6 + (1 : Int32)) fun x20 =>
  bp_aldI 20 bp0 (x6 + (2 : Int32)) fun x21 =>
  bp_bindN (PX0_refers a1 x20 x21 a5) fun x22 =>
  bp_aldI 20 bp0 (x6 + (1 : Int32)) fun x23 =>
  bp_aldI 20 bp0 (x6 + (2 : Int32)) fun x24 =>
  bp_bindN (bp_is 4 a3 (PX6_refers a3 x23 x24)) fun x25 =>
  bp_bindN (bp_is 4 a3 (PX6_thrown a3)) fun x26 =>
  bp_if (x26 = x22) (
  bp_if (x22 = 0) (
  bp_aldL a5 (0 : Int32) fun l27 =>
  bp_jn (fun (k29 : Int64 → bp_M Int32) =>
  bp_if (x25 = 0) (
  k29 (0 : Int64)) (
  k29 (1 : Int64))) (fun (l28 : Int64) =>
  bp_if ((lg_cmp l27 l28) = 0) (
  k10) (
  bp_retLaw (0 : Int32)))) (
  k10)) (
  bp_retLaw (0 : Int32)))), (2, (
  bp_aldI 20 bp0 (x6 + (1 : Int32)) fun x30 =>
  bp_aldI 20 bp0 (x6 + (2 : Int32)) fun x31 =>
  bp_bindN (PX0_letGo a1 x30 x31 a5) fun x32 =>
  bp_aldI 20 bp0 (x6 + (1 : Int32)) fun x33 =>
  bp_aldI 20 bp0 (x6 + (2 : Int32)) fun x34 =>
  bp_bindN (bp_is 4 a3 (PX6_letGo a3 x33 x34)) fun x35 =>
  bp_bindN (bp_is 4 a3 (PX6_thrown a3)) fun x36 =>
  bp_if (x36 = x32) (
  bp_if (x32 = 0) (
  bp_aldL a5 (0 : Int32) fun l37 =>
  bp_jn (fun (k39 : Int64 → bp_M Int32) =>
  bp_if (x35 = 0) (
  k39 (0 : Int64)) (
  k39 (1 : Int64))) (fun (l38 : Int64) =>
  bp_if ((lg_cmp l37 l38) = 0) (
  k10) (
  bp_retLaw (0 : Int32)))) (
  k10)) (
  bp_retLaw (0 : Int32)))), (3, (
  bp_aldI 20 bp0 (x6 + (1 : Int32)) fun x40 =>
  bp_aldI 20 bp0 (x6 + (2 : Int32)) fun x41 =>
  bp_bindN (PX0_byteOf a1 x40 x41 a5) fun x42 =>
  bp_aldI 20 bp0 (x6 + (1 : Int32)) fun x43 =>
  bp_aldI 20 bp0 (x6 + (2 : Int32)) fun x44 =>
  bp_bindN (bp_is 4 a3 (PX6_byteOf a3 x43 x44)) fun x45 =>
  bp_bindN (bp_is 4 a3 (PX6_thrown a3)) fun x46 =>
  bp_if (x46 = x42) (
  bp_if (x42 = 0) (
  bp_aldL a5 (0 : Int32) fun l47 =>
  bp_if ((lg_cmp l47 x45.toInt64) = 0) (
  k10) (
  bp_retLaw (0 : Int32))) (
  k10)) (
  bp_retLaw (0 : Int32)))), (4, (
  bp_aldI 20 bp0 (x6 + (1 : Int32)) fun x48 =>
  bp_aldI 20 bp0 (x6 + (2 : Int32)) fun x49 =>
  bp_aldI 20 bp0 (x6 + (3 : Int32)) fun x50 =>
  bp_bindN (PX0_number a1 x48 x49 x50 a5) fun x51 =>
  bp_aldI 20 bp0 (x6 + (1 : Int32)) fun x52 =>
  bp_aldI 20 bp0 (x6 + (2 : Int32)) fun x53 =>
  bp_aldI 20 bp0 (x6 + (3 : Int32)) fun x54 =>
  bp_bindN (bp_is 4 a3 (PX6_number a3 x52 x53 x54)) fun x55 =>
  bp_bindN (bp_is 4 a3 (PX6_thrown a3)) fun x56 =>
  bp_if (x56 = x51) (
  bp_if (x51 = 0) (
  bp_aldL a5 (0 : Int32) fun l57 =>
  bp_if ((lg_cmp l57 x55.toInt64) = 0) (
  k10) (
  bp_retLaw (0 : Int32))) (
  k10)) (
  bp_retLaw (0 : Int32)))), (5, (
  bp_aldI 20 bp0 (x6 + (1 : Int32)) fun x58 =>
  bp_aldI 20 bp0 (x6 + (2 : Int32)) fun x59 =>
  bp_aldI 20 bp0 (x6 + (3 : Int32)) fun x60 =>
  bp_aldI 20 bp0 (x6 + (4 : Int32)) fun x61 =>
  bp_jn (fun (k63 : Int32 → bp_M Int32) =>
  bp_if (x61 = 0) (
  k63 (0 : Int32)) (
  k63 (1 : Int32))) (fun (x62 : Int32) =>
  bp_bindN (PX0_pixel a1 x58 x59 x60 x62 a5) fun x64 =>
  bp_aldI 20 bp0 (x6 + (1 : Int32)) fun x65 =>
  bp_aldI 20 bp0 (x6 + (2 : Int32)) fun x66 =>
  bp_aldI 20 bp0 (x6 + (3 : Int32)) fun x67 =>
  bp_aldI 20 bp0 (x6 + (4 : Int32)) fun x68 =>
  bp_jn (fun (k70 : Int32 → bp_M Int32) =>
  bp_if (x68 = 0) (
  k70 (0 : Int32)) (
  k70 (1 : Int32))) (fun (x69 : Int32) =>
  bp_bindN (bp_is 4 a3 (PX6_pixel a3 x65 x66 x67 x69)) fun x71 =>
  bp_bindN (bp_is 4 a3 (PX6_thrown a3)) fun x72 =>
  bp_if (x72 = x64) (
  bp_if (x64 = 0) (
  bp_aldL a5 (0 : Int32) fun l73 =>
  bp_jn (fun (k75 : Int64 → bp_M Int32) =>
  bp_if (x71 = 0) (
  k75 (0 : Int64)) (
  k75 (1 : Int64))) (fun (l74 : Int64) =>
  bp_if ((lg_cmp l73 l74) = 0) (
  k10) (
  bp_retLaw (0 : Int32)))) (
  k10)) (
  bp_retLaw (0 : Int32)))))), (6, (
  bp_aldI 20 bp0 (x6 + (1 : Int32)) fun x76 =>
  bp_bindN (PX0_write a1 x76 a5) fun x77 =>
  bp_aldI 20 bp0 (x6 + (1 : Int32)) fun x78 =>
  bp_bindN (bp_is 4 a3 (PX6_write a3 x78)) fun x79 =>
  bp_bindN (bp_is 4 a3 (PX6_thrown a3)) fun x80 =>
  bp_if (x80 = x77) (
  bp_if (x77 = 0) (
  bp_aldL a5 (0 : Int32) fun l81 =>
  bp_if ((lg_cmp l81 x79.toInt64) = 0) (
  k10) (
  bp_retLaw (0 : Int32))) (
  k10)) (
  bp_retLaw (0 : Int32)))), (7, (
  bp_aldI 20 bp0 (x6 + (1 : Int32)) fun x82 =>
  bp_bindN (PX0_byteAt a1 x82 a5) fun x83 =>
  bp_aldI 20 bp0 (x6 + (1 : Int32)) fun x84 =>
  bp_bindN (bp_is 4 a3 (PX6_byteAt a3 x84)) fun x85 =>
  bp_bindN (bp_is 4 a3 (PX6_thrown a3)) fun x86 =>
  bp_if (x86 = x83) (
  bp_if (x83 = 0) (
  bp_aldL a5 (0 : Int32) fun l87 =>
  bp_if ((lg_cmp l87 x85.toInt64) = 0) (
  k10) (
  bp_retLaw (0 : Int32))) (
  k10)) (
  bp_retLaw (0 : Int32)))), (8, (
  bp_aldI 20 bp0 (x6 + (1 : Int32)) fun x88 =>
  bp_aldI 20 bp0 (x6 + (2 : Int32)) fun x89 =>
  bp_jn (fun (k91 : Int32 → bp_M Int32) =>
  bp_if (x89 = 0) (
  k91 (0 : Int32)) (
  k91 (1 : Int32))) (fun (x90 : Int32) =>
  bp_bindN (PX0_feed a1 x88 x90 a5) fun x92 =>
  bp_aldI 20 bp0 (x6 + (1 : Int32)) fun x93 =>
  bp_aldI 20 bp0 (x6 + (2 : Int32)) fun x94 =>
  bp_jn (fun (k96 : Int32 → bp_M Int32) =>
  bp_if (x94 = 0) (
  k96 (0 : Int32)) (
  k96 (1 : Int32))) (fun (x95 : Int32) =>
  bp_bindN (bp_is 4 a3 (PX6_feed a3 x93 x95)) fun x97 =>
  bp_bindN (bp_is 4 a3 (PX6_thrown a3)) fun x98 =>
  bp_if (x98 = x92) (
  bp_if (x92 = 0) (
  bp_aldL a5 (0 : Int32) fun l99 =>
  bp_if ((lg_cmp l99 x97.toInt64) = 0) (
  k10) (
  bp_retLaw (0 : Int32))) (
  k10)) (
  bp_retLaw (0 : Int32)))))), (9, (
  bp_aldI 20 bp0 (x6 + (1 : Int32)) fun x100 =>
  bp_jn (fun (k102 : Int32 → bp_M Int32) =>
  bp_if (x100 = 0) (
  k102 (0 : Int32)) (
  k102 (1 : Int32))) (fun (x101 : Int32) =>
  bp_bindN (PX0_pass a1 x101 a5) fun x103 =>
  bp_aldI 20 bp0 (x6 + (1 : Int32)) fun x104 =>
  bp_jn (fun (k106 : Int32 → bp_M Int32) =>
  bp_if (x104 = 0) (
  k106 (0 : Int32)) (
  k106 (1 : Int32))) (fun (x105 : Int32) =>
  bp_bindN (bp_is 4 a3 (PX6_pass a3 x105)) fun x107 =>
  bp_bindN (bp_is 4 a3 (PX6_thrown a3)) fun x108 =>
  bp_if (x108 = x103) (
  bp_if (x103 = 0) (
  bp_aldL a5 (0 : Int32) fun l109 =>
  bp_if ((lg_cmp l109 x107.toInt64) = 0) (
  k10) (
  bp_retLaw (0 : Int32))) (
  k10)) (
  bp_retLaw (0 : Int32)))))), (10, (
  bp_aldI 20 bp0 (x6 + (1 : Int32)) fun x110 =>
  bp_aldI 20 bp0 (x6 + (2 : Int32)) fun x111 =>
  bp_bindN (PX0_alter a1 x110 x111 a5) fun x112 =>
  bp_aldI 20 bp0 (x6 + (1 : Int32)) fun x113 =>
  bp_aldI 20 bp0 (x6 + (2 : Int32)) fun x114 =>
  bp_bindN (bp_is 4 a3 (PX6_alter a3 x113 x114)) fun x115 =>
  bp_bindN (bp_is 4 a3 (PX6_thrown a3)) fun x116 =>
  bp_if (x116 = x112) (
  bp_if (x112 = 0) (
  bp_aldL a5 (0 : Int32) fun l117 =>
  bp_if ((lg_cmp l117 x115.toInt64) = 0) (
  k10) (
  bp_retLaw (0 : Int32))) (
  k10)) (
  bp_retLaw (0 : Int32)))), (11, (
  bp_bindN (bp_is 0 a1 (PX1_read a1)) fun x118 =>
  bp_bindN (bp_is 4 a3 (PX6_read a3)) fun x119 =>
  bp_if (x118 = x119) (
  k10) (
  bp_retLaw (0 : Int32)))), (12, (
  bp_aldI 20 bp0 (x6 + (1 : Int32)) fun x120 =>
  bp_aldI 20 bp0 (x6 + (2 : Int32)) fun x121 =>
  bp_bindN (PX0_found a1 x120 x121 a5) fun x122 =>
  bp_aldI 20 bp0 (x6 + (1 : Int32)) fun x123 =>
  bp_aldI 20 bp0 (x6 + (2 : Int32)) fun x124 =>
  bp_bindN (bp_is 4 a3 (PX6_found a3 x123 x124)) fun x125 =>
  bp_bindN (bp_is 4 a3 (PX6_thrown a3)) fun x126 =>
  bp_if (x126 = x122) (
  bp_if (x122 = 0) (
  bp_aldL a5 (0 : Int32) fun l127 =>
  bp_if ((lg_cmp l127 x125.toInt64) = 0) (
  k10) (
  bp_retLaw (0 : Int32))) (
  k10)) (
  bp_retLaw (0 : Int32)))), (13, (
  bp_aldI 20 bp0 (x6 + (1 : Int32)) fun x128 =>
  bp_aldI 20 bp0 (x6 + (2 : Int32)) fun x129 =>
  bp_bindN (PX0_page a1 x128 x129 a5) fun x130 =>
  bp_aldI 20 bp0 (x6 + (1 : Int32)) fun x131 =>
  bp_aldI 20 bp0 (x6 + (2 : Int32)) fun x132 =>
  bp_bindN (bp_is 4 a3 (PX6_page a3 x131 x132)) fun x133 =>
  bp_bindN (bp_is 4 a3 (PX6_thrown a3)) fun x134 =>
  bp_if (x134 = x130) (
  bp_if (x130 = 0) (
  bp_aldL a5 (0 : Int32) fun l135 =>
  bp_if ((lg_cmp l135 x133.toInt64) = 0) (
  k10) (
  bp_retLaw (0 : Int32))) (
  k10)) (
  bp_retLaw (0 : Int32)))), (14, (
  bp_aldI 20 bp0 (x6 + (1 : Int32)) fun x136 =>
  bp_aldI 20 bp0 (x6 + (2 : Int32)) fun x137 =>
  bp_aldI 20 bp0 (x6 + (3 : Int32)) fun x138 =>
  bp_bindN (PX0_at a1 x136 x137 x138 a5) fun x139 =>
  bp_aldI 20 bp0 (x6 + (1 : Int32)) fun x140 =>
  bp_aldI 20 bp0 (x6 + (2 : Int32)) fun x141 =>
  bp_aldI 20 bp0 (x6 + (3 : Int32)) fun x142 =>
  bp_bindN (bp_is 4 a3 (PX6_at a3 x140 x141 x142)) fun x143 =>
  bp_bindN (bp_is 4 a3 (PX6_thrown a3)) fun x144 =>
  bp_if (x144 = x139) (
  bp_if (x139 = 0) (
  bp_aldL a5 (0 : Int32) fun l145 =>
  bp_jn (fun (k147 : Int64 → bp_M Int32) =>
  bp_if (x143 = 0) (
  k147 (0 : Int64)) (
  k147 (1 : Int64))) (fun (l146 : Int64) =>
  bp_if ((lg_cmp l145 l146) = 0) (
  k10) (
  bp_retLaw (0 : Int32)))) (
  k10)) (
  bp_retLaw (0 : Int32)))), (15, (
  bp_aldI 20 bp0 (x6 + (1 : Int32)) fun x148 =>
  bp_aldI 20 bp0 (x6 + (2 : Int32)) fun x149 =>
  bp_bindN (PX0_stripe a1 x148 x149 a5) fun x150 =>
  bp_aldI 20 bp0 (x6 + (1 : Int32)) fun x151 =>
  bp_aldI 20 bp0 (x6 + (2 : Int32)) fun x152 =>
  bp_bindN (bp_is 4 a3 (PX6_stripe a3 x151 x152)) fun x153 =>
  bp_bindN (bp_is 4 a3 (PX6_thrown a3)) fun x154 =>
  bp_if (x154 = x150) (
  bp_if (x150 = 0) (
  bp_aldL a5 (0 : Int32) fun l155 =>
  bp_if ((lg_cmp l155 x153.toInt64) = 0) (
  k10) (
  bp_retLaw (0 : Int32))) (
  k10)) (
  bp_retLaw (0 : Int32)))), (16, (
  bp_aldI 20 bp0 (x6 + (1 : Int32)) fun x156 =>
  bp_bindN (bp_is 0 a1 (PX1_told a1 x156)) fun x157 =>
  bp_aldI 20 bp0 (x6 + (1 : Int32)) fun x158 =>
  bp_bindN (bp_is 4 a3 (PX6_told a3 x158)) fun x159 =>
  bp_if (x157 = x159) (
  k10) (
  bp_retLaw (0 : Int32)))), (17, (
  bp_bindN (bp_is 0 a1 (PX1_drop a1)) fun _ =>
  bp_bindN (bp_is 4 a3 (PX6_drop a3)) fun _ =>
  k10)), (18, (
  bp_bindN (bp_is 0 a1 (PX1_clear a1)) fun _ =>
  bp_bindN (bp_is 4 a3 (PX6_clear a3)) fun _ =>
  k10))] (
  k10)) (bp_letI (x6 + (5 : Int32)) fun x11 =>
  k7 x11))
def PL_law (bp0 : Nat) : bp_M Int32 :=
  bp_new 0 16 fun a1 =>
  bp_bindN (PX0_cell bp0 (0 : Int32)) fun x2 =>
  bp_bindN (PX1_init a1 x2) fun _ =>
  bp_new 4 50 fun a3 =>
  bp_bindN (PX0_cell bp0 (0 : Int32)) fun x4 =>
  bp_bindN (PX6_init a3 x4) fun _ =>
  bp_newa 23 (1 : Int32) fun a5 =>
  bp_loop (fun _ => bp_no) (BL_law_33 bp0 a1 a3 a5) (fun k => k (1 : Int32))
set_option maxHeartbeats 8000000 in
set_option maxRecDepth 100000 in
theorem jnL_law {G : bp_GT} (bp0 : Nat) : bp_J G iL_law (bp_QL G) (PL_law bp0) 0 [(0, .ref bp0)] [] := by
  unfold PL_law
  refine bp_j_new (t := 0) (n := 16) rfl (by decide) rfl (by decide) q99 q100 q72 dL_law_0 (fun a1 => ?_)
  refine bp_j_dup dL_law_3 rfl ?_
  refine bp_j_aload_n 0 dL_law_4 rfl ?_
  refine bp_j_iconst (v := 0) dL_law_5 (by decide) ?_
  refine bp_j_cn_I (bp_ranS (n := 2) (As := [.ref bp0, .int (0 : Int32)]) (cnX0_cell (G := G) bp0 (0 : Int32)) (lw_S q732 q733 q71 q734) ⟨by decide +kernel, by decide +kernel, by decide +kernel⟩ ⟨by decide, by decide⟩ (rest := [.ref a1, .ref a1]) rfl rfl (Nat.le_of_ble_eq_true rfl) dL_law_6) (fun x2 => ?_)
  refine bp_j_cn_U (bp_ranI (n := 1) (As := [.int x2]) rfl (cnX1_init (G := G) a1 x2) q103 q72 q101 q102 rfl ⟨by decide +kernel, by decide +kernel, by decide +kernel⟩ ⟨by decide, by decide⟩ (rest := [.ref a1]) rfl rfl (Nat.le_of_ble_eq_true rfl) dL_law_9) (fun _ => ?_)
  refine bp_j_astore_n (lv' := [(1, .ref a1), (0, .ref bp0)]) dL_law_12 (by decide) rfl ?_
  refine bp_j_new (t := 4) (n := 50) rfl (by decide) rfl (by decide) q1074 q1075 q82 dL_law_13 (fun a3 => ?_)
  refine bp_j_dup dL_law_16 rfl ?_
  refine bp_j_aload_n 1 dL_law_17 rfl ?_
  refine bp_j_iconst (v := 0) dL_law_18 (by decide) ?_
  refine bp_j_cn_I (bp_ranS (n := 2) (As := [.ref bp0, .int (0 : Int32)]) (cnX0_cell (G := G) bp0 (0 : Int32)) (lw_S q732 q733 q71 q734) ⟨by decide +kernel, by decide +kernel, by decide +kernel⟩ ⟨by decide, by decide⟩ (rest := [.ref a3, .ref a3]) rfl rfl (Nat.le_of_ble_eq_true rfl) dL_law_19) (fun x4 => ?_)
  refine bp_j_cn_U (bp_ranI (n := 1) (As := [.int x4]) rfl (cnX6_init (G := G) a3 x4) q1078 q82 q1076 q1077 rfl ⟨by decide +kernel, by decide +kernel, by decide +kernel⟩ ⟨by decide, by decide⟩ (rest := [.ref a3]) rfl rfl (Nat.le_of_ble_eq_true rfl) dL_law_22) (fun _ => ?_)
  refine bp_j_astore_n (lv' := [(2, .ref a3), (1, .ref a1), (0, .ref bp0)]) dL_law_25 (by decide) rfl ?_
  refine bp_j_iconst (v := 1) dL_law_26 (by decide) ?_
  refine bp_j_newarray (aty := .long) (t := 23) rfl (by decide) q1231 (by decide) dL_law_27 (fun a5 => ?_)
  refine bp_j_astore_n (lv' := [(3, .ref a5), (2, .ref a3), (1, .ref a1), (0, .ref bp0)]) dL_law_29 (by decide) rfl ?_
  refine bp_j_iconst (v := 1) dL_law_30 (by decide) ?_
  refine bp_j_istore (lv' := [(4, .int (1 : Int32)), (3, .ref a5), (2, .ref a3), (1, .ref a1), (0, .ref bp0)]) dL_law_31 (by decide) rfl ?_
  refine bp_j_loop (fun k => ∀ (x6 : Int32), bp_J G iL_law (bp_QL G) (k x6) 33 [(0, .ref bp0), (1, .ref a1), (2, .ref a3), (3, .ref a5), (4, .int x6)] []) (fun _ => bp_j_no) (fun k7 hk7 x6 => ?_) (fun k h => bp_j_sub [4, 3, 2, 1, 0] rfl (h (1 : Int32)))
  unfold BL_law_33
  refine bp_j_iload 4 dL_law_33 rfl ?_
  refine bp_j_aload_n 0 dL_law_35 rfl ?_
  refine bp_j_alen (t := 20) rfl dL_law_36 (fun x8 => ?_)
  refine bp_j_iconst (v := 5) dL_law_37 (by decide) ?_
  refine bp_j_isub dL_law_38 ?_
  refine bp_j_icmp_gt (tgt := 1314) dL_law_39 (by decide) ?_ ?_
  · refine bp_j_iconst (v := 1) dL_law_1314 (by decide) ?_
    exact bp_j_lawret rfl rfl dL_law_1315
  refine bp_j_aload_n 0 dL_law_42 rfl ?_
  refine bp_j_iload 4 dL_law_43 rfl ?_
  refine bp_j_iaload dL_law_45 (fun x9 => ?_)
  refine bp_j_bipush (v := 31) dL_law_46 (by decide) ?_
  refine bp_j_iand dL_law_48 ?_
  refine bp_j_jm (fun k => bp_J G iL_law (bp_QL G) (k) 1308 [(0, .ref bp0), (1, .ref a1), (2, .ref a3), (3, .ref a5), (4, .int x6)] []) (fun k10 hk10 => ?_) ?_
  · refine bp_j_tsw (tgt := 1308) [140, 208, 283, 358, 426, 506, 621, 677, 733, 817, 889, 957, 970, 1038, 1106, 1193, 1261, 1286, 1297] dL_law_49 rfl rfl rfl (by decide) (bp_JSc ?_ (bp_JSc ?_ (bp_JSc ?_ (bp_JSc ?_ (bp_JSc ?_ (bp_JSc ?_ (bp_JSc ?_ (bp_JSc ?_ (bp_JSc ?_ (bp_JSc ?_ (bp_JSc ?_ (bp_JSc ?_ (bp_JSc ?_ (bp_JSc ?_ (bp_JSc ?_ (bp_JSc ?_ (bp_JSc ?_ (bp_JSc ?_ (bp_JSc ?_ bp_JSn))))))))))))))))))) ?_
    · refine bp_j_aload_n 1 dL_law_140 rfl ?_
      refine bp_j_aload_n 0 dL_law_141 rfl ?_
      refine bp_j_iload 4 dL_law_142 rfl ?_
      refine bp_j_iconst (v := 1) dL_law_144 (by decide) ?_
      refine bp_j_iadd dL_law_145 ?_
      refine bp_j_iaload dL_law_146 (fun x12 => ?_)
      refine bp_j_aload_n 0 dL_law_147 rfl ?_
      refine bp_j_iload 4 dL_law_148 rfl ?_
      refine bp_j_iconst (v := 2) dL_law_150 (by decide) ?_
      refine bp_j_iadd dL_law_151 ?_
      refine bp_j_iaload dL_law_152 (fun x13 => ?_)
      refine bp_j_aload_n 3 dL_law_153 rfl ?_
      refine bp_j_cn_I (bp_ranSX (n := 4) (As := [.ref a1, .int x12, .int x13, .ref a5]) (cnX0_segment (G := G) a1 x12 x13 a5) (lw_SW q735 q736 q71 q737) ⟨by decide +kernel, by decide +kernel, by decide +kernel⟩ ⟨by decide, by decide⟩ (rest := []) rfl rfl (Nat.le_of_ble_eq_true rfl) dL_law_154) (fun x14 => ?_)
      refine bp_j_istore (lv' := [(5, .int x14), (0, .ref bp0), (1, .ref a1), (2, .ref a3), (3, .ref a5), (4, .int x6)]) dL_law_157 (by decide) rfl ?_
      refine bp_j_aload_n 3 dL_law_159 rfl ?_
      refine bp_j_aload_n 1 dL_law_160 rfl ?_
      refine bp_j_iload 5 dL_law_161 rfl ?_
      refine bp_j_iconst (v := 1) dL_law_163 (by decide) ?_
      refine bp_j_iadd dL_law_164 ?_
      refine bp_j_iaload dL_law_165 (fun x15 => ?_)
      refine bp_j_aload_n 1 dL_law_166 rfl ?_
      refine bp_j_iload 5 dL_law_167 rfl ?_
      refine bp_j_iconst (v := 2) dL_law_169 (by decide) ?_
      refine bp_j_iadd dL_law_170 ?_
      refine bp_j_iaload dL_law_171 (fun x16 => ?_)
      refine bp_j_cn_I (bp_ranV (t := 4) (n := 2) (As := [.int x15, .int x16]) (cnX6_segment (G := G) a3 x15 x16) rfl (lw_V q1237 q1238 q1239 q82 q1240) ⟨rfl, by decide +kernel, by decide +kernel, by decide +kernel⟩ ⟨by decide, by decide⟩ (rest := []) rfl rfl (Nat.le_of_ble_eq_true rfl) dL_law_172) (fun x17 => ?_)
      refine bp_j_istore (lv' := [(6, .int x17), (5, .int x14), (0, .ref bp0), (1, .ref a1), (2, .ref a3), (3, .ref a5), (4, .int x6)]) dL_law_175 (by decide) rfl ?_
      refine bp_j_aload_n 4 dL_law_177 rfl ?_
      refine bp_j_cn_I (bp_ranV (t := 4) (n := 0) (As := []) (cnX6_thrown (G := G) a3 ) rfl (lw_V q1233 q1234 q1235 q82 q1236) ⟨rfl, by decide +kernel, by decide +kernel, by decide +kernel⟩ ⟨by decide, by decide⟩ (rest := []) rfl rfl (Nat.le_of_ble_eq_true rfl) dL_law_178) (fun x18 => ?_)
      refine bp_j_iload 1 dL_law_181 rfl ?_
      refine bp_j_icmp_eq (tgt := 188) dL_law_183 (by decide) ?_ ?_
      · refine bp_j_iload 1 dL_law_188 rfl ?_
        refine bp_j_if_ne (tgt := 205) dL_law_190 (by decide) ?_ ?_
        · refine bp_j_goto (tgt := 1308) dL_law_205 (by decide) ?_
          exact bp_j_sub [2, 3, 4, 5, 6] rfl (hk10)
        refine bp_j_aload_n 5 dL_law_193 rfl ?_
        refine bp_j_iconst (v := 0) dL_law_194 (by decide) ?_
        refine bp_j_laload dL_law_195 (fun l19 => ?_)
        refine bp_j_iload 0 dL_law_196 rfl ?_
        refine bp_j_i2l dL_law_198 ?_
        refine bp_j_lcmp dL_law_199 ?_
        refine bp_j_if_eq (tgt := 205) dL_law_200 (by decide) ?_ ?_
        · refine bp_j_goto (tgt := 1308) dL_law_205 (by decide) ?_
          exact bp_j_sub [2, 3, 4, 5, 6] rfl (hk10)
        refine bp_j_iconst (v := 0) dL_law_203 (by decide) ?_
        exact bp_j_lawret rfl rfl dL_law_204
      refine bp_j_iconst (v := 0) dL_law_186 (by decide) ?_
      exact bp_j_lawret rfl rfl dL_law_187
    · refine bp_j_aload_n 1 dL_law_208 rfl ?_
      refine bp_j_aload_n 0 dL_law_209 rfl ?_
      refine bp_j_iload 4 dL_law_210 rfl ?_
      refine bp_j_iconst (v := 1) dL_law_212 (by decide) ?_
      refine bp_j_iadd dL_law_213 ?_
      refine bp_j_iaload dL_law_214 (fun x20 => ?_)
      refine bp_j_aload_n 0 dL_law_215 rfl ?_
      refine bp_j_iload 4 dL_law_216 rfl ?_
      refine bp_j_iconst (v := 2) dL_law_218 (by decide) ?_
      refine bp_j_iadd dL_law_219 ?_
      refine bp_j_iaload dL_law_220 (fun x21 => ?_)
      refine bp_j_aload_n 3 dL_law_221 rfl ?_
      refine bp_j_cn_I (bp_ranSX (n := 4) (As := [.ref a1, .int x20, .int x21, .ref a5]) (cnX0_refers (G := G) a1 x20 x21 a5) (lw_SW q793 q794 q71 q795) ⟨by decide +kernel, by decide +kernel, by decide +kernel⟩ ⟨by decide, by decide⟩ (rest := []) rfl rfl (Nat.le_of_ble_eq_true rfl) dL_law_222) (fun x22 => ?_)
      refine bp_j_istore (lv' := [(5, .int x22), (0, .ref bp0), (1, .ref a1), (2, .ref a3), (3, .ref a5), (4, .int x6)]) dL_law_225 (by decide) rfl ?_
      refine bp_j_aload_n 3 dL_law_227 rfl ?_
      refine bp_j_aload_n 1 dL_law_228 rfl ?_
      refine bp_j_iload 5 dL_law_229 rfl ?_
      refine bp_j_iconst (v := 1) dL_law_231 (by decide) ?_
      refine bp_j_iadd dL_law_232 ?_
      refine bp_j_iaload dL_law_233 (fun x23 => ?_)
      refine bp_j_aload_n 1 dL_law_234 rfl ?_
      refine bp_j_iload 5 dL_law_235 rfl ?_
      refine bp_j_iconst (v := 2) dL_law_237 (by decide) ?_
      refine bp_j_iadd dL_law_238 ?_
      refine bp_j_iaload dL_law_239 (fun x24 => ?_)
      refine bp_j_cn_I (bp_ranV (t := 4) (n := 2) (As := [.int x23, .int x24]) (cnX6_refers (G := G) a3 x23 x24) rfl (lw_V q1257 q1258 q1259 q82 q1260) ⟨rfl, by decide +kernel, by decide +kernel, by decide +kernel⟩ ⟨by decide, by decide⟩ (rest := []) rfl rfl (Nat.le_of_ble_eq_true rfl) dL_law_240) (fun x25 => ?_)
      refine bp_j_istore (lv' := [(6, .int x25), (5, .int x22), (0, .ref bp0), (1, .ref a1), (2, .ref a3), (3, .ref a5), (4, .int x6)]) dL_law_243 (by decide) rfl ?_
      refine bp_j_aload_n 4 dL_law_245 rfl ?_
      refine bp_j_cn_I (bp_ranV (t := 4) (n := 0) (As := []) (cnX6_thrown (G := G) a3 ) rfl (lw_V q1233 q1234 q1235 q82 q1236) ⟨rfl, by decide +kernel, by decide +kernel, by decide +kernel⟩ ⟨by decide, by decide⟩ (rest := []) rfl rfl (Nat.le_of_ble_eq_true rfl) dL_law_246) (fun x26 => ?_)
      refine bp_j_iload 1 dL_law_249 rfl ?_
      refine bp_j_icmp_eq (tgt := 256) dL_law_251 (by decide) ?_ ?_
      · refine bp_j_iload 1 dL_law_256 rfl ?_
        refine bp_j_if_ne (tgt := 280) dL_law_258 (by decide) ?_ ?_
        · refine bp_j_goto (tgt := 1308) dL_law_280 (by decide) ?_
          exact bp_j_sub [2, 3, 4, 5, 6] rfl (hk10)
        refine bp_j_aload_n 5 dL_law_261 rfl ?_
        refine bp_j_iconst (v := 0) dL_law_262 (by decide) ?_
        refine bp_j_laload dL_law_263 (fun l27 => ?_)
        refine bp_j_iload 0 dL_law_264 rfl ?_
        refine bp_j_jm (fun k => ∀ (l28 : Int64), bp_J G iL_law (bp_QL G) (k l28) 274 [(0, .ref bp0), (1, .ref a1), (2, .ref a3), (3, .ref a5), (4, .int x6)] [.long l28, .long l27]) (fun k29 hk29 => ?_) (fun l28 => ?_)
        · refine bp_j_if_eq (tgt := 273) dL_law_266 (by decide) ?_ ?_
          · refine bp_j_lconst (v := 0) dL_law_273 (by decide) ?_
            exact bp_j_sub [2, 3, 4, 5, 6] rfl (hk29 (0 : Int64))
          refine bp_j_lconst (v := 1) dL_law_269 (by decide) ?_
          refine bp_j_goto (tgt := 274) dL_law_270 (by decide) ?_
          exact bp_j_sub [2, 3, 4, 5, 6] rfl (hk29 (1 : Int64))
        refine bp_j_lcmp dL_law_274 ?_
        refine bp_j_if_eq (tgt := 280) dL_law_275 (by decide) ?_ ?_
        · refine bp_j_goto (tgt := 1308) dL_law_280 (by decide) ?_
          exact hk10
        refine bp_j_iconst (v := 0) dL_law_278 (by decide) ?_
        exact bp_j_lawret rfl rfl dL_law_279
      refine bp_j_iconst (v := 0) dL_law_254 (by decide) ?_
      exact bp_j_lawret rfl rfl dL_law_255
    · refine bp_j_aload_n 1 dL_law_283 rfl ?_
      refine bp_j_aload_n 0 dL_law_284 rfl ?_
      refine bp_j_iload 4 dL_law_285 rfl ?_
      refine bp_j_iconst (v := 1) dL_law_287 (by decide) ?_
      refine bp_j_iadd dL_law_288 ?_
      refine bp_j_iaload dL_law_289 (fun x30 => ?_)
      refine bp_j_aload_n 0 dL_law_290 rfl ?_
      refine bp_j_iload 4 dL_law_291 rfl ?_
      refine bp_j_iconst (v := 2) dL_law_293 (by decide) ?_
      refine bp_j_iadd dL_law_294 ?_
      refine bp_j_iaload dL_law_295 (fun x31 => ?_)
      refine bp_j_aload_n 3 dL_law_296 rfl ?_
      refine bp_j_cn_I (bp_ranSX (n := 4) (As := [.ref a1, .int x30, .int x31, .ref a5]) (cnX0_letGo (G := G) a1 x30 x31 a5) (lw_SW q861 q862 q71 q863) ⟨by decide +kernel, by decide +kernel, by decide +kernel⟩ ⟨by decide, by decide⟩ (rest := []) rfl rfl (Nat.le_of_ble_eq_true rfl) dL_law_297) (fun x32 => ?_)
      refine bp_j_istore (lv' := [(5, .int x32), (0, .ref bp0), (1, .ref a1), (2, .ref a3), (3, .ref a5), (4, .int x6)]) dL_law_300 (by decide) rfl ?_
      refine bp_j_aload_n 3 dL_law_302 rfl ?_
      refine bp_j_aload_n 1 dL_law_303 rfl ?_
      refine bp_j_iload 5 dL_law_304 rfl ?_
      refine bp_j_iconst (v := 1) dL_law_306 (by decide) ?_
      refine bp_j_iadd dL_law_307 ?_
      refine bp_j_iaload dL_law_308 (fun x33 => ?_)
      refine bp_j_aload_n 1 dL_law_309 rfl ?_
      refine bp_j_iload 5 dL_law_310 rfl ?_
      refine bp_j_iconst (v := 2) dL_law_312 (by decide) ?_
      refine bp_j_iadd dL_law_313 ?_
      refine bp_j_iaload dL_law_314 (fun x34 => ?_)
      refine bp_j_cn_I (bp_ranV (t := 4) (n := 2) (As := [.int x33, .int x34]) (cnX6_letGo (G := G) a3 x33 x34) rfl (lw_V q1277 q1278 q1279 q82 q1280) ⟨rfl, by decide +kernel, by decide +kernel, by decide +kernel⟩ ⟨by decide, by decide⟩ (rest := []) rfl rfl (Nat.le_of_ble_eq_true rfl) dL_law_315) (fun x35 => ?_)
      refine bp_j_istore (lv' := [(6, .int x35), (5, .int x32), (0, .ref bp0), (1, .ref a1), (2, .ref a3), (3, .ref a5), (4, .int x6)]) dL_law_318 (by decide) rfl ?_
      refine bp_j_aload_n 4 dL_law_320 rfl ?_
      refine bp_j_cn_I (bp_ranV (t := 4) (n := 0) (As := []) (cnX6_thrown (G := G) a3 ) rfl (lw_V q1233 q1234 q1235 q82 q1236) ⟨rfl, by decide +kernel, by decide +kernel, by decide +kernel⟩ ⟨by decide, by decide⟩ (rest := []) rfl rfl (Nat.le_of_ble_eq_true rfl) dL_law_321) (fun x36 => ?_)
      refine bp_j_iload 1 dL_law_324 rfl ?_
      refine bp_j_icmp_eq (tgt := 331) dL_law_326 (by decide) ?_ ?_
      · refine bp_j_iload 1 dL_law_331 rfl ?_
        refine bp_j_if_ne (tgt := 355) dL_law_333 (by decide) ?_ ?_
        · refine bp_j_goto (tgt := 1308) dL_law_355 (by decide) ?_
          exact bp_j_sub [2, 3, 4, 5, 6] rfl (hk10)
        refine bp_j_aload_n 5 dL_law_336 rfl ?_
        refine bp_j_iconst (v := 0) dL_law_337 (by decide) ?_
        refine bp_j_laload dL_law_338 (fun l37 => ?_)
        refine bp_j_iload 0 dL_law_339 rfl ?_
        refine bp_j_jm (fun k => ∀ (l38 : Int64), bp_J G iL_law (bp_QL G) (k l38) 349 [(0, .ref bp0), (1, .ref a1), (2, .ref a3), (3, .ref a5), (4, .int x6)] [.long l38, .long l37]) (fun k39 hk39 => ?_) (fun l38 => ?_)
        · refine bp_j_if_eq (tgt := 348) dL_law_341 (by decide) ?_ ?_
          · refine bp_j_lconst (v := 0) dL_law_348 (by decide) ?_
            exact bp_j_sub [2, 3, 4, 5, 6] rfl (hk39 (0 : Int64))
          refine bp_j_lconst (v := 1) dL_law_344 (by decide) ?_
          refine bp_j_goto (tgt := 349) dL_law_345 (by decide) ?_
          exact bp_j_sub [2, 3, 4, 5, 6] rfl (hk39 (1 : Int64))
        refine bp_j_lcmp dL_law_349 ?_
        refine bp_j_if_eq (tgt := 355) dL_law_350 (by decide) ?_ ?_
        · refine bp_j_goto (tgt := 1308) dL_law_355 (by decide) ?_
          exact hk10
        refine bp_j_iconst (v := 0) dL_law_353 (by decide) ?_
        exact bp_j_lawret rfl rfl dL_law_354
      refine bp_j_iconst (v := 0) dL_law_329 (by decide) ?_
      exact bp_j_lawret rfl rfl dL_law_330
    · refine bp_j_aload_n 1 dL_law_358 rfl ?_
      refine bp_j_aload_n 0 dL_law_359 rfl ?_
      refine bp_j_iload 4 dL_law_360 rfl ?_
      refine bp_j_iconst (v := 1) dL_law_362 (by decide) ?_
      refine bp_j_iadd dL_law_363 ?_
      refine bp_j_iaload dL_law_364 (fun x40 => ?_)
      refine bp_j_aload_n 0 dL_law_365 rfl ?_
      refine bp_j_iload 4 dL_law_366 rfl ?_
      refine bp_j_iconst (v := 2) dL_law_368 (by decide) ?_
      refine bp_j_iadd dL_law_369 ?_
      refine bp_j_iaload dL_law_370 (fun x41 => ?_)
      refine bp_j_aload_n 3 dL_law_371 rfl ?_
      refine bp_j_cn_I (bp_ranSX (n := 4) (As := [.ref a1, .int x40, .int x41, .ref a5]) (cnX0_byteOf (G := G) a1 x40 x41 a5) (lw_SW q868 q869 q71 q870) ⟨by decide +kernel, by decide +kernel, by decide +kernel⟩ ⟨by decide, by decide⟩ (rest := []) rfl rfl (Nat.le_of_ble_eq_true rfl) dL_law_372) (fun x42 => ?_)
      refine bp_j_istore (lv' := [(5, .int x42), (0, .ref bp0), (1, .ref a1), (2, .ref a3), (3, .ref a5), (4, .int x6)]) dL_law_375 (by decide) rfl ?_
      refine bp_j_aload_n 3 dL_law_377 rfl ?_
      refine bp_j_aload_n 1 dL_law_378 rfl ?_
      refine bp_j_iload 5 dL_law_379 rfl ?_
      refine bp_j_iconst (v := 1) dL_law_381 (by decide) ?_
      refine bp_j_iadd dL_law_382 ?_
      refine bp_j_iaload dL_law_383 (fun x43 => ?_)
      refine bp_j_aload_n 1 dL_law_384 rfl ?_
      refine bp_j_iload 5 dL_law_385 rfl ?_
      refine bp_j_iconst (v := 2) dL_law_387 (by decide) ?_
      refine bp_j_iadd dL_law_388 ?_
      refine bp_j_iaload dL_law_389 (fun x44 => ?_)
      refine bp_j_cn_I (bp_ranV (t := 4) (n := 2) (As := [.int x43, .int x44]) (cnX6_byteOf (G := G) a3 x43 x44) rfl (lw_V q1281 q1282 q1283 q82 q1284) ⟨rfl, by decide +kernel, by decide +kernel, by decide +kernel⟩ ⟨by decide, by decide⟩ (rest := []) rfl rfl (Nat.le_of_ble_eq_true rfl) dL_law_390) (fun x45 => ?_)
      refine bp_j_istore (lv' := [(6, .int x45), (5, .int x42), (0, .ref bp0), (1, .ref a1), (2, .ref a3), (3, .ref a5), (4, .int x6)]) dL_law_393 (by decide) rfl ?_
      refine bp_j_aload_n 4 dL_law_395 rfl ?_
      refine bp_j_cn_I (bp_ranV (t := 4) (n := 0) (As := []) (cnX6_thrown (G := G) a3 ) rfl (lw_V q1233 q1234 q1235 q82 q1236) ⟨rfl, by decide +kernel, by decide +kernel, by decide +kernel⟩ ⟨by decide, by decide⟩ (rest := []) rfl rfl (Nat.le_of_ble_eq_true rfl) dL_law_396) (fun x46 => ?_)
      refine bp_j_iload 1 dL_law_399 rfl ?_
      refine bp_j_icmp_eq (tgt := 406) dL_law_401 (by decide) ?_ ?_
      · refine bp_j_iload 1 dL_law_406 rfl ?_
        refine bp_j_if_ne (tgt := 423) dL_law_408 (by decide) ?_ ?_
        · refine bp_j_goto (tgt := 1308) dL_law_423 (by decide) ?_
          exact bp_j_sub [2, 3, 4, 5, 6] rfl (hk10)
        refine bp_j_aload_n 5 dL_law_411 rfl ?_
        refine bp_j_iconst (v := 0) dL_law_412 (by decide) ?_
        refine bp_j_laload dL_law_413 (fun l47 => ?_)
        refine bp_j_iload 0 dL_law_414 rfl ?_
        refine bp_j_i2l dL_law_416 ?_
        refine bp_j_lcmp dL_law_417 ?_
        refine bp_j_if_eq (tgt := 423) dL_law_418 (by decide) ?_ ?_
        · refine bp_j_goto (tgt := 1308) dL_law_423 (by decide) ?_
          exact bp_j_sub [2, 3, 4, 5, 6] rfl (hk10)
        refine bp_j_iconst (v := 0) dL_law_421 (by decide) ?_
        exact bp_j_lawret rfl rfl dL_law_422
      refine bp_j_iconst (v := 0) dL_law_404 (by decide) ?_
      exact bp_j_lawret rfl rfl dL_law_405
    · refine bp_j_aload_n 1 dL_law_426 rfl ?_
      refine bp_j_aload_n 0 dL_law_427 rfl ?_
      refine bp_j_iload 4 dL_law_428 rfl ?_
      refine bp_j_iconst (v := 1) dL_law_430 (by decide) ?_
      refine bp_j_iadd dL_law_431 ?_
      refine bp_j_iaload dL_law_432 (fun x48 => ?_)
      refine bp_j_aload_n 0 dL_law_433 rfl ?_
      refine bp_j_iload 4 dL_law_434 rfl ?_
      refine bp_j_iconst (v := 2) dL_law_436 (by decide) ?_
      refine bp_j_iadd dL_law_437 ?_
      refine bp_j_iaload dL_law_438 (fun x49 => ?_)
      refine bp_j_aload_n 0 dL_law_439 rfl ?_
      refine bp_j_iload 4 dL_law_440 rfl ?_
      refine bp_j_iconst (v := 3) dL_law_442 (by decide) ?_
      refine bp_j_iadd dL_law_443 ?_
      refine bp_j_iaload dL_law_444 (fun x50 => ?_)
      refine bp_j_aload_n 3 dL_law_445 rfl ?_
      refine bp_j_cn_I (bp_ranSX (n := 5) (As := [.ref a1, .int x48, .int x49, .int x50, .ref a5]) (cnX0_number (G := G) a1 x48 x49 x50 a5) (lw_SW q896 q897 q71 q898) ⟨by decide +kernel, by decide +kernel, by decide +kernel⟩ ⟨by decide, by decide⟩ (rest := []) rfl rfl (Nat.le_of_ble_eq_true rfl) dL_law_446) (fun x51 => ?_)
      refine bp_j_istore (lv' := [(5, .int x51), (0, .ref bp0), (1, .ref a1), (2, .ref a3), (3, .ref a5), (4, .int x6)]) dL_law_449 (by decide) rfl ?_
      refine bp_j_aload_n 3 dL_law_451 rfl ?_
      refine bp_j_aload_n 1 dL_law_452 rfl ?_
      refine bp_j_iload 5 dL_law_453 rfl ?_
      refine bp_j_iconst (v := 1) dL_law_455 (by decide) ?_
      refine bp_j_iadd dL_law_456 ?_
      refine bp_j_iaload dL_law_457 (fun x52 => ?_)
      refine bp_j_aload_n 1 dL_law_458 rfl ?_
      refine bp_j_iload 5 dL_law_459 rfl ?_
      refine bp_j_iconst (v := 2) dL_law_461 (by decide) ?_
      refine bp_j_iadd dL_law_462 ?_
      refine bp_j_iaload dL_law_463 (fun x53 => ?_)
      refine bp_j_aload_n 1 dL_law_464 rfl ?_
      refine bp_j_iload 5 dL_law_465 rfl ?_
      refine bp_j_iconst (v := 3) dL_law_467 (by decide) ?_
      refine bp_j_iadd dL_law_468 ?_
      refine bp_j_iaload dL_law_469 (fun x54 => ?_)
      refine bp_j_cn_I (bp_ranV (t := 4) (n := 3) (As := [.int x52, .int x53, .int x54]) (cnX6_number (G := G) a3 x52 x53 x54) rfl (lw_V q1288 q1289 q1290 q82 q1291) ⟨rfl, by decide +kernel, by decide +kernel, by decide +kernel⟩ ⟨by decide, by decide⟩ (rest := []) rfl rfl (Nat.le_of_ble_eq_true rfl) dL_law_470) (fun x55 => ?_)
      refine bp_j_istore (lv' := [(6, .int x55), (5, .int x51), (0, .ref bp0), (1, .ref a1), (2, .ref a3), (3, .ref a5), (4, .int x6)]) dL_law_473 (by decide) rfl ?_
      refine bp_j_aload_n 4 dL_law_475 rfl ?_
      refine bp_j_cn_I (bp_ranV (t := 4) (n := 0) (As := []) (cnX6_thrown (G := G) a3 ) rfl (lw_V q1233 q1234 q1235 q82 q1236) ⟨rfl, by decide +kernel, by decide +kernel, by decide +kernel⟩ ⟨by decide, by decide⟩ (rest := []) rfl rfl (Nat.le_of_ble_eq_true rfl) dL_law_476) (fun x56 => ?_)
      refine bp_j_iload 1 dL_law_479 rfl ?_
      refine bp_j_icmp_eq (tgt := 486) dL_law_481 (by decide) ?_ ?_
      · refine bp_j_iload 1 dL_law_486 rfl ?_
        refine bp_j_if_ne (tgt := 503) dL_law_488 (by decide) ?_ ?_
        · refine bp_j_goto (tgt := 1308) dL_law_503 (by decide) ?_
          exact bp_j_sub [2, 3, 4, 5, 6] rfl (hk10)
        refine bp_j_aload_n 5 dL_law_491 rfl ?_
        refine bp_j_iconst (v := 0) dL_law_492 (by decide) ?_
        refine bp_j_laload dL_law_493 (fun l57 => ?_)
        refine bp_j_iload 0 dL_law_494 rfl ?_
        refine bp_j_i2l dL_law_496 ?_
        refine bp_j_lcmp dL_law_497 ?_
        refine bp_j_if_eq (tgt := 503) dL_law_498 (by decide) ?_ ?_
        · refine bp_j_goto (tgt := 1308) dL_law_503 (by decide) ?_
          exact bp_j_sub [2, 3, 4, 5, 6] rfl (hk10)
        refine bp_j_iconst (v := 0) dL_law_501 (by decide) ?_
        exact bp_j_lawret rfl rfl dL_law_502
      refine bp_j_iconst (v := 0) dL_law_484 (by decide) ?_
      exact bp_j_lawret rfl rfl dL_law_485
    · refine bp_j_aload_n 1 dL_law_506 rfl ?_
      refine bp_j_aload_n 0 dL_law_507 rfl ?_
      refine bp_j_iload 4 dL_law_508 rfl ?_
      refine bp_j_iconst (v := 1) dL_law_510 (by decide) ?_
      refine bp_j_iadd dL_law_511 ?_
      refine bp_j_iaload dL_law_512 (fun x58 => ?_)
      refine bp_j_aload_n 0 dL_law_513 rfl ?_
      refine bp_j_iload 4 dL_law_514 rfl ?_
      refine bp_j_iconst (v := 2) dL_law_516 (by decide) ?_
      refine bp_j_iadd dL_law_517 ?_
      refine bp_j_iaload dL_law_518 (fun x59 => ?_)
      refine bp_j_aload_n 0 dL_law_519 rfl ?_
      refine bp_j_iload 4 dL_law_520 rfl ?_
      refine bp_j_iconst (v := 3) dL_law_522 (by decide) ?_
      refine bp_j_iadd dL_law_523 ?_
      refine bp_j_iaload dL_law_524 (fun x60 => ?_)
      refine bp_j_aload_n 0 dL_law_525 rfl ?_
      refine bp_j_iload 4 dL_law_526 rfl ?_
      refine bp_j_iconst (v := 4) dL_law_528 (by decide) ?_
      refine bp_j_iadd dL_law_529 ?_
      refine bp_j_iaload dL_law_530 (fun x61 => ?_)
      refine bp_j_jm (fun k => ∀ (x62 : Int32), bp_J G iL_law (bp_QL G) (k x62) 539 [(0, .ref bp0), (1, .ref a1), (2, .ref a3), (3, .ref a5), (4, .int x6)] [.int x62, .int x60, .int x59, .int x58, .ref a1]) (fun k63 hk63 => ?_) (fun x62 => ?_)
      · refine bp_j_if_eq (tgt := 538) dL_law_531 (by decide) ?_ ?_
        · refine bp_j_iconst (v := 0) dL_law_538 (by decide) ?_
          exact hk63 (0 : Int32)
        refine bp_j_iconst (v := 1) dL_law_534 (by decide) ?_
        refine bp_j_goto (tgt := 539) dL_law_535 (by decide) ?_
        exact hk63 (1 : Int32)
      refine bp_j_aload_n 3 dL_law_539 rfl ?_
      refine bp_j_cn_I (bp_ranSX (n := 6) (As := [.ref a1, .int x58, .int x59, .int x60, .int x62, .ref a5]) (cnX0_pixel (G := G) a1 x58 x59 x60 x62 a5) (lw_SW q905 q906 q71 q907) ⟨by decide +kernel, by decide +kernel, by decide +kernel⟩ ⟨by decide, by decide⟩ (rest := []) rfl rfl (Nat.le_of_ble_eq_true rfl) dL_law_540) (fun x64 => ?_)
      refine bp_j_istore (lv' := [(5, .int x64), (0, .ref bp0), (1, .ref a1), (2, .ref a3), (3, .ref a5), (4, .int x6)]) dL_law_543 (by decide) rfl ?_
      refine bp_j_aload_n 3 dL_law_545 rfl ?_
      refine bp_j_aload_n 1 dL_law_546 rfl ?_
      refine bp_j_iload 5 dL_law_547 rfl ?_
      refine bp_j_iconst (v := 1) dL_law_549 (by decide) ?_
      refine bp_j_iadd dL_law_550 ?_
      refine bp_j_iaload dL_law_551 (fun x65 => ?_)
      refine bp_j_aload_n 1 dL_law_552 rfl ?_
      refine bp_j_iload 5 dL_law_553 rfl ?_
      refine bp_j_iconst (v := 2) dL_law_555 (by decide) ?_
      refine bp_j_iadd dL_law_556 ?_
      refine bp_j_iaload dL_law_557 (fun x66 => ?_)
      refine bp_j_aload_n 1 dL_law_558 rfl ?_
      refine bp_j_iload 5 dL_law_559 rfl ?_
      refine bp_j_iconst (v := 3) dL_law_561 (by decide) ?_
      refine bp_j_iadd dL_law_562 ?_
      refine bp_j_iaload dL_law_563 (fun x67 => ?_)
      refine bp_j_aload_n 1 dL_law_564 rfl ?_
      refine bp_j_iload 5 dL_law_565 rfl ?_
      refine bp_j_iconst (v := 4) dL_law_567 (by decide) ?_
      refine bp_j_iadd dL_law_568 ?_
      refine bp_j_iaload dL_law_569 (fun x68 => ?_)
      refine bp_j_jm (fun k => ∀ (x69 : Int32), bp_J G iL_law (bp_QL G) (k x69) 578 [(0, .ref bp0), (1, .ref a1), (2, .ref a3), (3, .ref a5), (4, .int x6), (5, .int x64)] [.int x69, .int x67, .int x66, .int x65, .ref a3]) (fun k70 hk70 => ?_) (fun x69 => ?_)
      · refine bp_j_if_eq (tgt := 577) dL_law_570 (by decide) ?_ ?_
        · refine bp_j_iconst (v := 0) dL_law_577 (by decide) ?_
          exact bp_j_sub [1, 2, 3, 4, 5, 0] rfl (hk70 (0 : Int32))
        refine bp_j_iconst (v := 1) dL_law_573 (by decide) ?_
        refine bp_j_goto (tgt := 578) dL_law_574 (by decide) ?_
        exact bp_j_sub [1, 2, 3, 4, 5, 0] rfl (hk70 (1 : Int32))
      refine bp_j_cn_I (bp_ranV (t := 4) (n := 4) (As := [.int x65, .int x66, .int x67, .int x69]) (cnX6_pixel (G := G) a3 x65 x66 x67 x69) rfl (lw_V q1295 q1296 q1297 q82 q1298) ⟨rfl, by decide +kernel, by decide +kernel, by decide +kernel⟩ ⟨by decide, by decide⟩ (rest := []) rfl rfl (Nat.le_of_ble_eq_true rfl) dL_law_578) (fun x71 => ?_)
      refine bp_j_istore (lv' := [(6, .int x71), (0, .ref bp0), (1, .ref a1), (2, .ref a3), (3, .ref a5), (4, .int x6), (5, .int x64)]) dL_law_581 (by decide) rfl ?_
      refine bp_j_aload_n 3 dL_law_583 rfl ?_
      refine bp_j_cn_I (bp_ranV (t := 4) (n := 0) (As := []) (cnX6_thrown (G := G) a3 ) rfl (lw_V q1233 q1234 q1235 q82 q1236) ⟨rfl, by decide +kernel, by decide +kernel, by decide +kernel⟩ ⟨by decide, by decide⟩ (rest := []) rfl rfl (Nat.le_of_ble_eq_true rfl) dL_law_584) (fun x72 => ?_)
      refine bp_j_iload 6 dL_law_587 rfl ?_
      refine bp_j_icmp_eq (tgt := 594) dL_law_589 (by decide) ?_ ?_
      · refine bp_j_iload 6 dL_law_594 rfl ?_
        refine bp_j_if_ne (tgt := 618) dL_law_596 (by decide) ?_ ?_
        · refine bp_j_goto (tgt := 1308) dL_law_618 (by decide) ?_
          exact bp_j_sub [1, 2, 3, 4, 5] rfl (hk10)
        refine bp_j_aload_n 4 dL_law_599 rfl ?_
        refine bp_j_iconst (v := 0) dL_law_600 (by decide) ?_
        refine bp_j_laload dL_law_601 (fun l73 => ?_)
        refine bp_j_iload 0 dL_law_602 rfl ?_
        refine bp_j_jm (fun k => ∀ (l74 : Int64), bp_J G iL_law (bp_QL G) (k l74) 612 [(0, .ref bp0), (1, .ref a1), (2, .ref a3), (3, .ref a5), (4, .int x6)] [.long l74, .long l73]) (fun k75 hk75 => ?_) (fun l74 => ?_)
        · refine bp_j_if_eq (tgt := 611) dL_law_604 (by decide) ?_ ?_
          · refine bp_j_lconst (v := 0) dL_law_611 (by decide) ?_
            exact bp_j_sub [1, 2, 3, 4, 5] rfl (hk75 (0 : Int64))
          refine bp_j_lconst (v := 1) dL_law_607 (by decide) ?_
          refine bp_j_goto (tgt := 612) dL_law_608 (by decide) ?_
          exact bp_j_sub [1, 2, 3, 4, 5] rfl (hk75 (1 : Int64))
        refine bp_j_lcmp dL_law_612 ?_
        refine bp_j_if_eq (tgt := 618) dL_law_613 (by decide) ?_ ?_
        · refine bp_j_goto (tgt := 1308) dL_law_618 (by decide) ?_
          exact hk10
        refine bp_j_iconst (v := 0) dL_law_616 (by decide) ?_
        exact bp_j_lawret rfl rfl dL_law_617
      refine bp_j_iconst (v := 0) dL_law_592 (by decide) ?_
      exact bp_j_lawret rfl rfl dL_law_593
    · refine bp_j_aload_n 1 dL_law_621 rfl ?_
      refine bp_j_aload_n 0 dL_law_622 rfl ?_
      refine bp_j_iload 4 dL_law_623 rfl ?_
      refine bp_j_iconst (v := 1) dL_law_625 (by decide) ?_
      refine bp_j_iadd dL_law_626 ?_
      refine bp_j_iaload dL_law_627 (fun x76 => ?_)
      refine bp_j_aload_n 3 dL_law_628 rfl ?_
      refine bp_j_cn_I (bp_ranSX (n := 3) (As := [.ref a1, .int x76, .ref a5]) (cnX0_write (G := G) a1 x76 a5) (lw_SW q915 q916 q71 q917) ⟨by decide +kernel, by decide +kernel, by decide +kernel⟩ ⟨by decide, by decide⟩ (rest := []) rfl rfl (Nat.le_of_ble_eq_true rfl) dL_law_629) (fun x77 => ?_)
      refine bp_j_istore (lv' := [(5, .int x77), (0, .ref bp0), (1, .ref a1), (2, .ref a3), (3, .ref a5), (4, .int x6)]) dL_law_632 (by decide) rfl ?_
      refine bp_j_aload_n 3 dL_law_634 rfl ?_
      refine bp_j_aload_n 1 dL_law_635 rfl ?_
      refine bp_j_iload 5 dL_law_636 rfl ?_
      refine bp_j_iconst (v := 1) dL_law_638 (by decide) ?_
      refine bp_j_iadd dL_law_639 ?_
      refine bp_j_iaload dL_law_640 (fun x78 => ?_)
      refine bp_j_cn_I (bp_ranV (t := 4) (n := 1) (As := [.int x78]) (cnX6_write (G := G) a3 x78) rfl (lw_V q1299 q1300 q1301 q82 q1302) ⟨rfl, by decide +kernel, by decide +kernel, by decide +kernel⟩ ⟨by decide, by decide⟩ (rest := []) rfl rfl (Nat.le_of_ble_eq_true rfl) dL_law_641) (fun x79 => ?_)
      refine bp_j_istore (lv' := [(6, .int x79), (5, .int x77), (0, .ref bp0), (1, .ref a1), (2, .ref a3), (3, .ref a5), (4, .int x6)]) dL_law_644 (by decide) rfl ?_
      refine bp_j_aload_n 4 dL_law_646 rfl ?_
      refine bp_j_cn_I (bp_ranV (t := 4) (n := 0) (As := []) (cnX6_thrown (G := G) a3 ) rfl (lw_V q1233 q1234 q1235 q82 q1236) ⟨rfl, by decide +kernel, by decide +kernel, by decide +kernel⟩ ⟨by decide, by decide⟩ (rest := []) rfl rfl (Nat.le_of_ble_eq_true rfl) dL_law_647) (fun x80 => ?_)
      refine bp_j_iload 1 dL_law_650 rfl ?_
      refine bp_j_icmp_eq (tgt := 657) dL_law_652 (by decide) ?_ ?_
      · refine bp_j_iload 1 dL_law_657 rfl ?_
        refine bp_j_if_ne (tgt := 674) dL_law_659 (by decide) ?_ ?_
        · refine bp_j_goto (tgt := 1308) dL_law_674 (by decide) ?_
          exact bp_j_sub [2, 3, 4, 5, 6] rfl (hk10)
        refine bp_j_aload_n 5 dL_law_662 rfl ?_
        refine bp_j_iconst (v := 0) dL_law_663 (by decide) ?_
        refine bp_j_laload dL_law_664 (fun l81 => ?_)
        refine bp_j_iload 0 dL_law_665 rfl ?_
        refine bp_j_i2l dL_law_667 ?_
        refine bp_j_lcmp dL_law_668 ?_
        refine bp_j_if_eq (tgt := 674) dL_law_669 (by decide) ?_ ?_
        · refine bp_j_goto (tgt := 1308) dL_law_674 (by decide) ?_
          exact bp_j_sub [2, 3, 4, 5, 6] rfl (hk10)
        refine bp_j_iconst (v := 0) dL_law_672 (by decide) ?_
        exact bp_j_lawret rfl rfl dL_law_673
      refine bp_j_iconst (v := 0) dL_law_655 (by decide) ?_
      exact bp_j_lawret rfl rfl dL_law_656
    · refine bp_j_aload_n 1 dL_law_677 rfl ?_
      refine bp_j_aload_n 0 dL_law_678 rfl ?_
      refine bp_j_iload 4 dL_law_679 rfl ?_
      refine bp_j_iconst (v := 1) dL_law_681 (by decide) ?_
      refine bp_j_iadd dL_law_682 ?_
      refine bp_j_iaload dL_law_683 (fun x82 => ?_)
      refine bp_j_aload_n 3 dL_law_684 rfl ?_
      refine bp_j_cn_I (bp_ranSX (n := 3) (As := [.ref a1, .int x82, .ref a5]) (cnX0_byteAt (G := G) a1 x82 a5) (lw_SW q1005 q1006 q71 q1007) ⟨by decide +kernel, by decide +kernel, by decide +kernel⟩ ⟨by decide, by decide⟩ (rest := []) rfl rfl (Nat.le_of_ble_eq_true rfl) dL_law_685) (fun x83 => ?_)
      refine bp_j_istore (lv' := [(5, .int x83), (0, .ref bp0), (1, .ref a1), (2, .ref a3), (3, .ref a5), (4, .int x6)]) dL_law_688 (by decide) rfl ?_
      refine bp_j_aload_n 3 dL_law_690 rfl ?_
      refine bp_j_aload_n 1 dL_law_691 rfl ?_
      refine bp_j_iload 5 dL_law_692 rfl ?_
      refine bp_j_iconst (v := 1) dL_law_694 (by decide) ?_
      refine bp_j_iadd dL_law_695 ?_
      refine bp_j_iaload dL_law_696 (fun x84 => ?_)
      refine bp_j_cn_I (bp_ranV (t := 4) (n := 1) (As := [.int x84]) (cnX6_byteAt (G := G) a3 x84) rfl (lw_V q1334 q1335 q1336 q82 q1337) ⟨rfl, by decide +kernel, by decide +kernel, by decide +kernel⟩ ⟨by decide, by decide⟩ (rest := []) rfl rfl (Nat.le_of_ble_eq_true rfl) dL_law_697) (fun x85 => ?_)
      refine bp_j_istore (lv' := [(6, .int x85), (5, .int x83), (0, .ref bp0), (1, .ref a1), (2, .ref a3), (3, .ref a5), (4, .int x6)]) dL_law_700 (by decide) rfl ?_
      refine bp_j_aload_n 4 dL_law_702 rfl ?_
      refine bp_j_cn_I (bp_ranV (t := 4) (n := 0) (As := []) (cnX6_thrown (G := G) a3 ) rfl (lw_V q1233 q1234 q1235 q82 q1236) ⟨rfl, by decide +kernel, by decide +kernel, by decide +kernel⟩ ⟨by decide, by decide⟩ (rest := []) rfl rfl (Nat.le_of_ble_eq_true rfl) dL_law_703) (fun x86 => ?_)
      refine bp_j_iload 1 dL_law_706 rfl ?_
      refine bp_j_icmp_eq (tgt := 713) dL_law_708 (by decide) ?_ ?_
      · refine bp_j_iload 1 dL_law_713 rfl ?_
        refine bp_j_if_ne (tgt := 730) dL_law_715 (by decide) ?_ ?_
        · refine bp_j_goto (tgt := 1308) dL_law_730 (by decide) ?_
          exact bp_j_sub [2, 3, 4, 5, 6] rfl (hk10)
        refine bp_j_aload_n 5 dL_law_718 rfl ?_
        refine bp_j_iconst (v := 0) dL_law_719 (by decide) ?_
        refine bp_j_laload dL_law_720 (fun l87 => ?_)
        refine bp_j_iload 0 dL_law_721 rfl ?_
        refine bp_j_i2l dL_law_723 ?_
        refine bp_j_lcmp dL_law_724 ?_
        refine bp_j_if_eq (tgt := 730) dL_law_725 (by decide) ?_ ?_
        · refine bp_j_goto (tgt := 1308) dL_law_730 (by decide) ?_
          exact bp_j_sub [2, 3, 4, 5, 6] rfl (hk10)
        refine bp_j_iconst (v := 0) dL_law_728 (by decide) ?_
        exact bp_j_lawret rfl rfl dL_law_729
      refine bp_j_iconst (v := 0) dL_law_711 (by decide) ?_
      exact bp_j_lawret rfl rfl dL_law_712
    · refine bp_j_aload_n 1 dL_law_733 rfl ?_
      refine bp_j_aload_n 0 dL_law_734 rfl ?_
      refine bp_j_iload 4 dL_law_735 rfl ?_
      refine bp_j_iconst (v := 1) dL_law_737 (by decide) ?_
      refine bp_j_iadd dL_law_738 ?_
      refine bp_j_iaload dL_law_739 (fun x88 => ?_)
      refine bp_j_aload_n 0 dL_law_740 rfl ?_
      refine bp_j_iload 4 dL_law_741 rfl ?_
      refine bp_j_iconst (v := 2) dL_law_743 (by decide) ?_
      refine bp_j_iadd dL_law_744 ?_
      refine bp_j_iaload dL_law_745 (fun x89 => ?_)
      refine bp_j_jm (fun k => ∀ (x90 : Int32), bp_J G iL_law (bp_QL G) (k x90) 754 [(0, .ref bp0), (1, .ref a1), (2, .ref a3), (3, .ref a5), (4, .int x6)] [.int x90, .int x88, .ref a1]) (fun k91 hk91 => ?_) (fun x90 => ?_)
      · refine bp_j_if_eq (tgt := 753) dL_law_746 (by decide) ?_ ?_
        · refine bp_j_iconst (v := 0) dL_law_753 (by decide) ?_
          exact hk91 (0 : Int32)
        refine bp_j_iconst (v := 1) dL_law_749 (by decide) ?_
        refine bp_j_goto (tgt := 754) dL_law_750 (by decide) ?_
        exact hk91 (1 : Int32)
      refine bp_j_aload_n 3 dL_law_754 rfl ?_
      refine bp_j_cn_I (bp_ranSX (n := 4) (As := [.ref a1, .int x88, .int x90, .ref a5]) (cnX0_feed (G := G) a1 x88 x90 a5) (lw_SW q1012 q1013 q71 q1014) ⟨by decide +kernel, by decide +kernel, by decide +kernel⟩ ⟨by decide, by decide⟩ (rest := []) rfl rfl (Nat.le_of_ble_eq_true rfl) dL_law_755) (fun x92 => ?_)
      refine bp_j_istore (lv' := [(5, .int x92), (0, .ref bp0), (1, .ref a1), (2, .ref a3), (3, .ref a5), (4, .int x6)]) dL_law_758 (by decide) rfl ?_
      refine bp_j_aload_n 3 dL_law_760 rfl ?_
      refine bp_j_aload_n 1 dL_law_761 rfl ?_
      refine bp_j_iload 5 dL_law_762 rfl ?_
      refine bp_j_iconst (v := 1) dL_law_764 (by decide) ?_
      refine bp_j_iadd dL_law_765 ?_
      refine bp_j_iaload dL_law_766 (fun x93 => ?_)
      refine bp_j_aload_n 1 dL_law_767 rfl ?_
      refine bp_j_iload 5 dL_law_768 rfl ?_
      refine bp_j_iconst (v := 2) dL_law_770 (by decide) ?_
      refine bp_j_iadd dL_law_771 ?_
      refine bp_j_iaload dL_law_772 (fun x94 => ?_)
      refine bp_j_jm (fun k => ∀ (x95 : Int32), bp_J G iL_law (bp_QL G) (k x95) 781 [(0, .ref bp0), (1, .ref a1), (2, .ref a3), (3, .ref a5), (4, .int x6), (5, .int x92)] [.int x95, .int x93, .ref a3]) (fun k96 hk96 => ?_) (fun x95 => ?_)
      · refine bp_j_if_eq (tgt := 780) dL_law_773 (by decide) ?_ ?_
        · refine bp_j_iconst (v := 0) dL_law_780 (by decide) ?_
          exact bp_j_sub [1, 2, 3, 4, 5, 0] rfl (hk96 (0 : Int32))
        refine bp_j_iconst (v := 1) dL_law_776 (by decide) ?_
        refine bp_j_goto (tgt := 781) dL_law_777 (by decide) ?_
        exact bp_j_sub [1, 2, 3, 4, 5, 0] rfl (hk96 (1 : Int32))
      refine bp_j_cn_I (bp_ranV (t := 4) (n := 2) (As := [.int x93, .int x95]) (cnX6_feed (G := G) a3 x93 x95) rfl (lw_V q1338 q1339 q1340 q82 q1341) ⟨rfl, by decide +kernel, by decide +kernel, by decide +kernel⟩ ⟨by decide, by decide⟩ (rest := []) rfl rfl (Nat.le_of_ble_eq_true rfl) dL_law_781) (fun x97 => ?_)
      refine bp_j_istore (lv' := [(6, .int x97), (0, .ref bp0), (1, .ref a1), (2, .ref a3), (3, .ref a5), (4, .int x6), (5, .int x92)]) dL_law_784 (by decide) rfl ?_
      refine bp_j_aload_n 3 dL_law_786 rfl ?_
      refine bp_j_cn_I (bp_ranV (t := 4) (n := 0) (As := []) (cnX6_thrown (G := G) a3 ) rfl (lw_V q1233 q1234 q1235 q82 q1236) ⟨rfl, by decide +kernel, by decide +kernel, by decide +kernel⟩ ⟨by decide, by decide⟩ (rest := []) rfl rfl (Nat.le_of_ble_eq_true rfl) dL_law_787) (fun x98 => ?_)
      refine bp_j_iload 6 dL_law_790 rfl ?_
      refine bp_j_icmp_eq (tgt := 797) dL_law_792 (by decide) ?_ ?_
      · refine bp_j_iload 6 dL_law_797 rfl ?_
        refine bp_j_if_ne (tgt := 814) dL_law_799 (by decide) ?_ ?_
        · refine bp_j_goto (tgt := 1308) dL_law_814 (by decide) ?_
          exact bp_j_sub [1, 2, 3, 4, 5] rfl (hk10)
        refine bp_j_aload_n 4 dL_law_802 rfl ?_
        refine bp_j_iconst (v := 0) dL_law_803 (by decide) ?_
        refine bp_j_laload dL_law_804 (fun l99 => ?_)
        refine bp_j_iload 0 dL_law_805 rfl ?_
        refine bp_j_i2l dL_law_807 ?_
        refine bp_j_lcmp dL_law_808 ?_
        refine bp_j_if_eq (tgt := 814) dL_law_809 (by decide) ?_ ?_
        · refine bp_j_goto (tgt := 1308) dL_law_814 (by decide) ?_
          exact bp_j_sub [1, 2, 3, 4, 5] rfl (hk10)
        refine bp_j_iconst (v := 0) dL_law_812 (by decide) ?_
        exact bp_j_lawret rfl rfl dL_law_813
      refine bp_j_iconst (v := 0) dL_law_795 (by decide) ?_
      exact bp_j_lawret rfl rfl dL_law_796
    · refine bp_j_aload_n 1 dL_law_817 rfl ?_
      refine bp_j_aload_n 0 dL_law_818 rfl ?_
      refine bp_j_iload 4 dL_law_819 rfl ?_
      refine bp_j_iconst (v := 1) dL_law_821 (by decide) ?_
      refine bp_j_iadd dL_law_822 ?_
      refine bp_j_iaload dL_law_823 (fun x100 => ?_)
      refine bp_j_jm (fun k => ∀ (x101 : Int32), bp_J G iL_law (bp_QL G) (k x101) 832 [(0, .ref bp0), (1, .ref a1), (2, .ref a3), (3, .ref a5), (4, .int x6)] [.int x101, .ref a1]) (fun k102 hk102 => ?_) (fun x101 => ?_)
      · refine bp_j_if_eq (tgt := 831) dL_law_824 (by decide) ?_ ?_
        · refine bp_j_iconst (v := 0) dL_law_831 (by decide) ?_
          exact hk102 (0 : Int32)
        refine bp_j_iconst (v := 1) dL_law_827 (by decide) ?_
        refine bp_j_goto (tgt := 832) dL_law_828 (by decide) ?_
        exact hk102 (1 : Int32)
      refine bp_j_aload_n 3 dL_law_832 rfl ?_
      refine bp_j_cn_I (bp_ranSX (n := 3) (As := [.ref a1, .int x101, .ref a5]) (cnX0_pass (G := G) a1 x101 a5) (lw_SW q1023 q1024 q71 q1025) ⟨by decide +kernel, by decide +kernel, by decide +kernel⟩ ⟨by decide, by decide⟩ (rest := []) rfl rfl (Nat.le_of_ble_eq_true rfl) dL_law_833) (fun x103 => ?_)
      refine bp_j_istore (lv' := [(5, .int x103), (0, .ref bp0), (1, .ref a1), (2, .ref a3), (3, .ref a5), (4, .int x6)]) dL_law_836 (by decide) rfl ?_
      refine bp_j_aload_n 3 dL_law_838 rfl ?_
      refine bp_j_aload_n 1 dL_law_839 rfl ?_
      refine bp_j_iload 5 dL_law_840 rfl ?_
      refine bp_j_iconst (v := 1) dL_law_842 (by decide) ?_
      refine bp_j_iadd dL_law_843 ?_
      refine bp_j_iaload dL_law_844 (fun x104 => ?_)
      refine bp_j_jm (fun k => ∀ (x105 : Int32), bp_J G iL_law (bp_QL G) (k x105) 853 [(0, .ref bp0), (1, .ref a1), (2, .ref a3), (3, .ref a5), (4, .int x6), (5, .int x103)] [.int x105, .ref a3]) (fun k106 hk106 => ?_) (fun x105 => ?_)
      · refine bp_j_if_eq (tgt := 852) dL_law_845 (by decide) ?_ ?_
        · refine bp_j_iconst (v := 0) dL_law_852 (by decide) ?_
          exact bp_j_sub [1, 2, 3, 4, 5, 0] rfl (hk106 (0 : Int32))
        refine bp_j_iconst (v := 1) dL_law_848 (by decide) ?_
        refine bp_j_goto (tgt := 853) dL_law_849 (by decide) ?_
        exact bp_j_sub [1, 2, 3, 4, 5, 0] rfl (hk106 (1 : Int32))
      refine bp_j_cn_I (bp_ranV (t := 4) (n := 1) (As := [.int x105]) (cnX6_pass (G := G) a3 x105) rfl (lw_V q1342 q1343 q1344 q82 q1345) ⟨rfl, by decide +kernel, by decide +kernel, by decide +kernel⟩ ⟨by decide, by decide⟩ (rest := []) rfl rfl (Nat.le_of_ble_eq_true rfl) dL_law_853) (fun x107 => ?_)
      refine bp_j_istore (lv' := [(6, .int x107), (0, .ref bp0), (1, .ref a1), (2, .ref a3), (3, .ref a5), (4, .int x6), (5, .int x103)]) dL_law_856 (by decide) rfl ?_
      refine bp_j_aload_n 3 dL_law_858 rfl ?_
      refine bp_j_cn_I (bp_ranV (t := 4) (n := 0) (As := []) (cnX6_thrown (G := G) a3 ) rfl (lw_V q1233 q1234 q1235 q82 q1236) ⟨rfl, by decide +kernel, by decide +kernel, by decide +kernel⟩ ⟨by decide, by decide⟩ (rest := []) rfl rfl (Nat.le_of_ble_eq_true rfl) dL_law_859) (fun x108 => ?_)
      refine bp_j_iload 6 dL_law_862 rfl ?_
      refine bp_j_icmp_eq (tgt := 869) dL_law_864 (by decide) ?_ ?_
      · refine bp_j_iload 6 dL_law_869 rfl ?_
        refine bp_j_if_ne (tgt := 886) dL_law_871 (by decide) ?_ ?_
        · refine bp_j_goto (tgt := 1308) dL_law_886 (by decide) ?_
          exact bp_j_sub [1, 2, 3, 4, 5] rfl (hk10)
        refine bp_j_aload_n 4 dL_law_874 rfl ?_
        refine bp_j_iconst (v := 0) dL_law_875 (by decide) ?_
        refine bp_j_laload dL_law_876 (fun l109 => ?_)
        refine bp_j_iload 0 dL_law_877 rfl ?_
        refine bp_j_i2l dL_law_879 ?_
        refine bp_j_lcmp dL_law_880 ?_
        refine bp_j_if_eq (tgt := 886) dL_law_881 (by decide) ?_ ?_
        · refine bp_j_goto (tgt := 1308) dL_law_886 (by decide) ?_
          exact bp_j_sub [1, 2, 3, 4, 5] rfl (hk10)
        refine bp_j_iconst (v := 0) dL_law_884 (by decide) ?_
        exact bp_j_lawret rfl rfl dL_law_885
      refine bp_j_iconst (v := 0) dL_law_867 (by decide) ?_
      exact bp_j_lawret rfl rfl dL_law_868
    · refine bp_j_aload_n 1 dL_law_889 rfl ?_
      refine bp_j_aload_n 0 dL_law_890 rfl ?_
      refine bp_j_iload 4 dL_law_891 rfl ?_
      refine bp_j_iconst (v := 1) dL_law_893 (by decide) ?_
      refine bp_j_iadd dL_law_894 ?_
      refine bp_j_iaload dL_law_895 (fun x110 => ?_)
      refine bp_j_aload_n 0 dL_law_896 rfl ?_
      refine bp_j_iload 4 dL_law_897 rfl ?_
      refine bp_j_iconst (v := 2) dL_law_899 (by decide) ?_
      refine bp_j_iadd dL_law_900 ?_
      refine bp_j_iaload dL_law_901 (fun x111 => ?_)
      refine bp_j_aload_n 3 dL_law_902 rfl ?_
      refine bp_j_cn_I (bp_ranSX (n := 4) (As := [.ref a1, .int x110, .int x111, .ref a5]) (cnX0_alter (G := G) a1 x110 x111 a5) (lw_SW q1030 q1031 q71 q1032) ⟨by decide +kernel, by decide +kernel, by decide +kernel⟩ ⟨by decide, by decide⟩ (rest := []) rfl rfl (Nat.le_of_ble_eq_true rfl) dL_law_903) (fun x112 => ?_)
      refine bp_j_istore (lv' := [(5, .int x112), (0, .ref bp0), (1, .ref a1), (2, .ref a3), (3, .ref a5), (4, .int x6)]) dL_law_906 (by decide) rfl ?_
      refine bp_j_aload_n 3 dL_law_908 rfl ?_
      refine bp_j_aload_n 1 dL_law_909 rfl ?_
      refine bp_j_iload 5 dL_law_910 rfl ?_
      refine bp_j_iconst (v := 1) dL_law_912 (by decide) ?_
      refine bp_j_iadd dL_law_913 ?_
      refine bp_j_iaload dL_law_914 (fun x113 => ?_)
      refine bp_j_aload_n 1 dL_law_915 rfl ?_
      refine bp_j_iload 5 dL_law_916 rfl ?_
      refine bp_j_iconst (v := 2) dL_law_918 (by decide) ?_
      refine bp_j_iadd dL_law_919 ?_
      refine bp_j_iaload dL_law_920 (fun x114 => ?_)
      refine bp_j_cn_I (bp_ranV (t := 4) (n := 2) (As := [.int x113, .int x114]) (cnX6_alter (G := G) a3 x113 x114) rfl (lw_V q1346 q1347 q1348 q82 q1349) ⟨rfl, by decide +kernel, by decide +kernel, by decide +kernel⟩ ⟨by decide, by decide⟩ (rest := []) rfl rfl (Nat.le_of_ble_eq_true rfl) dL_law_921) (fun x115 => ?_)
      refine bp_j_istore (lv' := [(6, .int x115), (5, .int x112), (0, .ref bp0), (1, .ref a1), (2, .ref a3), (3, .ref a5), (4, .int x6)]) dL_law_924 (by decide) rfl ?_
      refine bp_j_aload_n 4 dL_law_926 rfl ?_
      refine bp_j_cn_I (bp_ranV (t := 4) (n := 0) (As := []) (cnX6_thrown (G := G) a3 ) rfl (lw_V q1233 q1234 q1235 q82 q1236) ⟨rfl, by decide +kernel, by decide +kernel, by decide +kernel⟩ ⟨by decide, by decide⟩ (rest := []) rfl rfl (Nat.le_of_ble_eq_true rfl) dL_law_927) (fun x116 => ?_)
      refine bp_j_iload 1 dL_law_930 rfl ?_
      refine bp_j_icmp_eq (tgt := 937) dL_law_932 (by decide) ?_ ?_
      · refine bp_j_iload 1 dL_law_937 rfl ?_
        refine bp_j_if_ne (tgt := 954) dL_law_939 (by decide) ?_ ?_
        · refine bp_j_goto (tgt := 1308) dL_law_954 (by decide) ?_
          exact bp_j_sub [2, 3, 4, 5, 6] rfl (hk10)
        refine bp_j_aload_n 5 dL_law_942 rfl ?_
        refine bp_j_iconst (v := 0) dL_law_943 (by decide) ?_
        refine bp_j_laload dL_law_944 (fun l117 => ?_)
        refine bp_j_iload 0 dL_law_945 rfl ?_
        refine bp_j_i2l dL_law_947 ?_
        refine bp_j_lcmp dL_law_948 ?_
        refine bp_j_if_eq (tgt := 954) dL_law_949 (by decide) ?_ ?_
        · refine bp_j_goto (tgt := 1308) dL_law_954 (by decide) ?_
          exact bp_j_sub [2, 3, 4, 5, 6] rfl (hk10)
        refine bp_j_iconst (v := 0) dL_law_952 (by decide) ?_
        exact bp_j_lawret rfl rfl dL_law_953
      refine bp_j_iconst (v := 0) dL_law_935 (by decide) ?_
      exact bp_j_lawret rfl rfl dL_law_936
    · refine bp_j_aload_n 1 dL_law_957 rfl ?_
      refine bp_j_cn_I (bp_ranVX (t := 0) (n := 0) (As := []) (cnX1_read (G := G) a1 ) rfl (lw_VW q345 q346 q347 q72 q348) ⟨rfl, by decide +kernel, by decide +kernel, by decide +kernel⟩ ⟨by decide, by decide⟩ (rest := []) rfl rfl (Nat.le_of_ble_eq_true rfl) dL_law_958) (fun x118 => ?_)
      refine bp_j_aload_n 2 dL_law_961 rfl ?_
      refine bp_j_cn_I (bp_ranV (t := 4) (n := 0) (As := []) (cnX6_read (G := G) a3 ) rfl (lw_V q1350 q1351 q1352 q82 q1353) ⟨rfl, by decide +kernel, by decide +kernel, by decide +kernel⟩ ⟨by decide, by decide⟩ (rest := [.int x118]) rfl rfl (Nat.le_of_ble_eq_true rfl) dL_law_962) (fun x119 => ?_)
      refine bp_j_icmp_eq (tgt := 1308) dL_law_965 (by decide) ?_ ?_
      · exact hk10
      refine bp_j_iconst (v := 0) dL_law_968 (by decide) ?_
      exact bp_j_lawret rfl rfl dL_law_969
    · refine bp_j_aload_n 1 dL_law_970 rfl ?_
      refine bp_j_aload_n 0 dL_law_971 rfl ?_
      refine bp_j_iload 4 dL_law_972 rfl ?_
      refine bp_j_iconst (v := 1) dL_law_974 (by decide) ?_
      refine bp_j_iadd dL_law_975 ?_
      refine bp_j_iaload dL_law_976 (fun x120 => ?_)
      refine bp_j_aload_n 0 dL_law_977 rfl ?_
      refine bp_j_iload 4 dL_law_978 rfl ?_
      refine bp_j_iconst (v := 2) dL_law_980 (by decide) ?_
      refine bp_j_iadd dL_law_981 ?_
      refine bp_j_iaload dL_law_982 (fun x121 => ?_)
      refine bp_j_aload_n 3 dL_law_983 rfl ?_
      refine bp_j_cn_I (bp_ranSX (n := 4) (As := [.ref a1, .int x120, .int x121, .ref a5]) (cnX0_found (G := G) a1 x120 x121 a5) (lw_SW q1037 q1038 q71 q1039) ⟨by decide +kernel, by decide +kernel, by decide +kernel⟩ ⟨by decide, by decide⟩ (rest := []) rfl rfl (Nat.le_of_ble_eq_true rfl) dL_law_984) (fun x122 => ?_)
      refine bp_j_istore (lv' := [(5, .int x122), (0, .ref bp0), (1, .ref a1), (2, .ref a3), (3, .ref a5), (4, .int x6)]) dL_law_987 (by decide) rfl ?_
      refine bp_j_aload_n 3 dL_law_989 rfl ?_
      refine bp_j_aload_n 1 dL_law_990 rfl ?_
      refine bp_j_iload 5 dL_law_991 rfl ?_
      refine bp_j_iconst (v := 1) dL_law_993 (by decide) ?_
      refine bp_j_iadd dL_law_994 ?_
      refine bp_j_iaload dL_law_995 (fun x123 => ?_)
      refine bp_j_aload_n 1 dL_law_996 rfl ?_
      refine bp_j_iload 5 dL_law_997 rfl ?_
      refine bp_j_iconst (v := 2) dL_law_999 (by decide) ?_
      refine bp_j_iadd dL_law_1000 ?_
      refine bp_j_iaload dL_law_1001 (fun x124 => ?_)
      refine bp_j_cn_I (bp_ranV (t := 4) (n := 2) (As := [.int x123, .int x124]) (cnX6_found (G := G) a3 x123 x124) rfl (lw_V q1458 q1459 q1460 q82 q1461) ⟨rfl, by decide +kernel, by decide +kernel, by decide +kernel⟩ ⟨by decide, by decide⟩ (rest := []) rfl rfl (Nat.le_of_ble_eq_true rfl) dL_law_1002) (fun x125 => ?_)
      refine bp_j_istore (lv' := [(6, .int x125), (5, .int x122), (0, .ref bp0), (1, .ref a1), (2, .ref a3), (3, .ref a5), (4, .int x6)]) dL_law_1005 (by decide) rfl ?_
      refine bp_j_aload_n 4 dL_law_1007 rfl ?_
      refine bp_j_cn_I (bp_ranV (t := 4) (n := 0) (As := []) (cnX6_thrown (G := G) a3 ) rfl (lw_V q1233 q1234 q1235 q82 q1236) ⟨rfl, by decide +kernel, by decide +kernel, by decide +kernel⟩ ⟨by decide, by decide⟩ (rest := []) rfl rfl (Nat.le_of_ble_eq_true rfl) dL_law_1008) (fun x126 => ?_)
      refine bp_j_iload 1 dL_law_1011 rfl ?_
      refine bp_j_icmp_eq (tgt := 1018) dL_law_1013 (by decide) ?_ ?_
      · refine bp_j_iload 1 dL_law_1018 rfl ?_
        refine bp_j_if_ne (tgt := 1035) dL_law_1020 (by decide) ?_ ?_
        · refine bp_j_goto (tgt := 1308) dL_law_1035 (by decide) ?_
          exact bp_j_sub [2, 3, 4, 5, 6] rfl (hk10)
        refine bp_j_aload_n 5 dL_law_1023 rfl ?_
        refine bp_j_iconst (v := 0) dL_law_1024 (by decide) ?_
        refine bp_j_laload dL_law_1025 (fun l127 => ?_)
        refine bp_j_iload 0 dL_law_1026 rfl ?_
        refine bp_j_i2l dL_law_1028 ?_
        refine bp_j_lcmp dL_law_1029 ?_
        refine bp_j_if_eq (tgt := 1035) dL_law_1030 (by decide) ?_ ?_
        · refine bp_j_goto (tgt := 1308) dL_law_1035 (by decide) ?_
          exact bp_j_sub [2, 3, 4, 5, 6] rfl (hk10)
        refine bp_j_iconst (v := 0) dL_law_1033 (by decide) ?_
        exact bp_j_lawret rfl rfl dL_law_1034
      refine bp_j_iconst (v := 0) dL_law_1016 (by decide) ?_
      exact bp_j_lawret rfl rfl dL_law_1017
    · refine bp_j_aload_n 1 dL_law_1038 rfl ?_
      refine bp_j_aload_n 0 dL_law_1039 rfl ?_
      refine bp_j_iload 4 dL_law_1040 rfl ?_
      refine bp_j_iconst (v := 1) dL_law_1042 (by decide) ?_
      refine bp_j_iadd dL_law_1043 ?_
      refine bp_j_iaload dL_law_1044 (fun x128 => ?_)
      refine bp_j_aload_n 0 dL_law_1045 rfl ?_
      refine bp_j_iload 4 dL_law_1046 rfl ?_
      refine bp_j_iconst (v := 2) dL_law_1048 (by decide) ?_
      refine bp_j_iadd dL_law_1049 ?_
      refine bp_j_iaload dL_law_1050 (fun x129 => ?_)
      refine bp_j_aload_n 3 dL_law_1051 rfl ?_
      refine bp_j_cn_I (bp_ranSX (n := 4) (As := [.ref a1, .int x128, .int x129, .ref a5]) (cnX0_page (G := G) a1 x128 x129 a5) (lw_SW q1044 q1045 q71 q1046) ⟨by decide +kernel, by decide +kernel, by decide +kernel⟩ ⟨by decide, by decide⟩ (rest := []) rfl rfl (Nat.le_of_ble_eq_true rfl) dL_law_1052) (fun x130 => ?_)
      refine bp_j_istore (lv' := [(5, .int x130), (0, .ref bp0), (1, .ref a1), (2, .ref a3), (3, .ref a5), (4, .int x6)]) dL_law_1055 (by decide) rfl ?_
      refine bp_j_aload_n 3 dL_law_1057 rfl ?_
      refine bp_j_aload_n 1 dL_law_1058 rfl ?_
      refine bp_j_iload 5 dL_law_1059 rfl ?_
      refine bp_j_iconst (v := 1) dL_law_1061 (by decide) ?_
      refine bp_j_iadd dL_law_1062 ?_
      refine bp_j_iaload dL_law_1063 (fun x131 => ?_)
      refine bp_j_aload_n 1 dL_law_1064 rfl ?_
      refine bp_j_iload 5 dL_law_1065 rfl ?_
      refine bp_j_iconst (v := 2) dL_law_1067 (by decide) ?_
      refine bp_j_iadd dL_law_1068 ?_
      refine bp_j_iaload dL_law_1069 (fun x132 => ?_)
      refine bp_j_cn_I (bp_ranV (t := 4) (n := 2) (As := [.int x131, .int x132]) (cnX6_page (G := G) a3 x131 x132) rfl (lw_V q1462 q1463 q1464 q82 q1465) ⟨rfl, by decide +kernel, by decide +kernel, by decide +kernel⟩ ⟨by decide, by decide⟩ (rest := []) rfl rfl (Nat.le_of_ble_eq_true rfl) dL_law_1070) (fun x133 => ?_)
      refine bp_j_istore (lv' := [(6, .int x133), (5, .int x130), (0, .ref bp0), (1, .ref a1), (2, .ref a3), (3, .ref a5), (4, .int x6)]) dL_law_1073 (by decide) rfl ?_
      refine bp_j_aload_n 4 dL_law_1075 rfl ?_
      refine bp_j_cn_I (bp_ranV (t := 4) (n := 0) (As := []) (cnX6_thrown (G := G) a3 ) rfl (lw_V q1233 q1234 q1235 q82 q1236) ⟨rfl, by decide +kernel, by decide +kernel, by decide +kernel⟩ ⟨by decide, by decide⟩ (rest := []) rfl rfl (Nat.le_of_ble_eq_true rfl) dL_law_1076) (fun x134 => ?_)
      refine bp_j_iload 1 dL_law_1079 rfl ?_
      refine bp_j_icmp_eq (tgt := 1086) dL_law_1081 (by decide) ?_ ?_
      · refine bp_j_iload 1 dL_law_1086 rfl ?_
        refine bp_j_if_ne (tgt := 1103) dL_law_1088 (by decide) ?_ ?_
        · refine bp_j_goto (tgt := 1308) dL_law_1103 (by decide) ?_
          exact bp_j_sub [2, 3, 4, 5, 6] rfl (hk10)
        refine bp_j_aload_n 5 dL_law_1091 rfl ?_
        refine bp_j_iconst (v := 0) dL_law_1092 (by decide) ?_
        refine bp_j_laload dL_law_1093 (fun l135 => ?_)
        refine bp_j_iload 0 dL_law_1094 rfl ?_
        refine bp_j_i2l dL_law_1096 ?_
        refine bp_j_lcmp dL_law_1097 ?_
        refine bp_j_if_eq (tgt := 1103) dL_law_1098 (by decide) ?_ ?_
        · refine bp_j_goto (tgt := 1308) dL_law_1103 (by decide) ?_
          exact bp_j_sub [2, 3, 4, 5, 6] rfl (hk10)
        refine bp_j_iconst (v := 0) dL_law_1101 (by decide) ?_
        exact bp_j_lawret rfl rfl dL_law_1102
      refine bp_j_iconst (v := 0) dL_law_1084 (by decide) ?_
      exact bp_j_lawret rfl rfl dL_law_1085
    · refine bp_j_aload_n 1 dL_law_1106 rfl ?_
      refine bp_j_aload_n 0 dL_law_1107 rfl ?_
      refine bp_j_iload 4 dL_law_1108 rfl ?_
      refine bp_j_iconst (v := 1) dL_law_1110 (by decide) ?_
      refine bp_j_iadd dL_law_1111 ?_
      refine bp_j_iaload dL_law_1112 (fun x136 => ?_)
      refine bp_j_aload_n 0 dL_law_1113 rfl ?_
      refine bp_j_iload 4 dL_law_1114 rfl ?_
      refine bp_j_iconst (v := 2) dL_law_1116 (by decide) ?_
      refine bp_j_iadd dL_law_1117 ?_
      refine bp_j_iaload dL_law_1118 (fun x137 => ?_)
      refine bp_j_aload_n 0 dL_law_1119 rfl ?_
      refine bp_j_iload 4 dL_law_1120 rfl ?_
      refine bp_j_iconst (v := 3) dL_law_1122 (by decide) ?_
      refine bp_j_iadd dL_law_1123 ?_
      refine bp_j_iaload dL_law_1124 (fun x138 => ?_)
      refine bp_j_aload_n 3 dL_law_1125 rfl ?_
      refine bp_j_cn_I (bp_ranSX (n := 5) (As := [.ref a1, .int x136, .int x137, .int x138, .ref a5]) (cnX0_at (G := G) a1 x136 x137 x138 a5) (lw_SW q1059 q1060 q71 q1061) ⟨by decide +kernel, by decide +kernel, by decide +kernel⟩ ⟨by decide, by decide⟩ (rest := []) rfl rfl (Nat.le_of_ble_eq_true rfl) dL_law_1126) (fun x139 => ?_)
      refine bp_j_istore (lv' := [(5, .int x139), (0, .ref bp0), (1, .ref a1), (2, .ref a3), (3, .ref a5), (4, .int x6)]) dL_law_1129 (by decide) rfl ?_
      refine bp_j_aload_n 3 dL_law_1131 rfl ?_
      refine bp_j_aload_n 1 dL_law_1132 rfl ?_
      refine bp_j_iload 5 dL_law_1133 rfl ?_
      refine bp_j_iconst (v := 1) dL_law_1135 (by decide) ?_
      refine bp_j_iadd dL_law_1136 ?_
      refine bp_j_iaload dL_law_1137 (fun x140 => ?_)
      refine bp_j_aload_n 1 dL_law_1138 rfl ?_
      refine bp_j_iload 5 dL_law_1139 rfl ?_
      refine bp_j_iconst (v := 2) dL_law_1141 (by decide) ?_
      refine bp_j_iadd dL_law_1142 ?_
      refine bp_j_iaload dL_law_1143 (fun x141 => ?_)
      refine bp_j_aload_n 1 dL_law_1144 rfl ?_
      refine bp_j_iload 5 dL_law_1145 rfl ?_
      refine bp_j_iconst (v := 3) dL_law_1147 (by decide) ?_
      refine bp_j_iadd dL_law_1148 ?_
      refine bp_j_iaload dL_law_1149 (fun x142 => ?_)
      refine bp_j_cn_I (bp_ranV (t := 4) (n := 3) (As := [.int x140, .int x141, .int x142]) (cnX6_at (G := G) a3 x140 x141 x142) rfl (lw_V q1474 q1475 q1476 q82 q1477) ⟨rfl, by decide +kernel, by decide +kernel, by decide +kernel⟩ ⟨by decide, by decide⟩ (rest := []) rfl rfl (Nat.le_of_ble_eq_true rfl) dL_law_1150) (fun x143 => ?_)
      refine bp_j_istore (lv' := [(6, .int x143), (5, .int x139), (0, .ref bp0), (1, .ref a1), (2, .ref a3), (3, .ref a5), (4, .int x6)]) dL_law_1153 (by decide) rfl ?_
      refine bp_j_aload_n 4 dL_law_1155 rfl ?_
      refine bp_j_cn_I (bp_ranV (t := 4) (n := 0) (As := []) (cnX6_thrown (G := G) a3 ) rfl (lw_V q1233 q1234 q1235 q82 q1236) ⟨rfl, by decide +kernel, by decide +kernel, by decide +kernel⟩ ⟨by decide, by decide⟩ (rest := []) rfl rfl (Nat.le_of_ble_eq_true rfl) dL_law_1156) (fun x144 => ?_)
      refine bp_j_iload 1 dL_law_1159 rfl ?_
      refine bp_j_icmp_eq (tgt := 1166) dL_law_1161 (by decide) ?_ ?_
      · refine bp_j_iload 1 dL_law_1166 rfl ?_
        refine bp_j_if_ne (tgt := 1190) dL_law_1168 (by decide) ?_ ?_
        · refine bp_j_goto (tgt := 1308) dL_law_1190 (by decide) ?_
          exact bp_j_sub [2, 3, 4, 5, 6] rfl (hk10)
        refine bp_j_aload_n 5 dL_law_1171 rfl ?_
        refine bp_j_iconst (v := 0) dL_law_1172 (by decide) ?_
        refine bp_j_laload dL_law_1173 (fun l145 => ?_)
        refine bp_j_iload 0 dL_law_1174 rfl ?_
        refine bp_j_jm (fun k => ∀ (l146 : Int64), bp_J G iL_law (bp_QL G) (k l146) 1184 [(0, .ref bp0), (1, .ref a1), (2, .ref a3), (3, .ref a5), (4, .int x6)] [.long l146, .long l145]) (fun k147 hk147 => ?_) (fun l146 => ?_)
        · refine bp_j_if_eq (tgt := 1183) dL_law_1176 (by decide) ?_ ?_
          · refine bp_j_lconst (v := 0) dL_law_1183 (by decide) ?_
            exact bp_j_sub [2, 3, 4, 5, 6] rfl (hk147 (0 : Int64))
          refine bp_j_lconst (v := 1) dL_law_1179 (by decide) ?_
          refine bp_j_goto (tgt := 1184) dL_law_1180 (by decide) ?_
          exact bp_j_sub [2, 3, 4, 5, 6] rfl (hk147 (1 : Int64))
        refine bp_j_lcmp dL_law_1184 ?_
        refine bp_j_if_eq (tgt := 1190) dL_law_1185 (by decide) ?_ ?_
        · refine bp_j_goto (tgt := 1308) dL_law_1190 (by decide) ?_
          exact hk10
        refine bp_j_iconst (v := 0) dL_law_1188 (by decide) ?_
        exact bp_j_lawret rfl rfl dL_law_1189
      refine bp_j_iconst (v := 0) dL_law_1164 (by decide) ?_
      exact bp_j_lawret rfl rfl dL_law_1165
    · refine bp_j_aload_n 1 dL_law_1193 rfl ?_
      refine bp_j_aload_n 0 dL_law_1194 rfl ?_
      refine bp_j_iload 4 dL_law_1195 rfl ?_
      refine bp_j_iconst (v := 1) dL_law_1197 (by decide) ?_
      refine bp_j_iadd dL_law_1198 ?_
      refine bp_j_iaload dL_law_1199 (fun x148 => ?_)
      refine bp_j_aload_n 0 dL_law_1200 rfl ?_
      refine bp_j_iload 4 dL_law_1201 rfl ?_
      refine bp_j_iconst (v := 2) dL_law_1203 (by decide) ?_
      refine bp_j_iadd dL_law_1204 ?_
      refine bp_j_iaload dL_law_1205 (fun x149 => ?_)
      refine bp_j_aload_n 3 dL_law_1206 rfl ?_
      refine bp_j_cn_I (bp_ranSX (n := 4) (As := [.ref a1, .int x148, .int x149, .ref a5]) (cnX0_stripe (G := G) a1 x148 x149 a5) (lw_SW q1067 q1068 q71 q1069) ⟨by decide +kernel, by decide +kernel, by decide +kernel⟩ ⟨by decide, by decide⟩ (rest := []) rfl rfl (Nat.le_of_ble_eq_true rfl) dL_law_1207) (fun x150 => ?_)
      refine bp_j_istore (lv' := [(5, .int x150), (0, .ref bp0), (1, .ref a1), (2, .ref a3), (3, .ref a5), (4, .int x6)]) dL_law_1210 (by decide) rfl ?_
      refine bp_j_aload_n 3 dL_law_1212 rfl ?_
      refine bp_j_aload_n 1 dL_law_1213 rfl ?_
      refine bp_j_iload 5 dL_law_1214 rfl ?_
      refine bp_j_iconst (v := 1) dL_law_1216 (by decide) ?_
      refine bp_j_iadd dL_law_1217 ?_
      refine bp_j_iaload dL_law_1218 (fun x151 => ?_)
      refine bp_j_aload_n 1 dL_law_1219 rfl ?_
      refine bp_j_iload 5 dL_law_1220 rfl ?_
      refine bp_j_iconst (v := 2) dL_law_1222 (by decide) ?_
      refine bp_j_iadd dL_law_1223 ?_
      refine bp_j_iaload dL_law_1224 (fun x152 => ?_)
      refine bp_j_cn_I (bp_ranV (t := 4) (n := 2) (As := [.int x151, .int x152]) (cnX6_stripe (G := G) a3 x151 x152) rfl (lw_V q1478 q1479 q1480 q82 q1481) ⟨rfl, by decide +kernel, by decide +kernel, by decide +kernel⟩ ⟨by decide, by decide⟩ (rest := []) rfl rfl (Nat.le_of_ble_eq_true rfl) dL_law_1225) (fun x153 => ?_)
      refine bp_j_istore (lv' := [(6, .int x153), (5, .int x150), (0, .ref bp0), (1, .ref a1), (2, .ref a3), (3, .ref a5), (4, .int x6)]) dL_law_1228 (by decide) rfl ?_
      refine bp_j_aload_n 4 dL_law_1230 rfl ?_
      refine bp_j_cn_I (bp_ranV (t := 4) (n := 0) (As := []) (cnX6_thrown (G := G) a3 ) rfl (lw_V q1233 q1234 q1235 q82 q1236) ⟨rfl, by decide +kernel, by decide +kernel, by decide +kernel⟩ ⟨by decide, by decide⟩ (rest := []) rfl rfl (Nat.le_of_ble_eq_true rfl) dL_law_1231) (fun x154 => ?_)
      refine bp_j_iload 1 dL_law_1234 rfl ?_
      refine bp_j_icmp_eq (tgt := 1241) dL_law_1236 (by decide) ?_ ?_
      · refine bp_j_iload 1 dL_law_1241 rfl ?_
        refine bp_j_if_ne (tgt := 1258) dL_law_1243 (by decide) ?_ ?_
        · refine bp_j_goto (tgt := 1308) dL_law_1258 (by decide) ?_
          exact bp_j_sub [2, 3, 4, 5, 6] rfl (hk10)
        refine bp_j_aload_n 5 dL_law_1246 rfl ?_
        refine bp_j_iconst (v := 0) dL_law_1247 (by decide) ?_
        refine bp_j_laload dL_law_1248 (fun l155 => ?_)
        refine bp_j_iload 0 dL_law_1249 rfl ?_
        refine bp_j_i2l dL_law_1251 ?_
        refine bp_j_lcmp dL_law_1252 ?_
        refine bp_j_if_eq (tgt := 1258) dL_law_1253 (by decide) ?_ ?_
        · refine bp_j_goto (tgt := 1308) dL_law_1258 (by decide) ?_
          exact bp_j_sub [2, 3, 4, 5, 6] rfl (hk10)
        refine bp_j_iconst (v := 0) dL_law_1256 (by decide) ?_
        exact bp_j_lawret rfl rfl dL_law_1257
      refine bp_j_iconst (v := 0) dL_law_1239 (by decide) ?_
      exact bp_j_lawret rfl rfl dL_law_1240
    · refine bp_j_aload_n 1 dL_law_1261 rfl ?_
      refine bp_j_aload_n 0 dL_law_1262 rfl ?_
      refine bp_j_iload 4 dL_law_1263 rfl ?_
      refine bp_j_iconst (v := 1) dL_law_1265 (by decide) ?_
      refine bp_j_iadd dL_law_1266 ?_
      refine bp_j_iaload dL_law_1267 (fun x156 => ?_)
      refine bp_j_cn_I (bp_ranV (t := 0) (n := 1) (As := [.int x156]) (cnX1_told (G := G) a1 x156) rfl (lw_V q720 q721 q722 q72 q723) ⟨rfl, by decide +kernel, by decide +kernel, by decide +kernel⟩ ⟨by decide, by decide⟩ (rest := []) rfl rfl (Nat.le_of_ble_eq_true rfl) dL_law_1268) (fun x157 => ?_)
      refine bp_j_aload_n 2 dL_law_1271 rfl ?_
      refine bp_j_aload_n 0 dL_law_1272 rfl ?_
      refine bp_j_iload 4 dL_law_1273 rfl ?_
      refine bp_j_iconst (v := 1) dL_law_1275 (by decide) ?_
      refine bp_j_iadd dL_law_1276 ?_
      refine bp_j_iaload dL_law_1277 (fun x158 => ?_)
      refine bp_j_cn_I (bp_ranV (t := 4) (n := 1) (As := [.int x158]) (cnX6_told (G := G) a3 x158) rfl (lw_V q1482 q1483 q1484 q82 q1485) ⟨rfl, by decide +kernel, by decide +kernel, by decide +kernel⟩ ⟨by decide, by decide⟩ (rest := [.int x157]) rfl rfl (Nat.le_of_ble_eq_true rfl) dL_law_1278) (fun x159 => ?_)
      refine bp_j_icmp_eq (tgt := 1308) dL_law_1281 (by decide) ?_ ?_
      · exact hk10
      refine bp_j_iconst (v := 0) dL_law_1284 (by decide) ?_
      exact bp_j_lawret rfl rfl dL_law_1285
    · refine bp_j_aload_n 1 dL_law_1286 rfl ?_
      refine bp_j_cn_U (bp_ranV (t := 0) (n := 0) (As := []) (cnX1_drop (G := G) a1 ) rfl (lw_V q724 q725 q726 q72 q727) ⟨rfl, by decide +kernel, by decide +kernel, by decide +kernel⟩ ⟨by decide, by decide⟩ (rest := []) rfl rfl (Nat.le_of_ble_eq_true rfl) dL_law_1287) (fun _ => ?_)
      refine bp_j_aload_n 2 dL_law_1290 rfl ?_
      refine bp_j_cn_U (bp_ranV (t := 4) (n := 0) (As := []) (cnX6_drop (G := G) a3 ) rfl (lw_V q1486 q1487 q1488 q82 q1489) ⟨rfl, by decide +kernel, by decide +kernel, by decide +kernel⟩ ⟨by decide, by decide⟩ (rest := []) rfl rfl (Nat.le_of_ble_eq_true rfl) dL_law_1291) (fun _ => ?_)
      refine bp_j_goto (tgt := 1308) dL_law_1294 (by decide) ?_
      exact hk10
    · refine bp_j_aload_n 1 dL_law_1297 rfl ?_
      refine bp_j_cn_U (bp_ranV (t := 0) (n := 0) (As := []) (cnX1_clear (G := G) a1 ) rfl (lw_V q728 q729 q730 q72 q731) ⟨rfl, by decide +kernel, by decide +kernel, by decide +kernel⟩ ⟨by decide, by decide⟩ (rest := []) rfl rfl (Nat.le_of_ble_eq_true rfl) dL_law_1298) (fun _ => ?_)
      refine bp_j_aload_n 2 dL_law_1301 rfl ?_
      refine bp_j_cn_U (bp_ranV (t := 4) (n := 0) (As := []) (cnX6_clear (G := G) a3 ) rfl (lw_V q1490 q1491 q1492 q82 q1493) ⟨rfl, by decide +kernel, by decide +kernel, by decide +kernel⟩ ⟨by decide, by decide⟩ (rest := []) rfl rfl (Nat.le_of_ble_eq_true rfl) dL_law_1302) (fun _ => ?_)
      refine bp_j_goto (tgt := 1308) dL_law_1305 (by decide) ?_
      exact hk10
    exact hk10
  refine bp_j_iincL (lv' := fun x11 => [(4, .int x11), (0, .ref bp0), (1, .ref a1), (2, .ref a3), (3, .ref a5)]) 4 dL_law_1308 rfl (by decide) (by decide) (fun _ => rfl) (fun x11 => ?_)
  refine bp_j_goto (tgt := 33) dL_law_1311 (by decide) ?_
  exact bp_j_sub [1, 2, 3, 4, 0] rfl (hk7 x11)
