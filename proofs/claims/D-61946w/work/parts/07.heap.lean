/-! The pure heap of a run, programs over it, and the judgement that the machine follows a program -/
set_option maxRecDepth 100000
/-- ints, longs, references by cell and place; shapes (tag, length); (size, slots made); base; statics; fuel -/
abbrev bp_H : Type := (Nat → Nat → Int32) × (Nat → Nat → Int64) × (Nat → Nat → Option Nat) × (Nat → Nat × Nat) × (Nat × Nat) × Nat × (Nat → Option Nat) × Nat
def bp_I (h : bp_H) : Nat → Nat → Int32 := h.1
def bp_L (h : bp_H) : Nat → Nat → Int64 := h.2.1
def bp_R (h : bp_H) : Nat → Nat → Option Nat := h.2.2.1
def bp_S (h : bp_H) : Nat → Nat × Nat := h.2.2.2.1
def bp_Z (h : bp_H) : Nat := h.2.2.2.2.1.1
def bp_N (h : bp_H) : Nat := h.2.2.2.2.1.2
def bp_B (h : bp_H) : Nat := h.2.2.2.2.2.1
def bp_s (h : bp_H) : Nat → Option Nat := h.2.2.2.2.2.2.1
def bp_F (h : bp_H) : Nat := h.2.2.2.2.2.2.2
def bp_u2 {α : Type} (f : Nat → Nat → α) (a k : Nat) (v : α) : Nat → Nat → α := fun x y => if x = a ∧ y = k then v else f x y
def bp_setI (h : bp_H) (a k : Nat) (v : Int32) : bp_H := (bp_u2 h.1 a k v, h.2)
def bp_setL (h : bp_H) (a k : Nat) (v : Int64) : bp_H := (h.1, bp_u2 h.2.1 a k v, h.2.2)
def bp_setR (h : bp_H) (a k : Nat) (v : Option Nat) : bp_H := (h.1, h.2.1, bp_u2 h.2.2.1 a k v, h.2.2.2)
/-- a row of ints anew -/
def bp_setA (h : bp_H) (a : Nat) (f : Nat → Int32) : bp_H := ((fun x y => if x = a then f y else h.1 x y), h.2)
/-- a row of references anew -/
def bp_setQ (h : bp_H) (a : Nat) (f : Nat → Option Nat) : bp_H := (h.1, h.2.1, (fun x y => if x = a then f y else h.2.2.1 x y), h.2.2.2)
/-- a new cell of shape q, n slots -/
def bp_mk (h : bp_H) (q : Nat × Nat) (n : Nat) : bp_H :=
  ((fun x y => if x = bp_Z h then 0 else h.1 x y), (fun x y => if x = bp_Z h then 0 else h.2.1 x y), (fun x y => if x = bp_Z h then none else h.2.2.1 x y), (fun x => if x = bp_Z h then q else bp_S h x), (bp_Z h + 1, bp_N h + n), h.2.2.2.2.2)
abbrev bp_E : Type := Nat × Nat
abbrev bp_M (β : Type) : Type := bp_H → Option ((bp_E ⊕ β) × bp_H)
def bp_ret {β : Type} (v : β) : bp_M β := fun h => some (.inr v, h)
def bp_no {β : Type} : bp_M β := fun _ => none
def bp_thr {β : Type} (k a : Nat) : bp_M β := fun h => some (.inl (k, a), h)
def bp_getI {β : Type} (t k a : Nat) (K : Int32 → bp_M β) : bp_M β := fun h => if (bp_S h a).1 = t then K (bp_I h a k) h else none
def bp_getL {β : Type} (t k a : Nat) (K : Int64 → bp_M β) : bp_M β := fun h => if (bp_S h a).1 = t then K (bp_L h a k) h else none
def bp_getR {β : Type} (t k a : Nat) (K : Option Nat → bp_M β) : bp_M β := fun h => if (bp_S h a).1 = t then K (bp_R h a k) h else none
/-- a reference that isn't null -/
def bp_nn {β : Type} (r : Option Nat) (K : Nat → bp_M β) : bp_M β := match r with
  | none => bp_no
  | some a => K a
def bp_getN {β : Type} (t k a : Nat) (K : Nat → bp_M β) : bp_M β := bp_getR t k a fun r => bp_nn r K
def bp_putI {β : Type} (t k a : Nat) (v : Int32) (K : bp_M β) : bp_M β := fun h => if (bp_S h a).1 = t ∧ bp_B h ≤ a then K (bp_setI h a k v) else none
/-- a field of one bit -/
def bp_putZ {β : Type} (t k a : Nat) (v : Int32) (K : bp_M β) : bp_M β := fun h => if (v = 0 ∨ v = 1) ∧ (bp_S h a).1 = t ∧ bp_B h ≤ a then K (bp_setI h a k v) else none
def bp_putL {β : Type} (t k a : Nat) (v : Int64) (K : bp_M β) : bp_M β := fun h => if (bp_S h a).1 = t ∧ bp_B h ≤ a then K (bp_setL h a k v) else none
def bp_putR {β : Type} (t k a : Nat) (v : Option Nat) (K : bp_M β) : bp_M β := fun h => if (bp_S h a).1 = t ∧ bp_B h ≤ a then K (bp_setR h a k v) else none
abbrev bp_in (h : bp_H) (t a : Nat) (i : Int32) : Prop := (bp_S h a).1 = t ∧ ¬ (i < 0 ∨ (bp_S h a).2 ≤ i.toNatClampNeg)
def bp_aldI {β : Type} (t a : Nat) (i : Int32) (K : Int32 → bp_M β) : bp_M β := fun h => if bp_in h t a i then K (bp_I h a i.toNatClampNeg) h else none
def bp_aldL {β : Type} (a : Nat) (i : Int32) (K : Int64 → bp_M β) : bp_M β := fun h => if bp_in h 23 a i then K (bp_L h a i.toNatClampNeg) h else none
def bp_aldR {β : Type} (t a : Nat) (i : Int32) (K : Option Nat → bp_M β) : bp_M β := fun h => if bp_in h t a i then K (bp_R h a i.toNatClampNeg) h else none
def bp_aldN {β : Type} (t a : Nat) (i : Int32) (K : Nat → bp_M β) : bp_M β := bp_aldR t a i fun r => bp_nn r K
def bp_astI {β : Type} (a : Nat) (i v : Int32) (K : bp_M β) : bp_M β := fun h => if bp_in h 20 a i ∧ bp_B h ≤ a then K (bp_setI h a i.toNatClampNeg v) else none
def bp_astB {β : Type} (a : Nat) (i v : Int32) (K : bp_M β) : bp_M β := fun h => if bp_in h 21 a i ∧ bp_B h ≤ a then K (bp_setI h a i.toNatClampNeg v.toInt8.toInt32) else none
def bp_astZ {β : Type} (a : Nat) (i v : Int32) (K : bp_M β) : bp_M β := fun h => if (v = 0 ∨ v = 1) ∧ bp_in h 22 a i ∧ bp_B h ≤ a then K (bp_setI h a i.toNatClampNeg v) else none
def bp_astL {β : Type} (a : Nat) (i : Int32) (v : Int64) (K : bp_M β) : bp_M β := fun h => if bp_in h 23 a i ∧ bp_B h ≤ a then K (bp_setL h a i.toNatClampNeg v) else none
/-- the class tag that an array of references takes -/
def bp_ec (t : Nat) : Nat := if t = 24 then 3 else if t = 25 then 2 else 8
def bp_astR {β : Type} (t a : Nat) (i : Int32) (v : Nat) (K : bp_M β) : bp_M β := fun h => if bp_in h t a i ∧ bp_B h ≤ a ∧ (bp_S h v).1 = bp_ec t then K (bp_setR h a i.toNatClampNeg (some v)) else none
/-- into an Object[]: an object of the tag tv, or null -/
def bp_astO {β : Type} (tv a : Nat) (i : Int32) (v : Nat) (K : bp_M β) : bp_M β := fun h => if bp_in h 27 a i ∧ bp_B h ≤ a ∧ (bp_S h v).1 = tv then K (bp_setR h a i.toNatClampNeg (some v)) else none
def bp_ast0 {β : Type} (t a : Nat) (i : Int32) (K : bp_M β) : bp_M β := fun h => if bp_in h t a i ∧ bp_B h ≤ a then K (bp_setR h a i.toNatClampNeg none) else none
def bp_alen {β : Type} (t a : Nat) (K : Int32 → bp_M β) : bp_M β := fun h => if (bp_S h a).1 = t then K (Int32.ofNat (bp_S h a).2) h else none
def bp_getsR {β : Type} (i : Nat) (K : Option Nat → bp_M β) : bp_M β := fun h => K (bp_s h i) h
def bp_gets {β : Type} (i : Nat) (K : Nat → bp_M β) : bp_M β := bp_getsR i fun r => bp_nn r K
/-- a new object of class t with n fields; a new array of tag t -/
def bp_new {β : Type} (t n : Nat) (K : Nat → bp_M β) : bp_M β := fun h => K (bp_Z h) (bp_mk h (t, 0) n)
def bp_newa {β : Type} (t : Nat) (n : Int32) (K : Nat → bp_M β) : bp_M β := fun h => if ¬ n < 0 ∧ n.toNatClampNeg ≤ 65536 then K (bp_Z h) (bp_mk h (t, n.toNatClampNeg) n.toNatClampNeg) else none
/-- an object of the class of tag t: a cast, a receiver -/
def bp_is {β : Type} (t a : Nat) (K : bp_M β) : bp_M β := fun h => if (bp_S h a).1 = t then K h else none
def bp_if {β : Type} (c : Prop) [Decidable c] (P1 P2 : bp_M β) : bp_M β := fun h => if c then P1 h else P2 h
def bp_bind {α β : Type} (f : bp_M α) (K : α → bp_M β) : bp_M β := fun h => match f h with
  | none => none
  | some (.inl e, h1) => some (.inl e, h1)
  | some (.inr v, h1) => K v h1
/-- a call within a handler's range -/
def bp_try {α β : Type} (f : bp_M α) (K : α → bp_M β) (X : Nat → Nat → bp_M β) : bp_M β := fun h => match f h with
  | none => none
  | some (.inl e, h1) => X e.1 e.2 h1
  | some (.inr v, h1) => K v h1
/-- division, remainder: not by 0 -/
def bp_nz {β : Type} (y : Int32) (K : bp_M β) : bp_M β := fun h => if y = 0 then none else K h
def bp_letI {β : Type} (v : Int32) (K : Int32 → bp_M β) : bp_M β := K v
def bp_letL {β : Type} (v : Int64) (K : Int64 → bp_M β) : bp_M β := K v
/-- a join: the rest K is written once -/
def bp_jn {κ : Sort _} {β : Type} (b : κ → bp_M β) (K : κ) : bp_M β := b K
def bp_fix {κ : Sort _} (bot : κ) (body : κ → κ) : Nat → κ
  | 0 => bot
  | n + 1 => body (bp_fix bot body n)
def bp_loop {κ : Sort _} {β : Type} (bot : κ) (body : κ → κ) (app : κ → bp_M β) : bp_M β := fun h => app (bp_fix bot body (bp_F h)) h
def bp_sw {β : Type} (x : Int) : List (Int × bp_M β) → bp_M β → bp_M β
  | [], d => d
  | (v, P) :: r, d => bp_if (x = v) P (bp_sw x r d)
/-- bytes or ints from one array to another (System.arraycopy) -/
def bp_copyI {β : Type} (t : Nat) (a0 : Nat) (sp : Int32) (a1 : Nat) (dp n : Int32) (K : bp_M β) : bp_M β := fun h =>
  if (bp_S h a0).1 = t ∧ (bp_S h a1).1 = t ∧ bp_B h ≤ a0 ∧ bp_B h ≤ a1 ∧ ¬ sp < 0 ∧ ¬ dp < 0 ∧ ¬ n < 0 ∧ sp.toNatClampNeg + n.toNatClampNeg ≤ (bp_S h a0).2 ∧ dp.toNatClampNeg + n.toNatClampNeg ≤ (bp_S h a1).2 ∧ (∀ i, i < n.toNatClampNeg → (bp_I h a0 (sp.toNatClampNeg + i)).toInt8.toInt32 = bp_I h a0 (sp.toNatClampNeg + i)) then
    K (bp_setA h a1 (va_cpy (bp_I h a0) (bp_I h a1) sp.toNatClampNeg dp.toNatClampNeg n.toNatClampNeg)) else none
/-- an enum constant's fields -/
def bp_TK : u_T := fun k => match k with
  | 0 => ("BilevelPages$Kind", "code", "I", true)
  | 1 => ("BilevelPages$Kind", "numbers", "I", true)
  | _ => ("java/lang/Enum", "ordinal", "I", true)
/-- classes by tag -/
abbrev bp_cl : List vw_C := [(RX1, TX1, 16), (RX2, TX2, 8), (RX3, TX3, 7), (RX4, TX4, 13), (RX6, TX6, 50), (RX7, TX7, 8), (RJ2, TJ2, 3), (RJ18, TJ18, 4), (RX5, bp_TK, 3)]
def bp_ft (t k : Nat) : FieldType := match t with
  | 0 => tyX1 k
  | 1 => tyX2 k
  | 2 => tyX3 k
  | 3 => tyX4 k
  | 4 => tyX6 k
  | 5 => tyX7 k
  | 6 => tyJ2 k
  | 7 => tyJ18 k
  | _ => .int
/-- what arrays hold, by tag -/
def bp_et (t : Nat) : Option FieldType := match t with
  | 20 => some .int
  | 21 => some .byte
  | 22 => some .boolean
  | 23 => some .long
  | 24 => some (.object RX4)
  | 25 => some (.object RX3)
  | 26 => some (.object RX5)
  | 27 => some (.object "java/lang/Object")
  | _ => none
def bp_tv (ty : FieldType) (i : Int32) (l : Int64) (r : Option Nat) : Value := match ty with
  | .long => .long l
  | .object _ => va_rf r
  | .array _ => va_rf r
  | _ => .int i
/-- class numbers and field places, array class numbers, the heap at the law's entry, statics -/
abbrev bp_GT : Type := va_G × (Nat → ClassId) × Heap × (Nat → Option Nat) × (Nat → ClassId → Prop)
def bp_tys (G : bp_GT) : List (ClassId × FieldType) := [(G.2.1 20, .int), (G.2.1 21, .byte), (G.2.1 22, .boolean), (G.2.1 23, .long), (G.2.1 24, .object RX4), (G.2.1 25, .object RX3), (G.2.1 26, .object RX5), (G.2.1 27, .object "java/lang/Object")]
def bp_b (G : bp_GT) : Nat := G.2.2.1.size
/-- an object: one that the run made (own), or a constant -/
def bp_OB (own : Prop) (o : Nat) (cC : ClassId) (N : Nat) (iS : Nat → Nat) (H : Heap) (V : Nat → Value) : Prop :=
  ∃ cell : Cell, H[o]? = some cell ∧ cell.cls = cC ∧ cell.vm ≠ .unknown ∧ cell.vm.isStatics = false ∧ (own → cell.vm = .none) ∧ ∀ k, k < N → cell.slots[iS k]? = some (V k)
/-- an array: one that the run made, or a constant, of which less is known -/
def bp_AR (G : bp_GT) (t n a : Nat) (H : Heap) (V : Nat → Value) : Prop :=
  ∃ cell : Cell, H[a]? = some cell ∧ cell.vm ≠ .unknown ∧ (∀ q, cell.vm ≠ .statics q) ∧ G.2.2.2.2 t cell.cls ∧ (bp_b G ≤ a → cell = arrV (G.2.1 t) n V) ∧ cell.slots.size = n ∧ ∀ j, j < n → cell.slots[j]? = some (V j)
theorem bp_OB.kept {own : Prop} {o : Nat} {cC : ClassId} {N : Nat} {iS : Nat → Nat} {H H1 : Heap} {V : Nat → Value} (h : bp_OB own o cC N iS H V) (h1 : H1[o]? = H[o]?) : bp_OB own o cC N iS H1 V := by
  obtain ⟨cell, q, r⟩ := h
  exact ⟨cell, by rw [h1]; exact q, r⟩
theorem bp_AR.kept {G : bp_GT} {t n a : Nat} {H H1 : Heap} {V : Nat → Value} (h : bp_AR G t n a H V) (h1 : H1[a]? = H[a]?) : bp_AR G t n a H1 V := by
  obtain ⟨cell, q, r⟩ := h
  exact ⟨cell, by rw [h1]; exact q, r⟩
theorem bp_AR.own {G : bp_GT} {t n a : Nat} {H : Heap} {V : Nat → Value} (ht : G.2.2.2.2 t (G.2.1 t)) (h : H[a]? = some (arrV (G.2.1 t) n V)) : bp_AR G t n a H V :=
  ⟨_, h, (fun z => by cases z), (fun q z => by cases z), ht, fun _ => rfl, arrV_size _ _ _, fun j hj => arrV_read _ _ hj⟩
def bp_C (G : bp_GT) (h : bp_H) (H : Heap) (a : Nat) : Prop :=
  (∀ q : vw_C, bp_cl[(bp_S h a).1]? = some q → bp_OB ((bp_S h a).1 < 8) a (G.1.1 (bp_S h a).1) q.2.2 (G.1.2 (bp_S h a).1) H (fun k => bp_tv (bp_ft (bp_S h a).1 k) (bp_I h a k) (bp_L h a k) (bp_R h a k))) ∧
  ∀ ty : FieldType, bp_et (bp_S h a).1 = some ty → bp_AR G (bp_S h a).1 (bp_S h a).2 a H (fun k => bp_tv ty (bp_I h a k) (bp_L h a k) (bp_R h a k))
/-- the machine's heap holds the pure one -/
def bp_Rel (G : bp_GT) (h : bp_H) (H : Heap) : Prop :=
  H.size = bp_Z h ∧ bp_b G = bp_B h ∧ bp_b G ≤ H.size ∧ G.2.2.2.1 = bp_s h ∧ (∀ q, q < bp_b G → H[q]? = G.2.2.1[q]?) ∧ ∀ a, bp_C G h H a
/-- statics that hold objects -/
abbrev bp_st : List (String × String × String) := [("BilevelPages", "KINDS", "[LBilevelPages$Kind;"), ("BilevelPages", "FIRST", "[I"), ("BilevelPages", "REGION_LEAST", "[I"), ("BilevelPages", "REGION_MOST", "[I"), ("BilevelPages", "PAGE_LEAST", "[I"), ("BilevelPages", "PAGE_MOST", "[I"), ("BilevelPages", "OTHER_LEAST", "[I"), ("BilevelPages", "OTHER_MOST", "[I"), ("java/util/ArrayList", "DEFAULTCAPACITY_EMPTY_ELEMENTDATA", "[Ljava/lang/Object;"), ("java/lang/Throwable", "UNASSIGNED_STACK", "[Ljava/lang/StackTraceElement;"), ("java/lang/Throwable", "SUPPRESSED_SENTINEL", "Ljava/util/List;"), ("BilevelPages$Kind", "DICTIONARY", "LBilevelPages$Kind;"), ("BilevelPages$Kind", "KEPT", "LBilevelPages$Kind;"), ("BilevelPages$Kind", "DRAWN", "LBilevelPages$Kind;"), ("BilevelPages$Kind", "PLAIN", "LBilevelPages$Kind;"), ("BilevelPages$Kind", "SHEET", "LBilevelPages$Kind;"), ("BilevelPages$Kind", "SHEET_END", "LBilevelPages$Kind;"), ("BilevelPages$Kind", "STRIPE", "LBilevelPages$Kind;"), ("BilevelPages$Kind", "ALL", "LBilevelPages$Kind;"), ("BilevelPages$Kind", "TABLES", "LBilevelPages$Kind;"), ("BilevelPages$Kind", "EXTENSION", "LBilevelPages$Kind;")]
/-- words that speak of nest mates, casts and interfaces -/
def bp_nk (w : Cond) : Bool := match w with
  | .fieldLinkNest _ _ _ _ _ _ => true
  | .methodLinkNest _ _ _ _ => true
  | .castable _ _ => true
  | .declares _ => true
  | _ => false
def bp_nw : List Cond := lw_tbl.filter bp_nk
/-- classes that aren't castable to others, for handlers -/
abbrev bp_nc : List (String × String) := [("java/lang/UnsupportedOperationException", "java/lang/IllegalArgumentException"), ("java/lang/UnsupportedOperationException", "java/lang/IndexOutOfBoundsException"), ("java/lang/UnsupportedOperationException", "java/lang/IllegalStateException"), ("java/lang/IllegalStateException", "java/lang/IndexOutOfBoundsException"), ("java/lang/IllegalArgumentException", "java/lang/IndexOutOfBoundsException"), ("java/lang/IllegalArgumentException", "java/lang/IllegalStateException"), ("java/lang/IndexOutOfBoundsException", "java/lang/IllegalStateException")]
abbrev bp_xHN : MethodName := ⟨"java/util/Iterator", "hasNext", "()Z"⟩
abbrev bp_xNX : MethodName := ⟨"java/util/Iterator", "next", "()Ljava/lang/Object;"⟩
def bp_K (G : bp_GT) (U : State) : Prop :=
  va_K G.1 bp_cl (bp_tys G) U ∧ (∀ (i : Nat) (q : String × String × String), bp_st[i]? = some q → va_Z q.1 q.2.1 q.2.2 (va_rf (G.2.2.2.1 i)) (fun a => bp_b G ≤ a) U G.2.2.1) ∧ (∀ w ∈ bp_nw, va_Nw w U) ∧
  (∀ k, k < 3 → ∃ (cf : ClassId) (kf : Class) (fi : Nat) (f : Field), U.fieldFound? (bp_TK k).1 (bp_TK k).2.1 (bp_TK k).2.2.1 = some (cf, kf, fi, f) ∧ f.isStatic = false) ∧
  va_AO RX4 U ∧ va_AO RX3 U ∧ va_AO "java/lang/Object" U ∧
  vx_Zq Bundle.tN "UNASSIGNED_STACK" Bundle.steD (fun a => bp_b G ≤ a) U G.2.2.1 ∧ vx_Zq Bundle.tN "SUPPRESSED_SENTINEL" Bundle.listD (fun a => bp_b G ≤ a) U G.2.2.1 ∧
  va_Fw RJ18 bp_xHN yJ18_hasNext U ∧ va_Fw RJ18 bp_xNX yJ18_next U ∧ va_Dc U ∧ (∃ mi : Nat, G.2.2.2.1 21 = some mi ∧ va_Mi "[Ljava/lang/Object;" mi U) ∧ (∀ q ∈ bp_nc, va_Nc q.1 q.2 U) ∧
  ∀ (t : Nat) (ty : FieldType), bp_et t = some ty → G.2.2.2.2 t (G.2.1 t) ∧ ∀ c : ClassId, G.2.2.2.2 t c → ∃ (k : Class) (comp : ClassId), U.vm.classes[c]? = some k ∧ k.kind = .array comp ty
theorem bp_K.moved {G : bp_GT} {u U : State} (hW : u.WarmedH U.vm) (h : bp_K G u) : bp_K G U := by
  obtain ⟨h1, h2, h3, h10, h4, h5, h6, h7, h8, h11, h12, h13, ⟨mi, h14, h15⟩, h16, h17⟩ := h
  refine ⟨h1.moved hW.alike, fun i q hq => (h2 i q hq).moved hW.alike, fun w hw => ?_, fun k hk => ?_, va_AO.moved hW.alike h4, va_AO.moved hW.alike h5, va_AO.moved hW.alike h6, vx_Zq.moved hW.alike h7, vx_Zq.moved hW.alike h8, va_Fw.moved (by decide) hW.alike h11, va_Fw.moved (by decide) hW.alike h12, va_Dc.moved hW.alike h13, ⟨mi, h14, va_Mi.moved hW.alike h15⟩, fun q hq => va_Nc.moved hW.alike (h16 q hq), fun t ty hty => ⟨(h17 t ty hty).1, fun c hc => ?_⟩⟩
  · have h9 := h3 w hw
    have hk : bp_nk w = true := (List.mem_filter.mp hw).2
    cases w <;> first | exact absurd (show false = true from hk) (by decide) | exact va_Nw.warmF hW h9 | exact va_Nw.warmM hW h9 | exact va_Nw.warmC hW h9 | exact va_Nw.warmD hW h9
  · obtain ⟨cf, kf, fi, f, e1, e2⟩ := h10 k hk
    obtain ⟨k', hi', he⟩ := State.fieldFound?_setVm hW.alike e1
    exact ⟨cf, k', fi, f, hi', e2⟩
  · obtain ⟨k, comp, e1, e2⟩ := (h17 t ty hty).2 c hc
    obtain ⟨k', hk', he⟩ := hW.alike.2.2 _ _ e1
    exact ⟨k', comp, hk', by rw [he]; exact e2⟩
theorem bp_K.same {G : bp_GT} {U V : State} (hv : U.vm = V.vm) (h : bp_K G U) : bp_K G V := by
  refine h.moved ?_
  rw [← hv]
  exact State.WarmedH.refl U
/-- a method: name, code, locals, answer, handlers, frames, words of locals -/
abbrev bp_MI : Type := MethodName × ByteArray × Nat × Option FieldType × List (Nat × Nat × Nat × Nat) × Nat × Nat
abbrev bp_QT (β : Type) : Type := ((bp_E ⊕ β) × bp_H) → Room → State → Array Value → List Frame → State → Prop
def bp_Cx (G : bp_GT) (i : bp_MI) (p : Program) (l : Launch) (R : Room) (s : State) (m : MethodId) (args : Array Value) (meth : Method) (c : Code) : Prop :=
  p.tables.exec = Jvm.exec ∧ c.code = i.2.1 ∧ c.maxLocals = i.2.2.1 ∧ s.vm.findClass i.1.cls = some m.cls ∧ (∀ w ∈ lw_all, w.before args s = true) ∧ meth.locks = false ∧ meth.sig.returnType = i.2.2.2.1 ∧
  c.exceptionTable.toList = tableOf i.2.2.2.2.1 ∧ R.frames = i.2.2.2.2.2.1 ∧ R.locals = i.2.2.2.2.2.2 ∧ meth.name = i.1.name ∧ (l.stackTraces = false ∧ bp_b G ≤ s.heap.size ∧ ∀ q, q < bp_b G → s.heap[q]? = G.2.2.1[q]?) ∧ bp_K G s
def bp_J {β : Type} (G : bp_GT) (i : bp_MI) (Qf : bp_QT β) (P : bp_M β) (pc : Nat) (lv : List (Nat × Value)) (st : List Value) : Prop :=
  ∀ (h : bp_H) (r : (bp_E ⊕ β) × bp_H), P h = some r → (bp_Z h ≤ bp_Z r.2 ∧ bp_N h ≤ bp_N r.2) ∧
    ∀ (p : Program) (l : Launch) (e : Env) (R : Room) (s : State) (m : MethodId) (args : Array Value) (below : List Frame) (meth : Method) (c : Code), bp_Cx G i p l R s m args meth c →
      ∀ (H : Heap) (locs : List Loc) (ls : Array Slot) (cells slots : Nat), bp_Rel G h H → (∀ z ∈ locs, bp_b G ≤ z.base) → lv_has ls i.2.2.1 lv → cells + (bp_Z r.2 - bp_Z h) ≤ R.cells → slots + (bp_N r.2 - bp_N h) ≤ R.slots →
        W p l e R s m args below meth c H locs cells slots (Qf r R s args below) (F0 m pc ls st)
section JR
variable {β : Type} {G : bp_GT} {i : bp_MI} {Qf : bp_QT β} {P P1 P2 : bp_M β} {pc tgt : Nat} {lv lv' : List (Nat × Value)} {st st' : List Value}
theorem bp_j_no : bp_J G i Qf (bp_no : bp_M β) pc lv st := fun h r E => by cases E
/-- an instruction that neither reads nor writes the heap -/
theorem bp_jp {pc' : Nat} (f : ∀ {p : Program} {l : Launch} {e : Env} {R : Room} {s : State} {m : MethodId} {args : Array Value} {below : List Frame} {meth : Method} {c : Code} {H : Heap} {locs : List Loc} {cells slots : Nat} {Q : State → Prop} {ls : Array Slot},
      p.tables.exec = Jvm.exec → c.code = i.2.1 → lv_has ls i.2.2.1 lv → W p l e R s m args below meth c H locs cells slots Q (F0 m pc' ls st') → W p l e R s m args below meth c H locs cells slots Q (F0 m pc ls st))
    (k : bp_J G i Qf P pc' lv st') : bp_J G i Qf P pc lv st := fun h r E => ⟨(k h r E).1, fun p l e R s m args below meth c C H locs ls cells slots hR hL hl hc hs =>
      f C.1 C.2.1 hl ((k h r E).2 p l e R s m args below meth c C H locs ls cells slots hR hL hl hc hs)⟩
/-- .. that writes a local -/
theorem bp_jw {pc' : Nat} (f : ∀ {p : Program} {l : Launch} {e : Env} {R : Room} {s : State} {m : MethodId} {args : Array Value} {below : List Frame} {meth : Method} {c : Code} {H : Heap} {locs : List Loc} {cells slots : Nat} {Q : State → Prop} {ls : Array Slot},
      p.tables.exec = Jvm.exec → c.code = i.2.1 → lv_has ls i.2.2.1 lv → (∀ ls' : Array Slot, lv_has ls' i.2.2.1 lv' → W p l e R s m args below meth c H locs cells slots Q (F0 m pc' ls' st')) → W p l e R s m args below meth c H locs cells slots Q (F0 m pc ls st))
    (k : bp_J G i Qf P pc' lv' st') : bp_J G i Qf P pc lv st := fun h r E => ⟨(k h r E).1, fun p l e R s m args below meth c C H locs ls cells slots hR hL hl hc hs =>
      f C.1 C.2.1 hl fun ls' hl' => (k h r E).2 p l e R s m args below meth c C H locs ls' cells slots hR hL hl' hc hs⟩
/-- .. that reads the constant pool or the tables -/
theorem bp_jt {pc' : Nat} (f : ∀ {p : Program} {l : Launch} {e : Env} {R : Room} {s : State} {m : MethodId} {args : Array Value} {below : List Frame} {meth : Method} {c : Code} {H : Heap} {locs : List Loc} {cells slots : Nat} {Q : State → Prop} {ls : Array Slot},
      bp_Cx G i p l R s m args meth c → W p l e R s m args below meth c H locs cells slots Q (F0 m pc' ls st') → W p l e R s m args below meth c H locs cells slots Q (F0 m pc ls st))
    (k : bp_J G i Qf P pc' lv st') : bp_J G i Qf P pc lv st := fun h r E => ⟨(k h r E).1, fun p l e R s m args below meth c C H locs ls cells slots hR hL hl hc hs =>
      f C ((k h r E).2 p l e R s m args below meth c C H locs ls cells slots hR hL hl hc hs)⟩
/-- a fork -/
theorem bp_jf {c0 : Prop} [Decidable c0] {pc1 pc2 : Nat} (f : ∀ {p : Program} {l : Launch} {e : Env} {R : Room} {s : State} {m : MethodId} {args : Array Value} {below : List Frame} {meth : Method} {c : Code} {H : Heap} {locs : List Loc} {cells slots : Nat} {Q : State → Prop} {ls : Array Slot},
      p.tables.exec = Jvm.exec → c.code = i.2.1 → (c0 → W p l e R s m args below meth c H locs cells slots Q (F0 m pc1 ls st')) → (¬ c0 → W p l e R s m args below meth c H locs cells slots Q (F0 m pc2 ls st')) → W p l e R s m args below meth c H locs cells slots Q (F0 m pc ls st))
    (k1 : bp_J G i Qf P1 pc1 lv st') (k2 : bp_J G i Qf P2 pc2 lv st') : bp_J G i Qf (bp_if c0 P1 P2) pc lv st := by
  intro h r E
  by_cases h0 : c0
  · have E1 : P1 h = some r := by rw [← E]; exact (if_pos h0).symm
    refine ⟨(k1 h r E1).1, fun p l e R s m args below meth c C H locs ls cells slots hR hL hl hc hs => f C.1 C.2.1 (fun _ => (k1 h r E1).2 p l e R s m args below meth c C H locs ls cells slots hR hL hl hc hs) (fun n => absurd h0 n)⟩
  · have E1 : P2 h = some r := by rw [← E]; exact (if_neg h0).symm
    refine ⟨(k2 h r E1).1, fun p l e R s m args below meth c C H locs ls cells slots hR hL hl hc hs => f C.1 C.2.1 (fun n => absurd n h0) (fun _ => (k2 h r E1).2 p l e R s m args below meth c C H locs ls cells slots hR hL hl hc hs)⟩
/-- a fork whose row has the condition denied -/
theorem bp_jg {c0 : Prop} [Decidable c0] {pc1 pc2 : Nat} (f : ∀ {p : Program} {l : Launch} {e : Env} {R : Room} {s : State} {m : MethodId} {args : Array Value} {below : List Frame} {meth : Method} {c : Code} {H : Heap} {locs : List Loc} {cells slots : Nat} {Q : State → Prop} {ls : Array Slot},
      p.tables.exec = Jvm.exec → c.code = i.2.1 → (¬ c0 → W p l e R s m args below meth c H locs cells slots Q (F0 m pc2 ls st')) → (c0 → W p l e R s m args below meth c H locs cells slots Q (F0 m pc1 ls st')) → W p l e R s m args below meth c H locs cells slots Q (F0 m pc ls st))
    (k1 : bp_J G i Qf P1 pc1 lv st') (k2 : bp_J G i Qf P2 pc2 lv st') : bp_J G i Qf (bp_if c0 P1 P2) pc lv st := bp_jf (fun a b c d => f a b d c) k1 k2
theorem bp_j_jn {κ : Sort _} {b : κ → bp_M β} {K : κ} (Pk : κ → Prop) (hK : Pk K) (hb : ∀ K', Pk K' → bp_J G i Qf (b K') pc lv st) : bp_J G i Qf (bp_jn b K) pc lv st := hb K hK
theorem bp_fix_all {κ : Sort _} (Pk : κ → Prop) {bot : κ} {body : κ → κ} (h0 : Pk bot) (hs : ∀ k, Pk k → Pk (body k)) : ∀ n, Pk (bp_fix bot body n)
  | 0 => h0
  | n + 1 => hs _ (bp_fix_all Pk h0 hs n)
theorem bp_j_loop {κ : Sort _} {bot : κ} {body : κ → κ} {app : κ → bp_M β} (Pk : κ → Prop) (h0 : Pk bot) (hs : ∀ k, Pk k → Pk (body k)) (ha : ∀ k, Pk k → bp_J G i Qf (app k) pc lv st) : bp_J G i Qf (bp_loop bot body app) pc lv st :=
  fun h r E => ha _ (bp_fix_all Pk h0 hs (bp_F h)) h r E
theorem bp_j_letI {v : Int32} {K : Int32 → bp_M β} (k : ∀ x, bp_J G i Qf (K x) pc lv (.int x :: st)) : bp_J G i Qf (bp_letI v K) pc lv (.int v :: st) := k v
theorem bp_j_letL {v : Int64} {K : Int64 → bp_M β} (k : ∀ x, bp_J G i Qf (K x) pc lv (.long x :: st)) : bp_J G i Qf (bp_letL v K) pc lv (.long v :: st) := k v
/-- fewer locals known -/
theorem bp_j_sub (ks : List Nat) (hk : lv_pick lv ks = lv') (k : bp_J G i Qf P pc lv' st) : bp_J G i Qf P pc lv st := fun h r E => ⟨(k h r E).1, fun p l e R s m args below meth c C H locs ls cells slots hR hL hl hc hs =>
  (k h r E).2 p l e R s m args below meth c C H locs ls cells slots hR hL (lv_sub hl ks hk) hc hs⟩
theorem bp_j_iadd {x y : Int32} (d : decode i.2.1 pc = .ok (.iadd, 1)) (k : bp_J G i Qf P (pc + 1) lv (.int (x + y) :: st)) : bp_J G i Qf P pc lv (.int y :: .int x :: st) := bp_jp (fun hx hb hl w => lv_iadd hx hb d w) k
theorem bp_j_isub {x y : Int32} (d : decode i.2.1 pc = .ok (.isub, 1)) (k : bp_J G i Qf P (pc + 1) lv (.int (x - y) :: st)) : bp_J G i Qf P pc lv (.int y :: .int x :: st) := bp_jp (fun hx hb hl w => lv_isub hx hb d w) k
theorem bp_j_imul {x y : Int32} (d : decode i.2.1 pc = .ok (.imul, 1)) (k : bp_J G i Qf P (pc + 1) lv (.int (x * y) :: st)) : bp_J G i Qf P pc lv (.int y :: .int x :: st) := bp_jp (fun hx hb hl w => lv_imul hx hb d w) k
theorem bp_j_iand {x y : Int32} (d : decode i.2.1 pc = .ok (.iand, 1)) (k : bp_J G i Qf P (pc + 1) lv (.int (x &&& y) :: st)) : bp_J G i Qf P pc lv (.int y :: .int x :: st) := bp_jp (fun hx hb hl w => lv_iand hx hb d w) k
theorem bp_j_ior {x y : Int32} (d : decode i.2.1 pc = .ok (.ior, 1)) (k : bp_J G i Qf P (pc + 1) lv (.int (x ||| y) :: st)) : bp_J G i Qf P pc lv (.int y :: .int x :: st) := bp_jp (fun hx hb hl w => lv_ior hx hb d w) k
theorem bp_j_ixor {x y : Int32} (d : decode i.2.1 pc = .ok (.ixor, 1)) (k : bp_J G i Qf P (pc + 1) lv (.int (x ^^^ y) :: st)) : bp_J G i Qf P pc lv (.int y :: .int x :: st) := bp_jp (fun hx hb hl w => lv_ixor hx hb d w) k
theorem bp_j_ishl {x y : Int32} (d : decode i.2.1 pc = .ok (.ishl, 1)) (k : bp_J G i Qf P (pc + 1) lv (.int (x <<< (y &&& 31)) :: st)) : bp_J G i Qf P pc lv (.int y :: .int x :: st) := bp_jp (fun hx hb hl w => lv_ishl hx hb d w) k
theorem bp_j_ishr {x y : Int32} (d : decode i.2.1 pc = .ok (.ishr, 1)) (k : bp_J G i Qf P (pc + 1) lv (.int (x >>> (y &&& 31)) :: st)) : bp_J G i Qf P pc lv (.int y :: .int x :: st) := bp_jp (fun hx hb hl w => lv_ishr hx hb d w) k
theorem bp_j_ineg {x : Int32} (d : decode i.2.1 pc = .ok (.ineg, 1)) (k : bp_J G i Qf P (pc + 1) lv (.int (-x) :: st)) : bp_J G i Qf P pc lv (.int x :: st) := bp_jp (fun hx hb hl w => lv_ineg hx hb d w) k
theorem bp_j_ladd {x y : Int64} (d : decode i.2.1 pc = .ok (.ladd, 1)) (k : bp_J G i Qf P (pc + 1) lv (.long (x + y) :: st)) : bp_J G i Qf P pc lv (.long y :: .long x :: st) := bp_jp (fun hx hb hl w => lv_ladd hx hb d w) k
theorem bp_j_lsub {x y : Int64} (d : decode i.2.1 pc = .ok (.lsub, 1)) (k : bp_J G i Qf P (pc + 1) lv (.long (x - y) :: st)) : bp_J G i Qf P pc lv (.long y :: .long x :: st) := bp_jp (fun hx hb hl w => lv_lsub hx hb d w) k
theorem bp_j_lmul {x y : Int64} (d : decode i.2.1 pc = .ok (.lmul, 1)) (k : bp_J G i Qf P (pc + 1) lv (.long (x * y) :: st)) : bp_J G i Qf P pc lv (.long y :: .long x :: st) := bp_jp (fun hx hb hl w => lv_lmul hx hb d w) k
theorem bp_j_land {x y : Int64} (d : decode i.2.1 pc = .ok (.land, 1)) (k : bp_J G i Qf P (pc + 1) lv (.long (x &&& y) :: st)) : bp_J G i Qf P pc lv (.long y :: .long x :: st) := bp_jp (fun hx hb hl w => lv_land hx hb d w) k
theorem bp_j_lor {x y : Int64} (d : decode i.2.1 pc = .ok (.lor, 1)) (k : bp_J G i Qf P (pc + 1) lv (.long (x ||| y) :: st)) : bp_J G i Qf P pc lv (.long y :: .long x :: st) := bp_jp (fun hx hb hl w => lv_lor hx hb d w) k
theorem bp_j_lcmp {x y : Int64} (d : decode i.2.1 pc = .ok (.lcmp, 1)) (k : bp_J G i Qf P (pc + 1) lv (.int (lg_cmp x y) :: st)) : bp_J G i Qf P pc lv (.long y :: .long x :: st) := bp_jp (fun hx hb hl w => W.lcmp hx hb d w) k
theorem bp_j_lshl {x : Int64} {y : Int32} (d : decode i.2.1 pc = .ok (.lshl, 1)) (k : bp_J G i Qf P (pc + 1) lv (.long (x <<< (y.toInt64 &&& 63)) :: st)) : bp_J G i Qf P pc lv (.int y :: .long x :: st) := bp_jp (fun hx hb hl w => lv_lshl hx hb d rfl w) k
theorem bp_j_i2l {x : Int32} (d : decode i.2.1 pc = .ok (.i2l, 1)) (k : bp_J G i Qf P (pc + 1) lv (.long x.toInt64 :: st)) : bp_J G i Qf P pc lv (.int x :: st) := bp_jp (fun hx hb hl w => lv_i2l hx hb d rfl w) k
theorem bp_j_l2i {x : Int64} (d : decode i.2.1 pc = .ok (.l2i, 1)) (k : bp_J G i Qf P (pc + 1) lv (.int x.toInt32 :: st)) : bp_J G i Qf P pc lv (.long x :: st) := bp_jp (fun hx hb hl w => lv_l2i hx hb d rfl w) k
theorem bp_j_i2b {x : Int32} (d : decode i.2.1 pc = .ok (.i2b, 1)) (k : bp_J G i Qf P (pc + 1) lv (.int x.toInt8.toInt32 :: st)) : bp_J G i Qf P pc lv (.int x :: st) := bp_jp (fun hx hb hl w => lv_i2b hx hb d rfl w) k
theorem bp_j_iconst {n : Int} {v : Int32} (d : decode i.2.1 pc = .ok (.iconst n, 1)) (hv : Int32.ofInt n = v) (k : bp_J G i Qf P (pc + 1) lv (.int v :: st)) : bp_J G i Qf P pc lv st := bp_jp (fun hx hb hl w => lv_iconst hx hb d hv w) k
theorem bp_j_bipush {n : Int} {v : Int32} (d : decode i.2.1 pc = .ok (.bipush n, 2)) (hv : (Int8.ofInt n).toInt32 = v) (k : bp_J G i Qf P (pc + 2) lv (.int v :: st)) : bp_J G i Qf P pc lv st := bp_jp (fun hx hb hl w => lv_bipush hx hb d hv w) k
theorem bp_j_sipush {n : Int} {v : Int32} (d : decode i.2.1 pc = .ok (.sipush n, 3)) (hv : (Int16.ofInt n).toInt32 = v) (k : bp_J G i Qf P (pc + 3) lv (.int v :: st)) : bp_J G i Qf P pc lv st := bp_jp (fun hx hb hl w => lv_sipush hx hb d hv w) k
theorem bp_j_lconst {n : Fin 2} {v : Int64} (d : decode i.2.1 pc = .ok (.lconst n, 1)) (hv : Int64.ofNat (n : Nat) = v) (k : bp_J G i Qf P (pc + 1) lv (.long v :: st)) : bp_J G i Qf P pc lv st := bp_jp (fun hx hb hl w => lv_lconst hx hb d hv w) k
theorem bp_j_null (d : decode i.2.1 pc = .ok (.aconst_null, 1)) (k : bp_J G i Qf P (pc + 1) lv (.null :: st)) : bp_J G i Qf P pc lv st := bp_jp (fun hx hb hl w => lv_null hx hb d w) k
theorem bp_j_dup {v : Value} (d : decode i.2.1 pc = .ok (.dup, 1)) (hv : v.category = 1) (k : bp_J G i Qf P (pc + 1) lv (v :: v :: st)) : bp_J G i Qf P pc lv (v :: st) := bp_jp (fun hx hb hl w => lv_dup hx hb d hv w) k
theorem bp_j_pop {v : Value} (d : decode i.2.1 pc = .ok (.pop, 1)) (hv : v.category = 1) (k : bp_J G i Qf P (pc + 1) lv st) : bp_J G i Qf P pc lv (v :: st) := bp_jp (fun hx hb hl w => lv_pop hx hb d hv w) k
theorem bp_j_dup_x1 {v w : Value} (d : decode i.2.1 pc = .ok (.dup_x1, 1)) (hv : v.category = 1) (hw : w.category = 1) (k : bp_J G i Qf P (pc + 1) lv (v :: w :: v :: st)) : bp_J G i Qf P pc lv (v :: w :: st) := bp_jp (fun hx hb hl w => lv_dup_x1 hx hb d hv hw w) k
theorem bp_j_dup2 {v w : Value} (d : decode i.2.1 pc = .ok (.dup2, 1)) (hv : v.category = 1) (hw : w.category = 1) (k : bp_J G i Qf P (pc + 1) lv (v :: w :: v :: w :: st)) : bp_J G i Qf P pc lv (v :: w :: st) := bp_jp (fun hx hb hl w => lv_dup2_11 hx hb d hv hw w) k
theorem bp_j_dup2L {v : Value} (d : decode i.2.1 pc = .ok (.dup2, 1)) (hv : v.category = 2) (k : bp_J G i Qf P (pc + 1) lv (v :: v :: st)) : bp_J G i Qf P pc lv (v :: st) := bp_jp (fun hx hb hl w => lv_dup2_2 hx hb d hv w) k
theorem bp_j_goto {off : Int} (d : decode i.2.1 pc = .ok (.goto off, 3)) (ht : (pc : Int) + off = (tgt : Int)) (k : bp_J G i Qf P tgt lv st) : bp_J G i Qf P pc lv st := bp_jp (fun hx hb hl w => lv_goto hx hb d ht w) k
theorem bp_j_iload_n {k0 : Fin 4} {x : Int32} (q : Nat) (d : decode i.2.1 pc = .ok (.iload_n k0, 1)) (hv : lv[q]? = some ((k0 : Nat), .int x)) (k : bp_J G i Qf P (pc + 1) lv (.int x :: st)) : bp_J G i Qf P pc lv st := bp_jp (fun hx hb hl w => lv_iload_n hx hb d rfl (lv_at hl q hv) w) k
theorem bp_j_iload {i0 : Nat} {x : Int32} (q : Nat) (d : decode i.2.1 pc = .ok (.iload i0, 2)) (hv : lv[q]? = some (i0, .int x)) (k : bp_J G i Qf P (pc + 2) lv (.int x :: st)) : bp_J G i Qf P pc lv st := bp_jp (fun hx hb hl w => lv_iload hx hb d (lv_at hl q hv) w) k
theorem bp_j_lload_n {k0 : Fin 4} {x : Int64} (q : Nat) (d : decode i.2.1 pc = .ok (.lload_n k0, 1)) (hv : lv[q]? = some ((k0 : Nat), .long x)) (k : bp_J G i Qf P (pc + 1) lv (.long x :: st)) : bp_J G i Qf P pc lv st := bp_jp (fun hx hb hl w => lv_lload_n hx hb d rfl (lv_at hl q hv) w) k
theorem bp_j_lload {i0 : Nat} {x : Int64} (q : Nat) (d : decode i.2.1 pc = .ok (.lload i0, 2)) (hv : lv[q]? = some (i0, .long x)) (k : bp_J G i Qf P (pc + 2) lv (.long x :: st)) : bp_J G i Qf P pc lv st := bp_jp (fun hx hb hl w => lv_lload hx hb d (lv_at hl q hv) w) k
theorem bp_j_aload_n {k0 : Fin 4} {x : Nat} (q : Nat) (d : decode i.2.1 pc = .ok (.aload_n k0, 1)) (hv : lv[q]? = some ((k0 : Nat), .ref x)) (k : bp_J G i Qf P (pc + 1) lv (.ref x :: st)) : bp_J G i Qf P pc lv st := bp_jp (fun hx hb hl w => lv_aload_n hx hb d rfl (lv_at hl q hv) w) k
theorem bp_j_aload {i0 : Nat} {x : Nat} (q : Nat) (d : decode i.2.1 pc = .ok (.aload i0, 2)) (hv : lv[q]? = some (i0, .ref x)) (k : bp_J G i Qf P (pc + 2) lv (.ref x :: st)) : bp_J G i Qf P pc lv st := bp_jp (fun hx hb hl w => lv_aload hx hb d (lv_at hl q hv) w) k
theorem bp_j_aload_nR {k0 : Fin 4} {r : Option Nat} (q : Nat) (d : decode i.2.1 pc = .ok (.aload_n k0, 1)) (hv : lv[q]? = some ((k0 : Nat), va_rf r)) (k : bp_J G i Qf P (pc + 1) lv (va_rf r :: st)) : bp_J G i Qf P pc lv st := bp_jp (fun hx hb hl w => by
  cases r with
  | none => exact lv_aload_nN hx hb d rfl (lv_at hl q hv) w
  | some a => exact lv_aload_n hx hb d rfl (lv_at hl q hv) w) k
theorem bp_j_aloadR {i0 : Nat} {r : Option Nat} (q : Nat) (d : decode i.2.1 pc = .ok (.aload i0, 2)) (hv : lv[q]? = some (i0, va_rf r)) (k : bp_J G i Qf P (pc + 2) lv (va_rf r :: st)) : bp_J G i Qf P pc lv st := bp_jp (fun hx hb hl w => by
  cases r with
  | none => exact lv_aloadN hx hb d (lv_at hl q hv) w
  | some a => exact lv_aload hx hb d (lv_at hl q hv) w) k
theorem bp_j_istore_n {k0 : Fin 4} {x : Int32} (d : decode i.2.1 pc = .ok (.istore_n k0, 1)) (hn : (k0 : Nat) < i.2.2.1) (hf : ((k0 : Nat), Value.int x) :: lv.filter (fun q => !(q.1 == (k0 : Nat)) && !(q.1 + 1 == (k0 : Nat) && q.2.category == 2)) = lv') (k : bp_J G i Qf P (pc + 1) lv' st) : bp_J G i Qf P pc lv (.int x :: st) := bp_jw (fun hx hb hl w => lv_istore_n hx hb d rfl hl hn hf w) k
theorem bp_j_istore {i0 : Nat} {x : Int32} (d : decode i.2.1 pc = .ok (.istore i0, 2)) (hn : i0 < i.2.2.1) (hf : (i0, Value.int x) :: lv.filter (fun q => !(q.1 == i0) && !(q.1 + 1 == i0 && q.2.category == 2)) = lv') (k : bp_J G i Qf P (pc + 2) lv' st) : bp_J G i Qf P pc lv (.int x :: st) := bp_jw (fun hx hb hl w => lv_istore hx hb d hl hn hf w) k
theorem bp_j_lstore_n {k0 : Fin 4} {x : Int64} (d : decode i.2.1 pc = .ok (.lstore_n k0, 1)) (hn : (k0 : Nat) + 1 < i.2.2.1) (hf : ((k0 : Nat), Value.long x) :: lv.filter (fun q => !(q.1 == (k0 : Nat)) && (!(q.1 == (k0 : Nat) + 1) && !(q.1 + 1 == (k0 : Nat) && q.2.category == 2))) = lv') (k : bp_J G i Qf P (pc + 1) lv' st) : bp_J G i Qf P pc lv (.long x :: st) := bp_jw (fun hx hb hl w => lv_lstore_n hx hb d rfl hl hn hf w) k
theorem bp_j_lstore {i0 : Nat} {x : Int64} (d : decode i.2.1 pc = .ok (.lstore i0, 2)) (hn : i0 + 1 < i.2.2.1) (hf : (i0, Value.long x) :: lv.filter (fun q => !(q.1 == i0) && (!(q.1 == i0 + 1) && !(q.1 + 1 == i0 && q.2.category == 2))) = lv') (k : bp_J G i Qf P (pc + 2) lv' st) : bp_J G i Qf P pc lv (.long x :: st) := bp_jw (fun hx hb hl w => lv_lstore hx hb d hl hn hf w) k
theorem bp_j_astore_n {k0 : Fin 4} {x : Nat} (d : decode i.2.1 pc = .ok (.astore_n k0, 1)) (hn : (k0 : Nat) < i.2.2.1) (hf : ((k0 : Nat), Value.ref x) :: lv.filter (fun q => !(q.1 == (k0 : Nat)) && !(q.1 + 1 == (k0 : Nat) && q.2.category == 2)) = lv') (k : bp_J G i Qf P (pc + 1) lv' st) : bp_J G i Qf P pc lv (.ref x :: st) := bp_jw (fun hx hb hl w => lv_astore_n hx hb d rfl hl hn hf w) k
theorem bp_j_astore {i0 : Nat} {x : Nat} (d : decode i.2.1 pc = .ok (.astore i0, 2)) (hn : i0 < i.2.2.1) (hf : (i0, Value.ref x) :: lv.filter (fun q => !(q.1 == i0) && !(q.1 + 1 == i0 && q.2.category == 2)) = lv') (k : bp_J G i Qf P (pc + 2) lv' st) : bp_J G i Qf P pc lv (.ref x :: st) := bp_jw (fun hx hb hl w => lv_astore hx hb d hl hn hf w) k
theorem bp_j_astore_nR {k0 : Fin 4} {r : Option Nat} (d : decode i.2.1 pc = .ok (.astore_n k0, 1)) (hn : (k0 : Nat) < i.2.2.1) (hf : ((k0 : Nat), va_rf r) :: lv.filter (fun q => !(q.1 == (k0 : Nat)) && !(q.1 + 1 == (k0 : Nat) && q.2.category == 2)) = lv') (k : bp_J G i Qf P (pc + 1) lv' st) : bp_J G i Qf P pc lv (va_rf r :: st) := bp_jw (fun hx hb hl w => by
  cases r with
  | none => exact lv_astore_nN hx hb d rfl hl hn hf w
  | some a => exact lv_astore_n hx hb d rfl hl hn hf w) k
theorem bp_j_astoreR {i0 : Nat} {r : Option Nat} (d : decode i.2.1 pc = .ok (.astore i0, 2)) (hn : i0 < i.2.2.1) (hf : (i0, va_rf r) :: lv.filter (fun q => !(q.1 == i0) && !(q.1 + 1 == i0 && q.2.category == 2)) = lv') (k : bp_J G i Qf P (pc + 2) lv' st) : bp_J G i Qf P pc lv (va_rf r :: st) := bp_jw (fun hx hb hl w => by
  cases r with
  | none => exact lv_astoreN hx hb d hl hn hf w
  | some a => exact lv_astore hx hb d hl hn hf w) k
theorem bp_j_iinc {i0 : Nat} {n : Int} {x v : Int32} (q : Nat) (d : decode i.2.1 pc = .ok (.iinc i0 n, 3)) (hk : lv[q]? = some (i0, .int x)) (hv : x + Int32.ofInt n = v) (hn : i0 < i.2.2.1) (hf : (i0, Value.int v) :: lv.filter (fun q => !(q.1 == i0) && !(q.1 + 1 == i0 && q.2.category == 2)) = lv') (k : bp_J G i Qf P (pc + 3) lv' st) : bp_J G i Qf P pc lv st := bp_jw (fun hx hb hl w => lv_iinc hx hb d hl hk hv hn hf w) k
theorem bp_j_icmp_eq {x y : Int32} {off : Int} (d : decode i.2.1 pc = .ok (.if_icmp .eq off, 3)) (ht : (pc : Int) + off = (tgt : Int)) (k1 : bp_J G i Qf P1 tgt lv st) (k2 : bp_J G i Qf P2 (pc + 3) lv st) : bp_J G i Qf (bp_if (x = y) P1 P2) pc lv (.int y :: .int x :: st) := bp_jf (fun hx hb a b => lv_icmp_eq hx hb d ht a b) k1 k2
theorem bp_j_icmp_lt {x y : Int32} {off : Int} (d : decode i.2.1 pc = .ok (.if_icmp .lt off, 3)) (ht : (pc : Int) + off = (tgt : Int)) (k1 : bp_J G i Qf P1 tgt lv st) (k2 : bp_J G i Qf P2 (pc + 3) lv st) : bp_J G i Qf (bp_if (x < y) P1 P2) pc lv (.int y :: .int x :: st) := bp_jf (fun hx hb a b => lv_icmp_lt hx hb d ht a b) k1 k2
theorem bp_j_icmp_ge {x y : Int32} {off : Int} (d : decode i.2.1 pc = .ok (.if_icmp .ge off, 3)) (ht : (pc : Int) + off = (tgt : Int)) (k1 : bp_J G i Qf P1 tgt lv st) (k2 : bp_J G i Qf P2 (pc + 3) lv st) : bp_J G i Qf (bp_if (y ≤ x) P1 P2) pc lv (.int y :: .int x :: st) := bp_jf (fun hx hb a b => lv_icmp_ge hx hb d ht a b) k1 k2
theorem bp_j_icmp_gt {x y : Int32} {off : Int} (d : decode i.2.1 pc = .ok (.if_icmp .gt off, 3)) (ht : (pc : Int) + off = (tgt : Int)) (k1 : bp_J G i Qf P1 tgt lv st) (k2 : bp_J G i Qf P2 (pc + 3) lv st) : bp_J G i Qf (bp_if (y < x) P1 P2) pc lv (.int y :: .int x :: st) := bp_jf (fun hx hb a b => lv_icmp_gt hx hb d ht a b) k1 k2
theorem bp_j_icmp_le {x y : Int32} {off : Int} (d : decode i.2.1 pc = .ok (.if_icmp .le off, 3)) (ht : (pc : Int) + off = (tgt : Int)) (k1 : bp_J G i Qf P1 tgt lv st) (k2 : bp_J G i Qf P2 (pc + 3) lv st) : bp_J G i Qf (bp_if (x ≤ y) P1 P2) pc lv (.int y :: .int x :: st) := bp_jf (fun hx hb a b => lv_icmp_le hx hb d ht a b) k1 k2
theorem bp_j_icmp_ne {x y : Int32} {off : Int} (d : decode i.2.1 pc = .ok (.if_icmp .ne off, 3)) (ht : (pc : Int) + off = (tgt : Int)) (k2 : bp_J G i Qf P2 tgt lv st) (k1 : bp_J G i Qf P1 (pc + 3) lv st) : bp_J G i Qf (bp_if (x = y) P1 P2) pc lv (.int y :: .int x :: st) := bp_jg (fun hx hb a b => lv_icmp_ne hx hb d ht a b) k1 k2
theorem bp_j_if_eq {x : Int32} {off : Int} (d : decode i.2.1 pc = .ok (.ifCond .eq off, 3)) (ht : (pc : Int) + off = (tgt : Int)) (k1 : bp_J G i Qf P1 tgt lv st) (k2 : bp_J G i Qf P2 (pc + 3) lv st) : bp_J G i Qf (bp_if (x = 0) P1 P2) pc lv (.int x :: st) := bp_jf (fun hx hb a b => lv_if_eq hx hb d ht a b) k1 k2
theorem bp_j_if_lt {x : Int32} {off : Int} (d : decode i.2.1 pc = .ok (.ifCond .lt off, 3)) (ht : (pc : Int) + off = (tgt : Int)) (k1 : bp_J G i Qf P1 tgt lv st) (k2 : bp_J G i Qf P2 (pc + 3) lv st) : bp_J G i Qf (bp_if (x < 0) P1 P2) pc lv (.int x :: st) := bp_jf (fun hx hb a b => lv_if_lt hx hb d ht a b) k1 k2
theorem bp_j_if_ge {x : Int32} {off : Int} (d : decode i.2.1 pc = .ok (.ifCond .ge off, 3)) (ht : (pc : Int) + off = (tgt : Int)) (k1 : bp_J G i Qf P1 tgt lv st) (k2 : bp_J G i Qf P2 (pc + 3) lv st) : bp_J G i Qf (bp_if (0 ≤ x) P1 P2) pc lv (.int x :: st) := bp_jf (fun hx hb a b => lv_if_ge hx hb d ht a b) k1 k2
theorem bp_j_if_gt {x : Int32} {off : Int} (d : decode i.2.1 pc = .ok (.ifCond .gt off, 3)) (ht : (pc : Int) + off = (tgt : Int)) (k1 : bp_J G i Qf P1 tgt lv st) (k2 : bp_J G i Qf P2 (pc + 3) lv st) : bp_J G i Qf (bp_if (0 < x) P1 P2) pc lv (.int x :: st) := bp_jf (fun hx hb a b => lv_if_gt hx hb d ht a b) k1 k2
theorem bp_j_if_le {x : Int32} {off : Int} (d : decode i.2.1 pc = .ok (.ifCond .le off, 3)) (ht : (pc : Int) + off = (tgt : Int)) (k1 : bp_J G i Qf P1 tgt lv st) (k2 : bp_J G i Qf P2 (pc + 3) lv st) : bp_J G i Qf (bp_if (x ≤ 0) P1 P2) pc lv (.int x :: st) := bp_jf (fun hx hb a b => lv_if_le hx hb d ht a b) k1 k2
theorem bp_j_if_ne {x : Int32} {off : Int} (d : decode i.2.1 pc = .ok (.ifCond .ne off, 3)) (ht : (pc : Int) + off = (tgt : Int)) (k2 : bp_J G i Qf P2 tgt lv st) (k1 : bp_J G i Qf P1 (pc + 3) lv st) : bp_J G i Qf (bp_if (x = 0) P1 P2) pc lv (.int x :: st) := bp_jg (fun hx hb a b => lv_if_ne hx hb d ht a b) k1 k2
theorem bp_j_acmp_eq {x y : Option Nat} {off : Int} (d : decode i.2.1 pc = .ok (.if_acmp .eq off, 3)) (ht : (pc : Int) + off = (tgt : Int)) (k1 : bp_J G i Qf P1 tgt lv st) (k2 : bp_J G i Qf P2 (pc + 3) lv st) : bp_J G i Qf (bp_if (x = y) P1 P2) pc lv (va_rf y :: va_rf x :: st) := bp_jf (fun hx hb a b => lv_acmp_eq hx hb d ht a b) k1 k2
theorem bp_j_acmp_ne {x y : Option Nat} {off : Int} (d : decode i.2.1 pc = .ok (.if_acmp .ne off, 3)) (ht : (pc : Int) + off = (tgt : Int)) (k2 : bp_J G i Qf P2 tgt lv st) (k1 : bp_J G i Qf P1 (pc + 3) lv st) : bp_J G i Qf (bp_if (x = y) P1 P2) pc lv (va_rf y :: va_rf x :: st) := bp_jg (fun hx hb a b => lv_acmp_ne hx hb d ht a b) k1 k2
theorem bp_j_ifnull {x : Option Nat} {off : Int} (d : decode i.2.1 pc = .ok (.ifnull off, 3)) (ht : (pc : Int) + off = (tgt : Int)) (k1 : bp_J G i Qf P1 tgt lv st) (k2 : bp_J G i Qf P2 (pc + 3) lv st) : bp_J G i Qf (bp_if (x = none) P1 P2) pc lv (va_rf x :: st) := bp_jf (fun hx hb a b => by
  cases x with
  | none => exact lv_ifnullN hx hb d ht (a rfl)
  | some q => exact lv_ifnull hx hb d (b (fun z => nomatch z))) k1 k2
theorem bp_j_ifnonnull {x : Option Nat} {off : Int} (d : decode i.2.1 pc = .ok (.ifnonnull off, 3)) (ht : (pc : Int) + off = (tgt : Int)) (k2 : bp_J G i Qf P2 tgt lv st) (k1 : bp_J G i Qf P1 (pc + 3) lv st) : bp_J G i Qf (bp_if (x = none) P1 P2) pc lv (va_rf x :: st) := bp_jf (fun hx hb a b => by
  cases x with
  | none => exact lv_ifnonnullN hx hb d (a rfl)
  | some q => exact lv_ifnonnull hx hb d ht (b (fun z => nomatch z))) k1 k2
theorem bp_j_idiv {x y : Int32} (d : decode i.2.1 pc = .ok (.idiv, 1)) (k : bp_J G i Qf P (pc + 1) lv (.int (x / y) :: st)) : bp_J G i Qf (bp_nz y P) pc lv (.int y :: .int x :: st) := by
  intro h r E
  by_cases h0 : y = 0
  · rw [show bp_nz y P h = none from if_pos h0] at E
    cases E
  · rw [show bp_nz y P h = P h from if_neg h0] at E
    exact ⟨(k h r E).1, fun p l e R s m args below meth c C H locs ls cells slots hR hL hl hc hs => lv_idiv C.1 C.2.1 d h0 ((k h r E).2 p l e R s m args below meth c C H locs ls cells slots hR hL hl hc hs)⟩
theorem bp_j_irem {x y : Int32} (d : decode i.2.1 pc = .ok (.irem, 1)) (k : bp_J G i Qf P (pc + 1) lv (.int (x - x / y * y) :: st)) : bp_J G i Qf (bp_nz y P) pc lv (.int y :: .int x :: st) := by
  intro h r E
  by_cases h0 : y = 0
  · rw [show bp_nz y P h = none from if_pos h0] at E
    cases E
  · rw [show bp_nz y P h = P h from if_neg h0] at E
    exact ⟨(k h r E).1, fun p l e R s m args below meth c C H locs ls cells slots hR hL hl hc hs => lv_irem C.1 C.2.1 d h0 ((k h r E).2 p l e R s m args below meth c C H locs ls cells slots hR hL hl hc hs)⟩
theorem bp_j_ldc {index : Nat} {v : Int32} (hw : Cond.constant i.1.cls index v ∈ lw_all) (d : decode i.2.1 pc = .ok (.ldc index, 2)) (k : bp_J G i Qf P (pc + 2) lv (.int v :: st)) : bp_J G i Qf P pc lv st := bp_jt (fun C w => lv_ldc C.1 C.2.1 C.2.2.2.1 (C.2.2.2.2.1 _ hw) d w) k
theorem bp_j_ldc2 {index : Nat} {v : Int64} (hw : Cond.constantLong i.1.cls index v ∈ lw_all) (d : decode i.2.1 pc = .ok (.ldc2_w index, 3)) (k : bp_J G i Qf P (pc + 3) lv (.long v :: st)) : bp_J G i Qf P pc lv st := bp_jt (fun C w => lv_ldc2 C.1 C.2.1 C.2.2.2.1 (C.2.2.2.2.1 _ hw) d w) k
def bp_JS (G : bp_GT) (i : bp_MI) (Qf : bp_QT β) (lv : List (Nat × Value)) (st : List Value) : List (Int × bp_M β) → List Nat → Prop
  | (_, P) :: r, t :: ts => bp_J G i Qf P t lv st ∧ bp_JS G i Qf lv st r ts
  | [], [] => True
  | _, _ => False
theorem bp_j_tsw {dflt lo hi : Int} {offs : Array Int} {len : Nat} {x : Int32} {cs : List (Int × bp_M β)} (ts : List Nat) (d : decode i.2.1 pc = .ok (.tableswitch dflt lo hi offs, len)) (hn : hi + 1 - lo = cs.length) (hv : cs.map (·.1) = (List.range cs.length).map (fun (n : Nat) => lo + (n : Int))) (ho : offs.toList = ts.map (fun (t : Nat) => (t : Int) - (pc : Int))) (hd : (pc : Int) + dflt = (tgt : Int))
    (hk : bp_JS G i Qf lv st cs ts) (k : bp_J G i Qf P tgt lv st) : bp_J G i Qf (bp_sw x.toInt cs P) pc lv (.int x :: st) := by
  have key : ∀ (cs : List (Int × bp_M β)) (ts : List Nat) (n0 : Nat), bp_JS G i Qf lv st cs ts → cs.map (·.1) = (List.range cs.length).map (fun (n : Nat) => lo + n0 + (n : Int)) → ∀ (h : bp_H) (r : (bp_E ⊕ β) × bp_H), bp_sw x.toInt cs P h = some r →
      (∃ (j : Nat) (t : Nat) (P1 : bp_M β), j < cs.length ∧ x.toInt = lo + n0 + j ∧ ts[j]? = some t ∧ bp_J G i Qf P1 t lv st ∧ P1 h = some r) ∨ ((x.toInt < lo + n0 ∨ lo + n0 + cs.length ≤ x.toInt) ∧ P h = some r) := by
    intro cs
    induction cs with
    | nil =>
      intro ts n0 hk hv h r E
      refine Or.inr ⟨?_, E⟩
      simp
      omega
    | cons q cs ih =>
      intro ts n0 hk hv h r E
      obtain ⟨v, P1⟩ := q
      cases ts with
      | nil => exact absurd hk (fun z => z)
      | cons t ts =>
        obtain ⟨hk1, hk2⟩ := hk
        rw [List.length_cons, List.range_succ_eq_map, List.map_cons, List.map_cons, List.map_map] at hv
        obtain ⟨hv1, hv2⟩ := List.cons.inj hv
        have hv1 : v = lo + n0 := by
          have : v = lo + n0 + ((0 : Nat) : Int) := hv1
          omega
        by_cases hx : x.toInt = v
        · have E1 : P1 h = some r := by rw [← E]; exact (if_pos hx).symm
          exact Or.inl ⟨0, t, P1, by simp, by simp; omega, rfl, hk1, E1⟩
        · have E1 : bp_sw x.toInt cs P h = some r := by rw [← E]; exact (if_neg hx).symm
          have hv3 : cs.map (·.1) = (List.range cs.length).map (fun (n : Nat) => lo + (n0 + 1 : Nat) + (n : Int)) := by
            rw [hv2]
            apply List.map_congr_left
            intro n _
            show lo + n0 + ((n + 1 : Nat) : Int) = _
            omega
          rcases ih ts (n0 + 1) hk2 hv3 h r E1 with ⟨j, t', P2, h1, h2, h3, h4, h5⟩ | ⟨h1, h2⟩
          · exact Or.inl ⟨j + 1, t', P2, by simp; omega, by omega, h3, h4, h5⟩
          · refine Or.inr ⟨?_, h2⟩
            rw [List.length_cons]
            omega
  intro h r E
  rcases key cs ts 0 hk (by simpa using hv) h r E with ⟨j, t, P1, h1, h2, h3, h4, h5⟩ | ⟨h1, h2⟩
  · refine ⟨(h4 h r h5).1, fun p l e R s m args below meth c C H locs ls cells slots hR hL hl hc hs => ?_⟩
    have h6 : offs[j]? = some ((t : Int) - (pc : Int)) := by
      rw [← Array.getElem?_toList, ho, List.getElem?_map, h3]
      rfl
    have h7 : (x.toInt - lo).toNat = j := by omega
    exact lv_tableIn C.1 C.2.1 d (by omega) (by omega) (off := (t : Int) - (pc : Int)) (by rw [h7]; exact h6) (by omega) ((h4 h r h5).2 p l e R s m args below meth c C H locs ls cells slots hR hL hl hc hs)
  · refine ⟨(k h r h2).1, fun p l e R s m args below meth c C H locs ls cells slots hR hL hl hc hs => ?_⟩
    exact lv_tableOut C.1 C.2.1 d (by omega) hd ((k h r h2).2 p l e R s m args below meth c C H locs ls cells slots hR hL hl hc hs)
end JR
