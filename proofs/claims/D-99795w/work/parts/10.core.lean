/-! ===== THE SMALL WORLD: values, a heap of numbered cells, what it means of the machine ===== -/
set_option maxRecDepth 100000
/-- a value: an int, a long, a reference (0: null) -/
abbrev ev_V : Type := Int32 ⊕ (Int64 ⊕ Nat)
abbrev vI (x : Int32) : ev_V := Sum.inl x
abbrev vJ (x : Int64) : ev_V := Sum.inr (Sum.inl x)
abbrev vR (x : Nat) : ev_V := Sum.inr (Sum.inr x)
/-- a heap: next free number, kind of a cell, length of a cell, its ints, its longs, its references -/
abbrev ev_H : Type := Nat × (Nat → Nat) × (Nat → Nat) × (Nat → Nat → Int32) × (Nat → Nat → Int64) × (Nat → Nat → Nat)
def hN (h : ev_H) : Nat := h.1
def hK (h : ev_H) : Nat → Nat := h.2.1
def hL (h : ev_H) : Nat → Nat := h.2.2.1
def hI (h : ev_H) : Nat → Nat → Int32 := h.2.2.2.1
def hJ (h : ev_H) : Nat → Nat → Int64 := h.2.2.2.2.1
def hR (h : ev_H) : Nat → Nat → Nat := h.2.2.2.2.2
def u2 {α : Type} (f : Nat → Nat → α) (a k : Nat) (v : α) : Nat → Nat → α := fun b j => if b = a ∧ j = k then v else f b j
def u1 {α : Type} (f : Nat → α) (a : Nat) (v : α) : Nat → α := fun b => if b = a then v else f b
def sI (h : ev_H) (a k : Nat) (v : Int32) : ev_H := (hN h, hK h, hL h, u2 (hI h) a k v, hJ h, hR h)
def sJ (h : ev_H) (a k : Nat) (v : Int64) : ev_H := (hN h, hK h, hL h, hI h, u2 (hJ h) a k v, hR h)
def sR (h : ev_H) (a k : Nat) (v : Nat) : ev_H := (hN h, hK h, hL h, hI h, hJ h, u2 (hR h) a k v)
/-- a new cell of kind c and length n, all zero -/
def nO (h : ev_H) (c n : Nat) : ev_H := (hN h + 1, u1 (hK h) (hN h) c, u1 (hL h) (hN h) n, u1 (hI h) (hN h) (fun _ => 0), u1 (hJ h) (hN h) (fun _ => 0), u1 (hR h) (hN h) (fun _ => 0))
/-- the classes: number, name, fields -/
def ev_cd : List (vw_C × (Nat → FieldType)) := [((RX0, TX0, 24), tyX0), ((RX1, TX1, 8), tyX1), ((RX2, TX2, 6), tyX2), ((RX3, TX3, 7), tyX3), ((RX4, TX4, 65), tyX4), ((RX5, TX5, 11), tyX5), ((RX6, TX6, 1), tyX6), ((RX7, TX7, 2), tyX7), ((RX8, TX8, 8), tyX8), ((RX9, TX9, 5), tyX9), ((RX10, TX10, 1), tyX10), ((RX11, TX11, 1), tyX11), ((RX12, TX12, 3), tyX12), ((RX13, TX13, 6), tyX13), ((RX14, TX0, 0), tyX0), ((RX15, TX0, 0), tyX0), ((RX16, TX0, 0), tyX0), ((RX17, TX0, 0), tyX0), ((RX18, TX0, 0), tyX0), ((RX19, TX0, 0), tyX0), ((RJ2, TJ2, 3), tyJ2), ((RJ6, TJ6, 4), tyJ6), ((RJ7, TJ7, 4), tyJ7)]
def ev_cl : List vw_C := ev_cd.map (fun q => q.1)
/-- the arrays' component types by their numbers -/
def ev_at : Nat → FieldType := fun t => match t with
  | 0 => .int
  | 1 => .byte
  | 2 => .boolean
  | 3 => .long
  | 4 => .object "java/lang/Object"
  | 5 => .object "PepperTables$Table"
  | _ => .array .int
/-- how many cells were there before the law began (constants have the numbers 1 .. ev_c) -/
def ev_c : Nat := 63
/-- what is fixed for a run: launch, classes' and slots' numbers, arrays' classes, the constants' addresses, the heap's size at the law's entry -/
abbrev ev_G : Type := Launch × va_G × (Nat → ClassId) × (Nat → Nat) × Nat
def gz (G : ev_G) : Nat := G.2.2.2.2
def ga (G : ev_G) (a : Nat) : Nat := if a ≤ ev_c then G.2.2.2.1 a else gz G + (a - ev_c - 1)
def go (G : ev_G) (r : Nat) : Option Nat := if r = 0 then none else some (ga G r)
def tv (G : ev_G) (v : ev_V) : Value := match v with
  | .inl x => .int x
  | .inr (.inl y) => .long y
  | .inr (.inr r) => va_rf (go G r)
def gtys (G : ev_G) : List (ClassId × FieldType) := (List.range 7).map (fun t => (G.2.2.1 t, ev_at t))
def ev_fv (G : ev_G) (h : ev_H) (a : Nat) (ty : FieldType) (k : Nat) : Value := match ty with
  | .long => .long (hJ h a k)
  | .object _ => va_rf (go G (hR h a k))
  | .array _ => va_rf (go G (hR h a k))
  | _ => .int (hI h a k)
def ev_fs (G : ev_G) (h : ev_H) (a : Nat) (q : vw_C × (Nat → FieldType)) : List Value := (List.range q.1.2.2).map (fun k => ev_fv G h a (q.2 k) k)
def ev_ac (G : ev_G) (h : ev_H) (a : Nat) (ty : FieldType) : vp_A := (hL h a, match ty with
  | .long => .inr (.inl (hJ h a))
  | .object _ => .inr (.inr (.inr (.inr (fun j => go G (hR h a j)))))
  | .array _ => .inr (.inr (.inr (.inr (fun j => go G (hR h a j)))))
  | _ => .inl (hI h a))
def ev_q (c : Nat) : vw_C × (Nat → FieldType) := ev_cd.getD c ((RX0, TX0, 24), tyX0)
/-- a cell of the small heap as the kit's cell: kinds 1 .. 99 objects, 100 .. arrays -/
def ev_e (G : ev_G) (h : ev_H) (a : Nat) : va_E := if hK h a < 100 then .inr (hK h a - 1, ev_fs G h a (ev_q (hK h a - 1))) else .inl (G.2.2.1 (hK h a - 100), ev_ac G h a (ev_at (hK h a - 100)))
def ev_ws (G : ev_G) (h : ev_H) : va_W := (List.range (hN h - ev_c - 1)).map (fun i => (gz G + i, ev_e G h (ev_c + 1 + i)))
/-- which cells are the run's own -/
def ev_A (G : ev_G) : Nat → Prop := fun q => gz G ≤ q
/-- a cell as it is read -/
def ev_rd (G : ev_G) (h : ev_H) (s : State) (a : Nat) (H : Heap) : Prop := ∃ cell : Cell, H[ga G a]? = some cell ∧ cell.vm ≠ .unknown ∧ cell.vm.isStatics = false ∧
  ((∃ (ci : Nat) (q : vw_C × (Nat → FieldType)), hK h a = ci + 1 ∧ ci < 99 ∧ ev_cd[ci]? = some q ∧ cell.cls = G.2.1.1 ci ∧ ∀ k, k < q.1.2.2 → cell.slots[G.2.1.2 ci k]? = some (ev_fv G h a (q.2 k) k)) ∨
   (∃ t : Nat, hK h a = 100 + t ∧ t < 7 ∧ s.isArrayOf cell (ev_at t) ∧ cell.slots.size = hL h a ∧ ∀ j, j < hL h a → cell.slots[j]? = some (ev_fv G h a (ev_at t) j)))
/-- kinds are numbers of classes or of array types, and only of cells that are there -/
def ev_wf (h : ev_H) : Prop := ev_c < hN h ∧ (∀ a, hK h a ≠ 0 → 0 < a ∧ a < hN h) ∧ ∀ a, ev_c < a → a < hN h → (0 < hK h a ∧ hK h a ≤ ev_cd.length) ∨ (100 ≤ hK h a ∧ hK h a < 107)
/-- the machine's heap H holds the small heap h -/
def ev_R (G : ev_G) (h : ev_H) (s : State) (H : Heap) : Prop := ev_wf h ∧ H.size = gz G + (hN h - ev_c - 1) ∧ va_P G.2.1 ev_cl (ev_ws G h) H ∧ ∀ a, a ≤ ev_c → hK h a ≠ 0 → ga G a < gz G ∧ ev_rd G h s a H
/-- words of the tables that do not ride in the lists: which of them are carried along -/
def ev_nwok (w : Cond) : Bool := match w with
  | .fieldLinkNest _ _ _ _ _ _ => true
  | .methodLinkNest _ _ _ _ => true
  | .castable _ _ => true
  | .declares _ => true
  | .privateMethod _ => true
  | _ => false
/-- the String constants: place in the pool, text; the i-th has the number 15 + i, its bytes 34 + i -/
def ev_six : List (Nat × String) := [(15, ""), (111, "person"), (113, "shy"), (115, "sack"), (117, "thing"), (119, "by"), (121, "to"), (123, "hot"), (125, "in"), (127, "said"), (129, "sneeze"), (131, "draw"), (133, "guests"), (135, "ground"), (137, "heat"), (139, "course"), (141, "and"), (143, "or"), (145, "not")]
/-- statics and what they hold (references by number) -/
def ev_sts : List (String × String × String × ev_V) := [("java/lang/String", "COMPACT_STRINGS", "Z", vI 1), ("java/util/ArrayList", "EMPTY_ELEMENTDATA", "[Ljava/lang/Object;", vR 2), ("java/util/ArrayList", "DEFAULTCAPACITY_EMPTY_ELEMENTDATA", "[Ljava/lang/Object;", vR 3), ("PepperTables$Asked", "HOW_HOT", "LPepperTables$Asked;", vR 9), ("PepperTables$Asked", "HOW_SHY", "LPepperTables$Asked;", vR 10), ("PepperTables$Asked", "HOW_MANY", "LPepperTables$Asked;", vR 11), ("PepperTables$Asked", "HOW_OFTEN", "LPepperTables$Asked;", vR 12), ("PepperTables$Asked", "ITS_HEAT", "LPepperTables$Asked;", vR 13), ("PepperTables$Asked", "A_COURSE", "LPepperTables$Asked;", vR 14)]
/-- statics of which only the number is said that they have if they are not null -/
def ev_stq : List (String × String × String × Nat) := [("java/lang/Throwable", "UNASSIGNED_STACK", "[Ljava/lang/StackTraceElement;", 5), ("java/lang/Throwable", "SUPPRESSED_SENTINEL", "Ljava/util/List;", 6)]
def ev_of : MethodName := ⟨"PepperTables$Node", "of", "(LPepperTables$Ask;)I"⟩
/-- who answers for the interface -/
def ev_fw : List (String × MethodName) := [(RX10, yX10_of), (RX11, yX11_of), (RX12, yX12_of), (RX14, yX14_of), (RX15, yX15_of), (RX16, yX16_of), (RX17, yX17_of), (RX18, yX18_of), (RX19, yX19_of)]
/-- what no list of words carries -/
def ev_X (G : ev_G) (U : State) : Prop := (∀ w ∈ lw_tbl, ev_nwok w = true → va_Nw w U) ∧ (va_AO "java/lang/Object" U ∧ va_AO "PepperTables$Table" U ∧ (Cond.arrayOver (.array .int)).before #[] U = true) ∧ (∀ q ∈ ev_fw, va_Fw q.1 ev_of q.2 U) ∧ va_Mi "[Ljava/lang/Object;" (ga G 8) U ∧ (∀ i q, ev_six[i]? = some q → vk_R "PepperTables$Reader" q.1 q.2 (ga G (15 + i)) U) ∧ (∀ q ∈ ev_sts, va_Z q.1 q.2.1 q.2.2.1 (tv G q.2.2.2) (ev_A G) U U.heap) ∧ (∀ q ∈ ev_stq, ∃ r, (r = 0 ∨ r = q.2.2.2) ∧ va_Z q.1 q.2.1 q.2.2.1 (tv G (vR r)) (ev_A G) U U.heap)
/-- what the tables say all through the run -/
def ev_T (G : ev_G) (s : State) : Prop := va_K G.2.1 ev_cl (gtys G) s ∧ ev_X G s
/-- a method: name, code, locals, answer -/
abbrev ev_M : Type := MethodName × ByteArray × Nat × Option FieldType
/-- what holds all through a method's body -/
def ev_C (G : ev_G) (M : ev_M) (p : Program) (s : State) (m : MethodId) (args : Array Value) (meth : Method) (c : Code) : Prop :=
  p.tables.exec = Jvm.exec ∧ c.code = M.2.1 ∧ meth.sig.returnType = M.2.2.2 ∧ meth.locks = false ∧ c.maxLocals = M.2.2.1 ∧ s.vm.findClass M.1.cls = some m.cls ∧ (∀ w ∈ lw_all, w.before args s = true) ∧ ev_T G s ∧ gz G ≤ s.heap.size ∧ meth.name = M.1.name ∧ (M.1 = yX0_store → c.exceptionTable.toList = tableOf [(2, 71, 74, 129)]) ∧ (M.1 ≠ yX0_store → c.exceptionTable.toList = [])
/-- the locals -/
def ev_L (G : ev_G) (ls : Array Slot) (nL : Nat) (L : List (Option ev_V)) : Prop := ls.size = nL ∧ lv_wf ls ∧ ∀ (i : Nat) (v : ev_V), L[i]? = some (some v) → ls[i]? = some (.val (tv G v))
/-- from the place pc with locals L, operands st, heap h (uc cells of us slots made) the machine comes to Qf -/
def Ev (G : ev_G) (M : ev_M) (R : Room) (Qf : List Frame → Array Value → State → State → Prop) (pc : Nat) (L : List (Option ev_V)) (st : List ev_V) (h : ev_H) (uc us : Nat) : Prop :=
  ∀ (p : Program) (e : Env) (s : State) (m : MethodId) (args : Array Value) (below : List Frame) (meth : Method) (c : Code) (H : Heap) (locs : List Loc) (ls : Array Slot),
    ev_C G M p s m args meth c → ev_R G h s H → va_S (ev_A G) s.heap H locs → ev_L G ls M.2.2.1 L →
    W p G.1 e R s m args below meth c H locs uc us (Qf below args s) (F0 m pc ls (st.map (tv G)))
