/-! ===== exceptions that leave a method, with the thrown object's address (the kit's laws, turned) ===== -/
set_option maxRecDepth 100000

def xq_T (XC : Addr → String → State → State → Prop) (st : State) (q : Addr) (t : State) (mc ms : Nat) (free : Addr → Prop) : Prop :=
  ∃ (E : String) (ce : Cell) (L : List Loc), XC q E st t ∧ t.heap[q]? = some ce ∧ ce.vm = .none ∧ st.vm.findClass E = some ce.cls ∧ st.WarmedH t.vm ∧ st.sameButNew ({ t with vm := st.vm } : State) L mc ms ∧ ∀ z ∈ L, free z.base
def xq_Q (Qc : Array Value → State → Outcome → State → Prop) (XC : Addr → String → State → State → Prop) (mc ms : Nat) (free : Addr → Prop) : Array Value → State → Outcome → State → Prop := fun a st o t =>
  (Qc a st o t ∧ ∃ L, FrameEnd st o t L mc ms ∧ ∀ q ∈ L, free q.base) ∨ ∃ q, o = .threw q ∧ xq_T XC st q t mc ms free
def xq_Met (l : Launch) (y : MethodName) (ws : List Cond) (rm : Room) (Pc : Array Value → State → Prop) (Qc : Array Value → State → Outcome → State → Prop) (XC : Addr → String → State → State → Prop) (mc ms : Nat) (free : Addr → Prop) : Prop :=
  MetFree l y (headSpec ws rm) Pc (fun _ _ _ _ _ => True) (xq_Q Qc XC mc ms free)
def xq_Post (XC : Addr → String → State → State → Prop) (mc ms : Nat) (free : Addr → Prop) : Pt → Array Value → Addr → Pt → Prop := fun A a q B =>
  ∃ (g : JFrame) (mk : MethodId) (t : State) (L : List Loc) (E : String) (ce : Cell), B.U.heap = t.heap ∧ B.U.vm = t.vm ∧ XC q E (A.U.calling g mk a) t ∧ t.heap[q]? = some ce ∧ ce.vm = .none ∧ A.U.vm.findClass E = some ce.cls ∧ B.locs = A.locs ++ L ∧ (∀ z ∈ L, free z.base) ∧ B.cells = A.cells + mc ∧ B.slots = A.slots + ms
section XQ1
variable {l : Launch} {R : Room} {p : Program} {e : Env} {below : List Frame} {s : State} {sargs : Array Value} {y : MethodName} {len W9 : Nat}
theorem xq_back {ws : List Cond} {rm : Room} {Pc : Array Value → State → Prop} {Qc : Array Value → State → Outcome → State → Prop} {XC : Addr → String → State → State → Prop} {mc ms : Nat} {free : Addr → Prop} {bytes : ByteArray} {maxL : Nat} {ret : Option FieldType}
    (hM : xq_Met l y ws rm Pc Qc XC mc ms free) (hblind : FrameBlind Pc) (hrc : rm.cells = mc) (hrs : rm.slots = ms)
    (hframes : rm.frames + 1 ≤ R.frames) (hlocals : W9 + (maxL + 11) + rm.locals ≤ R.locals)
    (hws : ∀ w ∈ ws, ∀ a' U, s.WarmedH U.vm → w.before a' U = true) (hcode : Cond.code y bytes maxL ret ∈ ws) (hinit : ∀ a' U, s.WarmedH U.vm → (Cond.initialized y.cls).before a' U = true) :
    vx_Back l R p e below s sargs y len W9 (PreOf R mc ms Pc) (PostOf Qc mc ms free) (xq_Post XC mc ms free) := by
  intro m meth c A g ig mk a X hg hsize hdg hW hn hp
  have h1 : (headSpec ws rm).pre.before a A.U = true := atoms_intro fun w hw => hws w hw _ _ X.warmed
  have h2 : (Cond.code y bytes maxL ret).before a A.U = true := hws _ hcode _ _ X.warmed
  have h3 : (Cond.initialized y.cls).before a A.U = true := hinit _ _ X.warmed
  have h4 : A.cells + (headSpec ws rm).room.cells ≤ R.cells := by rw [show (headSpec ws rm).room.cells = mc from hrc]; exact hp.1
  have h5 : A.slots + (headSpec ws rm).room.slots ≤ R.slots := by rw [show (headSpec ws rm).room.slots = ms from hrs]; exact hp.2.1
  have hPc : Pc a (A.U.calling g mk a) := hblind _ _ _ _ hp.2.2
  obtain ⟨U, Ls, c0, s0⟩ := A
  dsimp only [Pt.U, Pt.locs, Pt.cells, Pt.slots] at h1 h2 h3 h4 h5 X hn hPc ⊢
  obtain ⟨methY, cY, hmY, hcY, -, hlY, -, -, -, -⟩ := Cond.code_spec hn h2
  obtain ⟨kY, hkY, -⟩ := className_of_methodNamed hn
  have hinitY : kY.init = .initialized := Cond.initialized_spec (findClass_of_methodNamed hn) hkY h3
  have h : At U g.method c below := by rw [hg]; exact X.here
  have hlocals9 : W9 + (maxL + 11) + (headSpec ws rm).room.locals ≤ R.locals := hlocals
  have happ : (headSpec ws rm).appliesLoose y e.platform (U.calling g mk a) = true :=
    Spec.appliesLoose_calling (g := g) h hdg hn hkY hinitY
      (X.room_calling (g := g) (R' := (headSpec ws rm).room) hsize hmY hcY hframes (by rw [hlY]; omega) h4 h5) h1
  obtain ⟨mid, hmid⟩ := h.above
  have hfr : (U.setTop g).frames = (.java g :: mid) ++ below := by rw [State.frames_setTop' g h.top, hmid]; rfl
  obtain ⟨o, s₂, hsteps, -, hend, hq⟩ := Steps.callFree hM p X.admits X.cas X.clock (acts := []) hfr happ hPc trivial
  have hq' : xq_Q Qc XC mc ms free a (U.calling g mk a) o s₂ := hq
  rw [State.frames_setTop' g h.top] at hend
  obtain ⟨g₀, hg0⟩ := Option.isSome_iff_exists.mp h.top
  obtain ⟨r, hr⟩ := State.topJava?_eq_some.mp hg0
  have hr' : (({ U with heap := s₂.heap, slotsUsed := s₂.slotsUsed } : State).setVm s₂.vm).frames = .java g₀ :: r := hr
  rcases hq' with ⟨hqc, L, hfe, hL⟩ | ⟨q, rfl, E, ce, L, hx, hce, hcv, hcl, hW₂, hsm, hL⟩
  · obtain ⟨⟨v, rfl⟩, hW₂, e2, q2, q3, q4, q5, q6⟩ := id hfe
    have e3 : s₂ = ({ (U.calling g mk a).setFrames s₂.frames with heap := s₂.heap, slotsUsed := s₂.slotsUsed } : State).setVm s₂.vm := by
      have : s₂ = ({ s₂ with vm := (U.calling g mk a).vm } : State).setVm s₂.vm := rfl
      rw [e2] at this
      exact this
    obtain ⟨c₂, i₂, len₂, hc₂, hd₂, hf₂⟩ := hend
    have hW' : U.WarmedH s₂.vm := hW₂
    have hcc : c₂ = c := by
      have h1 : s₂.code? g.method = U.code? g.method := by
        rw [State.code?_eq, State.code?_eq, hW'.alike.method?]
      exact Option.some.inj (hc₂.symm.trans (h1.trans h.code))
    subst hcc
    have hlen : len₂ = len := by rw [hdg] at hd₂; cases hd₂; rfl
    subst hlen
    have hs₂ : s₂ = (({ U with heap := s₂.heap, slotsUsed := s₂.slotsUsed } : State).setVm s₂.vm).setTop { g with pc := g.pc + len₂, stack := v.toList ++ g.stack } := by
      refine e3.trans ?_
      rw [hf₂, State.calling_eq h.top, State.setFrames_setFrames, State.setTop_of_frames _ hr', hr]
      rfl
    have hsame : U.sameButNew ({ U with heap := s₂.heap, slotsUsed := s₂.slotsUsed } : State) L mc ms := by
      refine ⟨?_, q2, q3, q4, q5, q6⟩
      obtain ⟨t, ht, -⟩ := State.frames_cons hr
      show ({ U with heap := s₂.heap, slotsUsed := s₂.slotsUsed } : State) = { U.setFrames U.frames with heap := s₂.heap, slotsUsed := s₂.slotsUsed }
      rw [State.setFrames_self ht]
    subst hg
    refine Or.inl ⟨v, ⟨(({ U with heap := s₂.heap, slotsUsed := s₂.slotsUsed } : State).setVm s₂.vm), Ls ++ L, c0 + mc, s0 + ms⟩,
      ⟨X.admits, X.cas, X.clock, X.frames, X.room, X.hears, X.method, X.code, (X.here.setHeapUsed s₂.heap s₂.slotsUsed).setVm hW'.alike, X.tail, State.WarmedH.trans X.warmed hW', X.limits, X.bytes, X.same.trans (hsame.setVm s.vm)⟩,
      ⟨g, mk, s₂, L, rfl, rfl, hqc, rfl, hL, rfl, rfl⟩, ?_⟩
    show Steps p.tables e below _ ((({ U with heap := s₂.heap, slotsUsed := s₂.slotsUsed } : State).setVm s₂.vm).setTop { g with pc := g.pc + len₂, stack := v.toList ++ g.stack })
    rw [← hs₂]
    exact hsteps
  · obtain ⟨e2, q2, q3, q4, q5, q6⟩ := id hsm
    have e3 : s₂ = ({ (U.calling g mk a).setFrames s₂.frames with heap := s₂.heap, slotsUsed := s₂.slotsUsed } : State).setVm s₂.vm := by
      have : s₂ = ({ s₂ with vm := (U.calling g mk a).vm } : State).setVm s₂.vm := rfl
      rw [e2] at this
      exact this
    have hf₂ : s₂.frames = .throwing q :: .java g :: U.frames.tail := hend
    have hW' : U.WarmedH s₂.vm := hW₂
    have hs₂ : s₂ = ((({ U with heap := s₂.heap, slotsUsed := s₂.slotsUsed } : State).setVm s₂.vm).setTop g).pushFrame (.throwing q) := by
      refine e3.trans ?_
      rw [hf₂, State.calling_eq h.top, State.setFrames_setFrames, State.pushFrame, State.frames_setTop _ hr', State.setTop_of_frames _ hr', State.setFrames_setFrames, hr]
      rfl
    have hsame : U.sameButNew ({ U with heap := s₂.heap, slotsUsed := s₂.slotsUsed } : State) L mc ms := by
      refine ⟨?_, q2, q3, q4, q5, q6⟩
      obtain ⟨t, ht, -⟩ := State.frames_cons hr
      show ({ U with heap := s₂.heap, slotsUsed := s₂.slotsUsed } : State) = { U.setFrames U.frames with heap := s₂.heap, slotsUsed := s₂.slotsUsed }
      rw [State.setFrames_self ht]
    subst hg
    refine Or.inr ⟨q, ⟨(({ U with heap := s₂.heap, slotsUsed := s₂.slotsUsed } : State).setVm s₂.vm), Ls ++ L, c0 + mc, s0 + ms⟩,
      ⟨X.admits, X.cas, X.clock, X.frames, X.room, X.hears, X.method, X.code, (X.here.setHeapUsed s₂.heap s₂.slotsUsed).setVm hW'.alike, X.tail, State.WarmedH.trans X.warmed hW', X.limits, X.bytes, X.same.trans (hsame.setVm s.vm)⟩,
      ⟨g, mk, s₂, L, E, ce, rfl, rfl, hx, hce, hcv, hcl, rfl, hL, rfl, rfl⟩, ?_⟩
    show Steps p.tables e below _ (((({ U with heap := s₂.heap, slotsUsed := s₂.slotsUsed } : State).setVm s₂.vm).setTop g).pushFrame (.throwing q))
    rw [← hs₂]
    exact hsteps
end XQ1
def xq_Run (p : Program) (l : Launch) (e : Env) (R : Room) (s : State) (m : MethodId) (args : Array Value) (below : List Frame) (meth : Method) (c : Code) (H : Heap) (locs : List Loc) (cells slots mc ms : Nat) (g : JFrame) (rest : List Value) (Qa : State → Outcome → State → Prop) (XC : Addr → String → State → State → Prop) (free : Addr → Prop) : Prop :=
  ∀ T : State, T.heap = H → Stand p l e R s m args below meth c T locs cells slots →
    (∃ (v : Option Value) (st₀ t T' : State) (L : List Loc), st₀.heap = H ∧ Stand p l e R s m args below meth c T' (locs ++ L) (cells + mc) (slots + ms) ∧ (∀ q ∈ L, free q.base) ∧ T'.heap = t.heap ∧ T'.vm = t.vm ∧ Qa st₀ (.returned v) t ∧
      Goes p e below T g T' { g with pc := g.pc + 3, stack := v.toList ++ rest }) ∨
    (∃ (q : Addr) (st₀ t T' : State) (L : List Loc) (E : String) (ce : Cell), st₀.heap = H ∧ Stand p l e R s m args below meth c T' (locs ++ L) (cells + mc) (slots + ms) ∧ (∀ z ∈ L, free z.base) ∧ T'.heap = t.heap ∧ T'.vm = t.vm ∧ XC q E st₀ t ∧ t.heap[q]? = some ce ∧ ce.vm = .none ∧ s.vm.findClass E = some ce.cls ∧
      Steps p.tables e below (T.setTop g) ((T'.setTop { g with stack := rest }).pushFrame (.throwing q)))
section XQ2
variable {p : Program} {l : Launch} {e : Env} {R : Room} {s : State} {m : MethodId} {args : Array Value} {below : List Frame} {meth : Method} {c : Code} {H : Heap} {locs : List Loc} {cells slots : Nat}
variable {y : MethodName} {bytes cc : ByteArray} {maxL nL mc ms n index : Nat} {ret : Option FieldType} {ws : List Cond} {rm : Room} {Pc : Array Value → State → Prop} {Qc : Array Value → State → Outcome → State → Prop} {XC : Addr → String → State → State → Prop} {free : Addr → Prop} {Ts : List Cond} {own C : String} {b : Addr} {As rest : List Value} {g : JFrame}
theorem xq_callBack (cb : CallB R s args own index y bytes maxL ret ws rm mc ms n) (hM : xq_Met l y ws rm Pc Qc XC mc ms free) (hbl : FrameBlind Pc) : vx_Back l R p e below s args y 3 8 (PreOf R mc ms Pc) (PostOf Qc mc ms free) (xq_Post XC mc ms free) := by
  obtain ⟨hrc, hrs, hfr, hlo, hws, hcw, -, hini, -⟩ := cb
  exact xq_back (bytes := bytes) (maxL := maxL) (ret := ret) hM hbl hrc hrs hfr hlo hws hcw (fun a' U hW => word_at hW (Or.inl (by first | rfl | simp [Cond.onTables, Cond.keeps, Cond.steady])) hini)
theorem xq_runV (S : CallFix p m c cc nL s args Ts own) (hM : xq_Met l y ws rm Pc Qc XC mc ms free) (cw : CallW R s args own C index y bytes maxL ret ws rm mc ms n) (hp : PreV s H C b Pc As)
    (hg : g.method = m) (hn : As.length = n) (hsize : g.locals.size = nL) (hstack : g.stack = As.reverse ++ .ref b :: rest) (hW : 2 * g.monitorRoom + (rest.map fun v => v.category).sum ≤ 8) (hdg : decode cc g.pc = .ok (.invokevirtual index, 3)) (hf : cells + mc ≤ R.cells ∧ slots + ms ≤ R.slots) :
    xq_Run p l e R s m args below meth c H locs cells slots mc ms g rest (Qc (Value.ref b :: As).toArray) XC free := by
  have hK : vx_Back l R p e below s args y 3 8 (PreOf R mc ms Pc) (PostOf Qc mc ms free) (xq_Post XC mc ms free) := xq_callBack cw.1 hM hp.1
  obtain ⟨⟨-, -, -, -, -, -, hcode, -, hy, hlen, hl⟩, hin, hse⟩ := cw
  obtain ⟨hx, hb, hml, ho, -⟩ := S
  obtain ⟨-, ⟨cellB, hcB, hoB, hclB⟩, hPc⟩ := hp
  intro T hT X
  rcases vx_callV X hx (C := C) (bytes := bytes) (maxL := maxL) (ret := ret) ho hl hin hse hcode hy hK (by rw [hT]; exact hcB) hoB hclB hg (hsize.trans hml.symm) (argsL := As) (rest := rest) (fun sig h => hn.trans (hlen sig h)) hstack hW (by rw [hb]; exact hdg)
    (fun vm₁ hW₁ => ⟨hf.1, hf.2, hPc (T.setVm vm₁) hT hW₁⟩) with ⟨v, vm₁, ⟨U', l2, c2, s2⟩, hW₁, X', ⟨g', mk, t, L, e1, e2, hq, h1, hL, h2, h3⟩, st⟩ | ⟨q, vm₁, ⟨U', l2, c2, s2⟩, hW₁, X', ⟨g', mk, t, L, E, ce, e1, e2, hq, hce, hcv, hcl, h1, hL, h2, h3⟩, st⟩
  · dsimp only [Pt.U, Pt.locs, Pt.cells, Pt.slots] at X' e1 e2 h1 h2 h3 st
    subst h1; subst h2; subst h3
    exact Or.inl ⟨v, (T.setVm vm₁).calling g' mk (Value.ref b :: As).toArray, t, U', L, hT, X', hL, e1, e2, hq, st⟩
  · dsimp only [Pt.U, Pt.locs, Pt.cells, Pt.slots] at X' e1 e2 h1 h2 h3 st hcl
    subst h1; subst h2; subst h3
    exact Or.inr ⟨q, (T.setVm vm₁).calling g' mk (Value.ref b :: As).toArray, t, U', L, E, ce, hT, X', hL, e1, e2, hq, hce, hcv, vx_cls hW₁ hcl, st⟩
end XQ2
section XQ3
variable {p : Program} {l : Launch} {e : Env} {R : Room} {s : State} {m : MethodId} {args : Array Value} {below : List Frame} {meth : Method} {c : Code} {H : Heap} {locs : List Loc} {cells slots : Nat} {Q : State → Prop}
variable {mc ms : Nat} {free : Addr → Prop} {A0 A1 : Nat → Prop} {H0 : Heap} {a : Array Value} {ls : Array Slot} {st0 rest : List Value}
variable {Qc : Array Value → State → Outcome → State → Prop} {XC : Addr → String → State → State → Prop}
def xq_MQ (below : List Frame) (Qc : Array Value → State → Outcome → State → Prop) (XC : Addr → String → State → State → Prop) (a : Array Value) (s : State) (mc ms : Nat) (free : Addr → Prop) : State → Prop := fun t =>
  ∃ o, t.status = .running ∧ Ended t below o ∧ xq_Q Qc XC mc ms free a s o t
theorem xq_ret {g : JFrame} {mc ms : Nat} (k : W p l e R s m args below meth c H locs cells slots (MQ below Qc args s mc ms free) g) : W p l e R s m args below meth c H locs cells slots (xq_MQ below Qc XC args s mc ms free) g := by
  intro T hT X
  obtain ⟨t, a1, o, b1, b2, b3, b4⟩ := k T hT X
  exact ⟨t, a1, o, b1, b2, Or.inl ⟨b3, b4⟩⟩
theorem xq_out {pc : Nat} {E : String} {ce : Cell} {q : Addr} {mc ms : Nat} (hout : ∀ x ∈ c.exceptionTable.toList, covers x pc = false) (hlocks : meth.locks = false) (hcell : H[q]? = some ce) (hv : ce.vm = .none) (hcl : s.vm.findClass E = some ce.cls)
    (hx : ∀ t : State, t.heap = H → s.vm.Alike t.vm → XC q E s t) (hf : ∀ z ∈ locs, free z.base) (hc : cells ≤ mc) (hs : slots ≤ ms) :
    vx_W p l e R s m args below meth c H locs cells slots (xq_MQ below Qc XC args s mc ms free) (F0 m pc ls rest) q := by
  intro T hT X
  obtain ⟨st1, hrun, hend, hW, hsm⟩ := X.leaveThrown q (g := F0 m pc ls rest) rfl rfl rfl hout hlocks
  have hcell9 : (T.setFrames (.throwing q :: below)).heap[q]? = some ce := by
    show T.heap[q]? = some ce
    rw [hT]; exact hcell
  exact ⟨_, st1, .threw q, hrun, hend, Or.inr ⟨q, rfl, E, ce, locs, hx _ hT hW.alike, hcell9, hv, hcl, hW, hsm.mono hc hs, hf⟩⟩
end XQ3
section XQ4
variable {l : Launch}
theorem xq_ofW {y : MethodName} {ws ws' : List Cond} {rm : Room} {Pc : Array Value → State → Prop} {Qc : Array Value → State → Outcome → State → Prop} {XC : Addr → String → State → State → Prop} {mc ms : Nat} {free : Addr → Prop} {cc : ByteArray} {maxL : Nat} {ret : Option FieldType}
    (hy : plainName y.cls = true) (hw : ws = Cond.code y cc maxL ret :: ws')
    (body : ∀ p e s m args below meth c s₁, BodyLoose p l y (headSpec ws rm) cc maxL ret e s m args below meth c s₁ → c.maxLocals = maxL → (∀ x ∈ c.exceptionTable.toList, False) → Pc args s →
      W p l e (headSpec ws rm).room s m args below meth c s.heap [] 0 0 (xq_MQ below Qc XC args s mc ms free) (entryFrame m args maxL)) : xq_Met l y ws rm Pc Qc XC mc ms free := by
  refine MetFree.of_bodyS (code := cc) (maxLocals := maxL) (ret := ret) hy ?_ ?_
  · intro args s m h hn
    obtain ⟨meth, c, h1, h2, h3, h4, h5, h6, -, -⟩ := Cond.code_spec hn (atoms_spec (ws := ws) h _ (by rw [hw]; exact List.mem_cons_self))
    exact ⟨meth, c, h1, h2, h3, h4, h5, h6⟩
  · intro p e s m args below meth c s₁ B hml hP _
    have hh0 : s₁.heap = s.heap := by rw [B.state]; rfl
    have ht : ∀ x ∈ c.exceptionTable.toList, False := by
      obtain ⟨meth9, c9, h1, h2, -, -, -, -, h7, -⟩ := Cond.code_spec B.named (atoms_spec (ws := ws) B.pre _ (by rw [hw]; exact List.mem_cons_self))
      cases Option.some.inj (h1.symm.trans B.method)
      cases Option.some.inj (h2.symm.trans (Stand.of_body B).code)
      intro x hx
      rw [Array.isEmpty_iff.mp h7] at hx
      cases hx
    obtain ⟨t, a1, o, b1, b2, b3⟩ := body p e s m args below meth c s₁ B hml ht hP s₁ hh0 (Stand.of_body B)
    exact ⟨t, o, a1, b1, b2, b3⟩
end XQ4
/-! the small world's rows -/
def ev_XC (G : ev_G) (px : Nat → ev_H → Prop) : Addr → String → State → State → Prop := fun q E st t => E = "PepperTables$Wrong" ∧ ∃ (w : Nat) (h1 : ev_H), q = ga G w ∧ hK h1 w = 9 ∧ px w h1 ∧ ev_R G h1 t t.heap ∧ va_F (ev_A G) st t
def ev_MQX (G : ev_G) (post : Option ev_V → ev_H → Prop) (px : Nat → ev_H → Prop) (mc ms : Nat) : List Frame → Array Value → State → State → Prop := fun below args s => xq_MQ below (ev_Qc G post) (ev_XC G px) args s mc ms (ev_A G)
/-- the method M called with av in the heap h: it returns, with post, or throws a Wrong, with px -/
def CalledX (G : ev_G) (M : ev_M) (d mc ms : Nat) (av : List ev_V) (h : ev_H) (post : Option ev_V → ev_H → Prop) (px : Nat → ev_H → Prop) : Prop :=
  xq_Met G.1 M.1 (ws_ M.1 M.2.1 M.2.2.1 M.2.2.2) (ev_room d mc ms) (va_Pc (av.map (tv G)) (ev_St G h)) (ev_Qc G post) (ev_XC G px) mc ms (ev_A G)
theorem calledX_of {G : ev_G} {M : ev_M} {d mc ms : Nat} {av : List ev_V} {h : ev_H} {post : Option ev_V → ev_H → Prop} {px : Nat → ev_H → Prop} (hy : plainName M.1.cls = true) (L : List (Option ev_V)) (hL : L = ev_en av ++ List.replicate (M.2.2.1 - (ev_en av).length) none) (hlen : (ev_en av).length ≤ M.2.2.1)
    (k : Ev G M (ev_room d mc ms) (ev_MQX G post px mc ms) 0 L [] h 0 0) : CalledX G M d mc ms av h post px := by
  refine xq_ofW (cc := M.2.1) (maxL := M.2.2.1) (ret := M.2.2.2) hy rfl ?_
  intro p e s m args below meth c s₁ B hml ht hv
  obtain ⟨rfl, hT, hr⟩ := hv
  have hts := atoms_spec (ws := ws_ M.1 M.2.1 M.2.2.1 M.2.2.2) B.pre
  have hts : ∀ w ∈ lw_all, w.before _ s = true := fun w h => hts w (List.mem_cons_of_mem _ h)
  have htb : c.exceptionTable.toList = [] := by
    cases h9 : c.exceptionTable.toList with
    | nil => rfl
    | cons x r => exact absurd (ht x (by rw [h9]; exact List.mem_cons_self)) (fun z => z)
  have hl := lv_entry (av.map (tv G)) (n := M.2.2.1) (by rw [ev_en_len]; exact hlen)
  rw [lg_entry_eq]
  refine k p e s m _ below meth c s.heap [] _ ⟨B.exec, B.bytes, B.returns, B.notSynchronized, hml, findClass_of_methodNamed B.named, hts, hT, hr.size, (name_of_methodNamed B.named B.method).1, fun e9 => vx_table (x := M.1) B (by rw [e9]; exact hts _ q435), fun _ => htb⟩ hr va_S.rf ⟨hl.1, hl.2.1, fun i v hi => ?_⟩
  subst hL
  by_cases hlt : i < (ev_en av).length
  · rw [List.getElem?_append_left hlt] at hi
    have h9 := ev_en_at (G := G) av 0 i v hi
    rw [Nat.zero_add] at h9
    exact hl.2.2 _ h9
  · rw [List.getElem?_append_right (by omega), List.getElem?_replicate] at hi
    split at hi <;> cases hi
section EVX
variable {G : ev_G} {M : ev_M} {R : Room} {Qf : List Frame → Array Value → State → State → Prop} {post : Option ev_V → ev_H → Prop} {px : Nat → ev_H → Prop} {pc uc us mc ms : Nat} {L : List (Option ev_V)} {st : List ev_V} {h : ev_H}
/-- an end of a method that may throw is an end of one that does not -/
theorem rx_ret (k : Ev G M R (ev_MQ G post mc ms) pc L st h uc us) : Ev G M R (ev_MQX G post px mc ms) pc L st h uc us := fun p e s m args below meth c H locs ls X hr hS hl => xq_ret (k p e s m args below meth c H locs ls X hr hS hl)
/-- a Wrong w flies over the frame at pc -/
def EvX (G : ev_G) (M : ev_M) (R : Room) (Qf : List Frame → Array Value → State → State → Prop) (pc : Nat) (L : List (Option ev_V)) (w : Nat) (h : ev_H) (uc us : Nat) : Prop :=
  ∀ (p : Program) (e : Env) (s : State) (m : MethodId) (args : Array Value) (below : List Frame) (meth : Method) (c : Code) (H : Heap) (locs : List Loc) (ls : Array Slot) (rest : List Value),
    ev_C G M p s m args meth c → ev_R G h s H → va_S (ev_A G) s.heap H locs → ev_L G ls M.2.2.1 L → hK h w = 9 →
    vx_W p G.1 e R s m args below meth c H locs uc us (Qf below args s) (F0 m pc ls rest) (ga G w)
theorem ev_wr {s : State} {H : Heap} {w : Nat} (hr : ev_R G h s H) (hT : ev_T G s) (ha : ev_c < w) (hk : hK h w = 9) : ∃ cell : Cell, H[ga G w]? = some cell ∧ cell.vm = .none ∧ s.vm.findClass "PepperTables$Wrong" = some cell.cls := by
  obtain ⟨cell, q1, q2, q3, q4⟩ := hr.ob (ci := 8) (q := ((RX8, TX8, 8), tyX8)) ha hk (by decide) rfl
  exact ⟨cell, q1, q3, by rw [q2]; exact (hT.1.1 8 _ (ev_cl_at (q := ((RX8, TX8, 8), tyX8)) rfl)).2.1⟩
/-- it leaves the method -/
theorem rx_out {w : Nat} (hM : M.1 ≠ yX0_store) (ha : ev_c < w) (hc : uc ≤ mc) (hs : us ≤ ms) (hp : px w h) : EvX G M R (ev_MQX G post px mc ms) pc L w h uc us := by
  intro p e s m args below meth c H locs ls rest X hr hS hl hk
  obtain ⟨cell, g1, g2, g3⟩ := ev_wr hr X.2.2.2.2.2.2.2.1 ha hk
  refine xq_out (E := "PepperTables$Wrong") (fun x hx => ?_) X.2.2.2.1 g1 g2 g3 (fun t ht hal => ⟨rfl, w, h, rfl, hk, hp, by rw [ht]; exact hr.moved hal, hS.F ht⟩) hS.2.2 hc hs
  rw [X.2.2.2.2.2.2.2.2.2.2.2 hM] at hx
  cases hx
/-- it is thrown -/
theorem rx_athrow {w : Nat} (hk : hK h w = 9) (hd : decode M.2.1 pc = .ok (.athrow, 1)) (kk : EvX G M R Qf pc L w h uc us) : Ev G M R Qf pc L (vR w :: st) h uc us := by
  intro p e s m args below meth c H locs ls X hr hS hl
  rw [List.map_cons, tv_ref (ev_pos hr.1 (by omega))]
  exact vx_athrow X.1 X.2.1 hd (kk p e s m args below meth c H locs ls (st.map (tv G)) X hr hS hl hk)
/-- a call of a method that may throw -/
theorem rx_callV {index ci n a d mc2 ms2 : Nat} {M2 : ev_M} {as : List ev_V} {st0 : List ev_V} {q : Option ev_V → ev_H → Prop} {qx : Nat → ev_H → Prop} (V : ev_VL M.1.cls index M2 ci n) (hC : CalledX G M2 d mc2 ms2 (vR a :: as) h q qx) (hk : hK h a = ci + 1) (hst : st0 = as.reverse ++ vR a :: st) (hn : as.length = n) (hw : Nat.ble (ev_sw st) 8 = true) (hro : ev_rok R d M2.2.2.1 = true) (hc : uc + mc2 ≤ R.cells) (hs : us + ms2 ≤ R.slots) (hd : decode M.2.1 pc = .ok (.invokevirtual index, 3))
    (kx : ∀ (w : Nat) (h1 : ev_H), qx w h1 → EvX G M R Qf pc L w h1 (uc + mc2) (us + ms2))
    (kk : ∀ (r : Option ev_V) (h1 : ev_H), q r h1 → Ev G M R Qf (pc + 3) L (r.toList ++ st) h1 (uc + mc2) (us + ms2)) : Ev G M R Qf pc L st0 h uc us := by
  intro p e s m args below meth c H locs ls X hr hS hl
  obtain ⟨q9, hq, hci, hG, hdsc⟩ := V
  have hne : hK h a ≠ 0 := by omega
  have hts := X.2.2.2.2.2.2.1
  have hT := X.2.2.2.2.2.2.2.1
  obtain ⟨cell, g1, g2, g3, g4, -⟩ := (hr.rd hT hne).obj hk hci hq
  have hcl := (hT.1.1 ci _ (ev_cl_at hq)).2.1
  have hrun := xq_runV (p := p) (e := e) (R := R) (below := below) (meth := meth) (locs := locs) (cells := uc) (slots := us) (g := F0 m pc ls (st0.map (tv G))) (cc := M.2.1) (nL := M.2.2.1) (Ts := lw_all) (own := M.1.cls) (C := q9.1.1) (b := ga G a) (As := as.map (tv G)) (rest := st.map (tv G)) (n := n) ⟨X.1, X.2.1, X.2.2.2.2.1, X.2.2.2.2.2.1, hts⟩ hC (cwV n hts hG rfl rfl rfl hdsc (ev_rok_ok hro)) ⟨ev_blind _, ⟨cell, g1, g3, by rw [hcl, g4]⟩, fun U hU hW => ⟨by rw [List.map_cons, tv_ref (ev_pos hr.1 hne)], hT.warm hW (fun a h1 h2 => by rw [hU]; exact hS.2.1 a h1 h2), by rw [hU]; exact hr.moved hW.alike⟩⟩ rfl (by rw [List.length_map]; exact hn) hl.1 (by show st0.map (tv G) = _; rw [hst, List.map_append, List.map_cons, List.map_reverse, tv_ref (ev_pos hr.1 hne)]) (lv_room (by rw [ev_sw_ok]; exact Nat.le_of_ble_eq_true hw)) hd ⟨hc, hs⟩
  intro T hTT Y
  rcases hrun T hTT Y with ⟨v, st₀, t, T', L9, h0, Y', hL, e1, e2, ⟨⟨r, h1, hv, hp, hb⟩, hz, hk9⟩, sg⟩ | ⟨q8, st₀, t, T', L9, E, ce, h0, Y', hL, e1, e2, ⟨hE, w, h1, hq8, hkw, hp, hb, hz, hk9⟩, hce, hcv, hcc, sg⟩
  · have hv : v = r.map (tv G) := Outcome.returned.inj hv
    subst hv
    rw [h0] at hz hk9
    have hvm : s.vm.Alike t.vm := by rw [← e2]; exact Y'.warmed.alike
    have hb : ev_R G h1 s T'.heap := by rw [e1]; exact hb.moved hvm.symm
    obtain ⟨t2, a1, b1⟩ := kk r h1 hp p e s m args below meth c T'.heap (locs ++ L9) ls X hb
      ⟨Nat.le_trans hS.1 (by rw [e1]; exact hz), fun q h1 h2 => by rw [e1, hk9 q (Nat.lt_of_lt_of_le h1 hS.1) h2]; exact hS.2.1 q h1 h2, fun q hq => by
        rcases List.mem_append.mp hq with h | h
        · exact hS.2.2 q h
        · exact hL q h⟩ hl T' rfl Y'
    refine ⟨t2, sg t2 ?_, b1⟩
    have e9 : (r.toList ++ st).map (tv G) = (r.map (tv G)).toList ++ st.map (tv G) := by cases r <;> rfl
    rw [e9] at a1
    exact a1
  · rw [h0] at hz hk9
    have hvm : s.vm.Alike t.vm := by rw [← e2]; exact Y'.warmed.alike
    have hb : ev_R G h1 s T'.heap := by rw [e1]; exact hb.moved hvm.symm
    obtain ⟨t2, a1, b1⟩ := kx w h1 hp p e s m args below meth c T'.heap (locs ++ L9) ls (st.map (tv G)) X hb
      ⟨Nat.le_trans hS.1 (by rw [e1]; exact hz), fun q h1 h2 => by rw [e1, hk9 q (Nat.lt_of_lt_of_le h1 hS.1) h2]; exact hS.2.1 q h1 h2, fun q hq => by
        rcases List.mem_append.mp hq with h | h
        · exact hS.2.2 q h
        · exact hL q h⟩ hl hkw T' rfl Y'
    rw [← hq8] at a1
    exact ⟨t2, sg.trans a1, b1⟩
/-- caught in store -/
theorem rx_catch {w : Nat} (hM : M.1 = yX0_store) (ha : ev_c < w) (hpc : 2 ≤ pc ∧ pc < 71) (kk : Ev G M R Qf 74 L [vR w] h uc us) : EvX G M R Qf pc L w h uc us := by
  intro p e s m args below meth c H locs ls rest X hr hS hl hk
  obtain ⟨cell, g1, g2, g3⟩ := ev_wr hr X.2.2.2.2.2.2.2.1 ha hk
  have htb := X.2.2.2.2.2.2.2.2.2.2.1 hM
  have k9 := kk p e s m args below meth c H locs ls X hr hS hl
  rw [List.map_cons, tv_ref (ev_pos hr.1 (by omega))] at k9
  have ho := X.2.2.2.2.2.1
  rw [hM] at ho
  exact vx_catch (own := "PepperTables") (name := "PepperTables$Wrong") (E := "PepperTables$Wrong") ho [] _ [] htb (fun z hz => by cases hz) (by simp [covers]; omega) (by decide) (X.2.2.2.2.2.2.1 _ q436) (va_Nw.use rfl (X.2.2.2.2.2.2.2.1.2.1 _ q798 rfl)) g1 g2 g3 k9
end EVX
