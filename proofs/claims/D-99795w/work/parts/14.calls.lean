/-! ===== ROWS OF THE SMALL WORLD: a method's contract, its entry and ends, calls, new cells ===== -/
set_option maxRecDepth 100000
theorem ev_rd.moved {G : ev_G} {h : ev_H} {s u : State} {a : Nat} {H : Heap} (hvm : s.vm.Alike u.vm) (hr : ev_rd G h s a H) : ev_rd G h u a H := by
  obtain ⟨cell, h1, h2, h3, h4⟩ := hr
  refine ⟨cell, h1, h2, h3, ?_⟩
  rcases h4 with g | ⟨t, e, g1, g2, g3⟩
  · exact Or.inl g
  · exact Or.inr ⟨t, e, g1, State.isArrayOf_alike hvm g2, g3⟩
theorem ev_R.moved {G : ev_G} {h : ev_H} {s u : State} {H : Heap} (hvm : s.vm.Alike u.vm) (hr : ev_R G h s H) : ev_R G h u H := ⟨hr.1, hr.2.1, hr.2.2.1, fun a ha hk => ⟨(hr.2.2.2 a ha hk).1, (hr.2.2.2 a ha hk).2.moved hvm⟩⟩
theorem ev_ao {u U : State} (hal : u.vm.Alike U.vm) (h : (Cond.arrayOver (.array .int)).before #[] u = true) : (Cond.arrayOver (.array .int)).before #[] U = true := by
  unfold Cond.before Cond.holds at h ⊢
  simp only [Cond.value, beq_iff_eq] at h ⊢
  cases hc : u.vm.findClass (FieldType.array FieldType.int).toString with
  | none => simp [hc] at h
  | some comp =>
    have hc2 : U.vm.findClass (FieldType.array FieldType.int).toString = some comp := by rw [hal.findClass]; exact hc
    simp only [hc, hc2, Option.bind_some, Option.bind_eq_some_iff, Option.map_eq_some_iff] at h ⊢
    obtain ⟨c, hi, k, hk, hb⟩ := h
    obtain ⟨k', hk', he⟩ := hal.2.2 _ _ hk
    refine ⟨c, (hal.findIdx?_eqK _ (fun _ => rfl)).trans hi, k', hk', ?_⟩
    have e1 : k'.kind = k.kind := by rw [he]
    rw [e1, hal.findClass]
    exact hb
theorem ev_nw_on {w : Cond} (h : ev_nwok w = true) : w.onTables = true := by
  unfold ev_nwok at h
  split at h <;> first | rfl | cases h
theorem ev_nw_warm {w : Cond} (h : ev_nwok w = true) {s U : State} (hW : s.WarmedH U.vm) (hZ : va_Nw w s) : va_Nw w U := by
  unfold ev_nwok at h
  split at h
  · exact va_Nw.warmF hW hZ
  · exact va_Nw.warmM hW hZ
  · exact va_Nw.warmC hW hZ
  · exact va_Nw.warmD hW hZ
  · exact va_tabs rfl (rfl : (s.setVm U.vm).vm = U.vm) (by rw [Cond.privateMethod_setVm hW.alike]; exact hZ)
  · cases h
theorem ev_X.go {G : ev_G} {u U : State} (hal : u.vm.Alike U.vm) (hnw : ∀ w, ev_nwok w = true → va_Nw w u → va_Nw w U) (hkr : ∀ own k tx a, vk_R own k tx a u → vk_R own k tx a U) (hh : ∀ a : Nat, a < u.heap.size → ¬ ev_A G a → U.heap[a]? = u.heap[a]?) (h : ev_X G u) : ev_X G U := by
  obtain ⟨h1, ⟨h2, h3, h4⟩, h5, h6, h7, h8, h9⟩ := h
  refine ⟨fun w hw ho => hnw w ho (h1 w hw ho), ⟨h2.moved hal, h3.moved hal, ev_ao hal h4⟩, fun q hq => (h5 q hq).moved (by decide) hal, h6.moved hal, fun i q hq => hkr _ _ _ _ (h7 i q hq), fun q hq => ((h8 q hq).moved hal).kept hh, fun q hq => ?_⟩
  obtain ⟨r, e, z⟩ := h9 q hq
  exact ⟨r, e, (z.moved hal).kept hh⟩
theorem ev_T.same {G : ev_G} {u U : State} (hv : u.vm = U.vm) (hh : u.heap = U.heap) (h : ev_T G u) : ev_T G U := by
  have hal : u.vm.Alike U.vm := by rw [hv]; exact Vm.Alike.refl U.vm
  exact ⟨va_K.moved hal h.1, h.2.go hal (fun w ho hw => va_Nw.same (ev_nw_on ho) hv hw) (fun own k tx a hr => vk_R.same hv.symm hr) (fun a _ _ => by rw [hh])⟩
theorem ev_T.warm {G : ev_G} {s U : State} (hW : s.WarmedH U.vm) (hh : ∀ a : Nat, a < s.heap.size → ¬ ev_A G a → U.heap[a]? = s.heap[a]?) (h : ev_T G s) : ev_T G U := ⟨va_K.moved hW.alike h.1, h.2.go hW.alike (fun w ho hw => ev_nw_warm ho hW hw) (fun own k tx a hr => vk_R.warm hW hr) hh⟩
/-- a state that holds the small heap -/
def ev_St (G : ev_G) (h : ev_H) (U : State) : Prop := ev_T G U ∧ ev_R G h U U.heap
theorem ev_R.size {G : ev_G} {h : ev_H} {s : State} {H : Heap} (hr : ev_R G h s H) : gz G ≤ H.size := by
  rw [hr.2.1]
  exact Nat.le_add_right _ _
def ev_Qc (G : ev_G) (post : Option ev_V → ev_H → Prop) : Array Value → State → Outcome → State → Prop := fun _ st o t => (∃ (r : Option ev_V) (h1 : ev_H), o = .returned (r.map (tv G)) ∧ post r h1 ∧ ev_R G h1 t t.heap) ∧ va_F (ev_A G) st t
def ev_MQ (G : ev_G) (post : Option ev_V → ev_H → Prop) (mc ms : Nat) : List Frame → Array Value → State → State → Prop := fun below args s => MQ below (ev_Qc G post) args s mc ms (ev_A G)
/-- d calls deep, mc cells of ms slots -/
def ev_room (d mc ms : Nat) : Room := { frames := d, cells := mc, slots := ms, locals := 40 * d }
/-- the method M called with av in the heap h: it returns, with post -/
def Called (G : ev_G) (M : ev_M) (d mc ms : Nat) (av : List ev_V) (h : ev_H) (post : Option ev_V → ev_H → Prop) : Prop :=
  Met G.1 M.1 (ws_ M.1 M.2.1 M.2.2.1 M.2.2.2) (ev_room d mc ms) (va_Pc (av.map (tv G)) (ev_St G h)) (ev_Qc G post) mc ms (ev_A G)
/-- the locals at the entry -/
def ev_en : List ev_V → List (Option ev_V)
  | [] => []
  | v :: r => if vc1 v then some v :: ev_en r else some v :: none :: ev_en r
theorem tv_cat {G : ev_G} (v : ev_V) : (tv G v).category = if vc1 v then 1 else 2 := by
  match v with
  | .inl x => rfl
  | .inr (.inl y) => rfl
  | .inr (.inr r) =>
    show (va_rf (go G r)).category = 1
    cases go G r <;> rfl
theorem lg_sl_cons (v : Value) (vs : List Value) : lg_sl (v :: vs) = (if v.category = 2 then [.val v, .second] else [.val v]) ++ lg_sl vs := by
  unfold lg_sl
  rw [List.flatMap_cons]
theorem ev_en_len {G : ev_G} : ∀ av : List ev_V, (lg_sl (av.map (tv G))).length = (ev_en av).length
  | [] => rfl
  | v :: r => by
    have ih := ev_en_len (G := G) r
    rw [List.map_cons, lg_sl_cons, tv_cat]
    unfold ev_en
    by_cases hv : vc1 v = true
    · rw [if_pos hv, if_pos hv, if_neg (by decide)]
      simp [ih]
    · rw [if_neg hv, if_neg hv, if_pos rfl]
      simp [ih]
theorem ev_en_at {G : ev_G} : ∀ (av : List ev_V) (i0 i : Nat) (v : ev_V), (ev_en av)[i]? = some (some v) → (i0 + i, tv G v) ∈ lv_args i0 (av.map (tv G))
  | [], i0, i, v, hi => by simp [ev_en] at hi
  | w :: r, i0, i, v, hi => by
    rw [List.map_cons]
    unfold lv_args
    unfold ev_en at hi
    rw [tv_cat]
    by_cases hw : vc1 w = true
    · rw [if_pos hw] at hi ⊢
      rw [if_neg (by decide)]
      cases i with
      | zero =>
        rw [List.getElem?_cons_zero] at hi
        cases hi
        exact List.mem_cons_self
      | succ i =>
        rw [List.getElem?_cons_succ] at hi
        have := ev_en_at (G := G) r (i0 + 1) i v hi
        rw [show i0 + (i + 1) = i0 + 1 + i by omega]
        exact List.mem_cons_of_mem _ this
    · rw [if_neg hw] at hi ⊢
      rw [if_pos rfl]
      cases i with
      | zero =>
        rw [List.getElem?_cons_zero] at hi
        cases hi
        exact List.mem_cons_self
      | succ i =>
        rw [List.getElem?_cons_succ] at hi
        cases i with
        | zero => rw [List.getElem?_cons_zero] at hi; cases hi
        | succ i =>
          rw [List.getElem?_cons_succ] at hi
          have := ev_en_at (G := G) r (i0 + 2) i v hi
          rw [show i0 + (i + 1 + 1) = i0 + 2 + i by omega]
          exact List.mem_cons_of_mem _ this
theorem called_of {G : ev_G} {M : ev_M} {d mc ms : Nat} {av : List ev_V} {h : ev_H} {post : Option ev_V → ev_H → Prop} (hy : plainName M.1.cls = true) (L : List (Option ev_V)) (hL : L = ev_en av ++ List.replicate (M.2.2.1 - (ev_en av).length) none) (hlen : (ev_en av).length ≤ M.2.2.1)
    (k : Ev G M (ev_room d mc ms) (ev_MQ G post mc ms) 0 L [] h 0 0) : Called G M d mc ms av h post := by
  refine Met.ofW (cc := M.2.1) (maxL := M.2.2.1) (ret := M.2.2.2) hy rfl ?_
  intro p e s m args below meth c s₁ B hml hv
  obtain ⟨rfl, hT, hr⟩ := hv
  have hts := atoms_spec (ws := ws_ M.1 M.2.1 M.2.2.1 M.2.2.2) B.pre
  have htb : c.exceptionTable.toList = [] := by
    obtain ⟨meth9, c9, h1, h2, -, -, -, -, h7, -⟩ := Cond.code_spec B.named (hts _ List.mem_cons_self)
    cases Option.some.inj (h1.symm.trans B.method)
    cases Option.some.inj (h2.symm.trans (Stand.of_body B).code)
    rw [Array.isEmpty_iff.mp h7]
  have hts : ∀ w ∈ lw_all, w.before _ s = true := fun w h => hts w (List.mem_cons_of_mem _ h)
  have hl := lv_entry (av.map (tv G)) (n := M.2.2.1) (by rw [ev_en_len]; exact hlen)
  rw [lg_entry_eq]
  refine k p e s m _ below meth c s.heap [] _ ⟨B.exec, B.bytes, B.returns, B.notSynchronized, hml, findClass_of_methodNamed B.named, hts, hT, hr.size, (name_of_methodNamed B.named B.method).1, fun e9 => vx_table (x := M.1) B (by rw [e9]; exact hts _ q435), fun _ => htb⟩ hr va_S.rf ⟨hl.1, hl.2.1, fun i v hi => ?_⟩
  subst hL
  by_cases hlt : i < (ev_en av).length
  · rw [List.getElem?_append_left hlt] at hi
    have h9 := ev_en_at (G := G) av 0 i v hi
    rw [Nat.zero_add] at h9
    exact hl.2.2 _ h9
  · rw [List.getElem?_append_right (by omega), List.getElem?_replicate] at hi
    split at hi <;> cases hi
/-! the ends -/
section EVE
variable {G : ev_G} {M : ev_M} {R : Room} {Qf : List Frame → Array Value → State → State → Prop} {post : Option ev_V → ev_H → Prop} {pc uc us mc ms : Nat} {L : List (Option ev_V)} {st : List ev_V} {h : ev_H}
theorem r_ireturn {x : Int32} {ty : FieldType} (hd : decode M.2.1 pc = .ok (.ireturn, 1)) (hret : M.2.2.2 = some ty) (hn : narrow ty (.int x) = .int x) (hc : uc ≤ mc) (hs : us ≤ ms) (hp : post (some (vI x)) h) : Ev G M R (ev_MQ G post mc ms) pc L [vI x] h uc us := by
  intro p e s m args below meth c H locs ls X hr hS hl
  refine W.widen hc hs ?_
  exact W.zret (v := x) X.1 X.2.1 (X.2.2.1.trans hret) hn (fun t ht hW => ⟨⟨some (vI x), h, rfl, hp, by rw [ht]; exact hr.moved hW.alike⟩, hS.F ht⟩) hS.2.2 hd X.2.2.2.1
theorem r_lreturn {x : Int64} (hd : decode M.2.1 pc = .ok (.lreturn, 1)) (hret : M.2.2.2 = some .long) (hc : uc ≤ mc) (hs : us ≤ ms) (hp : post (some (vJ x)) h) : Ev G M R (ev_MQ G post mc ms) pc L [vJ x] h uc us := by
  intro p e s m args below meth c H locs ls X hr hS hl
  refine W.widen hc hs ?_
  exact W.lret (v := x) X.1 X.2.1 (X.2.2.1.trans hret) (fun t ht hW => ⟨⟨some (vJ x), h, rfl, hp, by rw [ht]; exact hr.moved hW.alike⟩, hS.F ht⟩) hS.2.2 hd X.2.2.2.1
theorem r_return (hd : decode M.2.1 pc = .ok (.return_, 1)) (hret : M.2.2.2 = none) (hc : uc ≤ mc) (hs : us ≤ ms) (hp : post none h) : Ev G M R (ev_MQ G post mc ms) pc L [] h uc us := by
  intro p e s m args below meth c H locs ls X hr hS hl
  refine W.widen hc hs ?_
  exact W.vret X.1 X.2.1 (X.2.2.1.trans hret) (fun t ht hW => ⟨⟨none, h, rfl, hp, by rw [ht]; exact hr.moved hW.alike⟩, hS.F ht⟩) hS.2.2 hd X.2.2.2.1
theorem r_areturn {x : Nat} {ty : FieldType} (hd : decode M.2.1 pc = .ok (.areturn, 1)) (hret : M.2.2.2 = some ty) (hty : (∃ n, ty = .object n) ∨ ∃ t, ty = .array t) (hc : uc ≤ mc) (hs : us ≤ ms) (hp : post (some (vR x)) h) : Ev G M R (ev_MQ G post mc ms) pc L [vR x] h uc us := by
  intro p e s m args below meth c H locs ls X hr hS hl
  refine W.widen hc hs ?_
  refine W.aret (v := va_rf (go G x)) X.1 X.2.1 (X.2.2.1.trans hret) hty ?_ (fun t ht hW => ⟨⟨some (vR x), h, rfl, hp, by rw [ht]; exact hr.moved hW.alike⟩, hS.F ht⟩) hS.2.2 hd X.2.2.2.1
  cases go G x with
  | none => exact Or.inl rfl
  | some a => exact Or.inr ⟨a, rfl⟩
/-! calls -/
theorem ev_blind (av : List ev_V) : FrameBlind (va_Pc (av.map (tv G)) (ev_St G h)) := by
  intro a U g mk q
  obtain ⟨q0, qT, qR⟩ := q
  exact ⟨q0, ev_T.same (u := U) (U := U.calling g mk a) rfl rfl qT, qR.moved (s := U) (u := U.calling g mk a) (Vm.Alike.refl U.vm)⟩
def ev_sw (st : List ev_V) : Nat := match st with
  | [] => 0
  | v :: r => (if vc1 v then 1 else 2) + ev_sw r
theorem ev_sw_ok (G : ev_G) : ∀ st : List ev_V, ((st.map (tv G)).map fun v => v.category).sum = ev_sw st
  | [] => rfl
  | v :: r => by
    rw [List.map_cons, List.map_cons, List.sum_cons, ev_sw_ok G r, tv_cat]
    rfl
theorem ev_go {a : Array Value} {m1 m2 : Nat} {p : Program} {e : Env} {s : State} {m : MethodId} {args : Array Value} {below : List Frame} {meth : Method} {c : Code} {H : Heap} {locs : List Loc} {ls : Array Slot} {st0 : List Value} {q : Option ev_V → ev_H → Prop}
    (hr : va_Run p G.1 e R s m args below meth c H locs uc us m1 m2 (F0 m pc ls st0) (st.map (tv G)) (ev_Qc G q a) (ev_A G)) (X : ev_C G M p s m args meth c) (hS : va_S (ev_A G) s.heap H locs) (hl : ev_L G ls M.2.2.1 L)
    (kk : ∀ (r : Option ev_V) (h1 : ev_H), q r h1 → Ev G M R Qf (pc + 3) L (r.toList ++ st) h1 (uc + m1) (us + m2)) : W p G.1 e R s m args below meth c H locs uc us (Qf below args s) (F0 m pc ls st0) := by
  intro T hT Y
  obtain ⟨v, st₀, t, T', L9, h0, Y', hL, e1, e2, ⟨⟨r, h1, hv, hp, hb⟩, hz, hk⟩, sg⟩ := hr T hT Y
  have hv : v = r.map (tv G) := Outcome.returned.inj hv
  subst hv
  rw [h0] at hz hk
  have hvm : s.vm.Alike t.vm := by rw [← e2]; exact Y'.warmed.alike
  have hb : ev_R G h1 s T'.heap := by rw [e1]; exact hb.moved hvm.symm
  obtain ⟨t2, a1, b1⟩ := kk r h1 hp p e s m args below meth c T'.heap (locs ++ L9) ls X hb
    ⟨Nat.le_trans hS.1 (by rw [e1]; exact hz), fun q h1 h2 => by rw [e1, hk q (Nat.lt_of_lt_of_le h1 hS.1) h2]; exact hS.2.1 q h1 h2, fun q hq => by
      rcases List.mem_append.mp hq with h | h
      · exact hS.2.2 q h
      · exact hL q h⟩ hl T' rfl Y'
  refine ⟨t2, sg t2 ?_, b1⟩
  have e9 : (r.toList ++ st).map (tv G) = (r.map (tv G)).toList ++ st.map (tv G) := by cases r <;> rfl
  rw [e9] at a1
  exact a1
/-- there is room for a callee of depth d and n locals -/
def ev_rok (R : Room) (d n : Nat) : Bool := Nat.ble (d + 1) R.frames && Nat.ble (8 + (n + 11) + 40 * d) R.locals
theorem ev_rok_ok {R : Room} {d n : Nat} (hk : ev_rok R d n = true) : d + 1 ≤ R.frames ∧ 8 + (n + 11) + 40 * d ≤ R.locals := by
  unfold ev_rok at hk
  rw [Bool.and_eq_true] at hk
  exact ⟨Nat.le_of_ble_eq_true hk.1, Nat.le_of_ble_eq_true hk.2⟩
/-- what the tables say of an instance method called at own's index: class' number, count of arguments -/
def ev_VL (own : String) (index : Nat) (M2 : ev_M) (ci n : Nat) : Prop := ∃ q : vw_C × (Nat → FieldType), ev_cd[ci]? = some q ∧ ci < 99 ∧ GoodIn lw_all (wsV own index q.1.1 M2.1 (ws_ M2.1 M2.2.1 M2.2.2.1 M2.2.2.2)) ∧ (M2.1.cls = q.1.1 ∧ M2.1.cls ≠ "java/lang/invoke/MethodHandle" ∧ M2.1.cls ≠ "java/lang/invoke/VarHandle" ∧ (parseMethodDescriptor M2.1.desc).map (fun d => d.parameters.length) = some n)
theorem r_callV {index ci n a d mc2 ms2 : Nat} {M2 : ev_M} {as : List ev_V} {st0 : List ev_V} {q : Option ev_V → ev_H → Prop} (V : ev_VL M.1.cls index M2 ci n) (hC : Called G M2 d mc2 ms2 (vR a :: as) h q) (hk : hK h a = ci + 1) (hst : st0 = as.reverse ++ vR a :: st) (hn : as.length = n) (hw : Nat.ble (ev_sw st) 8 = true) (hro : ev_rok R d M2.2.2.1 = true) (hc : uc + mc2 ≤ R.cells) (hs : us + ms2 ≤ R.slots) (hd : decode M.2.1 pc = .ok (.invokevirtual index, 3))
    (kk : ∀ (r : Option ev_V) (h1 : ev_H), q r h1 → Ev G M R Qf (pc + 3) L (r.toList ++ st) h1 (uc + mc2) (us + ms2)) : Ev G M R Qf pc L st0 h uc us := by
  intro p e s m args below meth c H locs ls X hr hS hl
  obtain ⟨q9, hq, hci, hG, hdsc⟩ := V
  have hne : hK h a ≠ 0 := by omega
  have hts := X.2.2.2.2.2.2.1
  have hT := X.2.2.2.2.2.2.2.1
  obtain ⟨cell, g1, g2, g3, g4, -⟩ := (hr.rd hT hne).obj hk hci hq
  have hcl := (hT.1.1 ci _ (ev_cl_at hq)).2.1
  refine ev_go (M := M) (L := L) (st := st) (va_runV (cc := M.2.1) (nL := M.2.2.1) (Ts := lw_all) (own := M.1.cls) (C := q9.1.1) (b := ga G a) (As := as.map (tv G)) (rest := st.map (tv G)) (n := n) ⟨X.1, X.2.1, X.2.2.2.2.1, X.2.2.2.2.2.1, hts⟩ hC (cwV n hts hG rfl rfl rfl hdsc (ev_rok_ok hro)) ⟨ev_blind _, ⟨cell, g1, g3, by rw [hcl, g4]⟩, fun U hU hW => ⟨?_, hT.warm hW (fun a h1 h2 => by rw [hU]; exact hS.2.1 a h1 h2), by rw [hU]; exact hr.moved hW.alike⟩⟩ rfl (by rw [List.length_map]; exact hn) hl.1 ?_ (lv_room (by rw [ev_sw_ok]; exact Nat.le_of_ble_eq_true hw)) hd ⟨hc, hs⟩) X hS hl kk
  · rw [List.map_cons, tv_ref (ev_pos hr.1 hne)]
  · show st0.map (tv G) = _
    rw [hst, List.map_append, List.map_cons, List.map_reverse, tv_ref (ev_pos hr.1 hne)]
/-- .. of a static one -/
def ev_SL (own : String) (index : Nat) (M2 : ev_M) (n : Nat) : Prop := GoodIn lw_all (va_wsS own index M2.1 (ws_ M2.1 M2.2.1 M2.2.2.1 M2.2.2.2)) ∧ (M2.1.cls ≠ "java/lang/invoke/MethodHandle" ∧ M2.1.cls ≠ "java/lang/invoke/VarHandle" ∧ (parseMethodDescriptor M2.1.desc).map (fun d => d.parameters.length) = some n)
theorem r_callS {index n d mc2 ms2 : Nat} {M2 : ev_M} {as : List ev_V} {st0 : List ev_V} {q : Option ev_V → ev_H → Prop} (V : ev_SL M.1.cls index M2 n) (hC : Called G M2 d mc2 ms2 as h q) (hst : st0 = as.reverse ++ st) (hn : as.length = n) (hw : Nat.ble (ev_sw st) 8 = true) (hro : ev_rok R d M2.2.2.1 = true) (hc : uc + mc2 ≤ R.cells) (hs : us + ms2 ≤ R.slots) (hd : decode M.2.1 pc = .ok (.invokestatic index, 3))
    (kk : ∀ (r : Option ev_V) (h1 : ev_H), q r h1 → Ev G M R Qf (pc + 3) L (r.toList ++ st) h1 (uc + mc2) (us + ms2)) : Ev G M R Qf pc L st0 h uc us := by
  intro p e s m args below meth c H locs ls X hr hS hl
  obtain ⟨hG, hdsc⟩ := V
  have hts := X.2.2.2.2.2.2.1
  have hT := X.2.2.2.2.2.2.2.1
  refine ev_go (M := M) (L := L) (st := st) (va_runS (cc := M.2.1) (nL := M.2.2.1) (Ts := lw_all) (own := M.1.cls) (As := as.map (tv G)) (rest := st.map (tv G)) (n := n) ⟨X.1, X.2.1, X.2.2.2.2.1, X.2.2.2.2.2.1, hts⟩ hC (va_cwS n hts hG rfl rfl rfl hdsc (ev_rok_ok hro)) ⟨ev_blind _, fun U hU hW => ⟨rfl, hT.warm hW (fun a h1 h2 => by rw [hU]; exact hS.2.1 a h1 h2), by rw [hU]; exact hr.moved hW.alike⟩⟩ rfl (by rw [List.length_map]; exact hn) hl.1 ?_ (lv_room (by rw [ev_sw_ok]; exact Nat.le_of_ble_eq_true hw)) hd ⟨hc, hs⟩) X hS hl kk
  show st0.map (tv G) = _
  rw [hst, List.map_append, List.map_reverse]
/-- .. of a constructor -/
def ev_IL (own : String) (index : Nat) (M2 : ev_M) (n : Nat) : Prop := GoodIn lw_all (ws_ M2.1 M2.2.1 M2.2.2.1 M2.2.2.2) ∧ Cond.initialized M2.1.cls ∈ lw_all ∧ Cond.methodLink own index M2.1 ∈ lw_all ∧ Cond.instanceMethod M2.1 ∈ lw_all ∧ M2.1.name = "<init>" ∧ M2.2.2.2 = none ∧ (M2.1.cls ≠ "java/lang/invoke/MethodHandle" ∧ M2.1.cls ≠ "java/lang/invoke/VarHandle" ∧ (parseMethodDescriptor M2.1.desc).map (fun d => d.parameters.length) = some n)
theorem r_callI {index n a d mc2 ms2 : Nat} {M2 : ev_M} {as : List ev_V} {st0 : List ev_V} {q : Option ev_V → ev_H → Prop} (V : ev_IL M.1.cls index M2 n) (hC : Called G M2 d mc2 ms2 (vR a :: as) h q) (hk : hK h a ≠ 0) (hst : st0 = as.reverse ++ vR a :: st) (hn : as.length = n) (hw : Nat.ble (ev_sw st) 8 = true) (hro : ev_rok R d M2.2.2.1 = true) (hc : uc + mc2 ≤ R.cells) (hs : us + ms2 ≤ R.slots) (hd : decode M.2.1 pc = .ok (.invokespecial index, 3))
    (kk : ∀ (r : Option ev_V) (h1 : ev_H), q r h1 → Ev G M R Qf (pc + 3) L (r.toList ++ st) h1 (uc + mc2) (us + ms2)) : Ev G M R Qf pc L st0 h uc us := by
  intro p e s m args below meth c H locs ls X hr hS hl
  obtain ⟨hG, hi1, hi2, hi3, hi4, hi5, hdsc⟩ := V
  have hts := X.2.2.2.2.2.2.1
  have hT := X.2.2.2.2.2.2.2.1
  unfold Called at hC
  rw [hi5] at hC hG
  refine ev_go (M := M) (L := L) (st := st) (va_runI (cc := M.2.1) (nL := M.2.2.1) (Ts := lw_all) (own := M.1.cls) (b := ga G a) (As := as.map (tv G)) (rest := st.map (tv G)) (n := n) ⟨X.1, X.2.1, X.2.2.2.2.1, X.2.2.2.2.2.1, hts⟩ hC (cwI n hts hG rfl rfl rfl (hts _ hi1) (hts _ hi2) (hts _ hi3) hi4 hdsc (ev_rok_ok hro)) ⟨ev_blind _, fun U hU hW => ⟨?_, hT.warm hW (fun a h1 h2 => by rw [hU]; exact hS.2.1 a h1 h2), by rw [hU]; exact hr.moved hW.alike⟩⟩ rfl (by rw [List.length_map]; exact hn) hl.1 ?_ (lv_room (by rw [ev_sw_ok]; exact Nat.le_of_ble_eq_true hw)) hd ⟨hc, hs⟩) X hS hl kk
  · rw [List.map_cons, tv_ref (ev_pos hr.1 hk)]
  · show st0.map (tv G) = _
    rw [hst, List.map_append, List.map_cons, List.map_reverse, tv_ref (ev_pos hr.1 hk)]
/-- Object's constructor -/
theorem r_objInit {index a : Nat} (h1 : Cond.methodLink M.1.cls index Lib.objectInit ∈ lw_all) (h2 : Cond.instanceMethod Lib.objectInit ∈ lw_all) (h3 : Cond.code Lib.objectInit ⟨#[0xb1]⟩ 1 none ∈ lw_all) (hk : hK h a ≠ 0) (hf : 1 ≤ R.frames) (hlo : 20 ≤ R.locals) (hw : Nat.ble (ev_sw st) 8 = true) (hd : decode M.2.1 pc = .ok (.invokespecial index, 3))
    (kk : Ev G M R Qf (pc + 3) L st h uc us) : Ev G M R Qf pc L (vR a :: st) h uc us := by
  intro p e s m args below meth c H locs ls X hr hS hl
  have hts := X.2.2.2.2.2.2.1
  have e1 : (vR a :: st).map (tv G) = .ref (ga G a) :: st.map (tv G) := by rw [List.map_cons, tv_ref (ev_pos hr.1 hk)]
  rw [e1]
  refine W.objInit X.1 X.2.1 X.2.2.2.2.2.1 (hts _ h1) (hts _ h2) (hts _ h3) rfl (by rw [X.2.2.2.2.1]; exact hl.1) rfl hd hf ?_ ?_
  · have := lv_room (m := m) (pc := pc) (ls := ls) (rest := (Value.ref (ga G a) :: st.map (tv G))) (st := st.map (tv G)) (by rw [ev_sw_ok]; exact Nat.le_of_ble_eq_true hw)
    omega
  · exact kk p e s m args below meth c H locs ls X hr hS hl
end EVE
