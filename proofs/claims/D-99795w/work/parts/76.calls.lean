/-! ===== ROWS OF THE SMALL WORLD: inherited and super calls, class objects, clones ===== -/
set_option maxRecDepth 100000
theorem sel_priv {C : String} {y y2 : MethodName} {s : State} {args : Array Value} (hc2 : y2.cls = y.cls) (hy : y.cls ≠ "java/lang/invoke/MethodHandle" ∧ y.cls ≠ "java/lang/invoke/VarHandle") (h2 : (Cond.selects C y2 y2).before args s = true) (hpriv : (Cond.privateMethod y).before args s = true) (hinst : (Cond.instanceMethod y).before args s = true) : (Cond.selects C y y).before args s = true := by
  obtain ⟨c, r, m, hc, hr, hm, hs, mk, hk, hni⟩ := Cond.selects_spec h2
  obtain ⟨my, methM, hnamed, hmethM, -, -⟩ := Cond.instanceMethod_spec hinst
  have hfound : s.methodFound? y.cls y.name y.desc = some my := State.methodFound?_of_named hnamed hy
  have e1 : my.cls = m.cls := by
    have g1 := findClass_of_methodNamed hnamed
    have g2 := findClass_of_methodNamed hm
    rw [hc2] at g2
    exact Option.some.inj (g1.symm.trans g2)
  have hsel : selectMethod {} s.vm c my = .method my := selectMethod_private hmethM (Cond.privateMethod_at hpriv my methM hnamed hmethM)
  simp only [Cond.before, Cond.holds, Cond.value, hc, hfound, hnamed, hsel, e1, hk]
  simp
  exact hni
/-- what the tables say of a call whose method a subclass inherits or overrides -/
def ev_UL (own : String) (index : Nat) (x : MethodName) (M2 : ev_M) (ci n : Nat) : Prop := ∃ (q : vw_C × (Nat → FieldType)) (b0 : ByteArray) (m0 : Nat) (r0 : Option FieldType), ev_cd[ci]? = some q ∧ ci < 99 ∧ GoodIn lw_all (ws_ M2.1 M2.2.1 M2.2.2.1 M2.2.2.2) ∧ (Cond.methodLink own index x ∈ lw_all ∧ Cond.sameMethod x.cls x.cls x.name x.desc ∈ lw_all ∧ Cond.instanceMethod x ∈ lw_all ∧ Cond.code x b0 m0 r0 ∈ lw_all) ∧ (Cond.selects q.1.1 x M2.1 ∈ lw_all ∨ (M2.1 = x ∧ Cond.privateMethod x ∈ lw_tbl ∧ ∃ y2 : MethodName, y2.cls = x.cls ∧ Cond.selects q.1.1 y2 y2 ∈ lw_all)) ∧ Cond.instanceMethod M2.1 ∈ lw_all ∧ Cond.initialized M2.1.cls ∈ lw_all ∧ (x.cls ≠ "java/lang/invoke/MethodHandle" ∧ x.cls ≠ "java/lang/invoke/VarHandle" ∧ (parseMethodDescriptor x.desc).map (fun d => d.parameters.length) = some n)
/-- .. of a super call -/
def ev_PL (own : String) (index : Nat) (M2 : ev_M) (ci n : Nat) : Prop := ∃ q : vw_C × (Nat → FieldType), ev_cd[ci]? = some q ∧ ci < 99 ∧ GoodIn lw_all (va_wsSU own index M2.1 (ws_ M2.1 M2.2.1 M2.2.2.1 M2.2.2.2)) ∧ (M2.1.name ≠ "<init>" ∧ (parseMethodDescriptor M2.1.desc).map (fun d => d.parameters.length) = some n)
section EVCU
variable {G : ev_G} {M : ev_M} {R : Room} {Qf : List Frame → Array Value → State → State → Prop} {pc uc us : Nat} {L : List (Option ev_V)} {st : List ev_V} {h : ev_H}
theorem r_callU {index ci n a d mc2 ms2 : Nat} {x : MethodName} {M2 : ev_M} {as : List ev_V} {st0 : List ev_V} {q : Option ev_V → ev_H → Prop} (V : ev_UL M.1.cls index x M2 ci n) (hC : Called G M2 d mc2 ms2 (vR a :: as) h q) (hk : hK h a = ci + 1) (hst : st0 = as.reverse ++ vR a :: st) (hn : as.length = n) (hw : Nat.ble (ev_sw st) 8 = true) (hro : ev_rok R d M2.2.2.1 = true) (hc : uc + mc2 ≤ R.cells) (hs : us + ms2 ≤ R.slots) (hd : decode M.2.1 pc = .ok (.invokevirtual index, 3))
    (kk : ∀ (r : Option ev_V) (h1 : ev_H), q r h1 → Ev G M R Qf (pc + 3) L (r.toList ++ st) h1 (uc + mc2) (us + ms2)) : Ev G M R Qf pc L st0 h uc us := by
  intro p e s m args below meth c H locs ls X hr hS hl
  obtain ⟨q9, b0, m0, r0, hq, hci, hG, ⟨w1, w2, w3, w4⟩, hsel, w5, w6, hdsc⟩ := V
  have hne : hK h a ≠ 0 := by omega
  have hts := X.2.2.2.2.2.2.1
  have hT := X.2.2.2.2.2.2.2.1
  obtain ⟨cell, g1, g2, g3, g4, -⟩ := (hr.rd hT hne).obj hk hci hq
  have hcl := (hT.1.1 ci _ (ev_cl_at hq)).2.1
  have hsel9 : (Cond.selects q9.1.1 x M2.1).before args s = true := by
    rcases hsel with hsel | ⟨e1, hp, y2, e2, h2⟩
    · exact hts _ hsel
    · rw [e1]
      exact sel_priv e2 ⟨hdsc.1, hdsc.2.1⟩ (hts _ h2) (va_Nw.use rfl (hT.2.1 _ hp rfl)) (hts _ w3)
  have hcode : Cond.code M2.1 M2.2.1 M2.2.2.1 M2.2.2.2 ∈ ws_ M2.1 M2.2.1 M2.2.2.1 M2.2.2.2 := List.mem_cons_self
  have hR := ev_rok_ok hro
  refine ev_go (M := M) (L := L) (st := st) (va_runU (cc := M.2.1) (nL := M.2.2.1) (Ts := lw_all) (own := M.1.cls) (C := q9.1.1) (owner := x.cls) (x := x) (b := ga G a) (As := as.map (tv G)) (rest := st.map (tv G)) (n := n) (bytes := M2.2.1) (maxL := M2.2.2.1) (ret := M2.2.2.2) (index := index) ⟨X.1, X.2.1, X.2.2.2.2.1, X.2.2.2.2.2.1, hts⟩ hC ⟨⟨rfl, rfl, hR.1, hR.2, pay_in hts hG, hcode⟩, hts _ (hG _ hcode).1, hts _ w6, ⟨hdsc.1, hdsc.2.1⟩, fun sig h9 => ?_, hts _ w1, hts _ w2, va_Decl.of (hts _ w3) (hts _ w4), hsel9, hts _ w5⟩ ⟨ev_blind _, ⟨cell, g1, g3, by rw [hcl, g4]⟩, fun U hU hW => ⟨?_, hT.warm hW (fun a h1 h2 => by rw [hU]; exact hS.2.1 a h1 h2), by rw [hU]; exact hr.moved hW.alike⟩⟩ rfl (by rw [List.length_map]; exact hn) hl.1 ?_ (lv_room (by rw [ev_sw_ok]; exact Nat.le_of_ble_eq_true hw)) hd ⟨hc, hs⟩) X hS hl kk
  · have h2 := hdsc.2.2
    rw [h9] at h2
    exact (Option.some.inj h2).symm
  · rw [List.map_cons, tv_ref (ev_pos hr.1 hne)]
  · show st0.map (tv G) = _
    rw [hst, List.map_append, List.map_cons, List.map_reverse, tv_ref (ev_pos hr.1 hne)]
theorem r_callP {index ci n a d mc2 ms2 : Nat} {M2 : ev_M} {as : List ev_V} {st0 : List ev_V} {q : Option ev_V → ev_H → Prop} (V : ev_PL M.1.cls index M2 ci n) (hC : Called G M2 d mc2 ms2 (vR a :: as) h q) (hk : hK h a = ci + 1) (hst : st0 = as.reverse ++ vR a :: st) (hn : as.length = n) (hw : Nat.ble (ev_sw st) 8 = true) (hro : ev_rok R d M2.2.2.1 = true) (hc : uc + mc2 ≤ R.cells) (hs : us + ms2 ≤ R.slots) (hd : decode M.2.1 pc = .ok (.invokespecial index, 3))
    (kk : ∀ (r : Option ev_V) (h1 : ev_H), q r h1 → Ev G M R Qf (pc + 3) L (r.toList ++ st) h1 (uc + mc2) (us + ms2)) : Ev G M R Qf pc L st0 h uc us := by
  intro p e s m args below meth c H locs ls X hr hS hl
  obtain ⟨q9, hq, hci, hG, hdsc⟩ := V
  have hne : hK h a ≠ 0 := by omega
  have hts := X.2.2.2.2.2.2.1
  have hT := X.2.2.2.2.2.2.2.1
  obtain ⟨cell, g1, g2, g3, g4, -⟩ := (hr.rd hT hne).obj hk hci hq
  obtain ⟨hS9, hfc, kC, hkC, hkind⟩ := hT.1.1 ci _ (ev_cl_at hq)
  refine ev_go (M := M) (L := L) (st := st) (va_runSU (cc := M.2.1) (nL := M.2.2.1) (Ts := lw_all) (own := M.1.cls) (C := q9.1.1) (b := ga G a) (As := as.map (tv G)) (rest := st.map (tv G)) (n := n) ⟨hfc, kC, hkC, hkind⟩ ⟨X.1, X.2.1, X.2.2.2.2.1, X.2.2.2.2.2.1, hts⟩ hC (va_cwSU n hts hG rfl rfl rfl hdsc (ev_rok_ok hro)) ⟨ev_blind _, ⟨cell, g1, g3, by rw [hfc, g4]⟩, fun U hU hW => ⟨?_, hT.warm hW (fun a h1 h2 => by rw [hU]; exact hS.2.1 a h1 h2), by rw [hU]; exact hr.moved hW.alike⟩⟩ rfl (by rw [List.length_map]; exact hn) hl.1 ?_ (lv_room (by rw [ev_sw_ok]; exact Nat.le_of_ble_eq_true hw)) hd ⟨hc, hs⟩) X hS hl kk
  · rw [List.map_cons, tv_ref (ev_pos hr.1 hne)]
  · show st0.map (tv G) = _
    rw [hst, List.map_append, List.map_cons, List.map_reverse, tv_ref (ev_pos hr.1 hne)]
/-- getClass of an array of objects -/
theorem r_getClass {index a : Nat} (w1 : Cond.methodLink M.1.cls index ⟨"java/lang/Object", "getClass", "()Ljava/lang/Class;"⟩ ∈ lw_all) (w2 : Cond.declares ⟨"java/lang/Object", "getClass", "()Ljava/lang/Class;"⟩ ∈ lw_tbl) (w3 : Cond.selects "[Ljava/lang/Object;" ⟨"java/lang/Object", "getClass", "()Ljava/lang/Class;"⟩ ⟨"java/lang/Object", "getClass", "()Ljava/lang/Class;"⟩ ∈ lw_all) (w4 : Cond.instanceMethod ⟨"java/lang/Object", "getClass", "()Ljava/lang/Class;"⟩ ∈ lw_all) (w5 : Cond.native ⟨"java/lang/Object", "getClass", "()Ljava/lang/Class;"⟩ ∈ lw_all) (hk : hK h a = 104) (ha : ev_c < a) (hf : 1 ≤ R.frames) (hlo : 40 ≤ R.locals) (hsw : Nat.ble (ev_sw st) 8 = true) (hd : decode M.2.1 pc = .ok (.invokevirtual index, 3))
    (kk : Ev G M R Qf (pc + 3) L (vR 8 :: st) h uc us) : Ev G M R Qf pc L (vR a :: st) h uc us := by
  intro p e s m args below meth c H locs ls X hr hS hl
  have hts := X.2.2.2.2.2.2.1
  have hT := X.2.2.2.2.2.2.2.1
  have k9 := kk p e s m args below meth c H locs ls X hr hS hl
  rw [List.map_cons, tv_ref (by decide)] at k9
  rw [List.map_cons, tv_ref (ev_pos hr.1 (by omega))]
  obtain ⟨cell, g1, g2, g3, -⟩ := ev_ay hr (t := 4) hk ha
  have hn := ra_name 4 (by decide) (hT.arr (t := 4) (by decide)).2
  have hsw8 := Nat.le_of_ble_eq_true hsw
  exact va_getC X.1 X.2.1 (by rw [X.2.2.2.2.1]; exact hl.1.symm) X.2.2.2.2.2.1 (hts _ w1) (va_Nw.use rfl (hT.2.1 _ w2 rfl)) (hts _ w3) (hts _ w4) (hts _ w5) hT.2.2.2.2.1 ⟨cell, g1, g2, by rw [g3]; exact hn⟩ hf (by rw [ev_sw_ok]; omega) hd k9
end EVCU
