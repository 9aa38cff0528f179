/-! ===== ROWS OF THE SMALL WORLD: calls through an interface, of nest mates, inherited, super ===== -/
set_option maxRecDepth 100000
section EVCX
variable {G : ev_G} {M : ev_M} {R : Room} {Qf : List Frame → Array Value → State → State → Prop} {pc uc us : Nat} {L : List (Option ev_V)} {st : List ev_V} {h : ev_H}
theorem ev_go5 {a : Array Value} {m1 m2 : Nat} {p : Program} {e : Env} {s : State} {m : MethodId} {args : Array Value} {below : List Frame} {meth : Method} {c : Code} {H : Heap} {locs : List Loc} {ls : Array Slot} {st0 : List Value} {q : Option ev_V → ev_H → Prop}
    (hr : va_Run5 p G.1 e R s m args below meth c H locs uc us m1 m2 (F0 m pc ls st0) (st.map (tv G)) (ev_Qc G q a) (ev_A G)) (X : ev_C G M p s m args meth c) (hS : va_S (ev_A G) s.heap H locs) (hl : ev_L G ls M.2.2.1 L)
    (kk : ∀ (r : Option ev_V) (h1 : ev_H), q r h1 → Ev G M R Qf (pc + 5) L (r.toList ++ st) h1 (uc + m1) (us + m2)) : W p G.1 e R s m args below meth c H locs uc us (Qf below args s) (F0 m pc ls st0) := by
  intro T hT Y
  obtain ⟨v, st₀, t, T', L9, h0, Y', hL, e1, e2, ⟨⟨r, h1, hv, hp, hb⟩, hz, hk⟩, sg⟩ := hr T hT Y
  have hv : v = r.map (tv G) := Outcome.returned.inj hv
  subst hv
  rw [h0] at hz hk
  have hvm : s.vm.Alike t.vm := by rw [← e2]; exact Y'.warmed.alike
  have hb : ev_R G h1 s T'.heap := by rw [e1]; exact hb.moved hvm.symm
  obtain ⟨t2, a1, b1⟩ := kk r h1 hp p e s m args below meth c T'.heap (locs ++ L9) ls X hb
    ⟨Nat.le_trans hS.1 (by rw [e1]; exact hz), fun q h1 h2 => by rw [e1, hk q (Nat.lt_of_lt_of_le h1 hS.1) h2]; exact hS.2.1 q h1 h2, fun q hq => by
      rcases List.mem_append.mp hq with h | h
      · exact hS.2.2 q h
      · exact hL q h⟩ hl T' rfl Y'
  refine ⟨t2, sg t2 ?_, b1⟩
  have e9 : (r.toList ++ st).map (tv G) = (r.map (tv G)).toList ++ st.map (tv G) := by cases r <;> rfl
  rw [e9] at a1
  exact a1
/-- what the tables say of the answer of a class for the interface's method -/
def ev_FF (own : String) (index : Nat) (M2 : ev_M) (ci n : Nat) : Prop := ∃ q : vw_C × (Nat → FieldType), ev_cd[ci]? = some q ∧ ci < 99 ∧ (q.1.1, M2.1) ∈ ev_fw ∧ GoodIn lw_all (va_wsF own index q.1.1 ev_of M2.1 (ws_ M2.1 M2.2.1 M2.2.2.1 M2.2.2.2)) ∧ (ev_of.cls ≠ "java/lang/invoke/MethodHandle" ∧ ev_of.cls ≠ "java/lang/invoke/VarHandle" ∧ (parseMethodDescriptor ev_of.desc).map (fun d => d.parameters.length) = some n)
theorem r_callF {index ci n a d mc2 ms2 cnt : Nat} {M2 : ev_M} {as : List ev_V} {st0 : List ev_V} {q : Option ev_V → ev_H → Prop} (V : ev_FF M.1.cls index M2 ci n) (hC : Called G M2 d mc2 ms2 (vR a :: as) h q) (hk : hK h a = ci + 1) (hst : st0 = as.reverse ++ vR a :: st) (hn : as.length = n) (hw : Nat.ble (ev_sw st) 8 = true) (hro : ev_rok R d M2.2.2.1 = true) (hc : uc + mc2 ≤ R.cells) (hs : us + ms2 ≤ R.slots) (hd : decode M.2.1 pc = .ok (.invokeinterface index cnt, 5))
    (kk : ∀ (r : Option ev_V) (h1 : ev_H), q r h1 → Ev G M R Qf (pc + 5) L (r.toList ++ st) h1 (uc + mc2) (us + ms2)) : Ev G M R Qf pc L st0 h uc us := by
  intro p e s m args below meth c H locs ls X hr hS hl
  obtain ⟨q9, hq, hci, hfw, hG, hdsc⟩ := V
  have hne : hK h a ≠ 0 := by omega
  have hts := X.2.2.2.2.2.2.1
  have hT := X.2.2.2.2.2.2.2.1
  obtain ⟨cell, g1, g2, g3, g4, -⟩ := (hr.rd hT hne).obj hk hci hq
  obtain ⟨hS9, hfc, kC, hkC, hkind⟩ := hT.1.1 ci _ (ev_cl_at hq)
  refine ev_go5 (M := M) (L := L) (st := st) (va_runF (cc := M.2.1) (nL := M.2.2.1) (Ts := lw_all) (own := M.1.cls) (C := q9.1.1) (b := ga G a) (As := as.map (tv G)) (rest := st.map (tv G)) (n := n) ⟨hfc, kC, hkC, hkind⟩ ⟨X.1, X.2.1, X.2.2.2.2.1, X.2.2.2.2.2.1, hts⟩ hC (va_cwF n hts hG rfl rfl rfl (hT.2.2.2.1 _ hfw) hdsc (ev_rok_ok hro)) ⟨ev_blind _, ⟨cell, g1, g3, by rw [hfc, g4]⟩, fun U hU hW => ⟨?_, hT.warm hW (fun a h1 h2 => by rw [hU]; exact hS.2.1 a h1 h2), by rw [hU]; exact hr.moved hW.alike⟩⟩ rfl (by rw [List.length_map]; exact hn) hl.1 ?_ (lv_room (by rw [ev_sw_ok]; exact Nat.le_of_ble_eq_true hw)) hd ⟨hc, hs⟩) X hS hl kk
  · rw [List.map_cons, tv_ref (ev_pos hr.1 hne)]
  · show st0.map (tv G) = _
    rw [hst, List.map_append, List.map_cons, List.map_reverse, tv_ref (ev_pos hr.1 hne)]
/-- a nest mate's private constructor -/
def ev_NI (own : String) (index : Nat) (M2 : ev_M) (n : Nat) : Prop := ∃ host : String, GoodIn lw_all (ws_ M2.1 M2.2.1 M2.2.2.1 M2.2.2.2) ∧ Cond.initialized M2.1.cls ∈ lw_all ∧ Cond.methodLinkNest own index M2.1 host ∈ lw_tbl ∧ Cond.instanceMethod M2.1 ∈ lw_all ∧ M2.1.name = "<init>" ∧ M2.2.2.2 = none ∧ (M2.1.cls ≠ "java/lang/invoke/MethodHandle" ∧ M2.1.cls ≠ "java/lang/invoke/VarHandle" ∧ (parseMethodDescriptor M2.1.desc).map (fun d => d.parameters.length) = some n)
theorem r_callNI {index n a d mc2 ms2 : Nat} {M2 : ev_M} {as : List ev_V} {st0 : List ev_V} {q : Option ev_V → ev_H → Prop} (V : ev_NI M.1.cls index M2 n) (hC : Called G M2 d mc2 ms2 (vR a :: as) h q) (hk : hK h a ≠ 0) (hst : st0 = as.reverse ++ vR a :: st) (hn : as.length = n) (hw : Nat.ble (ev_sw st) 8 = true) (hro : ev_rok R d M2.2.2.1 = true) (hc : uc + mc2 ≤ R.cells) (hs : us + ms2 ≤ R.slots) (hd : decode M.2.1 pc = .ok (.invokespecial index, 3))
    (kk : ∀ (r : Option ev_V) (h1 : ev_H), q r h1 → Ev G M R Qf (pc + 3) L (r.toList ++ st) h1 (uc + mc2) (us + ms2)) : Ev G M R Qf pc L st0 h uc us := by
  intro p e s m args below meth c H locs ls X hr hS hl
  obtain ⟨host, hG, hi1, hi2, hi3, hi4, hi5, hdsc⟩ := V
  have hts := X.2.2.2.2.2.2.1
  have hT := X.2.2.2.2.2.2.2.1
  unfold Called at hC
  rw [hi5] at hC hG
  refine ev_go (M := M) (L := L) (st := st) (va_runIN (cc := M.2.1) (nL := M.2.2.1) (Ts := lw_all) (own := M.1.cls) (host := host) (b := ga G a) (As := as.map (tv G)) (rest := st.map (tv G)) (n := n) ⟨X.1, X.2.1, X.2.2.2.2.1, X.2.2.2.2.2.1, hts⟩ hC ⟨va_cnB n hts hG rfl rfl rfl (hT.2.1 _ hi2 rfl) (hts _ hi1) hdsc (ev_rok_ok hro), hi4, hts _ hi3⟩ ⟨ev_blind _, fun U hU hW => ⟨?_, hT.warm hW (fun a h1 h2 => by rw [hU]; exact hS.2.1 a h1 h2), by rw [hU]; exact hr.moved hW.alike⟩⟩ rfl (by rw [List.length_map]; exact hn) hl.1 ?_ (lv_room (by rw [ev_sw_ok]; exact Nat.le_of_ble_eq_true hw)) hd ⟨hc, hs⟩) X hS hl kk
  · rw [List.map_cons, tv_ref (ev_pos hr.1 hk)]
  · show st0.map (tv G) = _
    rw [hst, List.map_append, List.map_cons, List.map_reverse, tv_ref (ev_pos hr.1 hk)]
/-- a nest mate's private static method -/
def ev_NS (own : String) (index : Nat) (M2 : ev_M) (n : Nat) : Prop := ∃ host : String, GoodIn lw_all (ws_ M2.1 M2.2.1 M2.2.2.1 M2.2.2.2) ∧ Cond.initialized M2.1.cls ∈ lw_all ∧ Cond.methodLinkNest own index M2.1 host ∈ lw_tbl ∧ Cond.static M2.1 ∈ lw_all ∧ (M2.1.cls ≠ "java/lang/invoke/MethodHandle" ∧ M2.1.cls ≠ "java/lang/invoke/VarHandle" ∧ (parseMethodDescriptor M2.1.desc).map (fun d => d.parameters.length) = some n)
theorem r_callNS {index n d mc2 ms2 : Nat} {M2 : ev_M} {as : List ev_V} {st0 : List ev_V} {q : Option ev_V → ev_H → Prop} (V : ev_NS M.1.cls index M2 n) (hC : Called G M2 d mc2 ms2 as h q) (hst : st0 = as.reverse ++ st) (hn : as.length = n) (hw : Nat.ble (ev_sw st) 8 = true) (hro : ev_rok R d M2.2.2.1 = true) (hc : uc + mc2 ≤ R.cells) (hs : us + ms2 ≤ R.slots) (hd : decode M.2.1 pc = .ok (.invokestatic index, 3))
    (kk : ∀ (r : Option ev_V) (h1 : ev_H), q r h1 → Ev G M R Qf (pc + 3) L (r.toList ++ st) h1 (uc + mc2) (us + ms2)) : Ev G M R Qf pc L st0 h uc us := by
  intro p e s m args below meth c H locs ls X hr hS hl
  obtain ⟨host, hG, hi1, hi2, hi3, hdsc⟩ := V
  have hts := X.2.2.2.2.2.2.1
  have hT := X.2.2.2.2.2.2.2.1
  refine ev_go (M := M) (L := L) (st := st) (va_runSN (cc := M.2.1) (nL := M.2.2.1) (Ts := lw_all) (own := M.1.cls) (host := host) (As := as.map (tv G)) (rest := st.map (tv G)) (n := n) ⟨X.1, X.2.1, X.2.2.2.2.1, X.2.2.2.2.2.1, hts⟩ hC ⟨va_cnB n hts hG rfl rfl rfl (hT.2.1 _ hi2 rfl) (hts _ hi1) hdsc (ev_rok_ok hro), hts _ hi3, trivial⟩ ⟨ev_blind _, fun U hU hW => ⟨rfl, hT.warm hW (fun a h1 h2 => by rw [hU]; exact hS.2.1 a h1 h2), by rw [hU]; exact hr.moved hW.alike⟩⟩ rfl (by rw [List.length_map]; exact hn) hl.1 ?_ (lv_room (by rw [ev_sw_ok]; exact Nat.le_of_ble_eq_true hw)) hd ⟨hc, hs⟩) X hS hl kk
  show st0.map (tv G) = _
  rw [hst, List.map_append, List.map_reverse]
/-- a nest mate's private field is read -/
def ev_FN (own : String) (index ci k : Nat) (fty : FieldType) : Prop := ∃ (C host : String) (T : u_T) (N : Nat) (ty : Nat → FieldType), ev_cd[ci]? = some ((C, T, N), ty) ∧ ci < 99 ∧ k < N ∧ ty k = fty ∧ (∀ w ∈ u_ws C T N, w ∈ lw_all) ∧ Cond.fieldLinkNest own index (T k).1 (T k).2.1 (T k).2.2.1 host ∈ lw_tbl
theorem r_getN {index ci k a : Nat} {fty : FieldType} (F : ev_FN M.1.cls index ci k fty) (hk : hK h a = ci + 1) (v : ev_V) (hv : ev_fv G h a fty k = tv G v) (hd : decode M.2.1 pc = .ok (.getfield index, 3))
    (kk : Ev G M R Qf (pc + 3) L (v :: st) h uc us) : Ev G M R Qf pc L (vR a :: st) h uc us := by
  intro p e s m args below meth c H locs ls X hr hS hl
  have hne : hK h a ≠ 0 := by omega
  obtain ⟨C, host, T, N, ty, hq, hci, hkN, hty, hin, hlk⟩ := F
  have hT := X.2.2.2.2.2.2.2.1
  obtain ⟨cell, g1, g2, g3, g4, g5⟩ := (hr.rd hT hne).obj hk hci hq
  obtain ⟨hS9, hfc, kC, hkC, hkind⟩ := hT.1.1 ci _ (ev_cl_at hq)
  obtain ⟨cf, kf, fi, f, hi, hsl⟩ := hS9 k hkN
  have hts := X.2.2.2.2.2.2.1
  have e1 : (vR a :: st).map (tv G) = .ref (ga G a) :: st.map (tv G) := by rw [List.map_cons, tv_ref (ev_pos hr.1 hne)]
  rw [e1]
  refine va_Wgetf X.1 X.2.1 X.2.2.2.2.2.1 (va_Nw.use rfl (hT.2.1 _ hlk rfl)) hi (u_facts hfc hkC (u_lays hts hin hkN) hi).1 g1 g2 (v := tv G v) ?_ rfl rfl hd ?_
  · rw [hsl]
    exact (g5 k hkN).trans (by show some (ev_fv G h a (ty k) k) = _; rw [hty, hv])
  · exact kk p e s m args below meth c H locs ls X hr hS hl
end EVCX
