/-! ===== ROWS OF THE SMALL WORLD: reading ===== -/
set_option maxRecDepth 100000
theorem ga_new {G : ev_G} {a : Nat} (h : ev_c < a) : ga G a = gz G + (a - ev_c - 1) := by
  unfold ga
  rw [if_neg (by omega)]
theorem ev_ws_at {G : ev_G} {h : ev_H} {a : Nat} (hw : ev_c < a) (ha : a < hN h) : (ev_ws G h)[a - ev_c - 1]? = some (ga G a, ev_e G h a) := by
  unfold ev_ws
  rw [List.getElem?_map, List.getElem?_range (by omega), ga_new hw, Option.map_some]
  rw [show ev_c + 1 + (a - ev_c - 1) = a by omega]
theorem ev_ws_inv {G : ev_G} {h : ev_H} {k : Nat} {q : Nat × va_E} (hk : (ev_ws G h)[k]? = some q) : k < hN h - ev_c - 1 ∧ q = (gz G + k, ev_e G h (ev_c + 1 + k)) := by
  unfold ev_ws at hk
  rw [List.getElem?_map] at hk
  cases hr : (List.range (hN h - ev_c - 1))[k]? with
  | none => rw [hr] at hk; cases hk
  | some i =>
    rw [hr] at hk
    have h1 := (List.getElem?_eq_some_iff.mp hr).1
    rw [List.length_range] at h1
    rw [List.getElem?_range h1] at hr
    cases hr
    exact ⟨h1, (Option.some.inj hk).symm⟩
theorem ev_D {G : ev_G} {h : ev_H} : va_D (ev_A G) (ev_ws G h) := by
  refine ⟨fun i j p q hi hj e => ?_, fun k q hk => ?_⟩
  · have h1 := (ev_ws_inv hi).2
    have h2 := (ev_ws_inv hj).2
    rw [h1, h2] at e
    have e : gz G + i = gz G + j := e
    omega
  · rw [(ev_ws_inv hk).2]
    exact Nat.le_add_right _ _
theorem ev_cl_at {ci : Nat} {q : vw_C × (Nat → FieldType)} (h : ev_cd[ci]? = some q) : ev_cl[ci]? = some q.1 := by
  unfold ev_cl
  rw [List.getElem?_map, h]
  rfl
theorem ev_q_at {ci : Nat} {q : vw_C × (Nat → FieldType)} (h : ev_cd[ci]? = some q) : ev_q ci = q := by
  unfold ev_q
  rw [List.getD_eq_getElem?_getD, h]
  rfl
theorem ev_e_obj {G : ev_G} {h : ev_H} {a ci : Nat} {q : vw_C × (Nat → FieldType)} (hk : hK h a = ci + 1) (hc : ci < 99) (hq : ev_cd[ci]? = some q) : ev_e G h a = .inr (ci, ev_fs G h a q) := by
  unfold ev_e
  rw [if_pos (by omega), show hK h a - 1 = ci by omega, ev_q_at hq]
theorem ev_e_arr {G : ev_G} {h : ev_H} {a t : Nat} (hk : hK h a = 100 + t) : ev_e G h a = .inl (G.2.2.1 t, ev_ac G h a (ev_at t)) := by
  unfold ev_e
  rw [if_neg (by omega), show hK h a - 100 = t by omega]
theorem ev_fs_at {G : ev_G} {h : ev_H} {a k : Nat} {q : vw_C × (Nat → FieldType)} (hk : k < q.1.2.2) : vp_V (ev_fs G h a q) k = ev_fv G h a (q.2 k) k := by
  unfold vp_V ev_fs
  rw [List.getD_eq_getElem?_getD, List.getElem?_map, List.getElem?_range hk]
  rfl
theorem ev_cell {G : ev_G} {h : ev_H} {a : Nat} {cA : ClassId} {ty : FieldType} (hty : ty ≠ .float) (hty2 : ty ≠ .double) : vp_cell cA (ev_ac G h a ty) = arrV cA (hL h a) (fun j => ev_fv G h a ty j) := by
  cases ty <;> first | rfl | exact absurd rfl hty | exact absurd rfl hty2
theorem ev_at_ok (t : Nat) : ev_at t ≠ .float ∧ ev_at t ≠ .double := by
  unfold ev_at
  split <;> exact ⟨by decide, by decide⟩
theorem ev_len : ev_cd.length = 23 := rfl
/-- every cell that is there can be read -/
theorem ev_R.rd {G : ev_G} {h : ev_H} {s : State} {H : Heap} {a : Nat} (hR : ev_R G h s H) (hT : ev_T G s) (ha : hK h a ≠ 0) : ev_rd G h s a H := by
  obtain ⟨hwf, hz, hP, hc⟩ := hR
  by_cases hle : a ≤ ev_c
  · exact (hc a hle ha).2
  · have hgt : ev_c < a := by omega
    have hlt := (hwf.2.1 a ha).2
    have hat := hP _ _ (ev_ws_at (G := G) hgt hlt)
    rcases hwf.2.2 a hgt hlt with hk | hk
    · rw [ev_len] at hk
      have hci : ∃ ci, hK h a = ci + 1 ∧ ci < 23 := ⟨hK h a - 1, by omega, by omega⟩
      obtain ⟨ci, e, hci⟩ := hci
      have hq : ∃ q, ev_cd[ci]? = some q := ⟨_, List.getElem?_eq_getElem (by rw [ev_len]; exact hci)⟩
      obtain ⟨q, hq⟩ := hq
      rw [ev_e_obj e (by omega) hq] at hat
      obtain ⟨r, h1, cell, g1, g2, g3, g4⟩ := hat
      have hr : r = q.1 := Option.some.inj (h1.symm.trans (ev_cl_at hq))
      subst hr
      exact ⟨cell, g1, (by rw [g3]; exact fun z => (by cases z)), (by rw [g3]; rfl), Or.inl ⟨ci, q, e, by omega, hq, g2, fun k hk => by rw [g4 k hk, ev_fs_at hk]⟩⟩
    · have hct : ∃ t, hK h a = 100 + t ∧ t < 7 := ⟨hK h a - 100, by omega, by omega⟩
      obtain ⟨t, e, ht⟩ := hct
      rw [ev_e_arr e] at hat
      have hat : H[ga G a]? = some (vp_cell (G.2.2.1 t) (ev_ac G h a (ev_at t))) := hat
      rw [ev_cell (ev_at_ok t).1 (ev_at_ok t).2] at hat
      refine ⟨_, hat, (fun z => by cases z), rfl, Or.inr ⟨t, e, ht, ?_, arrV_size _ _ _, fun j hj => arrV_read _ _ hj⟩⟩
      refine (hT.1.2 t (G.2.2.1 t, ev_at t) ?_).1 _ _
      unfold gtys
      rw [List.getElem?_map, List.getElem?_range ht]
      rfl
theorem ev_rd.obj {G : ev_G} {h : ev_H} {s : State} {a : Nat} {H : Heap} {ci : Nat} {q : vw_C × (Nat → FieldType)} (hr : ev_rd G h s a H) (hk : hK h a = ci + 1) (hci : ci < 99) (hq : ev_cd[ci]? = some q) :
    ∃ cell : Cell, H[ga G a]? = some cell ∧ cell.vm ≠ .unknown ∧ cell.vm.isStatics = false ∧ cell.cls = G.2.1.1 ci ∧ ∀ k, k < q.1.2.2 → cell.slots[G.2.1.2 ci k]? = some (ev_fv G h a (q.2 k) k) := by
  obtain ⟨cell, h1, h2, h3, h4⟩ := hr
  rcases h4 with ⟨ci', q', e, -, hq', h5, h6⟩ | ⟨t, e, -⟩
  · have : ci' = ci := by omega
    subst this
    cases Option.some.inj (hq'.symm.trans hq)
    exact ⟨cell, h1, h2, h3, h5, h6⟩
  · omega
theorem ev_rd.arr {G : ev_G} {h : ev_H} {s : State} {a : Nat} {H : Heap} {t : Nat} (hr : ev_rd G h s a H) (hk : hK h a = 100 + t) :
    ∃ cell : Cell, H[ga G a]? = some cell ∧ cell.vm ≠ .unknown ∧ s.isArrayOf cell (ev_at t) ∧ cell.slots.size = hL h a ∧ ∀ j, j < hL h a → cell.slots[j]? = some (ev_fv G h a (ev_at t) j) := by
  obtain ⟨cell, h1, h2, h3, h4⟩ := hr
  rcases h4 with ⟨ci', q', e, h, -⟩ | ⟨t', e, -, h5, h6, h7⟩
  · omega
  · have : t' = t := by omega
    subst this
    exact ⟨cell, h1, h2, h5, h6, h7⟩
theorem tv_ref {G : ev_G} {a : Nat} (h : a ≠ 0) : tv G (vR a) = .ref (ga G a) := by
  show va_rf (go G a) = _
  unfold go
  rw [if_neg h]
  rfl
theorem ev_pos {h : ev_H} {a : Nat} (hwf : ev_wf h) (hk : hK h a ≠ 0) : a ≠ 0 := by
  have := (hwf.2.1 a hk).1
  omega
/-- what a field's link says: own class, pool index, class' number, field's number, type, final -/
def ev_FL (own : String) (index ci k : Nat) (fty : FieldType) (fin : Bool) : Prop := ∃ (C : String) (T : u_T) (N : Nat) (ty : Nat → FieldType), ev_cd[ci]? = some ((C, T, N), ty) ∧ ci < 99 ∧ k < N ∧ ty k = fty ∧ (T k).2.2.2 = fin ∧ (∀ w ∈ u_ws C T N, w ∈ lw_all) ∧ (∀ j, j < N → parseFieldDescriptor (T j).2.2.1 = some (ty j)) ∧ (∀ a, a < N → ∀ b, b < N → a ≠ b → (T a).2.1 ≠ (T b).2.1) ∧ Cond.fieldLink own index (T k).1 (T k).2.1 (T k).2.2.1 ∈ lw_all
theorem ev_at_ref {t : Nat} (ht : 4 ≤ t) : (ev_at t).isReference = true ∧ ∀ (G : ev_G) (h : ev_H) (a j : Nat), ev_fv G h a (ev_at t) j = va_rf (go G (hR h a j)) := by
  match t, ht with
  | 4, _ => exact ⟨rfl, fun _ _ _ _ => rfl⟩
  | 5, _ => exact ⟨rfl, fun _ _ _ _ => rfl⟩
  | n + 6, _ => exact ⟨rfl, fun _ _ _ _ => rfl⟩
section EVR
variable {G : ev_G} {M : ev_M} {R : Room} {Qf : List Frame → Array Value → State → State → Prop} {pc uc us : Nat} {L : List (Option ev_V)} {st : List ev_V} {h : ev_H}
/-- getfield -/
theorem r_get {index ci k a : Nat} {fty : FieldType} {fin : Bool} (F : ev_FL M.1.cls index ci k fty fin) (hk : hK h a = ci + 1) (v : ev_V) (hv : ev_fv G h a fty k = tv G v) (hd : decode M.2.1 pc = .ok (.getfield index, 3))
    (kk : Ev G M R Qf (pc + 3) L (v :: st) h uc us) : Ev G M R Qf pc L (vR a :: st) h uc us := by
  intro p e s m args below meth c H locs ls X hr hS hl
  have hne : hK h a ≠ 0 := by omega
  obtain ⟨C, T, N, ty, hq, hci, hkN, hty, hfin, hin, hpt, hnm, hlk⟩ := F
  obtain ⟨cell, g1, g2, g3, g4, g5⟩ := (hr.rd X.2.2.2.2.2.2.2.1 hne).obj hk hci hq
  obtain ⟨hS9, hfc, kC, hkC, hkind⟩ := X.2.2.2.2.2.2.2.1.1.1 ci _ (ev_cl_at hq)
  obtain ⟨cf, kf, fi, f, hi, hsl⟩ := hS9 k hkN
  have hts := X.2.2.2.2.2.2.1
  have e1 : (vR a :: st).map (tv G) = .ref (ga G a) :: st.map (tv G) := by rw [List.map_cons, tv_ref (ev_pos hr.1 hne)]
  rw [e1]
  refine W.getf X.1 X.2.1 X.2.2.2.2.2.1 (hts _ hlk) hi (u_facts hfc hkC (u_lays hts hin hkN) hi).1 g1 g2 (v := tv G v) ?_ rfl rfl hd ?_
  · rw [hsl]
    exact (g5 k hkN).trans (by show some (ev_fv G h a (ty k) k) = _; rw [hty, hv])
  · exact kk p e s m args below meth c H locs ls X hr hS hl
theorem r_getI {index ci k a : Nat} {fty : FieldType} {fin : Bool} (F : ev_FL M.1.cls index ci k fty fin) (hk : hK h a = ci + 1) (hv : ev_fv G h a fty k = .int (hI h a k)) (hd : decode M.2.1 pc = .ok (.getfield index, 3))
    (kk : Ev G M R Qf (pc + 3) L (vI (hI h a k) :: st) h uc us) : Ev G M R Qf pc L (vR a :: st) h uc us := r_get F hk (vI (hI h a k)) hv hd kk
theorem r_getJ {index ci k a : Nat} {fin : Bool} (F : ev_FL M.1.cls index ci k .long fin) (hk : hK h a = ci + 1) (hd : decode M.2.1 pc = .ok (.getfield index, 3))
    (kk : Ev G M R Qf (pc + 3) L (vJ (hJ h a k) :: st) h uc us) : Ev G M R Qf pc L (vR a :: st) h uc us := r_get F hk (vJ (hJ h a k)) rfl hd kk
theorem r_getR {index ci k a : Nat} {fty : FieldType} {fin : Bool} (F : ev_FL M.1.cls index ci k fty fin) (hk : hK h a = ci + 1) (hv : ev_fv G h a fty k = va_rf (go G (hR h a k))) (hd : decode M.2.1 pc = .ok (.getfield index, 3))
    (kk : Ev G M R Qf (pc + 3) L (vR (hR h a k) :: st) h uc us) : Ev G M R Qf pc L (vR a :: st) h uc us := r_get F hk (vR (hR h a k)) hv hd kk
/-- a load of an array -/
theorem r_iald {i : Int32} {a : Nat} (hk : hK h a = 100) (hin : vp_in i (hL h a)) (hd : decode M.2.1 pc = .ok (.iaload, 1))
    (kk : Ev G M R Qf (pc + 1) L (vI (hI h a i.toNatClampNeg) :: st) h uc us) : Ev G M R Qf pc L (vI i :: vR a :: st) h uc us := by
  intro p e s m args below meth c H locs ls X hr hS hl
  have hne : hK h a ≠ 0 := by omega
  obtain ⟨cell, g1, g2, g3, g4, g5⟩ := (hr.rd X.2.2.2.2.2.2.2.1 hne).arr (t := 0) hk
  have e1 : (vI i :: vR a :: st).map (tv G) = .int i :: .ref (ga G a) :: st.map (tv G) := by rw [List.map_cons, List.map_cons, tv_ref (ev_pos hr.1 hne)]; rfl
  rw [e1]
  have hlt : i.toNatClampNeg < hL h a := Nat.not_le.mp fun q => hin (Or.inr q)
  exact W.iald (v := .int (hI h a i.toNatClampNeg)) X.1 X.2.1 g1 g3 g2 (by rw [g4]; exact hin) (g5 _ hlt) rfl rfl hd (kk p e s m args below meth c H locs ls X hr hS hl)
theorem r_bald {i : Int32} {a : Nat} (hk : hK h a = 101) (hin : vp_in i (hL h a)) (hd : decode M.2.1 pc = .ok (.baload, 1))
    (kk : Ev G M R Qf (pc + 1) L (vI (hI h a i.toNatClampNeg) :: st) h uc us) : Ev G M R Qf pc L (vI i :: vR a :: st) h uc us := by
  intro p e s m args below meth c H locs ls X hr hS hl
  have hne : hK h a ≠ 0 := by omega
  obtain ⟨cell, g1, g2, g3, g4, g5⟩ := (hr.rd X.2.2.2.2.2.2.2.1 hne).arr (t := 1) hk
  have e1 : (vI i :: vR a :: st).map (tv G) = .int i :: .ref (ga G a) :: st.map (tv G) := by rw [List.map_cons, List.map_cons, tv_ref (ev_pos hr.1 hne)]; rfl
  rw [e1]
  have hlt : i.toNatClampNeg < hL h a := Nat.not_le.mp fun q => hin (Or.inr q)
  exact W.bald (v := .int (hI h a i.toNatClampNeg)) X.1 X.2.1 g1 g3 g2 (by rw [g4]; exact hin) (g5 _ hlt) rfl rfl hd (kk p e s m args below meth c H locs ls X hr hS hl)
theorem r_zald {i : Int32} {a : Nat} (hk : hK h a = 102) (hin : vp_in i (hL h a)) (hd : decode M.2.1 pc = .ok (.baload, 1))
    (kk : Ev G M R Qf (pc + 1) L (vI (hI h a i.toNatClampNeg) :: st) h uc us) : Ev G M R Qf pc L (vI i :: vR a :: st) h uc us := by
  intro p e s m args below meth c H locs ls X hr hS hl
  have hne : hK h a ≠ 0 := by omega
  obtain ⟨cell, g1, g2, g3, g4, g5⟩ := (hr.rd X.2.2.2.2.2.2.2.1 hne).arr (t := 2) hk
  have e1 : (vI i :: vR a :: st).map (tv G) = .int i :: .ref (ga G a) :: st.map (tv G) := by rw [List.map_cons, List.map_cons, tv_ref (ev_pos hr.1 hne)]; rfl
  rw [e1]
  have hlt : i.toNatClampNeg < hL h a := Nat.not_le.mp fun q => hin (Or.inr q)
  exact W.zald (v := .int (hI h a i.toNatClampNeg)) X.1 X.2.1 g1 g3 g2 (by rw [g4]; exact hin) (g5 _ hlt) rfl rfl hd (kk p e s m args below meth c H locs ls X hr hS hl)
theorem r_lald {i : Int32} {a : Nat} (hk : hK h a = 103) (hin : vp_in i (hL h a)) (hd : decode M.2.1 pc = .ok (.laload, 1))
    (kk : Ev G M R Qf (pc + 1) L (vJ (hJ h a i.toNatClampNeg) :: st) h uc us) : Ev G M R Qf pc L (vI i :: vR a :: st) h uc us := by
  intro p e s m args below meth c H locs ls X hr hS hl
  have hne : hK h a ≠ 0 := by omega
  obtain ⟨cell, g1, g2, g3, g4, g5⟩ := (hr.rd X.2.2.2.2.2.2.2.1 hne).arr (t := 3) hk
  have e1 : (vI i :: vR a :: st).map (tv G) = .int i :: .ref (ga G a) :: st.map (tv G) := by rw [List.map_cons, List.map_cons, tv_ref (ev_pos hr.1 hne)]; rfl
  rw [e1]
  have hlt : i.toNatClampNeg < hL h a := Nat.not_le.mp fun q => hin (Or.inr q)
  exact W.lald (v := .long (hJ h a i.toNatClampNeg)) X.1 X.2.1 g1 g3 g2 (by rw [g4]; exact hin) (g5 _ hlt) rfl rfl hd (kk p e s m args below meth c H locs ls X hr hS hl)
theorem r_aald {i : Int32} {a t : Nat} (hk : hK h a = 100 + t) (ht : 4 ≤ t) (hin : vp_in i (hL h a)) (hd : decode M.2.1 pc = .ok (.aaload, 1))
    (kk : Ev G M R Qf (pc + 1) L (vR (hR h a i.toNatClampNeg) :: st) h uc us) : Ev G M R Qf pc L (vI i :: vR a :: st) h uc us := by
  intro p e s m args below meth c H locs ls X hr hS hl
  have hne : hK h a ≠ 0 := by omega
  obtain ⟨cell, g1, g2, g3, g4, g5⟩ := (hr.rd X.2.2.2.2.2.2.2.1 hne).arr (t := t) hk
  have e1 : (vI i :: vR a :: st).map (tv G) = .int i :: .ref (ga G a) :: st.map (tv G) := by rw [List.map_cons, List.map_cons, tv_ref (ev_pos hr.1 hne)]; rfl
  rw [e1]
  have hlt : i.toNatClampNeg < hL h a := Nat.not_le.mp fun q => hin (Or.inr q)
  have hty := ev_at_ref ht
  exact W.aald (v := va_rf (go G (hR h a i.toNatClampNeg))) X.1 X.2.1 g1 g3 hty.1 g2 (by rw [g4]; exact hin) (by rw [g5 _ hlt, hty.2 G h a]) rfl rfl hd (kk p e s m args below meth c H locs ls X hr hS hl)
theorem r_alen {a t : Nat} (hk : hK h a = 100 + t) (hd : decode M.2.1 pc = .ok (.arraylength, 1))
    (kk : Ev G M R Qf (pc + 1) L (vI (nI (hL h a)) :: st) h uc us) : Ev G M R Qf pc L (vR a :: st) h uc us := by
  intro p e s m args below meth c H locs ls X hr hS hl
  have hne : hK h a ≠ 0 := by omega
  obtain ⟨cell, g1, g2, g3, g4, g5⟩ := (hr.rd X.2.2.2.2.2.2.2.1 hne).arr (t := t) hk
  have e1 : (vR a :: st).map (tv G) = .ref (ga G a) :: st.map (tv G) := by rw [List.map_cons, tv_ref (ev_pos hr.1 hne)]
  rw [e1]
  exact W.alen (n := nI (hL h a)) X.1 X.2.1 g1 g3 (by rw [g4]; rfl) rfl rfl hd (kk p e s m args below meth c H locs ls X hr hS hl)
end EVR
