/-! ===== ROWS: inherited fields under the heir's name; constructors ===== -/
set_option maxRecDepth 100000
def ev_FS (own : String) (index ci k : Nat) (fty : FieldType) : Prop := ∃ (C ref : String) (T : u_T) (N : Nat) (ty : Nat → FieldType), ev_cd[ci]? = some ((C, T, N), ty) ∧ ci < 99 ∧ k < N ∧ ty k = fty ∧ (T k).2.2.2 = false ∧ (∀ w ∈ u_ws C T N, w ∈ lw_all) ∧ (∀ j, j < N → parseFieldDescriptor (T j).2.2.1 = some (ty j)) ∧ (∀ a, a < N → ∀ b, b < N → a ≠ b → (T a).2.1 ≠ (T b).2.1) ∧ Cond.fieldLink own index ref (T k).2.1 (T k).2.2.1 ∈ lw_all ∧ Cond.sameField ref (T k).1 (T k).2.1 (T k).2.2.1 ∈ lw_all
section EVS
variable {G : ev_G} {M : ev_M} {R : Room} {Qf : List Frame → Array Value → State → State → Prop} {pc uc us : Nat} {L : List (Option ev_V)} {st : List ev_V} {h : ev_H}
theorem r_getS {index ci k a : Nat} {fty : FieldType} (F : ev_FS M.1.cls index ci k fty) (hk : hK h a = ci + 1) (v : ev_V) (hv : ev_fv G h a fty k = tv G v) (hd : decode M.2.1 pc = .ok (.getfield index, 3))
    (kk : Ev G M R Qf (pc + 3) L (v :: st) h uc us) : Ev G M R Qf pc L (vR a :: st) h uc us := by
  intro p e s m args below meth c H locs ls X hr hS hl
  have hne : hK h a ≠ 0 := by omega
  obtain ⟨C, ref, T, N, ty, hq, hci, hkN, hty, hfin, hin, hpt, hnm, hlk, hsame⟩ := F
  obtain ⟨cell, g1, g2, g3, g4, g5⟩ := (hr.rd X.2.2.2.2.2.2.2.1 hne).obj hk hci hq
  obtain ⟨hS9, hfc, kC, hkC, hkind⟩ := X.2.2.2.2.2.2.2.1.1.1 ci _ (ev_cl_at hq)
  obtain ⟨cf, kf, fi, f, hi, hsl⟩ := hS9 k hkN
  have hts := X.2.2.2.2.2.2.1
  have e1 : (vR a :: st).map (tv G) = .ref (ga G a) :: st.map (tv G) := by rw [List.map_cons, tv_ref (ev_pos hr.1 hne)]
  rw [e1]
  refine W.getf X.1 X.2.1 X.2.2.2.2.2.1 (hts _ hlk) (u_same (hts _ hsame) _ hi) (u_facts hfc hkC (u_lays hts hin hkN) hi).1 g1 g2 (v := tv G v) ?_ rfl rfl hd ?_
  · rw [hsl]
    exact (g5 k hkN).trans (by show some (ev_fv G h a (ty k) k) = _; rw [hty, hv])
  · exact kk p e s m args below meth c H locs ls X hr hS hl
theorem r_putS {index ci k a : Nat} {x : Int32} (F : ev_FS M.1.cls index ci k .int) (hk : hK h a = ci + 1) (ha : ev_c < a) (hd : decode M.2.1 pc = .ok (.putfield index, 3))
    (kk : Ev G M R Qf (pc + 3) L st (sI h a k x) uc us) : Ev G M R Qf pc L (vI x :: vR a :: st) h uc us := by
  intro p e s m args below meth c H locs ls X hr hS hl
  have hne : hK h a ≠ 0 := by omega
  obtain ⟨C, ref, T, N, ty, hq, hci, hkN, hty, hfn, hin, hpt, hnm, hlk, hsame⟩ := F
  have hts := X.2.2.2.2.2.2.1
  have hown := X.2.2.2.2.2.1
  have hK9 := X.2.2.2.2.2.2.2.1.1
  have hap := va_apart (own := M.1.cls) hts hin ty hpt hnm hK9 (ev_cl_at hq)
  obtain ⟨cell, q1, q2, q3, q4⟩ := hr.ob ha hk hci hq
  obtain ⟨hS9, hfc, kC, hkC, hkind⟩ := hK9.1 ci _ (ev_cl_at hq)
  obtain ⟨cf, kf, fi, f, hi, hsl⟩ := hS9 k hkN
  have hlay := hts _ (hin _ (u_in_lay hkN))
  have hst := (u_facts hfc hkC (u_lays hts hin hkN) hi).1
  have hd9 : parseFieldDescriptor (T k).2.2.1 = some .int := by rw [hpt k hkN, hty]
  have e1 : (vI x :: vR a :: st).map (tv G) = tv G (vI x) :: .ref (ga G a) :: st.map (tv G) := by rw [List.map_cons, List.map_cons, tv_ref (ev_pos hr.1 hne)]
  rw [e1]
  have hslot : f.slot < cell.slots.size := by rw [hsl]; exact k2_hasslot (q4 k hkN)
  have hc := ch_sI h a k x
  have fin9 : ∀ (H1 : Heap), H1[ga G a]? = some (cell.setSlot f.slot (tv G (vI x))) → H1.size = H.size → (∀ q, q ≠ ga G a → H1[q]? = H[q]?) → W p G.1 e R s m args below meth c H1 (locs ++ [⟨ga G a, f.slot⟩]) uc us (Qf below args s) (F0 m (pc + 3) ls (st.map (tv G))) := by
    intro H1 g1 g2 g3
    rw [hsl] at g1
    have hob : t_OB (ga G a) (G.2.1.1 ci) N (G.2.1.2 ci) H1 (updV (fun k => ev_fv G h a (ty k) k) k (tv G (vI x))) := ⟨_, g1, q2, q3, t_set q4 hap hkN (tv G (vI x))⟩
    refine kk p e s m args below meth c H1 _ ls X (hr.put hc ha hne g2 g3 ?_) (ev_S hS g2 g3 ha) hl
    rw [ev_e_obj (by rw [hc.2.1]; exact hk) hci hq]
    refine ⟨_, ev_cl_at hq, hob.to fun j hj => ?_⟩
    rw [ev_fs_at (q := ((C, T, N), ty)) hj]
    by_cases hjk : j = k
    · subst hjk
      rw [show updV (fun k => ev_fv G h a (ty k) k) j (tv G (vI x)) j = tv G (vI x) from if_pos rfl]
      show _ = ev_fv G (sI h a j x) a (ty j) j
      rw [hty]
      exact (congrArg Value.int u2_self).symm
    · rw [show updV (fun k => ev_fv G h a (ty k) k) k (tv G (vI x)) j = ev_fv G h a (ty j) j from if_neg hjk]
      exact (fv_sI j (ty j) hjk).symm
  unfold u_lay at hlay
  rw [if_neg (by rw [hfn]; decide)] at hlay
  have h6 := u_store hfc hkC hkind hlay hi hd9 (v := tv G (vI x)) rfl rfl
  exact W.putK X.1 X.2.1 (f := f) ⟨hown, hts _ hlk, ⟨_, _, _, u_same (hts _ hsame) _ hi⟩, hst⟩ (by rw [q2]; exact h6) q1 q3 hslot rfl rfl hd fin9
end EVS
theorem fJ2_63 : ev_FS "java/util/ArrayList" 63 20 0 .int := ⟨RJ2, _, TJ2, 3, tyJ2, rfl, by decide, by decide, rfl, rfl, in_J2, tyJ2_ok, nmJ2, q202, q203⟩
