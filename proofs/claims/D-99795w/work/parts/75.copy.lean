/-! ===== ROWS OF THE SMALL WORLD: arrays of references, copies of arrays, inherited and super calls ===== -/
set_option maxRecDepth 100000
theorem ac_int {G : ev_G} {h : ev_H} {a : Nat} : ∀ t : Nat, t < 3 → ev_ac G h a (ev_at t) = (hL h a, .inl (hI h a))
  | 0, _ => rfl
  | 1, _ => rfl
  | 2, _ => rfl
theorem ac_ref {G : ev_G} {h : ev_H} {a : Nat} : ∀ t : Nat, 4 ≤ t → t < 7 → ev_ac G h a (ev_at t) = (hL h a, .inr (.inr (.inr (.inr (fun j => go G (hR h a j))))))
  | 4, _, _ => rfl
  | 5, _, _ => rfl
  | 6, _, _ => rfl
theorem rk_int : ∀ t : Nat, t < 3 → refKind (ev_at t) = false
  | 0, _ => rfl
  | 1, _ => rfl
  | 2, _ => rfl
theorem ev_R.cell {G : ev_G} {h : ev_H} {s : State} {H : Heap} {a t : Nat} (hr : ev_R G h s H) (ha : ev_c < a) (hk : hK h a = 100 + t) : H[ga G a]? = some (vp_cell (G.2.2.1 t) (ev_ac G h a (ev_at t))) := by
  have hat := hr.2.2.1 _ _ (ev_ws_at (G := G) ha (hr.1.2.1 a (by omega)).2)
  rw [ev_e_arr hk] at hat
  exact hat
/-- n ints of a0 from sp on go to a from dp on -/
def cpI (h : ev_H) (a0 sp a dp n : Nat) : ev_H := (hN h, hK h, hL h, u1 (hI h) a (va_cpy (hI h a0) (hI h a) sp dp n), hJ h, hR h)
def cpR (h : ev_H) (a0 sp a dp n : Nat) : ev_H := (hN h, hK h, hL h, hI h, hJ h, u1 (hR h) a (va_cpy (hR h a0) (hR h a) sp dp n))
theorem ch_cpI (h : ev_H) (a0 sp a dp n : Nat) : ev_ch h (cpI h a0 sp a dp n) a := ⟨rfl, rfl, rfl, fun b hb k => ⟨congrFun (show u1 (hI h) a (va_cpy (hI h a0) (hI h a) sp dp n) b = hI h b from if_neg hb) k, rfl, rfl⟩⟩
theorem ch_cpR (h : ev_H) (a0 sp a dp n : Nat) : ev_ch h (cpR h a0 sp a dp n) a := ⟨rfl, rfl, rfl, fun b hb k => ⟨rfl, rfl, congrFun (show u1 (hR h) a (va_cpy (hR h a0) (hR h a) sp dp n) b = hR h b from if_neg hb) k⟩⟩
theorem cpI_at (h : ev_H) (a0 sp a dp n : Nat) : hI (cpI h a0 sp a dp n) a = va_cpy (hI h a0) (hI h a) sp dp n := if_pos rfl
theorem cpR_at (h : ev_H) (a0 sp a dp n : Nat) : hR (cpR h a0 sp a dp n) a = va_cpy (hR h a0) (hR h a) sp dp n := if_pos rfl
theorem go_cpy {G : ev_G} (f g : Nat → Nat) (sp dp n j : Nat) : go G (va_cpy f g sp dp n j) = va_cpy (fun j => go G (f j)) (fun j => go G (g j)) sp dp n j := by
  unfold va_cpy
  split <;> rfl
/-- an object may stand in an array of E -/
def ev_elm (E : String) (h : ev_H) (y : Nat) : Prop := ∃ (ci : Nat) (q : vw_C × (Nat → FieldType)), hK h y = ci + 1 ∧ ci < 99 ∧ ev_cd[ci]? = some q ∧ (q.1.1 = E ∨ Cond.castable q.1.1 E ∈ lw_tbl)
theorem ev_any {G : ev_G} {h : ev_H} {s : State} {H : Heap} {y : Nat} {E : String} (hr : ev_R G h s H) (hT : ev_T G s) (ha : ev_elm E h y) : va_Any E s H (ga G y) := by
  obtain ⟨ci, q, hk, hci, hq, hca⟩ := ha
  obtain ⟨cell, g1, g2, g3⟩ := ev_ob hr hT hk hci hq
  obtain ⟨hS9, hfc, kC, hkC, hkind⟩ := hT.1.1 ci _ (ev_cl_at hq)
  have e1 : G.2.1.1 ci = cell.cls := Option.some.inj (hfc.symm.trans g3)
  refine ⟨cell, g1, g2, ⟨kC, by rw [← e1]; exact hkC⟩, fun comp hc => ?_⟩
  rcases hca with rfl | hca
  · exact vb_asgS comp _ hc g3
  · exact vb_asgC (hT.2.1 _ hca rfl) comp _ hc g3
section EVCPY
variable {G : ev_G} {M : ev_M} {R : Room} {Qf : List Frame → Array Value → State → State → Prop} {pc uc us : Nat} {L : List (Option ev_V)} {st : List ev_V} {h : ev_H}
theorem r_copyI {index a0 a t n0 n1 sp dp n : Nat} (hw : Cond.methodLink M.1.cls index arraycopyName ∈ lw_all) (ht : t < 3) (h0 : hK h a0 = 100 + t) (h1 : hK h a = 100 + t) (ha0 : ev_c < a0) (ha : ev_c < a) (l0 : hL h a0 = n0) (l1 : hL h a = n1) (hs : sp + n ≤ n0) (hs1 : dp + n ≤ n1) (hn0 : n0 < 2 ^ 31) (hn1 : n1 < 2 ^ 31) (hfit : ∀ i, i < n → fits (ev_at t) (.int (hI h a0 (sp + i))) = true) (hf : 1 ≤ R.frames) (hlo : 40 ≤ R.locals) (hsw : Nat.ble (ev_sw st) 8 = true) (hd : decode M.2.1 pc = .ok (.invokestatic index, 3))
    (kk : Ev G M R Qf (pc + 3) L st (cpI h a0 sp a dp n) uc us) : Ev G M R Qf pc L (vI (nI n) :: vI (nI dp) :: vR a :: vI (nI sp) :: vR a0 :: st) h uc us := by
  intro p e s m args below meth c H locs ls X hr hS hl
  have hts := X.2.2.2.2.2.2.1
  have hT := X.2.2.2.2.2.2.2.1
  have hc0 := hr.cell ha0 h0
  have hc1 := hr.cell ha h1
  rw [ac_int t ht, l0] at hc0
  rw [ac_int t ht, l1] at hc1
  obtain ⟨-, k0, hk0, cm0, hkk0⟩ := (hT.arr (t := t) (by omega)).1 n0 (fun j => .int (hI h a0 j))
  obtain ⟨-, k1, hk1, cm1, hkk1⟩ := (hT.arr (t := t) (by omega)).1 n1 (fun j => .int (hI h a j))
  have hrk := rk_int t ht
  have es : (vI (nI n) :: vI (nI dp) :: vR a :: vI (nI sp) :: vR a0 :: st).map (tv G) = .int (nI n) :: .int (nI dp) :: .ref (ga G a) :: .int (nI sp) :: .ref (ga G a0) :: st.map (tv G) := by
    rw [List.map_cons, List.map_cons, List.map_cons, List.map_cons, List.map_cons, tv_ref (ev_pos hr.1 (by omega)), tv_ref (ev_pos hr.1 (by omega))]
    rfl
  rw [es]
  intro T hTT Y
  have hnw : nativeFrameWords "java/lang/System" "arraycopy" 5 ≤ 20 := by decide
  have hsw9 := ev_sw_ok G st
  have hsw8 := Nat.le_of_ble_eq_true hsw
  have cn : (nI n).toNatClampNeg = n := nI_clamp (by omega)
  have cs : (nI sp).toNatClampNeg = sp := nI_clamp (by omega)
  have cd : (nI dp).toNatClampNeg = dp := nI_clamp (by omega)
  obtain ⟨vm', X', step⟩ := Y.arraycopy X.1 X.2.2.2.2.2.1 (hts _ hw) (hts _ q568) (hts _ q567) (hts _ q154) (src := ga G a0) (dst := ga G a) (cs := vp_cell (G.2.2.1 t) (n0, .inl (hI h a0))) (cd := vp_cell (G.2.2.1 t) (n1, .inl (hI h a))) (srcPos := nI sp) (destPos := nI dp) (n := nI n) (by rw [hTT]; exact hc0) (by rw [hTT]; exact hc1)
    (fun _ h => by cases h) (fun _ h => by cases h) (fun h => by cases h) (fun h => by cases h) hk0 hk1 hkk0 hkk1 (by simp [hrk]) (nI_pos (by omega)) (nI_pos (by omega)) (nI_pos (by omega))
    (by rw [nI_toInt (by omega), nI_toInt (by omega)]; show ¬ _ > ((arrV (G.2.2.1 t) n0 (fun j => .int (hI h a0 j))).slots.size : Int); rw [arrV_size]; omega)
    (by rw [nI_toInt (by omega), nI_toInt (by omega)]; show ¬ _ > ((arrV (G.2.2.1 t) n1 (fun j => .int (hI h a j))).slots.size : Int); rw [arrV_size]; omega)
    (fun vm₁ _ i hi => by
      rw [cn] at hi
      have e9 : (vp_cell (G.2.2.1 t) (n0, .inl (hI h a0))).slots.getD ((nI sp).toNatClampNeg + i) .null = .int (hI h a0 (sp + i)) := by
        show (arrV (G.2.2.1 t) n0 (fun j => .int (hI h a0 j))).slots.getD _ _ = _
        rw [cs, Array.getD_eq_getD_getElem?, arrV_read _ _ (by omega)]
        rfl
      refine ⟨?_, ?_⟩
      · rw [e9]
        exact hfit i hi
      · rw [e9]
        exact trivial)
    (g := F0 m pc ls (.int (nI n) :: .int (nI dp) :: .ref (ga G a) :: .int (nI sp) :: .ref (ga G a0) :: st.map (tv G))) rfl (by rw [X.2.2.2.2.1]; exact hl.1) (rest := st.map (tv G)) rfl (by rw [X.2.1]; exact hd) hf (by show 2 * 0 + _ + _ ≤ _; omega)
  have e1 : copied (vp_cell (G.2.2.1 t) (n0, .inl (hI h a0))) (vp_cell (G.2.2.1 t) (n1, .inl (hI h a))) (nI sp) (nI dp) (nI n) = vp_cell (G.2.2.1 t) (n1, .inl (va_cpy (hI h a0) (hI h a) (nI sp).toNatClampNeg (nI dp).toNatClampNeg (nI n).toNatClampNeg)) := va_copied (fun z => .int z) (G.2.2.1 t) (G.2.2.1 t) (hI h a0) (hI h a) (by rw [cn, cs]; exact hs)
  rw [cn, cs, cd] at e1
  rw [e1] at X' step
  have hl9 : ga G a < H.size := (Array.getElem?_eq_some_iff.mp hc1).1
  have hheap : ((T.setVm vm').setCell (ga G a) (vp_cell (G.2.2.1 t) (n1, .inl (va_cpy (hI h a0) (hI h a) sp dp n)))).heap = H.setIfInBounds (ga G a) (vp_cell (G.2.2.1 t) (n1, .inl (va_cpy (hI h a0) (hI h a) sp dp n))) := by rw [← hTT]; rfl
  have oq : ∀ q : Nat, q ≠ ga G a → (H.setIfInBounds (ga G a) (vp_cell (G.2.2.1 t) (n1, .inl (va_cpy (hI h a0) (hI h a) sp dp n))))[q]? = H[q]? := fun q hq => by simp [Array.getElem?_setIfInBounds, Ne.symm hq]
  have z : (H.setIfInBounds (ga G a) (vp_cell (G.2.2.1 t) (n1, .inl (va_cpy (hI h a0) (hI h a) sp dp n)))).size = H.size := by simp
  have e2 : (H.setIfInBounds (ga G a) (vp_cell (G.2.2.1 t) (n1, .inl (va_cpy (hI h a0) (hI h a) sp dp n))))[ga G a]? = some (vp_cell (G.2.2.1 t) (n1, .inl (va_cpy (hI h a0) (hI h a) sp dp n))) := by simp [Array.getElem?_setIfInBounds, hl9]
  have hne : ga G a = gz G + (a - ev_c - 1) := ga_new ha
  obtain ⟨t2, a1, b1⟩ := kk p e s m args below meth c _ _ ls X (hr.put (ch_cpI h a0 sp a dp n) ha (by omega) z oq (by
      rw [ev_e_arr (t := t) (show hK (cpI h a0 sp a dp n) a = 100 + t from h1)]
      show _ = some (vp_cell _ (ev_ac G (cpI h a0 sp a dp n) a (ev_at t)))
      rw [ac_int t ht, cpI_at, show hL (cpI h a0 sp a dp n) a = n1 from l1]
      exact e2)) ⟨by rw [z]; exact hS.1, fun q g1 g2 => by
      rw [oq q (fun e9 => g2 (by rw [e9, hne]; exact Nat.le_add_right _ _))]
      exact hS.2.1 q g1 g2, fun q hq => by
      rcases List.mem_append.mp hq with h9 | h9
      · exact hS.2.2 q h9
      · obtain ⟨z9, -, hz9⟩ := List.mem_map.mp h9
        rw [← hz9]
        show gz G ≤ ga G a
        rw [hne]
        exact Nat.le_add_right _ _⟩ hl _ hheap X'
  exact ⟨t2, step t2 a1, b1⟩
theorem r_copyR {index a0 a t n0 n1 sp dp n : Nat} {E : String} (hw : Cond.methodLink M.1.cls index arraycopyName ∈ lw_all) (ht : t = 4 ∧ E = "java/lang/Object" ∨ t = 5 ∧ E = "PepperTables$Table") (h0 : hK h a0 = 100 + t) (h1 : hK h a = 100 + t) (ha0 : ev_c < a0) (ha : ev_c < a) (l0 : hL h a0 = n0) (l1 : hL h a = n1) (hs : sp + n ≤ n0) (hs1 : dp + n ≤ n1) (hn0 : n0 < 2 ^ 31) (hn1 : n1 < 2 ^ 31) (hel : ∀ i, i < n → hR h a0 (sp + i) = 0 ∨ ev_elm E h (hR h a0 (sp + i))) (hf : 1 ≤ R.frames) (hlo : 40 ≤ R.locals) (hsw : Nat.ble (ev_sw st) 8 = true) (hd : decode M.2.1 pc = .ok (.invokestatic index, 3))
    (kk : Ev G M R Qf (pc + 3) L st (cpR h a0 sp a dp n) uc us) : Ev G M R Qf pc L (vI (nI n) :: vI (nI dp) :: vR a :: vI (nI sp) :: vR a0 :: st) h uc us := by
  intro p e s m args below meth c H locs ls X hr hS hl
  have hts := X.2.2.2.2.2.2.1
  have hT := X.2.2.2.2.2.2.2.1
  have ht4 : 4 ≤ t ∧ t < 7 := by rcases ht with ⟨rfl, -⟩ | ⟨rfl, -⟩ <;> decide
  have hat : ev_at t = .object E := by rcases ht with ⟨rfl, rfl⟩ | ⟨rfl, rfl⟩ <;> rfl
  have hc0 := hr.cell ha0 h0
  have hc1 := hr.cell ha h1
  rw [ac_ref t ht4.1 ht4.2, l0] at hc0
  rw [ac_ref t ht4.1 ht4.2, l1] at hc1
  obtain ⟨-, k0, hk0, cm0, hkk0⟩ := (hT.arr (t := t) ht4.2).1 n0 (fun j => va_rf (go G (hR h a0 j)))
  obtain ⟨-, k1, hk1, cm1, hkk1⟩ := (hT.arr (t := t) ht4.2).1 n1 (fun j => va_rf (go G (hR h a j)))
  have hRA := (hT.arr (t := t) ht4.2).2
  rw [hat] at hRA hkk0 hkk1
  have es : (vI (nI n) :: vI (nI dp) :: vR a :: vI (nI sp) :: vR a0 :: st).map (tv G) = .int (nI n) :: .int (nI dp) :: .ref (ga G a) :: .int (nI sp) :: .ref (ga G a0) :: st.map (tv G) := by
    rw [List.map_cons, List.map_cons, List.map_cons, List.map_cons, List.map_cons, tv_ref (ev_pos hr.1 (by omega)), tv_ref (ev_pos hr.1 (by omega))]
    rfl
  rw [es]
  intro T hTT Y
  have hnw : nativeFrameWords "java/lang/System" "arraycopy" 5 ≤ 20 := by decide
  have hsw9 := ev_sw_ok G st
  have hsw8 := Nat.le_of_ble_eq_true hsw
  have cn : (nI n).toNatClampNeg = n := nI_clamp (by omega)
  have cs : (nI sp).toNatClampNeg = sp := nI_clamp (by omega)
  have cd : (nI dp).toNatClampNeg = dp := nI_clamp (by omega)
  obtain ⟨vm', X', step⟩ := Y.arraycopy X.1 X.2.2.2.2.2.1 (hts _ hw) (hts _ q568) (hts _ q567) (hts _ q154) (src := ga G a0) (dst := ga G a) (cs := vp_cell (G.2.2.1 t) (n0, .inr (.inr (.inr (.inr (fun j => go G (hR h a0 j))))))) (cd := vp_cell (G.2.2.1 t) (n1, .inr (.inr (.inr (.inr (fun j => go G (hR h a j))))))) (srcPos := nI sp) (destPos := nI dp) (n := nI n) (by rw [hTT]; exact hc0) (by rw [hTT]; exact hc1)
    (fun _ h => by cases h) (fun _ h => by cases h) (fun h => by cases h) (fun h => by cases h) hk0 hk1 hkk0 hkk1 rfl (nI_pos (by omega)) (nI_pos (by omega)) (nI_pos (by omega))
    (by rw [nI_toInt (by omega), nI_toInt (by omega)]; show ¬ _ > ((arrV (G.2.2.1 t) n0 (fun j => va_rf (go G (hR h a0 j)))).slots.size : Int); rw [arrV_size]; omega)
    (by rw [nI_toInt (by omega), nI_toInt (by omega)]; show ¬ _ > ((arrV (G.2.2.1 t) n1 (fun j => va_rf (go G (hR h a j)))).slots.size : Int); rw [arrV_size]; omega)
    (fun vm₁ hal i hi => by
      rw [cn] at hi
      have e9 : (vp_cell (G.2.2.1 t) (n0, .inr (.inr (.inr (.inr (fun j => go G (hR h a0 j))))))).slots.getD ((nI sp).toNatClampNeg + i) .null = va_rf (go G (hR h a0 (sp + i))) := by
        show (arrV (G.2.2.1 t) n0 (fun j => va_rf (go G (hR h a0 j)))).slots.getD _ _ = _
        rw [cs, Array.getD_eq_getD_getElem?, arrV_read _ _ (by omega)]
        rfl
      rw [e9]
      rcases hel i hi with h9 | h9
      · rw [h9]
        exact ⟨rfl, trivial⟩
      · obtain ⟨cellV, g1, g2, ⟨kC, hkC⟩, hasg⟩ := ev_any hr hT h9
        obtain ⟨ci9, q9, hk9, -⟩ := h9
        have e8 : go G (hR h a0 (sp + i)) = some (ga G (hR h a0 (sp + i))) := if_neg (ev_pos hr.1 (by omega))
        rw [e8]
        obtain ⟨kA, comp, r1, r2, r3, -⟩ := hRA
        cases hk1.symm.trans r1
        cases hkk1.symm.trans r2
        obtain ⟨kE, hkE, -⟩ := Vm.findClass_spec r3
        obtain ⟨kC', hkC', -⟩ := hal.2.2 _ _ hkC
        obtain ⟨kE', hkE', -⟩ := hal.2.2 _ _ hkE
        refine ⟨rfl, cellV, (show T.heap[ga G (hR h a0 (sp + i))]? = some cellV by rw [hTT]; exact g1), (fun q h => by rw [h] at g2; cases g2), ⟨kC', hkC'⟩, ?_, ?_⟩
        · exact ⟨kE', hkE'⟩
        · show vm₁.assignable _ _ = true
          rw [hal.assignable]
          exact hasg _ r3)
    (g := F0 m pc ls (.int (nI n) :: .int (nI dp) :: .ref (ga G a) :: .int (nI sp) :: .ref (ga G a0) :: st.map (tv G))) rfl (by rw [X.2.2.2.2.1]; exact hl.1) (rest := st.map (tv G)) rfl (by rw [X.2.1]; exact hd) hf (by show 2 * 0 + _ + _ ≤ _; omega)
  have e1 : copied (vp_cell (G.2.2.1 t) (n0, .inr (.inr (.inr (.inr (fun j => go G (hR h a0 j))))))) (vp_cell (G.2.2.1 t) (n1, .inr (.inr (.inr (.inr (fun j => go G (hR h a j))))))) (nI sp) (nI dp) (nI n) = vp_cell (G.2.2.1 t) (n1, .inr (.inr (.inr (.inr (va_cpy (fun j => go G (hR h a0 j)) (fun j => go G (hR h a j)) (nI sp).toNatClampNeg (nI dp).toNatClampNeg (nI n).toNatClampNeg))))) := by
    rw [vp_cell_q, vp_cell_q, vp_cell_q]
    exact va_copied (fun z => va_rf z) (G.2.2.1 t) (G.2.2.1 t) (fun j => go G (hR h a0 j)) (fun j => go G (hR h a j)) (by rw [cn, cs]; exact hs)
  rw [cn, cs, cd] at e1
  rw [e1] at X' step
  generalize hcell : vp_cell (G.2.2.1 t) (n1, .inr (.inr (.inr (.inr (va_cpy (fun j => go G (hR h a0 j)) (fun j => go G (hR h a j)) sp dp n))))) = cN at X' step
  have hl9 : ga G a < H.size := (Array.getElem?_eq_some_iff.mp hc1).1
  have hheap : ((T.setVm vm').setCell (ga G a) cN).heap = H.setIfInBounds (ga G a) cN := by rw [← hTT]; rfl
  have oq : ∀ q : Nat, q ≠ ga G a → (H.setIfInBounds (ga G a) cN)[q]? = H[q]? := fun q hq => by simp [Array.getElem?_setIfInBounds, Ne.symm hq]
  have z : (H.setIfInBounds (ga G a) cN).size = H.size := by simp
  have e2 : (H.setIfInBounds (ga G a) cN)[ga G a]? = some cN := by simp [Array.getElem?_setIfInBounds, hl9]
  have hne : ga G a = gz G + (a - ev_c - 1) := ga_new ha
  obtain ⟨t2, a1, b1⟩ := kk p e s m args below meth c _ _ ls X (hr.put (ch_cpR h a0 sp a dp n) ha (by omega) z oq (by
      rw [ev_e_arr (t := t) (show hK (cpR h a0 sp a dp n) a = 100 + t from h1)]
      show _ = some (vp_cell _ (ev_ac G (cpR h a0 sp a dp n) a (ev_at t)))
      rw [ac_ref t ht4.1 ht4.2, cpR_at, show hL (cpR h a0 sp a dp n) a = n1 from l1, show (fun j => go G (va_cpy (hR h a0) (hR h a) sp dp n j)) = va_cpy (fun j => go G (hR h a0 j)) (fun j => go G (hR h a j)) sp dp n from funext fun j => go_cpy _ _ _ _ _ _, hcell]
      exact e2)) ⟨by rw [z]; exact hS.1, fun q g1 g2 => by
      rw [oq q (fun e9 => g2 (by rw [e9, hne]; exact Nat.le_add_right _ _))]
      exact hS.2.1 q g1 g2, fun q hq => by
      rcases List.mem_append.mp hq with h9 | h9
      · exact hS.2.2 q h9
      · obtain ⟨z9, -, hz9⟩ := List.mem_map.mp h9
        rw [← hz9]
        show gz G ≤ ga G a
        rw [hne]
        exact Nat.le_add_right _ _⟩ hl _ hheap X'
  exact ⟨t2, step t2 a1, b1⟩
/-- aastore -/
theorem fv_sRa {a k : Nat} {v : Nat} {t : Nat} (ht : 4 ≤ t) (j : Nat) : ev_fv G (sR h a k v) a (ev_at t) j = if j = k then va_rf (go G v) else ev_fv G h a (ev_at t) j := by
  rw [(ev_at_ref ht).2, (ev_at_ref ht).2]
  show va_rf (go G (u2 (hR h) a k v a j)) = _
  unfold u2
  by_cases hj : j = k
  · rw [if_pos ⟨rfl, hj⟩, if_pos hj]
  · rw [if_neg (fun z => hj z.2), if_neg hj]
theorem r_aast {i : Int32} {a n N t v : Nat} {E : String} (ht : t = 4 ∧ E = "java/lang/Object" ∨ t = 5 ∧ E = "PepperTables$Table") (hk : hK h a = 100 + t) (ha : ev_c < a) (hl : hL h a = N) (hi : ix i n N) (hv : v = 0 ∨ ev_elm E h v) (hd : decode M.2.1 pc = .ok (.aastore, 1))
    (kk : Ev G M R Qf (pc + 1) L st (sR h a n v) uc us) : Ev G M R Qf pc L (vR v :: vI i :: vR a :: st) h uc us := by
  intro p e s m args below meth c H locs ls X hr hS hl9
  have hT := X.2.2.2.2.2.2.2.1
  have ht4 : 4 ≤ t ∧ t < 7 := by rcases ht with ⟨rfl, -⟩ | ⟨rfl, -⟩ <;> decide
  have hat : ev_at t = .object E := by rcases ht with ⟨rfl, rfl⟩ | ⟨rfl, rfl⟩ <;> rfl
  have hc1 := hr.cell ha hk
  rw [ev_cell (ev_at_ok t).1 (ev_at_ok t).2, hl] at hc1
  obtain ⟨hin, hcl⟩ := ix_in hi
  have hlt : i.toNatClampNeg < N := Nat.not_le.mp fun q => hin (Or.inr q)
  have h0 : ¬ i < 0 := fun q => hin (Or.inl q)
  have hRA := (hT.arr (t := t) ht4.2).2
  rw [hat] at hRA
  obtain ⟨kA, comp, r1, r2, r3, -⟩ := hRA
  obtain ⟨kE, hkE, -⟩ := Vm.findClass_spec r3
  have fin9 : ∀ H1 : Heap, H1[ga G a]? = some ((arrV (G.2.2.1 t) N (fun j => ev_fv G h a (ev_at t) j)).setSlot i.toNatClampNeg (va_rf (go G v))) → H1.size = H.size → (∀ q, q ≠ ga G a → H1[q]? = H[q]?) → W p G.1 e R s m args below meth c H1 (locs ++ [⟨ga G a, i.toNatClampNeg⟩]) uc us (Qf below args s) (F0 m (pc + 1) ls (st.map (tv G))) := by
    intro H1 g1 g2 g3
    refine kk p e s m args below meth c H1 _ ls X (hr.put (ch_sR h a n v) ha (by omega) g2 g3 ?_) (ev_S hS g2 g3 ha) hl9
    rw [ev_e_arr (t := t) (show hK (sR h a n v) a = 100 + t from hk)]
    show H1[ga G a]? = some (vp_cell _ (ev_ac G (sR h a n v) a (ev_at t)))
    rw [ev_cell (ev_at_ok t).1 (ev_at_ok t).2, g1, arrV_store, show hL (sR h a n v) a = N from hl]
    congr 2
    funext j
    rw [fv_sRa ht4.1, hcl]
    by_cases hj : j = n
    · rw [if_pos hj, hj]
      exact if_pos rfl
    · rw [if_neg hj]
      exact if_neg hj
  rcases hv with rfl | hv
  · have e1 : (vR 0 :: vI i :: vR a :: st).map (tv G) = .null :: .int i :: .ref (ga G a) :: st.map (tv G) := by
      rw [List.map_cons, List.map_cons, List.map_cons, tv_ref (a := a) (ev_pos hr.1 (by omega))]
      rfl
    rw [e1]
    have harr := (hT.arr (t := t) ht4.2).1 N (fun j => ev_fv G h a (ev_at t) j)
    rw [hat] at harr hc1
    refine va_WaastN (C := E) X.1 X.2.1 hc1 harr (fun z => by cases z) (by show ¬ (i < 0 ∨ (arrV _ _ _).slots.size ≤ _); rw [arrV_size]; exact hin) rfl rfl hd fun H1 g1 g2 g3 => ?_
    exact fin9 H1 (by rw [hat]; exact g1) g2 g3
  · obtain ⟨cellV, g1, g2, ⟨kC, hkC⟩, hasg⟩ := ev_any hr hT hv
    obtain ⟨ci9, q9, hk9, -⟩ := hv
    have hv0 : v ≠ 0 := ev_pos hr.1 (by omega)
    have e1 : (vR v :: vI i :: vR a :: st).map (tv G) = .ref (ga G v) :: .int i :: .ref (ga G a) :: st.map (tv G) := by
      rw [List.map_cons, List.map_cons, List.map_cons, tv_ref (a := a) (ev_pos hr.1 (by omega)), tv_ref (a := v) hv0]
      rfl
    rw [e1]
    refine W.aast X.1 X.2.1 hc1 (fun q h => by cases h) (fun h => by cases h) r1 r2 rfl hkE ⟨h0, by rw [arrV_size]; exact hlt⟩ g1 (fun q h => by rw [h] at g2; cases g2) hkC (hasg _ r3) rfl rfl hd fun H1 g1 g2 g3 => ?_
    have e8 : va_rf (go G v) = .ref (ga G v) := by unfold go; rw [if_neg hv0]; rfl
    exact fin9 H1 (by rw [e8]; exact g1) g2 g3
end EVCPY
