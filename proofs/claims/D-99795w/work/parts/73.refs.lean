/-! ===== ROWS OF THE SMALL WORLD: references, statics, constants ===== -/
set_option maxRecDepth 100000
/-- an object that is there, as the kit's rows ask for it -/
theorem ev_ob {G : ev_G} {h : ev_H} {s : State} {H : Heap} {a ci : Nat} {q : vw_C × (Nat → FieldType)} (hr : ev_R G h s H) (hT : ev_T G s) (hk : hK h a = ci + 1) (hci : ci < 99) (hq : ev_cd[ci]? = some q) : ∃ cell : Cell, H[ga G a]? = some cell ∧ cell.vm.isStatics = false ∧ s.vm.findClass q.1.1 = some cell.cls := by
  obtain ⟨cell, g1, g2, g3, g4, -⟩ := (hr.rd hT (by omega : hK h a ≠ 0)).obj hk hci hq
  exact ⟨cell, g1, g3, by rw [g4]; exact (hT.1.1 ci _ (ev_cl_at hq)).2.1⟩
section EVREF
variable {G : ev_G} {M : ev_M} {R : Room} {Qf : List Frame → Array Value → State → State → Prop} {pc uc us : Nat} {L : List (Option ev_V)} {st : List ev_V} {h : ev_H}
theorem r_gets {index : Nat} {q : String × String × String × ev_V} (hq : q ∈ ev_sts) (hl : Cond.fieldLink M.1.cls index q.1 q.2.1 q.2.2.1 ∈ lw_all) (hd : decode M.2.1 pc = .ok (.getstatic index, 3))
    (kk : Ev G M R Qf (pc + 3) L (q.2.2.2 :: st) h uc us) : Ev G M R Qf pc L st h uc us := by
  intro p e s m args below meth c H locs ls X hr hS hl9
  exact va_gets X.1 X.2.1 (X.2.2.2.2.2.2.2.1.2.2.2.2.2.2.1 q hq) hS X.2.2.2.2.2.1 (X.2.2.2.2.2.2.1 _ hl) (fun x hx => hx) hd (kk p e s m args below meth c H locs ls X hr hS hl9)
theorem r_getsq {index : Nat} {q : String × String × String × Nat} (hq : q ∈ ev_stq) (hl : Cond.fieldLink M.1.cls index q.1 q.2.1 q.2.2.1 ∈ lw_all) (hd : decode M.2.1 pc = .ok (.getstatic index, 3))
    (kk : ∀ r : Nat, Ev G M R Qf (pc + 3) L (vR r :: st) h uc us) : Ev G M R Qf pc L st h uc us := by
  intro p e s m args below meth c H locs ls X hr hS hl9
  obtain ⟨r, -, z⟩ := X.2.2.2.2.2.2.2.1.2.2.2.2.2.2.2 q hq
  exact va_gets X.1 X.2.1 z hS X.2.2.2.2.2.1 (X.2.2.2.2.2.2.1 _ hl) (fun x hx => hx) hd (kk r p e s m args below meth c H locs ls X hr hS hl9)
theorem r_ldcS {index i : Nat} {tx : String} (hM : M.1.cls = "PepperTables$Reader") (hq : ev_six[i]? = some (index, tx)) (hd : decode M.2.1 pc = .ok (.ldc index, 2))
    (kk : Ev G M R Qf (pc + 2) L (vR (15 + i) :: st) h uc us) : Ev G M R Qf pc L st h uc us := by
  intro p e s m args below meth c H locs ls X hr hS hl9
  have ho := X.2.2.2.2.2.1
  rw [hM] at ho
  have k9 := kk p e s m args below meth c H locs ls X hr hS hl9
  rw [List.map_cons, tv_ref (by omega)] at k9
  exact va_ldcS X.1 X.2.1 ho (X.2.2.2.2.2.2.2.1.2.2.2.2.2.1 i _ hq) hd k9
theorem r_ldcM {index : Nat} (hw : Cond.classLink M.1.cls index "[Ljava/lang/Object;" ∈ lw_all) (hd : decode M.2.1 pc = .ok (.ldc index, 2))
    (kk : Ev G M R Qf (pc + 2) L (vR 8 :: st) h uc us) : Ev G M R Qf pc L st h uc us := by
  intro p e s m args below meth c H locs ls X hr hS hl9
  have k9 := kk p e s m args below meth c H locs ls X hr hS hl9
  rw [List.map_cons, tv_ref (by decide)] at k9
  exact va_ldcM X.1 X.2.1 X.2.2.2.2.2.1 (X.2.2.2.2.2.2.1 _ hw) X.2.2.2.2.2.2.2.1.2.2.2.2.1 hd k9
theorem go_inj {x y : Nat} (e : x = y) : go G x = go G y := by rw [e]
theorem r_acmp_ne {x y : Nat} {off : Int} {tgt : Nat} (hd : decode M.2.1 pc = .ok (.if_acmp .ne off, 3)) (ht : (pc : Int) + off = (tgt : Int)) (kt : ¬ x = y → Ev G M R Qf tgt L st h uc us) (kf : Ev G M R Qf (pc + 3) L st h uc us) (hxy : x = y ∨ go G x ≠ go G y) : Ev G M R Qf pc L (vR y :: vR x :: st) h uc us := by
  intro p e s m args below meth c H locs ls X hr hS hl9
  refine lv_acmp_ne X.1 X.2.1 (rx := go G x) (ry := go G y) hd ht (fun z => ?_) (fun z => ?_)
  · exact kt (fun e9 => z (by rw [e9])) p e s m args below meth c H locs ls X hr hS hl9
  · exact kf p e s m args below meth c H locs ls X hr hS hl9
theorem r_acmp_ne2 {x y : Nat} {off : Int} {tgt : Nat} (hd : decode M.2.1 pc = .ok (.if_acmp .ne off, 3)) (ht : (pc : Int) + off = (tgt : Int)) (kt : ¬ x = y → Ev G M R Qf tgt L st h uc us) (kf : go G x = go G y → Ev G M R Qf (pc + 3) L st h uc us) : Ev G M R Qf pc L (vR y :: vR x :: st) h uc us := by
  intro p e s m args below meth c H locs ls X hr hS hl9
  refine lv_acmp_ne X.1 X.2.1 (rx := go G x) (ry := go G y) hd ht (fun z => ?_) (fun z => ?_)
  · exact kt (fun e9 => z (by rw [e9])) p e s m args below meth c H locs ls X hr hS hl9
  · exact kf z p e s m args below meth c H locs ls X hr hS hl9
theorem r_acmp_eq2 {x y : Nat} {off : Int} {tgt : Nat} (hd : decode M.2.1 pc = .ok (.if_acmp .eq off, 3)) (ht : (pc : Int) + off = (tgt : Int)) (kt : go G x = go G y → Ev G M R Qf tgt L st h uc us) (kf : ¬ x = y → Ev G M R Qf (pc + 3) L st h uc us) : Ev G M R Qf pc L (vR y :: vR x :: st) h uc us := by
  intro p e s m args below meth c H locs ls X hr hS hl9
  refine lv_acmp_eq X.1 X.2.1 (rx := go G x) (ry := go G y) hd ht (fun z => ?_) (fun z => ?_)
  · exact kt z p e s m args below meth c H locs ls X hr hS hl9
  · exact kf (fun e9 => z (by rw [e9])) p e s m args below meth c H locs ls X hr hS hl9
theorem r_ifnull {x : Nat} {off : Int} {tgt : Nat} (hd : decode M.2.1 pc = .ok (.ifnull off, 3)) (ht : (pc : Int) + off = (tgt : Int)) (kt : x = 0 → Ev G M R Qf tgt L st h uc us) (kf : ¬ x = 0 → Ev G M R Qf (pc + 3) L st h uc us) : Ev G M R Qf pc L (vR x :: st) h uc us := by
  intro p e s m args below meth c H locs ls X hr hS hl9
  by_cases hx : x = 0
  · have k9 := kt hx p e s m args below meth c H locs ls X hr hS hl9
    subst hx
    exact lv_ifnullN X.1 X.2.1 hd ht k9
  · have k9 := kf hx p e s m args below meth c H locs ls X hr hS hl9
    rw [List.map_cons, tv_ref hx]
    exact lv_ifnull X.1 X.2.1 hd k9
theorem r_ifnonnull {x : Nat} {off : Int} {tgt : Nat} (hd : decode M.2.1 pc = .ok (.ifnonnull off, 3)) (ht : (pc : Int) + off = (tgt : Int)) (kt : ¬ x = 0 → Ev G M R Qf tgt L st h uc us) (kf : x = 0 → Ev G M R Qf (pc + 3) L st h uc us) : Ev G M R Qf pc L (vR x :: st) h uc us := by
  intro p e s m args below meth c H locs ls X hr hS hl9
  by_cases hx : x = 0
  · have k9 := kf hx p e s m args below meth c H locs ls X hr hS hl9
    subst hx
    exact lv_ifnonnullN X.1 X.2.1 hd k9
  · have k9 := kt hx p e s m args below meth c H locs ls X hr hS hl9
    rw [List.map_cons, tv_ref hx]
    exact lv_ifnonnull X.1 X.2.1 hd ht k9
/-- checkcast of an object of a known class -/
theorem r_cast {index a ci : Nat} {nm : String} {q : vw_C × (Nat → FieldType)} (hw : Cond.classLink M.1.cls index nm ∈ lw_all) (hk : hK h a = ci + 1) (hci : ci < 99) (hq : ev_cd[ci]? = some q) (hca : q.1.1 = nm ∨ Cond.castable q.1.1 nm ∈ lw_tbl) (hd : decode M.2.1 pc = .ok (.checkcast index, 3))
    (kk : Ev G M R Qf (pc + 3) L (vR a :: st) h uc us) : Ev G M R Qf pc L (vR a :: st) h uc us := by
  intro p e s m args below meth c H locs ls X hr hS hl9
  have hT := X.2.2.2.2.2.2.2.1
  have k9 := kk p e s m args below meth c H locs ls X hr hS hl9
  rw [List.map_cons, tv_ref (ev_pos hr.1 (by omega))] at k9 ⊢
  rcases hca with rfl | hca
  · obtain ⟨hS9, hfc, kC, hkC, hkind⟩ := hT.1.1 ci _ (ev_cl_at hq)
    exact va_castS X.1 X.2.1 X.2.2.2.2.2.1 (X.2.2.2.2.2.2.1 _ hw) ⟨hfc, kC, hkC, hkind⟩ (ev_ob hr hT hk hci hq) hd k9
  · exact va_castY X.1 X.2.1 X.2.2.2.2.2.1 (X.2.2.2.2.2.2.1 _ hw) (hT.2.1 _ hca rfl) (ev_ob hr hT hk hci hq) hd k9
theorem r_cast0 {index : Nat} (hd : decode M.2.1 pc = .ok (.checkcast index, 3)) (kk : Ev G M R Qf (pc + 3) L (vR 0 :: st) h uc us) : Ev G M R Qf pc L (vR 0 :: st) h uc us := by
  intro p e s m args below meth c H locs ls X hr hS hl9
  exact lv_castN X.1 X.2.1 hd (kk p e s m args below meth c H locs ls X hr hS hl9)
/-- instanceof of an object of the very class -/
theorem r_inst {index a ci : Nat} {q : vw_C × (Nat → FieldType)} (hq : ev_cd[ci]? = some q) (hw : Cond.classLink M.1.cls index q.1.1 ∈ lw_all) (hk : hK h a = ci + 1) (hci : ci < 99) (hd : decode M.2.1 pc = .ok (.instanceof index, 3))
    (kk : Ev G M R Qf (pc + 3) L (vI (nI 1) :: st) h uc us) : Ev G M R Qf pc L (vR a :: st) h uc us := by
  intro p e s m args below meth c H locs ls X hr hS hl9
  have hT := X.2.2.2.2.2.2.2.1
  have k9 := kk p e s m args below meth c H locs ls X hr hS hl9
  rw [List.map_cons, tv_ref (ev_pos hr.1 (by omega))]
  obtain ⟨hS9, hfc, kC, hkC, hkind⟩ := hT.1.1 ci _ (ev_cl_at hq)
  exact va_instS X.1 X.2.1 X.2.2.2.2.2.1 (X.2.2.2.2.2.2.1 _ hw) ⟨hfc, kC, hkC, hkind⟩ (ev_ob hr hT hk hci hq) hd k9
end EVREF
/-- a cell of an array as the kit's rows ask for it -/
theorem ev_ay {G : ev_G} {h : ev_H} {s : State} {H : Heap} {a t : Nat} (hr : ev_R G h s H) (hk : hK h a = 100 + t) (ha : ev_c < a) : ∃ cell : Cell, H[ga G a]? = some cell ∧ cell.vm.isStatics = false ∧ cell.cls = G.2.2.1 t ∧ cell.vm = .none := by
  have hat := hr.2.2.1 _ _ (ev_ws_at (G := G) ha (hr.1.2.1 a (by omega)).2)
  rw [ev_e_arr hk] at hat
  have hat : H[ga G a]? = some (vp_cell (G.2.2.1 t) (ev_ac G h a (ev_at t))) := hat
  rw [ev_cell (ev_at_ok t).1 (ev_at_ok t).2] at hat
  exact ⟨_, hat, rfl, rfl, rfl⟩
theorem ra_name {s : State} {cB : ClassId} : ∀ t : Nat, t < 7 → va_RA s cB (ev_at t) → s.vm.findClass ("[" ++ (ev_at t).toString) = some cB
  | 0, _, h => h
  | 1, _, h => h
  | 2, _, h => h
  | 3, _, h => h
  | 4, _, h => by obtain ⟨_, _, _, _, _, h⟩ := h; exact h
  | 5, _, h => by obtain ⟨_, _, _, _, _, h⟩ := h; exact h
  | 6, _, h => h
section EVREF2
variable {G : ev_G} {M : ev_M} {R : Room} {Qf : List Frame → Array Value → State → State → Prop} {pc uc us : Nat} {L : List (Option ev_V)} {st : List ev_V} {h : ev_H}
/-- checkcast of an array of the very class -/
theorem r_castA {index a t : Nat} {nm : String} (ht : t < 7) (hnm : "[" ++ (ev_at t).toString = nm) (hw : Cond.classLink M.1.cls index nm ∈ lw_all) (hk : hK h a = 100 + t) (ha : ev_c < a) (hd : decode M.2.1 pc = .ok (.checkcast index, 3))
    (kk : Ev G M R Qf (pc + 3) L (vR a :: st) h uc us) : Ev G M R Qf pc L (vR a :: st) h uc us := by
  intro p e s m args below meth c H locs ls X hr hS hl9
  have k9 := kk p e s m args below meth c H locs ls X hr hS hl9
  rw [List.map_cons, tv_ref (ev_pos hr.1 (by omega))] at k9 ⊢
  have hat := ev_ws_at (G := G) ha (hr.1.2.1 a (by omega)).2
  rw [ev_e_arr hk] at hat
  have hn := ra_name t ht (X.2.2.2.2.2.2.2.1.arr ht).2
  rw [hnm] at hn
  exact va_castA X.1 X.2.1 X.2.2.2.2.2.1 (X.2.2.2.2.2.2.1 _ hw) hr.2.2.1 _ hat hn hd k9
/-- instanceof of an array of the very class -/
theorem r_instA {index a t : Nat} {nm : String} (ht : t < 7) (hnm : "[" ++ (ev_at t).toString = nm) (hw : Cond.classLink M.1.cls index nm ∈ lw_all) (hk : hK h a = 100 + t) (ha : ev_c < a) (hd : decode M.2.1 pc = .ok (.instanceof index, 3))
    (kk : Ev G M R Qf (pc + 3) L (vI (nI 1) :: st) h uc us) : Ev G M R Qf pc L (vR a :: st) h uc us := by
  intro p e s m args below meth c H locs ls X hr hS hl9
  have k9 := kk p e s m args below meth c H locs ls X hr hS hl9
  rw [List.map_cons, tv_ref (ev_pos hr.1 (by omega))]
  have hn := ra_name t ht (X.2.2.2.2.2.2.2.1.arr ht).2
  rw [hnm] at hn
  obtain ⟨cell, g1, g2, g3, -⟩ := ev_ay hr hk ha
  exact va_instE X.1 X.2.1 X.2.2.2.2.2.1 (X.2.2.2.2.2.2.1 _ hw) ⟨cell, g1, g2, by rw [g3]; exact hn⟩ hd k9
end EVREF2
