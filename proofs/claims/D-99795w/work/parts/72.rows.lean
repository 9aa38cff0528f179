/-! ===== ROWS OF THE SMALL WORLD: new cells ===== -/
set_option maxRecDepth 100000
def okK (c : Nat) : Prop := (0 < c ∧ c ≤ ev_cd.length) ∨ (100 ≤ c ∧ c < 107)
section NO
variable {G : ev_G} {h : ev_H} {c n : Nat}
theorem nO_N : hN (nO h c n) = hN h + 1 := rfl
theorem nO_K (a : Nat) : hK (nO h c n) a = if a = hN h then c else hK h a := rfl
theorem nO_L (a : Nat) : hL (nO h c n) a = if a = hN h then n else hL h a := rfl
theorem nO_Kn : hK (nO h c n) (hN h) = c := if_pos rfl
theorem nO_Ln : hL (nO h c n) (hN h) = n := if_pos rfl
theorem nO_I {a : Nat} (ha : a ≠ hN h) : hI (nO h c n) a = hI h a := if_neg ha
theorem nO_J {a : Nat} (ha : a ≠ hN h) : hJ (nO h c n) a = hJ h a := if_neg ha
theorem nO_R {a : Nat} (ha : a ≠ hN h) : hR (nO h c n) a = hR h a := if_neg ha
theorem nO_I0 (k : Nat) : hI (nO h c n) (hN h) k = 0 := by
  show (if hN h = hN h then (fun _ => (0 : Int32)) else hI h (hN h)) k = 0
  rw [if_pos rfl]
theorem nO_J0 (k : Nat) : hJ (nO h c n) (hN h) k = 0 := by
  show (if hN h = hN h then (fun _ => (0 : Int64)) else hJ h (hN h)) k = 0
  rw [if_pos rfl]
theorem nO_R0 (k : Nat) : hR (nO h c n) (hN h) k = 0 := by
  show (if hN h = hN h then (fun _ => (0 : Nat)) else hR h (hN h)) k = 0
  rw [if_pos rfl]
theorem nO_fv {a : Nat} (ha : a ≠ hN h) (ty : FieldType) (k : Nat) : ev_fv G (nO h c n) a ty k = ev_fv G h a ty k := by
  have e1 : hI (nO h c n) a = hI h a := nO_I ha
  have e2 : hJ (nO h c n) a = hJ h a := nO_J ha
  have e3 : hR (nO h c n) a = hR h a := nO_R ha
  unfold ev_fv
  split <;> first | rw [e2] | rw [e3] | rw [e1]
theorem nO_e {a : Nat} (ha : a ≠ hN h) : ev_e G (nO h c n) a = ev_e G h a := by
  have e0 : hK (nO h c n) a = hK h a := if_neg ha
  have e1 : hI (nO h c n) a = hI h a := nO_I ha
  have e2 : hJ (nO h c n) a = hJ h a := nO_J ha
  have e3 : hR (nO h c n) a = hR h a := nO_R ha
  have e6 : hL (nO h c n) a = hL h a := if_neg ha
  have e4 : ∀ q, ev_fs G (nO h c n) a q = ev_fs G h a q := by
    intro q
    unfold ev_fs
    exact List.map_congr_left fun k _ => nO_fv ha _ _
  have e5 : ∀ ty, ev_ac G (nO h c n) a ty = ev_ac G h a ty := by
    intro ty
    unfold ev_ac
    rw [e1, e2, e3, e6]
  unfold ev_e
  rw [e0, e4, e5]
theorem ev_R.push {s : State} {H H1 : Heap} (hr : ev_R G h s H) (hc : okK c) (z : H1.size = H.size + 1) (oq : ∀ q : Nat, q < H.size → H1[q]? = H[q]?) (he : va_at G.2.1 ev_cl (ga G (hN h), ev_e G (nO h c n) (hN h)) H1) : ev_R G (nO h c n) s H1 := by
  obtain ⟨hwf, hz, hP, hk0⟩ := hr
  have h1 := hwf.1
  refine ⟨⟨by rw [nO_N]; omega, fun a ha => ?_, fun a h2 h3 => ?_⟩, by rw [z, hz, nO_N]; omega, ?_, fun a ha hka => ?_⟩
  · rw [nO_K] at ha
    rw [nO_N]
    by_cases e : a = hN h
    · omega
    · rw [if_neg e] at ha
      have := hwf.2.1 a ha
      omega
  · rw [nO_K]
    rw [nO_N] at h3
    by_cases e : a = hN h
    · rw [if_pos e]; exact hc
    · rw [if_neg e]; exact hwf.2.2 a h2 (by omega)
  · have ew : ev_ws G (nO h c n) = ev_ws G h ++ [(ga G (hN h), ev_e G (nO h c n) (hN h))] := by
      unfold ev_ws
      rw [nO_N, show hN h + 1 - ev_c - 1 = (hN h - ev_c - 1) + 1 by omega, List.range_succ, List.map_append]
      congr 1
      · refine List.map_congr_left fun i hi => ?_
        rw [nO_e (by have := List.mem_range.mp hi; omega)]
      · show [(gz G + (hN h - ev_c - 1), ev_e G (nO h c n) (ev_c + 1 + (hN h - ev_c - 1)))] = _
        rw [show ev_c + 1 + (hN h - ev_c - 1) = hN h by omega, ga_new h1]
    rw [ew]
    refine (hP.kept fun k q hk => oq q.1 ?_).app fun k q hk => ?_
    · have := (ev_ws_inv hk).1
      rw [(ev_ws_inv hk).2, hz]
      show gz G + k < _
      omega
    · have hk1 : k < 1 := (List.getElem?_eq_some_iff.mp hk).1
      rw [show k = 0 by omega] at hk
      cases hk
      exact he
  · have e : a ≠ hN h := by omega
    have hka : hK h a ≠ 0 := by rw [nO_K, if_neg e] at hka; exact hka
    obtain ⟨g1, cell, g2, g3, g4, g5⟩ := hk0 a ha hka
    refine ⟨g1, cell, by rw [oq _ (by rw [hz]; omega)]; exact g2, g3, g4, ?_⟩
    have eL : hL (nO h c n) a = hL h a := if_neg e
    rcases g5 with ⟨ci, q, e1, f1, f2, f3, f4⟩ | ⟨t, e1, f1, f2, f3, f4⟩
    · exact Or.inl ⟨ci, q, by rw [nO_K, if_neg e]; exact e1, f1, f2, f3, fun k hk => by rw [nO_fv e]; exact f4 k hk⟩
    · exact Or.inr ⟨t, by rw [nO_K, if_neg e]; exact e1, f1, f2, by rw [eL]; exact f3, fun j hj => by rw [nO_fv e]; exact f4 j (by rw [eL] at hj; exact hj)⟩
end NO
theorem ev_fv0 {G : ev_G} {h : ev_H} {a k : Nat} {ty : FieldType} (h1 : ty ≠ .float) (h2 : ty ≠ .double) (eI : hI h a k = 0) (eJ : hJ h a k = 0) (eR : hR h a k = 0) : defaultValue ty = ev_fv G h a ty k := by
  cases ty <;> first
    | exact absurd rfl h1
    | exact absurd rfl h2
    | exact (congrArg Value.int eI.symm)
    | exact (congrArg Value.long eJ.symm)
    | exact (show Value.null = va_rf (go G (hR h a k)) by rw [eR]; rfl)
theorem ev_S1 {G : ev_G} {H0 H H1 : Heap} {locs : List Loc} (hS : va_S (ev_A G) H0 H locs) (z : H1.size = H.size + 1) (oq : ∀ q : Nat, q < H.size → H1[q]? = H[q]?) : va_S (ev_A G) H0 H1 locs := ⟨Nat.le_trans hS.1 (by omega), fun x h1 h2 => (oq x (Nat.lt_of_lt_of_le h1 hS.1)).trans (hS.2.1 x h1 h2), hS.2.2⟩
/-- what the tables say of a class that is made at own's index -/
def ev_NL (own : String) (index ci N : Nat) : Prop := ∃ (C : String) (T : u_T) (ty : Nat → FieldType), ev_cd[ci]? = some ((C, T, N), ty) ∧ ci < 23 ∧ (∀ w ∈ u_ws C T N, w ∈ lw_all) ∧ (∀ j, j < N → parseFieldDescriptor (T j).2.2.1 = some (ty j)) ∧ (∀ j, j < N → ty j ≠ .float ∧ ty j ≠ .double) ∧ Cond.classLink own index C ∈ lw_all ∧ Cond.instantiable C N ∈ lw_all ∧ Cond.initialized C ∈ lw_all
theorem ra_prim {s : State} {cB : ClassId} : ∀ t : Nat, t < 4 → va_RA s cB (ev_at t) → s.vm.findClass ("[" ++ (ev_at t).toString) = some cB
  | 0, _, h => h
  | 1, _, h => h
  | 2, _, h => h
  | 3, _, h => h
theorem cb_at : ∀ t : Nat, t < 4 → componentBytes (ev_at t) ≤ 8
  | 0, _ => by decide
  | 1, _ => by decide
  | 2, _ => by decide
  | 3, _ => by decide
section EVNEW
variable {G : ev_G} {M : ev_M} {R : Room} {Qf : List Frame → Array Value → State → State → Prop} {pc uc us : Nat} {L : List (Option ev_V)} {st : List ev_V} {h : ev_H}
theorem ga_next {s : State} {H : Heap} (hr : ev_R G h s H) : ga G (hN h) = H.size := by rw [ga_new hr.1.1, hr.2.1]
theorem tv_next {s : State} {H : Heap} (hr : ev_R G h s H) : (vR (hN h) :: st).map (tv G) = .ref H.size :: st.map (tv G) := by
  rw [List.map_cons, tv_ref (by have := hr.1.1; omega), ga_next hr]
theorem r_new {index ci N : Nat} (F : ev_NL M.1.cls index ci N) (hd : decode M.2.1 pc = .ok (.new index, 3)) (hc : uc + 1 ≤ R.cells) (hs : us + N ≤ R.slots)
    (kk : Ev G M R Qf (pc + 3) L (vR (hN h) :: st) (nO h (ci + 1) 0) (uc + 1) (us + N)) : Ev G M R Qf pc L st h uc us := by
  intro p e s m args below meth c H locs ls X hr hS hl
  obtain ⟨C, T, ty, hq, hci, hin, hpt, hfl, hcl, hins, hini⟩ := F
  have hts := X.2.2.2.2.2.2.1
  have hKn := X.2.2.2.2.2.2.2.1.1.1 ci _ (ev_cl_at hq)
  refine W.newcK X.1 X.2.1 X.2.2.2.2.2.1 (hts _ hcl) (hts _ hins) (hts _ hini) rfl hd hc hs hKn.2.1 rfl fun H1 kC hkC e1 z1 o1 => ?_
  have he : va_at G.2.1 ev_cl (ga G (hN h), ev_e G (nO h (ci + 1) 0) (hN h)) H1 := by
    rw [ev_e_obj (ci := ci) (q := ((C, T, N), ty)) nO_Kn (by omega) hq, ga_next hr]
    refine ⟨_, ev_cl_at hq, (u_born ty hts hin hKn hkC e1 hpt).to fun j hj => ?_⟩
    rw [ev_fs_at (q := ((C, T, N), ty)) hj]
    exact ev_fv0 (hfl j hj).1 (hfl j hj).2 (nO_I0 j) (nO_J0 j) (nO_R0 j)
  have k9 := kk p e s m args below meth c H1 locs ls X (hr.push (Or.inl ⟨by omega, by rw [ev_len]; omega⟩) z1 o1 he) (ev_S1 hS z1 o1) hl
  rw [tv_next hr] at k9
  exact k9
theorem ev_arr_new {s : State} {H H1 : Heap} {t n : Nat} (hr : ev_R G h s H) (e1 : H1[H.size]? = some (arrV (G.2.2.1 t) n (fun _ => defaultValue (ev_at t)))) : va_at G.2.1 ev_cl (ga G (hN h), ev_e G (nO h (100 + t) n) (hN h)) H1 := by
  rw [ev_e_arr (t := t) nO_Kn, ga_next hr]
  show H1[H.size]? = some (vp_cell (G.2.2.1 t) (ev_ac G (nO h (100 + t) n) (hN h) (ev_at t)))
  rw [ev_cell (ev_at_ok t).1 (ev_at_ok t).2, show hL (nO h (100 + t) n) (hN h) = n from nO_Ln, show (fun j => ev_fv G (nO h (100 + t) n) (hN h) (ev_at t) j) = (fun _ => defaultValue (ev_at t)) from funext fun j => (ev_fv0 (ev_at_ok t).1 (ev_at_ok t).2 (nO_I0 j) (nO_J0 j) (nO_R0 j)).symm]
  exact e1
theorem r_newa {atype : ArrayType} {t n : Nat} (ht : t < 4) (hty : newarray.typeOf atype = ev_at t) (hw : Cond.arrayClass (newarray.typeOf atype) ∈ lw_all) (hn : n < 60000000) (hd : decode M.2.1 pc = .ok (.newarray atype, 2)) (hc : uc + 1 ≤ R.cells) (hs : us + n ≤ R.slots)
    (kk : Ev G M R Qf (pc + 2) L (vR (hN h) :: st) (nO h (100 + t) n) (uc + 1) (us + n)) : Ev G M R Qf pc L (vI (nI n) :: st) h uc us := by
  intro p e s m args below meth c H locs ls X hr hS hl
  have hts := X.2.2.2.2.2.2.1
  have hb : n * componentBytes (newarray.typeOf atype) ≤ 536870912 := by
    rw [hty]
    exact Nat.le_trans (Nat.mul_le_mul_left n (cb_at t ht)) (by omega)
  refine va_newaK X.1 X.2.1 (hts _ hw) rfl hd rfl (nI_pos (by omega)) (nI_clamp (by omega)) hb hc hs rfl fun H1 cA e1 z1 o1 hAr hNm => ?_
  rw [hty] at hNm e1
  have hcA : cA = G.2.2.1 t := Option.some.inj (hNm.symm.trans (ra_prim t ht (X.2.2.2.2.2.2.2.1.arr (t := t) (by omega)).2))
  subst hcA
  have k9 := kk p e s m args below meth c H1 locs ls X (hr.push (Or.inr ⟨by omega, by omega⟩) z1 o1 (ev_arr_new hr e1)) (ev_S1 hS z1 o1) hl
  rw [tv_next hr] at k9
  exact k9
theorem r_anew {index t n : Nat} {C : String} (ht : t = 4 ∧ C = "java/lang/Object" ∨ t = 5 ∧ C = "PepperTables$Table") (hw : Cond.classLink M.1.cls index C ∈ lw_all) (hn : n < 60000000) (hd : decode M.2.1 pc = .ok (.anewarray index, 3)) (hc : uc + 1 ≤ R.cells) (hs : us + n ≤ R.slots)
    (kk : Ev G M R Qf (pc + 3) L (vR (hN h) :: st) (nO h (100 + t) n) (uc + 1) (us + n)) : Ev G M R Qf pc L (vI (nI n) :: st) h uc us := by
  intro p e s m args below meth c H locs ls X hr hS hl
  have hts := X.2.2.2.2.2.2.1
  have hX := X.2.2.2.2.2.2.2.1
  have hcn : (nI n).toNatClampNeg = n := nI_clamp (by omega)
  have hao : va_AO C s := by
    rcases ht with ⟨-, rfl⟩ | ⟨-, rfl⟩
    · exact hX.2.2.1.1
    · exact hX.2.2.1.2.1
  have hat : ev_at t = .object C := by rcases ht with ⟨rfl, rfl⟩ | ⟨rfl, rfl⟩ <;> rfl
  have ht7 : t < 7 := by rcases ht with ⟨rfl, rfl⟩ | ⟨rfl, rfl⟩ <;> decide
  refine W.anew X.1 X.2.1 X.2.2.2.2.2.1 (hts _ hw) hao.use rfl hd rfl (nI_pos (by omega)) (by rw [hcn]; omega) hc (by rw [hcn]; exact hs) fun cA kA comp f1 f2 f3 f4 => ?_
  rw [hcn]
  have hRA := (hX.arr (t := t) ht7).2
  rw [hat] at hRA
  obtain ⟨kA', comp', r1, r2, r3, r4⟩ := hRA
  have hcA : cA = G.2.2.1 t := Option.some.inj (f1.symm.trans r4)
  subst hcA
  generalize hH1 : H.push { cls := G.2.2.1 t, slots := Array.replicate n .null, vm := .none } = H1
  have z1 : H1.size = H.size + 1 := by rw [← hH1, Array.size_push]
  have o1 : ∀ q : Nat, q < H.size → H1[q]? = H[q]? := fun q hq => by rw [← hH1, Array.getElem?_push, if_neg (Nat.ne_of_lt hq)]
  have e1 : H1[H.size]? = some (arrV (G.2.2.1 t) n (fun _ => defaultValue (ev_at t))) := by rw [hat, ← hH1, Array.getElem?_push_size, ← arrV_new]; rfl
  have k9 := kk p e s m args below meth c H1 locs ls X (hr.push (Or.inr ⟨by omega, by omega⟩) z1 o1 (ev_arr_new hr e1)) (ev_S1 hS z1 o1) hl
  rw [tv_next hr] at k9
  exact k9
end EVNEW
