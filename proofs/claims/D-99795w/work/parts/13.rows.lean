/-! ===== ROWS OF THE SMALL WORLD: writing ===== -/
set_option maxRecDepth 100000
/-- h2 is h but for what the cell a holds -/
def ev_ch (h h2 : ev_H) (a : Nat) : Prop := hN h2 = hN h ∧ hK h2 = hK h ∧ hL h2 = hL h ∧ ∀ b, b ≠ a → ∀ k, hI h2 b k = hI h b k ∧ hJ h2 b k = hJ h b k ∧ hR h2 b k = hR h b k
theorem u2_ne {α : Type} {f : Nat → Nat → α} {a k b j : Nat} {v : α} (h : ¬ (b = a ∧ j = k)) : u2 f a k v b j = f b j := if_neg h
theorem u2_self {α : Type} {f : Nat → Nat → α} {a k : Nat} {v : α} : u2 f a k v a k = v := if_pos ⟨rfl, rfl⟩
theorem ch_sI (h : ev_H) (a k : Nat) (v : Int32) : ev_ch h (sI h a k v) a := ⟨rfl, rfl, rfl, fun b hb j => ⟨u2_ne (fun z => hb z.1), rfl, rfl⟩⟩
theorem ch_sJ (h : ev_H) (a k : Nat) (v : Int64) : ev_ch h (sJ h a k v) a := ⟨rfl, rfl, rfl, fun b hb j => ⟨rfl, u2_ne (fun z => hb z.1), rfl⟩⟩
theorem ch_sR (h : ev_H) (a k : Nat) (v : Nat) : ev_ch h (sR h a k v) a := ⟨rfl, rfl, rfl, fun b hb j => ⟨rfl, rfl, u2_ne (fun z => hb z.1)⟩⟩
theorem ev_ch.fv {G : ev_G} {h h2 : ev_H} {a b : Nat} (hc : ev_ch h h2 a) (hb : b ≠ a) (ty : FieldType) (k : Nat) : ev_fv G h2 b ty k = ev_fv G h b ty k := by
  obtain ⟨-, -, -, h4⟩ := hc
  obtain ⟨e1, e2, e3⟩ := h4 b hb k
  unfold ev_fv
  split <;> first | rw [e2] | rw [e3] | rw [e1]
theorem ev_ch.e {G : ev_G} {h h2 : ev_H} {a b : Nat} (hc : ev_ch h h2 a) (hb : b ≠ a) : ev_e G h2 b = ev_e G h b := by
  have h4 := hc.2.2.2 b hb
  have e1 : hI h2 b = hI h b := funext fun k => (h4 k).1
  have e2 : hJ h2 b = hJ h b := funext fun k => (h4 k).2.1
  have e3 : hR h2 b = hR h b := funext fun k => (h4 k).2.2
  have e4 : ∀ q, ev_fs G h2 b q = ev_fs G h b q := by
    intro q
    unfold ev_fs
    refine List.map_congr_left fun k _ => hc.fv hb _ _
  have e5 : ∀ ty, ev_ac G h2 b ty = ev_ac G h b ty := by
    intro ty
    unfold ev_ac
    rw [e1, e2, e3, hc.2.2.1]
  unfold ev_e
  rw [hc.2.1, e4, e5]
theorem ev_ws_set {G : ev_G} {h h2 : ev_H} {a : Nat} (hc : ev_ch h h2 a) (ha : ev_c < a) (hl : a < hN h) : (ev_ws G h).set (a - ev_c - 1) (ga G a, ev_e G h2 a) = ev_ws G h2 := by
  refine List.ext_getElem? fun i => ?_
  by_cases hi : a - ev_c - 1 = i
  · subst hi
    have hlt := (List.getElem?_eq_some_iff.mp (ev_ws_at (G := G) ha hl)).1
    rw [List.getElem?_set_self hlt, ev_ws_at ha (by rw [hc.1]; exact hl)]
  · rw [List.getElem?_set_ne hi]
    unfold ev_ws
    rw [List.getElem?_map, List.getElem?_map, hc.1]
    by_cases hr : i < hN h - ev_c - 1
    · rw [List.getElem?_range hr, Option.map_some, Option.map_some, hc.e (by omega)]
    · rw [List.getElem?_eq_none (by rw [List.length_range]; omega)]
      rfl
theorem ev_rd.keep {G : ev_G} {h h2 : ev_H} {s : State} {a b : Nat} {H H1 : Heap} (hr : ev_rd G h s b H) (hc : ev_ch h h2 a) (hb : b ≠ a) (hH : H1[ga G b]? = H[ga G b]?) : ev_rd G h2 s b H1 := by
  obtain ⟨cell, h1, h2', h3, h4⟩ := hr
  refine ⟨cell, by rw [hH]; exact h1, h2', h3, ?_⟩
  rcases h4 with ⟨ci, q, e, g1, g2, g3, g4⟩ | ⟨t, e, g1, g2, g3, g4⟩
  · exact Or.inl ⟨ci, q, by rw [hc.2.1]; exact e, g1, g2, g3, fun k hk => by rw [hc.fv hb]; exact g4 k hk⟩
  · exact Or.inr ⟨t, by rw [hc.2.1]; exact e, g1, g2, by rw [hc.2.2.1]; exact g3, fun j hj => by rw [hc.fv hb]; exact g4 j (by rw [hc.2.2.1] at hj; exact hj)⟩
/-- one cell of the run was written -/
theorem ev_R.put {G : ev_G} {h h2 : ev_H} {s : State} {H H1 : Heap} {a : Nat} (hr : ev_R G h s H) (hc : ev_ch h h2 a) (ha : ev_c < a) (hk : hK h a ≠ 0) (z : H1.size = H.size) (oq : ∀ q : Nat, q ≠ ga G a → H1[q]? = H[q]?) (he : va_at G.2.1 ev_cl (ga G a, ev_e G h2 a) H1) : ev_R G h2 s H1 := by
  obtain ⟨hwf, hz, hP, hk0⟩ := hr
  have hlt := (hwf.2.1 a hk).2
  refine ⟨⟨by rw [hc.1]; exact hwf.1, fun b hb => by rw [hc.1]; exact hwf.2.1 b (by rw [hc.2.1] at hb; exact hb), fun b h1 h2' => by rw [hc.2.1]; exact hwf.2.2 b h1 (by rw [hc.1] at h2'; exact h2')⟩, by rw [z, hz, hc.1], ?_, fun b hb hkb => ?_⟩
  · rw [← ev_ws_set hc ha hlt]
    exact hP.set ev_D (ev_ws_at ha hlt) he oq
  · rw [hc.2.1] at hkb
    obtain ⟨g1, g2⟩ := hk0 b hb hkb
    exact ⟨g1, g2.keep hc (by omega) (oq _ (by rw [ga_new ha]; omega))⟩
theorem ev_S {G : ev_G} {H0 H H1 : Heap} {locs : List Loc} {a k : Nat} (hS : va_S (ev_A G) H0 H locs) (z : H1.size = H.size) (oq : ∀ q : Nat, q ≠ ga G a → H1[q]? = H[q]?) (ha : ev_c < a) : va_S (ev_A G) H0 H1 (locs ++ [⟨ga G a, k⟩]) := hS.put z oq (by rw [ga_new ha]; exact Nat.le_add_right _ _)
/-- the kit's cell of an object that is there -/
theorem ev_R.ob {G : ev_G} {h : ev_H} {s : State} {H : Heap} {a ci : Nat} {q : vw_C × (Nat → FieldType)} (hr : ev_R G h s H) (ha : ev_c < a) (hk : hK h a = ci + 1) (hci : ci < 99) (hq : ev_cd[ci]? = some q) : t_OB (ga G a) (G.2.1.1 ci) q.1.2.2 (G.2.1.2 ci) H (fun k => ev_fv G h a (q.2 k) k) := by
  have hat := hr.2.2.1 _ _ (ev_ws_at (G := G) ha (hr.1.2.1 a (by omega)).2)
  rw [ev_e_obj hk hci hq] at hat
  obtain ⟨r, h1, h2⟩ := hat
  have hr9 : r = q.1 := Option.some.inj (h1.symm.trans (ev_cl_at hq))
  subst hr9
  exact h2.to fun k hk => ev_fs_at hk
theorem ev_R.ar {G : ev_G} {h : ev_H} {s : State} {H : Heap} {a t : Nat} (hr : ev_R G h s H) (ha : ev_c < a) (hk : hK h a = 100 + t) : H[ga G a]? = some (arrV (G.2.2.1 t) (hL h a) (fun j => ev_fv G h a (ev_at t) j)) := by
  have hat := hr.2.2.1 _ _ (ev_ws_at (G := G) ha (hr.1.2.1 a (by omega)).2)
  rw [ev_e_arr hk] at hat
  have hat : H[ga G a]? = some (vp_cell (G.2.2.1 t) (ev_ac G h a (ev_at t))) := hat
  rw [ev_cell (ev_at_ok t).1 (ev_at_ok t).2] at hat
  exact hat
theorem ev_T.arr {G : ev_G} {s : State} (hT : ev_T G s) {t : Nat} (ht : t < 7) : ArrOfT s (G.2.2.1 t) (ev_at t) ∧ va_RA s (G.2.2.1 t) (ev_at t) := by
  refine hT.1.2 t (G.2.2.1 t, ev_at t) ?_
  unfold gtys
  rw [List.getElem?_map, List.getElem?_range ht]
  rfl
section EVW
variable {G : ev_G} {M : ev_M} {R : Room} {Qf : List Frame → Array Value → State → State → Prop} {pc uc us : Nat} {L : List (Option ev_V)} {st : List ev_V} {h : ev_H}
/-- putfield, any value; h2: the new heap -/
theorem r_put {index ci k a : Nat} {fty : FieldType} {fin : Bool} (F : ev_FL M.1.cls index ci k fty fin) (hfin : fin = false ∨ (M.1.name = "<init>" ∧ (∃ q, ev_cd[ci]? = some q ∧ (q.1.2.1 k).1 = M.1.cls))) (hk : hK h a = ci + 1) (ha : ev_c < a) (v : ev_V) (hn : narrow fty (tv G v) = tv G v) (hfit : fits fty (tv G v) = true) (h2 : ev_H) (hc : ev_ch h h2 a) (hv : ev_fv G h2 a fty k = tv G v) (ho : ∀ (j : Nat) (ty : FieldType), j ≠ k → ev_fv G h2 a ty j = ev_fv G h a ty j) (hd : decode M.2.1 pc = .ok (.putfield index, 3))
    (kk : Ev G M R Qf (pc + 3) L st h2 uc us) : Ev G M R Qf pc L (v :: vR a :: st) h uc us := by
  intro p e s m args below meth c H locs ls X hr hS hl
  have hne : hK h a ≠ 0 := by omega
  obtain ⟨C, T, N, ty, hq, hci, hkN, hty, hfn, hin, hpt, hnm, hlk⟩ := F
  have hts := X.2.2.2.2.2.2.1
  have hown := X.2.2.2.2.2.1
  have hK9 := X.2.2.2.2.2.2.2.1.1
  have hap := va_apart (own := M.1.cls) hts hin ty hpt hnm hK9 (ev_cl_at hq)
  obtain ⟨cell, q1, q2, q3, q4⟩ := hr.ob ha hk hci hq
  obtain ⟨hS9, hfc, kC, hkC, hkind⟩ := hK9.1 ci _ (ev_cl_at hq)
  obtain ⟨cf, kf, fi, f, hi, hsl⟩ := hS9 k hkN
  have hlay := hts _ (hin _ (u_in_lay hkN))
  have hst := (u_facts hfc hkC (u_lays hts hin hkN) hi).1
  have hd9 : parseFieldDescriptor (T k).2.2.1 = some fty := by rw [hpt k hkN, hty]
  have e1 : (v :: vR a :: st).map (tv G) = tv G v :: .ref (ga G a) :: st.map (tv G) := by rw [List.map_cons, List.map_cons, tv_ref (ev_pos hr.1 hne)]
  rw [e1]
  have hslot : f.slot < cell.slots.size := by rw [hsl]; exact k2_hasslot (q4 k hkN)
  have fin9 : ∀ (H1 : Heap), H1[ga G a]? = some (cell.setSlot f.slot (tv G v)) → H1.size = H.size → (∀ q, q ≠ ga G a → H1[q]? = H[q]?) → W p G.1 e R s m args below meth c H1 (locs ++ [⟨ga G a, f.slot⟩]) uc us (Qf below args s) (F0 m (pc + 3) ls (st.map (tv G))) := by
    intro H1 g1 g2 g3
    rw [hsl] at g1
    have hob : t_OB (ga G a) (G.2.1.1 ci) N (G.2.1.2 ci) H1 (updV (fun k => ev_fv G h a (ty k) k) k (tv G v)) := ⟨_, g1, q2, q3, t_set q4 hap hkN (tv G v)⟩
    refine kk p e s m args below meth c H1 _ ls X (hr.put hc ha hne g2 g3 ?_) (ev_S hS g2 g3 ha) hl
    rw [ev_e_obj (by rw [hc.2.1]; exact hk) hci hq]
    refine ⟨_, ev_cl_at hq, hob.to fun j hj => ?_⟩
    rw [ev_fs_at (q := ((C, T, N), ty)) hj]
    by_cases hjk : j = k
    · subst hjk
      rw [show updV (fun k => ev_fv G h a (ty k) k) j (tv G v) j = tv G v from if_pos rfl]
      show _ = ev_fv G h2 a (ty j) j
      rw [hty, hv]
    · rw [show updV (fun k => ev_fv G h a (ty k) k) k (tv G v) j = ev_fv G h a (ty j) j from if_neg hjk]
      exact (ho j (ty j) hjk).symm
  unfold u_lay at hlay
  cases fin with
  | false =>
    rw [if_neg (by rw [hfn]; decide)] at hlay
    have h6 := u_store hfc hkC hkind hlay hi hd9 hn hfit
    exact W.putK X.1 X.2.1 (f := f) ⟨hown, hts _ hlk, ⟨_, _, _, hi⟩, hst⟩ (by rw [q2]; exact h6) q1 q3 hslot rfl rfl hd fin9
  | true =>
    rw [if_pos hfn] at hlay
    rcases hfin with hf | ⟨hini, q, hq', hdecl⟩
    · cases hf
    · cases Option.some.inj (hq.symm.trans hq')
      have hcf : m.cls = cf := by
        obtain ⟨_, _, c', _, _, _, -, -, hf', -, -, -, hown2, -⟩ := Cond.laysFinal_spec hlay
        have e1 : c' = cf := by have := hi.symm.trans hf'; simp at this; exact this.1.symm
        rw [show (T k).1 = M.1.cls from hdecl] at hown2
        rw [← e1]; exact Option.some.inj (hown.symm.trans hown2)
      have h6 := u_fits hfc hkC hkind (Or.inr hlay) hi hd9 hn hfit
      exact W.putFinK X.1 X.2.1 hown (hts _ hlk) hi hst hcf (X.2.2.2.2.2.2.2.2.2.1.trans hini) (by rw [q2]; exact h6) q1 q3 hslot rfl rfl hd fin9
theorem fv_sI {a k : Nat} {x : Int32} (j : Nat) (ty : FieldType) (hj : j ≠ k) : ev_fv G (sI h a k x) a ty j = ev_fv G h a ty j := by
  have e1 : hI (sI h a k x) a j = hI h a j := u2_ne (fun z => hj z.2)
  unfold ev_fv
  split <;> first | rfl | rw [e1]
theorem fv_sJ {a k : Nat} {x : Int64} (j : Nat) (ty : FieldType) (hj : j ≠ k) : ev_fv G (sJ h a k x) a ty j = ev_fv G h a ty j := by
  have e1 : hJ (sJ h a k x) a j = hJ h a j := u2_ne (fun z => hj z.2)
  unfold ev_fv
  split <;> first | rw [e1] | rfl
theorem fv_sR {a k : Nat} {x : Nat} (j : Nat) (ty : FieldType) (hj : j ≠ k) : ev_fv G (sR h a k x) a ty j = ev_fv G h a ty j := by
  have e1 : hR (sR h a k x) a j = hR h a j := u2_ne (fun z => hj z.2)
  unfold ev_fv
  split <;> first | rw [e1] | rfl
/-- the type keeps ints -/
def ev_it (ty : FieldType) : Bool := match ty with
  | .int => true
  | .byte => true
  | .boolean => true
  | .char => true
  | .short => true
  | _ => false
def ev_rt (ty : FieldType) : Bool := match ty with
  | .object _ => true
  | .array _ => true
  | _ => false
theorem fv_it {ty : FieldType} (h9 : ev_it ty = true) (h : ev_H) (a k : Nat) : ev_fv G h a ty k = .int (hI h a k) := by
  cases ty <;> first | rfl | cases h9
theorem fv_rt {ty : FieldType} (h9 : ev_rt ty = true) (h : ev_H) (a k : Nat) : ev_fv G h a ty k = va_rf (go G (hR h a k)) := by
  cases ty <;> first | rfl | cases h9
theorem r_putI {index ci k a : Nat} {fty : FieldType} {x : Int32} (F : ev_FL M.1.cls index ci k fty false) (hk : hK h a = ci + 1) (ha : ev_c < a) (hty : ev_it fty = true) (hn : narrow fty (.int x) = .int x) (hfit : fits fty (.int x) = true) (hd : decode M.2.1 pc = .ok (.putfield index, 3))
    (kk : Ev G M R Qf (pc + 3) L st (sI h a k x) uc us) : Ev G M R Qf pc L (vI x :: vR a :: st) h uc us :=
  r_put F (Or.inl rfl) hk ha (vI x) hn hfit (sI h a k x) (ch_sI h a k x) (by rw [fv_it hty]; exact congrArg Value.int u2_self) (fun j ty hj => fv_sI j ty hj) hd kk
theorem r_putJ {index ci k a : Nat} {x : Int64} (F : ev_FL M.1.cls index ci k .long false) (hk : hK h a = ci + 1) (ha : ev_c < a) (hd : decode M.2.1 pc = .ok (.putfield index, 3))
    (kk : Ev G M R Qf (pc + 3) L st (sJ h a k x) uc us) : Ev G M R Qf pc L (vJ x :: vR a :: st) h uc us :=
  r_put F (Or.inl rfl) hk ha (vJ x) rfl rfl (sJ h a k x) (ch_sJ h a k x) (congrArg Value.long u2_self) (fun j ty hj => fv_sJ j ty hj) hd kk
theorem rt_ok {ty : FieldType} (hty : ev_rt ty = true) (r : Option Nat) : narrow ty (va_rf r) = va_rf r ∧ fits ty (va_rf r) = true := by
  cases ty <;> first | (cases r <;> exact ⟨rfl, rfl⟩) | cases hty
theorem r_putR {index ci k a x : Nat} {fty : FieldType} (F : ev_FL M.1.cls index ci k fty false) (hk : hK h a = ci + 1) (ha : ev_c < a) (hty : ev_rt fty = true) (hd : decode M.2.1 pc = .ok (.putfield index, 3))
    (kk : Ev G M R Qf (pc + 3) L st (sR h a k x) uc us) : Ev G M R Qf pc L (vR x :: vR a :: st) h uc us :=
  r_put F (Or.inl rfl) hk ha (vR x) (rt_ok hty _).1 (rt_ok hty _).2 (sR h a k x) (ch_sR h a k x) (by rw [fv_rt hty]; exact congrArg (fun r => va_rf (go G r)) u2_self) (fun j ty hj => fv_sR j ty hj) hd kk
theorem r_putFI {index ci k a : Nat} {fty : FieldType} {fin : Bool} {x : Int32} (F : ev_FL M.1.cls index ci k fty fin) (hini : M.1.name = "<init>" ∧ (∃ q, ev_cd[ci]? = some q ∧ (q.1.2.1 k).1 = M.1.cls)) (hk : hK h a = ci + 1) (ha : ev_c < a) (hty : ev_it fty = true) (hn : narrow fty (.int x) = .int x) (hfit : fits fty (.int x) = true) (hd : decode M.2.1 pc = .ok (.putfield index, 3))
    (kk : Ev G M R Qf (pc + 3) L st (sI h a k x) uc us) : Ev G M R Qf pc L (vI x :: vR a :: st) h uc us :=
  r_put F (Or.inr hini) hk ha (vI x) hn hfit (sI h a k x) (ch_sI h a k x) (by rw [fv_it hty]; exact congrArg Value.int u2_self) (fun j ty hj => fv_sI j ty hj) hd kk
theorem r_putFR {index ci k a x : Nat} {fty : FieldType} {fin : Bool} (F : ev_FL M.1.cls index ci k fty fin) (hini : M.1.name = "<init>" ∧ (∃ q, ev_cd[ci]? = some q ∧ (q.1.2.1 k).1 = M.1.cls)) (hk : hK h a = ci + 1) (ha : ev_c < a) (hty : ev_rt fty = true) (hd : decode M.2.1 pc = .ok (.putfield index, 3))
    (kk : Ev G M R Qf (pc + 3) L st (sR h a k x) uc us) : Ev G M R Qf pc L (vR x :: vR a :: st) h uc us :=
  r_put F (Or.inr hini) hk ha (vR x) (rt_ok hty _).1 (rt_ok hty _).2 (sR h a k x) (ch_sR h a k x) (by rw [fv_rt hty]; exact congrArg (fun r => va_rf (go G r)) u2_self) (fun j ty hj => fv_sR j ty hj) hd kk
/-- behind a store into an array -/
theorem ev_R.aput {s : State} {H H1 : Heap} {a t j : Nat} {w : Value} {h2 : ev_H} (hr : ev_R G h s H) (hc : ev_ch h h2 a) (ha : ev_c < a) (hk : hK h a = 100 + t) (e : H1[ga G a]? = some ((arrV (G.2.2.1 t) (hL h a) (fun j => ev_fv G h a (ev_at t) j)).setSlot j w)) (z : H1.size = H.size) (oq : ∀ q : Nat, q ≠ ga G a → H1[q]? = H[q]?) (hw : ev_fv G h2 a (ev_at t) j = w) (ho : ∀ i, i ≠ j → ev_fv G h2 a (ev_at t) i = ev_fv G h a (ev_at t) i) : ev_R G h2 s H1 := by
  refine hr.put hc ha (by omega) z oq ?_
  rw [ev_e_arr (t := t) (by rw [hc.2.1]; exact hk)]
  show H1[ga G a]? = some (vp_cell _ _)
  rw [ev_cell (ev_at_ok t).1 (ev_at_ok t).2, e, arrV_store, hc.2.2.1]
  congr 2
  funext i
  by_cases hi : i = j
  · subst hi
    rw [hw]
    exact if_pos rfl
  · rw [ho i hi]
    exact if_neg hi
theorem r_iast {i x : Int32} {a : Nat} (hk : hK h a = 100) (ha : ev_c < a) (hin : vp_in i (hL h a)) (hd : decode M.2.1 pc = .ok (.iastore, 1))
    (kk : Ev G M R Qf (pc + 1) L st (sI h a i.toNatClampNeg x) uc us) : Ev G M R Qf pc L (vI x :: vI i :: vR a :: st) h uc us := by
  intro p e s m args below meth c H locs ls X hr hS hl
  have hne : hK h a ≠ 0 := by omega
  have e1 : (vI x :: vI i :: vR a :: st).map (tv G) = .int x :: .int i :: .ref (ga G a) :: st.map (tv G) := by rw [List.map_cons, List.map_cons, List.map_cons, tv_ref (ev_pos hr.1 hne)]; rfl
  rw [e1]
  refine W.iast X.1 X.2.1 (hr.ar (t := 0) ha hk) ((X.2.2.2.2.2.2.2.1.arr (t := 0) (by decide)).1 _ _) (fun z => by cases z) (by rw [arrV_size]; exact hin) rfl rfl hd fun H1 e z oq => ?_
  exact kk p _ s m args below meth c H1 _ ls X (hr.aput (t := 0) (ch_sI h a _ x) ha hk e z oq (congrArg Value.int u2_self) (fun j hj => fv_sI j _ hj)) (ev_S hS z oq ha) hl
theorem r_bast {i x v : Int32} {a : Nat} (hk : hK h a = 101) (ha : ev_c < a) (hin : vp_in i (hL h a)) (hv : narrow .byte (.int x) = .int v) (hd : decode M.2.1 pc = .ok (.bastore, 1))
    (kk : Ev G M R Qf (pc + 1) L st (sI h a i.toNatClampNeg v) uc us) : Ev G M R Qf pc L (vI x :: vI i :: vR a :: st) h uc us := by
  intro p e s m args below meth c H locs ls X hr hS hl
  have hne : hK h a ≠ 0 := by omega
  have e1 : (vI x :: vI i :: vR a :: st).map (tv G) = .int x :: .int i :: .ref (ga G a) :: st.map (tv G) := by rw [List.map_cons, List.map_cons, List.map_cons, tv_ref (ev_pos hr.1 hne)]; rfl
  rw [e1]
  refine W.bast X.1 X.2.1 (hr.ar (t := 1) ha hk) ((X.2.2.2.2.2.2.2.1.arr (t := 1) (by decide)).1 _ _) (fun z => by cases z) (by rw [arrV_size]; exact hin) rfl rfl hd fun H1 e z oq => ?_
  rw [hv] at e
  exact kk p _ s m args below meth c H1 _ ls X (hr.aput (t := 1) (ch_sI h a _ v) ha hk e z oq (congrArg Value.int u2_self) (fun j hj => fv_sI j _ hj)) (ev_S hS z oq ha) hl
theorem r_zast {i x v : Int32} {a : Nat} (hk : hK h a = 102) (ha : ev_c < a) (hin : vp_in i (hL h a)) (hv : narrow .boolean (.int x) = .int v) (hd : decode M.2.1 pc = .ok (.bastore, 1))
    (kk : Ev G M R Qf (pc + 1) L st (sI h a i.toNatClampNeg v) uc us) : Ev G M R Qf pc L (vI x :: vI i :: vR a :: st) h uc us := by
  intro p e s m args below meth c H locs ls X hr hS hl
  have hne : hK h a ≠ 0 := by omega
  have e1 : (vI x :: vI i :: vR a :: st).map (tv G) = .int x :: .int i :: .ref (ga G a) :: st.map (tv G) := by rw [List.map_cons, List.map_cons, List.map_cons, tv_ref (ev_pos hr.1 hne)]; rfl
  rw [e1]
  refine W.zast X.1 X.2.1 (hr.ar (t := 2) ha hk) ((X.2.2.2.2.2.2.2.1.arr (t := 2) (by decide)).1 _ _) (fun z => by cases z) (by rw [arrV_size]; exact hin) rfl rfl hd fun H1 e z oq => ?_
  rw [hv] at e
  exact kk p _ s m args below meth c H1 _ ls X (hr.aput (t := 2) (ch_sI h a _ v) ha hk e z oq (congrArg Value.int u2_self) (fun j hj => fv_sI j _ hj)) (ev_S hS z oq ha) hl
theorem r_last {i : Int32} {x : Int64} {a : Nat} (hk : hK h a = 103) (ha : ev_c < a) (hin : vp_in i (hL h a)) (hd : decode M.2.1 pc = .ok (.lastore, 1))
    (kk : Ev G M R Qf (pc + 1) L st (sJ h a i.toNatClampNeg x) uc us) : Ev G M R Qf pc L (vJ x :: vI i :: vR a :: st) h uc us := by
  intro p e s m args below meth c H locs ls X hr hS hl
  have hne : hK h a ≠ 0 := by omega
  have e1 : (vJ x :: vI i :: vR a :: st).map (tv G) = .long x :: .int i :: .ref (ga G a) :: st.map (tv G) := by rw [List.map_cons, List.map_cons, List.map_cons, tv_ref (ev_pos hr.1 hne)]; rfl
  rw [e1]
  refine W.last X.1 X.2.1 (hr.ar (t := 3) ha hk) ((X.2.2.2.2.2.2.2.1.arr (t := 3) (by decide)).1 _ _) (fun z => by cases z) (by rw [arrV_size]; exact hin) rfl rfl hd fun H1 e z oq => ?_
  exact kk p _ s m args below meth c H1 _ ls X (hr.aput (t := 3) (ch_sJ h a _ x) ha hk e z oq (congrArg Value.long u2_self) (fun j hj => fv_sJ j _ hj)) (ev_S hS z oq ha) hl
end EVW
