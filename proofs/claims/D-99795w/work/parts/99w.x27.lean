/-! ===== THE SYSTEM: what is heard (walks by program) ===== -/
set_option maxRecDepth 100000

section FIN
variable {G : ev_G} {M : ev_M} {R : Room} {Qf : List Frame → Array Value → State → State → Prop} {pc uc us : Nat} {L : List (Option ev_V)} {st : List ev_V} {h : ev_H}
theorem r_putFN {index ci k a : Nat} {fin : Bool} {x : Int32} (F : ev_FL M.1.cls index ci k .int fin) (hini : M.1.name = "<init>" ∧ (∃ q, ev_cd[ci]? = some q ∧ (q.1.2.1 k).1 = M.1.cls)) (hk : hK h a = ci + 1) (ha : ev_c < a) (hd : decode M.2.1 pc = .ok (.putfield index, 3))
    (kk : Ev G M R Qf (pc + 3) L st (sI h a k x) uc us) : Ev G M R Qf pc L (vI x :: vR a :: st) h uc us := r_putFI F hini hk ha rfl rfl rfl hd kk
theorem r_putFB {index ci k a : Nat} {fin : Bool} {p : Bool} (F : ev_FL M.1.cls index ci k .boolean fin) (hini : M.1.name = "<init>" ∧ (∃ q, ev_cd[ci]? = some q ∧ (q.1.2.1 k).1 = M.1.cls)) (hk : hK h a = ci + 1) (ha : ev_c < a) (hd : decode M.2.1 pc = .ok (.putfield index, 3))
    (kk : Ev G M R Qf (pc + 3) L st (sI h a k (b2i p)) uc us) : Ev G M R Qf pc L (vI (b2i p) :: vR a :: st) h uc us := r_putFI F hini hk ha rfl (b2i_n p) (b2i_fit p) hd kk
theorem r_putFO {index ci k a x : Nat} {fty : FieldType} {fin : Bool} (F : ev_FL M.1.cls index ci k fty fin) (hini : M.1.name = "<init>" ∧ (∃ q, ev_cd[ci]? = some q ∧ (q.1.2.1 k).1 = M.1.cls)) (hk : hK h a = ci + 1) (ha : ev_c < a) (hty : ev_rt fty = true) (hd : decode M.2.1 pc = .ok (.putfield index, 3))
    (kk : Ev G M R Qf (pc + 3) L st (sR h a k x) uc us) : Ev G M R Qf pc L (vR x :: vR a :: st) h uc us := r_putFR F hini hk ha hty hd kk
end FIN
section NZ
variable {h h1 h2 : ev_H} {x : Nat} {s m tm : Int32} {is : Bool} {S Q : Nat → Prop} {F : List Nat}
theorem nz_tm {h : ev_H} {x : Nat} {s m : Int32} {is : Bool} (n : 64 ≠ x) : hI (sI (sI (sI (sI (sR h x 5 64) x 4 (-1)) x 0 s) x 1 m) x 3 (b2i is)) 64 8 = hI h 64 8 := (rdI_s n).trans ((rdI_s n).trans ((rdI_s n).trans (rdI_s n)))
theorem nz_post : (hI (sI (sI (sI (sI (sI (sR h x 5 64) x 4 (-1)) x 0 s) x 1 m) x 3 (b2i is)) x 2 tm) x 0 = s ∧ hI (sI (sI (sI (sI (sI (sR h x 5 64) x 4 (-1)) x 0 s) x 1 m) x 3 (b2i is)) x 2 tm) x 1 = m ∧ hI (sI (sI (sI (sI (sI (sR h x 5 64) x 4 (-1)) x 0 s) x 1 m) x 3 (b2i is)) x 2 tm) x 2 = tm ∧ hI (sI (sI (sI (sI (sI (sR h x 5 64) x 4 (-1)) x 0 s) x 1 m) x 3 (b2i is)) x 2 tm) x 3 = b2i is ∧ hI (sI (sI (sI (sI (sI (sR h x 5 64) x 4 (-1)) x 0 s) x 1 m) x 3 (b2i is)) x 2 tm) x 4 = -1) ∧ hR (sI (sI (sI (sI (sI (sR h x 5 64) x 4 (-1)) x 0 s) x 1 m) x 3 (b2i is)) x 2 tm) x 5 = 64 ∧ Fg (fun a => a = x) [] (fun a => a = x) h (sI (sI (sI (sI (sI (sR h x 5 64) x 4 (-1)) x 0 s) x 1 m) x 3 (b2i is)) x 2 tm) :=
  ⟨⟨(rdI_k (by decide)).trans ((rdI_k (by decide)).trans ((rdI_k (by decide)).trans fs_at)), (rdI_k (by decide)).trans ((rdI_k (by decide)).trans fs_at), fs_at, (rdI_k (by decide)).trans fs_at, (rdI_k (by decide)).trans ((rdI_k (by decide)).trans ((rdI_k (by decide)).trans ((rdI_k (by decide)).trans fs_at)))⟩, fs_atR, fg_si (fg_si (fg_si (fg_si (fg_si (fg_sr Fg.rf (Or.inl rfl)) (Or.inl rfl)) (Or.inl rfl)) (Or.inl rfl)) (Or.inl rfl)) (Or.inl rfl)⟩
/-- what is done to a cell that was not there is nothing -/
theorem fg_new (p : Fg noC [] noC h h1) (q : Fg (fun a => a = x) [] (fun a => a = x) h1 h2) (z : hK h x = 0) : Fg noC [] noC h h2 := ⟨Nat.le_trans p.1 q.1, fun a ha => by
  have hne : a ≠ x := fun e => ha (by rw [e]; exact z)
  obtain ⟨p1, p2, p3, p4, p5⟩ := p.2 a ha
  obtain ⟨q1, q2, q3, q4, q5⟩ := q.2 a (by rw [p1]; exact ha)
  exact ⟨q1.trans p1, q2.trans p2, fun _ => (q3 hne).trans (p3 (fun z => z)), fun k _ y => (q4 k hne (fun _ => by simp)).trans (p4 k (fun z => z) (fun _ => by simp)), q5.trans p5⟩⟩
theorem elm_n {y : Nat} (hk : hK h y = 14) : ev_elm "java/lang/Object" h y := ⟨13, _, hk, by decide, rfl, Or.inr q2435⟩
end NZ
/-- the row of what was heard stands apart from the book's rows -/
def XE (K : XK) (h : ev_H) : Prop := ev_c < hR h 93 1 ∧ 0 < hL h (hR h 93 1) ∧ (hR h 93 1 ≠ kPe K ∧ hR h 93 1 ≠ kSe K ∧ hR h 93 1 ≠ kTe K) ∧ (93 ≠ kPl K ∧ 93 ≠ kSl K ∧ 93 ≠ kTl K)
section XES
variable {b : Bk} {K : XK} {h hB h1 : ev_H} {R : HR} {nh en e' x : Nat} {N : Nat → Nat} {s m tm : Int32} {is : Bool}
theorem XE.more (hE : XE K h) (hb : XB b K h) (hn : ALs 93 en nh h) (g : Fg (fun a => a = 93) [] (fun a => a = 93 ∨ a = en) h h1) (aD : ALs 93 e' (nh + 1) h1) (cD : ev_c < e') (lD : 0 < hL h1 e') (eD : e' = en ∨ hK hB e' = 0) (hz : hK hB en ≠ 0) (hz2 : hK hB e' = 0 → hK h e' = 0) : XE K h1 := by
  unfold XE at hE ⊢
  rw [hn.2.1] at hE
  rw [aD.2.1]
  refine ⟨cD, lD, ?_, hE.2.2.2⟩
  rcases eD with e | e
  · rw [e]; exact hE.2.2.1
  · have z := hz2 e
    exact ⟨fun q => (by rw [q, hb.aP.2.2.2.1] at z; cases z), fun q => (by rw [q, hb.aS.2.2.2.1] at z; cases z), fun q => (by rw [q, hb.aT.2.2.2.1] at z; cases z)⟩
theorem XE.gq (hE : XE K h) (hn : ALs 93 en nh h) : GQ K (fun a => a = 93 ∨ a = en) h := fun a z => by
  unfold XE at hE
  rw [hn.2.1] at hE
  rcases z with z | z
  · rw [z]; exact Or.inr (Or.inr (Or.inl ⟨hn.1, hE.2.2.2⟩))
  · rw [z]; exact Or.inr (Or.inr (Or.inr ⟨hn.2.2.2.1, hE.2.2.1⟩))
theorem XE.gs (hE : XE K h) (hn : ALs 93 en nh h) : GS K (fun a => a = 93) h := fun a z => by
  rw [z]; exact Or.inr ⟨hn.1, hE.2.2.2⟩
theorem XN.more (hn : ALs 93 en nh h) (hn30 : nh < 30) (hN : ∀ i, i < nh → hR h en i = N i ∧ hK h (N i) = 14 ∧ ev_c < N i ∧ (hI h (N i) 0 = R.s i ∧ hI h (N i) 1 = R.m i ∧ hI h (N i) 2 = R.t i ∧ hI h (N i) 3 = R.i i ∧ hI h (N i) 4 = R.u i) ∧ hR h (N i) 5 = 64) (hNi : ∀ i j, i < nh → j < nh → N i = N j → i = j)
    (gB : Fg noC [] noC h hB) (iB : hI hB x 0 = s ∧ hI hB x 1 = m ∧ hI hB x 2 = tm ∧ hI hB x 3 = b2i is ∧ hI hB x 4 = -1) (rB : hR hB x 5 = 64) (zA : hK h x = 0) (cA : ev_c < x) (kB : hK hB x = 14) (aD : ALs 93 e' (nh + 1) h1) (rD : ∀ i, i < nh → hR h1 e' i = hR hB en i) (vD : hR h1 e' nh = x) (gD : Fg (fun a => a = 93) [] (fun a => a = 93 ∨ a = en) hB h1) : XN (hrAdd R nh s m (b2i is) tm) (nh + 1) h1 := by
  have k93B := gB.k hn.1 (by decide)
  have kenB := gB.k hn.2.2.2.1 (by decide)
  refine ⟨e', fun i => if i = nh then x else N i, aD, by omega, fun i hi => ?_, fun i j hi hj e => ?_⟩
  · by_cases q : i = nh
    · subst q
      have n93 : x ≠ 93 := fun q => by rw [q, k93B] at kB; cases kB
      have nen : x ≠ en := fun q => by rw [q, kenB] at kB; cases kB
      have ei : ∀ k, hI h1 x k = hI hB x k := fun k => gD.i kB (by decide) n93 k (fun _ => by simp)
      have er := gD.r kB (by decide) (fun z => by rcases z with z | z; exact n93 z; exact nen z)
      show hR h1 e' i = (if i = i then x else N i) ∧ hK h1 (if i = i then x else N i) = 14 ∧ ev_c < (if i = i then x else N i) ∧ (hI h1 (if i = i then x else N i) 0 = u1 R.s i s i ∧ hI h1 (if i = i then x else N i) 1 = u1 R.m i m i ∧ hI h1 (if i = i then x else N i) 2 = u1 R.t i tm i ∧ hI h1 (if i = i then x else N i) 3 = u1 R.i i (b2i is) i ∧ hI h1 (if i = i then x else N i) 4 = u1 R.u i (-1) i) ∧ hR h1 (if i = i then x else N i) 5 = 64
      rw [if_pos rfl, u1_self, u1_self, u1_self, u1_self, u1_self, er]
      exact ⟨vD, gD.k kB (by decide), cA, ⟨(ei 0).trans iB.1, (ei 1).trans iB.2.1, (ei 2).trans iB.2.2.1, (ei 3).trans iB.2.2.2.1, (ei 4).trans iB.2.2.2.2⟩, rB⟩
    · obtain ⟨n1, n2, n3, ⟨m0, m1, m2, m3, m4⟩, n5⟩ := hN i (by omega)
      have kN := gB.k n2 (by decide)
      have n93 : N i ≠ 93 := fun q => by rw [q, k93B] at kN; cases kN
      have nen : N i ≠ en := fun q => by rw [q, kenB] at kN; cases kN
      have ei : ∀ k, hI h1 (N i) k = hI h (N i) k := fun k => (gD.i kN (by decide) n93 k (fun _ => by simp)).trans (gB.i n2 (by decide) (fun z => z) k (fun _ => by simp))
      have er := (gD.r kN (by decide) (fun z => by rcases z with z | z; exact n93 z; exact nen z)).trans (gB.r n2 (by decide) (fun z => z))
      show hR h1 e' i = (if i = nh then x else N i) ∧ hK h1 (if i = nh then x else N i) = 14 ∧ ev_c < (if i = nh then x else N i) ∧ (hI h1 (if i = nh then x else N i) 0 = u1 R.s nh s i ∧ hI h1 (if i = nh then x else N i) 1 = u1 R.m nh m i ∧ hI h1 (if i = nh then x else N i) 2 = u1 R.t nh tm i ∧ hI h1 (if i = nh then x else N i) 3 = u1 R.i nh (b2i is) i ∧ hI h1 (if i = nh then x else N i) 4 = u1 R.u nh (-1) i) ∧ hR h1 (if i = nh then x else N i) 5 = 64
      rw [if_neg q, u1_ne q, u1_ne q, u1_ne q, u1_ne q, u1_ne q, er]
      exact ⟨(rD i (by omega)).trans (by rw [gB.r hn.2.2.2.1 (by decide) (fun z => z)]; exact n1), gD.k kN (by decide), n3, ⟨(ei 0).trans m0, (ei 1).trans m1, (ei 2).trans m2, (ei 3).trans m3, (ei 4).trans m4⟩, n5⟩
  · have nx : ∀ i, i < nh → N i ≠ x := fun i hi q => by have := (hN i hi).2.1; rw [q, zA] at this; cases this
    simp only at e
    by_cases q1 : i = nh
    · by_cases q2 : j = nh
      · omega
      · rw [if_pos q1, if_neg q2] at e
        exact absurd e.symm (nx j (by omega))
    · by_cases q2 : j = nh
      · rw [if_neg q1, if_pos q2] at e
        exact absurd e (nx i (by omega))
      · rw [if_neg q1, if_neg q2] at e
        exact hNi i j (by omega) (by omega) e
end XES

theorem x13_init {G : ev_G} {h : ev_H} (h64 : hK h 64 = 1) {x : Nat} (hx : hK h x = 14) (hc : ev_c < x) {tm : Int32} (htm : hI h 64 8 = tm) (s m : Int32) (is : Bool) : Called G mX13_init 1 0 0 [vR x, vR 64, vI s, vI m, vI (b2i is)] h (p0 (fun h1 => (hI h1 x 0 = s ∧ hI h1 x 1 = m ∧ hI h1 x 2 = tm ∧ hI h1 x 3 = b2i is ∧ hI h1 x 4 = -1) ∧ hR h1 x 5 = 64 ∧ Fg (fun a => a = x) [] (fun a => a = x) h h1)) := by
  have n64 : 64 ≠ x := fun e => by rw [← e, h64] at hx; cases hx
  refine called_of rfl [some (vR x), some (vR 64), some (vI s), some (vI m), some (vI (b2i is))] rfl (Nat.le_of_ble_eq_true rfl) ?_
  refine r_aload_n dX13_init_0 rfl ?_
  refine r_aload_n dX13_init_1 rfl ?_
  refine r_putFO fX13_3 ⟨rfl, _, rfl, rfl⟩ (hx) (hc) rfl dX13_init_2 ?_
  refine r_aload_n dX13_init_5 rfl ?_
  refine r_objInit q1553 q175 q176 (nz_ (hx) (by decide)) (by decide) (by decide) rfl dX13_init_6 ?_
  refine r_aload_n dX13_init_9 rfl ?_
  refine r_iconst (v := (-1)) dX13_init_10 (by decide) ?_
  refine r_putN fX13_15 (hx) (hc) dX13_init_11 ?_
  refine r_aload_n dX13_init_14 rfl ?_
  refine r_iload_n dX13_init_15 rfl ?_
  refine r_putFN fX13_19 ⟨rfl, _, rfl, rfl⟩ (hx) (hc) dX13_init_16 ?_
  refine r_aload_n dX13_init_19 rfl ?_
  refine r_iload_n dX13_init_20 rfl ?_
  refine r_putFN fX13_22 ⟨rfl, _, rfl, rfl⟩ (hx) (hc) dX13_init_21 ?_
  refine r_aload_n dX13_init_24 rfl ?_
  refine r_iload dX13_init_25 rfl ?_
  refine r_putFB fX13_25 ⟨rfl, _, rfl, rfl⟩ (hx) (hc) dX13_init_27 ?_
  refine r_aload_n dX13_init_30 rfl ?_
  refine r_aload_n dX13_init_31 rfl ?_
  refine r_getN fX13_29 h64 (vI tm) (by rw [← htm]; exact congrArg Value.int (nz_tm n64)) dX13_init_32 ?_
  refine r_putFN fX13_32 ⟨rfl, _, rfl, rfl⟩ (hx) (hc) dX13_init_35 ?_
  exact r_retv dX13_init_38 rfl (Nat.le_refl _) (Nat.le_refl _) nz_post

theorem xJ2_clear {G : ev_G} {h : ev_H} {x e n : Nat} (hA : ALs x e n h) (hc : ev_c < x) (hce : ev_c < e) : Called G mJ2_clear 0 0 0 [vR x] h (p0 (fun h1 => ALs x e 0 h1 ∧ Fg (fun a => a = x) [] (fun a => a = e) h h1)) := by
  obtain ⟨x1, x2, x3, x4, x5, x6⟩ := hA
  refine called_of rfl [some (vR x), none, none, none] rfl (Nat.le_of_ble_eq_true rfl) ?_
  refine r_aload_n dJ2_clear_0 rfl ?_
  refine r_dup dJ2_clear_1 rfl ?_
  refine r_getS fJ2_63 (x1) (vI (hI h x 0)) rfl dJ2_clear_2 ?_
  refine r_iconst (v := nI 1) dJ2_clear_5 (by decide) ?_
  refine r_iadd dJ2_clear_6 ?_
  refine r_putS fJ2_63 (x1) (hc) dJ2_clear_7 ?_
  refine r_aload_n dJ2_clear_10 rfl ?_
  refine r_getRv fJ2_9 (x1) (v := e) (x2) rfl dJ2_clear_11 ?_
  refine r_astore_n dJ2_clear_14 (by decide) rfl ?_
  refine r_aload_n dJ2_clear_15 rfl ?_
  refine r_getIv fJ2_48 (x1) (v := nI n) ((rdI_k (by decide)).trans x3) rfl dJ2_clear_16 ?_
  refine r_istore_n dJ2_clear_19 (by decide) rfl ?_
  refine r_aload_n dJ2_clear_20 rfl ?_
  refine r_iconst (v := nI 0) dJ2_clear_21 (by decide) ?_
  refine r_dup_x1 dJ2_clear_22 rfl rfl ?_
  refine r_putN fJ2_48 (x1) (hc) dJ2_clear_23 ?_
  refine r_istore_n dJ2_clear_26 (by decide) rfl ?_
  refine (ev_for (P := fun i => ∀ hL9 : ev_H, (Fg (fun a => a = x) [] (fun a => a = e) h hL9 ∧ hK hL9 e = 104 ∧ hL hL9 e = hL h e ∧ hI hL9 x 2 = nI 0) → Ev G mJ2_clear (ev_room 0 0 0) (ev_MQ G (p0 (fun h1 => ALs x e 0 h1 ∧ Fg (fun a => a = x) [] (fun a => a = e) h h1)) 0 0) 27 [some (vR x), some (vR e), some (vI (nI n)), some (vI (nI i))] [] hL9 0 0) n (fun i hki ihi hL9 qhL9 => ?_)) 0 (Nat.zero_le _) _ (⟨fg_si (fg_si Fg.rf (Or.inl rfl)) (Or.inl rfl), x4, rfl, fs_at⟩)
  obtain ⟨gL9, kL9, lL9, sL9⟩ := qhL9
  refine r_iload_n dJ2_clear_27 rfl ?_
  refine r_iload_n dJ2_clear_28 rfl ?_
  refine r_icmpN_ge (tgt := 42) dJ2_clear_29 rfl (by omega) (by omega) (fun c1 => ?_) (fun c1 => ?_)
  · --
    exact r_retv dJ2_clear_42 rfl (Nat.le_refl _) (Nat.le_refl _) ⟨⟨gL9.k x1 (by decide), by rw [gL9.r x1 (by decide) (fun z => by rw [z, x4] at x1; cases x1)]; exact x2, sL9, kL9, Nat.zero_le _, by rw [lL9]; exact x6⟩, gL9⟩
  · --
    refine r_aload_n dJ2_clear_32 rfl ?_
    refine r_iload_n dJ2_clear_33 rfl ?_
    refine r_null dJ2_clear_34 ?_
    refine r_aast (t := 4) (Or.inl ⟨rfl, rfl⟩) (kL9) (hce) (lL9) (ix_n (by omega) (by omega)) (Or.inl rfl) dJ2_clear_35 ?_
    refine r_iincN (n := 1) dJ2_clear_36 rfl rfl (by decide) rfl ?_
    refine r_goto (tgt := 27) dJ2_clear_39 rfl ?_
    exact ihi (by omega) _ (⟨fg_sr gL9 (Or.inl rfl), kL9, lL9, sL9⟩)

theorem x0_heard {G : ev_G} {b : Bk} {K : XK} {T : Nat → Int32} {h : ev_H} (hm : XM b K T h) {R : HR} {nh : Nat} (hS : XN R nh h) (hE' : XE K h) {tm : Int32} (htm : hI h 64 8 = tm) (s m : Int32) (is : Bool) : Called G mX0_heard 7 2 156 [vR 64, vI s, vI m, vI (b2i is)] h (pI (fun y h1 => y = (if hdOk b nh s m then nI nh else -1) ∧ Fg (fun a => a = 93) [] (fun a => a = 93 ∨ a = hR h 93 1) h h1 ∧ XN (if hdOk b nh s m then hrAdd R nh s m (b2i is) tm else R) (if hdOk b nh s m then nh + 1 else nh) h1 ∧ XE K h1)) := by
  have hb := hm.xb
  have hT := hm.xt
  have hl := hm.lay
  have hw := hm.bw
  have hb1 := hw.p6
  have hb2 := hw.s5
  have hb3 := hw.t10
  have hw9 := hm.tw
  obtain ⟨en, N, hn, hn30, hNN, hNi⟩ := hS
  have hE : ev_c < en ∧ 0 < hL h en := by have := hE'; unfold XE at this; rw [hn.2.1] at this; exact ⟨this.1, this.2.1⟩
  refine called_of rfl [some (vR 64), some (vI s), some (vI m), some (vI (b2i is))] rfl (Nat.le_of_ble_eq_true rfl) ?_
  refine r_aload_n dX0_heard_0 rfl ?_
  refine r_iload_n dX0_heard_1 rfl ?_
  refine r_callVx lX0_212 (x0_isSack hm _) (hl.k) rfl rfl rfl rfl dX0_heard_2 (by decide) (by decide) ?_
  refine r_ifB_eq (tgt := 37) dX0_heard_5 rfl (fun c1 => ?_) (fun c1 => ?_)
  · --
    refine r_iconst (v := (-1)) dX0_heard_37 (by decide) ?_
    exact r_reti dX0_heard_38 rfl rfl (Nat.zero_le _) (Nat.zero_le _) ⟨if_n (by simp [hdOk, c1]) rfl, Fg.rf, (by rw [if_neg (by rw [show hdOk b nh s m = false from (by simp [hdOk, c1])]; decide), if_neg (by rw [show hdOk b nh s m = false from (by simp [hdOk, c1])]; decide)]; exact ⟨en, N, hn, hn30, hNN, hNi⟩), hE'⟩
  · --
    refine r_iload_n dX0_heard_8 rfl ?_
    refine r_iconst (v := 0) dX0_heard_9 (by decide) ?_
    refine r_bipush (v := nI 10) dX0_heard_10 (by decide) ?_
    refine r_callSx lX0_155 (x0_isIn _ _ _) rfl rfl rfl rfl dX0_heard_12 (by decide) (by decide) ?_
    refine r_ifB_eq (tgt := 37) dX0_heard_15 rfl (fun c2 => ?_) (fun c2 => ?_)
    · --
      refine r_iconst (v := (-1)) dX0_heard_37 (by decide) ?_
      exact r_reti dX0_heard_38 rfl rfl (Nat.zero_le _) (Nat.zero_le _) ⟨if_n (by simp [hdOk, c1, c2]) rfl, Fg.rf, (by rw [if_neg (by rw [show hdOk b nh s m = false from (by simp [hdOk, c1, c2])]; decide), if_neg (by rw [show hdOk b nh s m = false from (by simp [hdOk, c1, c2])]; decide)]; exact ⟨en, N, hn, hn30, hNN, hNi⟩), hE'⟩
    · --
      refine r_aload_n dX0_heard_18 rfl ?_
      refine r_callVx lX0_140 (x0_things hm) (hl.k) rfl rfl rfl rfl dX0_heard_19 (by decide) (by decide) ?_
      refine r_if_eq (tgt := 37) dX0_heard_22 rfl (fun c3 => ?_) (fun c3 => ?_)
      · --
        refine r_iconst (v := (-1)) dX0_heard_37 (by decide) ?_
        exact r_reti dX0_heard_38 rfl rfl (Nat.zero_le _) (Nat.zero_le _) ⟨if_n (by simp [hdOk, c1, c2, c3]) rfl, Fg.rf, (by rw [if_neg (by rw [show hdOk b nh s m = false from (by simp [hdOk, c1, c2, c3])]; decide), if_neg (by rw [show hdOk b nh s m = false from (by simp [hdOk, c1, c2, c3])]; decide)]; exact ⟨en, N, hn, hn30, hNN, hNi⟩), hE'⟩
      · --
        refine r_aload_n dX0_heard_25 rfl ?_
        refine r_getRv fX0_88 (hl.k) (v := 93) (hl.r 19 (by decide) (by decide)) rfl dX0_heard_26 ?_
        refine r_callVx lX0_3 (xJ2_size hn) (hn.1) rfl rfl rfl rfl dX0_heard_29 (by decide) (by decide) ?_
        refine r_bipush (v := nI 30) dX0_heard_32 (by decide) ?_
        refine r_icmpN_ne (tgt := 39) dX0_heard_34 rfl (by omega) (by omega) (fun c4 => ?_) (fun c4 => ?_)
        · --
          refine r_aload_n dX0_heard_39 rfl ?_
          refine r_getRv fX0_88 (hl.k) (v := 93) (hl.r 19 (by decide) (by decide)) rfl dX0_heard_40 ?_
          refine r_wf (fun wf9 => ?_)
          refine r_new nX0_337 dX0_heard_43 (by decide) (by decide) ?_
          have kA : hK (nO h 14 0) (hN h) = 14 := nO_Kn
          have gA : Fg noC [] noC h (nO h 14 0) := Fg.nO wf9
          have cA : ev_c < hN h := wf9.1
          have zA : hK h (hN h) = 0 := wf_0 wf9
          generalize nO h 14 0 = hA at kA gA ⊢
          generalize hN h = x at kA cA zA ⊢
          refine r_dup dX0_heard_46 rfl ?_
          refine r_aload_n dX0_heard_47 rfl ?_
          refine r_iload_n dX0_heard_48 rfl ?_
          refine r_iload_n dX0_heard_49 rfl ?_
          refine r_iload_n dX0_heard_50 rfl ?_
          refine r_callIv lX0_339 (x13_init (gA.k hl.k (by decide)) kA cA ((gA.i hl.k (by decide) (fun z => z) 8 (fun _ => by simp)).trans htm) s m is) (by rw [kA]; decide) rfl rfl rfl rfl dX0_heard_51 (by decide) (by decide) (fun hB q9 => ?_)
          obtain ⟨iB, rB, gB⟩ := q9
          have gB' : Fg noC [] noC h hB := fg_new gA gB zA
          have kB := gB.k kA (by decide)
          have aB := hn.fg gB' (fun z => z) (by decide) (fun z => z)
          refine r_callVi lX0_342 (xJ2_add aB (by decide) hE.1 (by rw [gB'.l hn.2.2.2.1 (by decide)]; exact hE.2) (by omega) (fun i hi => Or.inr (by rw [gB'.r hn.2.2.2.1 (by decide) (fun z => z), (hNN i hi).1]; exact elm_n (gB'.k (hNN i hi).2.1 (by decide)))) (elm_n kB)) (aB.1) rfl rfl rfl rfl dX0_heard_54 (by decide) (by decide) (fun y9 hD q9 => ?_)
          obtain ⟨rfl, e', aD, cD, lD, rD, vD, eD, gD⟩ := q9
          have gA9 : Fg (fun a => a = 93) [] (fun a => a = 93 ∨ a = en) h hD := (gB'.wk (fun _ z => z.elim) (fun _ z => z) (fun _ z => z.elim)).tr gD
          have hlD := hl.fg gA9 (XE.gq hE' hn)
          refine r_pop dX0_heard_57 rfl ?_
          refine r_aload_n dX0_heard_58 rfl ?_
          refine r_getRv fX0_88 (hlD.k) (v := 93) (hlD.r 19 (by decide) (by decide)) rfl dX0_heard_59 ?_
          refine r_callVx lX0_3 (xJ2_size aD) (aD.1) rfl rfl rfl rfl dX0_heard_62 (by decide) (by decide) ?_
          refine r_iconst (v := nI 1) dX0_heard_65 (by decide) ?_
          refine r_isub dX0_heard_66 ?_
          refine r_top (nI nh) (pk_sub (by omega)) ?_
          exact r_reti dX0_heard_67 rfl rfl (Nat.le_refl _) (Nat.le_refl _) ⟨if_p (by simp [hdOk, c1, c2, c3, c4]) rfl, by rw [hn.2.1]; exact gA9, by rw [if_pos (show hdOk b nh s m = true from (by simp [hdOk, c1, c2, c3, c4])), if_pos (show hdOk b nh s m = true from (by simp [hdOk, c1, c2, c3, c4]))]; exact XN.more hn (by omega) hNN hNi gB' iB rB zA cA kB aD rD vD gD, XE.more hE' hm.xb hn gA9 aD cD lD eD (by rw [gB'.k hn.2.2.2.1 (by decide)]; decide) (fun z => fg_0 gB' z)⟩
        · --
          refine r_iconst (v := (-1)) dX0_heard_37 (by decide) ?_
          exact r_reti dX0_heard_38 rfl rfl (Nat.zero_le _) (Nat.zero_le _) ⟨if_n (by simp [hdOk, c4]) rfl, Fg.rf, (by rw [if_neg (by rw [show hdOk b nh s m = false from (by simp [hdOk, c4])]; decide), if_neg (by rw [show hdOk b nh s m = false from (by simp [hdOk, c4])]; decide)]; exact ⟨en, N, hn, hn30, hNN, hNi⟩), hE'⟩
