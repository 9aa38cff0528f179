/-! ===== A BOOK, A READER: constructors (walks by program) ===== -/
set_option maxRecDepth 100000

/-- the empty book, and its cells -/
def emB : Bk := (0, 0, 0, (fun _ _ => 0), (fun _ => -1), none)
def kE (x n : Nat) : XK := fun i j => if i = 0 then (if j = 0 then x else if j ≤ 7 then n + (j - 1) else 0) else 0
/-- the rows of a book in the making -/
def XL (K : XK) (h : ev_H) : Prop := (ev_c < kB K ∧ ev_c < kPl K ∧ ev_c < kSl K ∧ ev_c < kTl K ∧ ev_c < kPe K ∧ ev_c < kSe K ∧ ev_c < kTe K) ∧ (0 < hL h (kPe K) ∧ 0 < hL h (kSe K) ∧ 0 < hL h (kTe K)) ∧ (kPl K ≠ kSl K ∧ kPl K ≠ kTl K ∧ kSl K ≠ kTl K) ∧ (kPe K ≠ kSe K ∧ kPe K ≠ kTe K ∧ kSe K ≠ kTe K)
theorem emB_w : BW emB := ⟨by decide, by decide, by decide, fun _ h => absurd h (Nat.not_lt_zero _), fun _ h => absurd h (Nat.not_lt_zero _), by decide, by decide, by decide, fun _ h => by cases h⟩
theorem ALs.sr {h : ev_H} {l e n x k v : Nat} (a : ALs l e n h) (ne : l ≠ x) : ALs l e n (sR h x k v) := ⟨a.1, (gr_sR ne 1).trans a.2.1, a.2.2.1, a.2.2.2.1, a.2.2.2.2⟩
theorem ALs.g0 {h h1 : ev_H} {l e n : Nat} {S Q : Nat → Prop} (p : Fg S [] Q h h1) (s : ¬ S l) (q : ¬ Q l) (x : ALs l e n h) : ALs l e n h1 := by
  obtain ⟨x1, x2, x3, x4, x5, x6⟩ := x
  exact ⟨p.k x1 (by decide), by rw [p.r x1 (by decide) q]; exact x2, by rw [p.i x1 (by decide) s 2 (fun _ => by simp)]; exact x3, p.k x4 (by decide), by rw [p.l x4 (by decide)]; exact x5, by rw [p.l x4 (by decide)]; exact x6⟩
theorem bk_made {h h1 h2 h3 h4 : ev_H} {x N : Nat} (hx4 : hR h x 4 = 0) (hx5 : hI h x 5 = 0) (hx6 : hI h x 6 = 0) (hx7 : hI h x 7 = 0) (g1 : Fg noC [] (fun a => a = x) h h1) (g2 : Fg noC [] (fun a => a = x) h1 h2) (g3 : Fg noC [] (fun a => a = x) h2 h3) (g4 : Fg noC [] (fun a => a = x) h3 h4)
    (k0 : hK h x = 2) (k1 : hK h1 x = 2) (k2 : hK h2 x = 2) (k3 : hK h3 x = 2) (k4 : hK h4 x = 2) (r1 : hR h1 x 0 = N + 0) (r2 : hR h2 x 1 = N + 2) (r3 : hR h3 x 2 = N + 4) (r4 : hR h4 x 3 = N + 6) (o2 : ∀ j, j ≠ 1 → hR h2 x j = hR h1 x j) (o3 : ∀ j, j ≠ 2 → hR h3 x j = hR h2 x j) (o4 : ∀ j, j ≠ 3 → hR h4 x j = hR h3 x j) (o1 : ∀ j, j ≠ 0 → hR h1 x j = hR h x j)
    (i1 : ∀ j, hI h1 x j = hI h x j) (i2 : ∀ j, hI h2 x j = hI h1 x j) (i3 : ∀ j, hI h3 x j = hI h2 x j) (i4 : ∀ j, hI h4 x j = hI h3 x j) (a1 : ALs (N + 0) (N + 1) 0 h1) (a2 : ALs (N + 2) (N + 3) 0 h2) (a3 : ALs (N + 4) (N + 5) 0 h3) (l1 : hL h1 (N + 1) = 2) (l2 : hL h2 (N + 3) = 2) (l3 : hL h3 (N + 5) = 2) (k7 : hK h4 (N + 6) = 3) (c7 : ev_c < N + 6) (mN : hN h4 = N + 7) (hc : ev_c < x) (cN : ev_c < N + 0) : XB emB (kE x N) h4 ∧ XL (kE x N) h4 ∧ Fg noC [] (fun a => a = x) h h4 ∧ hN h4 = N + 7 := by
  have n1 : N + 0 ≠ x := fun e => by have := a1.1; rw [e, k1] at this; cases this
  have n2 : N + 2 ≠ x := fun e => by have := a2.1; rw [e, k2] at this; cases this
  have n3 : N + 4 ≠ x := fun e => by have := a3.1; rw [e, k3] at this; cases this
  have g24 := (g2.tr g3).tr g4
  have g34 := g3.tr g4
  have A1 := a1.g0 g24 (fun z => z) n1
  have A2 := a2.g0 g34 (fun z => z) n2
  have A3 := a3.g0 g4 (fun z => z) n3
  have ii : ∀ j, hI h4 x j = hI h x j := fun j => (i4 j).trans ((i3 j).trans ((i2 j).trans (i1 j)))
  refine ⟨⟨emB_w, k4, ⟨?_, ?_, ?_, r4, ?_⟩, ⟨(ii 5).trans hx5, (ii 6).trans hx6, (ii 7).trans hx7⟩, ⟨A1, A2, A3⟩, ⟨k7, c7⟩, fun p hp => absurd hp (Nat.not_lt_zero _), fun p hp => absurd hp (Nat.not_lt_zero _), fun _ => rfl, fun c hc => by cases hc⟩, ⟨⟨hc, cN, ?_, ?_, ?_, ?_, ?_⟩, ⟨?_, ?_, ?_⟩, ⟨?_, ?_, ?_⟩, ?_, ?_, ?_⟩, ((g1.tr g2).tr g3).tr g4, mN⟩
  · exact (o4 0 (by decide)).trans ((o3 0 (by decide)).trans ((o2 0 (by decide)).trans r1))
  · exact (o4 1 (by decide)).trans ((o3 1 (by decide)).trans r2)
  · exact (o4 2 (by decide)).trans r3
  · exact (o4 4 (by decide)).trans ((o3 4 (by decide)).trans ((o2 4 (by decide)).trans ((o1 4 (by decide)).trans hx4)))
  all_goals first
    | (show ev_c < N + _; exact Nat.lt_of_lt_of_le cN (by omega))
    | (show N + _ ≠ N + _; omega)
    | (show 0 < hL h4 (N + 1); rw [g24.l a1.2.2.2.1 (by decide), l1]; decide)
    | (show 0 < hL h4 (N + 3); rw [g34.l a2.2.2.2.1 (by decide), l2]; decide)
    | (show 0 < hL h4 (N + 5); rw [g4.l a3.2.2.2.1 (by decide), l3]; decide)

theorem x1_init {G : ev_G} {h : ev_H} {x N0 : Nat} (kx : hK h x = 2) (hc : ev_c < x) (hx4 : hR h x 4 = 0) (hx5 : hI h x 5 = 0) (hx6 : hI h x 6 = 0) (hx7 : hI h x 7 = 0) (hN0 : hN h = N0) : Called G mX1_init 4 7 400 [vR x] h (p0 (fun h1 => XB emB (kE x N0) h1 ∧ XL (kE x N0) h1 ∧ Fg noC [] (fun a => a = x) h h1 ∧ hN h1 = N0 + 7)) := by
  refine called_of rfl [some (vR x)] rfl (Nat.le_of_ble_eq_true rfl) ?_
  refine r_aload_n dX1_init_0 rfl ?_
  refine r_objInit q182 q175 q176 (nz_ (kx) (by decide)) (by decide) (by decide) rfl dX1_init_1 ?_
  refine r_aload_n dX1_init_4 rfl ?_
  refine r_wf (fun wf9 => ?_)
  refine r_new nX1_7 dX1_init_5 (by decide) (by decide) ?_
  have kA1 : hK (nO h 21 0) (hN h) = 21 := nO_Kn
  have gA1 : Fg noC [] noC h (nO h 21 0) := Fg.nO wf9
  have cA1 : ev_c < hN h := wf9.1
  have zA1 : hK h (hN h) = 0 := wf_0 wf9
  have sA1 : ∀ j, hI (nO h 21 0) (hN h) j = 0 := fun j => nO_I0 j
  have mA1 : hN (nO h 21 0) = hN h + 1 := nO_N
  generalize nO h 21 0 = hA1 at kA1 gA1 sA1 mA1 ⊢
  have eL1 : hN h = N0 + 0 := by omega
  rw [eL1] at kA1 cA1 zA1 sA1 mA1 ⊢
  refine r_dup dX1_init_8 rfl ?_
  refine r_iconst (v := nI 2) dX1_init_9 (by decide) ?_
  refine r_callIv lX1_9 (xJ2_init (n := 2) kA1 cA1 (sA1 2) (by decide) (by decide)) (nz_ kA1 (by decide)) rfl rfl rfl rfl dX1_init_10 (by decide) (by decide) (fun hB1 q9 => ?_)
  obtain ⟨e9, zB1, cB1, aB1, lB1, gB1, eB1, mB1⟩ := q9
  rw [mA1] at eB1 mB1
  have eB1' : e9 = N0 + 1 := by omega
  subst eB1'
  have gD1 : Fg noC [] noC h hB1 := fg_new gA1 gB1 zA1
  have kxB1 := gD1.k kx (by decide)
  refine r_putFO fX1_12 ⟨rfl, _, rfl, rfl⟩ (kxB1) (hc) rfl dX1_init_13 ?_
  have gC1 : Fg noC [] (fun a => a = x) h (sR hB1 x 0 (N0 + 0)) := fg_sr (gD1.wk (fun _ z => z) (fun _ z => z) (fun _ z => z.elim)) (Or.inl rfl)
  have kxC1 : hK (sR hB1 x 0 (N0 + 0)) x = 2 := kxB1
  have rC1 : hR (sR hB1 x 0 (N0 + 0)) x 0 = N0 + 0 := fs_atR
  have oC1 : ∀ j, j ≠ 0 → hR (sR hB1 x 0 (N0 + 0)) x j = hR h x j := fun j hj => (show u2 (hR hB1) x 0 (N0 + 0) x j = _ from u2_ne (fun z => hj z.2)).trans (by rw [gD1.r kx (by decide) (fun z => z)])
  have iC1 : ∀ j, hI (sR hB1 x 0 (N0 + 0)) x j = hI h x j := fun j => gD1.i kx (by decide) (fun z => z) j (fun _ => by simp)
  have aC1 : ALs (N0 + 0) (N0 + 1) 0 (sR hB1 x 0 (N0 + 0)) := aB1.sr (fun z => by have q := aB1.1; rw [z, kxB1] at q; cases q)
  have lC1 : hL (sR hB1 x 0 (N0 + 0)) (N0 + 1) = 2 := lB1
  have mC1 : hN (sR hB1 x 0 (N0 + 0)) = N0 + 2 := by show hN hB1 = _; omega
  generalize sR hB1 x 0 (N0 + 0) = hC1 at gC1 kxC1 rC1 oC1 iC1 aC1 lC1 mC1 ⊢
  refine r_aload_n dX1_init_16 rfl ?_
  refine r_wf (fun wf9 => ?_)
  refine r_new nX1_7 dX1_init_17 (by decide) (by decide) ?_
  have kA2 : hK (nO hC1 21 0) (hN hC1) = 21 := nO_Kn
  have gA2 : Fg noC [] noC hC1 (nO hC1 21 0) := Fg.nO wf9
  have cA2 : ev_c < hN hC1 := wf9.1
  have zA2 : hK hC1 (hN hC1) = 0 := wf_0 wf9
  have sA2 : ∀ j, hI (nO hC1 21 0) (hN hC1) j = 0 := fun j => nO_I0 j
  have mA2 : hN (nO hC1 21 0) = hN hC1 + 1 := nO_N
  generalize nO hC1 21 0 = hA2 at kA2 gA2 sA2 mA2 ⊢
  have eL2 : hN hC1 = N0 + 2 := by omega
  rw [eL2] at kA2 cA2 zA2 sA2 mA2 ⊢
  refine r_dup dX1_init_20 rfl ?_
  refine r_iconst (v := nI 2) dX1_init_21 (by decide) ?_
  refine r_callIv lX1_9 (xJ2_init (n := 2) kA2 cA2 (sA2 2) (by decide) (by decide)) (nz_ kA2 (by decide)) rfl rfl rfl rfl dX1_init_22 (by decide) (by decide) (fun hB2 q9 => ?_)
  obtain ⟨e9, zB2, cB2, aB2, lB2, gB2, eB2, mB2⟩ := q9
  rw [mA2] at eB2 mB2
  have eB2' : e9 = N0 + 3 := by omega
  subst eB2'
  have gD2 : Fg noC [] noC hC1 hB2 := fg_new gA2 gB2 zA2
  have kxB2 := gD2.k kxC1 (by decide)
  refine r_putFO fX1_18 ⟨rfl, _, rfl, rfl⟩ (kxB2) (hc) rfl dX1_init_25 ?_
  have gC2 : Fg noC [] (fun a => a = x) hC1 (sR hB2 x 1 (N0 + 2)) := fg_sr (gD2.wk (fun _ z => z) (fun _ z => z) (fun _ z => z.elim)) (Or.inl rfl)
  have kxC2 : hK (sR hB2 x 1 (N0 + 2)) x = 2 := kxB2
  have rC2 : hR (sR hB2 x 1 (N0 + 2)) x 1 = N0 + 2 := fs_atR
  have oC2 : ∀ j, j ≠ 1 → hR (sR hB2 x 1 (N0 + 2)) x j = hR hC1 x j := fun j hj => (show u2 (hR hB2) x 1 (N0 + 2) x j = _ from u2_ne (fun z => hj z.2)).trans (by rw [gD2.r kxC1 (by decide) (fun z => z)])
  have iC2 : ∀ j, hI (sR hB2 x 1 (N0 + 2)) x j = hI hC1 x j := fun j => gD2.i kxC1 (by decide) (fun z => z) j (fun _ => by simp)
  have aC2 : ALs (N0 + 2) (N0 + 3) 0 (sR hB2 x 1 (N0 + 2)) := aB2.sr (fun z => by have q := aB2.1; rw [z, kxB2] at q; cases q)
  have lC2 : hL (sR hB2 x 1 (N0 + 2)) (N0 + 3) = 2 := lB2
  have mC2 : hN (sR hB2 x 1 (N0 + 2)) = N0 + 4 := by show hN hB2 = _; omega
  generalize sR hB2 x 1 (N0 + 2) = hC2 at gC2 kxC2 rC2 oC2 iC2 aC2 lC2 mC2 ⊢
  refine r_aload_n dX1_init_28 rfl ?_
  refine r_wf (fun wf9 => ?_)
  refine r_new nX1_7 dX1_init_29 (by decide) (by decide) ?_
  have kA3 : hK (nO hC2 21 0) (hN hC2) = 21 := nO_Kn
  have gA3 : Fg noC [] noC hC2 (nO hC2 21 0) := Fg.nO wf9
  have cA3 : ev_c < hN hC2 := wf9.1
  have zA3 : hK hC2 (hN hC2) = 0 := wf_0 wf9
  have sA3 : ∀ j, hI (nO hC2 21 0) (hN hC2) j = 0 := fun j => nO_I0 j
  have mA3 : hN (nO hC2 21 0) = hN hC2 + 1 := nO_N
  generalize nO hC2 21 0 = hA3 at kA3 gA3 sA3 mA3 ⊢
  have eL3 : hN hC2 = N0 + 4 := by omega
  rw [eL3] at kA3 cA3 zA3 sA3 mA3 ⊢
  refine r_dup dX1_init_32 rfl ?_
  refine r_iconst (v := nI 2) dX1_init_33 (by decide) ?_
  refine r_callIv lX1_9 (xJ2_init (n := 2) kA3 cA3 (sA3 2) (by decide) (by decide)) (nz_ kA3 (by decide)) rfl rfl rfl rfl dX1_init_34 (by decide) (by decide) (fun hB3 q9 => ?_)
  obtain ⟨e9, zB3, cB3, aB3, lB3, gB3, eB3, mB3⟩ := q9
  rw [mA3] at eB3 mB3
  have eB3' : e9 = N0 + 5 := by omega
  subst eB3'
  have gD3 : Fg noC [] noC hC2 hB3 := fg_new gA3 gB3 zA3
  have kxB3 := gD3.k kxC2 (by decide)
  refine r_putFO fX1_21 ⟨rfl, _, rfl, rfl⟩ (kxB3) (hc) rfl dX1_init_37 ?_
  have gC3 : Fg noC [] (fun a => a = x) hC2 (sR hB3 x 2 (N0 + 4)) := fg_sr (gD3.wk (fun _ z => z) (fun _ z => z) (fun _ z => z.elim)) (Or.inl rfl)
  have kxC3 : hK (sR hB3 x 2 (N0 + 4)) x = 2 := kxB3
  have rC3 : hR (sR hB3 x 2 (N0 + 4)) x 2 = N0 + 4 := fs_atR
  have oC3 : ∀ j, j ≠ 2 → hR (sR hB3 x 2 (N0 + 4)) x j = hR hC2 x j := fun j hj => (show u2 (hR hB3) x 2 (N0 + 4) x j = _ from u2_ne (fun z => hj z.2)).trans (by rw [gD3.r kxC2 (by decide) (fun z => z)])
  have iC3 : ∀ j, hI (sR hB3 x 2 (N0 + 4)) x j = hI hC2 x j := fun j => gD3.i kxC2 (by decide) (fun z => z) j (fun _ => by simp)
  have aC3 : ALs (N0 + 4) (N0 + 5) 0 (sR hB3 x 2 (N0 + 4)) := aB3.sr (fun z => by have q := aB3.1; rw [z, kxB3] at q; cases q)
  have lC3 : hL (sR hB3 x 2 (N0 + 4)) (N0 + 5) = 2 := lB3
  have mC3 : hN (sR hB3 x 2 (N0 + 4)) = N0 + 6 := by show hN hB3 = _; omega
  generalize sR hB3 x 2 (N0 + 4) = hC3 at gC3 kxC3 rC3 oC3 iC3 aC3 lC3 mC3 ⊢
  refine r_aload_n dX1_init_40 rfl ?_
  refine r_wf (fun wf9 => ?_)
  refine r_new nX1_24 dX1_init_41 (by decide) (by decide) ?_
  have kA4 : hK (nO hC3 3 0) (hN hC3) = 3 := nO_Kn
  have gA4 : Fg noC [] noC hC3 (nO hC3 3 0) := Fg.nO wf9
  have cA4 : ev_c < hN hC3 := wf9.1
  have zA4 : hK hC3 (hN hC3) = 0 := wf_0 wf9
  have sA4 : ∀ j, hI (nO hC3 3 0) (hN hC3) j = 0 := fun j => nO_I0 j
  have mA4 : hN (nO hC3 3 0) = hN hC3 + 1 := nO_N
  generalize nO hC3 3 0 = hA4 at kA4 gA4 sA4 mA4 ⊢
  have eL4 : hN hC3 = N0 + 6 := by omega
  rw [eL4] at kA4 cA4 zA4 sA4 mA4 ⊢
  refine r_dup dX1_init_44 rfl ?_
  refine r_callNIv lX1_26 (x2_init kA4 cA4) (nz_ kA4 (by decide)) rfl rfl rfl rfl dX1_init_45 (by decide) (by decide) (fun h9 q9 => ?_)
  rw [q9]
  have kxA4 := gA4.k kxC3 (by decide)
  refine r_putFO fX1_27 ⟨rfl, _, rfl, rfl⟩ (kxA4) (hc) rfl dX1_init_48 ?_
  have gC4 : Fg noC [] (fun a => a = x) hC3 (sR hA4 x 3 (N0 + 6)) := fg_sr (gA4.wk (fun _ z => z) (fun _ z => z) (fun _ z => z.elim)) (Or.inl rfl)
  have kxC4 : hK (sR hA4 x 3 (N0 + 6)) x = 2 := kxA4
  have rC4 : hR (sR hA4 x 3 (N0 + 6)) x 3 = N0 + 6 := fs_atR
  have oC4 : ∀ j, j ≠ 3 → hR (sR hA4 x 3 (N0 + 6)) x j = hR hC3 x j := fun j hj => (show u2 (hR hA4) x 3 (N0 + 6) x j = _ from u2_ne (fun z => hj z.2)).trans (by rw [gA4.r kxC3 (by decide) (fun z => z)])
  have iC4 : ∀ j, hI (sR hA4 x 3 (N0 + 6)) x j = hI hC3 x j := fun j => gA4.i kxC3 (by decide) (fun z => z) j (fun _ => by simp)
  have kC4 : hK (sR hA4 x 3 (N0 + 6)) (N0 + 6) = 3 := kA4
  have mC4 : hN (sR hA4 x 3 (N0 + 6)) = N0 + 7 := by show hN hA4 = _; omega
  generalize sR hA4 x 3 (N0 + 6) = hC4 at gC4 kxC4 rC4 oC4 iC4 kC4 mC4 ⊢
  exact r_retv dX1_init_51 rfl (by decide) (by decide) (bk_made hx4 hx5 hx6 hx7 gC1 gC2 gC3 gC4 kx kxC1 kxC2 kxC3 kxC4 rC1 rC2 rC3 rC4 oC2 oC3 oC4 (fun j => oC1 j) iC1 iC2 iC3 iC4 aC1 aC2 aC3 lC1 lC2 lC3 kC4 cA4 mC4 hc cA1)
