/-! ===== THE SYSTEM: what was heard (walks by program) ===== -/
set_option maxRecDepth 100000

def XN (R : HR) (nh : Nat) (h : ev_H) : Prop := ∃ (en : Nat) (N : Nat → Nat), ALs 93 en nh h ∧ nh ≤ 30 ∧ (∀ i, i < nh → hR h en i = N i ∧ hK h (N i) = 14 ∧ ev_c < N i ∧ (hI h (N i) 0 = R.s i ∧ hI h (N i) 1 = R.m i ∧ hI h (N i) 2 = R.t i ∧ hI h (N i) 3 = R.i i ∧ hI h (N i) 4 = R.u i) ∧ hR h (N i) 5 = 64) ∧ ∀ i j, i < nh → j < nh → N i = N j → i = j
def hrU (R : HR) (n : Nat) (t : Int32) : HR := ⟨R.s, R.m, R.i, R.t, u1 R.u n t⟩
theorem XN.pos {R R2 : HR} {nh : Nat} {h : ev_H} {ok : Bool} (e : ok = true) (x : XN R nh h) : XN (if ok then R else R2) nh h := by rw [if_pos e]; exact x
theorem XN.neg {R R2 : HR} {nh : Nat} {h : ev_H} {ok : Bool} (e : ok = false) (x : XN R nh h) : XN (if ok then R2 else R) nh h := by rw [if_neg (by rw [e]; decide)]; exact x
theorem x13_untell_t {G : ev_G} {h : ev_H} (hl : XLay h) {x : Nat} (hc : ev_c < x) (hx : hK h x = 14) {u tm : Int32} (hu : hI h x 4 = u) (h5 : hR h x 5 = 64) (htm : hI h 64 8 = tm) (h9 : u < 0) : Called G mX13_untell 0 0 0 [vR x] h (pI (fun y h1 => y = nI 1 ∧ h1 = sI h x 4 tm)) := by
  have q := x13_untell (G := G) hl hc hx hu h5 htm
  rw [if_pos h9, if_pos h9] at q
  exact q
theorem x13_untell_f {G : ev_G} {h : ev_H} (hl : XLay h) {x : Nat} (hc : ev_c < x) (hx : hK h x = 14) {u tm : Int32} (hu : hI h x 4 = u) (h5 : hR h x 5 = 64) (htm : hI h 64 8 = tm) (h9 : ¬ u < 0) : Called G mX13_untell 0 0 0 [vR x] h (pI (fun y h1 => y = nI 0 ∧ h1 = h)) := by
  have q := x13_untell (G := G) hl hc hx hu h5 htm
  rw [if_neg h9, if_neg h9] at q
  exact q
theorem XN.put {R : HR} {nh en j : Nat} {N : Nat → Nat} {h : ev_H} {tm : Int32} (hn : ALs 93 en nh h) (hn30 : nh ≤ 30) (hN : ∀ i, i < nh → hR h en i = N i ∧ hK h (N i) = 14 ∧ ev_c < N i ∧ (hI h (N i) 0 = R.s i ∧ hI h (N i) 1 = R.m i ∧ hI h (N i) 2 = R.t i ∧ hI h (N i) 3 = R.i i ∧ hI h (N i) 4 = R.u i) ∧ hR h (N i) 5 = 64) (hNi : ∀ i j, i < nh → j < nh → N i = N j → i = j) (hj : j < nh) : XN (hrU R j tm) nh (sI h (N j) 4 tm) := by
  have hk := (hN j hj).2.1
  refine ⟨en, N, hn.fr (Fr.rf.sa (as := [N j]) (N j) 4 tm (by simp)) (fun a ha => by rw [List.mem_singleton.mp ha, hk]; rfl), hn30, fun i hi => ?_, hNi⟩
  obtain ⟨n1, n2, n3, ⟨m0, m1, m2, m3, m4⟩, n5⟩ := hN i hi
  have e : ∀ k, k ≠ 4 → hI (sI h (N j) 4 tm) (N i) k = hI h (N i) k := fun k hk4 => (show u2 (hI h) (N j) 4 tm (N i) k = _ from u2_ne (fun z => hk4 z.2))
  refine ⟨n1, n2, n3, ⟨(e 0 (by decide)).trans m0, (e 1 (by decide)).trans m1, (e 2 (by decide)).trans m2, (e 3 (by decide)).trans m3, ?_⟩, n5⟩
  show _ = u1 R.u j tm i
  by_cases q : i = j
  · subst q; rw [u1_self]; exact fs_at
  · rw [u1_ne q]; exact (rdI_s (fun z => q (hNi i j hi hj z))).trans m4

theorem x0_untell {G : ev_G} {b : Bk} {K : XK} {T : Nat → Int32} {h : ev_H} (hm : XM b K T h) {R : HR} {nh : Nat} (hS : XN R nh h) {tm : Int32} (htm : hI h 64 8 = tm) (p : Int32) : Called G mX0_untell 3 0 0 [vR 64, vI p] h (pI (fun y h1 => y = (if unOk R.u nh p then 1 else 0) ∧ (h1 = h ∨ ∃ a, hK h a = 14 ∧ Fr [a] [] h h1) ∧ XN (if unOk R.u nh p then hrU R p.toNatClampNeg tm else R) nh h1)) := by
  have hb := hm.xb
  have hT := hm.xt
  have hl := hm.lay
  have hw := hm.bw
  have hb1 := hw.p6
  have hb2 := hw.s5
  have hb3 := hw.t10
  have hw9 := hm.tw
  obtain ⟨en, N, hn, hn30, hN, hNi⟩ := hS
  refine called_of rfl [some (vR 64), some (vI p)] rfl (Nat.le_of_ble_eq_true rfl) ?_
  refine r_iload_n dX0_untell_0 rfl ?_
  refine r_iconst (v := 0) dX0_untell_1 (by decide) ?_
  refine r_aload_n dX0_untell_2 rfl ?_
  refine r_getRv fX0_88 (hl.k) (v := 93) (hl.r 19 (by decide) (by decide)) rfl dX0_untell_3 ?_
  refine r_callVx lX0_3 (xJ2_size hn) (hn.1) rfl rfl rfl rfl dX0_untell_6 (Nat.le_refl _) (Nat.le_refl _) ?_
  refine r_iconst (v := 1) dX0_untell_9 (by decide) ?_
  refine r_isub dX0_untell_10 ?_
  refine r_callSx lX0_155 (x0_isIn _ _ _) rfl rfl rfl rfl dX0_untell_11 (Nat.le_refl _) (Nat.le_refl _) ?_
  refine r_ifB_eq (tgt := 38) dX0_untell_14 rfl (fun c1 => ?_) (fun c1 => ?_)
  · --
    refine r_iconst (v := nI 0) dX0_untell_38 (by decide) ?_
    exact r_reti dX0_untell_39 rfl rfl (Nat.le_refl _) (Nat.le_refl _) (⟨if_n (by unfold unOk; rw [c1]; rfl) rfl, Or.inl rfl, XN.neg (by unfold unOk; rw [c1]; rfl) ⟨en, N, hn, hn30, hN, hNi⟩⟩)
  · --
    obtain ⟨j, hj, rfl⟩ := (isIn_n (by omega) p).mp c1
    refine r_aload_n dX0_untell_17 rfl ?_
    refine r_getRv fX0_88 (hl.k) (v := 93) (hl.r 19 (by decide) (by decide)) rfl dX0_untell_18 ?_
    refine r_iload_n dX0_untell_21 rfl ?_
    refine r_callVx lX0_9 (xJ2_get hn (i := j) (by omega) (hN j (by omega)).1) (hn.1) rfl rfl rfl rfl dX0_untell_22 (Nat.le_refl _) (Nat.le_refl _) ?_
    refine r_cast (ci := 13) q1548 ((hN _ (by omega)).2.1) (by decide) rfl (Or.inl rfl) dX0_untell_25 ?_
    obtain ⟨n1, n2, n3, n4, n5⟩ := hN j (by omega)
    by_cases hu9 : R.u j < 0
    · --
      refine r_callVi lX0_345 (x13_untell_t hl n3 n2 n4.2.2.2.2 n5 htm hu9) (n2) rfl rfl rfl rfl dX0_untell_28 (Nat.le_refl _) (Nat.le_refl _) (fun y9 h9 q9 => ?_)
      obtain ⟨rfl, rfl⟩ := q9
      refine r_if_eq (tgt := 38) dX0_untell_31 rfl (fun c2 => ?_) (fun c2 => ?_)
      · --
        exact absurd c2 (by decide)
      · --
        refine r_iconst (v := nI 1) dX0_untell_34 (by decide) ?_
        refine r_goto (tgt := 39) dX0_untell_35 rfl ?_
        exact r_reti dX0_untell_39 rfl rfl (Nat.le_refl _) (Nat.le_refl _) (⟨if_p (by unfold unOk; rw [c1, nI_clamp (by omega), decide_eq_true hu9]; rfl) rfl, Or.inr ⟨N j, n2, Fr.rf.sa (N j) 4 _ (by simp)⟩, XN.pos (by unfold unOk; rw [c1, nI_clamp (by omega), decide_eq_true hu9]; rfl) (by rw [nI_clamp (by omega)]; exact XN.put hn hn30 hN hNi hj)⟩)
    · --
      refine r_callVi lX0_345 (x13_untell_f hl n3 n2 n4.2.2.2.2 n5 htm hu9) (n2) rfl rfl rfl rfl dX0_untell_28 (Nat.le_refl _) (Nat.le_refl _) (fun y9 h9 q9 => ?_)
      obtain ⟨rfl, rfl⟩ := q9
      refine r_if_eq (tgt := 38) dX0_untell_31 rfl (fun c3 => ?_) (fun c3 => ?_)
      · --
        refine r_iconst (v := nI 0) dX0_untell_38 (by decide) ?_
        exact r_reti dX0_untell_39 rfl rfl (Nat.le_refl _) (Nat.le_refl _) (⟨if_n (by unfold unOk; rw [c1, nI_clamp (by omega), decide_eq_false hu9]; rfl) rfl, Or.inl rfl, XN.neg (by unfold unOk; rw [c1, nI_clamp (by omega), decide_eq_false hu9]; rfl) ⟨en, N, hn, hn30, hN, hNi⟩⟩)
      · --
        exact absurd rfl c3
