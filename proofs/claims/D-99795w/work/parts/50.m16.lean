/-! ===== THE REFERENCE: rows (walks by program) ===== -/
set_option maxRecDepth 100000

theorem c_pw2 {G : ev_G} {h : ev_H} {b : Bk} (hh : hid b < 2 ^ 31) : Called G mX4_power 0 0 0 [vI (nI (nS b + 1)), vI (nI (hid b))] h (px (vI (nI (pw2 b))) h) := by
  have h9 := c_power (G := G) (h := h) (nI (nS b + 1)) (n := hid b) hh
  rw [ipow_n] at h9
  exact h9

theorem c_layMany {G : ev_G} {b : Bk} {k : Nat} {h : ev_H} (hm : MB b k h) {T : Nat → Int32} (hT : MT T h) (hth : hI h aM 43 = -1) : Called G mX4_layMany 7 0 0 [vR aM] h (p0 (fun h1 => Fr [aPile, aAll, aKept, aManyBy] [39, 40, 41] h h1 ∧ MT T h1 ∧ ∀ v9 s9, v9 < pw2 b → s9 < nS b → hI h1 aManyBy (5 * v9 + s9) = myV b v9 s9)) := by
  have hl := hm.lay
  have hk2 := hm.k2
  have hb := hm.bw
  have hb1 := hb.p6
  have hb2 := hb.s5
  have hb3 := hb.t10
  have f : Fr [aPile, aAll, aKept, aManyBy] [39, 40, 41] h h := Fr.rf
  have hh2 := hid_2 b
  have hht := hid_t b
  have h36 := pw2_36 hb2
  refine called_of rfl [some (vR aM), none, none] rfl (Nat.le_of_ble_eq_true rfl) ?_
  refine r_aload_n dX4_layMany_0 rfl ?_
  refine r_callVv lX4_458 (c_keepNow hl hT) (hl.1) rfl rfl rfl rfl dX4_layMany_1 (Nat.le_refl _) (Nat.le_refl _) (fun hZ1 q9 => ?_)
  obtain ⟨gZ1, hKK⟩ := q9
  have fZ1 := f.tr (gZ1.wk (by simp) (by simp))
  have hmZ1 := hm.fr gZ1 rfl
  have hTZ1 := hT.fr gZ1 (by decide)
  have hlZ1 := hmZ1.lay
  refine r_iconst (v := nI 0) dX4_layMany_4 (by decide) ?_
  refine r_istore_n dX4_layMany_5 (by decide) rfl ?_
  refine (ev_for (P := fun v => ∀ hL : ev_H, (Fr [aPile, aAll, aKept, aManyBy] [39, 40, 41] h hL ∧ MK T hL ∧ MRP b v 0 hL) → Ev G mX4_layMany (ev_room 7 0 0) (ev_MQ G (p0 (fun h1 => Fr [aPile, aAll, aKept, aManyBy] [39, 40, 41] h h1 ∧ MT T h1 ∧ ∀ v9 s9, v9 < pw2 b → s9 < nS b → hI h1 aManyBy (5 * v9 + s9) = myV b v9 s9)) 0 0) 6 [some (vR aM), some (vI (nI v)), none] [] hL 0 0) (pw2 b) (fun v hkv ihv hL qhL => ?_)) 0 (Nat.zero_le _) _ (⟨fZ1, hKK, MRP.zero⟩)
  obtain ⟨fL, hKL, hRL⟩ := qhL
  have hmL := hm.fr fL rfl
  have hlL := hmL.lay
  refine r_iload_n dX4_layMany_6 rfl ?_
  refine r_aload_n dX4_layMany_7 rfl ?_
  refine r_callVx lX4_365 (c_bags hmL) (hlL.1) rfl rfl rfl rfl dX4_layMany_8 (Nat.le_refl _) (Nat.le_refl _) ?_
  refine r_iconst (v := nI 1) dX4_layMany_11 (by decide) ?_
  refine r_iadd dX4_layMany_12 ?_
  refine r_top (nI (nS b + 1)) (nI_add _ _) ?_
  refine r_aload_n dX4_layMany_13 rfl ?_
  refine r_callVx lX4_486 (c_hidden hmL) (hlL.1) rfl rfl rfl rfl dX4_layMany_14 (Nat.le_refl _) (Nat.le_refl _) ?_
  refine r_callSx lX4_455 (c_pw2 (by omega)) rfl rfl rfl rfl dX4_layMany_17 (Nat.le_refl _) (Nat.le_refl _) ?_
  refine r_icmpN_ge (tgt := 135) dX4_layMany_20 rfl (by omega) (by omega) (fun c1 => ?_) (fun c1 => ?_)
  · --
    refine r_aload_n dX4_layMany_135 rfl ?_
    refine r_callVv lX4_464 (c_bringBack hlL (K := T) hKL) (hlL.1) rfl rfl rfl rfl dX4_layMany_136 (Nat.le_refl _) (Nat.le_refl _) (fun hZ2 q9 => ?_)
    obtain ⟨gZ2, hTZ2⟩ := q9
    have fZ2 := fL.tr (gZ2.wk (by simp) (by simp))
    have hmZ2 := hmL.fr gZ2 rfl
    have hlZ2 := hmZ2.lay
    exact r_retv dX4_layMany_139 rfl (Nat.le_refl _) (Nat.le_refl _) ⟨fZ2, hTZ2, (show MRP b (pw2 b) 0 _ from by rw [show v = pw2 b by omega] at hRL; exact (hRL.fr gZ2 (by decide))).1⟩
  · --
    refine r_aload_n dX4_layMany_23 rfl ?_
    refine r_callVv lX4_371 (c_layTold hmL) (hlL.1) rfl rfl rfl rfl dX4_layMany_24 (Nat.le_refl _) (Nat.le_refl _) (fun hZ3 q9 => ?_)
    obtain ⟨gZ3, hTZ3⟩ := q9
    have fZ3 := fL.tr (gZ3.wk (by simp) (by simp))
    have hmZ3 := hmL.fr gZ3 rfl
    have hlZ3 := hmZ3.lay
    refine r_aload_n dX4_layMany_27 rfl ?_
    refine r_getRv fX4_88 (hlZ3.1) (v := aAll) ((l_all hlZ3).1) rfl dX4_layMany_28 ?_
    refine r_iconst (v := nI 0) dX4_layMany_31 (by decide) ?_
    refine r_iconst (v := nI 1) dX4_layMany_32 (by decide) ?_
    refine r_aload_n dX4_layMany_33 rfl ?_
    refine r_callVx lX4_358 (c_folk hmZ3) (hlZ3.1) rfl rfl rfl rfl dX4_layMany_34 (Nat.le_refl _) (Nat.le_refl _) ?_
    refine r_ishl dX4_layMany_37 ?_
    refine r_top (one (nP b)) rfl ?_
    refine r_iconst (v := nI 1) dX4_layMany_38 (by decide) ?_
    refine r_isub dX4_layMany_39 ?_
    refine r_iastv ((l_all hlZ3).2.1) (by decide) ((l_all hlZ3).2.2) (ix_n (by omega) (by decide)) dX4_layMany_40 ?_
    have gZ4 : Fr [aAll] [] hZ3 (sI hZ3 aAll 0 ((one (nP b)) - (nI 1))) := Fr.rf.sa aAll 0 ((one (nP b)) - (nI 1)) (by decide)
    have hTZ4 : MT (u1 (layT b) 0 ((one (nP b)) - (nI 1))) (sI hZ3 aAll 0 ((one (nP b)) - (nI 1))) := hTZ3.up 0 ((one (nP b)) - (nI 1))
    have hmZ4 : MB b k (sI hZ3 aAll 0 ((one (nP b)) - (nI 1))) := hmZ3.fr gZ4 rfl
    have fZ4 : Fr [aPile, aAll, aKept, aManyBy] [39, 40, 41] h (sI hZ3 aAll 0 ((one (nP b)) - (nI 1))) := fZ3.tr (gZ4.wk (by simp) (by simp))
    generalize sI hZ3 aAll 0 ((one (nP b)) - (nI 1)) = hZ4 at gZ4 hTZ4 hmZ4 fZ4 ⊢
    have hlZ4 := hmZ4.lay
    refine r_iconst (v := nI 0) dX4_layMany_41 (by decide) ?_
    refine r_istore_n dX4_layMany_42 (by decide) rfl ?_
    refine (ev_for (P := fun u => ∀ hQ : ev_H, (Fr [aPile, aAll, aKept, aManyBy] [39, 40, 41] h hQ ∧ MK T hQ ∧ MRP b v 0 hQ ∧ MT (rowI b v u) hQ) → Ev G mX4_layMany (ev_room 7 0 0) (ev_MQ G (p0 (fun h1 => Fr [aPile, aAll, aKept, aManyBy] [39, 40, 41] h h1 ∧ MT T h1 ∧ ∀ v9 s9, v9 < pw2 b → s9 < nS b → hI h1 aManyBy (5 * v9 + s9) = myV b v9 s9)) 0 0) 43 [some (vR aM), some (vI (nI v)), some (vI (nI u))] [] hQ 0 0) (hid b) (fun u hku ihu hQ qhQ => ?_)) 0 (Nat.zero_le _) _ (⟨fZ4, ((hKL.fr gZ3 (by decide)).fr gZ4 (by decide)), ((hRL.fr gZ3 (by decide)).fr gZ4 (by decide)), hTZ4⟩)
    obtain ⟨fQ, hKQ, hRQ, hTQ⟩ := qhQ
    have hmQ := hm.fr fQ rfl
    have hlQ := hmQ.lay
    have hsk9 := skI_le (nS b) v u
    refine r_iload_n dX4_layMany_43 rfl ?_
    refine r_aload_n dX4_layMany_44 rfl ?_
    refine r_callVx lX4_486 (c_hidden hmQ) (hlQ.1) rfl rfl rfl rfl dX4_layMany_45 (Nat.le_refl _) (Nat.le_refl _) ?_
    refine r_icmpN_ge (tgt := 95) dX4_layMany_48 rfl (by omega) (by omega) (fun c2 => ?_) (fun c2 => ?_)
    · --
      refine r_iconst (v := nI 0) dX4_layMany_95 (by decide) ?_
      refine r_istore_n dX4_layMany_96 (by decide) rfl ?_
      refine (ev_for (P := fun s => ∀ hP : ev_H, (Fr [aPile, aAll, aKept, aManyBy] [39, 40, 41] h hP ∧ MK T hP ∧ MRP b v s hP ∧ MT (rowT b v) hP) → Ev G mX4_layMany (ev_room 7 0 0) (ev_MQ G (p0 (fun h1 => Fr [aPile, aAll, aKept, aManyBy] [39, 40, 41] h h1 ∧ MT T h1 ∧ ∀ v9 s9, v9 < pw2 b → s9 < nS b → hI h1 aManyBy (5 * v9 + s9) = myV b v9 s9)) 0 0) 97 [some (vR aM), some (vI (nI v)), some (vI (nI s))] [] hP 0 0) (nS b) (fun s hks ihs hP qhP => ?_)) 0 (Nat.zero_le _) _ (⟨fQ, hKQ, hRQ, by rw [show u = hid b by omega] at hTQ; exact hTQ⟩)
      obtain ⟨fP, hKP, hRP, hTP⟩ := qhP
      have hmP := hm.fr fP rfl
      have hlP := hmP.lay
      refine r_iload_n dX4_layMany_97 rfl ?_
      refine r_aload_n dX4_layMany_98 rfl ?_
      refine r_callVx lX4_365 (c_bags hmP) (hlP.1) rfl rfl rfl rfl dX4_layMany_99 (Nat.le_refl _) (Nat.le_refl _) ?_
      refine r_icmpN_ge (tgt := 129) dX4_layMany_102 rfl (by omega) (by omega) (fun c3 => ?_) (fun c3 => ?_)
      · --
        refine r_iincN (n := 1) dX4_layMany_129 rfl rfl (by decide) rfl ?_
        refine r_goto (tgt := 6) dX4_layMany_132 rfl ?_
        refine r_sub [some (vR aM), some (vI (nI (v + 1))), none] (And.intro rfl (And.intro rfl trivial)) ?_
        exact ihv (by omega) _ (⟨fP, hKP, by rw [show s = nS b by omega] at hRP; exact hRP.next⟩)
      · --
        refine r_aload_n dX4_layMany_105 rfl ?_
        refine r_getRv fX4_106 (hlP.1) (v := aManyBy) ((l_manyBy hlP).1) rfl dX4_layMany_106 ?_
        refine r_iconst (v := nI 5) dX4_layMany_109 (by decide) ?_
        refine r_iload_n dX4_layMany_110 rfl ?_
        refine r_imul dX4_layMany_111 ?_
        refine r_top (nI (5 * v)) (pk_mul _ _) ?_
        refine r_iload_n dX4_layMany_112 rfl ?_
        refine r_iadd dX4_layMany_113 ?_
        refine r_top (nI (5 * v + s)) (nI_add _ _) ?_
        refine r_aload_n dX4_layMany_114 rfl ?_
        refine r_iload_n dX4_layMany_115 rfl ?_
        refine r_callVi lX4_407 (c_wouldOf hmP hTP (s := s) (by omega) ((fP.fld 43 (by decide) (by decide)).trans hth)) (hlP.1) rfl rfl rfl rfl dX4_layMany_116 (Nat.le_refl _) (Nat.le_refl _) (fun y9 hZ5 q9 => ?_)
        obtain ⟨rfl, gZ5⟩ := q9
        have fZ5 := fP.tr (gZ5.wk (by simp) (by simp))
        have hmZ5 := hmP.fr gZ5 rfl
        have hTZ5 := hTP.fr gZ5 (by decide)
        have hlZ5 := hmZ5.lay
        refine r_callSx lX4_339 (c_bitsOf _) rfl rfl rfl rfl dX4_layMany_119 (Nat.le_refl _) (Nat.le_refl _) ?_
        refine r_iastv ((l_manyBy hlZ5).2.1) (by decide) ((l_manyBy hlZ5).2.2) (ix_n (by omega) (by decide)) dX4_layMany_122 ?_
        have gZ6 : Fr [aManyBy] [] hZ5 (sI hZ5 aManyBy (5 * v + s) (popc (outV b (rowT b v) s))) := Fr.rf.sa aManyBy (5 * v + s) (popc (outV b (rowT b v) s)) (by decide)
        have hTZ6 : MT (rowT b v) (sI hZ5 aManyBy (5 * v + s) (popc (outV b (rowT b v) s))) := hTZ5.fr gZ6 (by decide)
        have hmZ6 : MB b k (sI hZ5 aManyBy (5 * v + s) (popc (outV b (rowT b v) s))) := hmZ5.fr gZ6 rfl
        have fZ6 : Fr [aPile, aAll, aKept, aManyBy] [39, 40, 41] h (sI hZ5 aManyBy (5 * v + s) (popc (outV b (rowT b v) s))) := fZ5.tr (gZ6.wk (by simp) (by simp))
        have hRN : MRP b v (s + 1) (sI hZ5 aManyBy (5 * v + s) (popc (outV b (rowT b v) s))) := MRP.step (hRP.fr gZ5 (by decide)) hb2 (by omega) rfl
        generalize sI hZ5 aManyBy (5 * v + s) (popc (outV b (rowT b v) s)) = hZ6 at gZ6 hTZ6 hmZ6 fZ6 hRN ⊢
        have hlZ6 := hmZ6.lay
        refine r_iincN (n := 1) dX4_layMany_123 rfl rfl (by decide) rfl ?_
        refine r_goto (tgt := 97) dX4_layMany_126 rfl ?_
        exact ihs (by omega) _ (⟨fZ6, ((hKP.fr gZ5 (by decide)).fr gZ6 (by decide)), hRN, hTZ6⟩)
    · --
      refine r_aload_n dX4_layMany_51 rfl ?_
      refine r_getRv fX4_88 (hlQ.1) (v := aAll) ((l_all hlQ).1) rfl dX4_layMany_52 ?_
      refine r_iconst (v := nI 2) dX4_layMany_55 (by decide) ?_
      refine r_aload_n dX4_layMany_56 rfl ?_
      refine r_callVx lX4_368 (c_many hmQ) (hlQ.1) rfl rfl rfl rfl dX4_layMany_57 (Nat.le_refl _) (Nat.le_refl _) ?_
      refine r_iadd dX4_layMany_60 ?_
      refine r_top (nI (2 + (nT b))) (nI_add _ _) ?_
      refine r_iconst (v := nI 1) dX4_layMany_61 (by decide) ?_
      refine r_isub dX4_layMany_62 ?_
      refine r_top (nI (2 + (nT b) - 1)) (pk_sub (by omega)) ?_
      refine r_iload_n dX4_layMany_63 rfl ?_
      refine r_isub dX4_layMany_64 ?_
      refine r_top (nI (2 + (nT b) - 1 - u)) (pk_sub (by omega)) ?_
      refine r_aload_n dX4_layMany_65 rfl ?_
      refine r_iload_n dX4_layMany_66 rfl ?_
      refine r_iload_n dX4_layMany_67 rfl ?_
      refine r_callVx lX4_489 (c_sackIn hmQ (v := v) (w9 := u) (by omega) (by omega)) (hlQ.1) rfl rfl rfl rfl dX4_layMany_68 (Nat.le_refl _) (Nat.le_refl _) ?_
      refine r_aload_n dX4_layMany_71 rfl ?_
      refine r_callVx lX4_365 (c_bags hmQ) (hlQ.1) rfl rfl rfl rfl dX4_layMany_72 (Nat.le_refl _) (Nat.le_refl _) ?_
      refine r_icmpN_ne (tgt := 82) dX4_layMany_75 rfl (by omega) (by omega) (fun c4 => ?_) (fun c4 => ?_)
      · --
        refine r_aload_n dX4_layMany_82 rfl ?_
        refine r_iload_n dX4_layMany_83 rfl ?_
        refine r_iload_n dX4_layMany_84 rfl ?_
        refine r_callVx lX4_489 (c_sackIn hmQ (v := v) (w9 := u) (by omega) (by omega)) (hlQ.1) rfl rfl rfl rfl dX4_layMany_85 (Nat.le_refl _) (Nat.le_refl _) ?_
        refine r_iastv ((l_all hlQ).2.1) (by decide) ((l_all hlQ).2.2) (ix_n (by omega) (by decide)) dX4_layMany_88 ?_
        have gZ7 : Fr [aAll] [] hQ (sI hQ aAll (2 + (nT b) - 1 - u) (nI (skI (nS b) v u))) := Fr.rf.sa aAll (2 + (nT b) - 1 - u) (nI (skI (nS b) v u)) (by decide)
        have hTZ7 : MT (u1 (rowI b v u) (2 + (nT b) - 1 - u) (nI (skI (nS b) v u))) (sI hQ aAll (2 + (nT b) - 1 - u) (nI (skI (nS b) v u))) := hTQ.up (2 + (nT b) - 1 - u) (nI (skI (nS b) v u))
        have hmZ7 : MB b k (sI hQ aAll (2 + (nT b) - 1 - u) (nI (skI (nS b) v u))) := hmQ.fr gZ7 rfl
        have fZ7 : Fr [aPile, aAll, aKept, aManyBy] [39, 40, 41] h (sI hQ aAll (2 + (nT b) - 1 - u) (nI (skI (nS b) v u))) := fQ.tr (gZ7.wk (by simp) (by simp))
        generalize sI hQ aAll (2 + (nT b) - 1 - u) (nI (skI (nS b) v u)) = hZ7 at gZ7 hTZ7 hmZ7 fZ7 ⊢
        have hlZ7 := hmZ7.lay
        refine r_iincN (n := 1) dX4_layMany_89 rfl rfl (by decide) rfl ?_
        refine r_goto (tgt := 43) dX4_layMany_92 rfl ?_
        exact ihu (by omega) _ (⟨fZ7, (hKQ.fr gZ7 (by decide)), (hRQ.fr gZ7 (by decide)), rowI_f c4 hTZ7⟩)
      · --
        refine r_iconst (v := (-1)) dX4_layMany_78 (by decide) ?_
        refine r_goto (tgt := 88) dX4_layMany_79 rfl ?_
        refine r_iastv ((l_all hlQ).2.1) (by decide) ((l_all hlQ).2.2) (ix_n (by omega) (by decide)) dX4_layMany_88 ?_
        have gZ8 : Fr [aAll] [] hQ (sI hQ aAll (2 + (nT b) - 1 - u) (-1)) := Fr.rf.sa aAll (2 + (nT b) - 1 - u) (-1) (by decide)
        have hTZ8 : MT (u1 (rowI b v u) (2 + (nT b) - 1 - u) (-1)) (sI hQ aAll (2 + (nT b) - 1 - u) (-1)) := hTQ.up (2 + (nT b) - 1 - u) (-1)
        have hmZ8 : MB b k (sI hQ aAll (2 + (nT b) - 1 - u) (-1)) := hmQ.fr gZ8 rfl
        have fZ8 : Fr [aPile, aAll, aKept, aManyBy] [39, 40, 41] h (sI hQ aAll (2 + (nT b) - 1 - u) (-1)) := fQ.tr (gZ8.wk (by simp) (by simp))
        generalize sI hQ aAll (2 + (nT b) - 1 - u) (-1) = hZ8 at gZ8 hTZ8 hmZ8 fZ8 ⊢
        have hlZ8 := hmZ8.lay
        refine r_iincN (n := 1) dX4_layMany_89 rfl rfl (by decide) rfl ?_
        refine r_goto (tgt := 43) dX4_layMany_92 rfl ?_
        exact ihu (by omega) _ (⟨fZ8, (hKQ.fr gZ8 (by decide)), (hRQ.fr gZ8 (by decide)), rowI_t c4 hTZ8⟩)

theorem c_layRows {G : ev_G} {b : Bk} {k : Nat} {h : ev_H} (hm : MB b k h) {T : Nat → Int32} (hT : MT T h) (hth : hI h aM 43 = -1) {R : HR} {nh : Nat} (hnh : hI h aM 60 = nI nh) (hn30 : nh ≤ 30) (hS : MS R h) (hR : ∀ n, n < nh → ∃ s, s < nS b ∧ R.s n = nI s) (k9 : Int32) : Called G mX4_layRows 8 0 0 [vR aM, vI k9] h (p0 (fun h1 => Fr [aPile, aAll, aKept, aManyBy, aParts] [39, 40, 41, 62] h h1 ∧ MT T h1 ∧ MY b h1 ∧ hI h1 aM 62 = nI (rfN (rfV b R nh k9) (nRow b)) ∧ ∀ i s, i < hid b → s ≤ nS b → hI h1 aParts (6 * i + s) = nI (ptN (rfV b R nh k9) (nS b) i s (nRow b)))) := by
  have hl := hm.lay
  have hk2 := hm.k2
  have hb := hm.bw
  have hb1 := hb.p6
  have hb2 := hb.s5
  have hb3 := hb.t10
  have f : Fr [aPile, aAll, aKept, aManyBy, aParts] [39, 40, 41, 62] h h := Fr.rf
  have hh2 := hid_2 b
  have hht := hid_t b
  have h36 := pw2_36 hb2
  have hnr := nRow_le b
  refine called_of rfl [some (vR aM), some (vI k9), none, none] rfl (Nat.le_of_ble_eq_true rfl) ?_
  refine r_aload_n dX4_layRows_0 rfl ?_
  refine r_iconst (v := nI 0) dX4_layRows_1 (by decide) ?_
  refine r_putN fX4_492 (hl.1) (by decide) dX4_layRows_2 ?_
  have gZ1 : Fr [] [62] h (sI h aM 62 (nI 0)) := Fr.rf.sf 62 (nI 0) (by decide)
  have hTZ1 : MT T (sI h aM 62 (nI 0)) := hT.fr gZ1 (by decide)
  have hmZ1 : MB b k (sI h aM 62 (nI 0)) := hm.fr gZ1 rfl
  have fZ1 : Fr [aPile, aAll, aKept, aManyBy, aParts] [39, 40, 41, 62] h (sI h aM 62 (nI 0)) := f.tr (gZ1.wk (by simp) (by simp))
  have e62Z1 : hI (sI h aM 62 (nI 0)) aM 62 = nI 0 := rfl
  generalize sI h aM 62 (nI 0) = hZ1 at gZ1 hTZ1 hmZ1 fZ1 e62Z1 ⊢
  have hlZ1 := hmZ1.lay
  refine r_iconst (v := nI 0) dX4_layRows_5 (by decide) ?_
  refine r_istore_n dX4_layRows_6 (by decide) rfl ?_
  refine (ev_for (P := fun i => ∀ hA : ev_H, (Fr [aPile, aAll, aKept, aManyBy, aParts] [39, 40, 41, 62] h hA ∧ MT T hA ∧ hI hA aM 62 = nI 0 ∧ ∀ j, j < i → hI hA aParts j = (fun _ => nI 0) j) → Ev G mX4_layRows (ev_room 8 0 0) (ev_MQ G (p0 (fun h1 => Fr [aPile, aAll, aKept, aManyBy, aParts] [39, 40, 41, 62] h h1 ∧ MT T h1 ∧ MY b h1 ∧ hI h1 aM 62 = nI (rfN (rfV b R nh k9) (nRow b)) ∧ ∀ i s, i < hid b → s ≤ nS b → hI h1 aParts (6 * i + s) = nI (ptN (rfV b R nh k9) (nS b) i s (nRow b)))) 0 0) 7 [some (vR aM), some (vI k9), some (vI (nI i)), none] [] hA 0 0) 12 (fun i hki ihi hA qhA => ?_)) 0 (Nat.zero_le _) _ (⟨fZ1, hTZ1, e62Z1, fun j hj => absurd hj (by omega)⟩)
  obtain ⟨fA, hTA, e62A, eA⟩ := qhA
  have hmA := hm.fr fA rfl
  have hlA := hmA.lay
  refine r_iload_n dX4_layRows_7 rfl ?_
  refine r_bipush (v := nI 12) dX4_layRows_8 (by decide) ?_
  refine r_icmpN_ge (tgt := 26) dX4_layRows_10 rfl (by omega) (by omega) (fun c1 => ?_) (fun c1 => ?_)
  · --
    refine r_aload_n dX4_layRows_26 rfl ?_
    refine r_callVv lX4_495 (c_layMany hmA hTA ((fA.fld 43 (by decide) (by decide)).trans hth)) (hlA.1) rfl rfl rfl rfl dX4_layRows_27 (Nat.le_refl _) (Nat.le_refl _) (fun hZ2 q9 => ?_)
    obtain ⟨gZ2, hTZ2, hY0⟩ := q9
    have fZ2 := fA.tr (gZ2.wk (by simp) (by simp))
    have hmZ2 := hmA.fr gZ2 rfl
    have hlZ2 := hmZ2.lay
    refine r_iconst (v := nI 0) dX4_layRows_30 (by decide) ?_
    refine r_istore_n dX4_layRows_31 (by decide) rfl ?_
    refine (ev_for (P := fun v => ∀ hB : ev_H, (Fr [aPile, aAll, aKept, aManyBy, aParts] [39, 40, 41, 62] h hB ∧ MT T hB ∧ MY b hB ∧ hI hB aM 62 = nI (rfN (rfV b R nh k9) v) ∧ MPT b (rfV b R nh k9) v 0 hB) → Ev G mX4_layRows (ev_room 8 0 0) (ev_MQ G (p0 (fun h1 => Fr [aPile, aAll, aKept, aManyBy, aParts] [39, 40, 41, 62] h h1 ∧ MT T h1 ∧ MY b h1 ∧ hI h1 aM 62 = nI (rfN (rfV b R nh k9) (nRow b)) ∧ ∀ i s, i < hid b → s ≤ nS b → hI h1 aParts (6 * i + s) = nI (ptN (rfV b R nh k9) (nS b) i s (nRow b)))) 0 0) 32 [some (vR aM), some (vI k9), some (vI (nI v)), none] [] hB 0 0) (nRow b) (fun v hkv ihv hB qhB => ?_)) 0 (Nat.zero_le _) _ (⟨fZ2, hTZ2, hY0, (gZ2.fld 62 (by decide) (by decide)).trans e62A, MPT.zero hb2 (fun j hj => (gZ2.ar aParts (by decide) (by decide) j).trans (eA j (by omega)))⟩)
    obtain ⟨fB, hTB, hYB, e62B, hPB⟩ := qhB
    have hmB := hm.fr fB rfl
    have hlB := hmB.lay
    have hrf := rfN_le (rfV b R nh k9) v
    refine r_iload_n dX4_layRows_32 rfl ?_
    refine r_aload_n dX4_layRows_33 rfl ?_
    refine r_callVx lX4_498 (c_allRows hmB) (hlB.1) rfl rfl rfl rfl dX4_layRows_34 (Nat.le_refl _) (Nat.le_refl _) ?_
    refine r_icmpN_ge (tgt := 104) dX4_layRows_37 rfl (by omega) (by omega) (fun c2 => ?_) (fun c2 => ?_)
    · --
      exact r_retv dX4_layRows_104 rfl (Nat.le_refl _) (Nat.le_refl _) ⟨fB, hTB, hYB, by rw [← show v = nRow b by omega]; exact e62B, by rw [← show v = nRow b by omega]; exact fun i s hi hs => (hPB i s hi hs).trans (by rw [if_neg (Nat.not_lt_zero _)])⟩
    · --
      refine r_aload_n dX4_layRows_40 rfl ?_
      refine r_iload_n dX4_layRows_41 rfl ?_
      refine r_iload_n dX4_layRows_42 rfl ?_
      refine r_callVx lX4_501 (c_doesFit2 hmB ((fB.fld 60 (by decide) (by decide)).trans hnh) hn30 (hS.fr fB (by decide)) hR hYB (by omega) k9) (hlB.1) rfl rfl rfl rfl dX4_layRows_43 (Nat.le_refl _) (Nat.le_refl _) ?_
      refine r_ifB_ne (tgt := 52) dX4_layRows_46 rfl (fun c3 => ?_) (fun c3 => ?_)
      · --
        refine r_aload_n dX4_layRows_52 rfl ?_
        refine r_dup dX4_layRows_53 rfl ?_
        refine r_getIv fX4_492 (hlB.1) (v := nI (rfN (rfV b R nh k9) v)) (e62B) rfl dX4_layRows_54 ?_
        refine r_iconst (v := nI 1) dX4_layRows_57 (by decide) ?_
        refine r_iadd dX4_layRows_58 ?_
        refine r_top (nI (rfN (rfV b R nh k9) v + 1)) (nI_add _ _) ?_
        refine r_putN fX4_492 (hlB.1) (by decide) dX4_layRows_59 ?_
        have gZ3 : Fr [] [62] hB (sI hB aM 62 (nI (rfN (rfV b R nh k9) v + 1))) := Fr.rf.sf 62 (nI (rfN (rfV b R nh k9) v + 1)) (by decide)
        have hTZ3 : MT T (sI hB aM 62 (nI (rfN (rfV b R nh k9) v + 1))) := hTB.fr gZ3 (by decide)
        have hmZ3 : MB b k (sI hB aM 62 (nI (rfN (rfV b R nh k9) v + 1))) := hmB.fr gZ3 rfl
        have fZ3 : Fr [aPile, aAll, aKept, aManyBy, aParts] [39, 40, 41, 62] h (sI hB aM 62 (nI (rfN (rfV b R nh k9) v + 1))) := fB.tr (gZ3.wk (by simp) (by simp))
        have e62Z3 : hI (sI hB aM 62 (nI (rfN (rfV b R nh k9) v + 1))) aM 62 = nI (rfN (rfV b R nh k9) v + 1) := rfl
        generalize sI hB aM 62 (nI (rfN (rfV b R nh k9) v + 1)) = hZ3 at gZ3 hTZ3 hmZ3 fZ3 e62Z3 ⊢
        have hlZ3 := hmZ3.lay
        refine r_iconst (v := nI 0) dX4_layRows_62 (by decide) ?_
        refine r_istore_n dX4_layRows_63 (by decide) rfl ?_
        refine (ev_for (P := fun u => ∀ hC : ev_H, (Fr [aPile, aAll, aKept, aManyBy, aParts] [39, 40, 41, 62] h hC ∧ MT T hC ∧ MY b hC ∧ hI hC aM 62 = nI (rfN (rfV b R nh k9) v + 1) ∧ MPT b (rfV b R nh k9) v u hC) → Ev G mX4_layRows (ev_room 8 0 0) (ev_MQ G (p0 (fun h1 => Fr [aPile, aAll, aKept, aManyBy, aParts] [39, 40, 41, 62] h h1 ∧ MT T h1 ∧ MY b h1 ∧ hI h1 aM 62 = nI (rfN (rfV b R nh k9) (nRow b)) ∧ ∀ i s, i < hid b → s ≤ nS b → hI h1 aParts (6 * i + s) = nI (ptN (rfV b R nh k9) (nS b) i s (nRow b)))) 0 0) 64 [some (vR aM), some (vI k9), some (vI (nI v)), some (vI (nI u))] [] hC 0 0) (hid b) (fun u hku ihu hC qhC => ?_)) 0 (Nat.zero_le _) _ (⟨fZ3, hTZ3, hYB.fr gZ3 (by decide), e62Z3, hPB.fr gZ3 (by decide)⟩)
        obtain ⟨fC, hTC, hYC, e62C, hPC⟩ := qhC
        have hmC := hm.fr fC rfl
        have hlC := hmC.lay
        refine r_iload_n dX4_layRows_64 rfl ?_
        refine r_aload_n dX4_layRows_65 rfl ?_
        refine r_callVx lX4_486 (c_hidden hmC) (hlC.1) rfl rfl rfl rfl dX4_layRows_66 (Nat.le_refl _) (Nat.le_refl _) ?_
        refine r_icmpN_ge (tgt := 98) dX4_layRows_69 rfl (by omega) (by omega) (fun c4 => ?_) (fun c4 => ?_)
        · --
          refine r_iincN (n := 1) dX4_layRows_98 rfl rfl (by decide) rfl ?_
          refine r_goto (tgt := 32) dX4_layRows_101 rfl ?_
          refine r_sub [some (vR aM), some (vI k9), some (vI (nI (v + 1))), none] (And.intro rfl (And.intro rfl (And.intro rfl trivial))) ?_
          exact ihv (by omega) _ (⟨fC, hTC, hYC, e62C.trans (rfN_t c3), by rw [show u = hid b by omega] at hPC; exact hPC.next⟩)
        · --
          have hsk := sk_le (b := b) (v := v) (u := u) (by omega) (by omega)
          have hpt := ptN_le (rfV b R nh k9) (nS b) u (skI (nS b) v u) v
          refine r_aload_n dX4_layRows_72 rfl ?_
          refine r_getRv fX4_124 (hlC.1) (v := aParts) ((l_parts hlC).1) rfl dX4_layRows_73 ?_
          refine r_bipush (v := nI 6) dX4_layRows_76 (by decide) ?_
          refine r_iload_n dX4_layRows_78 rfl ?_
          refine r_imul dX4_layRows_79 ?_
          refine r_top (nI (6 * u)) (pk_mul _ _) ?_
          refine r_aload_n dX4_layRows_80 rfl ?_
          refine r_iload_n dX4_layRows_81 rfl ?_
          refine r_iload_n dX4_layRows_82 rfl ?_
          refine r_callVx lX4_489 (c_sackIn hmC (v := v) (w9 := u) (by omega) (by omega)) (hlC.1) rfl rfl rfl rfl dX4_layRows_83 (Nat.le_refl _) (Nat.le_refl _) ?_
          refine r_iadd dX4_layRows_86 ?_
          refine r_top (nI (6 * u + (skI (nS b) v u))) (nI_add _ _) ?_
          refine r_dup2 dX4_layRows_87 rfl rfl ?_
          refine r_ialdv ((l_parts hlC).2.1) ((l_parts hlC).2.2) (ix_n (by omega) (by decide)) (v := nI (ptN (rfV b R nh k9) (nS b) u (skI (nS b) v u) v)) ((hPC u _ (by omega) hsk).trans (by rw [if_neg (by omega)])) dX4_layRows_88 ?_
          refine r_iconst (v := nI 1) dX4_layRows_89 (by decide) ?_
          refine r_iadd dX4_layRows_90 ?_
          refine r_top (nI (ptN (rfV b R nh k9) (nS b) u (skI (nS b) v u) v + 1)) (nI_add _ _) ?_
          refine r_iastv ((l_parts hlC).2.1) (by decide) ((l_parts hlC).2.2) (ix_n (by omega) (by decide)) dX4_layRows_91 ?_
          have gZ4 : Fr [aParts] [] hC (sI hC aParts (6 * u + (skI (nS b) v u)) (nI (ptN (rfV b R nh k9) (nS b) u (skI (nS b) v u) v + 1))) := Fr.rf.sa aParts (6 * u + (skI (nS b) v u)) (nI (ptN (rfV b R nh k9) (nS b) u (skI (nS b) v u) v + 1)) (by decide)
          have hTZ4 : MT T (sI hC aParts (6 * u + (skI (nS b) v u)) (nI (ptN (rfV b R nh k9) (nS b) u (skI (nS b) v u) v + 1))) := hTC.fr gZ4 (by decide)
          have hmZ4 : MB b k (sI hC aParts (6 * u + (skI (nS b) v u)) (nI (ptN (rfV b R nh k9) (nS b) u (skI (nS b) v u) v + 1))) := hmC.fr gZ4 rfl
          have fZ4 : Fr [aPile, aAll, aKept, aManyBy, aParts] [39, 40, 41, 62] h (sI hC aParts (6 * u + (skI (nS b) v u)) (nI (ptN (rfV b R nh k9) (nS b) u (skI (nS b) v u) v + 1))) := fC.tr (gZ4.wk (by simp) (by simp))
          have hPN : MPT b (rfV b R nh k9) v (u + 1) (sI hC aParts (6 * u + (skI (nS b) v u)) (nI (ptN (rfV b R nh k9) (nS b) u (skI (nS b) v u) v + 1))) := MPT.step hPC hb2 c3 (by omega) (by omega)
          generalize sI hC aParts (6 * u + (skI (nS b) v u)) (nI (ptN (rfV b R nh k9) (nS b) u (skI (nS b) v u) v + 1)) = hZ4 at gZ4 hTZ4 hmZ4 fZ4 hPN ⊢
          have hlZ4 := hmZ4.lay
          refine r_iincN (n := 1) dX4_layRows_92 rfl rfl (by decide) rfl ?_
          refine r_goto (tgt := 64) dX4_layRows_95 rfl ?_
          exact ihu (by omega) _ (⟨fZ4, hTZ4, hYC.fr gZ4 (by decide), (gZ4.fld 62 (by decide) (by decide)).trans e62C, hPN⟩)
      · --
        refine r_goto (tgt := 98) dX4_layRows_49 rfl ?_
        refine r_iincN (n := 1) dX4_layRows_98 rfl rfl (by decide) rfl ?_
        refine r_goto (tgt := 32) dX4_layRows_101 rfl ?_
        exact ihv (by omega) _ (⟨fB, hTB, hYB, e62B.trans (rfN_f c3), hPB.skip c3⟩)
  · --
    refine r_aload_n dX4_layRows_13 rfl ?_
    refine r_getRv fX4_124 (hlA.1) (v := aParts) ((l_parts hlA).1) rfl dX4_layRows_14 ?_
    refine r_iload_n dX4_layRows_17 rfl ?_
    refine r_iconst (v := nI 0) dX4_layRows_18 (by decide) ?_
    refine r_iastv ((l_parts hlA).2.1) (by decide) ((l_parts hlA).2.2) (ix_n (by omega) (by decide)) dX4_layRows_19 ?_
    have gZ5 : Fr [aParts] [] hA (sI hA aParts i (nI 0)) := Fr.rf.sa aParts i (nI 0) (by decide)
    have hTZ5 : MT T (sI hA aParts i (nI 0)) := hTA.fr gZ5 (by decide)
    have hmZ5 : MB b k (sI hA aParts i (nI 0)) := hmA.fr gZ5 rfl
    have fZ5 : Fr [aPile, aAll, aKept, aManyBy, aParts] [39, 40, 41, 62] h (sI hA aParts i (nI 0)) := fA.tr (gZ5.wk (by simp) (by simp))
    have eN : ∀ j, j < i + 1 → hI (sI hA aParts i (nI 0)) aParts j = (fun _ => nI 0) j := cp_step eA rfl
    generalize sI hA aParts i (nI 0) = hZ5 at gZ5 hTZ5 hmZ5 fZ5 eN ⊢
    have hlZ5 := hmZ5.lay
    refine r_iincN (n := 1) dX4_layRows_20 rfl rfl (by decide) rfl ?_
    refine r_goto (tgt := 7) dX4_layRows_23 rfl ?_
    exact ihi (by omega) _ (⟨fZ5, hTZ5, (gZ5.fld 62 (by decide) (by decide)).trans e62A, eN⟩)
