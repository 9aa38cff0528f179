/-! ===== THE REFERENCE: what would be (walks by program) ===== -/
set_option maxRecDepth 100000

theorem c_goGrind {G : ev_G} {b : Bk} {k : Nat} {h : ev_H} (hm : MB b k h) {T : Nat → Int32} (hT : MT T h) (hth : hI h aM 43 = -1) {s : Nat} (hs : s < nS b) : Called G mX4_goGrind 7 0 0 [vR aM, vI (nI s)] h (pI (fun y h1 => y = outV b T s ∧ Fr [aPile, aAll] [39, 40, 41] h h1 ∧ MT (grT b T s) h1)) := by
  have hl := hm.lay
  have hk2 := hm.k2
  have hb := hm.bw
  have hb1 := hb.p6
  have hb2 := hb.s5
  have hb3 := hb.t10
  have f : Fr [aPile, aAll] [39, 40, 41] h h := Fr.rf
  refine called_of rfl [some (vR aM), some (vI (nI s)), none] rfl (Nat.le_of_ble_eq_true rfl) ?_
  refine r_aload_n dX4_goGrind_0 rfl ?_
  refine r_iload_n dX4_goGrind_1 rfl ?_
  refine r_callVi lX4_407 (c_wouldOf hm hT (s := s) (by omega) hth) (hl.1) rfl rfl rfl rfl dX4_goGrind_2 (Nat.le_refl _) (Nat.le_refl _) (fun y9 hZ1 q9 => ?_)
  obtain ⟨rfl, gZ1⟩ := q9
  have fZ1 := f.tr (gZ1.wk (by simp) (by simp))
  have hmZ1 := hm.fr gZ1 rfl
  have hTZ1 := hT.fr gZ1 (by decide)
  have hlZ1 := hmZ1.lay
  refine r_istore_n dX4_goGrind_5 (by decide) rfl ?_
  refine r_aload_n dX4_goGrind_6 rfl ?_
  refine r_getRv fX4_88 (hlZ1.1) (v := aAll) ((l_all hlZ1).1) rfl dX4_goGrind_7 ?_
  refine r_iconst (v := nI 1) dX4_goGrind_10 (by decide) ?_
  refine r_dup2 dX4_goGrind_11 rfl rfl ?_
  refine r_ialdv ((l_all hlZ1).2.1) ((l_all hlZ1).2.2) (ix_n (by omega) (by decide)) (v := T (1)) (hTZ1 _ (by omega)) dX4_goGrind_12 ?_
  refine r_iload_n dX4_goGrind_13 rfl ?_
  refine r_ior dX4_goGrind_14 ?_
  refine r_iastv ((l_all hlZ1).2.1) (by decide) ((l_all hlZ1).2.2) (ix_n (by omega) (by decide)) dX4_goGrind_15 ?_
  have gZ2 : Fr [aAll] [] hZ1 (sI hZ1 aAll 1 ((T (1)) ||| (outV b T s))) := Fr.rf.sa aAll 1 ((T (1)) ||| (outV b T s)) (by decide)
  have hTZ2 : MT (u1 T 1 ((T (1)) ||| (outV b T s))) (sI hZ1 aAll 1 ((T (1)) ||| (outV b T s))) := hTZ1.up 1 ((T (1)) ||| (outV b T s))
  have hmZ2 : MB b k (sI hZ1 aAll 1 ((T (1)) ||| (outV b T s))) := hmZ1.fr gZ2 rfl
  have fZ2 : Fr [aPile, aAll] [39, 40, 41] h (sI hZ1 aAll 1 ((T (1)) ||| (outV b T s))) := fZ1.tr (gZ2.wk (by simp) (by simp))
  generalize sI hZ1 aAll 1 ((T (1)) ||| (outV b T s)) = hZ2 at gZ2 hTZ2 hmZ2 fZ2 ⊢
  have hlZ2 := hmZ2.lay
  refine r_aload_n dX4_goGrind_16 rfl ?_
  refine r_getRv fX4_88 (hlZ2.1) (v := aAll) ((l_all hlZ2).1) rfl dX4_goGrind_17 ?_
  refine r_bipush (v := nI 12) dX4_goGrind_20 (by decide) ?_
  refine r_iload_n dX4_goGrind_22 rfl ?_
  refine r_iadd dX4_goGrind_23 ?_
  refine r_top (nI (12 + s)) (nI_add _ _) ?_
  refine r_ialdv ((l_all hlZ2).2.1) ((l_all hlZ2).2.2) (ix_n (by omega) (by decide)) (v := (u1 T 1 ((T (1)) ||| (outV b T s))) (12 + s)) (hTZ2 _ (by omega)) dX4_goGrind_24 ?_
  refine r_bipush (v := nI 99) dX4_goGrind_25 (by decide) ?_
  refine r_icmp_ge (tgt := 43) dX4_goGrind_27 rfl (fun c1 => ?_) (fun c1 => ?_)
  · --
    refine r_iload_n dX4_goGrind_43 rfl ?_
    exact r_reti dX4_goGrind_44 rfl rfl (Nat.le_refl _) (Nat.le_refl _) ⟨rfl, fZ2, hTZ2.eq (gr_a (by assumption))⟩
  · --
    refine r_aload_n dX4_goGrind_30 rfl ?_
    refine r_getRv fX4_88 (hlZ2.1) (v := aAll) ((l_all hlZ2).1) rfl dX4_goGrind_31 ?_
    refine r_bipush (v := nI 12) dX4_goGrind_34 (by decide) ?_
    refine r_iload_n dX4_goGrind_36 rfl ?_
    refine r_iadd dX4_goGrind_37 ?_
    refine r_top (nI (12 + s)) (nI_add _ _) ?_
    refine r_dup2 dX4_goGrind_38 rfl rfl ?_
    refine r_ialdv ((l_all hlZ2).2.1) ((l_all hlZ2).2.2) (ix_n (by omega) (by decide)) (v := (u1 T 1 ((T (1)) ||| (outV b T s))) (12 + s)) (hTZ2 _ (by omega)) dX4_goGrind_39 ?_
    refine r_iconst (v := nI 1) dX4_goGrind_40 (by decide) ?_
    refine r_iadd dX4_goGrind_41 ?_
    refine r_iastv ((l_all hlZ2).2.1) (by decide) ((l_all hlZ2).2.2) (ix_n (by omega) (by decide)) dX4_goGrind_42 ?_
    have gZ3 : Fr [aAll] [] hZ2 (sI hZ2 aAll (12 + s) (((u1 T 1 ((T (1)) ||| (outV b T s))) (12 + s)) + (nI 1))) := Fr.rf.sa aAll (12 + s) (((u1 T 1 ((T (1)) ||| (outV b T s))) (12 + s)) + (nI 1)) (by decide)
    have hTZ3 : MT (u1 (u1 T 1 ((T (1)) ||| (outV b T s))) (12 + s) (((u1 T 1 ((T (1)) ||| (outV b T s))) (12 + s)) + (nI 1))) (sI hZ2 aAll (12 + s) (((u1 T 1 ((T (1)) ||| (outV b T s))) (12 + s)) + (nI 1))) := hTZ2.up (12 + s) (((u1 T 1 ((T (1)) ||| (outV b T s))) (12 + s)) + (nI 1))
    have hmZ3 : MB b k (sI hZ2 aAll (12 + s) (((u1 T 1 ((T (1)) ||| (outV b T s))) (12 + s)) + (nI 1))) := hmZ2.fr gZ3 rfl
    have fZ3 : Fr [aPile, aAll] [39, 40, 41] h (sI hZ2 aAll (12 + s) (((u1 T 1 ((T (1)) ||| (outV b T s))) (12 + s)) + (nI 1))) := fZ2.tr (gZ3.wk (by simp) (by simp))
    generalize sI hZ2 aAll (12 + s) (((u1 T 1 ((T (1)) ||| (outV b T s))) (12 + s)) + (nI 1)) = hZ3 at gZ3 hTZ3 hmZ3 fZ3 ⊢
    have hlZ3 := hmZ3.lay
    refine r_iload_n dX4_goGrind_43 rfl ?_
    exact r_reti dX4_goGrind_44 rfl rfl (Nat.le_refl _) (Nat.le_refl _) ⟨rfl, fZ3, hTZ3.eq (gr_b (by assumption))⟩

theorem c_wouldWith {G : ev_G} {b : Bk} {k : Nat} {h : ev_H} (hm : MB b k h) {T : Nat → Int32} (hT : MT T h) (hth : hI h aM 43 = -1) (set : Int32) {s : Nat} (hs : s < nS b) : Called G mX4_wouldWith 7 0 0 [vR aM, vI set, vI (nI s)] h (pI (fun y h1 => y = outV b (u1 T 0 set) s ∧ Fr [aPile, aAll] [39, 40, 41] h h1 ∧ MT T h1)) := by
  have hl := hm.lay
  have hk2 := hm.k2
  have hb := hm.bw
  have hb1 := hb.p6
  have hb2 := hb.s5
  have hb3 := hb.t10
  have f : Fr [aPile, aAll] [39, 40, 41] h h := Fr.rf
  refine called_of rfl [some (vR aM), some (vI set), some (vI (nI s)), none, none] rfl (Nat.le_of_ble_eq_true rfl) ?_
  refine r_aload_n dX4_wouldWith_0 rfl ?_
  refine r_getRv fX4_88 (hl.1) (v := aAll) ((l_all hl).1) rfl dX4_wouldWith_1 ?_
  refine r_iconst (v := nI 0) dX4_wouldWith_4 (by decide) ?_
  refine r_ialdv ((l_all hl).2.1) ((l_all hl).2.2) (ix_n (by omega) (by decide)) (v := T (0)) (hT _ (by omega)) dX4_wouldWith_5 ?_
  refine r_istore_n dX4_wouldWith_6 (by decide) rfl ?_
  refine r_aload_n dX4_wouldWith_7 rfl ?_
  refine r_getRv fX4_88 (hl.1) (v := aAll) ((l_all hl).1) rfl dX4_wouldWith_8 ?_
  refine r_iconst (v := nI 0) dX4_wouldWith_11 (by decide) ?_
  refine r_iload_n dX4_wouldWith_12 rfl ?_
  refine r_iastv ((l_all hl).2.1) (by decide) ((l_all hl).2.2) (ix_n (by omega) (by decide)) dX4_wouldWith_13 ?_
  have gZ1 : Fr [aAll] [] h (sI h aAll 0 set) := Fr.rf.sa aAll 0 set (by decide)
  have hTZ1 : MT (u1 T 0 set) (sI h aAll 0 set) := hT.up 0 set
  have hmZ1 : MB b k (sI h aAll 0 set) := hm.fr gZ1 rfl
  have fZ1 : Fr [aPile, aAll] [39, 40, 41] h (sI h aAll 0 set) := f.tr (gZ1.wk (by simp) (by simp))
  generalize sI h aAll 0 set = hZ1 at gZ1 hTZ1 hmZ1 fZ1 ⊢
  have hlZ1 := hmZ1.lay
  refine r_aload_n dX4_wouldWith_14 rfl ?_
  refine r_iload_n dX4_wouldWith_15 rfl ?_
  refine r_callVi lX4_407 (c_wouldOf hmZ1 hTZ1 (s := s) (by omega) ((fZ1.fld 43 (by decide) (by decide)).trans hth)) (hlZ1.1) rfl rfl rfl rfl dX4_wouldWith_16 (Nat.le_refl _) (Nat.le_refl _) (fun y9 hZ2 q9 => ?_)
  obtain ⟨rfl, gZ2⟩ := q9
  have fZ2 := fZ1.tr (gZ2.wk (by simp) (by simp))
  have hmZ2 := hmZ1.fr gZ2 rfl
  have hTZ2 := hTZ1.fr gZ2 (by decide)
  have hlZ2 := hmZ2.lay
  refine r_istore dX4_wouldWith_19 (by decide) rfl ?_
  refine r_aload_n dX4_wouldWith_21 rfl ?_
  refine r_getRv fX4_88 (hlZ2.1) (v := aAll) ((l_all hlZ2).1) rfl dX4_wouldWith_22 ?_
  refine r_iconst (v := nI 0) dX4_wouldWith_25 (by decide) ?_
  refine r_iload_n dX4_wouldWith_26 rfl ?_
  refine r_iastv ((l_all hlZ2).2.1) (by decide) ((l_all hlZ2).2.2) (ix_n (by omega) (by decide)) dX4_wouldWith_27 ?_
  have gZ3 : Fr [aAll] [] hZ2 (sI hZ2 aAll 0 (T (0))) := Fr.rf.sa aAll 0 (T (0)) (by decide)
  have hTZ3 : MT (u1 (u1 T 0 set) 0 (T (0))) (sI hZ2 aAll 0 (T (0))) := hTZ2.up 0 (T (0))
  rw [u1_u1] at hTZ3
  have hmZ3 : MB b k (sI hZ2 aAll 0 (T (0))) := hmZ2.fr gZ3 rfl
  have fZ3 : Fr [aPile, aAll] [39, 40, 41] h (sI hZ2 aAll 0 (T (0))) := fZ2.tr (gZ3.wk (by simp) (by simp))
  generalize sI hZ2 aAll 0 (T (0)) = hZ3 at gZ3 hTZ3 hmZ3 fZ3 ⊢
  have hlZ3 := hmZ3.lay
  refine r_iload dX4_wouldWith_28 rfl ?_
  exact r_reti dX4_wouldWith_30 rfl rfl (Nat.le_refl _) (Nat.le_refl _) ⟨rfl, fZ3, hTZ3.same rfl⟩

theorem c_saidWith {G : ev_G} {b : Bk} {k : Nat} {h : ev_H} (hm : MB b k h) {T : Nat → Int32} (hT : MT T h) (hth : hI h aM 43 = -1) (set : Int32) : Called G mX4_saidWith 8 0 0 [vR aM, vI set] h (pI (fun y h1 => y = saidV b (u1 T 0 set) (allV (nS b)) ∧ Fr [aPile, aAll] [39, 40, 41] h h1 ∧ MT T h1)) := by
  have hl := hm.lay
  have hk2 := hm.k2
  have hb := hm.bw
  have hb1 := hb.p6
  have hb2 := hb.s5
  have hb3 := hb.t10
  have f : Fr [aPile, aAll] [39, 40, 41] h h := Fr.rf
  refine called_of rfl [some (vR aM), some (vI set), none, none] rfl (Nat.le_of_ble_eq_true rfl) ?_
  refine r_aload_n dX4_saidWith_0 rfl ?_
  refine r_getRv fX4_88 (hl.1) (v := aAll) ((l_all hl).1) rfl dX4_saidWith_1 ?_
  refine r_iconst (v := nI 0) dX4_saidWith_4 (by decide) ?_
  refine r_ialdv ((l_all hl).2.1) ((l_all hl).2.2) (ix_n (by omega) (by decide)) (v := T (0)) (hT _ (by omega)) dX4_saidWith_5 ?_
  refine r_istore_n dX4_saidWith_6 (by decide) rfl ?_
  refine r_aload_n dX4_saidWith_7 rfl ?_
  refine r_getRv fX4_88 (hl.1) (v := aAll) ((l_all hl).1) rfl dX4_saidWith_8 ?_
  refine r_iconst (v := nI 0) dX4_saidWith_11 (by decide) ?_
  refine r_iload_n dX4_saidWith_12 rfl ?_
  refine r_iastv ((l_all hl).2.1) (by decide) ((l_all hl).2.2) (ix_n (by omega) (by decide)) dX4_saidWith_13 ?_
  have gZ1 : Fr [aAll] [] h (sI h aAll 0 set) := Fr.rf.sa aAll 0 set (by decide)
  have hTZ1 : MT (u1 T 0 set) (sI h aAll 0 set) := hT.up 0 set
  have hmZ1 : MB b k (sI h aAll 0 set) := hm.fr gZ1 rfl
  have fZ1 : Fr [aPile, aAll] [39, 40, 41] h (sI h aAll 0 set) := f.tr (gZ1.wk (by simp) (by simp))
  generalize sI h aAll 0 set = hZ1 at gZ1 hTZ1 hmZ1 fZ1 ⊢
  have hlZ1 := hmZ1.lay
  refine r_aload_n dX4_saidWith_14 rfl ?_
  refine r_aload_n dX4_saidWith_15 rfl ?_
  refine r_callVx lX4_428 (c_allSacks hmZ1) (hlZ1.1) rfl rfl rfl rfl dX4_saidWith_16 (Nat.le_refl _) (Nat.le_refl _) ?_
  refine r_callVi lX4_431 (c_saidBy hmZ1 hTZ1 ((fZ1.fld 43 (by decide) (by decide)).trans hth) (allV (nS b))) (hlZ1.1) rfl rfl rfl rfl dX4_saidWith_19 (Nat.le_refl _) (Nat.le_refl _) (fun y9 hZ2 q9 => ?_)
  obtain ⟨rfl, gZ2⟩ := q9
  have fZ2 := fZ1.tr (gZ2.wk (by simp) (by simp))
  have hmZ2 := hmZ1.fr gZ2 rfl
  have hTZ2 := hTZ1.fr gZ2 (by decide)
  have hlZ2 := hmZ2.lay
  refine r_istore_n dX4_saidWith_22 (by decide) rfl ?_
  refine r_aload_n dX4_saidWith_23 rfl ?_
  refine r_getRv fX4_88 (hlZ2.1) (v := aAll) ((l_all hlZ2).1) rfl dX4_saidWith_24 ?_
  refine r_iconst (v := nI 0) dX4_saidWith_27 (by decide) ?_
  refine r_iload_n dX4_saidWith_28 rfl ?_
  refine r_iastv ((l_all hlZ2).2.1) (by decide) ((l_all hlZ2).2.2) (ix_n (by omega) (by decide)) dX4_saidWith_29 ?_
  have gZ3 : Fr [aAll] [] hZ2 (sI hZ2 aAll 0 (T (0))) := Fr.rf.sa aAll 0 (T (0)) (by decide)
  have hTZ3 : MT (u1 (u1 T 0 set) 0 (T (0))) (sI hZ2 aAll 0 (T (0))) := hTZ2.up 0 (T (0))
  rw [u1_u1] at hTZ3
  have hmZ3 : MB b k (sI hZ2 aAll 0 (T (0))) := hmZ2.fr gZ3 rfl
  have fZ3 : Fr [aPile, aAll] [39, 40, 41] h (sI hZ2 aAll 0 (T (0))) := fZ2.tr (gZ3.wk (by simp) (by simp))
  generalize sI hZ2 aAll 0 (T (0)) = hZ3 at gZ3 hTZ3 hmZ3 fZ3 ⊢
  have hlZ3 := hmZ3.lay
  refine r_iload_n dX4_saidWith_30 rfl ?_
  exact r_reti dX4_saidWith_31 rfl rfl (Nat.le_refl _) (Nat.le_refl _) ⟨rfl, fZ3, hTZ3.same rfl⟩

theorem c_law {G : ev_G} {b : Bk} {k : Nat} {h : ev_H} (hm : MB b k h) {T : Nat → Int32} (hT : MT T h) (hth : hI h aM 43 = -1) (p n : Int32) : Called G mX4_law 7 0 0 [vR aM, vI p, vI n] h (pI (fun y h1 => y = lawV b T p n ∧ Fr [aPile, aAll] [39, 40, 41] h h1 ∧ MT T h1)) := by
  have hl := hm.lay
  have hk2 := hm.k2
  have hb := hm.bw
  have hb1 := hb.p6
  have hb2 := hb.s5
  have hb3 := hb.t10
  have f : Fr [aPile, aAll] [39, 40, 41] h h := Fr.rf
  refine called_of rfl [some (vR aM), some (vI p), some (vI n), none, none] rfl (Nat.le_of_ble_eq_true rfl) ?_
  refine r_aload_n dX4_law_0 rfl ?_
  refine r_iload_n dX4_law_1 rfl ?_
  refine r_callVx lX4_425 (c_isSack hm _) (hl.1) rfl rfl rfl rfl dX4_law_2 (Nat.le_refl _) (Nat.le_refl _) ?_
  refine r_ifB_eq (tgt := 18) dX4_law_5 rfl (fun c1 => ?_) (fun c1 => ?_)
  · --
    refine r_iconst (v := (-1)) dX4_law_18 (by decide) ?_
    exact r_reti dX4_law_19 rfl rfl (Nat.le_refl _) (Nat.le_refl _) ⟨by simp [lawV, *], f, hT⟩
  · --
    obtain ⟨j, hj, rfl⟩ := sakV_ok hb c1
    refine r_iload_n dX4_law_8 rfl ?_
    refine r_iconst (v := 0) dX4_law_9 (by decide) ?_
    refine r_bipush (v := 99) dX4_law_10 (by decide) ?_
    refine r_callSx lX4_361 (c_isIn _ _ _) rfl rfl rfl rfl dX4_law_12 (Nat.le_refl _) (Nat.le_refl _) ?_
    refine r_ifB_ne (tgt := 20) dX4_law_15 rfl (fun c2 => ?_) (fun c2 => ?_)
    · --
      refine r_aload_n dX4_law_20 rfl ?_
      refine r_getRv fX4_88 (hl.1) (v := aAll) ((l_all hl).1) rfl dX4_law_21 ?_
      refine r_bipush (v := nI 12) dX4_law_24 (by decide) ?_
      refine r_iload_n dX4_law_26 rfl ?_
      refine r_iadd dX4_law_27 ?_
      refine r_top (nI (12 + j)) (nI_add _ _) ?_
      refine r_ialdv ((l_all hl).2.1) ((l_all hl).2.2) (ix_n (by omega) (by decide)) (v := T (12 + j)) (hT _ (by omega)) dX4_law_28 ?_
      refine r_istore_n dX4_law_29 (by decide) rfl ?_
      refine r_aload_n dX4_law_30 rfl ?_
      refine r_getRv fX4_88 (hl.1) (v := aAll) ((l_all hl).1) rfl dX4_law_31 ?_
      refine r_bipush (v := nI 12) dX4_law_34 (by decide) ?_
      refine r_iload_n dX4_law_36 rfl ?_
      refine r_iadd dX4_law_37 ?_
      refine r_top (nI (12 + j)) (nI_add _ _) ?_
      refine r_iload_n dX4_law_38 rfl ?_
      refine r_iastv ((l_all hl).2.1) (by decide) ((l_all hl).2.2) (ix_n (by omega) (by decide)) dX4_law_39 ?_
      have gZ1 : Fr [aAll] [] h (sI h aAll (12 + j) n) := Fr.rf.sa aAll (12 + j) n (by decide)
      have hTZ1 : MT (u1 T (12 + j) n) (sI h aAll (12 + j) n) := hT.up (12 + j) n
      have hmZ1 : MB b k (sI h aAll (12 + j) n) := hm.fr gZ1 rfl
      have fZ1 : Fr [aPile, aAll] [39, 40, 41] h (sI h aAll (12 + j) n) := f.tr (gZ1.wk (by simp) (by simp))
      generalize sI h aAll (12 + j) n = hZ1 at gZ1 hTZ1 hmZ1 fZ1 ⊢
      have hlZ1 := hmZ1.lay
      refine r_aload_n dX4_law_40 rfl ?_
      refine r_iload_n dX4_law_41 rfl ?_
      refine r_callVi lX4_407 (c_wouldOf hmZ1 hTZ1 (s := j) (by omega) ((fZ1.fld 43 (by decide) (by decide)).trans hth)) (hlZ1.1) rfl rfl rfl rfl dX4_law_42 (Nat.le_refl _) (Nat.le_refl _) (fun y9 hZ2 q9 => ?_)
      obtain ⟨rfl, gZ2⟩ := q9
      have fZ2 := fZ1.tr (gZ2.wk (by simp) (by simp))
      have hmZ2 := hmZ1.fr gZ2 rfl
      have hTZ2 := hTZ1.fr gZ2 (by decide)
      have hlZ2 := hmZ2.lay
      refine r_callSx lX4_339 (c_bitsOf _) rfl rfl rfl rfl dX4_law_45 (Nat.le_refl _) (Nat.le_refl _) ?_
      refine r_istore dX4_law_48 (by decide) rfl ?_
      refine r_aload_n dX4_law_50 rfl ?_
      refine r_getRv fX4_88 (hlZ2.1) (v := aAll) ((l_all hlZ2).1) rfl dX4_law_51 ?_
      refine r_bipush (v := nI 12) dX4_law_54 (by decide) ?_
      refine r_iload_n dX4_law_56 rfl ?_
      refine r_iadd dX4_law_57 ?_
      refine r_top (nI (12 + j)) (nI_add _ _) ?_
      refine r_iload_n dX4_law_58 rfl ?_
      refine r_iastv ((l_all hlZ2).2.1) (by decide) ((l_all hlZ2).2.2) (ix_n (by omega) (by decide)) dX4_law_59 ?_
      have gZ3 : Fr [aAll] [] hZ2 (sI hZ2 aAll (12 + j) (T (12 + j))) := Fr.rf.sa aAll (12 + j) (T (12 + j)) (by decide)
      have hTZ3 : MT (u1 (u1 T (12 + j) n) (12 + j) (T (12 + j))) (sI hZ2 aAll (12 + j) (T (12 + j))) := hTZ2.up (12 + j) (T (12 + j))
      rw [u1_u1] at hTZ3
      have hmZ3 : MB b k (sI hZ2 aAll (12 + j) (T (12 + j))) := hmZ2.fr gZ3 rfl
      have fZ3 : Fr [aPile, aAll] [39, 40, 41] h (sI hZ2 aAll (12 + j) (T (12 + j))) := fZ2.tr (gZ3.wk (by simp) (by simp))
      generalize sI hZ2 aAll (12 + j) (T (12 + j)) = hZ3 at gZ3 hTZ3 hmZ3 fZ3 ⊢
      have hlZ3 := hmZ3.lay
      refine r_iload dX4_law_60 rfl ?_
      exact r_reti dX4_law_62 rfl rfl (Nat.le_refl _) (Nat.le_refl _) ⟨by rw [lawV, if_pos (by simp [*]), nI_clamp (by omega)], fZ3, hTZ3.same rfl⟩
    · --
      refine r_iconst (v := (-1)) dX4_law_18 (by decide) ?_
      exact r_reti dX4_law_19 rfl rfl (Nat.le_refl _) (Nat.le_refl _) ⟨by simp [lawV, *], f, hT⟩

theorem c_pairs {G : ev_G} {b : Bk} {k : Nat} {h : ev_H} (hm : MB b k h) {T : Nat → Int32} (hT : MT T h) : Called G mX4_pairs 2 0 0 [vR aM] h (px (vI (pairsV b T)) h) := by
  have hl := hm.lay
  have hk2 := hm.k2
  have hb := hm.bw
  have hb1 := hb.p6
  have hb2 := hb.s5
  have hb3 := hb.t10
  refine called_of rfl [some (vR aM), none, none, none] rfl (Nat.le_of_ble_eq_true rfl) ?_
  refine r_iconst (v := nI 0) dX4_pairs_0 (by decide) ?_
  refine r_istore_n dX4_pairs_1 (by decide) rfl ?_
  refine r_iconst (v := nI 0) dX4_pairs_2 (by decide) ?_
  refine r_istore_n dX4_pairs_3 (by decide) rfl ?_
  refine (ev_for (P := fun i => Ev G mX4_pairs (ev_room 2 0 0) (ev_MQ G (px (vI (pairsV b T)) h) 0 0) 4 [some (vR aM), some (vI (sumOf i (fun p => sumOf p (fun q => b2i (tellV b T p q && tellV b T q p))))), some (vI (nI i)), none] [] h 0 0) (nP b) (fun i hki ihi => ?_)) 0 (Nat.zero_le _)
  refine r_iload_n dX4_pairs_4 rfl ?_
  refine r_aload_n dX4_pairs_5 rfl ?_
  refine r_callVx lX4_358 (c_folk hm) (hl.1) rfl rfl rfl rfl dX4_pairs_6 (Nat.le_refl _) (Nat.le_refl _) ?_
  refine r_icmpN_ge (tgt := 81) dX4_pairs_9 rfl (by omega) (by omega) (fun c1 => ?_) (fun c1 => ?_)
  · --
    refine r_iload_n dX4_pairs_81 rfl ?_
    exact r_retx dX4_pairs_82 rfl rfl (congrArg (fun n => sumOf n _) (by omega))
  · --
    refine r_iconst (v := nI 0) dX4_pairs_12 (by decide) ?_
    refine r_istore_n dX4_pairs_13 (by decide) rfl ?_
    refine r_L (L2 := [some (vR aM), some (vI (sumOf i (fun p => sumOf p (fun q => b2i (tellV b T p q && tellV b T q p))) + sumOf 0 (fun q => b2i (tellV b T i q && tellV b T q i)))), some (vI (nI i)), some (vI (nI 0))]) (by rw [show sumOf 0 (fun q => b2i (tellV b T i q && tellV b T q i)) = 0 from rfl, Int32.add_zero]; rfl) ?_
    refine (ev_for (P := fun jj9 => Ev G mX4_pairs (ev_room 2 0 0) (ev_MQ G (px (vI (pairsV b T)) h) 0 0) 14 [some (vR aM), some (vI (sumOf i (fun p => sumOf p (fun q => b2i (tellV b T p q && tellV b T q p))) + sumOf jj9 (fun q => b2i (tellV b T i q && tellV b T q i)))), some (vI (nI i)), some (vI (nI jj9))] [] h 0 0) i (fun jj9 hkjj9 ihjj9 => ?_)) 0 (Nat.zero_le _)
    refine r_iload_n dX4_pairs_14 rfl ?_
    refine r_iload_n dX4_pairs_15 rfl ?_
    refine r_icmpN_ge (tgt := 75) dX4_pairs_16 rfl (by omega) (by omega) (fun c2 => ?_) (fun c2 => ?_)
    · --
      refine r_iincN (n := 1) dX4_pairs_75 rfl rfl (by decide) rfl ?_
      refine r_goto (tgt := 4) dX4_pairs_78 rfl ?_
      refine r_sub [some (vR aM), some (vI (sumOf i (fun p => sumOf p (fun q => b2i (tellV b T p q && tellV b T q p))) + sumOf jj9 (fun q => b2i (tellV b T i q && tellV b T q i)))), some (vI (nI (i + 1))), none] (And.intro rfl (And.intro rfl (And.intro rfl trivial))) ?_
      exact r_L (by rw [show jj9 = i by omega]; rfl) (ihi (by omega))
    · --
      refine r_iload_n dX4_pairs_19 rfl ?_
      refine r_aload_n dX4_pairs_20 rfl ?_
      refine r_iload_n dX4_pairs_21 rfl ?_
      refine r_callVx lX4_413 (c_byOf hm _) (hl.1) rfl rfl rfl rfl dX4_pairs_22 (Nat.le_refl _) (Nat.le_refl _) ?_
      refine r_aload_n dX4_pairs_25 rfl ?_
      refine r_iload_n dX4_pairs_26 rfl ?_
      refine r_callVx lX4_419 (c_toOf hm _) (hl.1) rfl rfl rfl rfl dX4_pairs_27 (Nat.le_refl _) (Nat.le_refl _) ?_
      refine r_iand dX4_pairs_30 ?_
      refine r_aload_n dX4_pairs_31 rfl ?_
      refine r_getRv fX4_88 (hl.1) (v := aAll) ((l_all hl).1) rfl dX4_pairs_32 ?_
      refine r_iconst (v := nI 1) dX4_pairs_35 (by decide) ?_
      refine r_ialdv ((l_all hl).2.1) ((l_all hl).2.2) (ix_n (by omega) (by decide)) (v := T (1)) (hT _ (by omega)) dX4_pairs_36 ?_
      refine r_iand dX4_pairs_37 ?_
      refine r_if_eq (tgt := 66) dX4_pairs_38 rfl (fun c3 => ?_) (fun c3 => ?_)
      · --
        refine r_iconst (v := nI 0) dX4_pairs_66 (by decide) ?_
        refine r_iadd dX4_pairs_67 ?_
        refine r_istore_n dX4_pairs_68 (by decide) rfl ?_
        refine r_iincN (n := 1) dX4_pairs_69 rfl rfl (by decide) rfl ?_
        refine r_goto (tgt := 14) dX4_pairs_72 rfl ?_
        exact r_L (by rw [sum2 (n := jj9) (f := fun q => b2i (tellV b T i q && tellV b T q i)) (by simp [tellV, *]; rfl)]; rfl) (ihjj9 (by omega))
      · --
        refine r_aload_n dX4_pairs_41 rfl ?_
        refine r_iload_n dX4_pairs_42 rfl ?_
        refine r_callVx lX4_413 (c_byOf hm _) (hl.1) rfl rfl rfl rfl dX4_pairs_43 (Nat.le_refl _) (Nat.le_refl _) ?_
        refine r_aload_n dX4_pairs_46 rfl ?_
        refine r_iload_n dX4_pairs_47 rfl ?_
        refine r_callVx lX4_419 (c_toOf hm _) (hl.1) rfl rfl rfl rfl dX4_pairs_48 (Nat.le_refl _) (Nat.le_refl _) ?_
        refine r_iand dX4_pairs_51 ?_
        refine r_aload_n dX4_pairs_52 rfl ?_
        refine r_getRv fX4_88 (hl.1) (v := aAll) ((l_all hl).1) rfl dX4_pairs_53 ?_
        refine r_iconst (v := nI 1) dX4_pairs_56 (by decide) ?_
        refine r_ialdv ((l_all hl).2.1) ((l_all hl).2.2) (ix_n (by omega) (by decide)) (v := T (1)) (hT _ (by omega)) dX4_pairs_57 ?_
        refine r_iand dX4_pairs_58 ?_
        refine r_if_eq (tgt := 66) dX4_pairs_59 rfl (fun c4 => ?_) (fun c4 => ?_)
        · --
          refine r_iconst (v := nI 0) dX4_pairs_66 (by decide) ?_
          refine r_iadd dX4_pairs_67 ?_
          refine r_istore_n dX4_pairs_68 (by decide) rfl ?_
          refine r_iincN (n := 1) dX4_pairs_69 rfl rfl (by decide) rfl ?_
          refine r_goto (tgt := 14) dX4_pairs_72 rfl ?_
          exact r_L (by rw [sum2 (n := jj9) (f := fun q => b2i (tellV b T i q && tellV b T q i)) (by simp [tellV, *]; rfl)]; rfl) (ihjj9 (by omega))
        · --
          refine r_iconst (v := nI 1) dX4_pairs_62 (by decide) ?_
          refine r_goto (tgt := 67) dX4_pairs_63 rfl ?_
          refine r_iadd dX4_pairs_67 ?_
          refine r_istore_n dX4_pairs_68 (by decide) rfl ?_
          refine r_iincN (n := 1) dX4_pairs_69 rfl rfl (by decide) rfl ?_
          refine r_goto (tgt := 14) dX4_pairs_72 rfl ?_
          exact r_L (by rw [sum2 (n := jj9) (f := fun q => b2i (tellV b T i q && tellV b T q i)) (by simp [tellV, *]; rfl)]; rfl) (ihjj9 (by omega))

theorem c_keepNow {G : ev_G} {h : ev_H} (hl : MLay h) {T : Nat → Int32} (hT : MT T h) : Called G mX4_keepNow 0 0 0 [vR aM] h (p0 (fun h1 => Fr [aKept] [] h h1 ∧ MK T h1)) := by
  refine called_of rfl [some (vR aM), none] rfl (Nat.le_of_ble_eq_true rfl) ?_
  refine r_iconst (v := nI 0) dX4_keepNow_0 (by decide) ?_
  refine r_istore_n dX4_keepNow_1 (by decide) rfl ?_
  refine (ev_for (P := fun i => ∀ h9 : ev_H, (Fr [aKept] [] h h9 ∧ ∀ j, j < i → hI h9 aKept j = T j) → Ev G mX4_keepNow (ev_room 0 0 0) (ev_MQ G (p0 (fun h1 => Fr [aKept] [] h h1 ∧ MK T h1)) 0 0) 2 [some (vR aM), some (vI (nI i))] [] h9 0 0) 19 (fun i hki ihi h9 qh9 => ?_)) 0 (Nat.zero_le _) _ (⟨Fr.rf, fun j hj => absurd hj (by omega)⟩)
  obtain ⟨f9, e9⟩ := qh9
  have hl9 := f9.lay hl
  have hT9 := hT.fr f9 (by decide)
  refine r_iload_n dX4_keepNow_2 rfl ?_
  refine r_bipush (v := nI 19) dX4_keepNow_3 (by decide) ?_
  refine r_icmpN_ge (tgt := 26) dX4_keepNow_5 rfl (by omega) (by omega) (fun c1 => ?_) (fun c1 => ?_)
  · --
    exact r_retv dX4_keepNow_26 rfl (Nat.le_refl _) (Nat.le_refl _) (⟨f9, fun j hj => e9 j (by omega)⟩)
  · --
    refine r_aload_n dX4_keepNow_8 rfl ?_
    refine r_getRv fX4_97 (hl9.1) (v := aKept) ((l_kept hl9).1) rfl dX4_keepNow_9 ?_
    refine r_iload_n dX4_keepNow_12 rfl ?_
    refine r_aload_n dX4_keepNow_13 rfl ?_
    refine r_getRv fX4_88 (hl9.1) (v := aAll) ((l_all hl9).1) rfl dX4_keepNow_14 ?_
    refine r_iload_n dX4_keepNow_17 rfl ?_
    refine r_ialdv ((l_all hl9).2.1) ((l_all hl9).2.2) (ix_n (by omega) (by decide)) (v := T (i)) (hT9 _ (by omega)) dX4_keepNow_18 ?_
    refine r_iastv ((l_kept hl9).2.1) (by decide) ((l_kept hl9).2.2) (ix_n (by omega) (by decide)) dX4_keepNow_19 ?_
    refine r_iincN (n := 1) dX4_keepNow_20 rfl rfl (by decide) rfl ?_
    refine r_goto (tgt := 2) dX4_keepNow_23 rfl ?_
    exact ihi (by omega) _ (⟨f9.sa _ _ _ (by decide), cp_step e9 rfl⟩)

theorem c_bringBack {G : ev_G} {h : ev_H} (hl : MLay h) {K : Nat → Int32} (hK9 : MK K h) : Called G mX4_bringBack 0 0 0 [vR aM] h (p0 (fun h1 => Fr [aAll] [] h h1 ∧ MT K h1)) := by
  refine called_of rfl [some (vR aM), none] rfl (Nat.le_of_ble_eq_true rfl) ?_
  refine r_iconst (v := nI 0) dX4_bringBack_0 (by decide) ?_
  refine r_istore_n dX4_bringBack_1 (by decide) rfl ?_
  refine (ev_for (P := fun i => ∀ h9 : ev_H, (Fr [aAll] [] h h9 ∧ ∀ j, j < i → hI h9 aAll j = K j) → Ev G mX4_bringBack (ev_room 0 0 0) (ev_MQ G (p0 (fun h1 => Fr [aAll] [] h h1 ∧ MT K h1)) 0 0) 2 [some (vR aM), some (vI (nI i))] [] h9 0 0) 19 (fun i hki ihi h9 qh9 => ?_)) 0 (Nat.zero_le _) _ (⟨Fr.rf, fun j hj => absurd hj (by omega)⟩)
  obtain ⟨f9, e9⟩ := qh9
  have hl9 := f9.lay hl
  have hKZ := hK9.fr f9 (by decide)
  refine r_iload_n dX4_bringBack_2 rfl ?_
  refine r_bipush (v := nI 19) dX4_bringBack_3 (by decide) ?_
  refine r_icmpN_ge (tgt := 26) dX4_bringBack_5 rfl (by omega) (by omega) (fun c1 => ?_) (fun c1 => ?_)
  · --
    exact r_retv dX4_bringBack_26 rfl (Nat.le_refl _) (Nat.le_refl _) (⟨f9, fun j hj => e9 j (by omega)⟩)
  · --
    refine r_aload_n dX4_bringBack_8 rfl ?_
    refine r_getRv fX4_88 (hl9.1) (v := aAll) ((l_all hl9).1) rfl dX4_bringBack_9 ?_
    refine r_iload_n dX4_bringBack_12 rfl ?_
    refine r_aload_n dX4_bringBack_13 rfl ?_
    refine r_getRv fX4_97 (hl9.1) (v := aKept) ((l_kept hl9).1) rfl dX4_bringBack_14 ?_
    refine r_iload_n dX4_bringBack_17 rfl ?_
    refine r_ialdv ((l_kept hl9).2.1) ((l_kept hl9).2.2) (ix_n (by omega) (by decide)) (v := K (i)) (hKZ _ (by omega)) dX4_bringBack_18 ?_
    refine r_iastv ((l_all hl9).2.1) (by decide) ((l_all hl9).2.2) (ix_n (by omega) (by decide)) dX4_bringBack_19 ?_
    refine r_iincN (n := 1) dX4_bringBack_20 rfl rfl (by decide) rfl ?_
    refine r_goto (tgt := 2) dX4_bringBack_23 rfl ?_
    exact ihi (by omega) _ (⟨f9.sa _ _ _ (by decide), cp_step e9 rfl⟩)

theorem c_worthTo {G : ev_G} {b : Bk} {k : Nat} {h : ev_H} (hm : MB b k h) (p set : Int32) : Called G mX4_worthTo 2 0 0 [vR aM, vI p, vI set] h (px (vI (worthV b p set)) h) := by
  have hl := hm.lay
  have hk2 := hm.k2
  have hb := hm.bw
  have hb1 := hb.p6
  have hb2 := hb.s5
  have hb3 := hb.t10
  refine called_of rfl [some (vR aM), some (vI p), some (vI set)] rfl (Nat.le_of_ble_eq_true rfl) ?_
  refine r_aload_n dX4_worthTo_0 rfl ?_
  refine r_iload_n dX4_worthTo_1 rfl ?_
  refine r_aload_n dX4_worthTo_2 rfl ?_
  refine r_iload_n dX4_worthTo_3 rfl ?_
  refine r_callVx lX4_419 (c_toOf hm _) (hl.1) rfl rfl rfl rfl dX4_worthTo_4 (Nat.le_refl _) (Nat.le_refl _) ?_
  refine r_iand dX4_worthTo_7 ?_
  refine r_callVx lX4_348 (c_heatOf hm _) (hl.1) rfl rfl rfl rfl dX4_worthTo_8 (Nat.le_refl _) (Nat.le_refl _) ?_
  refine r_aload_n dX4_worthTo_11 rfl ?_
  refine r_iload_n dX4_worthTo_12 rfl ?_
  refine r_aload_n dX4_worthTo_13 rfl ?_
  refine r_iload_n dX4_worthTo_14 rfl ?_
  refine r_callVx lX4_413 (c_byOf hm _) (hl.1) rfl rfl rfl rfl dX4_worthTo_15 (Nat.le_refl _) (Nat.le_refl _) ?_
  refine r_iand dX4_worthTo_18 ?_
  refine r_callVx lX4_348 (c_heatOf hm _) (hl.1) rfl rfl rfl rfl dX4_worthTo_19 (Nat.le_refl _) (Nat.le_refl _) ?_
  refine r_isub dX4_worthTo_22 ?_
  exact r_retx dX4_worthTo_23 rfl rfl (rfl)

theorem c_gain {G : ev_G} {b : Bk} {k : Nat} {h : ev_H} (hm : MB b k h) {T : Nat → Int32} (hT : MT T h) (hth : hI h aM 43 = -1) (p : Int32) : Called G mX4_gain 9 0 0 [vR aM, vI p] h (pI (fun y h1 => y = gainV b T p ∧ Fr [aPile, aAll] [39, 40, 41] h h1 ∧ MT T h1)) := by
  have hl := hm.lay
  have hk2 := hm.k2
  have hb := hm.bw
  have hb1 := hb.p6
  have hb2 := hb.s5
  have hb3 := hb.t10
  have f : Fr [aPile, aAll] [39, 40, 41] h h := Fr.rf
  refine called_of rfl [some (vR aM), some (vI p)] rfl (Nat.le_of_ble_eq_true rfl) ?_
  refine r_aload_n dX4_gain_0 rfl ?_
  refine r_iload_n dX4_gain_1 rfl ?_
  refine r_callVx lX4_410 (c_isPerson hm _) (hl.1) rfl rfl rfl rfl dX4_gain_2 (Nat.le_refl _) (Nat.le_refl _) ?_
  refine r_ifB_eq (tgt := 35) dX4_gain_5 rfl (fun c1 => ?_) (fun c1 => ?_)
  · --
    refine r_iconst (v := (-1)) dX4_gain_35 (by decide) ?_
    exact r_reti dX4_gain_36 rfl rfl (Nat.le_refl _) (Nat.le_refl _) ⟨by simp [gainV, *], f, hT⟩
  · --
    obtain ⟨j, hj, rfl⟩ := perV_ok hb c1
    refine r_aload_n dX4_gain_8 rfl ?_
    refine r_aload_n dX4_gain_9 rfl ?_
    refine r_aload_n dX4_gain_10 rfl ?_
    refine r_getRv fX4_88 (hl.1) (v := aAll) ((l_all hl).1) rfl dX4_gain_11 ?_
    refine r_iconst (v := nI 0) dX4_gain_14 (by decide) ?_
    refine r_ialdv ((l_all hl).2.1) ((l_all hl).2.2) (ix_n (by omega) (by decide)) (v := T (0)) (hT _ (by omega)) dX4_gain_15 ?_
    refine r_iconst (v := nI 1) dX4_gain_16 (by decide) ?_
    refine r_iload_n dX4_gain_17 rfl ?_
    refine r_ishl dX4_gain_18 ?_
    refine r_top (one j) rfl ?_
    refine r_ior dX4_gain_19 ?_
    refine r_callVi lX4_449 (c_saidWith hm hT hth ((T (0)) ||| (one j))) (hl.1) rfl rfl rfl rfl dX4_gain_20 (Nat.le_refl _) (Nat.le_refl _) (fun y9 hZ1 q9 => ?_)
    obtain ⟨rfl, gZ1, hTZ1⟩ := q9
    have fZ1 := f.tr (gZ1.wk (by simp) (by simp))
    have hmZ1 := hm.fr gZ1 rfl
    have hlZ1 := hmZ1.lay
    refine r_aload_n dX4_gain_23 rfl ?_
    refine r_iload_n dX4_gain_24 rfl ?_
    refine r_callVx lX4_419 (c_toOf hmZ1 _) (hlZ1.1) rfl rfl rfl rfl dX4_gain_25 (Nat.le_refl _) (Nat.le_refl _) ?_
    refine r_iand dX4_gain_28 ?_
    refine r_callVx lX4_348 (c_heatOf hmZ1 _) (hlZ1.1) rfl rfl rfl rfl dX4_gain_29 (Nat.le_refl _) (Nat.le_refl _) ?_
    refine r_goto (tgt := 36) dX4_gain_32 rfl ?_
    exact r_reti dX4_gain_36 rfl rfl (Nat.le_refl _) (Nat.le_refl _) ⟨by rw [gainV, if_pos (by assumption)]; rfl, fZ1, hTZ1⟩

theorem c_mute {G : ev_G} {b : Bk} {k : Nat} {h : ev_H} (hm : MB b k h) {T : Nat → Int32} (hT : MT T h) (hth : hI h aM 43 = -1) : Called G mX4_mute 9 0 0 [vR aM] h (pI (fun y h1 => y = muteV b T ∧ Fr [aPile, aAll] [39, 40, 41] h h1 ∧ MT T h1)) := by
  have hl := hm.lay
  have hk2 := hm.k2
  have hb := hm.bw
  have hb1 := hb.p6
  have hb2 := hb.s5
  have hb3 := hb.t10
  have f : Fr [aPile, aAll] [39, 40, 41] h h := Fr.rf
  have hp2 := p2_6 hb1
  have ho2 : one (nP b) = nI (2 ^ nP b) := one_n (by omega)
  refine called_of rfl [some (vR aM), none, none] rfl (Nat.le_of_ble_eq_true rfl) ?_
  refine r_aload_n dX4_mute_0 rfl ?_
  refine r_callVx lX4_416 (c_keptNow hm hT) (hl.1) rfl rfl rfl rfl dX4_mute_1 (Nat.le_refl _) (Nat.le_refl _) ?_
  refine r_istore_n dX4_mute_4 (by decide) rfl ?_
  refine r_iconst (v := nI 0) dX4_mute_5 (by decide) ?_
  refine r_istore_n dX4_mute_6 (by decide) rfl ?_
  refine (ev_for (P := fun i => ∀ hL : ev_H, (Fr [aPile, aAll] [39, 40, 41] h hL ∧ MT T hL) → Ev G mX4_mute (ev_room 9 0 0) (ev_MQ G (pI (fun y h1 => y = muteV b T ∧ Fr [aPile, aAll] [39, 40, 41] h h1 ∧ MT T h1)) 0 0) 7 [some (vR aM), some (vI (andNot i (fun who => saidW b T (nI who)) (keptV b T))), some (vI (nI i))] [] hL 0 0) (2 ^ nP b) (fun i hki ihi hL qhL => ?_)) 0 (Nat.zero_le _) _ (⟨f, hT⟩)
  obtain ⟨fL, hTL⟩ := qhL
  have hmL := hm.fr fL rfl
  have hlL := hmL.lay
  refine r_iload_n dX4_mute_7 rfl ?_
  refine r_iconst (v := nI 1) dX4_mute_8 (by decide) ?_
  refine r_aload_n dX4_mute_9 rfl ?_
  refine r_callVx lX4_358 (c_folk hmL) (hlL.1) rfl rfl rfl rfl dX4_mute_10 (Nat.le_refl _) (Nat.le_refl _) ?_
  refine r_ishl dX4_mute_13 ?_
  refine r_top (nI (2 ^ nP b)) (ho2) ?_
  refine r_icmpN_ge (tgt := 33) dX4_mute_14 rfl (by omega) (by omega) (fun c1 => ?_) (fun c1 => ?_)
  · --
    refine r_iload_n dX4_mute_33 rfl ?_
    exact r_reti dX4_mute_34 rfl rfl (Nat.le_refl _) (Nat.le_refl _) ⟨congrArg (fun n => andNot n _ _) (by omega), fL, hTL⟩
  · --
    refine r_iload_n dX4_mute_17 rfl ?_
    refine r_aload_n dX4_mute_18 rfl ?_
    refine r_iload_n dX4_mute_19 rfl ?_
    refine r_callVi lX4_449 (c_saidWith hmL hTL ((fL.fld 43 (by decide) (by decide)).trans hth) (nI i)) (hlL.1) rfl rfl rfl rfl dX4_mute_20 (Nat.le_refl _) (Nat.le_refl _) (fun y9 hZ1 q9 => ?_)
    obtain ⟨rfl, gZ1, hTZ1⟩ := q9
    have fZ1 := fL.tr (gZ1.wk (by simp) (by simp))
    have hmZ1 := hmL.fr gZ1 rfl
    have hlZ1 := hmZ1.lay
    refine r_iconst (v := (-1)) dX4_mute_23 (by decide) ?_
    refine r_ixor dX4_mute_24 ?_
    refine r_iand dX4_mute_25 ?_
    refine r_istore_n dX4_mute_26 (by decide) rfl ?_
    refine r_iincN (n := 1) dX4_mute_27 rfl rfl (by decide) rfl ?_
    refine r_goto (tgt := 7) dX4_mute_30 rfl ?_
    exact ihi (by omega) _ (⟨fZ1, hTZ1⟩)

theorem c_canChange {G : ev_G} {b : Bk} {k : Nat} {h : ev_H} (hm : MB b k h) {T : Nat → Int32} (hT : MT T h) {t o : Nat} (ht : t < nT b) (ho : o < nT b) : Called G mX4_canChange 2 0 0 [vR aM, vI (nI t), vI (nI o)] h (px (vI (b2i (chgV T t o))) h) := by
  have hl := hm.lay
  have hk2 := hm.k2
  have hb := hm.bw
  have hb1 := hb.p6
  have hb2 := hb.s5
  have hb3 := hb.t10
  refine called_of rfl [some (vR aM), some (vI (nI t)), some (vI (nI o))] rfl (Nat.le_of_ble_eq_true rfl) ?_
  refine r_aload_n dX4_canChange_0 rfl ?_
  refine r_iload_n dX4_canChange_1 rfl ?_
  refine r_callVx lX4_386 (c_isStill hm hT (t := t)) (hl.1) rfl rfl rfl rfl dX4_canChange_2 (Nat.le_refl _) (Nat.le_refl _) ?_
  refine r_ifB_eq (tgt := 61) dX4_canChange_5 rfl (fun c1 => ?_) (fun c1 => ?_)
  · --
    refine r_iconst (v := nI 0) dX4_canChange_61 (by decide) ?_
    exact r_ret0 dX4_canChange_62 rfl (by simp [chgV, *])
  · --
    refine r_aload_n dX4_canChange_8 rfl ?_
    refine r_iload_n dX4_canChange_9 rfl ?_
    refine r_callVx lX4_386 (c_isStill hm hT (t := o)) (hl.1) rfl rfl rfl rfl dX4_canChange_10 (Nat.le_refl _) (Nat.le_refl _) ?_
    refine r_ifB_eq (tgt := 61) dX4_canChange_13 rfl (fun c2 => ?_) (fun c2 => ?_)
    · --
      refine r_iconst (v := nI 0) dX4_canChange_61 (by decide) ?_
      exact r_ret0 dX4_canChange_62 rfl (by simp [chgV, *])
    · --
      refine r_aload_n dX4_canChange_16 rfl ?_
      refine r_getRv fX4_88 (hl.1) (v := aAll) ((l_all hl).1) rfl dX4_canChange_17 ?_
      refine r_iconst (v := nI 2) dX4_canChange_20 (by decide) ?_
      refine r_iload_n dX4_canChange_21 rfl ?_
      refine r_iadd dX4_canChange_22 ?_
      refine r_top (nI (2 + t)) (nI_add _ _) ?_
      refine r_ialdv ((l_all hl).2.1) ((l_all hl).2.2) (ix_n (by omega) (by decide)) (v := T (2 + t)) (hT _ (by omega)) dX4_canChange_23 ?_
      refine r_if_lt (tgt := 61) dX4_canChange_24 rfl (fun c3 => ?_) (fun c3 => ?_)
      · --
        refine r_iconst (v := nI 0) dX4_canChange_61 (by decide) ?_
        exact r_ret0 dX4_canChange_62 rfl (by simp [chgV, *])
      · --
        refine r_aload_n dX4_canChange_27 rfl ?_
        refine r_getRv fX4_88 (hl.1) (v := aAll) ((l_all hl).1) rfl dX4_canChange_28 ?_
        refine r_iconst (v := nI 2) dX4_canChange_31 (by decide) ?_
        refine r_iload_n dX4_canChange_32 rfl ?_
        refine r_iadd dX4_canChange_33 ?_
        refine r_top (nI (2 + o)) (nI_add _ _) ?_
        refine r_ialdv ((l_all hl).2.1) ((l_all hl).2.2) (ix_n (by omega) (by decide)) (v := T (2 + o)) (hT _ (by omega)) dX4_canChange_34 ?_
        refine r_if_lt (tgt := 61) dX4_canChange_35 rfl (fun c4 => ?_) (fun c4 => ?_)
        · --
          refine r_iconst (v := nI 0) dX4_canChange_61 (by decide) ?_
          exact r_ret0 dX4_canChange_62 rfl (by simp [chgV, *])
        · --
          refine r_aload_n dX4_canChange_38 rfl ?_
          refine r_getRv fX4_88 (hl.1) (v := aAll) ((l_all hl).1) rfl dX4_canChange_39 ?_
          refine r_iconst (v := nI 2) dX4_canChange_42 (by decide) ?_
          refine r_iload_n dX4_canChange_43 rfl ?_
          refine r_iadd dX4_canChange_44 ?_
          refine r_top (nI (2 + t)) (nI_add _ _) ?_
          refine r_ialdv ((l_all hl).2.1) ((l_all hl).2.2) (ix_n (by omega) (by decide)) (v := T (2 + t)) (hT _ (by omega)) dX4_canChange_45 ?_
          refine r_aload_n dX4_canChange_46 rfl ?_
          refine r_getRv fX4_88 (hl.1) (v := aAll) ((l_all hl).1) rfl dX4_canChange_47 ?_
          refine r_iconst (v := nI 2) dX4_canChange_50 (by decide) ?_
          refine r_iload_n dX4_canChange_51 rfl ?_
          refine r_iadd dX4_canChange_52 ?_
          refine r_top (nI (2 + o)) (nI_add _ _) ?_
          refine r_ialdv ((l_all hl).2.1) ((l_all hl).2.2) (ix_n (by omega) (by decide)) (v := T (2 + o)) (hT _ (by omega)) dX4_canChange_53 ?_
          refine r_icmp_eq (tgt := 61) dX4_canChange_54 rfl (fun c5 => ?_) (fun c5 => ?_)
          · --
            refine r_iconst (v := nI 0) dX4_canChange_61 (by decide) ?_
            exact r_ret0 dX4_canChange_62 rfl (by simp [chgV, *])
          · --
            refine r_iconst (v := nI 1) dX4_canChange_57 (by decide) ?_
            refine r_goto (tgt := 62) dX4_canChange_58 rfl ?_
            exact r_ret1 dX4_canChange_62 rfl (by simp [chgV, *])
