/-! ===== THE REFERENCE: blend, after, shyest (walks by program) ===== -/
set_option maxRecDepth 100000

theorem c_blend {G : ev_G} {b : Bk} {k : Nat} {h : ev_H} (hm : MB b k h) {T : Nat → Int32} (hT : MT T h) (hth : hI h aM 43 = -1) (p o : Int32) : Called G mX4_blend 8 0 0 [vR aM, vI p, vI o] h (pI (fun y h1 => y = blendV b T p o ∧ Fr [aPile, aAll, aKept] [39, 40, 41] h h1 ∧ MT T h1)) := by
  have hl := hm.lay
  have hk2 := hm.k2
  have hb := hm.bw
  have hb1 := hb.p6
  have hb2 := hb.s5
  have hb3 := hb.t10
  have f : Fr [aPile, aAll, aKept] [39, 40, 41] h h := Fr.rf
  refine called_of rfl [some (vR aM), some (vI p), some (vI o), none] rfl (Nat.le_of_ble_eq_true rfl) ?_
  refine r_aload_n dX4_blend_0 rfl ?_
  refine r_iload_n dX4_blend_1 rfl ?_
  refine r_callVx lX4_425 (c_isSack hm _) (hl.1) rfl rfl rfl rfl dX4_blend_2 (Nat.le_refl _) (Nat.le_refl _) ?_
  refine r_ifB_eq (tgt := 21) dX4_blend_5 rfl (fun c1 => ?_) (fun c1 => ?_)
  · --
    refine r_iconst (v := (-1)) dX4_blend_21 (by decide) ?_
    exact r_reti dX4_blend_22 rfl rfl (Nat.le_refl _) (Nat.le_refl _) ⟨by rw [blendV, if_neg (by simp [c1])], f, hT⟩
  · --
    obtain ⟨j, hj, rfl⟩ := sakV_ok hb c1
    refine r_aload_n dX4_blend_8 rfl ?_
    refine r_iload_n dX4_blend_9 rfl ?_
    refine r_callVx lX4_425 (c_isSack hm _) (hl.1) rfl rfl rfl rfl dX4_blend_10 (Nat.le_refl _) (Nat.le_refl _) ?_
    refine r_ifB_eq (tgt := 21) dX4_blend_13 rfl (fun c2 => ?_) (fun c2 => ?_)
    · --
      refine r_iconst (v := (-1)) dX4_blend_21 (by decide) ?_
      exact r_reti dX4_blend_22 rfl rfl (Nat.le_refl _) (Nat.le_refl _) ⟨by rw [blendV, if_neg (by simp [c1, c2])], f, hT⟩
    · --
      obtain ⟨jo, hjo, rfl⟩ := sakV_ok hb c2
      refine r_iload_n dX4_blend_16 rfl ?_
      refine r_iload_n dX4_blend_17 rfl ?_
      refine r_icmp_ne (tgt := 23) dX4_blend_18 rfl (fun c3 => ?_) (fun c3 => ?_)
      · --
        refine r_aload_n dX4_blend_23 rfl ?_
        refine r_callVv lX4_458 (c_keepNow hl hT) (hl.1) rfl rfl rfl rfl dX4_blend_24 (Nat.le_refl _) (Nat.le_refl _) (fun hZ1 q9 => ?_)
        obtain ⟨gZ1, hKK⟩ := q9
        have fZ1 := f.tr (gZ1.wk (by simp) (by simp))
        have hmZ1 := hm.fr gZ1 rfl
        have hTZ1 := hT.fr gZ1 (by decide)
        have hlZ1 := hmZ1.lay
        refine r_iconst (v := nI 0) dX4_blend_27 (by decide) ?_
        refine r_istore_n dX4_blend_28 (by decide) rfl ?_
        refine (ev_for (P := fun i => ∀ hL : ev_H, (Fr [aPile, aAll, aKept] [39, 40, 41] h hL ∧ MT (blT T (nI jo) (nI j) i) hL ∧ MK T hL) → Ev G mX4_blend (ev_room 8 0 0) (ev_MQ G (pI (fun y h1 => y = blendV b T (nI j) (nI jo) ∧ Fr [aPile, aAll, aKept] [39, 40, 41] h h1 ∧ MT T h1)) 0 0) 29 [some (vR aM), some (vI (nI j)), some (vI (nI jo)), some (vI (nI i))] [] hL 0 0) (nT b) (fun i hki ihi hL qhL => ?_)) 0 (Nat.zero_le _) _ (⟨fZ1, blT_0.symm ▸ hTZ1, hKK⟩)
        obtain ⟨fL, hTL, hKL⟩ := qhL
        have hmL := hm.fr fL rfl
        have hlL := hmL.lay
        refine r_iload_n dX4_blend_29 rfl ?_
        refine r_aload_n dX4_blend_30 rfl ?_
        refine r_callVx lX4_368 (c_many hmL) (hlL.1) rfl rfl rfl rfl dX4_blend_31 (Nat.le_refl _) (Nat.le_refl _) ?_
        refine r_icmpN_ge (tgt := 72) dX4_blend_34 rfl (by omega) (by omega) (fun c4 => ?_) (fun c4 => ?_)
        · --
          refine r_aload_n dX4_blend_72 rfl ?_
          refine r_iload_n dX4_blend_73 rfl ?_
          refine r_callVi lX4_407 (c_wouldOf hmL hTL (s := j) (by omega) ((fL.fld 43 (by decide) (by decide)).trans hth)) (hlL.1) rfl rfl rfl rfl dX4_blend_74 (Nat.le_refl _) (Nat.le_refl _) (fun y9 hZ2 q9 => ?_)
          obtain ⟨rfl, gZ2⟩ := q9
          have fZ2 := fL.tr (gZ2.wk (by simp) (by simp))
          have hmZ2 := hmL.fr gZ2 rfl
          have hTZ2 := hTL.fr gZ2 (by decide)
          have hlZ2 := hmZ2.lay
          refine r_callSx lX4_339 (c_bitsOf _) rfl rfl rfl rfl dX4_blend_77 (Nat.le_refl _) (Nat.le_refl _) ?_
          refine r_istore_n dX4_blend_80 (by decide) rfl ?_
          refine r_aload_n dX4_blend_81 rfl ?_
          refine r_callVv lX4_464 (c_bringBack hlZ2 (K := T) (hKL.fr gZ2 (by decide))) (hlZ2.1) rfl rfl rfl rfl dX4_blend_82 (Nat.le_refl _) (Nat.le_refl _) (fun hZ3 q9 => ?_)
          obtain ⟨gZ3, hTZ3⟩ := q9
          have fZ3 := fZ2.tr (gZ3.wk (by simp) (by simp))
          have hmZ3 := hmZ2.fr gZ3 rfl
          have hlZ3 := hmZ3.lay
          refine r_iload_n dX4_blend_85 rfl ?_
          exact r_reti dX4_blend_86 rfl rfl (Nat.le_refl _) (Nat.le_refl _) ⟨by rw [blendV, if_pos (by simp [c1, c2, c3]), nI_clamp (by omega)]; exact congrArg (fun n => popc (outV b (blT T (nI jo) (nI j) n) j)) (by omega), fZ3, hTZ3⟩
        · --
          refine r_aload_n dX4_blend_37 rfl ?_
          refine r_iload_n dX4_blend_38 rfl ?_
          refine r_callVx lX4_386 (c_isStill hmL hTL (t := i)) (hlL.1) rfl rfl rfl rfl dX4_blend_39 (Nat.le_refl _) (Nat.le_refl _) ?_
          refine r_ifB_eq (tgt := 66) dX4_blend_42 rfl (fun c5 => ?_) (fun c5 => ?_)
          · --
            refine r_iincN (n := 1) dX4_blend_66 rfl rfl (by decide) rfl ?_
            refine r_goto (tgt := 29) dX4_blend_69 rfl ?_
            exact ihi (by omega) _ (⟨fL, (blT_f (Or.inl (blT_st.symm.trans c5))) ▸ hTL, hKL⟩)
          · --
            refine r_aload_n dX4_blend_45 rfl ?_
            refine r_getRv fX4_88 (hlL.1) (v := aAll) ((l_all hlL).1) rfl dX4_blend_46 ?_
            refine r_iconst (v := nI 2) dX4_blend_49 (by decide) ?_
            refine r_iload_n dX4_blend_50 rfl ?_
            refine r_iadd dX4_blend_51 ?_
            refine r_top (nI (2 + i)) (nI_add _ _) ?_
            refine r_ialdv ((l_all hlL).2.1) ((l_all hlL).2.2) (ix_n (by omega) (by decide)) (v := (blT T (nI jo) (nI j) i) (2 + i)) (hTL _ (by omega)) dX4_blend_52 ?_
            refine r_iload_n dX4_blend_53 rfl ?_
            refine r_icmp_ne (tgt := 66) dX4_blend_54 rfl (fun c6 => ?_) (fun c6 => ?_)
            · --
              refine r_iincN (n := 1) dX4_blend_66 rfl rfl (by decide) rfl ?_
              refine r_goto (tgt := 29) dX4_blend_69 rfl ?_
              exact ihi (by omega) _ (⟨fL, (blT_f (Or.inr (fun z => c6 (blT_at.trans z)))) ▸ hTL, hKL⟩)
            · --
              refine r_aload_n dX4_blend_57 rfl ?_
              refine r_getRv fX4_88 (hlL.1) (v := aAll) ((l_all hlL).1) rfl dX4_blend_58 ?_
              refine r_iconst (v := nI 2) dX4_blend_61 (by decide) ?_
              refine r_iload_n dX4_blend_62 rfl ?_
              refine r_iadd dX4_blend_63 ?_
              refine r_top (nI (2 + i)) (nI_add _ _) ?_
              refine r_iload_n dX4_blend_64 rfl ?_
              refine r_iastv ((l_all hlL).2.1) (by decide) ((l_all hlL).2.2) (ix_n (by omega) (by decide)) dX4_blend_65 ?_
              have gZ4 : Fr [aAll] [] hL (sI hL aAll (2 + i) (nI j)) := Fr.rf.sa aAll (2 + i) (nI j) (by decide)
              have hTZ4 : MT (u1 (blT T (nI jo) (nI j) i) (2 + i) (nI j)) (sI hL aAll (2 + i) (nI j)) := hTL.up (2 + i) (nI j)
              have hmZ4 : MB b k (sI hL aAll (2 + i) (nI j)) := hmL.fr gZ4 rfl
              have fZ4 : Fr [aPile, aAll, aKept] [39, 40, 41] h (sI hL aAll (2 + i) (nI j)) := fL.tr (gZ4.wk (by simp) (by simp))
              generalize sI hL aAll (2 + i) (nI j) = hZ4 at gZ4 hTZ4 hmZ4 fZ4 ⊢
              have hlZ4 := hmZ4.lay
              refine r_iincN (n := 1) dX4_blend_66 rfl rfl (by decide) rfl ?_
              refine r_goto (tgt := 29) dX4_blend_69 rfl ?_
              exact ihi (by omega) _ (⟨fZ4, (blT_t (s := nI j) (blT_st.symm.trans c5) (blT_at.symm.trans c6)) ▸ hTZ4, hKL.fr gZ4 (by decide)⟩)
      · --
        refine r_iconst (v := (-1)) dX4_blend_21 (by decide) ?_
        exact r_reti dX4_blend_22 rfl rfl (Nat.le_refl _) (Nat.le_refl _) ⟨by rw [blendV, if_neg (by simp [c1, c2, c3])], f, hT⟩

theorem c_after {G : ev_G} {b : Bk} {k : Nat} {h : ev_H} (hm : MB b k h) {T : Nat → Int32} (hT : MT T h) (hth : hI h aM 43 = -1) (hw : TW b T) (p : Int32) : Called G mX4_after 8 0 0 [vR aM, vI p] h (pI (fun y h1 => y = afterV b T p ∧ Fr [aPile, aAll, aKept] [39, 40, 41] h h1 ∧ MT T h1)) := by
  have hl := hm.lay
  have hk2 := hm.k2
  have hb := hm.bw
  have hb1 := hb.p6
  have hb2 := hb.s5
  have hb3 := hb.t10
  have f : Fr [aPile, aAll, aKept] [39, 40, 41] h h := Fr.rf
  refine called_of rfl [some (vR aM), some (vI p), none, none] rfl (Nat.le_of_ble_eq_true rfl) ?_
  refine r_aload_n dX4_after_0 rfl ?_
  refine r_iload_n dX4_after_1 rfl ?_
  refine r_callVx lX4_422 (c_isThing hm _) (hl.1) rfl rfl rfl rfl dX4_after_2 (Nat.le_refl _) (Nat.le_refl _) ?_
  refine r_ifB_eq (tgt := 27) dX4_after_5 rfl (fun c1 => ?_) (fun c1 => ?_)
  · --
    refine r_iconst (v := (-1)) dX4_after_27 (by decide) ?_
    exact r_reti dX4_after_28 rfl rfl (Nat.le_refl _) (Nat.le_refl _) ⟨by rw [afterV, if_neg (by simp [c1])], f, hT⟩
  · --
    obtain ⟨j, hj, rfl⟩ := thiV_ok hb c1
    refine r_aload_n dX4_after_8 rfl ?_
    refine r_iload_n dX4_after_9 rfl ?_
    refine r_callVx lX4_386 (c_isStill hm hT (t := j)) (hl.1) rfl rfl rfl rfl dX4_after_10 (Nat.le_refl _) (Nat.le_refl _) ?_
    refine r_ifB_eq (tgt := 27) dX4_after_13 rfl (fun c2 => ?_) (fun c2 => ?_)
    · --
      refine r_iconst (v := (-1)) dX4_after_27 (by decide) ?_
      exact r_reti dX4_after_28 rfl rfl (Nat.le_refl _) (Nat.le_refl _) ⟨by rw [afterV, nI_clamp (by omega), if_neg (by simp [c1, c2])], f, hT⟩
    · --
      refine r_aload_n dX4_after_16 rfl ?_
      refine r_getRv fX4_88 (hl.1) (v := aAll) ((l_all hl).1) rfl dX4_after_17 ?_
      refine r_iconst (v := nI 2) dX4_after_20 (by decide) ?_
      refine r_iload_n dX4_after_21 rfl ?_
      refine r_iadd dX4_after_22 ?_
      refine r_top (nI (2 + j)) (nI_add _ _) ?_
      refine r_ialdv ((l_all hl).2.1) ((l_all hl).2.2) (ix_n (by omega) (by decide)) (v := T (2 + j)) (hT _ (by omega)) dX4_after_23 ?_
      refine r_if_ge (tgt := 29) dX4_after_24 rfl (fun c3 => ?_) (fun c3 => ?_)
      · --
        obtain ⟨s, hs, es⟩ := hw.ins (t := j) (by omega) (Int32.not_lt.mpr c3)
        refine r_aload_n dX4_after_29 rfl ?_
        refine r_callVv lX4_458 (c_keepNow hl hT) (hl.1) rfl rfl rfl rfl dX4_after_30 (Nat.le_refl _) (Nat.le_refl _) (fun hZ1 q9 => ?_)
        obtain ⟨gZ1, hKK⟩ := q9
        have fZ1 := f.tr (gZ1.wk (by simp) (by simp))
        have hmZ1 := hm.fr gZ1 rfl
        have hTZ1 := hT.fr gZ1 (by decide)
        have hlZ1 := hmZ1.lay
        refine r_iconst (v := nI 0) dX4_after_33 (by decide) ?_
        refine r_istore_n dX4_after_34 (by decide) rfl ?_
        refine (ev_for (P := fun i => ∀ hL : ev_H, (Fr [aPile, aAll, aKept] [39, 40, 41] h hL ∧ MT (giT b T s i) hL ∧ MK T hL ∧ aftN b T s j (9 - i) i = aftN b T s j 9 0) → Ev G mX4_after (ev_room 8 0 0) (ev_MQ G (pI (fun y h1 => y = afterV b T (nI j) ∧ Fr [aPile, aAll, aKept] [39, 40, 41] h h1 ∧ MT T h1)) 0 0) 35 [some (vR aM), some (vI (nI j)), some (vI (nI i)), none] [] hL 0 0) 9 (fun i hki ihi hL qhL => ?_)) 0 (Nat.zero_le _) _ (⟨fZ1, hTZ1, hKK, rfl⟩)
        obtain ⟨fL, hTL, hKL, haf⟩ := qhL
        have hmL := hm.fr fL rfl
        have hlL := hmL.lay
        refine r_iload_n dX4_after_35 rfl ?_
        refine r_bipush (v := nI 9) dX4_after_36 (by decide) ?_
        refine r_icmpN_ge (tgt := 68) dX4_after_38 rfl (by omega) (by omega) (fun c4 => ?_) (fun c4 => ?_)
        · --
          refine r_aload_n dX4_after_68 rfl ?_
          refine r_iload_n dX4_after_69 rfl ?_
          refine r_callVx lX4_386 (c_isStill hmL hTL (t := j)) (hlL.1) rfl rfl rfl rfl dX4_after_70 (Nat.le_refl _) (Nat.le_refl _) ?_
          refine r_ifB_ne (tgt := 80) dX4_after_73 rfl (fun c5 => ?_) (fun c5 => ?_)
          · --
            refine r_iconst (v := nI 0) dX4_after_80 (by decide) ?_
            refine r_istore_n dX4_after_81 (by decide) rfl ?_
            refine r_aload_n dX4_after_82 rfl ?_
            refine r_callVv lX4_464 (c_bringBack hlL (K := T) hKL) (hlL.1) rfl rfl rfl rfl dX4_after_83 (Nat.le_refl _) (Nat.le_refl _) (fun hZ2 q9 => ?_)
            obtain ⟨gZ2, hTZ2⟩ := q9
            have fZ2 := fL.tr (gZ2.wk (by simp) (by simp))
            have hmZ2 := hmL.fr gZ2 rfl
            have hlZ2 := hmZ2.lay
            refine r_iload_n dX4_after_86 rfl ?_
            refine r_if_eq (tgt := 94) dX4_after_87 rfl (fun c6 => ?_) (fun c6 => ?_)
            · --
              refine r_iconst (v := (-1)) dX4_after_94 (by decide) ?_
              exact r_reti dX4_after_95 rfl rfl (Nat.le_refl _) (Nat.le_refl _) ⟨by rw [afterV, nI_clamp (by omega), if_pos (by simp [c1, c2, c3]), es, nI_clamp (by omega), ← haf]; have h9 : i = 9 := (by omega); subst h9; exact (congrArg optI (aft_9 c5)).symm, fZ2, hTZ2⟩
            · --
              exact absurd rfl c6
          · --
            refine r_iconst (v := nI 1) dX4_after_76 (by decide) ?_
            refine r_goto (tgt := 81) dX4_after_77 rfl ?_
            refine r_istore_n dX4_after_81 (by decide) rfl ?_
            refine r_aload_n dX4_after_82 rfl ?_
            refine r_callVv lX4_464 (c_bringBack hlL (K := T) hKL) (hlL.1) rfl rfl rfl rfl dX4_after_83 (Nat.le_refl _) (Nat.le_refl _) (fun hZ3 q9 => ?_)
            obtain ⟨gZ3, hTZ3⟩ := q9
            have fZ3 := fL.tr (gZ3.wk (by simp) (by simp))
            have hmZ3 := hmL.fr gZ3 rfl
            have hlZ3 := hmZ3.lay
            refine r_iload_n dX4_after_86 rfl ?_
            refine r_if_eq (tgt := 94) dX4_after_87 rfl (fun c7 => ?_) (fun c7 => ?_)
            · --
              exact absurd c7 (by decide)
            · --
              refine r_iload_n dX4_after_90 rfl ?_
              refine r_goto (tgt := 95) dX4_after_91 rfl ?_
              exact r_reti dX4_after_95 rfl rfl (Nat.le_refl _) (Nat.le_refl _) ⟨by rw [afterV, nI_clamp (by omega), if_pos (by simp [c1, c2, c3]), es, nI_clamp (by omega), ← haf]; exact (congrArg optI (aft_f c5 _)).symm, fZ3, hTZ3⟩
        · --
          refine r_aload_n dX4_after_41 rfl ?_
          refine r_iload_n dX4_after_42 rfl ?_
          refine r_callVx lX4_386 (c_isStill hmL hTL (t := j)) (hlL.1) rfl rfl rfl rfl dX4_after_43 (Nat.le_refl _) (Nat.le_refl _) ?_
          refine r_ifB_eq (tgt := 68) dX4_after_46 rfl (fun c8 => ?_) (fun c8 => ?_)
          · --
            refine r_aload_n dX4_after_68 rfl ?_
            refine r_iload_n dX4_after_69 rfl ?_
            refine r_callVx lX4_386 (c_isStill hmL hTL (t := j)) (hlL.1) rfl rfl rfl rfl dX4_after_70 (Nat.le_refl _) (Nat.le_refl _) ?_
            refine r_ifB_ne (tgt := 80) dX4_after_73 rfl (fun c9 => ?_) (fun c9 => ?_)
            · --
              refine r_iconst (v := nI 0) dX4_after_80 (by decide) ?_
              refine r_istore_n dX4_after_81 (by decide) rfl ?_
              refine r_aload_n dX4_after_82 rfl ?_
              refine r_callVv lX4_464 (c_bringBack hlL (K := T) hKL) (hlL.1) rfl rfl rfl rfl dX4_after_83 (Nat.le_refl _) (Nat.le_refl _) (fun hZ4 q9 => ?_)
              obtain ⟨gZ4, hTZ4⟩ := q9
              have fZ4 := fL.tr (gZ4.wk (by simp) (by simp))
              have hmZ4 := hmL.fr gZ4 rfl
              have hlZ4 := hmZ4.lay
              refine r_iload_n dX4_after_86 rfl ?_
              refine r_if_eq (tgt := 94) dX4_after_87 rfl (fun c10 => ?_) (fun c10 => ?_)
              · --
                refine r_iconst (v := (-1)) dX4_after_94 (by decide) ?_
                exact r_reti dX4_after_95 rfl rfl (Nat.le_refl _) (Nat.le_refl _) ⟨absurd (c8.symm.trans c9) (by decide), fZ4, hTZ4⟩
              · --
                exact absurd rfl c10
            · --
              refine r_iconst (v := nI 1) dX4_after_76 (by decide) ?_
              refine r_goto (tgt := 81) dX4_after_77 rfl ?_
              refine r_istore_n dX4_after_81 (by decide) rfl ?_
              refine r_aload_n dX4_after_82 rfl ?_
              refine r_callVv lX4_464 (c_bringBack hlL (K := T) hKL) (hlL.1) rfl rfl rfl rfl dX4_after_83 (Nat.le_refl _) (Nat.le_refl _) (fun hZ5 q9 => ?_)
              obtain ⟨gZ5, hTZ5⟩ := q9
              have fZ5 := fL.tr (gZ5.wk (by simp) (by simp))
              have hmZ5 := hmL.fr gZ5 rfl
              have hlZ5 := hmZ5.lay
              refine r_iload_n dX4_after_86 rfl ?_
              refine r_if_eq (tgt := 94) dX4_after_87 rfl (fun c11 => ?_) (fun c11 => ?_)
              · --
                exact absurd c11 (by decide)
              · --
                refine r_iload_n dX4_after_90 rfl ?_
                refine r_goto (tgt := 95) dX4_after_91 rfl ?_
                exact r_reti dX4_after_95 rfl rfl (Nat.le_refl _) (Nat.le_refl _) ⟨by rw [afterV, nI_clamp (by omega), if_pos (by simp [c1, c2, c3]), es, nI_clamp (by omega), ← haf]; exact (congrArg optI (aft_f c9 _)).symm, fZ5, hTZ5⟩
          · --
            refine r_aload_n dX4_after_49 rfl ?_
            refine r_aload_n dX4_after_50 rfl ?_
            refine r_getRv fX4_97 (hlL.1) (v := aKept) ((l_kept hlL).1) rfl dX4_after_51 ?_
            refine r_iconst (v := nI 2) dX4_after_54 (by decide) ?_
            refine r_iload_n dX4_after_55 rfl ?_
            refine r_iadd dX4_after_56 ?_
            refine r_top (nI (2 + j)) (nI_add _ _) ?_
            refine r_ialdv ((l_kept hlL).2.1) ((l_kept hlL).2.2) (ix_n (by omega) (by decide)) (v := nI s) ((hKL _ (by omega)).trans es) dX4_after_57 ?_
            refine r_callVi lX4_440 (c_goGrind hmL hTL ((fL.fld 43 (by decide) (by decide)).trans hth) (s := s) (by omega)) (hlL.1) rfl rfl rfl rfl dX4_after_58 (Nat.le_refl _) (Nat.le_refl _) (fun y9 hZ6 q9 => ?_)
            obtain ⟨rfl, gZ6, hTZ6⟩ := q9
            have fZ6 := fL.tr (gZ6.wk (by simp) (by simp))
            have hmZ6 := hmL.fr gZ6 rfl
            have hlZ6 := hmZ6.lay
            refine r_istore_n dX4_after_61 (by decide) rfl ?_
            refine r_iincN (n := 1) dX4_after_62 rfl rfl (by decide) rfl ?_
            refine r_goto (tgt := 35) dX4_after_65 rfl ?_
            refine r_sub [some (vR aM), some (vI (nI j)), some (vI (nI (i + 1))), none] (And.intro rfl (And.intro rfl (And.intro rfl trivial))) ?_
            exact ihi (by omega) _ (⟨fZ6, hTZ6, hKL.fr gZ6 (by decide), (aft_t (by omega) c8).symm.trans haf⟩)
      · --
        refine r_iconst (v := (-1)) dX4_after_27 (by decide) ?_
        exact r_reti dX4_after_28 rfl rfl (Nat.le_refl _) (Nat.le_refl _) ⟨by rw [afterV, nI_clamp (by omega), if_neg (by simp [c1, c2, c3])], f, hT⟩
