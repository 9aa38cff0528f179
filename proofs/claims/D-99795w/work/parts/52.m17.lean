/-! ===== THE REFERENCE: rows, sure, ask (walks by program) ===== -/
set_option maxRecDepth 100000

theorem c_rows {G : ev_G} {b : Bk} {k : Nat} {h : ev_H} (hm : MB b k h) {T : Nat → Int32} (hT : MT T h) (hth : hI h aM 43 = -1) {R : HR} {nh : Nat} (hnh : hI h aM 60 = nI nh) (hn30 : nh ≤ 30) (hS : MS R h) (hR : ∀ n, n < nh → ∃ s, s < nS b ∧ R.s n = nI s) (k9 : Int32) : Called G mX4_rows 9 0 0 [vR aM, vI k9] h (pI (fun y h1 => y = nI (rfN (rfV b R nh k9) (nRow b)) ∧ Fr [aPile, aAll, aKept, aManyBy, aParts] [39, 40, 41, 62] h h1 ∧ MT T h1)) := by
  have hl := hm.lay
  have hk2 := hm.k2
  have hb := hm.bw
  have hb1 := hb.p6
  have hb2 := hb.s5
  have hb3 := hb.t10
  have f : Fr [aPile, aAll, aKept, aManyBy, aParts] [39, 40, 41, 62] h h := Fr.rf
  refine called_of rfl [some (vR aM), some (vI k9)] rfl (Nat.le_of_ble_eq_true rfl) ?_
  refine r_aload_n dX4_rows_0 rfl ?_
  refine r_iload_n dX4_rows_1 rfl ?_
  refine r_callVv lX4_504 (c_layRows hm hT hth hnh hn30 hS hR k9) (hl.1) rfl rfl rfl rfl dX4_rows_2 (Nat.le_refl _) (Nat.le_refl _) (fun hZ1 q9 => ?_)
  obtain ⟨gZ1, hTZ1, hY, e62, hPT⟩ := q9
  have fZ1 := f.tr (gZ1.wk (by simp) (by simp))
  have hmZ1 := hm.fr gZ1 rfl
  have hlZ1 := hmZ1.lay
  refine r_aload_n dX4_rows_5 rfl ?_
  refine r_getIv fX4_492 (hlZ1.1) (v := nI (rfN (rfV b R nh k9) (nRow b))) (e62) rfl dX4_rows_6 ?_
  exact r_reti dX4_rows_9 rfl rfl (Nat.le_refl _) (Nat.le_refl _) ⟨rfl, fZ1, hTZ1⟩

theorem c_sure {G : ev_G} {b : Bk} {k : Nat} {h : ev_H} (hm : MB b k h) {T : Nat → Int32} (hT : MT T h) (hth : hI h aM 43 = -1) {R : HR} {nh : Nat} (hnh : hI h aM 60 = nI nh) (hn30 : nh ≤ 30) (hS : MS R h) (hR : ∀ n, n < nh → ∃ s, s < nS b ∧ R.s n = nI s) (p k9 : Int32) : Called G mX4_sure 9 0 0 [vR aM, vI p, vI k9] h (pI (fun y h1 => y = sureV b R nh p k9 ∧ Fr [aPile, aAll, aKept, aManyBy, aParts] [39, 40, 41, 62] h h1 ∧ MT T h1)) := by
  have hl := hm.lay
  have hk2 := hm.k2
  have hb := hm.bw
  have hb1 := hb.p6
  have hb2 := hb.s5
  have hb3 := hb.t10
  have f : Fr [aPile, aAll, aKept, aManyBy, aParts] [39, 40, 41, 62] h h := Fr.rf
  have hh2 := hid_2 b
  have hht := hid_t b
  have h36 := pw2_36 hb2
  have hnr := nRow_le b
  refine called_of rfl [some (vR aM), some (vI p), some (vI k9), none] rfl (Nat.le_of_ble_eq_true rfl) ?_
  refine r_iload_n dX4_sure_0 rfl ?_
  refine r_iconst (v := 0) dX4_sure_1 (by decide) ?_
  refine r_aload_n dX4_sure_2 rfl ?_
  refine r_callVx lX4_486 (c_hidden hm) (hl.1) rfl rfl rfl rfl dX4_sure_3 (Nat.le_refl _) (Nat.le_refl _) ?_
  refine r_iconst (v := 1) dX4_sure_6 (by decide) ?_
  refine r_isub dX4_sure_7 ?_
  refine r_callSx lX4_361 (c_isIn _ _ _) rfl rfl rfl rfl dX4_sure_8 (Nat.le_refl _) (Nat.le_refl _) ?_
  refine r_ifB_ne (tgt := 17) dX4_sure_11 rfl (fun c1 => ?_) (fun c1 => ?_)
  · --
    obtain ⟨j, hj, rfl⟩ := (isIn_n (by omega) p).mp c1
    refine r_aload_n dX4_sure_17 rfl ?_
    refine r_iload_n dX4_sure_18 rfl ?_
    refine r_callVv lX4_504 (c_layRows hm hT hth hnh hn30 hS hR k9) (hl.1) rfl rfl rfl rfl dX4_sure_19 (Nat.le_refl _) (Nat.le_refl _) (fun hZ1 q9 => ?_)
    obtain ⟨gZ1, hTZ1, hY, e62, hPT⟩ := q9
    have fZ1 := f.tr (gZ1.wk (by simp) (by simp))
    have hmZ1 := hm.fr gZ1 rfl
    have hlZ1 := hmZ1.lay
    have hrf := rfN_le (rfV b R nh k9) (nRow b)
    refine r_aload_n dX4_sure_22 rfl ?_
    refine r_getIv fX4_492 (hlZ1.1) (v := nI (rfN (rfV b R nh k9) (nRow b))) (e62) rfl dX4_sure_23 ?_
    refine r_if_ne (tgt := 32) dX4_sure_26 rfl (fun c2 => ?_) (fun c2 => ?_)
    · --
      refine r_iconst (v := nI 0) dX4_sure_32 (by decide) ?_
      refine r_istore_n dX4_sure_33 (by decide) rfl ?_
      refine (ev_for (P := fun s => (firstOf s (fun s => decide (ptN (rfV b R nh k9) (nS b) j s (nRow b) = rfN (rfV b R nh k9) (nRow b))) = none) → Ev G mX4_sure (ev_room 9 0 0) (ev_MQ G (pI (fun y h1 => y = sureV b R nh (nI j) k9 ∧ Fr [aPile, aAll, aKept, aManyBy, aParts] [39, 40, 41, 62] h h1 ∧ MT T h1)) 0 0) 34 [some (vR aM), some (vI (nI j)), some (vI k9), some (vI (nI s))] [] hZ1 0 0) (nS b + 1) (fun s hks ihs qs => ?_)) 0 (Nat.zero_le _) (rfl)
      have hpt := ptN_le (rfV b R nh k9) (nS b) j s (nRow b)
      have hrf := rfN_le (rfV b R nh k9) (nRow b)
      refine r_iload_n dX4_sure_34 rfl ?_
      refine r_aload_n dX4_sure_35 rfl ?_
      refine r_callVx lX4_365 (c_bags hmZ1) (hlZ1.1) rfl rfl rfl rfl dX4_sure_36 (Nat.le_refl _) (Nat.le_refl _) ?_
      refine r_icmpN_gt (tgt := 80) dX4_sure_39 rfl (by omega) (by omega) (fun c3 => ?_) (fun c3 => ?_)
      · --
        refine r_bipush (v := (-2)) dX4_sure_80 (by decide) ?_
        exact r_reti dX4_sure_82 rfl rfl (Nat.le_refl _) (Nat.le_refl _) ⟨by rw [sureV, if_pos c1, if_neg (fun e => c2 (by rw [e]; rfl)), nI_clamp (by omega)]; rw [← show s = nS b + 1 by omega, qs], fZ1, hTZ1⟩
      · --
        refine r_aload_n dX4_sure_42 rfl ?_
        refine r_getRv fX4_124 (hlZ1.1) (v := aParts) ((l_parts hlZ1).1) rfl dX4_sure_43 ?_
        refine r_bipush (v := nI 6) dX4_sure_46 (by decide) ?_
        refine r_iload_n dX4_sure_48 rfl ?_
        refine r_imul dX4_sure_49 ?_
        refine r_top (nI (6 * j)) (pk_mul _ _) ?_
        refine r_iload_n dX4_sure_50 rfl ?_
        refine r_iadd dX4_sure_51 ?_
        refine r_top (nI (6 * j + s)) (nI_add _ _) ?_
        refine r_ialdv ((l_parts hlZ1).2.1) ((l_parts hlZ1).2.2) (ix_n (by omega) (by decide)) (v := nI (ptN (rfV b R nh k9) (nS b) j s (nRow b))) (hPT j s (by omega) (by omega)) dX4_sure_52 ?_
        refine r_aload_n dX4_sure_53 rfl ?_
        refine r_getIv fX4_492 (hlZ1.1) (v := nI (rfN (rfV b R nh k9) (nRow b))) (e62) rfl dX4_sure_54 ?_
        refine r_icmpN_ne (tgt := 74) dX4_sure_57 rfl (by omega) (by omega) (fun c4 => ?_) (fun c4 => ?_)
        · --
          refine r_iincN (n := 1) dX4_sure_74 rfl rfl (by decide) rfl ?_
          refine r_goto (tgt := 34) dX4_sure_77 rfl ?_
          exact ihs (by omega) (first_f qs (by simp [c4]))
        · --
          refine r_iload_n dX4_sure_60 rfl ?_
          refine r_aload_n dX4_sure_61 rfl ?_
          refine r_callVx lX4_365 (c_bags hmZ1) (hlZ1.1) rfl rfl rfl rfl dX4_sure_62 (Nat.le_refl _) (Nat.le_refl _) ?_
          refine r_icmpN_ne (tgt := 72) dX4_sure_65 rfl (by omega) (by omega) (fun c5 => ?_) (fun c5 => ?_)
          · --
            refine r_iload_n dX4_sure_72 rfl ?_
            exact r_reti dX4_sure_73 rfl rfl (Nat.le_refl _) (Nat.le_refl _) ⟨by rw [sureV, if_pos c1, if_neg (fun e => c2 (by rw [e]; rfl)), nI_clamp (by omega)]; rw [show nS b + 1 = s + 1 + (nS b - s) by omega, first_t qs (by simp [c4])]; exact (if_neg c5).symm, fZ1, hTZ1⟩
          · --
            refine r_iconst (v := (-1)) dX4_sure_68 (by decide) ?_
            refine r_goto (tgt := 73) dX4_sure_69 rfl ?_
            exact r_reti dX4_sure_73 rfl rfl (Nat.le_refl _) (Nat.le_refl _) ⟨by rw [sureV, if_pos c1, if_neg (fun e => c2 (by rw [e]; rfl)), nI_clamp (by omega)]; rw [show nS b + 1 = s + 1 + (nS b - s) by omega, first_t qs (by simp [c4])]; exact (if_pos c5).symm, fZ1, hTZ1⟩
    · --
      refine r_bipush (v := (-3)) dX4_sure_29 (by decide) ?_
      exact r_reti dX4_sure_31 rfl rfl (Nat.le_refl _) (Nat.le_refl _) ⟨by rw [sureV, if_pos c1, if_pos (nI_z (by omega) c2)], fZ1, hTZ1⟩
  · --
    refine r_bipush (v := (-3)) dX4_sure_14 (by decide) ?_
    exact r_reti dX4_sure_16 rfl rfl (Nat.le_refl _) (Nat.le_refl _) ⟨(if_neg (by rw [c1]; decide)).symm, f, hT⟩

theorem c_mostBy {G : ev_G} {b : Bk} {k : Nat} {h : ev_H} (hm : MB b k h) {R : HR} {nh : Nat} (hnh : hI h aM 60 = nI nh) (hn30 : nh ≤ 30) (hS : MS R h) (hR : ∀ n, n < nh → ∃ s, s < nS b ∧ R.s n = nI s) (hY : MY b h) {s : Nat} (hs : s < nS b) (k9 : Int32) : Called G mX4_mostBy 3 0 0 [vR aM, vI (nI s), vI k9] h (pI (fun y h1 => y = nI (moN b (rfV b R nh k9) s (nRow b)) ∧ Fr [aByMany] [] h h1)) := by
  have hl := hm.lay
  have hk2 := hm.k2
  have hb := hm.bw
  have hb1 := hb.p6
  have hb2 := hb.s5
  have hb3 := hb.t10
  have hh2 := hid_2 b
  have hht := hid_t b
  have h36 := pw2_36 hb2
  have hnr := nRow_le b
  refine called_of rfl [some (vR aM), some (vI (nI s)), some (vI k9), none, none, none] rfl (Nat.le_of_ble_eq_true rfl) ?_
  refine r_iconst (v := nI 0) dX4_mostBy_0 (by decide) ?_
  refine r_istore_n dX4_mostBy_1 (by decide) rfl ?_
  refine (ev_for (P := fun i => ∀ h8 : ev_H, (Fr [aByMany] [] h h8 ∧ ∀ j, j < i → hI h8 aByMany j = (fun _ => nI 0) j) → Ev G mX4_mostBy (ev_room 3 0 0) (ev_MQ G (pI (fun y h1 => y = nI (moN b (rfV b R nh k9) s (nRow b)) ∧ Fr [aByMany] [] h h1)) 0 0) 2 [some (vR aM), some (vI (nI s)), some (vI k9), some (vI (nI i)), none, none] [] h8 0 0) 11 (fun i hki ihi h8 qh8 => ?_)) 0 (Nat.zero_le _) _ (⟨Fr.rf, fun j hj => absurd hj (by omega)⟩)
  obtain ⟨f8, e8⟩ := qh8
  have hm8 := hm.fr f8 rfl
  have hl8 := hm8.lay
  refine r_iload_n dX4_mostBy_2 rfl ?_
  refine r_bipush (v := nI 11) dX4_mostBy_3 (by decide) ?_
  refine r_icmpN_ge (tgt := 21) dX4_mostBy_5 rfl (by omega) (by omega) (fun c1 => ?_) (fun c1 => ?_)
  · --
    refine r_iconst (v := nI 0) dX4_mostBy_21 (by decide) ?_
    refine r_istore_n dX4_mostBy_22 (by decide) rfl ?_
    refine r_iconst (v := nI 0) dX4_mostBy_23 (by decide) ?_
    refine r_istore dX4_mostBy_24 (by decide) rfl ?_
    refine (ev_for (P := fun v => ∀ h9 : ev_H, (Fr [aByMany] [] h h9 ∧ MBY b (rfV b R nh k9) s v h9) → Ev G mX4_mostBy (ev_room 3 0 0) (ev_MQ G (pI (fun y h1 => y = nI (moN b (rfV b R nh k9) s (nRow b)) ∧ Fr [aByMany] [] h h1)) 0 0) 26 [some (vR aM), some (vI (nI s)), some (vI k9), some (vI (nI (moN b (rfV b R nh k9) s v))), some (vI (nI v)), none] [] h9 0 0) (nRow b) (fun v hkv ihv h9 qh9 => ?_)) 0 (Nat.zero_le _) _ (⟨f8, fun j hj => e8 j (by omega)⟩)
    obtain ⟨f9, e9⟩ := qh9
    have hm9 := hm.fr f9 rfl
    have hl9 := hm9.lay
    have hmo := moN_le b (rfV b R nh k9) s v
    refine r_iload dX4_mostBy_26 rfl ?_
    refine r_aload_n dX4_mostBy_28 rfl ?_
    refine r_callVx lX4_498 (c_allRows hm9) (hl9.1) rfl rfl rfl rfl dX4_mostBy_29 (Nat.le_refl _) (Nat.le_refl _) ?_
    refine r_icmpN_ge (tgt := 97) dX4_mostBy_32 rfl (by omega) (by omega) (fun c2 => ?_) (fun c2 => ?_)
    · --
      refine r_iload_n dX4_mostBy_97 rfl ?_
      exact r_reti dX4_mostBy_98 rfl rfl (Nat.le_refl _) (Nat.le_refl _) ⟨by rw [show v = nRow b by omega], f9⟩
    · --
      refine r_aload_n dX4_mostBy_35 rfl ?_
      refine r_iload dX4_mostBy_36 rfl ?_
      refine r_iload_n dX4_mostBy_38 rfl ?_
      refine r_callVx lX4_501 (c_doesFit2 hm9 ((f9.fld 60 (by decide) (by decide)).trans hnh) hn30 (hS.fr f9 (by decide)) hR (hY.fr f9 (by decide)) (by omega) k9) (hl9.1) rfl rfl rfl rfl dX4_mostBy_39 (Nat.le_refl _) (Nat.le_refl _) ?_
      refine r_ifB_ne (tgt := 48) dX4_mostBy_42 rfl (fun c3 => ?_) (fun c3 => ?_)
      · --
        have hmy := myV_n hb v s
        obtain ⟨m9, em9⟩ : ∃ m, myN b v s = m := ⟨_, rfl⟩
        rw [em9] at hmy
        have hmy2 := hmy.2
        have hby := byN_le b (rfV b R nh k9) s m9 v
        refine r_aload_n dX4_mostBy_48 rfl ?_
        refine r_getRv fX4_106 (hl9.1) (v := aManyBy) ((l_manyBy hl9).1) rfl dX4_mostBy_49 ?_
        refine r_iconst (v := nI 5) dX4_mostBy_52 (by decide) ?_
        refine r_iload dX4_mostBy_53 rfl ?_
        refine r_imul dX4_mostBy_55 ?_
        refine r_top (nI (5 * v)) (pk_mul _ _) ?_
        refine r_iload_n dX4_mostBy_56 rfl ?_
        refine r_iadd dX4_mostBy_57 ?_
        refine r_top (nI (5 * v + s)) (nI_add _ _) ?_
        refine r_ialdv ((l_manyBy hl9).2.1) ((l_manyBy hl9).2.2) (ix_n (by omega) (by decide)) (v := nI m9) (((f9.ar aManyBy (by decide) (by decide) _).trans (hY v s (by omega) hs)).trans hmy.1) dX4_mostBy_58 ?_
        refine r_istore dX4_mostBy_59 (by decide) rfl ?_
        refine r_aload_n dX4_mostBy_61 rfl ?_
        refine r_getRv fX4_127 (hl9.1) (v := aByMany) ((l_byMany hl9).1) rfl dX4_mostBy_62 ?_
        refine r_iload dX4_mostBy_65 rfl ?_
        refine r_dup2 dX4_mostBy_67 rfl rfl ?_
        refine r_ialdv ((l_byMany hl9).2.1) ((l_byMany hl9).2.2) (ix_n (by omega) (by decide)) (v := nI (byN b (rfV b R nh k9) s m9 v)) (e9 _ (by omega)) dX4_mostBy_68 ?_
        refine r_iconst (v := nI 1) dX4_mostBy_69 (by decide) ?_
        refine r_iadd dX4_mostBy_70 ?_
        refine r_top (nI (byN b (rfV b R nh k9) s m9 v + 1)) (nI_add _ _) ?_
        refine r_iastv ((l_byMany hl9).2.1) (by decide) ((l_byMany hl9).2.2) (ix_n (by omega) (by decide)) dX4_mostBy_71 ?_
        refine r_aload_n dX4_mostBy_72 rfl ?_
        refine r_getRv fX4_127 (hl9.1) (v := aByMany) ((l_byMany hl9).1) rfl dX4_mostBy_73 ?_
        refine r_iload dX4_mostBy_76 rfl ?_
        refine r_ialdv ((l_byMany hl9).2.1) ((l_byMany hl9).2.2) (ix_n (by omega) (by decide)) (v := nI (byN b (rfV b R nh k9) s m9 v + 1)) (u2_self) dX4_mostBy_78 ?_
        refine r_iload_n dX4_mostBy_79 rfl ?_
        refine r_icmpN_le (tgt := 91) dX4_mostBy_80 rfl (by omega) (by omega) (fun c4 => ?_) (fun c4 => ?_)
        · --
          refine r_iincN (n := 1) dX4_mostBy_91 rfl rfl (by decide) rfl ?_
          refine r_goto (tgt := 26) dX4_mostBy_94 rfl ?_
          refine r_sub [some (vR aM), some (vI (nI s)), some (vI k9), some (vI (nI (moN b (rfV b R nh k9) s v))), some (vI (nI (v + 1))), none] (And.intro rfl (And.intro rfl (And.intro rfl (And.intro rfl (And.intro rfl trivial))))) ?_
          exact r_L (by rw [← mo_n em9 c4] <;> rfl) (ihv (by omega) _ (⟨f9.sa _ _ _ (by decide), e9.step c3 em9⟩))
        · --
          refine r_aload_n dX4_mostBy_83 rfl ?_
          refine r_getRv fX4_127 (hl9.1) (v := aByMany) ((l_byMany hl9).1) rfl dX4_mostBy_84 ?_
          refine r_iload dX4_mostBy_87 rfl ?_
          refine r_ialdv ((l_byMany hl9).2.1) ((l_byMany hl9).2.2) (ix_n (by omega) (by decide)) (v := nI (byN b (rfV b R nh k9) s m9 v + 1)) (u2_self) dX4_mostBy_89 ?_
          refine r_istore_n dX4_mostBy_90 (by decide) rfl ?_
          refine r_iincN (n := 1) dX4_mostBy_91 rfl rfl (by decide) rfl ?_
          refine r_goto (tgt := 26) dX4_mostBy_94 rfl ?_
          refine r_sub [some (vR aM), some (vI (nI s)), some (vI k9), some (vI (nI (byN b (rfV b R nh k9) s m9 v + 1))), some (vI (nI (v + 1))), none] (And.intro rfl (And.intro rfl (And.intro rfl (And.intro rfl (And.intro rfl trivial))))) ?_
          exact r_L (by rw [← mo_t em9 c3 c4] <;> rfl) (ihv (by omega) _ (⟨f9.sa _ _ _ (by decide), e9.step c3 em9⟩))
      · --
        refine r_goto (tgt := 91) dX4_mostBy_45 rfl ?_
        refine r_iincN (n := 1) dX4_mostBy_91 rfl rfl (by decide) rfl ?_
        refine r_goto (tgt := 26) dX4_mostBy_94 rfl ?_
        exact r_L (by rw [← mo_f c3]; rfl) (ihv (by omega) _ (⟨f9, e9.skip c3⟩))
  · --
    refine r_aload_n dX4_mostBy_8 rfl ?_
    refine r_getRv fX4_127 (hl8.1) (v := aByMany) ((l_byMany hl8).1) rfl dX4_mostBy_9 ?_
    refine r_iload_n dX4_mostBy_12 rfl ?_
    refine r_iconst (v := nI 0) dX4_mostBy_13 (by decide) ?_
    refine r_iastv ((l_byMany hl8).2.1) (by decide) ((l_byMany hl8).2.2) (ix_n (by omega) (by decide)) dX4_mostBy_14 ?_
    refine r_iincN (n := 1) dX4_mostBy_15 rfl rfl (by decide) rfl ?_
    refine r_goto (tgt := 2) dX4_mostBy_18 rfl ?_
    exact ihi (by omega) _ (⟨f8.sa _ _ _ (by decide), cp_step e8 rfl⟩)

theorem c_ask {G : ev_G} {b : Bk} {k : Nat} {h : ev_H} (hm : MB b k h) {T : Nat → Int32} (hT : MT T h) (hth : hI h aM 43 = -1) {R : HR} {nh : Nat} (hnh : hI h aM 60 = nI nh) (hn30 : nh ≤ 30) (hS : MS R h) (hR : ∀ n, n < nh → ∃ s, s < nS b ∧ R.s n = nI s) (wh k9 : Int32) : Called G mX4_ask 9 0 0 [vR aM, vI wh, vI k9] h (pI (fun y h1 => y = rowAsk b R nh wh k9 ∧ Fr [aPile, aAll, aKept, aManyBy, aParts, aByMany] [39, 40, 41, 62] h h1 ∧ MT T h1)) := by
  have hl := hm.lay
  have hk2 := hm.k2
  have hb := hm.bw
  have hb1 := hb.p6
  have hb2 := hb.s5
  have hb3 := hb.t10
  have f : Fr [aPile, aAll, aKept, aManyBy, aParts, aByMany] [39, 40, 41, 62] h h := Fr.rf
  have hh2 := hid_2 b
  have hht := hid_t b
  have h36 := pw2_36 hb2
  have hnr := nRow_le b
  refine called_of rfl [some (vR aM), some (vI wh), some (vI k9), none, none] rfl (Nat.le_of_ble_eq_true rfl) ?_
  refine r_iload_n dX4_ask_0 rfl ?_
  refine r_iconst (v := 0) dX4_ask_1 (by decide) ?_
  refine r_iconst (v := 1) dX4_ask_2 (by decide) ?_
  refine r_callSx lX4_361 (c_isIn _ _ _) rfl rfl rfl rfl dX4_ask_3 (Nat.le_refl _) (Nat.le_refl _) ?_
  refine r_ifB_eq (tgt := 16) dX4_ask_6 rfl (fun c1 => ?_) (fun c1 => ?_)
  · --
    refine r_iconst (v := (-1)) dX4_ask_16 (by decide) ?_
    exact r_reti dX4_ask_17 rfl rfl (Nat.le_refl _) (Nat.le_refl _) ⟨(if_neg (by simp [c1])).symm, f, hT⟩
  · --
    refine r_aload_n dX4_ask_9 rfl ?_
    refine r_callVx lX4_365 (c_bags hm) (hl.1) rfl rfl rfl rfl dX4_ask_10 (Nat.le_refl _) (Nat.le_refl _) ?_
    refine r_if_ne (tgt := 18) dX4_ask_13 rfl (fun c2 => ?_) (fun c2 => ?_)
    · --
      refine r_aload_n dX4_ask_18 rfl ?_
      refine r_iload_n dX4_ask_19 rfl ?_
      refine r_callVv lX4_504 (c_layRows hm hT hth hnh hn30 hS hR k9) (hl.1) rfl rfl rfl rfl dX4_ask_20 (Nat.le_refl _) (Nat.le_refl _) (fun hZ1 q9 => ?_)
      obtain ⟨gZ1, hTZ1, hY, e62, hPT⟩ := q9
      have fZ1 := f.tr (gZ1.wk (by simp) (by simp))
      have hmZ1 := hm.fr gZ1 rfl
      have hlZ1 := hmZ1.lay
      refine r_aload_n dX4_ask_23 rfl ?_
      refine r_getIv fX4_492 (hlZ1.1) (v := nI (rfN (rfV b R nh k9) (nRow b))) (e62) rfl dX4_ask_24 ?_
      refine r_if_ne (tgt := 32) dX4_ask_27 rfl (fun c3 => ?_) (fun c3 => ?_)
      · --
        have hs0 : 0 < nS b := Nat.pos_of_ne_zero (fun e => c2 (by rw [e]; rfl))
        refine r_iconst (v := nI 0) dX4_ask_32 (by decide) ?_
        refine r_istore_n dX4_ask_33 (by decide) rfl ?_
        refine r_iconst (v := nI 1) dX4_ask_34 (by decide) ?_
        refine r_istore dX4_ask_35 (by decide) rfl ?_
        refine (ev_for (P := fun s => ∀ hB : ev_H, (Fr [aPile, aAll, aKept, aManyBy, aParts, aByMany] [39, 40, 41, 62] h hB ∧ MT T hB ∧ MY b hB ∧ 1 ≤ s) → Ev G mX4_ask (ev_room 9 0 0) (ev_MQ G (pI (fun y h1 => y = rowAsk b R nh wh k9 ∧ Fr [aPile, aAll, aKept, aManyBy, aParts, aByMany] [39, 40, 41, 62] h h1 ∧ MT T h1)) 0 0) 37 [some (vR aM), some (vI wh), some (vI k9), some (vI (nI (abN (fun s => moN b (rfV b R nh k9) s (nRow b)) s))), some (vI (nI s))] [] hB 0 0) (nS b) (fun s hks ihs hB qhB => ?_)) 1 (by omega) _ (⟨fZ1, hTZ1, hY, by omega⟩)
        obtain ⟨fB, hTB, hYB, hs1⟩ := qhB
        have hmB := hm.fr fB rfl
        have hlB := hmB.lay
        have hab := abN_lt (fun s => moN b (rfV b R nh k9) s (nRow b)) (n := s) (by omega)
        have hml : ∀ q, moN b (rfV b R nh k9) q (nRow b) ≤ nRow b := fun q => moN_le b (rfV b R nh k9) q (nRow b)
        have hm1 := hml s
        have hm2 := hml (abN (fun s => moN b (rfV b R nh k9) s (nRow b)) s)
        clear hY
        have hY := hYB
        refine r_iload dX4_ask_37 rfl ?_
        refine r_aload_n dX4_ask_39 rfl ?_
        refine r_callVx lX4_365 (c_bags hmB) (hlB.1) rfl rfl rfl rfl dX4_ask_40 (Nat.le_refl _) (Nat.le_refl _) ?_
        refine r_icmpN_ge (tgt := 71) dX4_ask_43 rfl (by omega) (by omega) (fun c4 => ?_) (fun c4 => ?_)
        · --
          refine r_iload_n dX4_ask_71 rfl ?_
          refine r_if_ne (tgt := 79) dX4_ask_72 rfl (fun c5 => ?_) (fun c5 => ?_)
          · --
            refine r_aload_n dX4_ask_79 rfl ?_
            refine r_iload_n dX4_ask_80 rfl ?_
            refine r_iload_n dX4_ask_81 rfl ?_
            refine r_callVi lX4_508 (c_mostBy hmB ((fB.fld 60 (by decide) (by decide)).trans hnh) hn30 (hS.fr fB (by decide)) hR hY (s := (abN (fun s => moN b (rfV b R nh k9) s (nRow b)) s)) (by omega) k9) (hlB.1) rfl rfl rfl rfl dX4_ask_82 (Nat.le_refl _) (Nat.le_refl _) (fun y9 hZ2 q9 => ?_)
            obtain ⟨rfl, gZ2⟩ := q9
            have fZ2 := fB.tr (gZ2.wk (by simp) (by simp))
            have hmZ2 := hmB.fr gZ2 rfl
            have hTZ2 := hTB.fr gZ2 (by decide)
            have hlZ2 := hmZ2.lay
            exact r_reti dX4_ask_85 rfl rfl (Nat.le_refl _) (Nat.le_refl _) ⟨by rw [rowAsk, if_pos (by simp [c1, c2]), if_neg (fun e => c3 (by rw [e]; rfl)), if_neg c5, ← show s = nS b by omega], fZ2, hTZ2⟩
          · --
            refine r_iload_n dX4_ask_75 rfl ?_
            refine r_goto (tgt := 85) dX4_ask_76 rfl ?_
            exact r_reti dX4_ask_85 rfl rfl (Nat.le_refl _) (Nat.le_refl _) ⟨by rw [rowAsk, if_pos (by simp [c1, c2]), if_neg (fun e => c3 (by rw [e]; rfl)), if_pos c5, ← show s = nS b by omega], fB, hTB⟩
        · --
          refine r_aload_n dX4_ask_46 rfl ?_
          refine r_iload dX4_ask_47 rfl ?_
          refine r_iload_n dX4_ask_49 rfl ?_
          refine r_callVi lX4_508 (c_mostBy hmB ((fB.fld 60 (by decide) (by decide)).trans hnh) hn30 (hS.fr fB (by decide)) hR hY (s := s) (by omega) k9) (hlB.1) rfl rfl rfl rfl dX4_ask_50 (Nat.le_refl _) (Nat.le_refl _) (fun y9 hZ3 q9 => ?_)
          obtain ⟨rfl, gZ3⟩ := q9
          have fZ3 := fB.tr (gZ3.wk (by simp) (by simp))
          have hmZ3 := hmB.fr gZ3 rfl
          have hTZ3 := hTB.fr gZ3 (by decide)
          have hlZ3 := hmZ3.lay
          refine r_aload_n dX4_ask_53 rfl ?_
          refine r_iload_n dX4_ask_54 rfl ?_
          refine r_iload_n dX4_ask_55 rfl ?_
          refine r_callVi lX4_508 (c_mostBy hmZ3 ((fZ3.fld 60 (by decide) (by decide)).trans hnh) hn30 (hS.fr fZ3 (by decide)) hR (hY.fr gZ3 (by decide)) (s := (abN (fun s => moN b (rfV b R nh k9) s (nRow b)) s)) (by omega) k9) (hlZ3.1) rfl rfl rfl rfl dX4_ask_56 (Nat.le_refl _) (Nat.le_refl _) (fun y9 hZ4 q9 => ?_)
          obtain ⟨rfl, gZ4⟩ := q9
          have fZ4 := fZ3.tr (gZ4.wk (by simp) (by simp))
          have hmZ4 := hmZ3.fr gZ4 rfl
          have hTZ4 := hTZ3.fr gZ4 (by decide)
          have hlZ4 := hmZ4.lay
          refine r_icmpN_ge (tgt := 65) dX4_ask_59 rfl (by omega) (by omega) (fun c6 => ?_) (fun c6 => ?_)
          · --
            refine r_iincN (n := 1) dX4_ask_65 rfl rfl (by decide) rfl ?_
            refine r_goto (tgt := 37) dX4_ask_68 rfl ?_
            exact r_L (by rw [← abN_f (f := (fun s => moN b (rfV b R nh k9) s (nRow b))) c6] <;> rfl) (ihs (by omega) _ (⟨fZ4, hTZ4, ((hYB.fr gZ3 (by decide)).fr gZ4 (by decide)), by omega⟩))
          · --
            refine r_iload dX4_ask_62 rfl ?_
            refine r_istore_n dX4_ask_64 (by decide) rfl ?_
            refine r_iincN (n := 1) dX4_ask_65 rfl rfl (by decide) rfl ?_
            refine r_goto (tgt := 37) dX4_ask_68 rfl ?_
            exact r_L (by rw [← abN_t (f := (fun s => moN b (rfV b R nh k9) s (nRow b))) (by omega) c6] <;> rfl) (ihs (by omega) _ (⟨fZ4, hTZ4, ((hYB.fr gZ3 (by decide)).fr gZ4 (by decide)), by omega⟩))
      · --
        refine r_iconst (v := (-1)) dX4_ask_30 (by decide) ?_
        exact r_reti dX4_ask_31 rfl rfl (Nat.le_refl _) (Nat.le_refl _) ⟨by rw [rowAsk, if_pos (by simp [c1, c2]), if_pos (nI_z (by have := rfN_le (rfV b R nh k9) (nRow b); omega) c3)], fZ1, hTZ1⟩
    · --
      refine r_iconst (v := (-1)) dX4_ask_16 (by decide) ?_
      exact r_reti dX4_ask_17 rfl rfl (Nat.le_refl _) (Nat.le_refl _) ⟨(if_neg (by simp [c1, c2])).symm, f, hT⟩
