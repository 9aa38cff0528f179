/-! ===== THE REFERENCE: acts (walks by program) ===== -/
set_option maxRecDepth 100000

theorem c_keepAct {G : ev_G} {h : ev_H} (hl : MLay h) {T W : Nat → Int32} {na nu : Nat} (hT : MT T h) (hH : MH W na nu h) : Called G mX4_keepAct 0 0 0 [vR aM] h (p0 (fun h1 => Fr [aWas] [46, 47] h h1 ∧ MH (kaW W na T) (kaN na) 0 h1)) := by
  have hna0 := hH.2.2.1
  refine called_of rfl [some (vR aM), none] rfl (Nat.le_of_ble_eq_true rfl) ?_
  refine r_aload_n dX4_keepAct_0 rfl ?_
  refine r_getIv fX4_374 (hl.1) (v := nI na) (hH.1) rfl dX4_keepAct_1 ?_
  refine r_bipush (v := nI 40) dX4_keepAct_4 (by decide) ?_
  refine r_icmpN_ne (tgt := 49) dX4_keepAct_6 rfl (by omega) (by omega) (fun c1 => ?_) (fun c1 => ?_)
  · --
    obtain ⟨nB, WB, enB, eWB⟩ : ∃ n V, n = na ∧ V = W := ⟨_, _, rfl, rfl⟩
    have fB : Fr [aWas] [46, 47] h (h) := Fr.rf
    have h46B : hI (h) aM 46 = nI nB := by rw [enB]; exact hH.1
    have hWB : ∀ j, j < 779 → hI (h) aWas j = WB j := fun j hj => by rw [eWB]; exact hH.2.2.2 j hj
    have hnB : nB < 40 ∧ nB + 1 = kaN na ∧ puW WB nB T = kaW W na T := by subst enB eWB; unfold kaN kaW; rw [if_neg (by assumption), if_neg (by assumption)]; exact ⟨by have := hH.2.2.1; omega, rfl, rfl⟩
    have hlB : MLay (h) := fB.lay hl
    have hTB : MT T (h) := hT.fr fB (by decide)
    obtain ⟨hB, ehB⟩ : ∃ y, y = h := ⟨_, rfl⟩
    refine r_h ehB.symm ?_
    have fB : Fr [aWas] [46, 47] h hB := by rw [ehB]; exact fB
    rw [← ehB] at h46B hWB hlB hTB
    refine r_iconst (v := nI 0) dX4_keepAct_49 (by decide) ?_
    refine r_istore_n dX4_keepAct_50 (by decide) rfl ?_
    refine (ev_for (P := fun i => ∀ hC : ev_H, (Fr [aWas] [] hB hC ∧ ∀ j, j < 779 → hI hC aWas j = puP WB nB i T j) → Ev G mX4_keepAct (ev_room 0 0 0) (ev_MQ G (p0 (fun h1 => Fr [aWas] [46, 47] h h1 ∧ MH (kaW W na T) (kaN na) 0 h1)) 0 0) 51 [some (vR aM), some (vI (nI i))] [] hC 0 0) 19 (fun i hki ihi hC qhC => ?_)) 0 (Nat.zero_le _) _ (⟨Fr.rf, fun j hj => by rw [puP_0]; exact hWB j hj⟩)
    obtain ⟨fC, eC⟩ := qhC
    have hlC := fC.lay hlB
    have hTC := hTB.fr fC (by decide)
    refine r_iload_n dX4_keepAct_51 rfl ?_
    refine r_bipush (v := nI 19) dX4_keepAct_52 (by decide) ?_
    refine r_icmpN_ge (tgt := 83) dX4_keepAct_54 rfl (by omega) (by omega) (fun c2 => ?_) (fun c2 => ?_)
    · --
      refine r_aload_n dX4_keepAct_83 rfl ?_
      refine r_dup dX4_keepAct_84 rfl ?_
      refine r_getIv fX4_374 (hlC.1) (v := nI nB) ((fC.fld 46 (by decide) (by decide)).trans h46B) rfl dX4_keepAct_85 ?_
      refine r_iconst (v := nI 1) dX4_keepAct_88 (by decide) ?_
      refine r_iadd dX4_keepAct_89 ?_
      refine r_top (nI (nB + 1)) (nI_add _ _) ?_
      refine r_putN fX4_374 (hlC.1) (by decide) dX4_keepAct_90 ?_
      refine r_aload_n dX4_keepAct_93 rfl ?_
      refine r_iconst (v := nI 0) dX4_keepAct_94 (by decide) ?_
      refine r_putN fX4_377 (hlC.1) (by decide) dX4_keepAct_95 ?_
      exact r_retv dX4_keepAct_98 rfl (Nat.le_refl _) (Nat.le_refl _) (⟨((fB.tr (fC.wk (by simp) (by simp))).sf 46 _ (by decide)).sf 47 _ (by decide), by rw [← hnB.2.1]; rfl, rfl, by have := hnB; omega, fun j hj => by rw [← hnB.2.2]; exact (eC j hj).trans (by unfold puP puW; rw [show i = 19 by omega])⟩)
    · --
      refine r_aload_n dX4_keepAct_57 rfl ?_
      refine r_getRv fX4_94 (hlC.1) (v := aWas) ((l_was hlC).1) rfl dX4_keepAct_58 ?_
      refine r_bipush (v := nI 19) dX4_keepAct_61 (by decide) ?_
      refine r_aload_n dX4_keepAct_63 rfl ?_
      refine r_getIv fX4_374 (hlC.1) (v := nI nB) ((fC.fld 46 (by decide) (by decide)).trans h46B) rfl dX4_keepAct_64 ?_
      refine r_imul dX4_keepAct_67 ?_
      refine r_top (nI (19 * nB)) (pk_mul _ _) ?_
      refine r_iload_n dX4_keepAct_68 rfl ?_
      refine r_iadd dX4_keepAct_69 ?_
      refine r_top (nI (19 * nB + i)) (nI_add _ _) ?_
      refine r_aload_n dX4_keepAct_70 rfl ?_
      refine r_getRv fX4_88 (hlC.1) (v := aAll) ((l_all hlC).1) rfl dX4_keepAct_71 ?_
      refine r_iload_n dX4_keepAct_74 rfl ?_
      refine r_ialdv ((l_all hlC).2.1) ((l_all hlC).2.2) (ix_n (by omega) (by decide)) (v := T (i)) (hTC _ (by omega)) dX4_keepAct_75 ?_
      refine r_iastv ((l_was hlC).2.1) (by decide) ((l_was hlC).2.2) (ix_n (by omega) (by decide)) dX4_keepAct_76 ?_
      refine r_iincN (n := 1) dX4_keepAct_77 rfl rfl (by decide) rfl ?_
      refine r_goto (tgt := 51) dX4_keepAct_80 rfl ?_
      exact ihi (by omega) _ (⟨fC.sa _ _ _ (by decide), pu_step rfl eC⟩)
  · --
    refine r_iconst (v := nI 0) dX4_keepAct_9 (by decide) ?_
    refine r_istore_n dX4_keepAct_10 (by decide) rfl ?_
    refine (ev_for (P := fun i => ∀ h9 : ev_H, (Fr [aWas] [] h h9 ∧ ∀ j, j < 779 → hI h9 aWas j = if j < i then W (j + 19) else W j) → Ev G mX4_keepAct (ev_room 0 0 0) (ev_MQ G (p0 (fun h1 => Fr [aWas] [46, 47] h h1 ∧ MH (kaW W na T) (kaN na) 0 h1)) 0 0) 11 [some (vR aM), some (vI (nI i))] [] h9 0 0) 760 (fun i hki ihi h9 qh9 => ?_)) 0 (Nat.zero_le _) _ (⟨Fr.rf, fun j hj => by rw [if_neg (by omega)]; exact hH.2.2.2 j hj⟩)
    obtain ⟨f9, e9⟩ := qh9
    have hl9 := f9.lay hl
    refine r_iload_n dX4_keepAct_11 rfl ?_
    refine r_sipush (v := nI 760) dX4_keepAct_12 (by decide) ?_
    refine r_icmpN_ge (tgt := 39) dX4_keepAct_15 rfl (by omega) (by omega) (fun c3 => ?_) (fun c3 => ?_)
    · --
      refine r_aload_n dX4_keepAct_39 rfl ?_
      refine r_dup dX4_keepAct_40 rfl ?_
      refine r_getIv fX4_374 (hl9.1) (v := nI na) ((f9.fld 46 (by decide) (by decide)).trans hH.1) rfl dX4_keepAct_41 ?_
      refine r_iconst (v := nI 1) dX4_keepAct_44 (by decide) ?_
      refine r_isub dX4_keepAct_45 ?_
      refine r_top (nI (na - 1)) (pk_sub (by omega)) ?_
      refine r_putN fX4_374 (hl9.1) (by decide) dX4_keepAct_46 ?_
      obtain ⟨nB, WB, enB, eWB⟩ : ∃ n V, n = 39 ∧ V = shW W := ⟨_, _, rfl, rfl⟩
      have fB : Fr [aWas] [46, 47] h (sI h9 aM 46 (nI (na - 1))) := (f9.wk (by simp) (by simp)).sf 46 _ (by decide)
      have h46B : hI (sI h9 aM 46 (nI (na - 1))) aM 46 = nI nB := by rw [enB, show (39 : Nat) = na - 1 by omega]; rfl
      have hWB : ∀ j, j < 779 → hI (sI h9 aM 46 (nI (na - 1))) aWas j = WB j := fun j hj => by rw [eWB]; exact (e9 j hj).trans (by unfold shW; rw [show i = 760 by omega])
      have hnB : nB < 40 ∧ nB + 1 = kaN na ∧ puW WB nB T = kaW W na T := by subst enB eWB; unfold kaN kaW; rw [if_pos (by assumption), if_pos (by assumption)]; exact ⟨by omega, rfl, rfl⟩
      have hlB : MLay (sI h9 aM 46 (nI (na - 1))) := fB.lay hl
      have hTB : MT T (sI h9 aM 46 (nI (na - 1))) := hT.fr fB (by decide)
      generalize sI h9 aM 46 (nI (na - 1)) = hB at fB h46B hWB hlB hTB ⊢
      refine r_iconst (v := nI 0) dX4_keepAct_49 (by decide) ?_
      refine r_istore_n dX4_keepAct_50 (by decide) rfl ?_
      refine (ev_for (P := fun i => ∀ hC : ev_H, (Fr [aWas] [] hB hC ∧ ∀ j, j < 779 → hI hC aWas j = puP WB nB i T j) → Ev G mX4_keepAct (ev_room 0 0 0) (ev_MQ G (p0 (fun h1 => Fr [aWas] [46, 47] h h1 ∧ MH (kaW W na T) (kaN na) 0 h1)) 0 0) 51 [some (vR aM), some (vI (nI i))] [] hC 0 0) 19 (fun i hki ihi hC qhC => ?_)) 0 (Nat.zero_le _) _ (⟨Fr.rf, fun j hj => by rw [puP_0]; exact hWB j hj⟩)
      obtain ⟨fC, eC⟩ := qhC
      have hlC := fC.lay hlB
      have hTC := hTB.fr fC (by decide)
      refine r_iload_n dX4_keepAct_51 rfl ?_
      refine r_bipush (v := nI 19) dX4_keepAct_52 (by decide) ?_
      refine r_icmpN_ge (tgt := 83) dX4_keepAct_54 rfl (by omega) (by omega) (fun c4 => ?_) (fun c4 => ?_)
      · --
        refine r_aload_n dX4_keepAct_83 rfl ?_
        refine r_dup dX4_keepAct_84 rfl ?_
        refine r_getIv fX4_374 (hlC.1) (v := nI nB) ((fC.fld 46 (by decide) (by decide)).trans h46B) rfl dX4_keepAct_85 ?_
        refine r_iconst (v := nI 1) dX4_keepAct_88 (by decide) ?_
        refine r_iadd dX4_keepAct_89 ?_
        refine r_top (nI (nB + 1)) (nI_add _ _) ?_
        refine r_putN fX4_374 (hlC.1) (by decide) dX4_keepAct_90 ?_
        refine r_aload_n dX4_keepAct_93 rfl ?_
        refine r_iconst (v := nI 0) dX4_keepAct_94 (by decide) ?_
        refine r_putN fX4_377 (hlC.1) (by decide) dX4_keepAct_95 ?_
        exact r_retv dX4_keepAct_98 rfl (Nat.le_refl _) (Nat.le_refl _) (⟨((fB.tr (fC.wk (by simp) (by simp))).sf 46 _ (by decide)).sf 47 _ (by decide), by rw [← hnB.2.1]; rfl, rfl, by have := hnB; omega, fun j hj => by rw [← hnB.2.2]; exact (eC j hj).trans (by unfold puP puW; rw [show i = 19 by omega])⟩)
      · --
        refine r_aload_n dX4_keepAct_57 rfl ?_
        refine r_getRv fX4_94 (hlC.1) (v := aWas) ((l_was hlC).1) rfl dX4_keepAct_58 ?_
        refine r_bipush (v := nI 19) dX4_keepAct_61 (by decide) ?_
        refine r_aload_n dX4_keepAct_63 rfl ?_
        refine r_getIv fX4_374 (hlC.1) (v := nI nB) ((fC.fld 46 (by decide) (by decide)).trans h46B) rfl dX4_keepAct_64 ?_
        refine r_imul dX4_keepAct_67 ?_
        refine r_top (nI (19 * nB)) (pk_mul _ _) ?_
        refine r_iload_n dX4_keepAct_68 rfl ?_
        refine r_iadd dX4_keepAct_69 ?_
        refine r_top (nI (19 * nB + i)) (nI_add _ _) ?_
        refine r_aload_n dX4_keepAct_70 rfl ?_
        refine r_getRv fX4_88 (hlC.1) (v := aAll) ((l_all hlC).1) rfl dX4_keepAct_71 ?_
        refine r_iload_n dX4_keepAct_74 rfl ?_
        refine r_ialdv ((l_all hlC).2.1) ((l_all hlC).2.2) (ix_n (by omega) (by decide)) (v := T (i)) (hTC _ (by omega)) dX4_keepAct_75 ?_
        refine r_iastv ((l_was hlC).2.1) (by decide) ((l_was hlC).2.2) (ix_n (by omega) (by decide)) dX4_keepAct_76 ?_
        refine r_iincN (n := 1) dX4_keepAct_77 rfl rfl (by decide) rfl ?_
        refine r_goto (tgt := 51) dX4_keepAct_80 rfl ?_
        exact ihi (by omega) _ (⟨fC.sa _ _ _ (by decide), pu_step rfl eC⟩)
    · --
      refine r_aload_n dX4_keepAct_18 rfl ?_
      refine r_getRv fX4_94 (hl9.1) (v := aWas) ((l_was hl9).1) rfl dX4_keepAct_19 ?_
      refine r_iload_n dX4_keepAct_22 rfl ?_
      refine r_aload_n dX4_keepAct_23 rfl ?_
      refine r_getRv fX4_94 (hl9.1) (v := aWas) ((l_was hl9).1) rfl dX4_keepAct_24 ?_
      refine r_iload_n dX4_keepAct_27 rfl ?_
      refine r_bipush (v := nI 19) dX4_keepAct_28 (by decide) ?_
      refine r_iadd dX4_keepAct_30 ?_
      refine r_top (nI (i + 19)) (nI_add _ _) ?_
      refine r_ialdv ((l_was hl9).2.1) ((l_was hl9).2.2) (ix_n (by omega) (by decide)) (v := W (i + 19)) ((e9 _ (by omega)).trans (if_neg (by omega))) dX4_keepAct_31 ?_
      refine r_iastv ((l_was hl9).2.1) (by decide) ((l_was hl9).2.2) (ix_n (by omega) (by decide)) dX4_keepAct_32 ?_
      refine r_iincN (n := 1) dX4_keepAct_33 rfl rfl (by decide) rfl ?_
      refine r_goto (tgt := 11) dX4_keepAct_36 rfl ?_
      exact ihi (by omega) _ (⟨f9.sa _ _ _ (by decide), sh_step (by omega) e9⟩)

theorem c_swapAll {G : ev_G} {h : ev_H} (hl : MLay h) {T W : Nat → Int32} {na nu : Nat} (hT : MT T h) (hH : MH W na nu h) (hna : na < 40) : Called G mX4_swapAll 0 0 0 [vR aM] h (p0 (fun h1 => Fr [aWas, aAll] [] h h1 ∧ MT (fun k => W (19 * na + k)) h1 ∧ MH (puW W na T) na nu h1)) := by
  have hna0 := hH.2.2.1
  refine called_of rfl [some (vR aM), none, none] rfl (Nat.le_of_ble_eq_true rfl) ?_
  refine r_iconst (v := nI 0) dX4_swapAll_0 (by decide) ?_
  refine r_istore_n dX4_swapAll_1 (by decide) rfl ?_
  refine (ev_for (P := fun i => ∀ h9 : ev_H, (Fr [aWas, aAll] [] h h9 ∧ MT (swT W na i T) h9 ∧ ∀ j, j < 779 → hI h9 aWas j = puP W na i T j) → Ev G mX4_swapAll (ev_room 0 0 0) (ev_MQ G (p0 (fun h1 => Fr [aWas, aAll] [] h h1 ∧ MT (fun k => W (19 * na + k)) h1 ∧ MH (puW W na T) na nu h1)) 0 0) 2 [some (vR aM), some (vI (nI i)), none] [] h9 0 0) 19 (fun i hki ihi h9 qh9 => ?_)) 0 (Nat.zero_le _) _ (⟨Fr.rf, hT.eq (fun k _ => by unfold swT; rw [if_neg (by omega)]), fun j hj => by rw [puP_0]; exact hH.2.2.2 j hj⟩)
  obtain ⟨f9, hT9, e9⟩ := qh9
  have hl9 := f9.lay hl
  refine r_iload_n dX4_swapAll_2 rfl ?_
  refine r_bipush (v := nI 19) dX4_swapAll_3 (by decide) ?_
  refine r_icmpN_ge (tgt := 56) dX4_swapAll_5 rfl (by omega) (by omega) (fun c1 => ?_) (fun c1 => ?_)
  · --
    exact r_retv dX4_swapAll_56 rfl (Nat.le_refl _) (Nat.le_refl _) (⟨f9, hT9.eq (fun k hk => by unfold swT; rw [if_pos (by omega)]), (f9.fld 46 (by decide) (by decide)).trans hH.1, (f9.fld 47 (by decide) (by decide)).trans hH.2.1, hH.2.2.1, fun j hj => (e9 j hj).trans (by unfold puP puW; rw [show i = 19 by omega])⟩)
  · --
    refine r_aload_n dX4_swapAll_8 rfl ?_
    refine r_getRv fX4_94 (hl9.1) (v := aWas) ((l_was hl9).1) rfl dX4_swapAll_9 ?_
    refine r_bipush (v := nI 19) dX4_swapAll_12 (by decide) ?_
    refine r_aload_n dX4_swapAll_14 rfl ?_
    refine r_getIv fX4_374 (hl9.1) (v := nI na) ((f9.fld 46 (by decide) (by decide)).trans hH.1) rfl dX4_swapAll_15 ?_
    refine r_imul dX4_swapAll_18 ?_
    refine r_top (nI (19 * na)) (pk_mul _ _) ?_
    refine r_iload_n dX4_swapAll_19 rfl ?_
    refine r_iadd dX4_swapAll_20 ?_
    refine r_top (nI (19 * na + i)) (nI_add _ _) ?_
    refine r_ialdv ((l_was hl9).2.1) ((l_was hl9).2.2) (ix_n (by omega) (by decide)) (v := W (19 * na + i)) ((e9 _ (by omega)).trans puP_at) dX4_swapAll_21 ?_
    refine r_istore_n dX4_swapAll_22 (by decide) rfl ?_
    refine r_aload_n dX4_swapAll_23 rfl ?_
    refine r_getRv fX4_94 (hl9.1) (v := aWas) ((l_was hl9).1) rfl dX4_swapAll_24 ?_
    refine r_bipush (v := nI 19) dX4_swapAll_27 (by decide) ?_
    refine r_aload_n dX4_swapAll_29 rfl ?_
    refine r_getIv fX4_374 (hl9.1) (v := nI na) ((f9.fld 46 (by decide) (by decide)).trans hH.1) rfl dX4_swapAll_30 ?_
    refine r_imul dX4_swapAll_33 ?_
    refine r_top (nI (19 * na)) (pk_mul _ _) ?_
    refine r_iload_n dX4_swapAll_34 rfl ?_
    refine r_iadd dX4_swapAll_35 ?_
    refine r_top (nI (19 * na + i)) (nI_add _ _) ?_
    refine r_aload_n dX4_swapAll_36 rfl ?_
    refine r_getRv fX4_88 (hl9.1) (v := aAll) ((l_all hl9).1) rfl dX4_swapAll_37 ?_
    refine r_iload_n dX4_swapAll_40 rfl ?_
    refine r_ialdv ((l_all hl9).2.1) ((l_all hl9).2.2) (ix_n (by omega) (by decide)) (v := T i) ((hT9 i (by omega)).trans (by unfold swT; rw [if_neg (by omega)])) dX4_swapAll_41 ?_
    refine r_iastv ((l_was hl9).2.1) (by decide) ((l_was hl9).2.2) (ix_n (by omega) (by decide)) dX4_swapAll_42 ?_
    refine r_aload_n dX4_swapAll_43 rfl ?_
    refine r_getRv fX4_88 (hl9.1) (v := aAll) ((l_all hl9).1) rfl dX4_swapAll_44 ?_
    refine r_iload_n dX4_swapAll_47 rfl ?_
    refine r_iload_n dX4_swapAll_48 rfl ?_
    refine r_iastv ((l_all hl9).2.1) (by decide) ((l_all hl9).2.2) (ix_n (by omega) (by decide)) dX4_swapAll_49 ?_
    refine r_iincN (n := 1) dX4_swapAll_50 rfl rfl (by decide) rfl ?_
    refine r_goto (tgt := 2) dX4_swapAll_53 rfl ?_
    refine r_sub [some (vR aM), some (vI (nI (i + 1))), none] (And.intro rfl (And.intro rfl trivial)) ?_
    exact ihi (by omega) _ (⟨(f9.sa _ _ _ (by decide)).sa _ _ _ (by decide), sw_step (hT9.fr ((Fr.rf (as := [aWas]) (fs := [])).sa aWas (19 * na + i) (T i) (by decide)) (by decide)), pu_step rfl e9⟩)
