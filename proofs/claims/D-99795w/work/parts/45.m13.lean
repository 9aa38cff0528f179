/-! ===== THE REFERENCE: boxes, the tape, a book's begin, rumours (walks by program) ===== -/
set_option maxRecDepth 100000

theorem c_image {G : ev_G} {h : ev_H} (hl : MLay h) {T B Q : Nat → Int32} (hT : MT T h) (hB : Ar aBoxAll 57 B h) (hQ : Ar aIsBoxed 3 Q h) (p : Int32) : Called G mX4_image 1 0 0 [vR aM, vI p] h (pI (fun y h1 => y = (if isInV p 0 (nI 2) then T 17 else -1) ∧ Fr [aBoxAll, aIsBoxed] [] h h1 ∧ Ar aBoxAll 57 (if isInV p 0 (nI 2) then puW B p.toNatClampNeg T else B) h1 ∧ Ar aIsBoxed 3 (if isInV p 0 (nI 2) then u1 Q p.toNatClampNeg (nI 1) else Q) h1)) := by
  refine called_of rfl [some (vR aM), some (vI p), none] rfl (Nat.le_of_ble_eq_true rfl) ?_
  refine r_iload_n dX4_image_0 rfl ?_
  refine r_iconst (v := 0) dX4_image_1 (by decide) ?_
  refine r_iconst (v := nI 2) dX4_image_2 (by decide) ?_
  refine r_callSx lX4_361 (c_isIn _ _ _) rfl rfl rfl rfl dX4_image_3 (Nat.le_refl _) (Nat.le_refl _) ?_
  refine r_ifB_ne (tgt := 11) dX4_image_6 rfl (fun c1 => ?_) (fun c1 => ?_)
  · --
    obtain ⟨j, hj, rfl⟩ := isIn_m (by decide) c1
    refine r_iconst (v := nI 0) dX4_image_11 (by decide) ?_
    refine r_istore_n dX4_image_12 (by decide) rfl ?_
    refine (ev_for (P := fun i => ∀ h9 : ev_H, (Fr [aBoxAll] [] h h9 ∧ Ar aBoxAll 57 (puP B j i T) h9) → Ev G mX4_image (ev_room 1 0 0) (ev_MQ G (pI (fun y h1 => y = (if isInV (nI j) 0 (nI 2) then T 17 else -1) ∧ Fr [aBoxAll, aIsBoxed] [] h h1 ∧ Ar aBoxAll 57 (if isInV (nI j) 0 (nI 2) then puW B (nI j).toNatClampNeg T else B) h1 ∧ Ar aIsBoxed 3 (if isInV (nI j) 0 (nI 2) then u1 Q (nI j).toNatClampNeg (nI 1) else Q) h1)) 0 0) 13 [some (vR aM), some (vI (nI j)), some (vI (nI i))] [] h9 0 0) 19 (fun i hki ihi h9 qh9 => ?_)) 0 (Nat.zero_le _) _ (⟨Fr.rf, by rw [puP_0]; exact hB⟩)
    obtain ⟨f9, e9⟩ := qh9
    have hl9 := f9.lay hl
    have hT9 := hT.fr f9 (by decide)
    refine r_iload_n dX4_image_13 rfl ?_
    refine r_bipush (v := nI 19) dX4_image_14 (by decide) ?_
    refine r_icmpN_ge (tgt := 42) dX4_image_16 rfl (by omega) (by omega) (fun c2 => ?_) (fun c2 => ?_)
    · --
      refine r_aload_n dX4_image_42 rfl ?_
      refine r_getRv fX4_133 (hl9.1) (v := aIsBoxed) ((l_isBoxed hl9).1) rfl dX4_image_43 ?_
      refine r_iload_n dX4_image_46 rfl ?_
      refine r_iconst (v := nI 1) dX4_image_47 (by decide) ?_
      refine r_zastx ((l_isBoxed hl9).2.1) (by decide) ((l_isBoxed hl9).2.2) (ix_n (by omega) (by decide)) rfl dX4_image_48 ?_
      refine r_aload_n dX4_image_49 rfl ?_
      refine r_getRv fX4_88 (hl9.1) (v := aAll) ((l_all hl9).1) rfl dX4_image_50 ?_
      refine r_bipush (v := nI 17) dX4_image_53 (by decide) ?_
      refine r_ialdv ((l_all hl9).2.1) ((l_all hl9).2.2) (ix_n (by omega) (by decide)) (v := T (17)) (hT9 _ (by omega)) dX4_image_55 ?_
      exact r_reti dX4_image_56 rfl rfl (Nat.le_refl _) (Nat.le_refl _) ⟨if_p c1 rfl, (f9.wk (by simp) (by simp)).sa _ _ _ (by decide), Ar.pos c1 (by rw [nI_clamp (by omega), ← puP_19, show 19 = i by omega]; exact Ar.fr e9 ((Fr.rf (as := [aIsBoxed]) (fs := [])).sa _ _ _ (by decide)) (by decide) (by decide)), Ar.pos c1 (by rw [nI_clamp (by omega)]; exact Ar.up (hQ.fr f9 (by decide) (by decide)) _ _)⟩
    · --
      refine r_aload_n dX4_image_19 rfl ?_
      refine r_getRv fX4_130 (hl9.1) (v := aBoxAll) ((l_boxAll hl9).1) rfl dX4_image_20 ?_
      refine r_bipush (v := nI 19) dX4_image_23 (by decide) ?_
      refine r_iload_n dX4_image_25 rfl ?_
      refine r_imul dX4_image_26 ?_
      refine r_top (nI (19 * j)) (pk_mul _ _) ?_
      refine r_iload_n dX4_image_27 rfl ?_
      refine r_iadd dX4_image_28 ?_
      refine r_top (nI (19 * j + i)) (nI_add _ _) ?_
      refine r_aload_n dX4_image_29 rfl ?_
      refine r_getRv fX4_88 (hl9.1) (v := aAll) ((l_all hl9).1) rfl dX4_image_30 ?_
      refine r_iload_n dX4_image_33 rfl ?_
      refine r_ialdv ((l_all hl9).2.1) ((l_all hl9).2.2) (ix_n (by omega) (by decide)) (v := T (i)) (hT9 _ (by omega)) dX4_image_34 ?_
      refine r_iastv ((l_boxAll hl9).2.1) (by decide) ((l_boxAll hl9).2.2) (ix_n (by omega) (by decide)) dX4_image_35 ?_
      refine r_iincN (n := 1) dX4_image_36 rfl rfl (by decide) rfl ?_
      refine r_goto (tgt := 13) dX4_image_39 rfl ?_
      exact ihi (by omega) _ (⟨f9.sa _ _ _ (by decide), pu_stepA rfl e9⟩)
  · --
    refine r_iconst (v := (-1)) dX4_image_9 (by decide) ?_
    exact r_reti dX4_image_10 rfl rfl (Nat.le_refl _) (Nat.le_refl _) ⟨if_n c1 rfl, Fr.rf, hB.neg c1, hQ.neg c1⟩

def backOk (Q : Nat → Int32) (p : Int32) : Bool := isInV p 0 (nI 2) && !decide (Q p.toNatClampNeg = 0)

theorem c_back {G : ev_G} {h : ev_H} (hl : MLay h) {T B Q : Nat → Int32} {na nu : Nat} (hT : MT T h) (hB : Ar aBoxAll 57 B h) (hQ : Ar aIsBoxed 3 Q h) (hna : hI h aM 46 = nI na) (hnu : hI h aM 47 = nI nu) (p : Int32) : Called G mX4_back 1 0 0 [vR aM, vI p] h (pI (fun y h1 => y = (if backOk Q p then B (19 * p.toNatClampNeg + 17) else -1) ∧ Fr [aAll] [46, 47] h h1 ∧ MT (if backOk Q p then (fun q => B (19 * p.toNatClampNeg + q)) else T) h1 ∧ hI h1 aM 46 = (if backOk Q p then nI 0 else nI na) ∧ hI h1 aM 47 = (if backOk Q p then nI 0 else nI nu))) := by
  refine called_of rfl [some (vR aM), some (vI p), none] rfl (Nat.le_of_ble_eq_true rfl) ?_
  refine r_iload_n dX4_back_0 rfl ?_
  refine r_iconst (v := 0) dX4_back_1 (by decide) ?_
  refine r_iconst (v := nI 2) dX4_back_2 (by decide) ?_
  refine r_callSx lX4_361 (c_isIn _ _ _) rfl rfl rfl rfl dX4_back_3 (Nat.le_refl _) (Nat.le_refl _) ?_
  refine r_ifB_eq (tgt := 18) dX4_back_6 rfl (fun c1 => ?_) (fun c1 => ?_)
  · --
    refine r_iconst (v := (-1)) dX4_back_18 (by decide) ?_
    exact r_reti dX4_back_19 rfl rfl (Nat.le_refl _) (Nat.le_refl _) ⟨if_n (by simp [backOk, c1]) rfl, Fr.rf, hT.neg (by simp [backOk, c1]), if_n (by simp [backOk, c1]) hna, if_n (by simp [backOk, c1]) hnu⟩
  · --
    obtain ⟨j, hj, rfl⟩ := isIn_m (by decide) c1
    refine r_aload_n dX4_back_9 rfl ?_
    refine r_getRv fX4_133 (hl.1) (v := aIsBoxed) ((l_isBoxed hl).1) rfl dX4_back_10 ?_
    refine r_iload_n dX4_back_13 rfl ?_
    refine r_zaldv ((l_isBoxed hl).2.1) ((l_isBoxed hl).2.2) (ix_n (by omega) (by decide)) (v := Q j) (hQ _ (by omega)) dX4_back_14 ?_
    refine r_if_ne (tgt := 20) dX4_back_15 rfl (fun c2 => ?_) (fun c2 => ?_)
    · --
      refine r_iconst (v := nI 0) dX4_back_20 (by decide) ?_
      refine r_istore_n dX4_back_21 (by decide) rfl ?_
      refine (ev_for (P := fun i => ∀ h9 : ev_H, (Fr [aAll] [] h h9 ∧ ∀ q, q < i → hI h9 aAll q = B (19 * j + q)) → Ev G mX4_back (ev_room 1 0 0) (ev_MQ G (pI (fun y h1 => y = (if backOk Q (nI j) then B (19 * (nI j).toNatClampNeg + 17) else -1) ∧ Fr [aAll] [46, 47] h h1 ∧ MT (if backOk Q (nI j) then (fun q => B (19 * (nI j).toNatClampNeg + q)) else T) h1 ∧ hI h1 aM 46 = (if backOk Q (nI j) then nI 0 else nI na) ∧ hI h1 aM 47 = (if backOk Q (nI j) then nI 0 else nI nu))) 0 0) 22 [some (vR aM), some (vI (nI j)), some (vI (nI i))] [] h9 0 0) 19 (fun i hki ihi h9 qh9 => ?_)) 0 (Nat.zero_le _) _ (⟨Fr.rf, fun q hq => absurd hq (by omega)⟩)
      obtain ⟨f9, e9⟩ := qh9
      have hl9 := f9.lay hl
      refine r_iload_n dX4_back_22 rfl ?_
      refine r_bipush (v := nI 19) dX4_back_23 (by decide) ?_
      refine r_icmpN_ge (tgt := 51) dX4_back_25 rfl (by omega) (by omega) (fun c3 => ?_) (fun c3 => ?_)
      · --
        have hTZ : MT (fun q => B (19 * j + q)) h9 := fun q hq => e9 q (by omega)
        refine r_aload_n dX4_back_51 rfl ?_
        refine r_iconst (v := nI 0) dX4_back_52 (by decide) ?_
        refine r_putN fX4_374 (hl9.1) (by decide) dX4_back_53 ?_
        refine r_aload_n dX4_back_56 rfl ?_
        refine r_iconst (v := nI 0) dX4_back_57 (by decide) ?_
        refine r_putN fX4_377 (hl9.1) (by decide) dX4_back_58 ?_
        refine r_aload_n dX4_back_61 rfl ?_
        refine r_getRv fX4_88 (hl9.1) (v := aAll) ((l_all hl9).1) rfl dX4_back_62 ?_
        refine r_bipush (v := nI 17) dX4_back_65 (by decide) ?_
        refine r_ialdv ((l_all hl9).2.1) ((l_all hl9).2.2) (ix_n (by omega) (by decide)) (v := B (19 * j + 17)) (hTZ 17 (by omega)) dX4_back_67 ?_
        exact r_reti dX4_back_68 rfl rfl (Nat.le_refl _) (Nat.le_refl _) ⟨if_p (by simp only [backOk, nI_clamp (show j < 2 ^ 31 by omega)]; simp [c1, c2, c3]) (by rw [nI_clamp (by omega)]), ((f9.wk (by simp) (by simp)).sf 46 _ (by decide)).sf 47 _ (by decide), MT.pos (by simp only [backOk, nI_clamp (show j < 2 ^ 31 by omega)]; simp [c1, c2, c3]) (by rw [nI_clamp (by omega)]; exact hTZ), if_p (by simp only [backOk, nI_clamp (show j < 2 ^ 31 by omega)]; simp [c1, c2, c3]) rfl, if_p (by simp only [backOk, nI_clamp (show j < 2 ^ 31 by omega)]; simp [c1, c2, c3]) rfl⟩
      · --
        refine r_aload_n dX4_back_28 rfl ?_
        refine r_getRv fX4_88 (hl9.1) (v := aAll) ((l_all hl9).1) rfl dX4_back_29 ?_
        refine r_iload_n dX4_back_32 rfl ?_
        refine r_aload_n dX4_back_33 rfl ?_
        refine r_getRv fX4_130 (hl9.1) (v := aBoxAll) ((l_boxAll hl9).1) rfl dX4_back_34 ?_
        refine r_bipush (v := nI 19) dX4_back_37 (by decide) ?_
        refine r_iload_n dX4_back_39 rfl ?_
        refine r_imul dX4_back_40 ?_
        refine r_top (nI (19 * j)) (pk_mul _ _) ?_
        refine r_iload_n dX4_back_41 rfl ?_
        refine r_iadd dX4_back_42 ?_
        refine r_top (nI (19 * j + i)) (nI_add _ _) ?_
        refine r_ialdv ((l_boxAll hl9).2.1) ((l_boxAll hl9).2.2) (ix_n (by omega) (by decide)) (v := B (19 * j + i)) ((hB.fr f9 (by decide) (by decide)) _ (by omega)) dX4_back_43 ?_
        refine r_iastv ((l_all hl9).2.1) (by decide) ((l_all hl9).2.2) (ix_n (by omega) (by decide)) dX4_back_44 ?_
        refine r_iincN (n := 1) dX4_back_45 rfl rfl (by decide) rfl ?_
        refine r_goto (tgt := 22) dX4_back_48 rfl ?_
        exact ihi (by omega) _ (⟨f9.sa _ _ _ (by decide), cp_step (f := fun q => B (19 * j + q)) e9 rfl⟩)
    · --
      refine r_iconst (v := (-1)) dX4_back_18 (by decide) ?_
      exact r_reti dX4_back_19 rfl rfl (Nat.le_refl _) (Nat.le_refl _) ⟨if_n (by simp only [backOk, nI_clamp (show j < 2 ^ 31 by omega)]; simp [c1, c2]) rfl, Fr.rf, hT.neg (by simp only [backOk, nI_clamp (show j < 2 ^ 31 by omega)]; simp [c1, c2]), if_n (by simp only [backOk, nI_clamp (show j < 2 ^ 31 by omega)]; simp [c1, c2]) hna, if_n (by simp only [backOk, nI_clamp (show j < 2 ^ 31 by omega)]; simp [c1, c2]) hnu⟩

theorem c_about {G : ev_G} {b : Bk} {k : Nat} {h : ev_H} (hm : MB b k h) {T : Nat → Int32} (hT : MT T h) {na nu nh nt nl : Nat} {tm : Int32} (hna : hI h aM 46 = nI na) (hnu : hI h aM 47 = nI nu) (hnh : hI h aM 60 = nI nh) (htm : hI h aM 61 = tm) (hnt : hI h aM 2 = nI nt) (hnl : hI h aM 50 = nI nl) (wh : Int32) : Called G mX4_about 2 0 0 [vR aM, vI wh] h (px (vI (abV b T na nu nh nt nl tm wh)) h) := by
  have hl := hm.lay
  have hk2 := hm.k2
  have hb := hm.bw
  have hb1 := hb.p6
  have hb2 := hb.s5
  have hb3 := hb.t10
  refine called_of rfl [some (vR aM), some (vI wh)] rfl (Nat.le_of_ble_eq_true rfl) ?_
  refine r_iload_n dX4_about_0 rfl ?_
  by_cases e0 : wh = nI 0
  · refine r_tswC (tgt := 80) (off := 79) 0 dX4_about_1 e0 (by decide) rfl ?_
    refine r_aload_n dX4_about_80 rfl ?_
    refine r_callVx lX4_368 (c_many hm) (hl.1) rfl rfl rfl rfl dX4_about_81 (Nat.le_refl _) (Nat.le_refl _) ?_
    exact r_retx dX4_about_84 rfl rfl (by rw [e0]; rfl)
  by_cases e1 : wh = nI 1
  · refine r_tswC (tgt := 85) (off := 84) 1 dX4_about_1 e1 (by decide) rfl ?_
    refine r_aload_n dX4_about_85 rfl ?_
    refine r_callVx lX4_358 (c_folk hm) (hl.1) rfl rfl rfl rfl dX4_about_86 (Nat.le_refl _) (Nat.le_refl _) ?_
    exact r_retx dX4_about_89 rfl rfl (by rw [e1]; rfl)
  by_cases e2 : wh = nI 2
  · refine r_tswC (tgt := 90) (off := 89) 2 dX4_about_1 e2 (by decide) rfl ?_
    refine r_aload_n dX4_about_90 rfl ?_
    refine r_callVx lX4_365 (c_bags hm) (hl.1) rfl rfl rfl rfl dX4_about_91 (Nat.le_refl _) (Nat.le_refl _) ?_
    exact r_retx dX4_about_94 rfl rfl (by rw [e2]; rfl)
  by_cases e3 : wh = nI 3
  · refine r_tswC (tgt := 95) (off := 94) 3 dX4_about_1 e3 (by decide) rfl ?_
    refine r_aload_n dX4_about_95 rfl ?_
    refine r_getRv fX4_88 (hl.1) (v := aAll) ((l_all hl).1) rfl dX4_about_96 ?_
    refine r_iconst (v := nI 0) dX4_about_99 (by decide) ?_
    refine r_ialdv ((l_all hl).2.1) ((l_all hl).2.2) (ix_n (by omega) (by decide)) (v := T (0)) (hT _ (by omega)) dX4_about_100 ?_
    exact r_retx dX4_about_101 rfl rfl (by rw [e3]; rfl)
  by_cases e4 : wh = nI 4
  · refine r_tswC (tgt := 102) (off := 101) 4 dX4_about_1 e4 (by decide) rfl ?_
    refine r_aload_n dX4_about_102 rfl ?_
    refine r_getRv fX4_88 (hl.1) (v := aAll) ((l_all hl).1) rfl dX4_about_103 ?_
    refine r_iconst (v := nI 1) dX4_about_106 (by decide) ?_
    refine r_ialdv ((l_all hl).2.1) ((l_all hl).2.2) (ix_n (by omega) (by decide)) (v := T (1)) (hT _ (by omega)) dX4_about_107 ?_
    exact r_retx dX4_about_108 rfl rfl (by rw [e4]; rfl)
  by_cases e5 : wh = nI 5
  · refine r_tswC (tgt := 109) (off := 108) 5 dX4_about_1 e5 (by decide) rfl ?_
    refine r_aload_n dX4_about_109 rfl ?_
    refine r_getRv fX4_88 (hl.1) (v := aAll) ((l_all hl).1) rfl dX4_about_110 ?_
    refine r_bipush (v := nI 17) dX4_about_113 (by decide) ?_
    refine r_ialdv ((l_all hl).2.1) ((l_all hl).2.2) (ix_n (by omega) (by decide)) (v := T (17)) (hT _ (by omega)) dX4_about_115 ?_
    exact r_retx dX4_about_116 rfl rfl (by rw [e5]; rfl)
  by_cases e6 : wh = nI 6
  · refine r_tswC (tgt := 117) (off := 116) 6 dX4_about_1 e6 (by decide) rfl ?_
    refine r_aload_n dX4_about_117 rfl ?_
    refine r_getRv fX4_88 (hl.1) (v := aAll) ((l_all hl).1) rfl dX4_about_118 ?_
    refine r_bipush (v := nI 18) dX4_about_121 (by decide) ?_
    refine r_ialdv ((l_all hl).2.1) ((l_all hl).2.2) (ix_n (by omega) (by decide)) (v := T (18)) (hT _ (by omega)) dX4_about_123 ?_
    exact r_retx dX4_about_124 rfl rfl (by rw [e6]; rfl)
  by_cases e7 : wh = nI 7
  · refine r_tswC (tgt := 125) (off := 124) 7 dX4_about_1 e7 (by decide) rfl ?_
    refine r_aload_n dX4_about_125 rfl ?_
    refine r_getIv fX4_374 (hl.1) (v := nI na) (hna) rfl dX4_about_126 ?_
    exact r_retx dX4_about_129 rfl rfl (by rw [e7]; rfl)
  by_cases e8 : wh = nI 8
  · refine r_tswC (tgt := 130) (off := 129) 8 dX4_about_1 e8 (by decide) rfl ?_
    refine r_aload_n dX4_about_130 rfl ?_
    refine r_getIv fX4_377 (hl.1) (v := nI nu) (hnu) rfl dX4_about_131 ?_
    exact r_retx dX4_about_134 rfl rfl (by rw [e8]; rfl)
  by_cases e9 : wh = nI 9
  · refine r_tswC (tgt := 135) (off := 134) 9 dX4_about_1 e9 (by decide) rfl ?_
    refine r_aload_n dX4_about_135 rfl ?_
    refine r_getIv fX4_380 (hl.1) (v := nI nh) (hnh) rfl dX4_about_136 ?_
    exact r_retx dX4_about_139 rfl rfl (by rw [e9]; rfl)
  by_cases e10 : wh = nI 10
  · refine r_tswC (tgt := 140) (off := 139) 10 dX4_about_1 e10 (by decide) rfl ?_
    refine r_aload_n dX4_about_140 rfl ?_
    refine r_getIv fX4_482 (hl.1) (v := tm) (htm) rfl dX4_about_141 ?_
    exact r_retx dX4_about_144 rfl rfl (by rw [e10]; rfl)
  by_cases e11 : wh = nI 11
  · refine r_tswC (tgt := 145) (off := 144) 11 dX4_about_1 e11 (by decide) rfl ?_
    refine r_aload_n dX4_about_145 rfl ?_
    refine r_getIv fX4_250 (hl.1) (v := nI nt) (hnt) rfl dX4_about_146 ?_
    exact r_retx dX4_about_149 rfl rfl (by rw [e11]; rfl)
  by_cases e12 : wh = nI 12
  · refine r_tswC (tgt := 150) (off := 149) 12 dX4_about_1 e12 (by decide) rfl ?_
    refine r_aload_n dX4_about_150 rfl ?_
    refine r_getRv fX4_30 (hl.1) (v := aUnits) ((l_units hl).1) rfl dX4_about_151 ?_
    refine r_aload_n dX4_about_154 rfl ?_
    refine r_getIv fX4_253 (hl.1) (v := nI k) (hm.bank) rfl dX4_about_155 ?_
    refine r_ialdv ((l_units hl).2.1) ((l_units hl).2.2) (ix_n (by omega) (by decide)) (v := nI (bUn b)) (hm.units) dX4_about_158 ?_
    exact r_retx dX4_about_159 rfl rfl (by rw [e12]; rfl)
  by_cases e13 : wh = nI 13
  · refine r_tswC (tgt := 160) (off := 159) 13 dX4_about_1 e13 (by decide) rfl ?_
    refine r_aload_n dX4_about_160 rfl ?_
    refine r_getIv fX4_383 (hl.1) (v := nI nl) (hnl) rfl dX4_about_161 ?_
    exact r_retx dX4_about_164 rfl rfl (by rw [e13]; rfl)
  by_cases e14 : wh = nI 14
  · refine r_tswC (tgt := 165) (off := 164) 14 dX4_about_1 e14 (by decide) rfl ?_
    refine r_aload_n dX4_about_165 rfl ?_
    refine r_getRv fX4_33 (hl.1) (v := aSneeze) ((l_sneeze hl).1) rfl dX4_about_166 ?_
    refine r_aload_n dX4_about_169 rfl ?_
    refine r_getIv fX4_253 (hl.1) (v := nI k) (hm.bank) rfl dX4_about_170 ?_
    refine r_ialdv ((l_sneeze hl).2.1) ((l_sneeze hl).2.2) (ix_n (by omega) (by decide)) (v := nI (bSn b)) (hm.sneeze) dX4_about_173 ?_
    exact r_retx dX4_about_174 rfl rfl (by rw [e14]; rfl)
  by_cases e15 : wh = nI 15
  · refine r_tswC (tgt := 175) (off := 174) 15 dX4_about_1 e15 (by decide) rfl ?_
    refine r_aload_n dX4_about_175 rfl ?_
    refine r_aload_n dX4_about_176 rfl ?_
    refine r_callVx lX4_416 (c_keptNow hm hT) (hl.1) rfl rfl rfl rfl dX4_about_177 (Nat.le_refl _) (Nat.le_refl _) ?_
    refine r_callVx lX4_348 (c_heatOf hm _) (hl.1) rfl rfl rfl rfl dX4_about_180 (Nat.le_refl _) (Nat.le_refl _) ?_
    exact r_retx dX4_about_183 rfl rfl (by rw [e15]; rfl)
  refine r_tswD (tgt := 184) 0 [0, 1, 2, 3, 4, 5, 6, 7, 8, 9, 10, 11, 12, 13, 14, 15] dX4_about_1 (by decide) (by decide) (by simp [*]) rfl ?_
  refine r_iconst (v := (-1)) dX4_about_184 (by decide) ?_
  exact r_retx dX4_about_185 rfl rfl (by simp [abV, *])

theorem c_layTold {G : ev_G} {b : Bk} {k : Nat} {h : ev_H} (hm : MB b k h) : Called G mX4_layTold 1 0 0 [vR aM] h (p0 (fun h1 => Fr [aAll] [] h h1 ∧ MT (layT b) h1)) := by
  have hl := hm.lay
  have hk2 := hm.k2
  have hb := hm.bw
  have hb1 := hb.p6
  have hb2 := hb.s5
  have hb3 := hb.t10
  refine called_of rfl [some (vR aM), none] rfl (Nat.le_of_ble_eq_true rfl) ?_
  refine r_iconst (v := nI 0) dX4_layTold_0 (by decide) ?_
  refine r_istore_n dX4_layTold_1 (by decide) rfl ?_
  refine (ev_for (P := fun i => ∀ h9 : ev_H, (Fr [aAll] [] h h9 ∧ ∀ j, j < i → hI h9 aAll j = layP b 0 j) → Ev G mX4_layTold (ev_room 1 0 0) (ev_MQ G (p0 (fun h1 => Fr [aAll] [] h h1 ∧ MT (layT b) h1)) 0 0) 2 [some (vR aM), some (vI (nI i))] [] h9 0 0) 19 (fun i hki ihi h9 qh9 => ?_)) 0 (Nat.zero_le _) _ (⟨Fr.rf, fun j hj => absurd hj (by omega)⟩)
  obtain ⟨f9, e9⟩ := qh9
  have hm9 := hm.fr f9 rfl
  have hl9 := hm9.lay
  refine r_iload_n dX4_layTold_2 rfl ?_
  refine r_bipush (v := nI 19) dX4_layTold_3 (by decide) ?_
  refine r_icmpN_ge (tgt := 21) dX4_layTold_5 rfl (by omega) (by omega) (fun c1 => ?_) (fun c1 => ?_)
  · --
    refine r_iconst (v := nI 0) dX4_layTold_21 (by decide) ?_
    refine r_istore_n dX4_layTold_22 (by decide) rfl ?_
    refine (ev_for (P := fun i => ∀ h8 : ev_H, (Fr [aAll] [] h h8 ∧ MT (layP b i) h8) → Ev G mX4_layTold (ev_room 1 0 0) (ev_MQ G (p0 (fun h1 => Fr [aAll] [] h h1 ∧ MT (layT b) h1)) 0 0) 23 [some (vR aM), some (vI (nI i))] [] h8 0 0) 10 (fun i hki ihi h8 qh8 => ?_)) 0 (Nat.zero_le _) _ (⟨f9, fun q hq => e9 q (by omega)⟩)
    obtain ⟨f8, e8⟩ := qh8
    have hm8 := hm.fr f8 rfl
    have hl8 := hm8.lay
    refine r_iload_n dX4_layTold_23 rfl ?_
    refine r_bipush (v := nI 10) dX4_layTold_24 (by decide) ?_
    refine r_icmpN_ge (tgt := 69) dX4_layTold_26 rfl (by omega) (by omega) (fun c2 => ?_) (fun c2 => ?_)
    · --
      refine r_aload_n dX4_layTold_69 rfl ?_
      refine r_getRv fX4_88 (hl8.1) (v := aAll) ((l_all hl8).1) rfl dX4_layTold_70 ?_
      refine r_bipush (v := nI 18) dX4_layTold_73 (by decide) ?_
      refine r_aload_n dX4_layTold_75 rfl ?_
      refine r_getRv fX4_36 (hl8.1) (v := aDraw) ((l_draw hl8).1) rfl dX4_layTold_76 ?_
      refine r_aload_n dX4_layTold_79 rfl ?_
      refine r_getIv fX4_253 (hl8.1) (v := nI k) (hm8.bank) rfl dX4_layTold_80 ?_
      refine r_ialdv ((l_draw hl8).2.1) ((l_draw hl8).2.2) (ix_n (by omega) (by decide)) (v := nI (bDr b)) (hm8.draw) dX4_layTold_83 ?_
      refine r_iastv ((l_all hl8).2.1) (by decide) ((l_all hl8).2.2) (ix_n (by omega) (by decide)) dX4_layTold_84 ?_
      exact r_retv dX4_layTold_85 rfl (Nat.le_refl _) (Nat.le_refl _) (⟨f8.sa _ _ _ (by decide), (e8.up 18 (nI (bDr b))).eq (fun q hq => by rw [show i = 10 by omega]; exact layT_eq q)⟩)
    · --
      refine r_aload_n dX4_layTold_29 rfl ?_
      refine r_getRv fX4_88 (hl8.1) (v := aAll) ((l_all hl8).1) rfl dX4_layTold_30 ?_
      refine r_iconst (v := nI 2) dX4_layTold_33 (by decide) ?_
      refine r_iload_n dX4_layTold_34 rfl ?_
      refine r_iadd dX4_layTold_35 ?_
      refine r_top (nI (2 + i)) (nI_add _ _) ?_
      refine r_iload_n dX4_layTold_36 rfl ?_
      refine r_aload_n dX4_layTold_37 rfl ?_
      refine r_callVx lX4_368 (c_many hm8) (hl8.1) rfl rfl rfl rfl dX4_layTold_38 (Nat.le_refl _) (Nat.le_refl _) ?_
      refine r_icmpN_ge (tgt := 61) dX4_layTold_41 rfl (by omega) (by omega) (fun c3 => ?_) (fun c3 => ?_)
      · --
        refine r_iconst (v := (-1)) dX4_layTold_61 (by decide) ?_
        refine r_iastv ((l_all hl8).2.1) (by decide) ((l_all hl8).2.2) (ix_n (by omega) (by decide)) dX4_layTold_62 ?_
        refine r_iincN (n := 1) dX4_layTold_63 rfl rfl (by decide) rfl ?_
        refine r_goto (tgt := 23) dX4_layTold_66 rfl ?_
        exact ihi (by omega) _ (⟨f8.sa _ _ _ (by decide), lay_step e8 (by rw [if_neg (by omega)])⟩)
      · --
        refine r_aload_n dX4_layTold_44 rfl ?_
        refine r_getRv fX4_54 (hl8.1) (v := aInSack) ((l_inSack hl8).1) rfl dX4_layTold_45 ?_
        refine r_bipush (v := nI 10) dX4_layTold_48 (by decide) ?_
        refine r_aload_n dX4_layTold_50 rfl ?_
        refine r_getIv fX4_253 (hl8.1) (v := nI k) (hm8.bank) rfl dX4_layTold_51 ?_
        refine r_imul dX4_layTold_54 ?_
        refine r_top (nI (10 * k)) (pk_mul _ _) ?_
        refine r_iload_n dX4_layTold_55 rfl ?_
        refine r_iadd dX4_layTold_56 ?_
        refine r_top (nI (10 * k + i)) (nI_add _ _) ?_
        refine r_ialdv ((l_inSack hl8).2.1) ((l_inSack hl8).2.2) (ix_n (by omega) (by decide)) (v := bIn b i) (hm8.inSack (by omega)) dX4_layTold_57 ?_
        refine r_goto (tgt := 62) dX4_layTold_58 rfl ?_
        refine r_iastv ((l_all hl8).2.1) (by decide) ((l_all hl8).2.2) (ix_n (by omega) (by decide)) dX4_layTold_62 ?_
        refine r_iincN (n := 1) dX4_layTold_63 rfl rfl (by decide) rfl ?_
        refine r_goto (tgt := 23) dX4_layTold_66 rfl ?_
        exact ihi (by omega) _ (⟨f8.sa _ _ _ (by decide), lay_step e8 (by rw [if_pos (by omega)])⟩)
  · --
    refine r_aload_n dX4_layTold_8 rfl ?_
    refine r_getRv fX4_88 (hl9.1) (v := aAll) ((l_all hl9).1) rfl dX4_layTold_9 ?_
    refine r_iload_n dX4_layTold_12 rfl ?_
    refine r_iconst (v := nI 0) dX4_layTold_13 (by decide) ?_
    refine r_iastv ((l_all hl9).2.1) (by decide) ((l_all hl9).2.2) (ix_n (by omega) (by decide)) dX4_layTold_14 ?_
    refine r_iincN (n := 1) dX4_layTold_15 rfl rfl (by decide) rfl ?_
    refine r_goto (tgt := 2) dX4_layTold_18 rfl ?_
    exact ihi (by omega) _ (⟨f9.sa _ _ _ (by decide), cp_step e9 (by unfold layP; rw [if_neg (by omega)]; rfl)⟩)

theorem c_rumour {G : ev_G} {b : Bk} {k : Nat} {h : ev_H} (hm : MB b k h) {T : Nat → Int32} (hT : MT T h) (p o : Int32) : Called G mX4_rumour 3 0 0 [vR aM, vI p, vI o] h (px (vI (rumV b T 6 p o)) h) := by
  have hl := hm.lay
  have hk2 := hm.k2
  have hb := hm.bw
  have hb1 := hb.p6
  have hb2 := hb.s5
  have hb3 := hb.t10
  refine called_of rfl [some (vR aM), some (vI p), some (vI o), none, none, none, none] rfl (Nat.le_of_ble_eq_true rfl) ?_
  refine r_aload_n dX4_rumour_0 rfl ?_
  refine r_iload_n dX4_rumour_1 rfl ?_
  refine r_callVx lX4_410 (c_isPerson hm _) (hl.1) rfl rfl rfl rfl dX4_rumour_2 (Nat.le_refl _) (Nat.le_refl _) ?_
  refine r_ifB_eq (tgt := 16) dX4_rumour_5 rfl (fun c1 => ?_) (fun c1 => ?_)
  · --
    refine r_iconst (v := (-1)) dX4_rumour_16 (by decide) ?_
    exact r_retx dX4_rumour_17 rfl rfl (rumV_o (by simp [c1]))
  · --
    obtain ⟨j, hj, rfl⟩ := perV_ok hb c1
    refine r_aload_n dX4_rumour_8 rfl ?_
    refine r_iload_n dX4_rumour_9 rfl ?_
    refine r_callVx lX4_410 (c_isPerson hm _) (hl.1) rfl rfl rfl rfl dX4_rumour_10 (Nat.le_refl _) (Nat.le_refl _) ?_
    refine r_ifB_ne (tgt := 18) dX4_rumour_13 rfl (fun c2 => ?_) (fun c2 => ?_)
    · --
      obtain ⟨jo, hjo, rfl⟩ := perV_ok hb c2
      refine r_iconst (v := nI 1) dX4_rumour_18 (by decide) ?_
      refine r_iload_n dX4_rumour_19 rfl ?_
      refine r_ishl dX4_rumour_20 ?_
      refine r_top (one j) rfl ?_
      refine r_istore_n dX4_rumour_21 (by decide) rfl ?_
      refine r_iconst (v := nI 0) dX4_rumour_22 (by decide) ?_
      refine r_istore dX4_rumour_23 (by decide) rfl ?_
      refine (ev_for (P := fun i => (firstOf i (fun n => tbI (rset b T (nI j) n) (nI jo)) = none) → Ev G mX4_rumour (ev_room 3 0 0) (ev_MQ G (px (vI (rumV b T 6 (nI j) (nI jo))) h) 0 0) 25 [some (vR aM), some (vI (nI j)), some (vI (nI jo)), some (vI (rset b T (nI j) i)), some (vI (nI i)), none, none] [] h 0 0) 6 (fun i hki ihi qi => ?_)) 0 (Nat.zero_le _) (rfl)
      refine r_iload dX4_rumour_25 rfl ?_
      refine r_bipush (v := nI 6) dX4_rumour_27 (by decide) ?_
      refine r_icmpN_ge (tgt := 108) dX4_rumour_29 rfl (by omega) (by omega) (fun c3 => ?_) (fun c3 => ?_)
      · --
        refine r_iconst (v := (-1)) dX4_rumour_108 (by decide) ?_
        exact r_retx dX4_rumour_109 rfl rfl (rumV_n c1 c2 (by rw [← show i = 6 by omega]; exact qi))
      · --
        refine r_iload_n dX4_rumour_32 rfl ?_
        refine r_iload_n dX4_rumour_33 rfl ?_
        refine r_callSx lX4_259 (c_bit _ _) rfl rfl rfl rfl dX4_rumour_34 (Nat.le_refl _) (Nat.le_refl _) ?_
        refine r_ifB_eq (tgt := 43) dX4_rumour_37 rfl (fun c4 => ?_) (fun c4 => ?_)
        · --
          refine r_iload_n dX4_rumour_43 rfl ?_
          refine r_istore dX4_rumour_44 (by decide) rfl ?_
          refine r_iconst (v := nI 0) dX4_rumour_46 (by decide) ?_
          refine r_istore dX4_rumour_47 (by decide) rfl ?_
          refine (ev_for (P := fun u => Ev G mX4_rumour (ev_room 3 0 0) (ev_MQ G (px (vI (rumV b T 6 (nI j) (nI jo))) h) 0 0) 49 [some (vR aM), some (vI (nI j)), some (vI (nI jo)), some (vI (rset b T (nI j) i)), some (vI (nI i)), some (vI (ruI b T (rset b T (nI j) i) u)), some (vI (nI u))] [] h 0 0) (nT b) (fun u hku ihu => ?_)) 0 (Nat.zero_le _)
          refine r_iload dX4_rumour_49 rfl ?_
          refine r_aload_n dX4_rumour_51 rfl ?_
          refine r_callVx lX4_368 (c_many hm) (hl.1) rfl rfl rfl rfl dX4_rumour_52 (Nat.le_refl _) (Nat.le_refl _) ?_
          refine r_icmpN_ge (tgt := 99) dX4_rumour_55 rfl (by omega) (by omega) (fun c5 => ?_) (fun c5 => ?_)
          · --
            refine r_iload dX4_rumour_99 rfl ?_
            refine r_istore_n dX4_rumour_101 (by decide) rfl ?_
            refine r_iincN (n := 1) dX4_rumour_102 rfl rfl (by decide) rfl ?_
            refine r_goto (tgt := 25) dX4_rumour_105 rfl ?_
            refine r_sub [some (vR aM), some (vI (nI j)), some (vI (nI jo)), some (vI (ruI b T (rset b T (nI j) i) u)), some (vI (nI (i + 1))), none, none] (And.intro rfl (And.intro rfl (And.intro rfl (And.intro rfl (And.intro rfl trivial))))) ?_
            exact r_L (by rw [show u = nT b by omega]; rfl) (ihi (by omega) (first_f qi c4))
          · --
            refine r_aload_n dX4_rumour_58 rfl ?_
            refine r_iload dX4_rumour_59 rfl ?_
            refine r_callVx lX4_386 (c_isStill hm hT (t := u)) (hl.1) rfl rfl rfl rfl dX4_rumour_61 (Nat.le_refl _) (Nat.le_refl _) ?_
            refine r_ifB_ne (tgt := 93) dX4_rumour_64 rfl (fun c6 => ?_) (fun c6 => ?_)
            · --
              refine r_iincN (n := 1) dX4_rumour_93 rfl rfl (by decide) rfl ?_
              refine r_goto (tgt := 49) dX4_rumour_96 rfl ?_
              exact r_L (by rw [← ruI_f (by simp [c6])]; rfl) (ihu (by omega))
            · --
              refine r_iload_n dX4_rumour_67 rfl ?_
              refine r_aload_n dX4_rumour_68 rfl ?_
              refine r_iload dX4_rumour_69 rfl ?_
              refine r_callVx lX4_389 (c_fromOf hm (t := u) (by omega)) (hl.1) rfl rfl rfl rfl dX4_rumour_71 (Nat.le_refl _) (Nat.le_refl _) ?_
              refine r_callSx lX4_259 (c_bitN _ _) rfl rfl rfl rfl dX4_rumour_74 (Nat.le_refl _) (Nat.le_refl _) ?_
              refine r_ifB_eq (tgt := 93) dX4_rumour_77 rfl (fun c7 => ?_) (fun c7 => ?_)
              · --
                refine r_iincN (n := 1) dX4_rumour_93 rfl rfl (by decide) rfl ?_
                refine r_goto (tgt := 49) dX4_rumour_96 rfl ?_
                exact r_L (by rw [← ruI_f (by simp [c6, c7])]; rfl) (ihu (by omega))
              · --
                refine r_iload dX4_rumour_80 rfl ?_
                refine r_iconst (v := nI 1) dX4_rumour_82 (by decide) ?_
                refine r_aload_n dX4_rumour_83 rfl ?_
                refine r_iload dX4_rumour_84 rfl ?_
                refine r_callVx lX4_392 (c_whomOf hm (t := u) (by omega)) (hl.1) rfl rfl rfl rfl dX4_rumour_86 (Nat.le_refl _) (Nat.le_refl _) ?_
                refine r_ishl dX4_rumour_89 ?_
                refine r_top (one (bTo b u)) rfl ?_
                refine r_ior dX4_rumour_90 ?_
                refine r_istore dX4_rumour_91 (by decide) rfl ?_
                refine r_iincN (n := 1) dX4_rumour_93 rfl rfl (by decide) rfl ?_
                refine r_goto (tgt := 49) dX4_rumour_96 rfl ?_
                exact r_L (by rw [← ruI_t (by simp [c6, c7])]; rfl) (ihu (by omega))
        · --
          refine r_iload dX4_rumour_40 rfl ?_
          exact r_retx dX4_rumour_42 rfl rfl (rumV_s (i := i) c1 c2 (by omega) qi c4)
    · --
      refine r_iconst (v := (-1)) dX4_rumour_16 (by decide) ?_
      exact r_retx dX4_rumour_17 rfl rfl (rumV_o (by simp [c1, c2]))
