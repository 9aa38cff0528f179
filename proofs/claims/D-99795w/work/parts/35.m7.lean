/-! ===== THE REFERENCE: who could sit, sacks otherwise (walks by program) ===== -/
set_option maxRecDepth 100000

theorem popc_m (y : Int32) : -1 < popc y := Int32.not_le.mp (popc_m1 y)
theorem inv_m1 {b : Bk} {T : Nat → Int32} (j : Nat) : ¬ inviF b T j < -1 := fun h => popc_ge _ (Int32.lt_trans h (by decide))

theorem c_allSacksN {G : ev_G} {b : Bk} {k : Nat} {h : ev_H} (hm : MB b k h) : Called G mX4_allSacks 1 0 0 [vR aM] h (px (vI (nI (2 ^ nS b - 1))) h) := by
  rw [← allV_n (by have := hm.bw.s5; omega)]
  exact c_allSacks hm

theorem c_table {G : ev_G} {b : Bk} {k : Nat} {h : ev_H} (hm : MB b k h) {T : Nat → Int32} (hT : MT T h) (hth : hI h aM 43 = -1) (set p wh : Int32) : Called G mX4_table 8 0 0 [vR aM, vI set, vI p, vI wh] h (pI (fun y h1 => y = tableV b T set p wh ∧ Fr [aPile, aAll] [39, 40, 41] h h1 ∧ MT T h1)) := by
  have hl := hm.lay
  have hk2 := hm.k2
  have hb := hm.bw
  have hb1 := hb.p6
  have hb2 := hb.s5
  have hb3 := hb.t10
  have f : Fr [aPile, aAll] [39, 40, 41] h h := Fr.rf
  have hp2 := p2_6 hb1
  have ho2 : one (nP b) = nI (2 ^ nP b) := one_n (by omega)
  refine called_of rfl [some (vR aM), some (vI set), some (vI p), some (vI wh), none, none] rfl (Nat.le_of_ble_eq_true rfl) ?_
  refine r_iload_n dX4_table_0 rfl ?_
  refine r_iconst (v := 0) dX4_table_1 (by decide) ?_
  refine r_iconst (v := nI 1) dX4_table_2 (by decide) ?_
  refine r_aload_n dX4_table_3 rfl ?_
  refine r_callVx lX4_368 (c_many hm) (hl.1) rfl rfl rfl rfl dX4_table_4 (Nat.le_refl _) (Nat.le_refl _) ?_
  refine r_ishl dX4_table_7 ?_
  refine r_top (one (nT b)) rfl ?_
  refine r_iconst (v := 1) dX4_table_8 (by decide) ?_
  refine r_isub dX4_table_9 ?_
  refine r_top (allV (nT b)) (rfl) ?_
  refine r_callSx lX4_361 (c_isIn _ _ _) rfl rfl rfl rfl dX4_table_10 (Nat.le_refl _) (Nat.le_refl _) ?_
  refine r_ifB_eq (tgt := 33) dX4_table_13 rfl (fun c1 => ?_) (fun c1 => ?_)
  · --
    refine r_iconst (v := (-1)) dX4_table_33 (by decide) ?_
    exact r_reti dX4_table_34 rfl rfl (Nat.le_refl _) (Nat.le_refl _) ⟨by rw [tableV, if_neg (by simp [c1])], f, hT⟩
  · --
    refine r_aload_n dX4_table_16 rfl ?_
    refine r_iload_n dX4_table_17 rfl ?_
    refine r_callVx lX4_425 (c_isSack hm _) (hl.1) rfl rfl rfl rfl dX4_table_18 (Nat.le_refl _) (Nat.le_refl _) ?_
    refine r_ifB_eq (tgt := 33) dX4_table_21 rfl (fun c2 => ?_) (fun c2 => ?_)
    · --
      refine r_iconst (v := (-1)) dX4_table_33 (by decide) ?_
      exact r_reti dX4_table_34 rfl rfl (Nat.le_refl _) (Nat.le_refl _) ⟨by rw [tableV, if_neg (by simp [c1, c2])], f, hT⟩
    · --
      obtain ⟨j, hj, rfl⟩ := sakV_ok hb c2
      refine r_iload_n dX4_table_24 rfl ?_
      refine r_iconst (v := 0) dX4_table_25 (by decide) ?_
      refine r_iconst (v := 1) dX4_table_26 (by decide) ?_
      refine r_callSx lX4_361 (c_isIn _ _ _) rfl rfl rfl rfl dX4_table_27 (Nat.le_refl _) (Nat.le_refl _) ?_
      refine r_ifB_ne (tgt := 35) dX4_table_30 rfl (fun c3 => ?_) (fun c3 => ?_)
      · --
        refine r_iconst (v := (-1)) dX4_table_35 (by decide) ?_
        refine r_istore dX4_table_36 (by decide) rfl ?_
        refine r_iconst (v := nI 0) dX4_table_38 (by decide) ?_
        refine r_istore dX4_table_39 (by decide) rfl ?_
        refine (ev_for (P := fun i => ∀ hL : ev_H, (Fr [aPile, aAll] [39, 40, 41] h hL ∧ MT T hL) → Ev G mX4_table (ev_room 8 0 0) (ev_MQ G (pI (fun y h1 => y = tableV b T set (nI j) wh ∧ Fr [aPile, aAll] [39, 40, 41] h h1 ∧ MT T h1)) 0 0) 41 [some (vR aM), some (vI set), some (vI (nI j)), some (vI wh), some (vI (optI (fewOf i (fun who => decide (outW b T (nI who) j = set))))), some (vI (nI i))] [] hL 0 0) (2 ^ nP b) (fun i hki ihi hL qhL => ?_)) 0 (Nat.zero_le _) _ (⟨f, hT⟩)
        obtain ⟨fL, hTL⟩ := qhL
        have hmL := hm.fr fL rfl
        have hlL := hmL.lay
        refine r_iload dX4_table_41 rfl ?_
        refine r_iconst (v := nI 1) dX4_table_43 (by decide) ?_
        refine r_aload_n dX4_table_44 rfl ?_
        refine r_callVx lX4_358 (c_folk hmL) (hlL.1) rfl rfl rfl rfl dX4_table_45 (Nat.le_refl _) (Nat.le_refl _) ?_
        refine r_ishl dX4_table_48 ?_
        refine r_top (nI (2 ^ nP b)) (ho2) ?_
        refine r_icmpN_ge (tgt := 91) dX4_table_49 rfl (by omega) (by omega) (fun c4 => ?_) (fun c4 => ?_)
        · --
          have hi9 : i = 2 ^ nP b := by omega
          subst hi9
          cases hbo : fewOf (2 ^ nP b) (fun who => decide (outW b T (nI who) j = set)) with
          | none =>
            refine r_iload dX4_table_91 rfl ?_
            refine r_if_ge (tgt := 100) dX4_table_93 rfl (fun c5 => ?_) (fun c5 => ?_)
            · --
              exact absurd c5 (show ¬ (0 : Int32) ≤ (-1) by decide)
            · --
              refine r_iconst (v := (-1)) dX4_table_96 (by decide) ?_
              refine r_goto (tgt := 114) dX4_table_97 rfl ?_
              exact r_reti dX4_table_114 rfl rfl (Nat.le_refl _) (Nat.le_refl _) ⟨by rw [tableV, if_pos (by rw [c1, c2, c3]; rfl), nI_clamp (by omega), hbo], fL, hTL⟩
          | some jb =>
            have hjb := (fewOf_lt hbo).1
            refine r_iload dX4_table_91 rfl ?_
            refine r_if_ge (tgt := 100) dX4_table_93 rfl (fun c6 => ?_) (fun c6 => ?_)
            · --
              refine r_iload_n dX4_table_100 rfl ?_
              refine r_if_ne (tgt := 112) dX4_table_101 rfl (fun c7 => ?_) (fun c7 => ?_)
              · --
                refine r_iload dX4_table_112 rfl ?_
                exact r_reti dX4_table_114 rfl rfl (Nat.le_refl _) (Nat.le_refl _) ⟨by rw [tableV, if_pos (by rw [c1, c2, c3]; rfl), nI_clamp (by omega), hbo]; exact (if_neg c7).symm, fL, hTL⟩
              · --
                refine r_iload dX4_table_104 rfl ?_
                refine r_callSx lX4_339 (c_bitsOf _) rfl rfl rfl rfl dX4_table_106 (Nat.le_refl _) (Nat.le_refl _) ?_
                refine r_goto (tgt := 114) dX4_table_109 rfl ?_
                exact r_reti dX4_table_114 rfl rfl (Nat.le_refl _) (Nat.le_refl _) ⟨by rw [tableV, if_pos (by rw [c1, c2, c3]; rfl), nI_clamp (by omega), hbo]; exact (if_pos c7).symm, fL, hTL⟩
            · --
              exact absurd (nI_pos' (by omega)) c6
        · --
          cases hbo : fewOf i (fun who => decide (outW b T (nI who) j = set)) with
          | none =>
            refine r_iload dX4_table_52 rfl ?_
            refine r_if_lt (tgt := 70) dX4_table_54 rfl (fun c8 => ?_) (fun c8 => ?_)
            · --
              refine r_aload_n dX4_table_70 rfl ?_
              refine r_iload dX4_table_71 rfl ?_
              refine r_iload_n dX4_table_73 rfl ?_
              refine r_callVi lX4_446 (c_wouldWith hmL hTL ((fL.fld 43 (by decide) (by decide)).trans hth) (nI i) (s := j) (by omega)) (hlL.1) rfl rfl rfl rfl dX4_table_74 (Nat.le_refl _) (Nat.le_refl _) (fun y9 hZ1 q9 => ?_)
              obtain ⟨rfl, gZ1, hTZ1⟩ := q9
              have fZ1 := fL.tr (gZ1.wk (by simp) (by simp))
              have hmZ1 := hmL.fr gZ1 rfl
              have hlZ1 := hmZ1.lay
              refine r_iload_n dX4_table_77 rfl ?_
              refine r_icmp_ne (tgt := 85) dX4_table_78 rfl (fun c9 => ?_) (fun c9 => ?_)
              · --
                refine r_iincN (n := 1) dX4_table_85 rfl rfl (by decide) rfl ?_
                refine r_goto (tgt := 41) dX4_table_88 rfl ?_
                exact r_L (by have h7 : fewOf (i + 1) (fun who => decide (outW b T (nI who) j = set)) = none := fewOf_n0 (p := fun who => decide (outW b T (nI who) j = set)) hbo (by simp [outW, c8, c9]); rw [h7]; rfl) (ihi (by omega) _ (⟨fZ1, hTZ1⟩))
              · --
                refine r_iload dX4_table_81 rfl ?_
                refine r_istore dX4_table_83 (by decide) rfl ?_
                refine r_iincN (n := 1) dX4_table_85 rfl rfl (by decide) rfl ?_
                refine r_goto (tgt := 41) dX4_table_88 rfl ?_
                exact r_L (by have h7 : fewOf (i + 1) (fun who => decide (outW b T (nI who) j = set)) = some i := fewOf_n1 (p := fun who => decide (outW b T (nI who) j = set)) hbo (by simp [outW, c8, c9]); rw [h7]; rfl) (ihi (by omega) _ (⟨fZ1, hTZ1⟩))
            · --
              exact absurd (show ((-1) : Int32) < 0 by decide) c8
          | some jb =>
            have hjb := (fewOf_lt hbo).1
            refine r_iload dX4_table_52 rfl ?_
            refine r_if_lt (tgt := 70) dX4_table_54 rfl (fun c10 => ?_) (fun c10 => ?_)
            · --
              exact absurd c10 (nI_pos (by omega))
            · --
              refine r_iload dX4_table_57 rfl ?_
              refine r_callSx lX4_339 (c_bitsOf _) rfl rfl rfl rfl dX4_table_59 (Nat.le_refl _) (Nat.le_refl _) ?_
              refine r_iload dX4_table_62 rfl ?_
              refine r_callSx lX4_339 (c_bitsOf _) rfl rfl rfl rfl dX4_table_64 (Nat.le_refl _) (Nat.le_refl _) ?_
              refine r_icmp_ge (tgt := 85) dX4_table_67 rfl (fun c11 => ?_) (fun c11 => ?_)
              · --
                refine r_iincN (n := 1) dX4_table_85 rfl rfl (by decide) rfl ?_
                refine r_goto (tgt := 41) dX4_table_88 rfl ?_
                exact r_L (by have h7 : fewOf (i + 1) (fun who => decide (outW b T (nI who) j = set)) = some jb := fewOf_s0 (p := fun who => decide (outW b T (nI who) j = set)) hbo (Or.inr (c11)); rw [h7]; rfl) (ihi (by omega) _ (⟨fL, hTL⟩))
              · --
                refine r_aload_n dX4_table_70 rfl ?_
                refine r_iload dX4_table_71 rfl ?_
                refine r_iload_n dX4_table_73 rfl ?_
                refine r_callVi lX4_446 (c_wouldWith hmL hTL ((fL.fld 43 (by decide) (by decide)).trans hth) (nI i) (s := j) (by omega)) (hlL.1) rfl rfl rfl rfl dX4_table_74 (Nat.le_refl _) (Nat.le_refl _) (fun y9 hZ2 q9 => ?_)
                obtain ⟨rfl, gZ2, hTZ2⟩ := q9
                have fZ2 := fL.tr (gZ2.wk (by simp) (by simp))
                have hmZ2 := hmL.fr gZ2 rfl
                have hlZ2 := hmZ2.lay
                refine r_iload_n dX4_table_77 rfl ?_
                refine r_icmp_ne (tgt := 85) dX4_table_78 rfl (fun c12 => ?_) (fun c12 => ?_)
                · --
                  refine r_iincN (n := 1) dX4_table_85 rfl rfl (by decide) rfl ?_
                  refine r_goto (tgt := 41) dX4_table_88 rfl ?_
                  exact r_L (by have h7 : fewOf (i + 1) (fun who => decide (outW b T (nI who) j = set)) = some jb := fewOf_s0 (p := fun who => decide (outW b T (nI who) j = set)) hbo (Or.inl (by simp [outW, c10, c11, c12])); rw [h7]; rfl) (ihi (by omega) _ (⟨fZ2, hTZ2⟩))
                · --
                  refine r_iload dX4_table_81 rfl ?_
                  refine r_istore dX4_table_83 (by decide) rfl ?_
                  refine r_iincN (n := 1) dX4_table_85 rfl rfl (by decide) rfl ?_
                  refine r_goto (tgt := 41) dX4_table_88 rfl ?_
                  exact r_L (by have h7 : fewOf (i + 1) (fun who => decide (outW b T (nI who) j = set)) = some i := fewOf_s1 (p := fun who => decide (outW b T (nI who) j = set)) hbo (by simp [outW, c10, c11, c12]) (Int32.not_le.mp c11); rw [h7]; rfl) (ihi (by omega) _ (⟨fZ2, hTZ2⟩))
      · --
        refine r_iconst (v := (-1)) dX4_table_33 (by decide) ?_
        exact r_reti dX4_table_34 rfl rfl (Nat.le_refl _) (Nat.le_refl _) ⟨by rw [tableV, if_neg (by simp [c1, c2, c3])], f, hT⟩

theorem c_spine {G : ev_G} {b : Bk} {k : Nat} {h : ev_H} (hm : MB b k h) {T : Nat → Int32} (hT : MT T h) (hth : hI h aM 43 = -1) (p : Int32) : Called G mX4_spine 8 0 0 [vR aM, vI p] h (pI (fun y h1 => y = spineV b T p ∧ Fr [aPile, aAll] [39, 40, 41] h h1 ∧ MT T h1)) := by
  have hl := hm.lay
  have hk2 := hm.k2
  have hb := hm.bw
  have hb1 := hb.p6
  have hb2 := hb.s5
  have hb3 := hb.t10
  have f : Fr [aPile, aAll] [39, 40, 41] h h := Fr.rf
  have hp2 := p2_6 hb1
  have ho2 : one (nP b) = nI (2 ^ nP b) := one_n (by omega)
  refine called_of rfl [some (vR aM), some (vI p), none, none] rfl (Nat.le_of_ble_eq_true rfl) ?_
  cases hsk : sakV b p with
  | false =>
    refine r_iconst (v := (-1)) dX4_spine_0 (by decide) ?_
    refine r_istore_n dX4_spine_1 (by decide) rfl ?_
    refine r_iconst (v := nI 0) dX4_spine_2 (by decide) ?_
    refine r_istore_n dX4_spine_3 (by decide) rfl ?_
    refine r_iload_n dX4_spine_4 rfl ?_
    refine r_iconst (v := nI 1) dX4_spine_5 (by decide) ?_
    refine r_aload_n dX4_spine_6 rfl ?_
    refine r_callVx lX4_358 (c_folk hm) (hl.1) rfl rfl rfl rfl dX4_spine_7 (Nat.le_refl _) (Nat.le_refl _) ?_
    refine r_ishl dX4_spine_10 ?_
    refine r_top (nI (2 ^ nP b)) (ho2) ?_
    refine r_icmpN_ge (tgt := 41) dX4_spine_11 rfl (by omega) (by omega) (fun c1 => ?_) (fun c1 => ?_)
    · --
      refine r_iload_n dX4_spine_41 rfl ?_
      exact r_reti dX4_spine_42 rfl rfl (Nat.le_refl _) (Nat.le_refl _) ⟨by rw [spineV, if_neg (by rw [hsk]; decide)], f, hT⟩
    · --
      refine r_aload_n dX4_spine_14 rfl ?_
      refine r_iload_n dX4_spine_15 rfl ?_
      refine r_callVx lX4_425 (c_isSack hm _) (hl.1) rfl rfl rfl rfl dX4_spine_16 (Nat.le_refl _) (Nat.le_refl _) ?_
      refine r_ifB_eq (tgt := 41) dX4_spine_19 rfl (fun c2 => ?_) (fun c2 => ?_)
      · --
        refine r_iload_n dX4_spine_41 rfl ?_
        exact r_reti dX4_spine_42 rfl rfl (Nat.le_refl _) (Nat.le_refl _) ⟨by rw [spineV, if_neg (by rw [hsk]; decide)], f, hT⟩
      · --
        exact absurd (c2.symm.trans hsk) (by decide)
  | true =>
    obtain ⟨j, hj, rfl⟩ := sakV_ok hb hsk
    refine r_iconst (v := (-1)) dX4_spine_0 (by decide) ?_
    refine r_istore_n dX4_spine_1 (by decide) rfl ?_
    refine r_iconst (v := nI 0) dX4_spine_2 (by decide) ?_
    refine r_istore_n dX4_spine_3 (by decide) rfl ?_
    refine (ev_for (P := fun i => ∀ hL : ev_H, (Fr [aPile, aAll] [39, 40, 41] h hL ∧ MT T hL) → Ev G mX4_spine (ev_room 8 0 0) (ev_MQ G (pI (fun y h1 => y = spineV b T (nI j) ∧ Fr [aPile, aAll] [39, 40, 41] h h1 ∧ MT T h1)) 0 0) 4 [some (vR aM), some (vI (nI j)), some (vI (andOf i (fun who => !decide (outW b T (nI who) j = 0)))), some (vI (nI i))] [] hL 0 0) (2 ^ nP b) (fun i hki ihi hL qhL => ?_)) 0 (Nat.zero_le _) _ (⟨f, hT⟩)
    obtain ⟨fL, hTL⟩ := qhL
    have hmL := hm.fr fL rfl
    have hlL := hmL.lay
    refine r_iload_n dX4_spine_4 rfl ?_
    refine r_iconst (v := nI 1) dX4_spine_5 (by decide) ?_
    refine r_aload_n dX4_spine_6 rfl ?_
    refine r_callVx lX4_358 (c_folk hmL) (hlL.1) rfl rfl rfl rfl dX4_spine_7 (Nat.le_refl _) (Nat.le_refl _) ?_
    refine r_ishl dX4_spine_10 ?_
    refine r_top (nI (2 ^ nP b)) (ho2) ?_
    refine r_icmpN_ge (tgt := 41) dX4_spine_11 rfl (by omega) (by omega) (fun c3 => ?_) (fun c3 => ?_)
    · --
      refine r_iload_n dX4_spine_41 rfl ?_
      exact r_reti dX4_spine_42 rfl rfl (Nat.le_refl _) (Nat.le_refl _) ⟨by rw [spineV, if_pos hsk, nI_clamp (by omega)]; exact congrArg (fun n => andOf n _) (by omega), fL, hTL⟩
    · --
      refine r_aload_n dX4_spine_14 rfl ?_
      refine r_iload_n dX4_spine_15 rfl ?_
      refine r_callVx lX4_425 (c_isSack hmL _) (hlL.1) rfl rfl rfl rfl dX4_spine_16 (Nat.le_refl _) (Nat.le_refl _) ?_
      refine r_ifB_eq (tgt := 41) dX4_spine_19 rfl (fun c4 => ?_) (fun c4 => ?_)
      · --
        exact absurd (c4.symm.trans hsk) (by decide)
      · --
        refine r_aload_n dX4_spine_22 rfl ?_
        refine r_iload_n dX4_spine_23 rfl ?_
        refine r_iload_n dX4_spine_24 rfl ?_
        refine r_callVi lX4_446 (c_wouldWith hmL hTL ((fL.fld 43 (by decide) (by decide)).trans hth) (nI i) (s := j) (by omega)) (hlL.1) rfl rfl rfl rfl dX4_spine_25 (Nat.le_refl _) (Nat.le_refl _) (fun y9 hZ1 q9 => ?_)
        obtain ⟨rfl, gZ1, hTZ1⟩ := q9
        have fZ1 := fL.tr (gZ1.wk (by simp) (by simp))
        have hmZ1 := hmL.fr gZ1 rfl
        have hlZ1 := hmZ1.lay
        refine r_if_eq (tgt := 35) dX4_spine_28 rfl (fun c5 => ?_) (fun c5 => ?_)
        · --
          refine r_iincN (n := 1) dX4_spine_35 rfl rfl (by decide) rfl ?_
          refine r_goto (tgt := 4) dX4_spine_38 rfl ?_
          exact r_L (by rw [← andOf_f (by simp [outW, c5])]; rfl) (ihi (by omega) _ (⟨fZ1, hTZ1⟩))
        · --
          refine r_iload_n dX4_spine_31 rfl ?_
          refine r_iload_n dX4_spine_32 rfl ?_
          refine r_iand dX4_spine_33 ?_
          refine r_istore_n dX4_spine_34 (by decide) rfl ?_
          refine r_iincN (n := 1) dX4_spine_35 rfl rfl (by decide) rfl ?_
          refine r_goto (tgt := 4) dX4_spine_38 rfl ?_
          exact r_L (by rw [← andOf_t (by simp [outW, c5])]; rfl) (ihi (by omega) _ (⟨fZ1, hTZ1⟩))

theorem c_invite {G : ev_G} {b : Bk} {k : Nat} {h : ev_H} (hm : MB b k h) {T : Nat → Int32} (hT : MT T h) (hth : hI h aM 43 = -1) (wh : Int32) : Called G mX4_invite 9 0 0 [vR aM, vI wh] h (pI (fun y h1 => y = inviteV b T wh ∧ Fr [aPile, aAll] [39, 40, 41] h h1 ∧ MT T h1)) := by
  have hl := hm.lay
  have hk2 := hm.k2
  have hb := hm.bw
  have hb1 := hb.p6
  have hb2 := hb.s5
  have hb3 := hb.t10
  have f : Fr [aPile, aAll] [39, 40, 41] h h := Fr.rf
  refine called_of rfl [some (vR aM), some (vI wh), none, none, none, none] rfl (Nat.le_of_ble_eq_true rfl) ?_
  refine r_iload_n dX4_invite_0 rfl ?_
  refine r_iconst (v := 0) dX4_invite_1 (by decide) ?_
  refine r_iconst (v := 1) dX4_invite_2 (by decide) ?_
  refine r_callSx lX4_361 (c_isIn _ _ _) rfl rfl rfl rfl dX4_invite_3 (Nat.le_refl _) (Nat.le_refl _) ?_
  refine r_ifB_ne (tgt := 11) dX4_invite_6 rfl (fun c1 => ?_) (fun c1 => ?_)
  · --
    refine r_iconst (v := (-1)) dX4_invite_11 (by decide) ?_
    refine r_istore_n dX4_invite_12 (by decide) rfl ?_
    refine r_iconst (v := (-1)) dX4_invite_13 (by decide) ?_
    refine r_istore_n dX4_invite_14 (by decide) rfl ?_
    refine r_iconst (v := nI 0) dX4_invite_15 (by decide) ?_
    refine r_istore dX4_invite_16 (by decide) rfl ?_
    refine (ev_for (P := fun i => ∀ hL : ev_H, (Fr [aPile, aAll] [39, 40, 41] h hL ∧ MT T hL) → Ev G mX4_invite (ev_room 9 0 0) (ev_MQ G (pI (fun y h1 => y = inviteV b T wh ∧ Fr [aPile, aAll] [39, 40, 41] h h1 ∧ MT T h1)) 0 0) 18 [some (vR aM), some (vI wh), some (vI (optI (inviO b T i))), some (vI (atI (inviO b T i) (-1) (inviF b T))), some (vI (nI i)), none] [] hL 0 0) (nP b) (fun i hki ihi hL qhL => ?_)) 0 (Nat.zero_le _) _ (⟨f, hT⟩)
    obtain ⟨fL, hTL⟩ := qhL
    have hmL := hm.fr fL rfl
    have hlL := hmL.lay
    refine r_iload dX4_invite_18 rfl ?_
    refine r_aload_n dX4_invite_20 rfl ?_
    refine r_callVx lX4_358 (c_folk hmL) (hlL.1) rfl rfl rfl rfl dX4_invite_21 (Nat.le_refl _) (Nat.le_refl _) ?_
    refine r_icmpN_ge (tgt := 86) dX4_invite_24 rfl (by omega) (by omega) (fun c2 => ?_) (fun c2 => ?_)
    · --
      refine r_iload_n dX4_invite_86 rfl ?_
      refine r_if_ne (tgt := 94) dX4_invite_87 rfl (fun c3 => ?_) (fun c3 => ?_)
      · --
        refine r_iload_n dX4_invite_94 rfl ?_
        exact r_reti dX4_invite_95 rfl rfl (Nat.le_refl _) (Nat.le_refl _) ⟨by rw [inviteV, if_pos c1, show nP b = i by omega]; exact (if_neg c3).symm, fL, hTL⟩
      · --
        refine r_iload_n dX4_invite_90 rfl ?_
        refine r_goto (tgt := 95) dX4_invite_91 rfl ?_
        exact r_reti dX4_invite_95 rfl rfl (Nat.le_refl _) (Nat.le_refl _) ⟨by rw [inviteV, if_pos c1, show nP b = i by omega]; exact (if_pos c3).symm, fL, hTL⟩
    · --
      cases hbo : inviO b T i with
      | none =>
        refine r_aload_n dX4_invite_27 rfl ?_
        refine r_getRv fX4_88 (hlL.1) (v := aAll) ((l_all hlL).1) rfl dX4_invite_28 ?_
        refine r_iconst (v := nI 0) dX4_invite_31 (by decide) ?_
        refine r_ialdv ((l_all hlL).2.1) ((l_all hlL).2.2) (ix_n (by omega) (by decide)) (v := T (0)) (hTL _ (by omega)) dX4_invite_32 ?_
        refine r_iload dX4_invite_33 rfl ?_
        refine r_callSx lX4_259 (c_bitN _ _) rfl rfl rfl rfl dX4_invite_35 (Nat.le_refl _) (Nat.le_refl _) ?_
        refine r_ifB_eq (tgt := 45) dX4_invite_38 rfl (fun c4 => ?_) (fun c4 => ?_)
        · --
          refine r_aload_n dX4_invite_45 rfl ?_
          refine r_aload_n dX4_invite_46 rfl ?_
          refine r_getRv fX4_88 (hlL.1) (v := aAll) ((l_all hlL).1) rfl dX4_invite_47 ?_
          refine r_iconst (v := nI 0) dX4_invite_50 (by decide) ?_
          refine r_ialdv ((l_all hlL).2.1) ((l_all hlL).2.2) (ix_n (by omega) (by decide)) (v := T (0)) (hTL _ (by omega)) dX4_invite_51 ?_
          refine r_iconst (v := nI 1) dX4_invite_52 (by decide) ?_
          refine r_iload dX4_invite_53 rfl ?_
          refine r_ishl dX4_invite_55 ?_
          refine r_top (one i) rfl ?_
          refine r_ior dX4_invite_56 ?_
          refine r_callVi lX4_449 (c_saidWith hmL hTL ((fL.fld 43 (by decide) (by decide)).trans hth) ((T (0)) ||| (one i))) (hlL.1) rfl rfl rfl rfl dX4_invite_57 (Nat.le_refl _) (Nat.le_refl _) (fun y9 hZ1 q9 => ?_)
          obtain ⟨rfl, gZ1, hTZ1⟩ := q9
          have fZ1 := fL.tr (gZ1.wk (by simp) (by simp))
          have hmZ1 := hmL.fr gZ1 rfl
          have hlZ1 := hmZ1.lay
          refine r_callSx lX4_339 (c_bitsOf _) rfl rfl rfl rfl dX4_invite_60 (Nat.le_refl _) (Nat.le_refl _) ?_
          refine r_istore dX4_invite_63 (by decide) rfl ?_
          refine r_iload dX4_invite_65 rfl ?_
          refine r_iload_n dX4_invite_67 rfl ?_
          refine r_icmp_gt (tgt := 74) dX4_invite_68 rfl (fun c5 => ?_) (fun c5 => ?_)
          · --
            refine r_iload dX4_invite_74 rfl ?_
            refine r_istore_n dX4_invite_76 (by decide) rfl ?_
            refine r_iload dX4_invite_77 rfl ?_
            refine r_istore_n dX4_invite_79 (by decide) rfl ?_
            refine r_iincN (n := 1) dX4_invite_80 rfl rfl (by decide) rfl ?_
            refine r_goto (tgt := 18) dX4_invite_83 rfl ?_
            refine r_sub [some (vR aM), some (vI wh), some (vI (nI i)), some (vI (popc (saidV b (u1 T 0 ((T (0)) ||| (one i))) (allV (nS b))))), some (vI (nI (i + 1))), none] (And.intro rfl (And.intro rfl (And.intro rfl (And.intro rfl (And.intro rfl trivial))))) ?_
            exact r_L (by have h7 : inviO b T (i + 1) = some i := bestOf_n1 hbo (by simp [c4]); rw [h7]; rfl) (ihi (by omega) _ (⟨fZ1, hTZ1⟩))
          · --
            refine r_goto (tgt := 80) dX4_invite_71 rfl ?_
            refine r_iincN (n := 1) dX4_invite_80 rfl rfl (by decide) rfl ?_
            refine r_goto (tgt := 18) dX4_invite_83 rfl ?_
            refine r_sub [some (vR aM), some (vI wh), some (vI (-1)), some (vI (-1)), some (vI (nI (i + 1))), none] (And.intro rfl (And.intro rfl (And.intro rfl (And.intro rfl (And.intro rfl trivial))))) ?_
            exact r_L (absurd (popc_m _) c5) (ihi (by omega) _ (⟨fZ1, hTZ1⟩))
        · --
          refine r_iconst (v := (-1)) dX4_invite_41 (by decide) ?_
          refine r_goto (tgt := 63) dX4_invite_42 rfl ?_
          refine r_istore dX4_invite_63 (by decide) rfl ?_
          refine r_iload dX4_invite_65 rfl ?_
          refine r_iload_n dX4_invite_67 rfl ?_
          refine r_icmp_gt (tgt := 74) dX4_invite_68 rfl (fun c6 => ?_) (fun c6 => ?_)
          · --
            refine r_iload dX4_invite_74 rfl ?_
            refine r_istore_n dX4_invite_76 (by decide) rfl ?_
            refine r_iload dX4_invite_77 rfl ?_
            refine r_istore_n dX4_invite_79 (by decide) rfl ?_
            refine r_iincN (n := 1) dX4_invite_80 rfl rfl (by decide) rfl ?_
            refine r_goto (tgt := 18) dX4_invite_83 rfl ?_
            refine r_sub [some (vR aM), some (vI wh), some (vI (nI i)), some (vI (-1)), some (vI (nI (i + 1))), none] (And.intro rfl (And.intro rfl (And.intro rfl (And.intro rfl (And.intro rfl trivial))))) ?_
            exact r_L (absurd c6 (show ¬ (-1 : Int32) < -1 by decide)) (ihi (by omega) _ (⟨fL, hTL⟩))
          · --
            refine r_goto (tgt := 80) dX4_invite_71 rfl ?_
            refine r_iincN (n := 1) dX4_invite_80 rfl rfl (by decide) rfl ?_
            refine r_goto (tgt := 18) dX4_invite_83 rfl ?_
            refine r_sub [some (vR aM), some (vI wh), some (vI (-1)), some (vI (-1)), some (vI (nI (i + 1))), none] (And.intro rfl (And.intro rfl (And.intro rfl (And.intro rfl (And.intro rfl trivial))))) ?_
            exact r_L (by have h7 : inviO b T (i + 1) = none := bestOf_n0 hbo (by simp [c4]); rw [h7]; rfl) (ihi (by omega) _ (⟨fL, hTL⟩))
      | some jb =>
        have hjb := bestOf_lt hbo
        refine r_aload_n dX4_invite_27 rfl ?_
        refine r_getRv fX4_88 (hlL.1) (v := aAll) ((l_all hlL).1) rfl dX4_invite_28 ?_
        refine r_iconst (v := nI 0) dX4_invite_31 (by decide) ?_
        refine r_ialdv ((l_all hlL).2.1) ((l_all hlL).2.2) (ix_n (by omega) (by decide)) (v := T (0)) (hTL _ (by omega)) dX4_invite_32 ?_
        refine r_iload dX4_invite_33 rfl ?_
        refine r_callSx lX4_259 (c_bitN _ _) rfl rfl rfl rfl dX4_invite_35 (Nat.le_refl _) (Nat.le_refl _) ?_
        refine r_ifB_eq (tgt := 45) dX4_invite_38 rfl (fun c7 => ?_) (fun c7 => ?_)
        · --
          refine r_aload_n dX4_invite_45 rfl ?_
          refine r_aload_n dX4_invite_46 rfl ?_
          refine r_getRv fX4_88 (hlL.1) (v := aAll) ((l_all hlL).1) rfl dX4_invite_47 ?_
          refine r_iconst (v := nI 0) dX4_invite_50 (by decide) ?_
          refine r_ialdv ((l_all hlL).2.1) ((l_all hlL).2.2) (ix_n (by omega) (by decide)) (v := T (0)) (hTL _ (by omega)) dX4_invite_51 ?_
          refine r_iconst (v := nI 1) dX4_invite_52 (by decide) ?_
          refine r_iload dX4_invite_53 rfl ?_
          refine r_ishl dX4_invite_55 ?_
          refine r_top (one i) rfl ?_
          refine r_ior dX4_invite_56 ?_
          refine r_callVi lX4_449 (c_saidWith hmL hTL ((fL.fld 43 (by decide) (by decide)).trans hth) ((T (0)) ||| (one i))) (hlL.1) rfl rfl rfl rfl dX4_invite_57 (Nat.le_refl _) (Nat.le_refl _) (fun y9 hZ2 q9 => ?_)
          obtain ⟨rfl, gZ2, hTZ2⟩ := q9
          have fZ2 := fL.tr (gZ2.wk (by simp) (by simp))
          have hmZ2 := hmL.fr gZ2 rfl
          have hlZ2 := hmZ2.lay
          refine r_callSx lX4_339 (c_bitsOf _) rfl rfl rfl rfl dX4_invite_60 (Nat.le_refl _) (Nat.le_refl _) ?_
          refine r_istore dX4_invite_63 (by decide) rfl ?_
          refine r_iload dX4_invite_65 rfl ?_
          refine r_iload_n dX4_invite_67 rfl ?_
          refine r_icmp_gt (tgt := 74) dX4_invite_68 rfl (fun c8 => ?_) (fun c8 => ?_)
          · --
            refine r_iload dX4_invite_74 rfl ?_
            refine r_istore_n dX4_invite_76 (by decide) rfl ?_
            refine r_iload dX4_invite_77 rfl ?_
            refine r_istore_n dX4_invite_79 (by decide) rfl ?_
            refine r_iincN (n := 1) dX4_invite_80 rfl rfl (by decide) rfl ?_
            refine r_goto (tgt := 18) dX4_invite_83 rfl ?_
            refine r_sub [some (vR aM), some (vI wh), some (vI (nI i)), some (vI (popc (saidV b (u1 T 0 ((T (0)) ||| (one i))) (allV (nS b))))), some (vI (nI (i + 1))), none] (And.intro rfl (And.intro rfl (And.intro rfl (And.intro rfl (And.intro rfl trivial))))) ?_
            exact r_L (by have h7 : inviO b T (i + 1) = some i := bestOf_s1 hbo (by simp [c7]) c8; rw [h7]; rfl) (ihi (by omega) _ (⟨fZ2, hTZ2⟩))
          · --
            refine r_goto (tgt := 80) dX4_invite_71 rfl ?_
            refine r_iincN (n := 1) dX4_invite_80 rfl rfl (by decide) rfl ?_
            refine r_goto (tgt := 18) dX4_invite_83 rfl ?_
            refine r_sub [some (vR aM), some (vI wh), some (vI (nI jb)), some (vI (inviF b T jb)), some (vI (nI (i + 1))), none] (And.intro rfl (And.intro rfl (And.intro rfl (And.intro rfl (And.intro rfl trivial))))) ?_
            exact r_L (by have h7 : inviO b T (i + 1) = some jb := bestOf_s0 hbo (Or.inr (Int32.not_lt.mp c8)); rw [h7]; rfl) (ihi (by omega) _ (⟨fZ2, hTZ2⟩))
        · --
          refine r_iconst (v := (-1)) dX4_invite_41 (by decide) ?_
          refine r_goto (tgt := 63) dX4_invite_42 rfl ?_
          refine r_istore dX4_invite_63 (by decide) rfl ?_
          refine r_iload dX4_invite_65 rfl ?_
          refine r_iload_n dX4_invite_67 rfl ?_
          refine r_icmp_gt (tgt := 74) dX4_invite_68 rfl (fun c9 => ?_) (fun c9 => ?_)
          · --
            refine r_iload dX4_invite_74 rfl ?_
            refine r_istore_n dX4_invite_76 (by decide) rfl ?_
            refine r_iload dX4_invite_77 rfl ?_
            refine r_istore_n dX4_invite_79 (by decide) rfl ?_
            refine r_iincN (n := 1) dX4_invite_80 rfl rfl (by decide) rfl ?_
            refine r_goto (tgt := 18) dX4_invite_83 rfl ?_
            refine r_sub [some (vR aM), some (vI wh), some (vI (nI i)), some (vI (-1)), some (vI (nI (i + 1))), none] (And.intro rfl (And.intro rfl (And.intro rfl (And.intro rfl (And.intro rfl trivial))))) ?_
            exact r_L (absurd c9 (inv_m1 _)) (ihi (by omega) _ (⟨fL, hTL⟩))
          · --
            refine r_goto (tgt := 80) dX4_invite_71 rfl ?_
            refine r_iincN (n := 1) dX4_invite_80 rfl rfl (by decide) rfl ?_
            refine r_goto (tgt := 18) dX4_invite_83 rfl ?_
            refine r_sub [some (vR aM), some (vI wh), some (vI (nI jb)), some (vI (inviF b T jb)), some (vI (nI (i + 1))), none] (And.intro rfl (And.intro rfl (And.intro rfl (And.intro rfl (And.intro rfl trivial))))) ?_
            exact r_L (by have h7 : inviO b T (i + 1) = some jb := bestOf_s0 hbo (Or.inl (by simp [c7])); rw [h7]; rfl) (ihi (by omega) _ (⟨fL, hTL⟩))
  · --
    refine r_iconst (v := (-1)) dX4_invite_9 (by decide) ?_
    exact r_reti dX4_invite_10 rfl rfl (Nat.le_refl _) (Nat.le_refl _) ⟨by rw [inviteV, if_neg (by simp [c1])], f, hT⟩

theorem c_fewest {G : ev_G} {b : Bk} {k : Nat} {h : ev_H} (hm : MB b k h) {T : Nat → Int32} (hT : MT T h) (hth : hI h aM 43 = -1) (wh : Int32) : Called G mX4_fewest 8 0 0 [vR aM, vI wh] h (pI (fun y h1 => y = fewestV b T wh ∧ Fr [aPile] [39, 40, 41] h h1)) := by
  have hl := hm.lay
  have hk2 := hm.k2
  have hb := hm.bw
  have hb1 := hb.p6
  have hb2 := hb.s5
  have hb3 := hb.t10
  have f : Fr [aPile] [39, 40, 41] h h := Fr.rf
  have hs2 := p2_5 hb2
  have hs1 : 1 ≤ 2 ^ nS b := Nat.one_le_two_pow
  have hoS : allV (nS b) = nI (2 ^ nS b - 1) := allV_n (by omega)
  refine called_of rfl [some (vR aM), some (vI wh), none, none, none] rfl (Nat.le_of_ble_eq_true rfl) ?_
  refine r_iload_n dX4_fewest_0 rfl ?_
  refine r_iconst (v := 0) dX4_fewest_1 (by decide) ?_
  refine r_iconst (v := 2) dX4_fewest_2 (by decide) ?_
  refine r_callSx lX4_361 (c_isIn _ _ _) rfl rfl rfl rfl dX4_fewest_3 (Nat.le_refl _) (Nat.le_refl _) ?_
  refine r_ifB_ne (tgt := 11) dX4_fewest_6 rfl (fun c1 => ?_) (fun c1 => ?_)
  · --
    refine r_aload_n dX4_fewest_11 rfl ?_
    refine r_aload_n dX4_fewest_12 rfl ?_
    refine r_callVx lX4_428 (c_allSacks hm) (hl.1) rfl rfl rfl rfl dX4_fewest_13 (Nat.le_refl _) (Nat.le_refl _) ?_
    refine r_callVi lX4_431 (c_saidBy hm hT hth (allV (nS b))) (hl.1) rfl rfl rfl rfl dX4_fewest_16 (Nat.le_refl _) (Nat.le_refl _) (fun y9 hZ1 q9 => ?_)
    obtain ⟨rfl, gZ1⟩ := q9
    have fZ1 := f.tr (gZ1.wk (by simp) (by simp))
    have hmZ1 := hm.fr gZ1 rfl
    have hTZ1 := hT.fr gZ1 (by decide)
    have hlZ1 := hmZ1.lay
    refine r_istore_n dX4_fewest_19 (by decide) rfl ?_
    refine r_iconst (v := (-1)) dX4_fewest_20 (by decide) ?_
    refine r_istore_n dX4_fewest_21 (by decide) rfl ?_
    refine r_iconst (v := nI 0) dX4_fewest_22 (by decide) ?_
    refine r_istore dX4_fewest_23 (by decide) rfl ?_
    refine (ev_for (P := fun i => ∀ hL : ev_H, (Fr [aPile] [39, 40, 41] h hL) → Ev G mX4_fewest (ev_room 8 0 0) (ev_MQ G (pI (fun y h1 => y = fewestV b T wh ∧ Fr [aPile] [39, 40, 41] h h1)) 0 0) 25 [some (vR aM), some (vI wh), some (vI (saidV b T (allV (nS b)))), some (vI (optI (fewestO b T i))), some (vI (nI i))] [] hL 0 0) (2 ^ nS b) (fun i hki ihi hL qhL => ?_)) 0 (Nat.zero_le _) _ (fZ1)
    have fL := qhL
    have hmL := hm.fr fL rfl
    have hTL := hT.fr fL (by decide)
    have hlL := hmL.lay
    refine r_iload dX4_fewest_25 rfl ?_
    refine r_aload_n dX4_fewest_27 rfl ?_
    refine r_callVx lX4_428 (c_allSacksN hmL) (hlL.1) rfl rfl rfl rfl dX4_fewest_28 (Nat.le_refl _) (Nat.le_refl _) ?_
    refine r_icmpN_gt (tgt := 69) dX4_fewest_31 rfl (by omega) (by omega) (fun c2 => ?_) (fun c2 => ?_)
    · --
      refine r_iload_n dX4_fewest_69 rfl ?_
      refine r_if_ne (tgt := 80) dX4_fewest_70 rfl (fun c3 => ?_) (fun c3 => ?_)
      · --
        refine r_iload_n dX4_fewest_80 rfl ?_
        refine r_iconst (v := 1) dX4_fewest_81 (by decide) ?_
        refine r_icmp_ne (tgt := 89) dX4_fewest_82 rfl (fun c4 => ?_) (fun c4 => ?_)
        · --
          refine r_iload_n dX4_fewest_89 rfl ?_
          exact r_reti dX4_fewest_90 rfl rfl (Nat.le_refl _) (Nat.le_refl _) ⟨by rw [fewestV, if_pos c1, show 2 ^ nS b = i by omega]; rw [if_neg c3]; exact (if_neg c4).symm, fL⟩
        · --
          refine r_iload_n dX4_fewest_85 rfl ?_
          refine r_goto (tgt := 90) dX4_fewest_86 rfl ?_
          exact r_reti dX4_fewest_90 rfl rfl (Nat.le_refl _) (Nat.le_refl _) ⟨by rw [fewestV, if_pos c1, show 2 ^ nS b = i by omega]; rw [if_neg c3]; exact (if_pos c4).symm, fL⟩
      · --
        refine r_iload_n dX4_fewest_73 rfl ?_
        refine r_callSx lX4_339 (c_bitsOf _) rfl rfl rfl rfl dX4_fewest_74 (Nat.le_refl _) (Nat.le_refl _) ?_
        refine r_goto (tgt := 90) dX4_fewest_77 rfl ?_
        exact r_reti dX4_fewest_90 rfl rfl (Nat.le_refl _) (Nat.le_refl _) ⟨by rw [fewestV, if_pos c1, show 2 ^ nS b = i by omega]; exact (if_pos c3).symm, fL⟩
    · --
      cases hbo : fewestO b T i with
      | none =>
        refine r_iload_n dX4_fewest_34 rfl ?_
        refine r_if_lt (tgt := 50) dX4_fewest_35 rfl (fun c5 => ?_) (fun c5 => ?_)
        · --
          refine r_aload_n dX4_fewest_50 rfl ?_
          refine r_iload dX4_fewest_51 rfl ?_
          refine r_callVi lX4_431 (c_saidBy hmL hTL ((fL.fld 43 (by decide) (by decide)).trans hth) (nI i)) (hlL.1) rfl rfl rfl rfl dX4_fewest_53 (Nat.le_refl _) (Nat.le_refl _) (fun y9 hZ2 q9 => ?_)
          obtain ⟨rfl, gZ2⟩ := q9
          have fZ2 := fL.tr (gZ2.wk (by simp) (by simp))
          have hmZ2 := hmL.fr gZ2 rfl
          have hTZ2 := hTL.fr gZ2 (by decide)
          have hlZ2 := hmZ2.lay
          refine r_iload_n dX4_fewest_56 rfl ?_
          refine r_icmp_ne (tgt := 63) dX4_fewest_57 rfl (fun c6 => ?_) (fun c6 => ?_)
          · --
            refine r_iincN (n := 1) dX4_fewest_63 rfl rfl (by decide) rfl ?_
            refine r_goto (tgt := 25) dX4_fewest_66 rfl ?_
            exact r_L (by have h7 : fewestO b T (i + 1) = none := fewOf_n0 hbo (by simp [c5, c6]); rw [h7]; rfl) (ihi (by omega) _ (fZ2))
          · --
            refine r_iload dX4_fewest_60 rfl ?_
            refine r_istore_n dX4_fewest_62 (by decide) rfl ?_
            refine r_iincN (n := 1) dX4_fewest_63 rfl rfl (by decide) rfl ?_
            refine r_goto (tgt := 25) dX4_fewest_66 rfl ?_
            exact r_L (by have h7 : fewestO b T (i + 1) = some i := fewOf_n1 hbo (by simp [c5, c6]); rw [h7]; rfl) (ihi (by omega) _ (fZ2))
        · --
          exact absurd (show ((-1) : Int32) < 0 by decide) c5
      | some jb =>
        have hjb := (fewOf_lt hbo).1
        refine r_iload_n dX4_fewest_34 rfl ?_
        refine r_if_lt (tgt := 50) dX4_fewest_35 rfl (fun c7 => ?_) (fun c7 => ?_)
        · --
          exact absurd c7 (nI_pos (by omega))
        · --
          refine r_iload dX4_fewest_38 rfl ?_
          refine r_callSx lX4_339 (c_bitsOf _) rfl rfl rfl rfl dX4_fewest_40 (Nat.le_refl _) (Nat.le_refl _) ?_
          refine r_iload_n dX4_fewest_43 rfl ?_
          refine r_callSx lX4_339 (c_bitsOf _) rfl rfl rfl rfl dX4_fewest_44 (Nat.le_refl _) (Nat.le_refl _) ?_
          refine r_icmp_ge (tgt := 63) dX4_fewest_47 rfl (fun c8 => ?_) (fun c8 => ?_)
          · --
            refine r_iincN (n := 1) dX4_fewest_63 rfl rfl (by decide) rfl ?_
            refine r_goto (tgt := 25) dX4_fewest_66 rfl ?_
            exact r_L (by have h7 : fewestO b T (i + 1) = some jb := fewOf_s0 hbo (Or.inr (c8)); rw [h7]; rfl) (ihi (by omega) _ (fL))
          · --
            refine r_aload_n dX4_fewest_50 rfl ?_
            refine r_iload dX4_fewest_51 rfl ?_
            refine r_callVi lX4_431 (c_saidBy hmL hTL ((fL.fld 43 (by decide) (by decide)).trans hth) (nI i)) (hlL.1) rfl rfl rfl rfl dX4_fewest_53 (Nat.le_refl _) (Nat.le_refl _) (fun y9 hZ3 q9 => ?_)
            obtain ⟨rfl, gZ3⟩ := q9
            have fZ3 := fL.tr (gZ3.wk (by simp) (by simp))
            have hmZ3 := hmL.fr gZ3 rfl
            have hTZ3 := hTL.fr gZ3 (by decide)
            have hlZ3 := hmZ3.lay
            refine r_iload_n dX4_fewest_56 rfl ?_
            refine r_icmp_ne (tgt := 63) dX4_fewest_57 rfl (fun c9 => ?_) (fun c9 => ?_)
            · --
              refine r_iincN (n := 1) dX4_fewest_63 rfl rfl (by decide) rfl ?_
              refine r_goto (tgt := 25) dX4_fewest_66 rfl ?_
              exact r_L (by have h7 : fewestO b T (i + 1) = some jb := fewOf_s0 hbo (Or.inl (by simp [c7, c8, c9])); rw [h7]; rfl) (ihi (by omega) _ (fZ3))
            · --
              refine r_iload dX4_fewest_60 rfl ?_
              refine r_istore_n dX4_fewest_62 (by decide) rfl ?_
              refine r_iincN (n := 1) dX4_fewest_63 rfl rfl (by decide) rfl ?_
              refine r_goto (tgt := 25) dX4_fewest_66 rfl ?_
              exact r_L (by have h7 : fewestO b T (i + 1) = some i := fewOf_s1 hbo (by simp [c7, c8, c9]) (Int32.not_le.mp c8); rw [h7]; rfl) (ihi (by omega) _ (fZ3))
  · --
    refine r_iconst (v := (-1)) dX4_fewest_9 (by decide) ?_
    exact r_reti dX4_fewest_10 rfl rfl (Nat.le_refl _) (Nat.le_refl _) ⟨by rw [fewestV, if_neg (by simp [c1])], f⟩
