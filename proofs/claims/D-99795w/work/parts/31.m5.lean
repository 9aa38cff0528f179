/-! ===== THE REFERENCE: answers about a table (walks by program) ===== -/
set_option maxRecDepth 100000

theorem c_person {G : ev_G} {b : Bk} {k : Nat} {h : ev_H} (hm : MB b k h) {T : Nat → Int32} (hT : MT T h) (p wh : Int32) : Called G mX4_person 3 0 0 [vR aM, vI p, vI wh] h (px (vI (personV b T p wh)) h) := by
  have hl := hm.lay
  have hk2 := hm.k2
  have hb := hm.bw
  have hb1 := hb.p6
  have hb2 := hb.s5
  have hb3 := hb.t10
  refine called_of rfl [some (vR aM), some (vI p), some (vI wh)] rfl (Nat.le_of_ble_eq_true rfl) ?_
  refine r_aload_n dX4_person_0 rfl ?_
  refine r_iload_n dX4_person_1 rfl ?_
  refine r_callVx lX4_410 (c_isPerson hm _) (hl.1) rfl rfl rfl rfl dX4_person_2 (Nat.le_refl _) (Nat.le_refl _) ?_
  refine r_ifB_ne (tgt := 11) dX4_person_5 rfl (fun c1 => ?_) (fun c1 => ?_)
  · --
    obtain ⟨j, hj, rfl⟩ := perV_ok hb c1
    refine r_iload_n dX4_person_11 rfl ?_
    by_cases e0 : wh = nI 0
    · refine r_tswC (tgt := 48) (off := 36) 0 dX4_person_12 e0 (by decide) rfl ?_
      refine r_aload_n dX4_person_48 rfl ?_
      refine r_getRv fX4_42 (hl.1) (v := aShy) ((l_shy hl).1) rfl dX4_person_49 ?_
      refine r_bipush (v := nI 6) dX4_person_52 (by decide) ?_
      refine r_aload_n dX4_person_54 rfl ?_
      refine r_getIv fX4_253 (hl.1) (v := nI k) (hm.bank) rfl dX4_person_55 ?_
      refine r_imul dX4_person_58 ?_
      refine r_top (nI (6 * k)) (pk_mul _ _) ?_
      refine r_iload_n dX4_person_59 rfl ?_
      refine r_iadd dX4_person_60 ?_
      refine r_top (nI (6 * k + j)) (nI_add _ _) ?_
      refine r_ialdv ((l_shy hl).2.1) ((l_shy hl).2.2) (ix_n (by omega) (by decide)) (v := nI (bSh b j)) (hm.shy (by omega)) dX4_person_61 ?_
      exact r_retx dX4_person_62 rfl rfl (by rw [personV, if_pos (by assumption), e0]; first | rfl | (simp only [nI_clamp (show j < 2 ^ 31 by omega)]; rfl))
    by_cases e1 : wh = nI 1
    · refine r_tswC (tgt := 63) (off := 51) 1 dX4_person_12 e1 (by decide) rfl ?_
      refine r_aload_n dX4_person_63 rfl ?_
      refine r_getRv fX4_88 (hl.1) (v := aAll) ((l_all hl).1) rfl dX4_person_64 ?_
      refine r_iconst (v := nI 0) dX4_person_67 (by decide) ?_
      refine r_ialdv ((l_all hl).2.1) ((l_all hl).2.2) (ix_n (by omega) (by decide)) (v := T (0)) (hT _ (by omega)) dX4_person_68 ?_
      refine r_iload_n dX4_person_69 rfl ?_
      refine r_ishr dX4_person_70 ?_
      refine r_iconst (v := 1) dX4_person_71 (by decide) ?_
      refine r_iand dX4_person_72 ?_
      exact r_retx dX4_person_73 rfl rfl (by rw [personV, if_pos (by assumption), e1]; first | rfl | (simp only [nI_clamp (show j < 2 ^ 31 by omega)]; rfl))
    by_cases e2 : wh = nI 2
    · refine r_tswC (tgt := 74) (off := 62) 2 dX4_person_12 e2 (by decide) rfl ?_
      refine r_aload_n dX4_person_74 rfl ?_
      refine r_iload_n dX4_person_75 rfl ?_
      refine r_callVx lX4_413 (c_byOf hm _) (hl.1) rfl rfl rfl rfl dX4_person_76 (Nat.le_refl _) (Nat.le_refl _) ?_
      refine r_aload_n dX4_person_79 rfl ?_
      refine r_callVx lX4_416 (c_keptNow hm hT) (hl.1) rfl rfl rfl rfl dX4_person_80 (Nat.le_refl _) (Nat.le_refl _) ?_
      refine r_iand dX4_person_83 ?_
      exact r_retx dX4_person_84 rfl rfl (by rw [personV, if_pos (by assumption), e2]; first | rfl | (simp only [nI_clamp (show j < 2 ^ 31 by omega)]; rfl))
    by_cases e3 : wh = nI 3
    · refine r_tswC (tgt := 85) (off := 73) 3 dX4_person_12 e3 (by decide) rfl ?_
      refine r_aload_n dX4_person_85 rfl ?_
      refine r_iload_n dX4_person_86 rfl ?_
      refine r_callVx lX4_419 (c_toOf hm _) (hl.1) rfl rfl rfl rfl dX4_person_87 (Nat.le_refl _) (Nat.le_refl _) ?_
      refine r_aload_n dX4_person_90 rfl ?_
      refine r_callVx lX4_416 (c_keptNow hm hT) (hl.1) rfl rfl rfl rfl dX4_person_91 (Nat.le_refl _) (Nat.le_refl _) ?_
      refine r_iand dX4_person_94 ?_
      exact r_retx dX4_person_95 rfl rfl (by rw [personV, if_pos (by assumption), e3]; first | rfl | (simp only [nI_clamp (show j < 2 ^ 31 by omega)]; rfl))
    by_cases e4 : wh = nI 4
    · refine r_tswC (tgt := 96) (off := 84) 4 dX4_person_12 e4 (by decide) rfl ?_
      refine r_aload_n dX4_person_96 rfl ?_
      refine r_iload_n dX4_person_97 rfl ?_
      refine r_callVx lX4_419 (c_toOf hm _) (hl.1) rfl rfl rfl rfl dX4_person_98 (Nat.le_refl _) (Nat.le_refl _) ?_
      refine r_aload_n dX4_person_101 rfl ?_
      refine r_getRv fX4_88 (hl.1) (v := aAll) ((l_all hl).1) rfl dX4_person_102 ?_
      refine r_iconst (v := nI 1) dX4_person_105 (by decide) ?_
      refine r_ialdv ((l_all hl).2.1) ((l_all hl).2.2) (ix_n (by omega) (by decide)) (v := T (1)) (hT _ (by omega)) dX4_person_106 ?_
      refine r_iand dX4_person_107 ?_
      exact r_retx dX4_person_108 rfl rfl (by rw [personV, if_pos (by assumption), e4]; first | rfl | (simp only [nI_clamp (show j < 2 ^ 31 by omega)]; rfl))
    refine r_tswD (tgt := 109) 0 [0, 1, 2, 3, 4] dX4_person_12 (by decide) (by decide) (by simp [*]) rfl ?_
    refine r_bipush (v := (-2)) dX4_person_109 (by decide) ?_
    exact r_retx dX4_person_111 rfl rfl (by simp [personV, *])
  · --
    refine r_bipush (v := (-2)) dX4_person_8 (by decide) ?_
    exact r_retx dX4_person_10 rfl rfl (by simp [personV, *])

theorem c_thing {G : ev_G} {b : Bk} {k : Nat} {h : ev_H} (hm : MB b k h) {T : Nat → Int32} (hT : MT T h) (p wh : Int32) : Called G mX4_thing 3 0 0 [vR aM, vI p, vI wh] h (px (vI (thingV b T p wh)) h) := by
  have hl := hm.lay
  have hk2 := hm.k2
  have hb := hm.bw
  have hb1 := hb.p6
  have hb2 := hb.s5
  have hb3 := hb.t10
  refine called_of rfl [some (vR aM), some (vI p), some (vI wh)] rfl (Nat.le_of_ble_eq_true rfl) ?_
  refine r_aload_n dX4_thing_0 rfl ?_
  refine r_iload_n dX4_thing_1 rfl ?_
  refine r_callVx lX4_422 (c_isThing hm _) (hl.1) rfl rfl rfl rfl dX4_thing_2 (Nat.le_refl _) (Nat.le_refl _) ?_
  refine r_ifB_ne (tgt := 11) dX4_thing_5 rfl (fun c1 => ?_) (fun c1 => ?_)
  · --
    obtain ⟨j, hj, rfl⟩ := thiV_ok hb c1
    refine r_iload_n dX4_thing_11 rfl ?_
    by_cases e0 : wh = nI 0
    · refine r_tswC (tgt := 48) (off := 36) 0 dX4_thing_12 e0 (by decide) rfl ?_
      refine r_aload_n dX4_thing_48 rfl ?_
      refine r_iload_n dX4_thing_49 rfl ?_
      refine r_callVx lX4_389 (c_fromOf hm (t := j) (by omega)) (hl.1) rfl rfl rfl rfl dX4_thing_50 (Nat.le_refl _) (Nat.le_refl _) ?_
      exact r_retx dX4_thing_53 rfl rfl (by rw [thingV, if_pos (by assumption), e0]; first | rfl | (simp only [nI_clamp (show j < 2 ^ 31 by omega)]; rfl))
    by_cases e1 : wh = nI 1
    · refine r_tswC (tgt := 54) (off := 42) 1 dX4_thing_12 e1 (by decide) rfl ?_
      refine r_aload_n dX4_thing_54 rfl ?_
      refine r_iload_n dX4_thing_55 rfl ?_
      refine r_callVx lX4_392 (c_whomOf hm (t := j) (by omega)) (hl.1) rfl rfl rfl rfl dX4_thing_56 (Nat.le_refl _) (Nat.le_refl _) ?_
      exact r_retx dX4_thing_59 rfl rfl (by rw [thingV, if_pos (by assumption), e1]; first | rfl | (simp only [nI_clamp (show j < 2 ^ 31 by omega)]; rfl))
    by_cases e2 : wh = nI 2
    · refine r_tswC (tgt := 60) (off := 48) 2 dX4_thing_12 e2 (by decide) rfl ?_
      refine r_aload_n dX4_thing_60 rfl ?_
      refine r_iload_n dX4_thing_61 rfl ?_
      refine r_callVx lX4_333 (c_hotOf hm (t := j) (by omega)) (hl.1) rfl rfl rfl rfl dX4_thing_62 (Nat.le_refl _) (Nat.le_refl _) ?_
      exact r_retx dX4_thing_65 rfl rfl (by rw [thingV, if_pos (by assumption), e2]; first | rfl | (simp only [nI_clamp (show j < 2 ^ 31 by omega)]; rfl))
    by_cases e3 : wh = nI 3
    · refine r_tswC (tgt := 66) (off := 54) 3 dX4_thing_12 e3 (by decide) rfl ?_
      refine r_aload_n dX4_thing_66 rfl ?_
      refine r_getRv fX4_88 (hl.1) (v := aAll) ((l_all hl).1) rfl dX4_thing_67 ?_
      refine r_iconst (v := nI 2) dX4_thing_70 (by decide) ?_
      refine r_iload_n dX4_thing_71 rfl ?_
      refine r_iadd dX4_thing_72 ?_
      refine r_top (nI (2 + j)) (nI_add _ _) ?_
      refine r_ialdv ((l_all hl).2.1) ((l_all hl).2.2) (ix_n (by omega) (by decide)) (v := T (2 + j)) (hT _ (by omega)) dX4_thing_73 ?_
      exact r_retx dX4_thing_74 rfl rfl (by rw [thingV, if_pos (by assumption), e3]; first | rfl | (simp only [nI_clamp (show j < 2 ^ 31 by omega)]; rfl))
    by_cases e4 : wh = nI 4
    · refine r_tswC (tgt := 75) (off := 63) 4 dX4_thing_12 e4 (by decide) rfl ?_
      refine r_aload_n dX4_thing_75 rfl ?_
      refine r_getRv fX4_88 (hl.1) (v := aAll) ((l_all hl).1) rfl dX4_thing_76 ?_
      refine r_iconst (v := nI 1) dX4_thing_79 (by decide) ?_
      refine r_ialdv ((l_all hl).2.1) ((l_all hl).2.2) (ix_n (by omega) (by decide)) (v := T (1)) (hT _ (by omega)) dX4_thing_80 ?_
      refine r_iload_n dX4_thing_81 rfl ?_
      refine r_ishr dX4_thing_82 ?_
      refine r_iconst (v := 1) dX4_thing_83 (by decide) ?_
      refine r_iand dX4_thing_84 ?_
      exact r_retx dX4_thing_85 rfl rfl (by rw [thingV, if_pos (by assumption), e4]; first | rfl | (simp only [nI_clamp (show j < 2 ^ 31 by omega)]; rfl))
    refine r_tswD (tgt := 86) 0 [0, 1, 2, 3, 4] dX4_thing_12 (by decide) (by decide) (by simp [*]) rfl ?_
    refine r_bipush (v := (-2)) dX4_thing_86 (by decide) ?_
    exact r_retx dX4_thing_88 rfl rfl (by simp [thingV, *])
  · --
    refine r_bipush (v := (-2)) dX4_thing_8 (by decide) ?_
    exact r_retx dX4_thing_10 rfl rfl (by simp [thingV, *])

theorem c_sack {G : ev_G} {b : Bk} {k : Nat} {h : ev_H} (hm : MB b k h) {T : Nat → Int32} (hT : MT T h) (p wh : Int32) : Called G mX4_sack 3 0 0 [vR aM, vI p, vI wh] h (px (vI (sackV b T p wh)) h) := by
  have hl := hm.lay
  have hk2 := hm.k2
  have hb := hm.bw
  have hb1 := hb.p6
  have hb2 := hb.s5
  have hb3 := hb.t10
  refine called_of rfl [some (vR aM), some (vI p), some (vI wh)] rfl (Nat.le_of_ble_eq_true rfl) ?_
  refine r_aload_n dX4_sack_0 rfl ?_
  refine r_iload_n dX4_sack_1 rfl ?_
  refine r_callVx lX4_425 (c_isSack hm _) (hl.1) rfl rfl rfl rfl dX4_sack_2 (Nat.le_refl _) (Nat.le_refl _) ?_
  refine r_ifB_ne (tgt := 10) dX4_sack_5 rfl (fun c1 => ?_) (fun c1 => ?_)
  · --
    obtain ⟨j, hj, rfl⟩ := sakV_ok hb c1
    refine r_iload_n dX4_sack_10 rfl ?_
    by_cases e0 : wh = nI 0
    · refine r_tswC (tgt := 36) (off := 25) 0 dX4_sack_11 e0 (by decide) rfl ?_
      refine r_aload_n dX4_sack_36 rfl ?_
      refine r_aload_n dX4_sack_37 rfl ?_
      refine r_iload_n dX4_sack_38 rfl ?_
      refine r_callVx lX4_345 (c_inOf hm hT _) (hl.1) rfl rfl rfl rfl dX4_sack_39 (Nat.le_refl _) (Nat.le_refl _) ?_
      refine r_callVx lX4_348 (c_heatOf hm _) (hl.1) rfl rfl rfl rfl dX4_sack_42 (Nat.le_refl _) (Nat.le_refl _) ?_
      exact r_retx dX4_sack_45 rfl rfl (by rw [sackV, if_pos (by assumption), e0]; first | rfl | (simp only [nI_clamp (show j < 2 ^ 31 by omega)]; rfl))
    by_cases e1 : wh = nI 1
    · refine r_tswC (tgt := 46) (off := 35) 1 dX4_sack_11 e1 (by decide) rfl ?_
      refine r_aload_n dX4_sack_46 rfl ?_
      refine r_iload_n dX4_sack_47 rfl ?_
      refine r_callVx lX4_345 (c_inOf hm hT _) (hl.1) rfl rfl rfl rfl dX4_sack_48 (Nat.le_refl _) (Nat.le_refl _) ?_
      exact r_retx dX4_sack_51 rfl rfl (by rw [sackV, if_pos (by assumption), e1]; first | rfl | (simp only [nI_clamp (show j < 2 ^ 31 by omega)]; rfl))
    by_cases e2 : wh = nI 2
    · refine r_tswC (tgt := 52) (off := 41) 2 dX4_sack_11 e2 (by decide) rfl ?_
      refine r_aload_n dX4_sack_52 rfl ?_
      refine r_getRv fX4_88 (hl.1) (v := aAll) ((l_all hl).1) rfl dX4_sack_53 ?_
      refine r_bipush (v := nI 12) dX4_sack_56 (by decide) ?_
      refine r_iload_n dX4_sack_58 rfl ?_
      refine r_iadd dX4_sack_59 ?_
      refine r_top (nI (12 + j)) (nI_add _ _) ?_
      refine r_ialdv ((l_all hl).2.1) ((l_all hl).2.2) (ix_n (by omega) (by decide)) (v := T (12 + j)) (hT _ (by omega)) dX4_sack_60 ?_
      exact r_retx dX4_sack_61 rfl rfl (by rw [sackV, if_pos (by assumption), e2]; first | rfl | (simp only [nI_clamp (show j < 2 ^ 31 by omega)]; rfl))
    refine r_tswD (tgt := 62) 0 [0, 1, 2] dX4_sack_11 (by decide) (by decide) (by simp [*]) rfl ?_
    refine r_iconst (v := (-1)) dX4_sack_62 (by decide) ?_
    exact r_retx dX4_sack_63 rfl rfl (by simp [sackV, *])
  · --
    refine r_iconst (v := (-1)) dX4_sack_8 (by decide) ?_
    exact r_retx dX4_sack_9 rfl rfl (by simp [sackV, *])

theorem c_keeps {G : ev_G} {b : Bk} {k : Nat} {h : ev_H} (hm : MB b k h) {T : Nat → Int32} (hT : MT T h) (p o : Int32) : Called G mX4_keeps 2 0 0 [vR aM, vI p, vI o] h (px (vI (keepsV b T p o)) h) := by
  have hl := hm.lay
  have hk2 := hm.k2
  have hb := hm.bw
  have hb1 := hb.p6
  have hb2 := hb.s5
  have hb3 := hb.t10
  refine called_of rfl [some (vR aM), some (vI p), some (vI o)] rfl (Nat.le_of_ble_eq_true rfl) ?_
  refine r_aload_n dX4_keeps_0 rfl ?_
  refine r_iload_n dX4_keeps_1 rfl ?_
  refine r_callVx lX4_410 (c_isPerson hm _) (hl.1) rfl rfl rfl rfl dX4_keeps_2 (Nat.le_refl _) (Nat.le_refl _) ?_
  refine r_ifB_eq (tgt := 39) dX4_keeps_5 rfl (fun c1 => ?_) (fun c1 => ?_)
  · --
    refine r_iconst (v := (-1)) dX4_keeps_39 (by decide) ?_
    exact r_retx dX4_keeps_40 rfl rfl (by simp [keepsV, *])
  · --
    refine r_aload_n dX4_keeps_8 rfl ?_
    refine r_iload_n dX4_keeps_9 rfl ?_
    refine r_callVx lX4_410 (c_isPerson hm _) (hl.1) rfl rfl rfl rfl dX4_keeps_10 (Nat.le_refl _) (Nat.le_refl _) ?_
    refine r_ifB_eq (tgt := 39) dX4_keeps_13 rfl (fun c2 => ?_) (fun c2 => ?_)
    · --
      refine r_iconst (v := (-1)) dX4_keeps_39 (by decide) ?_
      exact r_retx dX4_keeps_40 rfl rfl (by simp [keepsV, *])
    · --
      refine r_aload_n dX4_keeps_16 rfl ?_
      refine r_aload_n dX4_keeps_17 rfl ?_
      refine r_iload_n dX4_keeps_18 rfl ?_
      refine r_callVx lX4_413 (c_byOf hm _) (hl.1) rfl rfl rfl rfl dX4_keeps_19 (Nat.le_refl _) (Nat.le_refl _) ?_
      refine r_aload_n dX4_keeps_22 rfl ?_
      refine r_iload_n dX4_keeps_23 rfl ?_
      refine r_callVx lX4_419 (c_toOf hm _) (hl.1) rfl rfl rfl rfl dX4_keeps_24 (Nat.le_refl _) (Nat.le_refl _) ?_
      refine r_iand dX4_keeps_27 ?_
      refine r_aload_n dX4_keeps_28 rfl ?_
      refine r_callVx lX4_416 (c_keptNow hm hT) (hl.1) rfl rfl rfl rfl dX4_keeps_29 (Nat.le_refl _) (Nat.le_refl _) ?_
      refine r_iand dX4_keeps_32 ?_
      refine r_callVx lX4_348 (c_heatOf hm _) (hl.1) rfl rfl rfl rfl dX4_keeps_33 (Nat.le_refl _) (Nat.le_refl _) ?_
      refine r_goto (tgt := 40) dX4_keeps_36 rfl ?_
      exact r_retx dX4_keeps_40 rfl rfl (by simp [keepsV, *])

theorem c_scandal {G : ev_G} {b : Bk} {k : Nat} {h : ev_H} (hm : MB b k h) {T : Nat → Int32} (hT : MT T h) : Called G mX4_scandal 2 0 0 [vR aM] h (px (vI (heatV b (T 1))) h) := by
  have hl := hm.lay
  have hk2 := hm.k2
  have hb := hm.bw
  have hb1 := hb.p6
  have hb2 := hb.s5
  have hb3 := hb.t10
  refine called_of rfl [some (vR aM)] rfl (Nat.le_of_ble_eq_true rfl) ?_
  refine r_aload_n dX4_scandal_0 rfl ?_
  refine r_aload_n dX4_scandal_1 rfl ?_
  refine r_getRv fX4_88 (hl.1) (v := aAll) ((l_all hl).1) rfl dX4_scandal_2 ?_
  refine r_iconst (v := nI 1) dX4_scandal_5 (by decide) ?_
  refine r_ialdv ((l_all hl).2.1) ((l_all hl).2.2) (ix_n (by omega) (by decide)) (v := T (1)) (hT _ (by omega)) dX4_scandal_6 ?_
  refine r_callVx lX4_348 (c_heatOf hm _) (hl.1) rfl rfl rfl rfl dX4_scandal_7 (Nat.le_refl _) (Nat.le_refl _) ?_
  exact r_retx dX4_scandal_10 rfl rfl (rfl)

theorem c_near {G : ev_G} {b : Bk} {k : Nat} {h : ev_H} (hm : MB b k h) {T : Nat → Int32} (hT : MT T h) : Called G mX4_near 2 0 0 [vR aM] h (px (vI (nearsV b T)) h) := by
  have hl := hm.lay
  have hk2 := hm.k2
  have hb := hm.bw
  have hb1 := hb.p6
  have hb2 := hb.s5
  have hb3 := hb.t10
  refine called_of rfl [some (vR aM), none, none] rfl (Nat.le_of_ble_eq_true rfl) ?_
  refine r_iconst (v := nI 0) dX4_near_0 (by decide) ?_
  refine r_istore_n dX4_near_1 (by decide) rfl ?_
  refine r_iconst (v := nI 0) dX4_near_2 (by decide) ?_
  refine r_istore_n dX4_near_3 (by decide) rfl ?_
  refine (ev_for (P := fun i => Ev G mX4_near (ev_room 2 0 0) (ev_MQ G (px (vI (nearsV b T)) h) 0 0) 4 [some (vR aM), some (vI (setOf i (fun t => stV T t && nearV b T t))), some (vI (nI i))] [] h 0 0) (nT b) (fun i hki ihi => ?_)) 0 (Nat.zero_le _)
  refine r_iload_n dX4_near_4 rfl ?_
  refine r_aload_n dX4_near_5 rfl ?_
  refine r_callVx lX4_368 (c_many hm) (hl.1) rfl rfl rfl rfl dX4_near_6 (Nat.le_refl _) (Nat.le_refl _) ?_
  refine r_icmpN_ge (tgt := 40) dX4_near_9 rfl (by omega) (by omega) (fun c1 => ?_) (fun c1 => ?_)
  · --
    refine r_iload_n dX4_near_40 rfl ?_
    exact r_retx dX4_near_41 rfl rfl (congrArg (fun n => setOf n _) (by omega))
  · --
    refine r_aload_n dX4_near_12 rfl ?_
    refine r_iload_n dX4_near_13 rfl ?_
    refine r_callVx lX4_386 (c_isStill hm hT (t := i)) (hl.1) rfl rfl rfl rfl dX4_near_14 (Nat.le_refl _) (Nat.le_refl _) ?_
    refine r_ifB_eq (tgt := 34) dX4_near_17 rfl (fun c2 => ?_) (fun c2 => ?_)
    · --
      refine r_iincN (n := 1) dX4_near_34 rfl rfl (by decide) rfl ?_
      refine r_goto (tgt := 4) dX4_near_37 rfl ?_
      exact r_L (by rw [← setOf_f (by simp [*])]; rfl) (ihi (by omega))
    · --
      refine r_aload_n dX4_near_20 rfl ?_
      refine r_iload_n dX4_near_21 rfl ?_
      refine r_callVx lX4_395 (c_doBothSit hm hT (t := i) (by omega)) (hl.1) rfl rfl rfl rfl dX4_near_22 (Nat.le_refl _) (Nat.le_refl _) ?_
      refine r_ifB_eq (tgt := 34) dX4_near_25 rfl (fun c3 => ?_) (fun c3 => ?_)
      · --
        refine r_iincN (n := 1) dX4_near_34 rfl rfl (by decide) rfl ?_
        refine r_goto (tgt := 4) dX4_near_37 rfl ?_
        exact r_L (by rw [← setOf_f (by simp [*])]; rfl) (ihi (by omega))
      · --
        refine r_iload_n dX4_near_28 rfl ?_
        refine r_iconst (v := nI 1) dX4_near_29 (by decide) ?_
        refine r_iload_n dX4_near_30 rfl ?_
        refine r_ishl dX4_near_31 ?_
        refine r_top (one i) rfl ?_
        refine r_ior dX4_near_32 ?_
        refine r_istore_n dX4_near_33 (by decide) rfl ?_
        refine r_iincN (n := 1) dX4_near_34 rfl rfl (by decide) rfl ?_
        refine r_goto (tgt := 4) dX4_near_37 rfl ?_
        exact r_L (by rw [← setOf_t (by simp [*])]; rfl) (ihi (by omega))

theorem c_dupe {G : ev_G} {b : Bk} {k : Nat} {h : ev_H} (hm : MB b k h) {T : Nat → Int32} (hT : MT T h) : Called G mX4_dupe 3 0 0 [vR aM] h (px (vI (dupeV b T)) h) := by
  have hl := hm.lay
  have hk2 := hm.k2
  have hb := hm.bw
  have hb1 := hb.p6
  have hb2 := hb.s5
  have hb3 := hb.t10
  refine called_of rfl [some (vR aM), none, none] rfl (Nat.le_of_ble_eq_true rfl) ?_
  refine r_iconst (v := (-1)) dX4_dupe_0 (by decide) ?_
  refine r_istore_n dX4_dupe_1 (by decide) rfl ?_
  refine r_iconst (v := nI 0) dX4_dupe_2 (by decide) ?_
  refine r_istore_n dX4_dupe_3 (by decide) rfl ?_
  refine (ev_for (P := fun i => Ev G mX4_dupe (ev_room 3 0 0) (ev_MQ G (px (vI (dupeV b T)) h) 0 0) 4 [some (vR aM), some (vI (optI (bestOf i (fun _ => true) (fun p => heatV b (toV b (nI p) &&& keptV b T))))), some (vI (nI i))] [] h 0 0) (nP b) (fun i hki ihi => ?_)) 0 (Nat.zero_le _)
  refine r_iload_n dX4_dupe_4 rfl ?_
  refine r_aload_n dX4_dupe_5 rfl ?_
  refine r_callVx lX4_358 (c_folk hm) (hl.1) rfl rfl rfl rfl dX4_dupe_6 (Nat.le_refl _) (Nat.le_refl _) ?_
  refine r_icmpN_ge (tgt := 55) dX4_dupe_9 rfl (by omega) (by omega) (fun c1 => ?_) (fun c1 => ?_)
  · --
    refine r_iload_n dX4_dupe_55 rfl ?_
    exact r_retx dX4_dupe_56 rfl rfl (congrArg (fun n => optI (bestOf n _ _)) (by omega))
  · --
    cases hbo : bestOf i (fun _ => true) (fun p => heatV b (toV b (nI p) &&& keptV b T)) with
    | none =>
      refine r_iload_n dX4_dupe_12 rfl ?_
      refine r_if_lt (tgt := 47) dX4_dupe_13 rfl (fun c2 => ?_) (fun c2 => ?_)
      · --
        refine r_iload_n dX4_dupe_47 rfl ?_
        refine r_istore_n dX4_dupe_48 (by decide) rfl ?_
        refine r_iincN (n := 1) dX4_dupe_49 rfl rfl (by decide) rfl ?_
        refine r_goto (tgt := 4) dX4_dupe_52 rfl ?_
        exact r_L (by first | (have h7 := bestOf_n1 (f := fun p => heatV b (toV b (nI p) &&& keptV b T)) (p := fun _ => true) hbo (by simp [*]); rw [h7]; rfl) | (have h7 := bestOf_s1 (f := fun p => heatV b (toV b (nI p) &&& keptV b T)) (p := fun _ => true) hbo (by simp [*]) (Int32.not_le.mp (by assumption)); rw [h7]; rfl)) (ihi (by omega))
      · --
        exact absurd (show ((-1) : Int32) < 0 by decide) c2
    | some j =>
      have hj := bestOf_lt hbo
      refine r_iload_n dX4_dupe_12 rfl ?_
      refine r_if_lt (tgt := 47) dX4_dupe_13 rfl (fun c3 => ?_) (fun c3 => ?_)
      · --
        exact absurd c3 (nI_pos (by omega))
      · --
        refine r_aload_n dX4_dupe_16 rfl ?_
        refine r_aload_n dX4_dupe_17 rfl ?_
        refine r_iload_n dX4_dupe_18 rfl ?_
        refine r_callVx lX4_419 (c_toOf hm _) (hl.1) rfl rfl rfl rfl dX4_dupe_19 (Nat.le_refl _) (Nat.le_refl _) ?_
        refine r_aload_n dX4_dupe_22 rfl ?_
        refine r_callVx lX4_416 (c_keptNow hm hT) (hl.1) rfl rfl rfl rfl dX4_dupe_23 (Nat.le_refl _) (Nat.le_refl _) ?_
        refine r_iand dX4_dupe_26 ?_
        refine r_callVx lX4_348 (c_heatOf hm _) (hl.1) rfl rfl rfl rfl dX4_dupe_27 (Nat.le_refl _) (Nat.le_refl _) ?_
        refine r_aload_n dX4_dupe_30 rfl ?_
        refine r_aload_n dX4_dupe_31 rfl ?_
        refine r_iload_n dX4_dupe_32 rfl ?_
        refine r_callVx lX4_419 (c_toOf hm _) (hl.1) rfl rfl rfl rfl dX4_dupe_33 (Nat.le_refl _) (Nat.le_refl _) ?_
        refine r_aload_n dX4_dupe_36 rfl ?_
        refine r_callVx lX4_416 (c_keptNow hm hT) (hl.1) rfl rfl rfl rfl dX4_dupe_37 (Nat.le_refl _) (Nat.le_refl _) ?_
        refine r_iand dX4_dupe_40 ?_
        refine r_callVx lX4_348 (c_heatOf hm _) (hl.1) rfl rfl rfl rfl dX4_dupe_41 (Nat.le_refl _) (Nat.le_refl _) ?_
        refine r_icmp_le (tgt := 49) dX4_dupe_44 rfl (fun c4 => ?_) (fun c4 => ?_)
        · --
          refine r_iincN (n := 1) dX4_dupe_49 rfl rfl (by decide) rfl ?_
          refine r_goto (tgt := 4) dX4_dupe_52 rfl ?_
          exact r_L (by first | (have h7 := bestOf_n0 (f := fun p => heatV b (toV b (nI p) &&& keptV b T)) (p := fun _ => true) hbo (by simp [*]); rw [h7]; rfl) | (have h7 : _ := bestOf_s0 (f := fun p => heatV b (toV b (nI p) &&& keptV b T)) (p := fun _ => true) hbo (Or.inr (by assumption)); rw [h7]; rfl) | (have h7 := bestOf_s0 (f := fun p => heatV b (toV b (nI p) &&& keptV b T)) (p := fun _ => true) hbo (Or.inl (by simp [*])); rw [h7]; rfl)) (ihi (by omega))
        · --
          refine r_iload_n dX4_dupe_47 rfl ?_
          refine r_istore_n dX4_dupe_48 (by decide) rfl ?_
          refine r_iincN (n := 1) dX4_dupe_49 rfl rfl (by decide) rfl ?_
          refine r_goto (tgt := 4) dX4_dupe_52 rfl ?_
          exact r_L (by first | (have h7 := bestOf_n1 (f := fun p => heatV b (toV b (nI p) &&& keptV b T)) (p := fun _ => true) hbo (by simp [*]); rw [h7]; rfl) | (have h7 := bestOf_s1 (f := fun p => heatV b (toV b (nI p) &&& keptV b T)) (p := fun _ => true) hbo (by simp [*]) (Int32.not_le.mp (by assumption)); rw [h7]; rfl)) (ihi (by omega))

theorem c_closest {G : ev_G} {b : Bk} {k : Nat} {h : ev_H} (hm : MB b k h) {T : Nat → Int32} (hT : MT T h) : Called G mX4_closest 3 0 0 [vR aM] h (px (vI (closestV b T)) h) := by
  have hl := hm.lay
  have hk2 := hm.k2
  have hb := hm.bw
  have hb1 := hb.p6
  have hb2 := hb.s5
  have hb3 := hb.t10
  refine called_of rfl [some (vR aM), none, none] rfl (Nat.le_of_ble_eq_true rfl) ?_
  refine r_iconst (v := (-1)) dX4_closest_0 (by decide) ?_
  refine r_istore_n dX4_closest_1 (by decide) rfl ?_
  refine r_iconst (v := nI 0) dX4_closest_2 (by decide) ?_
  refine r_istore_n dX4_closest_3 (by decide) rfl ?_
  refine (ev_for (P := fun i => Ev G mX4_closest (ev_room 3 0 0) (ev_MQ G (px (vI (closestV b T)) h) 0 0) 4 [some (vR aM), some (vI (optI (bestOf i (fun _ => true) (fun p => popc (byV b (nI p) &&& keptV b T))))), some (vI (nI i))] [] h 0 0) (nP b) (fun i hki ihi => ?_)) 0 (Nat.zero_le _)
  refine r_iload_n dX4_closest_4 rfl ?_
  refine r_aload_n dX4_closest_5 rfl ?_
  refine r_callVx lX4_358 (c_folk hm) (hl.1) rfl rfl rfl rfl dX4_closest_6 (Nat.le_refl _) (Nat.le_refl _) ?_
  refine r_icmpN_ge (tgt := 53) dX4_closest_9 rfl (by omega) (by omega) (fun c1 => ?_) (fun c1 => ?_)
  · --
    refine r_iload_n dX4_closest_53 rfl ?_
    exact r_retx dX4_closest_54 rfl rfl (congrArg (fun n => optI (bestOf n _ _)) (by omega))
  · --
    cases hbo : bestOf i (fun _ => true) (fun p => popc (byV b (nI p) &&& keptV b T)) with
    | none =>
      refine r_iload_n dX4_closest_12 rfl ?_
      refine r_if_lt (tgt := 45) dX4_closest_13 rfl (fun c2 => ?_) (fun c2 => ?_)
      · --
        refine r_iload_n dX4_closest_45 rfl ?_
        refine r_istore_n dX4_closest_46 (by decide) rfl ?_
        refine r_iincN (n := 1) dX4_closest_47 rfl rfl (by decide) rfl ?_
        refine r_goto (tgt := 4) dX4_closest_50 rfl ?_
        exact r_L (by first | (have h7 := bestOf_n1 (f := fun p => popc (byV b (nI p) &&& keptV b T)) (p := fun _ => true) hbo (by simp [*]); rw [h7]; rfl) | (have h7 := bestOf_s1 (f := fun p => popc (byV b (nI p) &&& keptV b T)) (p := fun _ => true) hbo (by simp [*]) (Int32.not_le.mp (by assumption)); rw [h7]; rfl)) (ihi (by omega))
      · --
        exact absurd (show ((-1) : Int32) < 0 by decide) c2
    | some j =>
      have hj := bestOf_lt hbo
      refine r_iload_n dX4_closest_12 rfl ?_
      refine r_if_lt (tgt := 45) dX4_closest_13 rfl (fun c3 => ?_) (fun c3 => ?_)
      · --
        exact absurd c3 (nI_pos (by omega))
      · --
        refine r_aload_n dX4_closest_16 rfl ?_
        refine r_iload_n dX4_closest_17 rfl ?_
        refine r_callVx lX4_413 (c_byOf hm _) (hl.1) rfl rfl rfl rfl dX4_closest_18 (Nat.le_refl _) (Nat.le_refl _) ?_
        refine r_aload_n dX4_closest_21 rfl ?_
        refine r_callVx lX4_416 (c_keptNow hm hT) (hl.1) rfl rfl rfl rfl dX4_closest_22 (Nat.le_refl _) (Nat.le_refl _) ?_
        refine r_iand dX4_closest_25 ?_
        refine r_callSx lX4_339 (c_bitsOf _) rfl rfl rfl rfl dX4_closest_26 (Nat.le_refl _) (Nat.le_refl _) ?_
        refine r_aload_n dX4_closest_29 rfl ?_
        refine r_iload_n dX4_closest_30 rfl ?_
        refine r_callVx lX4_413 (c_byOf hm _) (hl.1) rfl rfl rfl rfl dX4_closest_31 (Nat.le_refl _) (Nat.le_refl _) ?_
        refine r_aload_n dX4_closest_34 rfl ?_
        refine r_callVx lX4_416 (c_keptNow hm hT) (hl.1) rfl rfl rfl rfl dX4_closest_35 (Nat.le_refl _) (Nat.le_refl _) ?_
        refine r_iand dX4_closest_38 ?_
        refine r_callSx lX4_339 (c_bitsOf _) rfl rfl rfl rfl dX4_closest_39 (Nat.le_refl _) (Nat.le_refl _) ?_
        refine r_icmp_le (tgt := 47) dX4_closest_42 rfl (fun c4 => ?_) (fun c4 => ?_)
        · --
          refine r_iincN (n := 1) dX4_closest_47 rfl rfl (by decide) rfl ?_
          refine r_goto (tgt := 4) dX4_closest_50 rfl ?_
          exact r_L (by first | (have h7 := bestOf_n0 (f := fun p => popc (byV b (nI p) &&& keptV b T)) (p := fun _ => true) hbo (by simp [*]); rw [h7]; rfl) | (have h7 : _ := bestOf_s0 (f := fun p => popc (byV b (nI p) &&& keptV b T)) (p := fun _ => true) hbo (Or.inr (by assumption)); rw [h7]; rfl) | (have h7 := bestOf_s0 (f := fun p => popc (byV b (nI p) &&& keptV b T)) (p := fun _ => true) hbo (Or.inl (by simp [*])); rw [h7]; rfl)) (ihi (by omega))
        · --
          refine r_iload_n dX4_closest_45 rfl ?_
          refine r_istore_n dX4_closest_46 (by decide) rfl ?_
          refine r_iincN (n := 1) dX4_closest_47 rfl rfl (by decide) rfl ?_
          refine r_goto (tgt := 4) dX4_closest_50 rfl ?_
          exact r_L (by first | (have h7 := bestOf_n1 (f := fun p => popc (byV b (nI p) &&& keptV b T)) (p := fun _ => true) hbo (by simp [*]); rw [h7]; rfl) | (have h7 := bestOf_s1 (f := fun p => popc (byV b (nI p) &&& keptV b T)) (p := fun _ => true) hbo (by simp [*]) (Int32.not_le.mp (by assumption)); rw [h7]; rfl)) (ihi (by omega))

theorem c_hottest {G : ev_G} {b : Bk} {k : Nat} {h : ev_H} (hm : MB b k h) {T : Nat → Int32} (hT : MT T h) : Called G mX4_hottest 3 0 0 [vR aM] h (px (vI (hottestV b T)) h) := by
  have hl := hm.lay
  have hk2 := hm.k2
  have hb := hm.bw
  have hb1 := hb.p6
  have hb2 := hb.s5
  have hb3 := hb.t10
  refine called_of rfl [some (vR aM), none, none] rfl (Nat.le_of_ble_eq_true rfl) ?_
  refine r_iconst (v := (-1)) dX4_hottest_0 (by decide) ?_
  refine r_istore_n dX4_hottest_1 (by decide) rfl ?_
  refine r_iconst (v := nI 0) dX4_hottest_2 (by decide) ?_
  refine r_istore_n dX4_hottest_3 (by decide) rfl ?_
  refine (ev_for (P := fun i => Ev G mX4_hottest (ev_room 3 0 0) (ev_MQ G (px (vI (hottestV b T)) h) 0 0) 4 [some (vR aM), some (vI (optI (bestOf i (fun _ => true) (fun s => heatV b (inV b T (nI s)))))), some (vI (nI i))] [] h 0 0) (nS b) (fun i hki ihi => ?_)) 0 (Nat.zero_le _)
  refine r_iload_n dX4_hottest_4 rfl ?_
  refine r_aload_n dX4_hottest_5 rfl ?_
  refine r_callVx lX4_365 (c_bags hm) (hl.1) rfl rfl rfl rfl dX4_hottest_6 (Nat.le_refl _) (Nat.le_refl _) ?_
  refine r_icmpN_ge (tgt := 45) dX4_hottest_9 rfl (by omega) (by omega) (fun c1 => ?_) (fun c1 => ?_)
  · --
    refine r_iload_n dX4_hottest_45 rfl ?_
    exact r_retx dX4_hottest_46 rfl rfl (congrArg (fun n => optI (bestOf n _ _)) (by omega))
  · --
    cases hbo : bestOf i (fun _ => true) (fun s => heatV b (inV b T (nI s))) with
    | none =>
      refine r_iload_n dX4_hottest_12 rfl ?_
      refine r_if_lt (tgt := 37) dX4_hottest_13 rfl (fun c2 => ?_) (fun c2 => ?_)
      · --
        refine r_iload_n dX4_hottest_37 rfl ?_
        refine r_istore_n dX4_hottest_38 (by decide) rfl ?_
        refine r_iincN (n := 1) dX4_hottest_39 rfl rfl (by decide) rfl ?_
        refine r_goto (tgt := 4) dX4_hottest_42 rfl ?_
        exact r_L (by first | (have h7 := bestOf_n1 (f := fun s => heatV b (inV b T (nI s))) (p := fun _ => true) hbo (by simp [*]); rw [h7]; rfl) | (have h7 := bestOf_s1 (f := fun s => heatV b (inV b T (nI s))) (p := fun _ => true) hbo (by simp [*]) (Int32.not_le.mp (by assumption)); rw [h7]; rfl)) (ihi (by omega))
      · --
        exact absurd (show ((-1) : Int32) < 0 by decide) c2
    | some j =>
      have hj := bestOf_lt hbo
      refine r_iload_n dX4_hottest_12 rfl ?_
      refine r_if_lt (tgt := 37) dX4_hottest_13 rfl (fun c3 => ?_) (fun c3 => ?_)
      · --
        exact absurd c3 (nI_pos (by omega))
      · --
        refine r_aload_n dX4_hottest_16 rfl ?_
        refine r_aload_n dX4_hottest_17 rfl ?_
        refine r_iload_n dX4_hottest_18 rfl ?_
        refine r_callVx lX4_345 (c_inOf hm hT _) (hl.1) rfl rfl rfl rfl dX4_hottest_19 (Nat.le_refl _) (Nat.le_refl _) ?_
        refine r_callVx lX4_348 (c_heatOf hm _) (hl.1) rfl rfl rfl rfl dX4_hottest_22 (Nat.le_refl _) (Nat.le_refl _) ?_
        refine r_aload_n dX4_hottest_25 rfl ?_
        refine r_aload_n dX4_hottest_26 rfl ?_
        refine r_iload_n dX4_hottest_27 rfl ?_
        refine r_callVx lX4_345 (c_inOf hm hT _) (hl.1) rfl rfl rfl rfl dX4_hottest_28 (Nat.le_refl _) (Nat.le_refl _) ?_
        refine r_callVx lX4_348 (c_heatOf hm _) (hl.1) rfl rfl rfl rfl dX4_hottest_31 (Nat.le_refl _) (Nat.le_refl _) ?_
        refine r_icmp_le (tgt := 39) dX4_hottest_34 rfl (fun c4 => ?_) (fun c4 => ?_)
        · --
          refine r_iincN (n := 1) dX4_hottest_39 rfl rfl (by decide) rfl ?_
          refine r_goto (tgt := 4) dX4_hottest_42 rfl ?_
          exact r_L (by first | (have h7 := bestOf_n0 (f := fun s => heatV b (inV b T (nI s))) (p := fun _ => true) hbo (by simp [*]); rw [h7]; rfl) | (have h7 : _ := bestOf_s0 (f := fun s => heatV b (inV b T (nI s))) (p := fun _ => true) hbo (Or.inr (by assumption)); rw [h7]; rfl) | (have h7 := bestOf_s0 (f := fun s => heatV b (inV b T (nI s))) (p := fun _ => true) hbo (Or.inl (by simp [*])); rw [h7]; rfl)) (ihi (by omega))
        · --
          refine r_iload_n dX4_hottest_37 rfl ?_
          refine r_istore_n dX4_hottest_38 (by decide) rfl ?_
          refine r_iincN (n := 1) dX4_hottest_39 rfl rfl (by decide) rfl ?_
          refine r_goto (tgt := 4) dX4_hottest_42 rfl ?_
          exact r_L (by first | (have h7 := bestOf_n1 (f := fun s => heatV b (inV b T (nI s))) (p := fun _ => true) hbo (by simp [*]); rw [h7]; rfl) | (have h7 := bestOf_s1 (f := fun s => heatV b (inV b T (nI s))) (p := fun _ => true) hbo (by simp [*]) (Int32.not_le.mp (by assumption)); rw [h7]; rfl)) (ihi (by omega))

theorem c_sneezed {G : ev_G} {b : Bk} {k : Nat} {h : ev_H} (hm : MB b k h) {T : Nat → Int32} (hT : MT T h) : Called G mX4_sneezed 3 0 0 [vR aM] h (px (vI (optI (sneV b T))) h) := by
  have hl := hm.lay
  have hk2 := hm.k2
  have hb := hm.bw
  have hb1 := hb.p6
  have hb2 := hb.s5
  have hb3 := hb.t10
  refine called_of rfl [some (vR aM), none, none] rfl (Nat.le_of_ble_eq_true rfl) ?_
  refine r_iconst (v := (-1)) dX4_sneezed_0 (by decide) ?_
  refine r_istore_n dX4_sneezed_1 (by decide) rfl ?_
  refine r_iconst (v := nI 0) dX4_sneezed_2 (by decide) ?_
  refine r_istore_n dX4_sneezed_3 (by decide) rfl ?_
  refine (ev_for (P := fun i => Ev G mX4_sneezed (ev_room 3 0 0) (ev_MQ G (px (vI (optI (sneV b T))) h) 0 0) 4 [some (vR aM), some (vI (optI (bestOf i (fun t => stV T t && tb (T 0) (bBy b t)) (fun t => nI (bHo b t))))), some (vI (nI i))] [] h 0 0) (nT b) (fun i hki ihi => ?_)) 0 (Nat.zero_le _)
  refine r_iload_n dX4_sneezed_4 rfl ?_
  refine r_aload_n dX4_sneezed_5 rfl ?_
  refine r_callVx lX4_368 (c_many hm) (hl.1) rfl rfl rfl rfl dX4_sneezed_6 (Nat.le_refl _) (Nat.le_refl _) ?_
  refine r_icmpN_ge (tgt := 62) dX4_sneezed_9 rfl (by omega) (by omega) (fun c1 => ?_) (fun c1 => ?_)
  · --
    refine r_iload_n dX4_sneezed_62 rfl ?_
    exact r_retx dX4_sneezed_63 rfl rfl (congrArg (fun n => optI (bestOf n _ _)) (by omega))
  · --
    cases hbo : bestOf i (fun t => stV T t && tb (T 0) (bBy b t)) (fun t => nI (bHo b t)) with
    | none =>
      refine r_aload_n dX4_sneezed_12 rfl ?_
      refine r_iload_n dX4_sneezed_13 rfl ?_
      refine r_callVx lX4_386 (c_isStill hm hT (t := i)) (hl.1) rfl rfl rfl rfl dX4_sneezed_14 (Nat.le_refl _) (Nat.le_refl _) ?_
      refine r_ifB_eq (tgt := 56) dX4_sneezed_17 rfl (fun c2 => ?_) (fun c2 => ?_)
      · --
        refine r_iincN (n := 1) dX4_sneezed_56 rfl rfl (by decide) rfl ?_
        refine r_goto (tgt := 4) dX4_sneezed_59 rfl ?_
        exact r_L (by first | (have h7 := bestOf_n0 (f := fun t => nI (bHo b t)) (p := fun t => stV T t && tb (T 0) (bBy b t)) hbo (by simp [*]); rw [h7]; rfl) | (have h7 : _ := bestOf_s0 (f := fun t => nI (bHo b t)) (p := fun t => stV T t && tb (T 0) (bBy b t)) hbo (Or.inr (by assumption)); rw [h7]; rfl) | (have h7 := bestOf_s0 (f := fun t => nI (bHo b t)) (p := fun t => stV T t && tb (T 0) (bBy b t)) hbo (Or.inl (by simp [*])); rw [h7]; rfl)) (ihi (by omega))
      · --
        refine r_aload_n dX4_sneezed_20 rfl ?_
        refine r_getRv fX4_88 (hl.1) (v := aAll) ((l_all hl).1) rfl dX4_sneezed_21 ?_
        refine r_iconst (v := nI 0) dX4_sneezed_24 (by decide) ?_
        refine r_ialdv ((l_all hl).2.1) ((l_all hl).2.2) (ix_n (by omega) (by decide)) (v := T (0)) (hT _ (by omega)) dX4_sneezed_25 ?_
        refine r_aload_n dX4_sneezed_26 rfl ?_
        refine r_iload_n dX4_sneezed_27 rfl ?_
        refine r_callVx lX4_389 (c_fromOf hm (t := i) (by omega)) (hl.1) rfl rfl rfl rfl dX4_sneezed_28 (Nat.le_refl _) (Nat.le_refl _) ?_
        refine r_callSx lX4_259 (c_bitN _ _) rfl rfl rfl rfl dX4_sneezed_31 (Nat.le_refl _) (Nat.le_refl _) ?_
        refine r_ifB_eq (tgt := 56) dX4_sneezed_34 rfl (fun c3 => ?_) (fun c3 => ?_)
        · --
          refine r_iincN (n := 1) dX4_sneezed_56 rfl rfl (by decide) rfl ?_
          refine r_goto (tgt := 4) dX4_sneezed_59 rfl ?_
          exact r_L (by first | (have h7 := bestOf_n0 (f := fun t => nI (bHo b t)) (p := fun t => stV T t && tb (T 0) (bBy b t)) hbo (by simp [*]); rw [h7]; rfl) | (have h7 : _ := bestOf_s0 (f := fun t => nI (bHo b t)) (p := fun t => stV T t && tb (T 0) (bBy b t)) hbo (Or.inr (by assumption)); rw [h7]; rfl) | (have h7 := bestOf_s0 (f := fun t => nI (bHo b t)) (p := fun t => stV T t && tb (T 0) (bBy b t)) hbo (Or.inl (by simp [*])); rw [h7]; rfl)) (ihi (by omega))
        · --
          refine r_iload_n dX4_sneezed_37 rfl ?_
          refine r_if_lt (tgt := 54) dX4_sneezed_38 rfl (fun c4 => ?_) (fun c4 => ?_)
          · --
            refine r_iload_n dX4_sneezed_54 rfl ?_
            refine r_istore_n dX4_sneezed_55 (by decide) rfl ?_
            refine r_iincN (n := 1) dX4_sneezed_56 rfl rfl (by decide) rfl ?_
            refine r_goto (tgt := 4) dX4_sneezed_59 rfl ?_
            exact r_L (by first | (have h7 := bestOf_n1 (f := fun t => nI (bHo b t)) (p := fun t => stV T t && tb (T 0) (bBy b t)) hbo (by simp [*]); rw [h7]; rfl) | (have h7 := bestOf_s1 (f := fun t => nI (bHo b t)) (p := fun t => stV T t && tb (T 0) (bBy b t)) hbo (by simp [*]) (Int32.not_le.mp (by assumption)); rw [h7]; rfl)) (ihi (by omega))
          · --
            exact absurd (show ((-1) : Int32) < 0 by decide) c4
    | some j =>
      have hj := bestOf_lt hbo
      refine r_aload_n dX4_sneezed_12 rfl ?_
      refine r_iload_n dX4_sneezed_13 rfl ?_
      refine r_callVx lX4_386 (c_isStill hm hT (t := i)) (hl.1) rfl rfl rfl rfl dX4_sneezed_14 (Nat.le_refl _) (Nat.le_refl _) ?_
      refine r_ifB_eq (tgt := 56) dX4_sneezed_17 rfl (fun c5 => ?_) (fun c5 => ?_)
      · --
        refine r_iincN (n := 1) dX4_sneezed_56 rfl rfl (by decide) rfl ?_
        refine r_goto (tgt := 4) dX4_sneezed_59 rfl ?_
        exact r_L (by first | (have h7 := bestOf_n0 (f := fun t => nI (bHo b t)) (p := fun t => stV T t && tb (T 0) (bBy b t)) hbo (by simp [*]); rw [h7]; rfl) | (have h7 : _ := bestOf_s0 (f := fun t => nI (bHo b t)) (p := fun t => stV T t && tb (T 0) (bBy b t)) hbo (Or.inr (by assumption)); rw [h7]; rfl) | (have h7 := bestOf_s0 (f := fun t => nI (bHo b t)) (p := fun t => stV T t && tb (T 0) (bBy b t)) hbo (Or.inl (by simp [*])); rw [h7]; rfl)) (ihi (by omega))
      · --
        refine r_aload_n dX4_sneezed_20 rfl ?_
        refine r_getRv fX4_88 (hl.1) (v := aAll) ((l_all hl).1) rfl dX4_sneezed_21 ?_
        refine r_iconst (v := nI 0) dX4_sneezed_24 (by decide) ?_
        refine r_ialdv ((l_all hl).2.1) ((l_all hl).2.2) (ix_n (by omega) (by decide)) (v := T (0)) (hT _ (by omega)) dX4_sneezed_25 ?_
        refine r_aload_n dX4_sneezed_26 rfl ?_
        refine r_iload_n dX4_sneezed_27 rfl ?_
        refine r_callVx lX4_389 (c_fromOf hm (t := i) (by omega)) (hl.1) rfl rfl rfl rfl dX4_sneezed_28 (Nat.le_refl _) (Nat.le_refl _) ?_
        refine r_callSx lX4_259 (c_bitN _ _) rfl rfl rfl rfl dX4_sneezed_31 (Nat.le_refl _) (Nat.le_refl _) ?_
        refine r_ifB_eq (tgt := 56) dX4_sneezed_34 rfl (fun c6 => ?_) (fun c6 => ?_)
        · --
          refine r_iincN (n := 1) dX4_sneezed_56 rfl rfl (by decide) rfl ?_
          refine r_goto (tgt := 4) dX4_sneezed_59 rfl ?_
          exact r_L (by first | (have h7 := bestOf_n0 (f := fun t => nI (bHo b t)) (p := fun t => stV T t && tb (T 0) (bBy b t)) hbo (by simp [*]); rw [h7]; rfl) | (have h7 : _ := bestOf_s0 (f := fun t => nI (bHo b t)) (p := fun t => stV T t && tb (T 0) (bBy b t)) hbo (Or.inr (by assumption)); rw [h7]; rfl) | (have h7 := bestOf_s0 (f := fun t => nI (bHo b t)) (p := fun t => stV T t && tb (T 0) (bBy b t)) hbo (Or.inl (by simp [*])); rw [h7]; rfl)) (ihi (by omega))
        · --
          refine r_iload_n dX4_sneezed_37 rfl ?_
          refine r_if_lt (tgt := 54) dX4_sneezed_38 rfl (fun c7 => ?_) (fun c7 => ?_)
          · --
            exact absurd c7 (nI_pos (by omega))
          · --
            refine r_aload_n dX4_sneezed_41 rfl ?_
            refine r_iload_n dX4_sneezed_42 rfl ?_
            refine r_callVx lX4_333 (c_hotOf hm (t := i) (by omega)) (hl.1) rfl rfl rfl rfl dX4_sneezed_43 (Nat.le_refl _) (Nat.le_refl _) ?_
            refine r_aload_n dX4_sneezed_46 rfl ?_
            refine r_iload_n dX4_sneezed_47 rfl ?_
            refine r_callVx lX4_333 (c_hotOf hm (t := j) (by omega)) (hl.1) rfl rfl rfl rfl dX4_sneezed_48 (Nat.le_refl _) (Nat.le_refl _) ?_
            refine r_icmp_le (tgt := 56) dX4_sneezed_51 rfl (fun c8 => ?_) (fun c8 => ?_)
            · --
              refine r_iincN (n := 1) dX4_sneezed_56 rfl rfl (by decide) rfl ?_
              refine r_goto (tgt := 4) dX4_sneezed_59 rfl ?_
              exact r_L (by first | (have h7 := bestOf_n0 (f := fun t => nI (bHo b t)) (p := fun t => stV T t && tb (T 0) (bBy b t)) hbo (by simp [*]); rw [h7]; rfl) | (have h7 : _ := bestOf_s0 (f := fun t => nI (bHo b t)) (p := fun t => stV T t && tb (T 0) (bBy b t)) hbo (Or.inr (by assumption)); rw [h7]; rfl) | (have h7 := bestOf_s0 (f := fun t => nI (bHo b t)) (p := fun t => stV T t && tb (T 0) (bBy b t)) hbo (Or.inl (by simp [*])); rw [h7]; rfl)) (ihi (by omega))
            · --
              refine r_iload_n dX4_sneezed_54 rfl ?_
              refine r_istore_n dX4_sneezed_55 (by decide) rfl ?_
              refine r_iincN (n := 1) dX4_sneezed_56 rfl rfl (by decide) rfl ?_
              refine r_goto (tgt := 4) dX4_sneezed_59 rfl ?_
              exact r_L (by first | (have h7 := bestOf_n1 (f := fun t => nI (bHo b t)) (p := fun t => stV T t && tb (T 0) (bBy b t)) hbo (by simp [*]); rw [h7]; rfl) | (have h7 := bestOf_s1 (f := fun t => nI (bHo b t)) (p := fun t => stV T t && tb (T 0) (bBy b t)) hbo (by simp [*]) (Int32.not_le.mp (by assumption)); rw [h7]; rfl)) (ihi (by omega))

theorem c_next {G : ev_G} {b : Bk} {k : Nat} {h : ev_H} (hm : MB b k h) {T : Nat → Int32} (hT : MT T h) : Called G mX4_next 4 0 0 [vR aM] h (px (vI (optI (sneV b T))) h) := by
  have hl := hm.lay
  have hk2 := hm.k2
  have hb := hm.bw
  have hb1 := hb.p6
  have hb2 := hb.s5
  have hb3 := hb.t10
  refine called_of rfl [some (vR aM)] rfl (Nat.le_of_ble_eq_true rfl) ?_
  refine r_aload_n dX4_next_0 rfl ?_
  refine r_callVx lX4_434 (c_sneezed hm hT) (hl.1) rfl rfl rfl rfl dX4_next_1 (Nat.le_refl _) (Nat.le_refl _) ?_
  exact r_retx dX4_next_4 rfl rfl (rfl)

theorem c_would {G : ev_G} {b : Bk} {k : Nat} {h : ev_H} (hm : MB b k h) {T : Nat → Int32} (hT : MT T h) (hth : hI h aM 43 = -1) (p : Int32) : Called G mX4_would 7 0 0 [vR aM, vI p] h (pI (fun y h1 => y = wouldV b T p ∧ Fr [aPile] [39, 40, 41] h h1)) := by
  have hl := hm.lay
  have hk2 := hm.k2
  have hb := hm.bw
  have hb1 := hb.p6
  have hb2 := hb.s5
  have hb3 := hb.t10
  refine called_of rfl [some (vR aM), some (vI p)] rfl (Nat.le_of_ble_eq_true rfl) ?_
  refine r_aload_n dX4_would_0 rfl ?_
  refine r_iload_n dX4_would_1 rfl ?_
  refine r_callVx lX4_425 (c_isSack hm _) (hl.1) rfl rfl rfl rfl dX4_would_2 (Nat.le_refl _) (Nat.le_refl _) ?_
  refine r_ifB_eq (tgt := 16) dX4_would_5 rfl (fun c1 => ?_) (fun c1 => ?_)
  · --
    refine r_iconst (v := (-1)) dX4_would_16 (by decide) ?_
    exact r_reti dX4_would_17 rfl rfl (Nat.le_refl _) (Nat.le_refl _) (⟨by simp [wouldV, *], Fr.rf⟩)
  · --
    obtain ⟨j, hj, rfl⟩ := sakV_ok hb c1
    refine r_aload_n dX4_would_8 rfl ?_
    refine r_iload_n dX4_would_9 rfl ?_
    refine r_callVi lX4_407 (c_wouldOf hm hT (s := j) (by omega) (hth)) (hl.1) rfl rfl rfl rfl dX4_would_10 (Nat.le_refl _) (Nat.le_refl _) (fun y9 h8 q9 => ?_)
    obtain ⟨rfl, f8⟩ := q9
    refine r_goto (tgt := 17) dX4_would_13 rfl ?_
    exact r_reti dX4_would_17 rfl rfl (Nat.le_refl _) (Nat.le_refl _) (⟨by simp only [wouldV, nI_clamp (show j < 2 ^ 31 by omega)]; rw [if_pos (by assumption)], f8⟩)

theorem c_idle {G : ev_G} {b : Bk} {k : Nat} {h : ev_H} (hm : MB b k h) {T : Nat → Int32} (hT : MT T h) (hth : hI h aM 43 = -1) : Called G mX4_idle 7 0 0 [vR aM] h (pI (fun y h1 => y = idleV b T ∧ Fr [aPile] [39, 40, 41] h h1)) := by
  have hl := hm.lay
  have hk2 := hm.k2
  have hb := hm.bw
  have hb1 := hb.p6
  have hb2 := hb.s5
  have hb3 := hb.t10
  refine called_of rfl [some (vR aM), none, none] rfl (Nat.le_of_ble_eq_true rfl) ?_
  refine r_iconst (v := nI 0) dX4_idle_0 (by decide) ?_
  refine r_istore_n dX4_idle_1 (by decide) rfl ?_
  refine r_iconst (v := nI 0) dX4_idle_2 (by decide) ?_
  refine r_istore_n dX4_idle_3 (by decide) rfl ?_
  refine (ev_for (P := fun i => ∀ h9 : ev_H, (Fr [aPile] [39, 40, 41] h h9) → Ev G mX4_idle (ev_room 7 0 0) (ev_MQ G (pI (fun y h1 => y = idleV b T ∧ Fr [aPile] [39, 40, 41] h h1)) 0 0) 4 [some (vR aM), some (vI (setOf i (fun s => decide (outV b T s = 0)))), some (vI (nI i))] [] h9 0 0) (nS b) (fun i hki ihi h9 qh9 => ?_)) 0 (Nat.zero_le _) _ (Fr.rf)
  have f9 := qh9
  have hm9 := hm.fr f9 rfl
  have hT9 := hT.fr f9 (by decide)
  have hl9 := hm9.lay
  refine r_iload_n dX4_idle_4 rfl ?_
  refine r_aload_n dX4_idle_5 rfl ?_
  refine r_callVx lX4_365 (c_bags hm9) (hl9.1) rfl rfl rfl rfl dX4_idle_6 (Nat.le_refl _) (Nat.le_refl _) ?_
  refine r_icmpN_ge (tgt := 32) dX4_idle_9 rfl (by omega) (by omega) (fun c1 => ?_) (fun c1 => ?_)
  · --
    refine r_iload_n dX4_idle_32 rfl ?_
    exact r_reti dX4_idle_33 rfl (rfl) (Nat.le_refl _) (Nat.le_refl _) (⟨congrArg (fun n => setOf n _) (by omega), f9⟩)
  · --
    refine r_aload_n dX4_idle_12 rfl ?_
    refine r_iload_n dX4_idle_13 rfl ?_
    refine r_callVi lX4_407 (c_wouldOf hm9 hT9 (s := i) (by omega) ((f9.fld 43 (by decide) (by decide)).trans hth)) (hl9.1) rfl rfl rfl rfl dX4_idle_14 (Nat.le_refl _) (Nat.le_refl _) (fun y9 h8 q9 => ?_)
    obtain ⟨rfl, f8⟩ := q9
    have f7 := f9.tr f8
    refine r_if_ne (tgt := 26) dX4_idle_17 rfl (fun c2 => ?_) (fun c2 => ?_)
    · --
      refine r_iincN (n := 1) dX4_idle_26 rfl rfl (by decide) rfl ?_
      refine r_goto (tgt := 4) dX4_idle_29 rfl ?_
      exact r_L (by rw [← setOf_f (by simp [*])]; rfl) (ihi (by omega) _ (f7))
    · --
      refine r_iload_n dX4_idle_20 rfl ?_
      refine r_iconst (v := nI 1) dX4_idle_21 (by decide) ?_
      refine r_iload_n dX4_idle_22 rfl ?_
      refine r_ishl dX4_idle_23 ?_
      refine r_top (one i) rfl ?_
      refine r_ior dX4_idle_24 ?_
      refine r_istore_n dX4_idle_25 (by decide) rfl ?_
      refine r_iincN (n := 1) dX4_idle_26 rfl rfl (by decide) rfl ?_
      refine r_goto (tgt := 4) dX4_idle_29 rfl ?_
      exact r_L (by rw [← setOf_t (by simp [*])]; rfl) (ihi (by omega) _ (f7))

theorem c_saidBy {G : ev_G} {b : Bk} {k : Nat} {h : ev_H} (hm : MB b k h) {T : Nat → Int32} (hT : MT T h) (hth : hI h aM 43 = -1) (set : Int32) : Called G mX4_saidBy 7 0 0 [vR aM, vI set] h (pI (fun y h1 => y = saidV b T set ∧ Fr [aPile] [39, 40, 41] h h1)) := by
  have hl := hm.lay
  have hk2 := hm.k2
  have hb := hm.bw
  have hb1 := hb.p6
  have hb2 := hb.s5
  have hb3 := hb.t10
  refine called_of rfl [some (vR aM), some (vI set), none, none] rfl (Nat.le_of_ble_eq_true rfl) ?_
  refine r_iconst (v := nI 0) dX4_saidBy_0 (by decide) ?_
  refine r_istore_n dX4_saidBy_1 (by decide) rfl ?_
  refine r_iconst (v := nI 0) dX4_saidBy_2 (by decide) ?_
  refine r_istore_n dX4_saidBy_3 (by decide) rfl ?_
  refine (ev_for (P := fun i => ∀ h9 : ev_H, (Fr [aPile] [39, 40, 41] h h9) → Ev G mX4_saidBy (ev_room 7 0 0) (ev_MQ G (pI (fun y h1 => y = saidV b T set ∧ Fr [aPile] [39, 40, 41] h h1)) 0 0) 4 [some (vR aM), some (vI set), some (vI (orIf i (fun s => tb set s) (fun s => outV b T s))), some (vI (nI i))] [] h9 0 0) (nS b) (fun i hki ihi h9 qh9 => ?_)) 0 (Nat.zero_le _) _ (Fr.rf)
  have f9 := qh9
  have hm9 := hm.fr f9 rfl
  have hT9 := hT.fr f9 (by decide)
  have hl9 := hm9.lay
  refine r_iload_n dX4_saidBy_4 rfl ?_
  refine r_aload_n dX4_saidBy_5 rfl ?_
  refine r_callVx lX4_365 (c_bags hm9) (hl9.1) rfl rfl rfl rfl dX4_saidBy_6 (Nat.le_refl _) (Nat.le_refl _) ?_
  refine r_icmpN_ge (tgt := 34) dX4_saidBy_9 rfl (by omega) (by omega) (fun c1 => ?_) (fun c1 => ?_)
  · --
    refine r_iload_n dX4_saidBy_34 rfl ?_
    exact r_reti dX4_saidBy_35 rfl (rfl) (Nat.le_refl _) (Nat.le_refl _) (⟨congrArg (fun n => orIf n _ _) (by omega), f9⟩)
  · --
    refine r_iload_n dX4_saidBy_12 rfl ?_
    refine r_iload_n dX4_saidBy_13 rfl ?_
    refine r_callSx lX4_259 (c_bitN _ _) rfl rfl rfl rfl dX4_saidBy_14 (Nat.le_refl _) (Nat.le_refl _) ?_
    refine r_ifB_eq (tgt := 28) dX4_saidBy_17 rfl (fun c2 => ?_) (fun c2 => ?_)
    · --
      refine r_iincN (n := 1) dX4_saidBy_28 rfl rfl (by decide) rfl ?_
      refine r_goto (tgt := 4) dX4_saidBy_31 rfl ?_
      exact r_L (by rw [← orIf_f (by simp [*])]; rfl) (ihi (by omega) _ (f9))
    · --
      refine r_iload_n dX4_saidBy_20 rfl ?_
      refine r_aload_n dX4_saidBy_21 rfl ?_
      refine r_iload_n dX4_saidBy_22 rfl ?_
      refine r_callVi lX4_407 (c_wouldOf hm9 hT9 (s := i) (by omega) ((f9.fld 43 (by decide) (by decide)).trans hth)) (hl9.1) rfl rfl rfl rfl dX4_saidBy_23 (Nat.le_refl _) (Nat.le_refl _) (fun y9 h8 q9 => ?_)
      obtain ⟨rfl, f8⟩ := q9
      have f7 := f9.tr f8
      refine r_ior dX4_saidBy_26 ?_
      refine r_istore_n dX4_saidBy_27 (by decide) rfl ?_
      refine r_iincN (n := 1) dX4_saidBy_28 rfl rfl (by decide) rfl ?_
      refine r_goto (tgt := 4) dX4_saidBy_31 rfl ?_
      exact r_L (by rw [← orIf_t (by simp [*])]; rfl) (ihi (by omega) _ (f7))

theorem c_storm {G : ev_G} {b : Bk} {k : Nat} {h : ev_H} (hm : MB b k h) {T : Nat → Int32} (hT : MT T h) (hth : hI h aM 43 = -1) : Called G mX4_storm 8 0 0 [vR aM] h (pI (fun y h1 => y = heatV b (saidV b T (allV (nS b))) ∧ Fr [aPile] [39, 40, 41] h h1)) := by
  have hl := hm.lay
  have hk2 := hm.k2
  have hb := hm.bw
  have hb1 := hb.p6
  have hb2 := hb.s5
  have hb3 := hb.t10
  refine called_of rfl [some (vR aM)] rfl (Nat.le_of_ble_eq_true rfl) ?_
  refine r_aload_n dX4_storm_0 rfl ?_
  refine r_aload_n dX4_storm_1 rfl ?_
  refine r_aload_n dX4_storm_2 rfl ?_
  refine r_callVx lX4_428 (c_allSacks hm) (hl.1) rfl rfl rfl rfl dX4_storm_3 (Nat.le_refl _) (Nat.le_refl _) ?_
  refine r_callVi lX4_431 (c_saidBy hm hT hth _) (hl.1) rfl rfl rfl rfl dX4_storm_6 (Nat.le_refl _) (Nat.le_refl _) (fun y9 h9 q9 => ?_)
  obtain ⟨rfl, f9⟩ := q9
  have hm9 := hm.fr f9 rfl
  have hT9 := hT.fr f9 (by decide)
  have hl9 := hm9.lay
  refine r_callVx lX4_348 (c_heatOf hm9 _) (hl9.1) rfl rfl rfl rfl dX4_storm_9 (Nat.le_refl _) (Nat.le_refl _) ?_
  exact r_reti dX4_storm_12 rfl (rfl) (Nat.le_refl _) (Nat.le_refl _) (⟨rfl, f9⟩)
