/-! ===== THE REFERENCE: tests, sets (walks by program) ===== -/
set_option maxRecDepth 100000

theorem c_isPerson {G : ev_G} {b : Bk} {k : Nat} {h : ev_H} (hm : MB b k h) (p : Int32) : Called G mX4_isPerson 1 0 0 [vR aM, vI p] h (px (vI (b2i (perV b p))) h) := by
  have hl := hm.lay
  have hk2 := hm.k2
  have hb := hm.bw
  have hb1 := hb.p6
  have hb2 := hb.s5
  have hb3 := hb.t10
  refine called_of rfl [some (vR aM), some (vI p)] rfl (Nat.le_of_ble_eq_true rfl) ?_
  refine r_iload_n dX4_isPerson_0 rfl ?_
  refine r_iconst (v := 0) dX4_isPerson_1 (by decide) ?_
  refine r_aload_n dX4_isPerson_2 rfl ?_
  refine r_callVx lX4_358 (c_folk hm) (hl.1) rfl rfl rfl rfl dX4_isPerson_3 (Nat.le_refl _) (Nat.le_refl _) ?_
  refine r_iconst (v := 1) dX4_isPerson_6 (by decide) ?_
  refine r_isub dX4_isPerson_7 ?_
  refine r_callSx lX4_361 (c_isIn _ _ _) rfl rfl rfl rfl dX4_isPerson_8 (Nat.le_refl _) (Nat.le_refl _) ?_
  exact r_retB dX4_isPerson_11 rfl (rfl)

theorem c_isSack {G : ev_G} {b : Bk} {k : Nat} {h : ev_H} (hm : MB b k h) (p : Int32) : Called G mX4_isSack 1 0 0 [vR aM, vI p] h (px (vI (b2i (sakV b p))) h) := by
  have hl := hm.lay
  have hk2 := hm.k2
  have hb := hm.bw
  have hb1 := hb.p6
  have hb2 := hb.s5
  have hb3 := hb.t10
  refine called_of rfl [some (vR aM), some (vI p)] rfl (Nat.le_of_ble_eq_true rfl) ?_
  refine r_iload_n dX4_isSack_0 rfl ?_
  refine r_iconst (v := 0) dX4_isSack_1 (by decide) ?_
  refine r_aload_n dX4_isSack_2 rfl ?_
  refine r_callVx lX4_365 (c_bags hm) (hl.1) rfl rfl rfl rfl dX4_isSack_3 (Nat.le_refl _) (Nat.le_refl _) ?_
  refine r_iconst (v := 1) dX4_isSack_6 (by decide) ?_
  refine r_isub dX4_isSack_7 ?_
  refine r_callSx lX4_361 (c_isIn _ _ _) rfl rfl rfl rfl dX4_isSack_8 (Nat.le_refl _) (Nat.le_refl _) ?_
  exact r_retB dX4_isSack_11 rfl (rfl)

theorem c_isThing {G : ev_G} {b : Bk} {k : Nat} {h : ev_H} (hm : MB b k h) (p : Int32) : Called G mX4_isThing 1 0 0 [vR aM, vI p] h (px (vI (b2i (thiV b p))) h) := by
  have hl := hm.lay
  have hk2 := hm.k2
  have hb := hm.bw
  have hb1 := hb.p6
  have hb2 := hb.s5
  have hb3 := hb.t10
  refine called_of rfl [some (vR aM), some (vI p)] rfl (Nat.le_of_ble_eq_true rfl) ?_
  refine r_iload_n dX4_isThing_0 rfl ?_
  refine r_iconst (v := 0) dX4_isThing_1 (by decide) ?_
  refine r_aload_n dX4_isThing_2 rfl ?_
  refine r_callVx lX4_368 (c_many hm) (hl.1) rfl rfl rfl rfl dX4_isThing_3 (Nat.le_refl _) (Nat.le_refl _) ?_
  refine r_iconst (v := 1) dX4_isThing_6 (by decide) ?_
  refine r_isub dX4_isThing_7 ?_
  refine r_callSx lX4_361 (c_isIn _ _ _) rfl rfl rfl rfl dX4_isThing_8 (Nat.le_refl _) (Nat.le_refl _) ?_
  exact r_retB dX4_isThing_11 rfl (rfl)

theorem c_isStill {G : ev_G} {b : Bk} {k : Nat} {h : ev_H} (hm : MB b k h) {T : Nat → Int32} (hT : MT T h) {t : Nat} : Called G mX4_isStill 1 0 0 [vR aM, vI (nI t)] h (px (vI (b2i (stV T t))) h) := by
  have hl := hm.lay
  have hk2 := hm.k2
  have hb := hm.bw
  have hb1 := hb.p6
  have hb2 := hb.s5
  have hb3 := hb.t10
  refine called_of rfl [some (vR aM), some (vI (nI t))] rfl (Nat.le_of_ble_eq_true rfl) ?_
  refine r_aload_n dX4_isStill_0 rfl ?_
  refine r_getRv fX4_88 (hl.1) (v := aAll) ((l_all hl).1) rfl dX4_isStill_1 ?_
  refine r_iconst (v := nI 1) dX4_isStill_4 (by decide) ?_
  refine r_ialdv ((l_all hl).2.1) ((l_all hl).2.2) (ix_n (by omega) (by decide)) (v := T (1)) (hT _ (by omega)) dX4_isStill_5 ?_
  refine r_iload_n dX4_isStill_6 rfl ?_
  refine r_callSx lX4_259 (c_bitN _ _) rfl rfl rfl rfl dX4_isStill_7 (Nat.le_refl _) (Nat.le_refl _) ?_
  refine r_ifB_ne (tgt := 17) dX4_isStill_10 rfl (fun c1 => ?_) (fun c1 => ?_)
  · --
    refine r_iconst (v := nI 0) dX4_isStill_17 (by decide) ?_
    exact r_ret0 dX4_isStill_18 rfl (by simp [stV, *])
  · --
    refine r_iconst (v := nI 1) dX4_isStill_13 (by decide) ?_
    refine r_goto (tgt := 18) dX4_isStill_14 rfl ?_
    exact r_ret1 dX4_isStill_18 rfl (by simp [stV, *])

theorem c_inOf {G : ev_G} {b : Bk} {k : Nat} {h : ev_H} (hm : MB b k h) {T : Nat → Int32} (hT : MT T h) (s : Int32) : Called G mX4_inOf 2 0 0 [vR aM, vI s] h (px (vI (inV b T s)) h) := by
  have hl := hm.lay
  have hk2 := hm.k2
  have hb := hm.bw
  have hb1 := hb.p6
  have hb2 := hb.s5
  have hb3 := hb.t10
  refine called_of rfl [some (vR aM), some (vI s), none, none] rfl (Nat.le_of_ble_eq_true rfl) ?_
  refine r_iconst (v := nI 0) dX4_inOf_0 (by decide) ?_
  refine r_istore_n dX4_inOf_1 (by decide) rfl ?_
  refine r_iconst (v := nI 0) dX4_inOf_2 (by decide) ?_
  refine r_istore_n dX4_inOf_3 (by decide) rfl ?_
  refine (ev_for (P := fun i => Ev G mX4_inOf (ev_room 2 0 0) (ev_MQ G (px (vI (inV b T s)) h) 0 0) 4 [some (vR aM), some (vI s), some (vI (setOf i (fun t => stV T t && decide (T (2 + t) = s)))), some (vI (nI i))] [] h 0 0) (nT b) (fun i hki ihi => ?_)) 0 (Nat.zero_le _)
  refine r_iload_n dX4_inOf_4 rfl ?_
  refine r_aload_n dX4_inOf_5 rfl ?_
  refine r_callVx lX4_368 (c_many hm) (hl.1) rfl rfl rfl rfl dX4_inOf_6 (Nat.le_refl _) (Nat.le_refl _) ?_
  refine r_icmpN_ge (tgt := 44) dX4_inOf_9 rfl (by omega) (by omega) (fun c1 => ?_) (fun c1 => ?_)
  · --
    refine r_iload_n dX4_inOf_44 rfl ?_
    exact r_retx dX4_inOf_45 rfl rfl (congrArg (fun n => setOf n _) (by omega))
  · --
    refine r_aload_n dX4_inOf_12 rfl ?_
    refine r_iload_n dX4_inOf_13 rfl ?_
    refine r_callVx lX4_386 (c_isStill hm hT (t := i)) (hl.1) rfl rfl rfl rfl dX4_inOf_14 (Nat.le_refl _) (Nat.le_refl _) ?_
    refine r_ifB_eq (tgt := 38) dX4_inOf_17 rfl (fun c2 => ?_) (fun c2 => ?_)
    · --
      refine r_iincN (n := 1) dX4_inOf_38 rfl rfl (by decide) rfl ?_
      refine r_goto (tgt := 4) dX4_inOf_41 rfl ?_
      exact r_L (by rw [← setOf_f (by simp [*])]; rfl) (ihi (by omega))
    · --
      refine r_aload_n dX4_inOf_20 rfl ?_
      refine r_getRv fX4_88 (hl.1) (v := aAll) ((l_all hl).1) rfl dX4_inOf_21 ?_
      refine r_iconst (v := nI 2) dX4_inOf_24 (by decide) ?_
      refine r_iload_n dX4_inOf_25 rfl ?_
      refine r_iadd dX4_inOf_26 ?_
      refine r_top (nI (2 + i)) (nI_add _ _) ?_
      refine r_ialdv ((l_all hl).2.1) ((l_all hl).2.2) (ix_n (by omega) (by decide)) (v := T (2 + i)) (hT _ (by omega)) dX4_inOf_27 ?_
      refine r_iload_n dX4_inOf_28 rfl ?_
      refine r_icmp_ne (tgt := 38) dX4_inOf_29 rfl (fun c3 => ?_) (fun c3 => ?_)
      · --
        refine r_iincN (n := 1) dX4_inOf_38 rfl rfl (by decide) rfl ?_
        refine r_goto (tgt := 4) dX4_inOf_41 rfl ?_
        exact r_L (by rw [← setOf_f (by simp [*])]; rfl) (ihi (by omega))
      · --
        refine r_iload_n dX4_inOf_32 rfl ?_
        refine r_iconst (v := nI 1) dX4_inOf_33 (by decide) ?_
        refine r_iload_n dX4_inOf_34 rfl ?_
        refine r_ishl dX4_inOf_35 ?_
        refine r_top (one i) rfl ?_
        refine r_ior dX4_inOf_36 ?_
        refine r_istore_n dX4_inOf_37 (by decide) rfl ?_
        refine r_iincN (n := 1) dX4_inOf_38 rfl rfl (by decide) rfl ?_
        refine r_goto (tgt := 4) dX4_inOf_41 rfl ?_
        exact r_L (by rw [← setOf_t (by simp [*])]; rfl) (ihi (by omega))

theorem c_heatOf {G : ev_G} {b : Bk} {k : Nat} {h : ev_H} (hm : MB b k h) (set : Int32) : Called G mX4_heatOf 1 0 0 [vR aM, vI set] h (px (vI (heatV b set)) h) := by
  have hl := hm.lay
  have hk2 := hm.k2
  have hb := hm.bw
  have hb1 := hb.p6
  have hb2 := hb.s5
  have hb3 := hb.t10
  refine called_of rfl [some (vR aM), some (vI set), none, none] rfl (Nat.le_of_ble_eq_true rfl) ?_
  refine r_iconst (v := nI 0) dX4_heatOf_0 (by decide) ?_
  refine r_istore_n dX4_heatOf_1 (by decide) rfl ?_
  refine r_iconst (v := nI 0) dX4_heatOf_2 (by decide) ?_
  refine r_istore_n dX4_heatOf_3 (by decide) rfl ?_
  refine (ev_for (P := fun i => Ev G mX4_heatOf (ev_room 1 0 0) (ev_MQ G (px (vI (heatV b set)) h) 0 0) 4 [some (vR aM), some (vI set), some (vI (sumOf i (fun t => if tb set t then nI (bHo b t) else 0))), some (vI (nI i))] [] h 0 0) (nT b) (fun i hki ihi => ?_)) 0 (Nat.zero_le _)
  refine r_iload_n dX4_heatOf_4 rfl ?_
  refine r_aload_n dX4_heatOf_5 rfl ?_
  refine r_callVx lX4_368 (c_many hm) (hl.1) rfl rfl rfl rfl dX4_heatOf_6 (Nat.le_refl _) (Nat.le_refl _) ?_
  refine r_icmpN_ge (tgt := 38) dX4_heatOf_9 rfl (by omega) (by omega) (fun c1 => ?_) (fun c1 => ?_)
  · --
    refine r_iload_n dX4_heatOf_38 rfl ?_
    exact r_retx dX4_heatOf_39 rfl rfl (congrArg (fun n => sumOf n _) (by omega))
  · --
    refine r_iload_n dX4_heatOf_12 rfl ?_
    refine r_iload_n dX4_heatOf_13 rfl ?_
    refine r_iload_n dX4_heatOf_14 rfl ?_
    refine r_callSx lX4_259 (c_bitN _ _) rfl rfl rfl rfl dX4_heatOf_15 (Nat.le_refl _) (Nat.le_refl _) ?_
    refine r_ifB_eq (tgt := 29) dX4_heatOf_18 rfl (fun c2 => ?_) (fun c2 => ?_)
    · --
      refine r_iconst (v := nI 0) dX4_heatOf_29 (by decide) ?_
      refine r_iadd dX4_heatOf_30 ?_
      refine r_istore_n dX4_heatOf_31 (by decide) rfl ?_
      refine r_iincN (n := 1) dX4_heatOf_32 rfl rfl (by decide) rfl ?_
      refine r_goto (tgt := 4) dX4_heatOf_35 rfl ?_
      exact r_L (by rw [sumOf_e (by simp [*, nI_0])]; rfl) (ihi (by omega))
    · --
      refine r_aload_n dX4_heatOf_21 rfl ?_
      refine r_iload_n dX4_heatOf_22 rfl ?_
      refine r_callVx lX4_333 (c_hotOf hm (t := i) (by omega)) (hl.1) rfl rfl rfl rfl dX4_heatOf_23 (Nat.le_refl _) (Nat.le_refl _) ?_
      refine r_goto (tgt := 30) dX4_heatOf_26 rfl ?_
      refine r_iadd dX4_heatOf_30 ?_
      refine r_istore_n dX4_heatOf_31 (by decide) rfl ?_
      refine r_iincN (n := 1) dX4_heatOf_32 rfl rfl (by decide) rfl ?_
      refine r_goto (tgt := 4) dX4_heatOf_35 rfl ?_
      exact r_L (by rw [sumOf_e (by simp [*, nI_0])]; rfl) (ihi (by omega))

theorem c_keptNow {G : ev_G} {b : Bk} {k : Nat} {h : ev_H} (hm : MB b k h) {T : Nat → Int32} (hT : MT T h) : Called G mX4_keptNow 1 0 0 [vR aM] h (px (vI (keptV b T)) h) := by
  have hl := hm.lay
  have hk2 := hm.k2
  have hb := hm.bw
  have hb1 := hb.p6
  have hb2 := hb.s5
  have hb3 := hb.t10
  refine called_of rfl [some (vR aM)] rfl (Nat.le_of_ble_eq_true rfl) ?_
  refine r_iconst (v := nI 1) dX4_keptNow_0 (by decide) ?_
  refine r_aload_n dX4_keptNow_1 rfl ?_
  refine r_callVx lX4_368 (c_many hm) (hl.1) rfl rfl rfl rfl dX4_keptNow_2 (Nat.le_refl _) (Nat.le_refl _) ?_
  refine r_ishl dX4_keptNow_5 ?_
  refine r_top (one (nT b)) rfl ?_
  refine r_iconst (v := 1) dX4_keptNow_6 (by decide) ?_
  refine r_isub dX4_keptNow_7 ?_
  refine r_aload_n dX4_keptNow_8 rfl ?_
  refine r_getRv fX4_88 (hl.1) (v := aAll) ((l_all hl).1) rfl dX4_keptNow_9 ?_
  refine r_iconst (v := nI 1) dX4_keptNow_12 (by decide) ?_
  refine r_ialdv ((l_all hl).2.1) ((l_all hl).2.2) (ix_n (by omega) (by decide)) (v := T (1)) (hT _ (by omega)) dX4_keptNow_13 ?_
  refine r_iconst (v := (-1)) dX4_keptNow_14 (by decide) ?_
  refine r_ixor dX4_keptNow_15 ?_
  refine r_iand dX4_keptNow_16 ?_
  exact r_retx dX4_keptNow_17 rfl rfl (rfl)

theorem c_allSacks {G : ev_G} {b : Bk} {k : Nat} {h : ev_H} (hm : MB b k h) : Called G mX4_allSacks 1 0 0 [vR aM] h (px (vI (allV (nS b))) h) := by
  have hl := hm.lay
  have hk2 := hm.k2
  have hb := hm.bw
  have hb1 := hb.p6
  have hb2 := hb.s5
  have hb3 := hb.t10
  refine called_of rfl [some (vR aM)] rfl (Nat.le_of_ble_eq_true rfl) ?_
  refine r_iconst (v := nI 1) dX4_allSacks_0 (by decide) ?_
  refine r_aload_n dX4_allSacks_1 rfl ?_
  refine r_callVx lX4_365 (c_bags hm) (hl.1) rfl rfl rfl rfl dX4_allSacks_2 (Nat.le_refl _) (Nat.le_refl _) ?_
  refine r_ishl dX4_allSacks_5 ?_
  refine r_top (one (nS b)) rfl ?_
  refine r_iconst (v := 1) dX4_allSacks_6 (by decide) ?_
  refine r_isub dX4_allSacks_7 ?_
  exact r_retx dX4_allSacks_8 rfl rfl (rfl)

theorem c_doBothSit {G : ev_G} {b : Bk} {k : Nat} {h : ev_H} (hm : MB b k h) {T : Nat → Int32} (hT : MT T h) {t : Nat} (ht : t < nT b) : Called G mX4_doBothSit 1 0 0 [vR aM, vI (nI t)] h (px (vI (b2i (nearV b T t))) h) := by
  have hl := hm.lay
  have hk2 := hm.k2
  have hb := hm.bw
  have hb1 := hb.p6
  have hb2 := hb.s5
  have hb3 := hb.t10
  refine called_of rfl [some (vR aM), some (vI (nI t))] rfl (Nat.le_of_ble_eq_true rfl) ?_
  refine r_aload_n dX4_doBothSit_0 rfl ?_
  refine r_getRv fX4_88 (hl.1) (v := aAll) ((l_all hl).1) rfl dX4_doBothSit_1 ?_
  refine r_iconst (v := nI 0) dX4_doBothSit_4 (by decide) ?_
  refine r_ialdv ((l_all hl).2.1) ((l_all hl).2.2) (ix_n (by omega) (by decide)) (v := T (0)) (hT _ (by omega)) dX4_doBothSit_5 ?_
  refine r_aload_n dX4_doBothSit_6 rfl ?_
  refine r_iload_n dX4_doBothSit_7 rfl ?_
  refine r_callVx lX4_389 (c_fromOf hm (t := t) (by omega)) (hl.1) rfl rfl rfl rfl dX4_doBothSit_8 (Nat.le_refl _) (Nat.le_refl _) ?_
  refine r_callSx lX4_259 (c_bitN _ _) rfl rfl rfl rfl dX4_doBothSit_11 (Nat.le_refl _) (Nat.le_refl _) ?_
  refine r_ifB_eq (tgt := 38) dX4_doBothSit_14 rfl (fun c1 => ?_) (fun c1 => ?_)
  · --
    refine r_iconst (v := nI 0) dX4_doBothSit_38 (by decide) ?_
    exact r_ret0 dX4_doBothSit_39 rfl (by simp [nearV, *])
  · --
    refine r_aload_n dX4_doBothSit_17 rfl ?_
    refine r_getRv fX4_88 (hl.1) (v := aAll) ((l_all hl).1) rfl dX4_doBothSit_18 ?_
    refine r_iconst (v := nI 0) dX4_doBothSit_21 (by decide) ?_
    refine r_ialdv ((l_all hl).2.1) ((l_all hl).2.2) (ix_n (by omega) (by decide)) (v := T (0)) (hT _ (by omega)) dX4_doBothSit_22 ?_
    refine r_aload_n dX4_doBothSit_23 rfl ?_
    refine r_iload_n dX4_doBothSit_24 rfl ?_
    refine r_callVx lX4_392 (c_whomOf hm (t := t) (by omega)) (hl.1) rfl rfl rfl rfl dX4_doBothSit_25 (Nat.le_refl _) (Nat.le_refl _) ?_
    refine r_callSx lX4_259 (c_bitN _ _) rfl rfl rfl rfl dX4_doBothSit_28 (Nat.le_refl _) (Nat.le_refl _) ?_
    refine r_ifB_eq (tgt := 38) dX4_doBothSit_31 rfl (fun c2 => ?_) (fun c2 => ?_)
    · --
      refine r_iconst (v := nI 0) dX4_doBothSit_38 (by decide) ?_
      exact r_ret0 dX4_doBothSit_39 rfl (by simp [nearV, *])
    · --
      refine r_iconst (v := nI 1) dX4_doBothSit_34 (by decide) ?_
      refine r_goto (tgt := 39) dX4_doBothSit_35 rfl ?_
      exact r_ret1 dX4_doBothSit_39 rfl (by simp [nearV, *])
