/-! ===== THE REFERENCE: what it holds, small sets (walks by program) ===== -/
set_option maxRecDepth 100000

theorem c_many {G : ev_G} {b : Bk} {k : Nat} {h : ev_H} (hm : MB b k h) : Called G mX4_many 0 0 0 [vR aM] h (px (vI (nI (nT b))) h) := by
  have hl := hm.lay
  have hk2 := hm.k2
  have hb := hm.bw
  have hb1 := hb.p6
  have hb2 := hb.s5
  have hb3 := hb.t10
  refine called_of rfl [some (vR aM)] rfl (Nat.le_of_ble_eq_true rfl) ?_
  refine r_aload_n dX4_many_0 rfl ?_
  refine r_getRv fX4_27 (hl.1) (v := aThings) ((l_things hl).1) rfl dX4_many_1 ?_
  refine r_aload_n dX4_many_4 rfl ?_
  refine r_getIv fX4_253 (hl.1) (v := nI k) (hm.bank) rfl dX4_many_5 ?_
  refine r_ialdv ((l_things hl).2.1) ((l_things hl).2.2) (ix_n (by omega) (by decide)) (v := nI (nT b)) (hm.things) dX4_many_8 ?_
  exact r_retx dX4_many_9 rfl rfl (rfl)

theorem c_folk {G : ev_G} {b : Bk} {k : Nat} {h : ev_H} (hm : MB b k h) : Called G mX4_folk 0 0 0 [vR aM] h (px (vI (nI (nP b))) h) := by
  have hl := hm.lay
  have hk2 := hm.k2
  have hb := hm.bw
  have hb1 := hb.p6
  have hb2 := hb.s5
  have hb3 := hb.t10
  refine called_of rfl [some (vR aM)] rfl (Nat.le_of_ble_eq_true rfl) ?_
  refine r_aload_n dX4_folk_0 rfl ?_
  refine r_getRv fX4_20 (hl.1) (v := aPeople) ((l_people hl).1) rfl dX4_folk_1 ?_
  refine r_aload_n dX4_folk_4 rfl ?_
  refine r_getIv fX4_253 (hl.1) (v := nI k) (hm.bank) rfl dX4_folk_5 ?_
  refine r_ialdv ((l_people hl).2.1) ((l_people hl).2.2) (ix_n (by omega) (by decide)) (v := nI (nP b)) (hm.people) dX4_folk_8 ?_
  exact r_retx dX4_folk_9 rfl rfl (rfl)

theorem c_bags {G : ev_G} {b : Bk} {k : Nat} {h : ev_H} (hm : MB b k h) : Called G mX4_bags 0 0 0 [vR aM] h (px (vI (nI (nS b))) h) := by
  have hl := hm.lay
  have hk2 := hm.k2
  have hb := hm.bw
  have hb1 := hb.p6
  have hb2 := hb.s5
  have hb3 := hb.t10
  refine called_of rfl [some (vR aM)] rfl (Nat.le_of_ble_eq_true rfl) ?_
  refine r_aload_n dX4_bags_0 rfl ?_
  refine r_getRv fX4_24 (hl.1) (v := aSacks) ((l_sacks hl).1) rfl dX4_bags_1 ?_
  refine r_aload_n dX4_bags_4 rfl ?_
  refine r_getIv fX4_253 (hl.1) (v := nI k) (hm.bank) rfl dX4_bags_5 ?_
  refine r_ialdv ((l_sacks hl).2.1) ((l_sacks hl).2.2) (ix_n (by omega) (by decide)) (v := nI (nS b)) (hm.sacks) dX4_bags_8 ?_
  exact r_retx dX4_bags_9 rfl rfl (rfl)

theorem c_bit {G : ev_G} {h : ev_H} (x y : Int32) : Called G mX4_bit 0 0 0 [vI x, vI y] h (px (vI (b2i (tbI x y))) h) := by
  refine called_of rfl [some (vI x), some (vI y)] rfl (Nat.le_of_ble_eq_true rfl) ?_
  refine r_iload_n dX4_bit_0 rfl ?_
  refine r_iload_n dX4_bit_1 rfl ?_
  refine r_ishr dX4_bit_2 ?_
  refine r_iconst (v := 1) dX4_bit_3 (by decide) ?_
  refine r_iand dX4_bit_4 ?_
  refine r_iconst (v := 1) dX4_bit_5 (by decide) ?_
  refine r_icmp_ne (tgt := 13) dX4_bit_6 rfl (fun c1 => ?_) (fun c1 => ?_)
  · --
    refine r_iconst (v := nI 0) dX4_bit_13 (by decide) ?_
    exact r_ret0 dX4_bit_14 rfl (by simp [tbI, *])
  · --
    refine r_iconst (v := nI 1) dX4_bit_9 (by decide) ?_
    refine r_goto (tgt := 14) dX4_bit_10 rfl ?_
    exact r_ret1 dX4_bit_14 rfl (by simp [tbI, *])

theorem c_bitN {G : ev_G} {h : ev_H} (x : Int32) (y : Nat) : Called G mX4_bit 0 0 0 [vI x, vI (nI y)] h (px (vI (b2i (tb x y))) h) := c_bit x (nI y)

theorem c_fromOf {G : ev_G} {b : Bk} {k : Nat} {h : ev_H} (hm : MB b k h) {t : Nat} (ht : t < nT b) : Called G mX4_fromOf 0 0 0 [vR aM, vI (nI t)] h (px (vI (nI (bBy b t))) h) := by
  have hl := hm.lay
  have hk2 := hm.k2
  have hb := hm.bw
  have hb1 := hb.p6
  have hb2 := hb.s5
  have hb3 := hb.t10
  refine called_of rfl [some (vR aM), some (vI (nI t))] rfl (Nat.le_of_ble_eq_true rfl) ?_
  refine r_aload_n dX4_fromOf_0 rfl ?_
  refine r_getRv fX4_45 (hl.1) (v := aFrom) ((l_from hl).1) rfl dX4_fromOf_1 ?_
  refine r_bipush (v := nI 10) dX4_fromOf_4 (by decide) ?_
  refine r_aload_n dX4_fromOf_6 rfl ?_
  refine r_getIv fX4_253 (hl.1) (v := nI k) (hm.bank) rfl dX4_fromOf_7 ?_
  refine r_imul dX4_fromOf_10 ?_
  refine r_top (nI (10 * k)) (pk_mul _ _) ?_
  refine r_iload_n dX4_fromOf_11 rfl ?_
  refine r_iadd dX4_fromOf_12 ?_
  refine r_top (nI (10 * k + t)) (nI_add _ _) ?_
  refine r_ialdv ((l_from hl).2.1) ((l_from hl).2.2) (ix_n (by omega) (by decide)) (v := nI (bBy b t)) (hm.from (by omega)) dX4_fromOf_13 ?_
  exact r_retx dX4_fromOf_14 rfl rfl (rfl)

theorem c_whomOf {G : ev_G} {b : Bk} {k : Nat} {h : ev_H} (hm : MB b k h) {t : Nat} (ht : t < nT b) : Called G mX4_whomOf 0 0 0 [vR aM, vI (nI t)] h (px (vI (nI (bTo b t))) h) := by
  have hl := hm.lay
  have hk2 := hm.k2
  have hb := hm.bw
  have hb1 := hb.p6
  have hb2 := hb.s5
  have hb3 := hb.t10
  refine called_of rfl [some (vR aM), some (vI (nI t))] rfl (Nat.le_of_ble_eq_true rfl) ?_
  refine r_aload_n dX4_whomOf_0 rfl ?_
  refine r_getRv fX4_48 (hl.1) (v := aWhom) ((l_whom hl).1) rfl dX4_whomOf_1 ?_
  refine r_bipush (v := nI 10) dX4_whomOf_4 (by decide) ?_
  refine r_aload_n dX4_whomOf_6 rfl ?_
  refine r_getIv fX4_253 (hl.1) (v := nI k) (hm.bank) rfl dX4_whomOf_7 ?_
  refine r_imul dX4_whomOf_10 ?_
  refine r_top (nI (10 * k)) (pk_mul _ _) ?_
  refine r_iload_n dX4_whomOf_11 rfl ?_
  refine r_iadd dX4_whomOf_12 ?_
  refine r_top (nI (10 * k + t)) (nI_add _ _) ?_
  refine r_ialdv ((l_whom hl).2.1) ((l_whom hl).2.2) (ix_n (by omega) (by decide)) (v := nI (bTo b t)) (hm.whom (by omega)) dX4_whomOf_13 ?_
  exact r_retx dX4_whomOf_14 rfl rfl (rfl)

theorem c_hotOf {G : ev_G} {b : Bk} {k : Nat} {h : ev_H} (hm : MB b k h) {t : Nat} (ht : t < nT b) : Called G mX4_hotOf 0 0 0 [vR aM, vI (nI t)] h (px (vI (nI (bHo b t))) h) := by
  have hl := hm.lay
  have hk2 := hm.k2
  have hb := hm.bw
  have hb1 := hb.p6
  have hb2 := hb.s5
  have hb3 := hb.t10
  refine called_of rfl [some (vR aM), some (vI (nI t))] rfl (Nat.le_of_ble_eq_true rfl) ?_
  refine r_aload_n dX4_hotOf_0 rfl ?_
  refine r_getRv fX4_51 (hl.1) (v := aHot) ((l_hot hl).1) rfl dX4_hotOf_1 ?_
  refine r_bipush (v := nI 10) dX4_hotOf_4 (by decide) ?_
  refine r_aload_n dX4_hotOf_6 rfl ?_
  refine r_getIv fX4_253 (hl.1) (v := nI k) (hm.bank) rfl dX4_hotOf_7 ?_
  refine r_imul dX4_hotOf_10 ?_
  refine r_top (nI (10 * k)) (pk_mul _ _) ?_
  refine r_iload_n dX4_hotOf_11 rfl ?_
  refine r_iadd dX4_hotOf_12 ?_
  refine r_top (nI (10 * k + t)) (nI_add _ _) ?_
  refine r_ialdv ((l_hot hl).2.1) ((l_hot hl).2.2) (ix_n (by omega) (by decide)) (v := nI (bHo b t)) (hm.hot (by omega)) dX4_hotOf_13 ?_
  exact r_retx dX4_hotOf_14 rfl rfl (rfl)

theorem c_byOf {G : ev_G} {b : Bk} {k : Nat} {h : ev_H} (hm : MB b k h) (p : Int32) : Called G mX4_byOf 1 0 0 [vR aM, vI p] h (px (vI (byV b p)) h) := by
  have hl := hm.lay
  have hk2 := hm.k2
  have hb := hm.bw
  have hb1 := hb.p6
  have hb2 := hb.s5
  have hb3 := hb.t10
  refine called_of rfl [some (vR aM), some (vI p), none, none] rfl (Nat.le_of_ble_eq_true rfl) ?_
  refine r_iconst (v := nI 0) dX4_byOf_0 (by decide) ?_
  refine r_istore_n dX4_byOf_1 (by decide) rfl ?_
  refine r_iconst (v := nI 0) dX4_byOf_2 (by decide) ?_
  refine r_istore_n dX4_byOf_3 (by decide) rfl ?_
  refine (ev_for (P := fun i => Ev G mX4_byOf (ev_room 1 0 0) (ev_MQ G (px (vI (byV b p)) h) 0 0) 4 [some (vR aM), some (vI p), some (vI (setOf i (fun t => decide (nI (bBy b t) = p)))), some (vI (nI i))] [] h 0 0) (nT b) (fun i hki ihi => ?_)) 0 (Nat.zero_le _)
  refine r_iload_n dX4_byOf_4 rfl ?_
  refine r_aload_n dX4_byOf_5 rfl ?_
  refine r_callVx lX4_368 (c_many hm) (hl.1) rfl rfl rfl rfl dX4_byOf_6 (Nat.le_refl _) (Nat.le_refl _) ?_
  refine r_icmpN_ge (tgt := 33) dX4_byOf_9 rfl (by omega) (by omega) (fun c1 => ?_) (fun c1 => ?_)
  · --
    refine r_iload_n dX4_byOf_33 rfl ?_
    exact r_retx dX4_byOf_34 rfl rfl (congrArg (fun n => setOf n _) (by omega))
  · --
    refine r_aload_n dX4_byOf_12 rfl ?_
    refine r_iload_n dX4_byOf_13 rfl ?_
    refine r_callVx lX4_389 (c_fromOf hm (t := i) (by omega)) (hl.1) rfl rfl rfl rfl dX4_byOf_14 (Nat.le_refl _) (Nat.le_refl _) ?_
    refine r_iload_n dX4_byOf_17 rfl ?_
    refine r_icmp_ne (tgt := 27) dX4_byOf_18 rfl (fun c2 => ?_) (fun c2 => ?_)
    · --
      refine r_iincN (n := 1) dX4_byOf_27 rfl rfl (by decide) rfl ?_
      refine r_goto (tgt := 4) dX4_byOf_30 rfl ?_
      exact r_L (by rw [← setOf_f (by simp [*])]; rfl) (ihi (by omega))
    · --
      refine r_iload_n dX4_byOf_21 rfl ?_
      refine r_iconst (v := nI 1) dX4_byOf_22 (by decide) ?_
      refine r_iload_n dX4_byOf_23 rfl ?_
      refine r_ishl dX4_byOf_24 ?_
      refine r_top (one i) rfl ?_
      refine r_ior dX4_byOf_25 ?_
      refine r_istore_n dX4_byOf_26 (by decide) rfl ?_
      refine r_iincN (n := 1) dX4_byOf_27 rfl rfl (by decide) rfl ?_
      refine r_goto (tgt := 4) dX4_byOf_30 rfl ?_
      exact r_L (by rw [← setOf_t (by simp [*])]; rfl) (ihi (by omega))

theorem c_toOf {G : ev_G} {b : Bk} {k : Nat} {h : ev_H} (hm : MB b k h) (p : Int32) : Called G mX4_toOf 1 0 0 [vR aM, vI p] h (px (vI (toV b p)) h) := by
  have hl := hm.lay
  have hk2 := hm.k2
  have hb := hm.bw
  have hb1 := hb.p6
  have hb2 := hb.s5
  have hb3 := hb.t10
  refine called_of rfl [some (vR aM), some (vI p), none, none] rfl (Nat.le_of_ble_eq_true rfl) ?_
  refine r_iconst (v := nI 0) dX4_toOf_0 (by decide) ?_
  refine r_istore_n dX4_toOf_1 (by decide) rfl ?_
  refine r_iconst (v := nI 0) dX4_toOf_2 (by decide) ?_
  refine r_istore_n dX4_toOf_3 (by decide) rfl ?_
  refine (ev_for (P := fun i => Ev G mX4_toOf (ev_room 1 0 0) (ev_MQ G (px (vI (toV b p)) h) 0 0) 4 [some (vR aM), some (vI p), some (vI (setOf i (fun t => decide (nI (bTo b t) = p)))), some (vI (nI i))] [] h 0 0) (nT b) (fun i hki ihi => ?_)) 0 (Nat.zero_le _)
  refine r_iload_n dX4_toOf_4 rfl ?_
  refine r_aload_n dX4_toOf_5 rfl ?_
  refine r_callVx lX4_368 (c_many hm) (hl.1) rfl rfl rfl rfl dX4_toOf_6 (Nat.le_refl _) (Nat.le_refl _) ?_
  refine r_icmpN_ge (tgt := 33) dX4_toOf_9 rfl (by omega) (by omega) (fun c1 => ?_) (fun c1 => ?_)
  · --
    refine r_iload_n dX4_toOf_33 rfl ?_
    exact r_retx dX4_toOf_34 rfl rfl (congrArg (fun n => setOf n _) (by omega))
  · --
    refine r_aload_n dX4_toOf_12 rfl ?_
    refine r_iload_n dX4_toOf_13 rfl ?_
    refine r_callVx lX4_392 (c_whomOf hm (t := i) (by omega)) (hl.1) rfl rfl rfl rfl dX4_toOf_14 (Nat.le_refl _) (Nat.le_refl _) ?_
    refine r_iload_n dX4_toOf_17 rfl ?_
    refine r_icmp_ne (tgt := 27) dX4_toOf_18 rfl (fun c2 => ?_) (fun c2 => ?_)
    · --
      refine r_iincN (n := 1) dX4_toOf_27 rfl rfl (by decide) rfl ?_
      refine r_goto (tgt := 4) dX4_toOf_30 rfl ?_
      exact r_L (by rw [← setOf_f (by simp [*])]; rfl) (ihi (by omega))
    · --
      refine r_iload_n dX4_toOf_21 rfl ?_
      refine r_iconst (v := nI 1) dX4_toOf_22 (by decide) ?_
      refine r_iload_n dX4_toOf_23 rfl ?_
      refine r_ishl dX4_toOf_24 ?_
      refine r_top (one i) rfl ?_
      refine r_ior dX4_toOf_25 ?_
      refine r_istore_n dX4_toOf_26 (by decide) rfl ?_
      refine r_iincN (n := 1) dX4_toOf_27 rfl rfl (by decide) rfl ?_
      refine r_goto (tgt := 4) dX4_toOf_30 rfl ?_
      exact r_L (by rw [← setOf_t (by simp [*])]; rfl) (ihi (by omega))
