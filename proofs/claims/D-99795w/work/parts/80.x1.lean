/-! ===== THE SYSTEM: lists, the book, a table's small methods (walks by program) ===== -/
set_option maxRecDepth 100000
theorem or0 (x : Int32) : x ||| nI 0 = x := by rw [nI_0]; simp

theorem xJ4_checkIndex {G : ev_G} {h : ev_H} {i n : Nat} (hi : i < n) (hn : n < 2 ^ 31) : Called G mJ4_checkIndex 0 0 0 [vI (nI i), vI (nI n), vR 0] h (px (vI (nI i)) h) := by
  refine called_of rfl [some (vI (nI i)), some (vI (nI n)), some (vR 0)] rfl (Nat.le_of_ble_eq_true rfl) ?_
  refine r_iload_n dJ4_checkIndex_0 rfl ?_
  refine r_if_lt (tgt := 9) dJ4_checkIndex_1 rfl (fun c1 => ?_) (fun c1 => ?_)
  · --
    exact absurd c1 (nI_pos (by omega))
  · --
    refine r_iload_n dJ4_checkIndex_4 rfl ?_
    refine r_iload_n dJ4_checkIndex_5 rfl ?_
    refine r_icmpN_lt (tgt := 16) dJ4_checkIndex_6 rfl (by omega) (by omega) (fun c2 => ?_) (fun c2 => ?_)
    · --
      refine r_iload_n dJ4_checkIndex_16 rfl ?_
      exact r_retx dJ4_checkIndex_17 rfl rfl (rfl)
    · --
      exact absurd c2 (by omega)

theorem xJ3_checkIndex {G : ev_G} {h : ev_H} {i n : Nat} (hi : i < n) (hn : n < 2 ^ 31) : Called G mJ3_checkIndex 1 0 0 [vI (nI i), vI (nI n)] h (px (vI (nI i)) h) := by
  refine called_of rfl [some (vI (nI i)), some (vI (nI n))] rfl (Nat.le_of_ble_eq_true rfl) ?_
  refine r_iload_n dJ3_checkIndex_0 rfl ?_
  refine r_iload_n dJ3_checkIndex_1 rfl ?_
  refine r_null dJ3_checkIndex_2 ?_
  refine r_callSx lJ3_105 (xJ4_checkIndex hi hn) rfl rfl rfl rfl dJ3_checkIndex_3 (Nat.le_refl _) (Nat.le_refl _) ?_
  exact r_retx dJ3_checkIndex_6 rfl rfl (rfl)

theorem xJ2_size {G : ev_G} {h : ev_H} {l e n : Nat} (x : ALs l e n h) : Called G mJ2_size 0 0 0 [vR l] h (px (vI (nI n)) h) := by
  refine called_of rfl [some (vR l)] rfl (Nat.le_of_ble_eq_true rfl) ?_
  refine r_aload_n dJ2_size_0 rfl ?_
  refine r_getIv fJ2_48 (x.1) (v := nI n) (x.2.2.1) rfl dJ2_size_1 ?_
  exact r_retx dJ2_size_4 rfl rfl (rfl)

theorem xJ2_elementData {G : ev_G} {h : ev_H} {l e n : Nat} (x : ALs l e n h) {i v : Nat} (hi : i < n) (hv : hR h e i = v) : Called G mJ2_elementData 0 0 0 [vR l, vI (nI i)] h (px (vR v) h) := by
  have hx5 := x.2.2.2.2.1
  have hx6 := x.2.2.2.2.2
  refine called_of rfl [some (vR l), some (vI (nI i))] rfl (Nat.le_of_ble_eq_true rfl) ?_
  refine r_aload_n dJ2_elementData_0 rfl ?_
  refine r_getRv fJ2_9 (x.1) (v := e) (x.2.1) rfl dJ2_elementData_1 ?_
  refine r_iload_n dJ2_elementData_4 rfl ?_
  refine r_aaldv (t := 4) (x.2.2.2.1) (by decide) (rfl) (ix_n (by omega) (by omega)) (v := v) (hv) dJ2_elementData_5 ?_
  exact r_areturn dJ2_elementData_6 rfl (Or.inl ⟨_, rfl⟩) (Nat.le_refl _) (Nat.le_refl _) ⟨rfl, rfl⟩

theorem xJ2_get {G : ev_G} {h : ev_H} {l e n : Nat} (x : ALs l e n h) {i v : Nat} (hi : i < n) (hv : hR h e i = v) : Called G mJ2_get 2 0 0 [vR l, vI (nI i)] h (px (vR v) h) := by
  have hx5 := x.2.2.2.2.1
  have hx6 := x.2.2.2.2.2
  refine called_of rfl [some (vR l), some (vI (nI i))] rfl (Nat.le_of_ble_eq_true rfl) ?_
  refine r_iload_n dJ2_get_0 rfl ?_
  refine r_aload_n dJ2_get_1 rfl ?_
  refine r_getIv fJ2_48 (x.1) (v := nI n) (x.2.2.1) rfl dJ2_get_2 ?_
  refine r_callSx lJ2_118 (xJ3_checkIndex hi (by omega)) rfl rfl rfl rfl dJ2_get_5 (Nat.le_refl _) (Nat.le_refl _) ?_
  refine r_pop dJ2_get_8 rfl ?_
  refine r_aload_n dJ2_get_9 rfl ?_
  refine r_iload_n dJ2_get_10 rfl ?_
  refine r_callVx lJ2_123 (xJ2_elementData x hi hv) (x.1) rfl rfl rfl rfl dJ2_get_11 (Nat.le_refl _) (Nat.le_refl _) ?_
  exact r_areturn dJ2_get_14 rfl (Or.inl ⟨_, rfl⟩) (Nat.le_refl _) (Nat.le_refl _) ⟨rfl, rfl⟩

theorem x1_hot {G : ev_G} {b : Bk} {K : XK} {h : ev_H} (hb : XB b K h) {t : Nat} (ht : t < nT b) : Called G mX1_hot 3 0 0 [vR (kB K), vI (nI t)] h (px (vI (nI (bHo b t))) h) := by
  have hw := hb.bw
  have hb1 := hw.p6
  have hb2 := hw.s5
  have hb3 := hw.t10
  refine called_of rfl [some (vR (kB K)), some (vI (nI t))] rfl (Nat.le_of_ble_eq_true rfl) ?_
  refine r_aload_n dX1_hot_0 rfl ?_
  refine r_getRv fX1_21 (hb.k) (v := kTl K) (hb.tl) rfl dX1_hot_1 ?_
  refine r_iload_n dX1_hot_4 rfl ?_
  refine r_callVx lX1_31 (xJ2_get hb.aT (i := t) (by omega) (hb.te (by omega)).1) (hb.aT.1) rfl rfl rfl rfl dX1_hot_5 (Nat.le_refl _) (Nat.le_refl _) ?_
  refine r_cast (ci := 9) q1131 ((hb.te (by omega)).2.1) (by decide) rfl (Or.inl rfl) dX1_hot_8 ?_
  refine r_getIv fX1_37 ((hb.te (by omega)).2.1) (v := nI (bHo b t)) ((hb.te (by omega)).2.2.2.2.1) rfl dX1_hot_11 ?_
  exact r_retx dX1_hot_14 rfl rfl (rfl)

theorem x1_by {G : ev_G} {b : Bk} {K : XK} {h : ev_H} (hb : XB b K h) {t : Nat} (ht : t < nT b) : Called G mX1_by 3 0 0 [vR (kB K), vI (nI t)] h (px (vI (nI (bBy b t))) h) := by
  have hw := hb.bw
  have hb1 := hw.p6
  have hb2 := hw.s5
  have hb3 := hw.t10
  refine called_of rfl [some (vR (kB K)), some (vI (nI t))] rfl (Nat.le_of_ble_eq_true rfl) ?_
  refine r_aload_n dX1_by_0 rfl ?_
  refine r_getRv fX1_21 (hb.k) (v := kTl K) (hb.tl) rfl dX1_by_1 ?_
  refine r_iload_n dX1_by_4 rfl ?_
  refine r_callVx lX1_31 (xJ2_get hb.aT (i := t) (by omega) (hb.te (by omega)).1) (hb.aT.1) rfl rfl rfl rfl dX1_by_5 (Nat.le_refl _) (Nat.le_refl _) ?_
  refine r_cast (ci := 9) q1131 ((hb.te (by omega)).2.1) (by decide) rfl (Or.inl rfl) dX1_by_8 ?_
  refine r_getIv fX1_41 ((hb.te (by omega)).2.1) (v := nI (bBy b t)) ((hb.te (by omega)).2.2.1) rfl dX1_by_11 ?_
  exact r_retx dX1_by_14 rfl rfl (rfl)

theorem x1_to {G : ev_G} {b : Bk} {K : XK} {h : ev_H} (hb : XB b K h) {t : Nat} (ht : t < nT b) : Called G mX1_to 3 0 0 [vR (kB K), vI (nI t)] h (px (vI (nI (bTo b t))) h) := by
  have hw := hb.bw
  have hb1 := hw.p6
  have hb2 := hw.s5
  have hb3 := hw.t10
  refine called_of rfl [some (vR (kB K)), some (vI (nI t))] rfl (Nat.le_of_ble_eq_true rfl) ?_
  refine r_aload_n dX1_to_0 rfl ?_
  refine r_getRv fX1_21 (hb.k) (v := kTl K) (hb.tl) rfl dX1_to_1 ?_
  refine r_iload_n dX1_to_4 rfl ?_
  refine r_callVx lX1_31 (xJ2_get hb.aT (i := t) (by omega) (hb.te (by omega)).1) (hb.aT.1) rfl rfl rfl rfl dX1_to_5 (Nat.le_refl _) (Nat.le_refl _) ?_
  refine r_cast (ci := 9) q1131 ((hb.te (by omega)).2.1) (by decide) rfl (Or.inl rfl) dX1_to_8 ?_
  refine r_getIv fX1_44 ((hb.te (by omega)).2.1) (v := nI (bTo b t)) ((hb.te (by omega)).2.2.2.1) rfl dX1_to_11 ?_
  exact r_retx dX1_to_14 rfl rfl (rfl)

theorem x1_shy {G : ev_G} {b : Bk} {K : XK} {h : ev_H} (hb : XB b K h) {t : Nat} (ht : t < nT b) : Called G mX1_shy 4 0 0 [vR (kB K), vI (nI t)] h (px (vI (nI (bSh b (bBy b t)))) h) := by
  have hw := hb.bw
  have hb1 := hw.p6
  have hb2 := hw.s5
  have hb3 := hw.t10
  refine called_of rfl [some (vR (kB K)), some (vI (nI t))] rfl (Nat.le_of_ble_eq_true rfl) ?_
  refine r_aload_n dX1_shy_0 rfl ?_
  refine r_getRv fX1_12 (hb.k) (v := kPl K) (hb.pl) rfl dX1_shy_1 ?_
  refine r_aload_n dX1_shy_4 rfl ?_
  refine r_iload_n dX1_shy_5 rfl ?_
  refine r_callVx lX1_47 (x1_by hb (t := t) (by omega)) (hb.k) rfl rfl rfl rfl dX1_shy_6 (Nat.le_refl _) (Nat.le_refl _) ?_
  refine r_callVx lX1_31 (xJ2_get hb.aP (i := bBy b t) (hw.by ht) (hb.pe (hw.by ht)).1) (hb.aP.1) rfl rfl rfl rfl dX1_shy_9 (Nat.le_refl _) (Nat.le_refl _) ?_
  refine r_cast (ci := 7) q1220 ((hb.pe (hw.by ht)).2.1) (by decide) rfl (Or.inl rfl) dX1_shy_12 ?_
  refine r_getIv fX1_52 ((hb.pe (hw.by ht)).2.1) (v := nI (bSh b (bBy b t))) ((hb.pe (hw.by ht)).2.2) rfl dX1_shy_15 ?_
  exact r_retx dX1_shy_18 rfl rfl (rfl)

theorem x1_all {G : ev_G} {b : Bk} {K : XK} {h : ev_H} (hb : XB b K h) : Called G mX1_all 1 0 0 [vR (kB K)] h (px (vI (allV (nT b))) h) := by
  have hw := hb.bw
  have hb1 := hw.p6
  have hb2 := hw.s5
  have hb3 := hw.t10
  refine called_of rfl [some (vR (kB K))] rfl (Nat.le_of_ble_eq_true rfl) ?_
  refine r_iconst (v := nI 1) dX1_all_0 (by decide) ?_
  refine r_aload_n dX1_all_1 rfl ?_
  refine r_getRv fX1_21 (hb.k) (v := kTl K) (hb.tl) rfl dX1_all_2 ?_
  refine r_callVx lX1_55 (xJ2_size hb.aT) (hb.aT.1) rfl rfl rfl rfl dX1_all_5 (Nat.le_refl _) (Nat.le_refl _) ?_
  refine r_ishl dX1_all_8 ?_
  refine r_top (one (nT b)) rfl ?_
  refine r_iconst (v := nI 1) dX1_all_9 (by decide) ?_
  refine r_isub dX1_all_10 ?_
  exact r_retx dX1_all_11 rfl rfl (rfl)

theorem x1_heat {G : ev_G} {b : Bk} {K : XK} {h : ev_H} (hb : XB b K h) (set : Int32) : Called G mX1_heat 4 0 0 [vR (kB K), vI set] h (px (vI (heatV b set)) h) := by
  have hw := hb.bw
  have hb1 := hw.p6
  have hb2 := hw.s5
  have hb3 := hw.t10
  refine called_of rfl [some (vR (kB K)), some (vI set), none, none] rfl (Nat.le_of_ble_eq_true rfl) ?_
  refine r_iconst (v := nI 0) dX1_heat_0 (by decide) ?_
  refine r_istore_n dX1_heat_1 (by decide) rfl ?_
  refine r_iconst (v := nI 0) dX1_heat_2 (by decide) ?_
  refine r_istore_n dX1_heat_3 (by decide) rfl ?_
  refine (ev_for (P := fun i => Ev G mX1_heat (ev_room 4 0 0) (ev_MQ G (px (vI (heatV b set)) h) 0 0) 4 [some (vR (kB K)), some (vI set), some (vI (sumOf i (fun t => if tb set t then nI (bHo b t) else 0))), some (vI (nI i))] [] h 0 0) (nT b) (fun i hki ihi => ?_)) 0 (Nat.zero_le _)
  refine r_iload_n dX1_heat_4 rfl ?_
  refine r_aload_n dX1_heat_5 rfl ?_
  refine r_getRv fX1_21 (hb.k) (v := kTl K) (hb.tl) rfl dX1_heat_6 ?_
  refine r_callVx lX1_55 (xJ2_size hb.aT) (hb.aT.1) rfl rfl rfl rfl dX1_heat_9 (Nat.le_refl _) (Nat.le_refl _) ?_
  refine r_icmpN_ge (tgt := 42) dX1_heat_12 rfl (by omega) (by omega) (fun c1 => ?_) (fun c1 => ?_)
  · --
    refine r_iload_n dX1_heat_42 rfl ?_
    exact r_retx dX1_heat_43 rfl rfl (congrArg (fun n => sumOf n _) (by omega))
  · --
    refine r_iload_n dX1_heat_15 rfl ?_
    refine r_iload_n dX1_heat_16 rfl ?_
    refine r_iload_n dX1_heat_17 rfl ?_
    refine r_ishr dX1_heat_18 ?_
    refine r_iconst (v := 1) dX1_heat_19 (by decide) ?_
    refine r_iand dX1_heat_20 ?_
    refine r_iconst (v := 1) dX1_heat_21 (by decide) ?_
    refine r_icmp_ne (tgt := 33) dX1_heat_22 rfl (fun c2 => ?_) (fun c2 => ?_)
    · --
      refine r_iconst (v := nI 0) dX1_heat_33 (by decide) ?_
      refine r_iadd dX1_heat_34 ?_
      refine r_istore_n dX1_heat_35 (by decide) rfl ?_
      refine r_iincN (n := 1) dX1_heat_36 rfl rfl (by decide) rfl ?_
      refine r_goto (tgt := 4) dX1_heat_39 rfl ?_
      exact r_L (by rw [← sumOf_e (f := fun t => if tb set t then nI (bHo b t) else 0) (y := (nI 0)) (by simp [tb, tbI, *, nI_0])]; rfl) (ihi (by omega))
    · --
      refine r_aload_n dX1_heat_25 rfl ?_
      refine r_iload_n dX1_heat_26 rfl ?_
      refine r_callVx lX1_59 (x1_hot hb (t := i) (by omega)) (hb.k) rfl rfl rfl rfl dX1_heat_27 (Nat.le_refl _) (Nat.le_refl _) ?_
      refine r_goto (tgt := 34) dX1_heat_30 rfl ?_
      refine r_iadd dX1_heat_34 ?_
      refine r_istore_n dX1_heat_35 (by decide) rfl ?_
      refine r_iincN (n := 1) dX1_heat_36 rfl rfl (by decide) rfl ?_
      refine r_goto (tgt := 4) dX1_heat_39 rfl ?_
      exact r_L (by rw [← sumOf_e (f := fun t => if tb set t then nI (bHo b t) else 0) (y := (nI (bHo b i))) (by simp [tb, tbI, *, nI_0])]; rfl) (ihi (by omega))

theorem x1_allBy {G : ev_G} {b : Bk} {K : XK} {h : ev_H} (hb : XB b K h) (p : Int32) : Called G mX1_allBy 4 0 0 [vR (kB K), vI p] h (px (vI (byV b p)) h) := by
  have hw := hb.bw
  have hb1 := hw.p6
  have hb2 := hw.s5
  have hb3 := hw.t10
  refine called_of rfl [some (vR (kB K)), some (vI p), none, none] rfl (Nat.le_of_ble_eq_true rfl) ?_
  refine r_iconst (v := nI 0) dX1_allBy_0 (by decide) ?_
  refine r_istore_n dX1_allBy_1 (by decide) rfl ?_
  refine r_iconst (v := nI 0) dX1_allBy_2 (by decide) ?_
  refine r_istore_n dX1_allBy_3 (by decide) rfl ?_
  refine (ev_for (P := fun i => Ev G mX1_allBy (ev_room 4 0 0) (ev_MQ G (px (vI (byV b p)) h) 0 0) 4 [some (vR (kB K)), some (vI p), some (vI (setOf i (fun t => decide (nI (bBy b t) = p)))), some (vI (nI i))] [] h 0 0) (nT b) (fun i hki ihi => ?_)) 0 (Nat.zero_le _)
  refine r_iload_n dX1_allBy_4 rfl ?_
  refine r_aload_n dX1_allBy_5 rfl ?_
  refine r_getRv fX1_21 (hb.k) (v := kTl K) (hb.tl) rfl dX1_allBy_6 ?_
  refine r_callVx lX1_55 (xJ2_size hb.aT) (hb.aT.1) rfl rfl rfl rfl dX1_allBy_9 (Nat.le_refl _) (Nat.le_refl _) ?_
  refine r_icmpN_ge (tgt := 40) dX1_allBy_12 rfl (by omega) (by omega) (fun c1 => ?_) (fun c1 => ?_)
  · --
    refine r_iload_n dX1_allBy_40 rfl ?_
    exact r_retx dX1_allBy_41 rfl rfl (congrArg (fun n => setOf n _) (by omega))
  · --
    refine r_iload_n dX1_allBy_15 rfl ?_
    refine r_aload_n dX1_allBy_16 rfl ?_
    refine r_iload_n dX1_allBy_17 rfl ?_
    refine r_callVx lX1_47 (x1_by hb (t := i) (by omega)) (hb.k) rfl rfl rfl rfl dX1_allBy_18 (Nat.le_refl _) (Nat.le_refl _) ?_
    refine r_iload_n dX1_allBy_21 rfl ?_
    refine r_icmp_ne (tgt := 31) dX1_allBy_22 rfl (fun c2 => ?_) (fun c2 => ?_)
    · --
      refine r_iconst (v := nI 0) dX1_allBy_31 (by decide) ?_
      refine r_ior dX1_allBy_32 ?_
      refine r_istore_n dX1_allBy_33 (by decide) rfl ?_
      refine r_iincN (n := 1) dX1_allBy_34 rfl rfl (by decide) rfl ?_
      refine r_goto (tgt := 4) dX1_allBy_37 rfl ?_
      exact r_L (by rw [← setOf_f (by simp [stV, *]), or0]; rfl) (ihi (by omega))
    · --
      refine r_iconst (v := nI 1) dX1_allBy_25 (by decide) ?_
      refine r_iload_n dX1_allBy_26 rfl ?_
      refine r_ishl dX1_allBy_27 ?_
      refine r_top (one i) rfl ?_
      refine r_goto (tgt := 32) dX1_allBy_28 rfl ?_
      refine r_ior dX1_allBy_32 ?_
      refine r_istore_n dX1_allBy_33 (by decide) rfl ?_
      refine r_iincN (n := 1) dX1_allBy_34 rfl rfl (by decide) rfl ?_
      refine r_goto (tgt := 4) dX1_allBy_37 rfl ?_
      exact r_L (by rw [← setOf_t (by simp [stV, *])]; rfl) (ihi (by omega))

theorem x1_allTo {G : ev_G} {b : Bk} {K : XK} {h : ev_H} (hb : XB b K h) (p : Int32) : Called G mX1_allTo 4 0 0 [vR (kB K), vI p] h (px (vI (toV b p)) h) := by
  have hw := hb.bw
  have hb1 := hw.p6
  have hb2 := hw.s5
  have hb3 := hw.t10
  refine called_of rfl [some (vR (kB K)), some (vI p), none, none] rfl (Nat.le_of_ble_eq_true rfl) ?_
  refine r_iconst (v := nI 0) dX1_allTo_0 (by decide) ?_
  refine r_istore_n dX1_allTo_1 (by decide) rfl ?_
  refine r_iconst (v := nI 0) dX1_allTo_2 (by decide) ?_
  refine r_istore_n dX1_allTo_3 (by decide) rfl ?_
  refine (ev_for (P := fun i => Ev G mX1_allTo (ev_room 4 0 0) (ev_MQ G (px (vI (toV b p)) h) 0 0) 4 [some (vR (kB K)), some (vI p), some (vI (setOf i (fun t => decide (nI (bTo b t) = p)))), some (vI (nI i))] [] h 0 0) (nT b) (fun i hki ihi => ?_)) 0 (Nat.zero_le _)
  refine r_iload_n dX1_allTo_4 rfl ?_
  refine r_aload_n dX1_allTo_5 rfl ?_
  refine r_getRv fX1_21 (hb.k) (v := kTl K) (hb.tl) rfl dX1_allTo_6 ?_
  refine r_callVx lX1_55 (xJ2_size hb.aT) (hb.aT.1) rfl rfl rfl rfl dX1_allTo_9 (Nat.le_refl _) (Nat.le_refl _) ?_
  refine r_icmpN_ge (tgt := 40) dX1_allTo_12 rfl (by omega) (by omega) (fun c1 => ?_) (fun c1 => ?_)
  · --
    refine r_iload_n dX1_allTo_40 rfl ?_
    exact r_retx dX1_allTo_41 rfl rfl (congrArg (fun n => setOf n _) (by omega))
  · --
    refine r_iload_n dX1_allTo_15 rfl ?_
    refine r_aload_n dX1_allTo_16 rfl ?_
    refine r_iload_n dX1_allTo_17 rfl ?_
    refine r_callVx lX1_61 (x1_to hb (t := i) (by omega)) (hb.k) rfl rfl rfl rfl dX1_allTo_18 (Nat.le_refl _) (Nat.le_refl _) ?_
    refine r_iload_n dX1_allTo_21 rfl ?_
    refine r_icmp_ne (tgt := 31) dX1_allTo_22 rfl (fun c2 => ?_) (fun c2 => ?_)
    · --
      refine r_iconst (v := nI 0) dX1_allTo_31 (by decide) ?_
      refine r_ior dX1_allTo_32 ?_
      refine r_istore_n dX1_allTo_33 (by decide) rfl ?_
      refine r_iincN (n := 1) dX1_allTo_34 rfl rfl (by decide) rfl ?_
      refine r_goto (tgt := 4) dX1_allTo_37 rfl ?_
      exact r_L (by rw [← setOf_f (by simp [stV, *]), or0]; rfl) (ihi (by omega))
    · --
      refine r_iconst (v := nI 1) dX1_allTo_25 (by decide) ?_
      refine r_iload_n dX1_allTo_26 rfl ?_
      refine r_ishl dX1_allTo_27 ?_
      refine r_top (one i) rfl ?_
      refine r_goto (tgt := 32) dX1_allTo_28 rfl ?_
      refine r_ior dX1_allTo_32 ?_
      refine r_istore_n dX1_allTo_33 (by decide) rfl ?_
      refine r_iincN (n := 1) dX1_allTo_34 rfl rfl (by decide) rfl ?_
      refine r_goto (tgt := 4) dX1_allTo_37 rfl ?_
      exact r_L (by rw [← setOf_t (by simp [stV, *])]; rfl) (ihi (by omega))

theorem x3_sits {G : ev_G} {h : ev_H} {t : Nat} {T : Nat → Int32} {sh : Int32} (hT : XT t T sh h) (p : Int32) : Called G mX3_sits 0 0 0 [vR t, vI p] h (px (vI (b2i (tbI (T 0) p))) h) := by
  refine called_of rfl [some (vR t), some (vI p)] rfl (Nat.le_of_ble_eq_true rfl) ?_
  refine r_aload_n dX3_sits_0 rfl ?_
  refine r_getIv fX3_42 (hT.k) (v := T 0) (hT.si) rfl dX3_sits_1 ?_
  refine r_iload_n dX3_sits_4 rfl ?_
  refine r_ishr dX3_sits_5 ?_
  refine r_iconst (v := 1) dX3_sits_6 (by decide) ?_
  refine r_iand dX3_sits_7 ?_
  refine r_iconst (v := 1) dX3_sits_8 (by decide) ?_
  refine r_icmp_ne (tgt := 16) dX3_sits_9 rfl (fun c1 => ?_) (fun c1 => ?_)
  · --
    refine r_iconst (v := nI 0) dX3_sits_16 (by decide) ?_
    exact r_ret0 dX3_sits_17 rfl (by simp [tbI, *])
  · --
    refine r_iconst (v := nI 1) dX3_sits_12 (by decide) ?_
    refine r_goto (tgt := 17) dX3_sits_13 rfl ?_
    exact r_ret1 dX3_sits_17 rfl (by simp [tbI, *])

theorem x3_sitsN {G : ev_G} {h : ev_H} {t : Nat} {T : Nat → Int32} {sh : Int32} (hT : XT t T sh h) (p : Nat) : Called G mX3_sits 0 0 0 [vR t, vI (nI p)] h (px (vI (b2i (tb (T 0) p))) h) := x3_sits hT (nI p)

theorem x3_isSaid {G : ev_G} {h : ev_H} {t : Nat} {T : Nat → Int32} {sh : Int32} (hT : XT t T sh h) (p : Int32) : Called G mX3_isSaid 0 0 0 [vR t, vI p] h (px (vI (b2i (tbI (T 1) p))) h) := by
  refine called_of rfl [some (vR t), some (vI p)] rfl (Nat.le_of_ble_eq_true rfl) ?_
  refine r_aload_n dX3_isSaid_0 rfl ?_
  refine r_getIv fX3_45 (hT.k) (v := T 1) (hT.sa) rfl dX3_isSaid_1 ?_
  refine r_iload_n dX3_isSaid_4 rfl ?_
  refine r_ishr dX3_isSaid_5 ?_
  refine r_iconst (v := 1) dX3_isSaid_6 (by decide) ?_
  refine r_iand dX3_isSaid_7 ?_
  refine r_iconst (v := 1) dX3_isSaid_8 (by decide) ?_
  refine r_icmp_ne (tgt := 16) dX3_isSaid_9 rfl (fun c1 => ?_) (fun c1 => ?_)
  · --
    refine r_iconst (v := nI 0) dX3_isSaid_16 (by decide) ?_
    exact r_ret0 dX3_isSaid_17 rfl (by simp [tbI, *])
  · --
    refine r_iconst (v := nI 1) dX3_isSaid_12 (by decide) ?_
    refine r_goto (tgt := 17) dX3_isSaid_13 rfl ?_
    exact r_ret1 dX3_isSaid_17 rfl (by simp [tbI, *])

theorem x3_isSaidN {G : ev_G} {h : ev_H} {t : Nat} {T : Nat → Int32} {sh : Int32} (hT : XT t T sh h) (p : Nat) : Called G mX3_isSaid 0 0 0 [vR t, vI (nI p)] h (px (vI (b2i (tb (T 1) p))) h) := x3_isSaid hT (nI p)

theorem x3_inside {G : ev_G} {b : Bk} {K : XK} {h : ev_H} (hb : XB b K h) {t : Nat} {T : Nat → Int32} {sh : Int32} (hT : XT t T sh h) (s : Int32) : Called G mX3_inside 1 0 0 [vR t, vR (kB K), vI s] h (px (vI (inV b T s)) h) := by
  have hw := hb.bw
  have hb1 := hw.p6
  have hb2 := hw.s5
  have hb3 := hw.t10
  have hct := hT.c
  refine called_of rfl [some (vR t), some (vR (kB K)), some (vI s), none, none] rfl (Nat.le_of_ble_eq_true rfl) ?_
  refine r_iconst (v := nI 0) dX3_inside_0 (by decide) ?_
  refine r_istore_n dX3_inside_1 (by decide) rfl ?_
  refine r_iconst (v := nI 0) dX3_inside_2 (by decide) ?_
  refine r_istore dX3_inside_3 (by decide) rfl ?_
  refine (ev_for (P := fun i => Ev G mX3_inside (ev_room 1 0 0) (ev_MQ G (px (vI (inV b T s)) h) 0 0) 5 [some (vR t), some (vR (kB K)), some (vI s), some (vI (setOf i (fun t => stV T t && decide (T (2 + t) = s)))), some (vI (nI i))] [] h 0 0) (nT b) (fun i hki ihi => ?_)) 0 (Nat.zero_le _)
  refine r_iload dX3_inside_5 rfl ?_
  refine r_aload_n dX3_inside_7 rfl ?_
  refine r_getRv fX3_22 (hb.k) (v := kTl K) (hb.tl) rfl dX3_inside_8 ?_
  refine r_callVx lX3_28 (xJ2_size hb.aT) (hb.aT.1) rfl rfl rfl rfl dX3_inside_11 (Nat.le_refl _) (Nat.le_refl _) ?_
  refine r_icmpN_ge (tgt := 54) dX3_inside_14 rfl (by omega) (by omega) (fun c1 => ?_) (fun c1 => ?_)
  · --
    refine r_iload_n dX3_inside_54 rfl ?_
    exact r_retx dX3_inside_55 rfl rfl (congrArg (fun n => setOf n _) (by omega))
  · --
    refine r_iload_n dX3_inside_17 rfl ?_
    refine r_aload_n dX3_inside_18 rfl ?_
    refine r_getRv fX3_9 (hT.k) (v := t + 1) (hT.rin) rfl dX3_inside_19 ?_
    refine r_iload dX3_inside_22 rfl ?_
    refine r_ialdv (hT.kin) (hT.lin) (ix_n (by omega) (by decide)) (v := T (2 + i)) (hT.in_ (by omega)) dX3_inside_24 ?_
    refine r_iload_n dX3_inside_25 rfl ?_
    refine r_icmp_ne (tgt := 45) dX3_inside_26 rfl (fun c2 => ?_) (fun c2 => ?_)
    · --
      refine r_iconst (v := nI 0) dX3_inside_45 (by decide) ?_
      refine r_ior dX3_inside_46 ?_
      refine r_istore_n dX3_inside_47 (by decide) rfl ?_
      refine r_iincN (n := 1) dX3_inside_48 rfl rfl (by decide) rfl ?_
      refine r_goto (tgt := 5) dX3_inside_51 rfl ?_
      exact r_L (by rw [← setOf_f (by simp [stV, *]), or0]; rfl) (ihi (by omega))
    · --
      refine r_aload_n dX3_inside_29 rfl ?_
      refine r_iload dX3_inside_30 rfl ?_
      refine r_callVx lX3_61 (x3_isSaidN hT i) (hT.k) rfl rfl rfl rfl dX3_inside_32 (Nat.le_refl _) (Nat.le_refl _) ?_
      refine r_ifB_ne (tgt := 45) dX3_inside_35 rfl (fun c3 => ?_) (fun c3 => ?_)
      · --
        refine r_iconst (v := nI 0) dX3_inside_45 (by decide) ?_
        refine r_ior dX3_inside_46 ?_
        refine r_istore_n dX3_inside_47 (by decide) rfl ?_
        refine r_iincN (n := 1) dX3_inside_48 rfl rfl (by decide) rfl ?_
        refine r_goto (tgt := 5) dX3_inside_51 rfl ?_
        exact r_L (by rw [← setOf_f (by simp [stV, *]), or0]; rfl) (ihi (by omega))
      · --
        refine r_iconst (v := nI 1) dX3_inside_38 (by decide) ?_
        refine r_iload dX3_inside_39 rfl ?_
        refine r_ishl dX3_inside_41 ?_
        refine r_top (one i) rfl ?_
        refine r_goto (tgt := 46) dX3_inside_42 rfl ?_
        refine r_ior dX3_inside_46 ?_
        refine r_istore_n dX3_inside_47 (by decide) rfl ?_
        refine r_iincN (n := 1) dX3_inside_48 rfl rfl (by decide) rfl ?_
        refine r_goto (tgt := 5) dX3_inside_51 rfl ?_
        exact r_L (by rw [← setOf_t (by simp [stV, *])]; rfl) (ihi (by omega))

theorem x3_areNear {G : ev_G} {b : Bk} {K : XK} {h : ev_H} (hb : XB b K h) {t : Nat} {T : Nat → Int32} {sh : Int32} (hT : XT t T sh h) {i : Nat} (hi : i < nT b) : Called G mX3_areNear 4 0 0 [vR t, vR (kB K), vI (nI i)] h (px (vI (b2i (nearV b T i))) h) := by
  have hw := hb.bw
  have hb1 := hw.p6
  have hb2 := hw.s5
  have hb3 := hw.t10
  have hct := hT.c
  refine called_of rfl [some (vR t), some (vR (kB K)), some (vI (nI i))] rfl (Nat.le_of_ble_eq_true rfl) ?_
  refine r_aload_n dX3_areNear_0 rfl ?_
  refine r_aload_n dX3_areNear_1 rfl ?_
  refine r_iload_n dX3_areNear_2 rfl ?_
  refine r_callVx lX3_65 (x1_by hb (t := i) (by omega)) (hb.k) rfl rfl rfl rfl dX3_areNear_3 (Nat.le_refl _) (Nat.le_refl _) ?_
  refine r_callVx lX3_69 (x3_sitsN hT (bBy b i)) (hT.k) rfl rfl rfl rfl dX3_areNear_6 (Nat.le_refl _) (Nat.le_refl _) ?_
  refine r_ifB_eq (tgt := 28) dX3_areNear_9 rfl (fun c1 => ?_) (fun c1 => ?_)
  · --
    refine r_iconst (v := nI 0) dX3_areNear_28 (by decide) ?_
    exact r_ret0 dX3_areNear_29 rfl (by simp [nearV, *])
  · --
    refine r_aload_n dX3_areNear_12 rfl ?_
    refine r_aload_n dX3_areNear_13 rfl ?_
    refine r_iload_n dX3_areNear_14 rfl ?_
    refine r_callVx lX3_71 (x1_to hb (t := i) (by omega)) (hb.k) rfl rfl rfl rfl dX3_areNear_15 (Nat.le_refl _) (Nat.le_refl _) ?_
    refine r_callVx lX3_69 (x3_sitsN hT (bTo b i)) (hT.k) rfl rfl rfl rfl dX3_areNear_18 (Nat.le_refl _) (Nat.le_refl _) ?_
    refine r_ifB_eq (tgt := 28) dX3_areNear_21 rfl (fun c2 => ?_) (fun c2 => ?_)
    · --
      refine r_iconst (v := nI 0) dX3_areNear_28 (by decide) ?_
      exact r_ret0 dX3_areNear_29 rfl (by simp [nearV, *])
    · --
      refine r_iconst (v := nI 1) dX3_areNear_24 (by decide) ?_
      refine r_goto (tgt := 29) dX3_areNear_25 rfl ?_
      exact r_ret1 dX3_areNear_29 rfl (by simp [nearV, *])
