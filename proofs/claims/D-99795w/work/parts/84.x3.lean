/-! ===== THE SYSTEM: a table's methods (walks by program) ===== -/
set_option maxRecDepth 100000

theorem xJ15_bitCount {G : ev_G} {h : ev_H} {n : Nat} (hn : n < 1024) : Called G mJ15_bitCount 0 0 0 [vI (nI n)] h (px (vI (popc (nI n))) h) := by
  refine called_of rfl [some (vI (nI n))] rfl (Nat.le_of_ble_eq_true rfl) ?_
  refine r_iload_n dJ15_bitCount_0 rfl ?_
  refine r_iload_n dJ15_bitCount_1 rfl ?_
  refine r_iconst (v := 1) dJ15_bitCount_2 (by decide) ?_
  refine r_iushr dJ15_bitCount_3 rfl ?_
  refine r_ldcw q1204 dJ15_bitCount_4 ?_
  refine r_iand dJ15_bitCount_7 ?_
  refine r_isub dJ15_bitCount_8 ?_
  refine r_top (b1_ (nI n)) (rfl) ?_
  refine r_istore_n dJ15_bitCount_9 (by decide) rfl ?_
  refine r_iload_n dJ15_bitCount_10 rfl ?_
  refine r_ldcw q1205 dJ15_bitCount_11 ?_
  refine r_iand dJ15_bitCount_14 ?_
  refine r_iload_n dJ15_bitCount_15 rfl ?_
  refine r_iconst (v := 2) dJ15_bitCount_16 (by decide) ?_
  refine r_iushr dJ15_bitCount_17 rfl ?_
  refine r_ldcw q1205 dJ15_bitCount_18 ?_
  refine r_iand dJ15_bitCount_21 ?_
  refine r_iadd dJ15_bitCount_22 ?_
  refine r_top (b2_ (b1_ (nI n))) (rfl) ?_
  refine r_istore_n dJ15_bitCount_23 (by decide) rfl ?_
  refine r_iload_n dJ15_bitCount_24 rfl ?_
  refine r_iload_n dJ15_bitCount_25 rfl ?_
  refine r_iconst (v := 4) dJ15_bitCount_26 (by decide) ?_
  refine r_iushr dJ15_bitCount_27 rfl ?_
  refine r_iadd dJ15_bitCount_28 ?_
  refine r_ldcw q1206 dJ15_bitCount_29 ?_
  refine r_iand dJ15_bitCount_32 ?_
  refine r_top (b3_ (b2_ (b1_ (nI n)))) (rfl) ?_
  refine r_istore_n dJ15_bitCount_33 (by decide) rfl ?_
  refine r_iload_n dJ15_bitCount_34 rfl ?_
  refine r_iload_n dJ15_bitCount_35 rfl ?_
  refine r_bipush (v := 8) dJ15_bitCount_36 (by decide) ?_
  refine r_iushr dJ15_bitCount_38 rfl ?_
  refine r_iadd dJ15_bitCount_39 ?_
  refine r_top (b4_ (b3_ (b2_ (b1_ (nI n))))) (rfl) ?_
  refine r_istore_n dJ15_bitCount_40 (by decide) rfl ?_
  refine r_iload_n dJ15_bitCount_41 rfl ?_
  refine r_iload_n dJ15_bitCount_42 rfl ?_
  refine r_bipush (v := 16) dJ15_bitCount_43 (by decide) ?_
  refine r_iushr dJ15_bitCount_45 rfl ?_
  refine r_iadd dJ15_bitCount_46 ?_
  refine r_top (b5_ (b4_ (b3_ (b2_ (b1_ (nI n)))))) (rfl) ?_
  refine r_istore_n dJ15_bitCount_47 (by decide) rfl ?_
  refine r_iload_n dJ15_bitCount_48 rfl ?_
  refine r_bipush (v := 63) dJ15_bitCount_49 (by decide) ?_
  refine r_iand dJ15_bitCount_51 ?_
  exact r_retx dJ15_bitCount_52 rfl rfl (bcnt hn)

theorem xJ15_bc {G : ev_G} {h : ev_H} {x : Int32} (hx : ∃ n, n < 1024 ∧ x = nI n) : Called G mJ15_bitCount 0 0 0 [vI x] h (px (vI (popc x)) h) := by
  obtain ⟨n, hn, rfl⟩ := hx
  exact xJ15_bitCount hn

theorem x3_next {G : ev_G} {b : Bk} {K : XK} {h : ev_H} (hb : XB b K h) {t : Nat} {T : Nat → Int32} {sh : Int32} (hT : XT t T sh h) : Called G mX3_next 4 0 0 [vR t, vR (kB K)] h (px (vI (optI (sneV b T))) h) := by
  have hw := hb.bw
  have hb1 := hw.p6
  have hb2 := hw.s5
  have hb3 := hw.t10
  have hct := hT.c
  refine called_of rfl [some (vR t), some (vR (kB K)), none, none] rfl (Nat.le_of_ble_eq_true rfl) ?_
  refine r_iconst (v := (-1)) dX3_next_0 (by decide) ?_
  refine r_istore_n dX3_next_1 (by decide) rfl ?_
  refine r_iconst (v := nI 0) dX3_next_2 (by decide) ?_
  refine r_istore_n dX3_next_3 (by decide) rfl ?_
  refine (ev_for (P := fun i => Ev G mX3_next (ev_room 4 0 0) (ev_MQ G (px (vI (optI (sneV b T))) h) 0 0) 4 [some (vR t), some (vR (kB K)), some (vI (optI (bestOf i (fun t => stV T t && tb (T 0) (bBy b t)) (fun t => nI (bHo b t))))), some (vI (nI i))] [] h 0 0) (nT b) (fun i hki ihi => ?_)) 0 (Nat.zero_le _)
  refine r_iload_n dX3_next_4 rfl ?_
  refine r_aload_n dX3_next_5 rfl ?_
  refine r_getRv fX3_22 (hb.k) (v := kTl K) (hb.tl) rfl dX3_next_6 ?_
  refine r_callVx lX3_28 (xJ2_size hb.aT) (hb.aT.1) rfl rfl rfl rfl dX3_next_9 (Nat.le_refl _) (Nat.le_refl _) ?_
  refine r_icmpN_ge (tgt := 60) dX3_next_12 rfl (by omega) (by omega) (fun c1 => ?_) (fun c1 => ?_)
  · --
    refine r_iload_n dX3_next_60 rfl ?_
    exact r_retx dX3_next_61 rfl rfl (congrArg (fun n => optI (bestOf n _ _)) (by omega))
  · --
    cases hbo : bestOf i (fun t => stV T t && tb (T 0) (bBy b t)) (fun t => nI (bHo b t)) with
    | none =>
      refine r_aload_n dX3_next_15 rfl ?_
      refine r_iload_n dX3_next_16 rfl ?_
      refine r_callVx lX3_61 (x3_isSaidN hT i) (hT.k) rfl rfl rfl rfl dX3_next_17 (Nat.le_refl _) (Nat.le_refl _) ?_
      refine r_ifB_ne (tgt := 54) dX3_next_20 rfl (fun c2 => ?_) (fun c2 => ?_)
      · --
        refine r_iincN (n := 1) dX3_next_54 rfl rfl (by decide) rfl ?_
        refine r_goto (tgt := 4) dX3_next_57 rfl ?_
        exact r_L (by first | (have h7 := bestOf_n0 (f := fun t => nI (bHo b t)) (p := fun t => stV T t && tb (T 0) (bBy b t)) hbo (by simp [stV, *]); rw [h7]; rfl) | (have h7 : _ := bestOf_s0 (f := fun t => nI (bHo b t)) (p := fun t => stV T t && tb (T 0) (bBy b t)) hbo (Or.inr (by assumption)); rw [h7]; rfl) | (have h7 := bestOf_s0 (f := fun t => nI (bHo b t)) (p := fun t => stV T t && tb (T 0) (bBy b t)) hbo (Or.inl (by simp [stV, *])); rw [h7]; rfl)) (ihi (by omega))
      · --
        refine r_aload_n dX3_next_23 rfl ?_
        refine r_aload_n dX3_next_24 rfl ?_
        refine r_iload_n dX3_next_25 rfl ?_
        refine r_callVx lX3_65 (x1_by hb (t := i) (by omega)) (hb.k) rfl rfl rfl rfl dX3_next_26 (Nat.le_refl _) (Nat.le_refl _) ?_
        refine r_callVx lX3_69 (x3_sitsN hT (bBy b i)) (hT.k) rfl rfl rfl rfl dX3_next_29 (Nat.le_refl _) (Nat.le_refl _) ?_
        refine r_ifB_eq (tgt := 54) dX3_next_32 rfl (fun c3 => ?_) (fun c3 => ?_)
        · --
          refine r_iincN (n := 1) dX3_next_54 rfl rfl (by decide) rfl ?_
          refine r_goto (tgt := 4) dX3_next_57 rfl ?_
          exact r_L (by first | (have h7 := bestOf_n0 (f := fun t => nI (bHo b t)) (p := fun t => stV T t && tb (T 0) (bBy b t)) hbo (by simp [stV, *]); rw [h7]; rfl) | (have h7 : _ := bestOf_s0 (f := fun t => nI (bHo b t)) (p := fun t => stV T t && tb (T 0) (bBy b t)) hbo (Or.inr (by assumption)); rw [h7]; rfl) | (have h7 := bestOf_s0 (f := fun t => nI (bHo b t)) (p := fun t => stV T t && tb (T 0) (bBy b t)) hbo (Or.inl (by simp [stV, *])); rw [h7]; rfl)) (ihi (by omega))
        · --
          refine r_iload_n dX3_next_35 rfl ?_
          refine r_if_lt (tgt := 52) dX3_next_36 rfl (fun c4 => ?_) (fun c4 => ?_)
          · --
            refine r_iload_n dX3_next_52 rfl ?_
            refine r_istore_n dX3_next_53 (by decide) rfl ?_
            refine r_iincN (n := 1) dX3_next_54 rfl rfl (by decide) rfl ?_
            refine r_goto (tgt := 4) dX3_next_57 rfl ?_
            exact r_L (by first | (have h7 := bestOf_n1 (f := fun t => nI (bHo b t)) (p := fun t => stV T t && tb (T 0) (bBy b t)) hbo (by simp [stV, *]); rw [h7]; rfl) | (have h7 := bestOf_s1 (f := fun t => nI (bHo b t)) (p := fun t => stV T t && tb (T 0) (bBy b t)) hbo (by simp [stV, *]) (Int32.not_le.mp (by assumption)); rw [h7]; rfl)) (ihi (by omega))
          · --
            exact absurd (show ((-1) : Int32) < 0 by decide) c4
    | some j =>
      have hj := bestOf_lt hbo
      refine r_aload_n dX3_next_15 rfl ?_
      refine r_iload_n dX3_next_16 rfl ?_
      refine r_callVx lX3_61 (x3_isSaidN hT i) (hT.k) rfl rfl rfl rfl dX3_next_17 (Nat.le_refl _) (Nat.le_refl _) ?_
      refine r_ifB_ne (tgt := 54) dX3_next_20 rfl (fun c5 => ?_) (fun c5 => ?_)
      · --
        refine r_iincN (n := 1) dX3_next_54 rfl rfl (by decide) rfl ?_
        refine r_goto (tgt := 4) dX3_next_57 rfl ?_
        exact r_L (by first | (have h7 := bestOf_n0 (f := fun t => nI (bHo b t)) (p := fun t => stV T t && tb (T 0) (bBy b t)) hbo (by simp [stV, *]); rw [h7]; rfl) | (have h7 : _ := bestOf_s0 (f := fun t => nI (bHo b t)) (p := fun t => stV T t && tb (T 0) (bBy b t)) hbo (Or.inr (by assumption)); rw [h7]; rfl) | (have h7 := bestOf_s0 (f := fun t => nI (bHo b t)) (p := fun t => stV T t && tb (T 0) (bBy b t)) hbo (Or.inl (by simp [stV, *])); rw [h7]; rfl)) (ihi (by omega))
      · --
        refine r_aload_n dX3_next_23 rfl ?_
        refine r_aload_n dX3_next_24 rfl ?_
        refine r_iload_n dX3_next_25 rfl ?_
        refine r_callVx lX3_65 (x1_by hb (t := i) (by omega)) (hb.k) rfl rfl rfl rfl dX3_next_26 (Nat.le_refl _) (Nat.le_refl _) ?_
        refine r_callVx lX3_69 (x3_sitsN hT (bBy b i)) (hT.k) rfl rfl rfl rfl dX3_next_29 (Nat.le_refl _) (Nat.le_refl _) ?_
        refine r_ifB_eq (tgt := 54) dX3_next_32 rfl (fun c6 => ?_) (fun c6 => ?_)
        · --
          refine r_iincN (n := 1) dX3_next_54 rfl rfl (by decide) rfl ?_
          refine r_goto (tgt := 4) dX3_next_57 rfl ?_
          exact r_L (by first | (have h7 := bestOf_n0 (f := fun t => nI (bHo b t)) (p := fun t => stV T t && tb (T 0) (bBy b t)) hbo (by simp [stV, *]); rw [h7]; rfl) | (have h7 : _ := bestOf_s0 (f := fun t => nI (bHo b t)) (p := fun t => stV T t && tb (T 0) (bBy b t)) hbo (Or.inr (by assumption)); rw [h7]; rfl) | (have h7 := bestOf_s0 (f := fun t => nI (bHo b t)) (p := fun t => stV T t && tb (T 0) (bBy b t)) hbo (Or.inl (by simp [stV, *])); rw [h7]; rfl)) (ihi (by omega))
        · --
          refine r_iload_n dX3_next_35 rfl ?_
          refine r_if_lt (tgt := 52) dX3_next_36 rfl (fun c7 => ?_) (fun c7 => ?_)
          · --
            exact absurd c7 (nI_pos (by omega))
          · --
            refine r_aload_n dX3_next_39 rfl ?_
            refine r_iload_n dX3_next_40 rfl ?_
            refine r_callVx lX3_104 (x1_hot hb (t := i) (by omega)) (hb.k) rfl rfl rfl rfl dX3_next_41 (Nat.le_refl _) (Nat.le_refl _) ?_
            refine r_aload_n dX3_next_44 rfl ?_
            refine r_iload_n dX3_next_45 rfl ?_
            refine r_callVx lX3_104 (x1_hot hb (t := j) (by omega)) (hb.k) rfl rfl rfl rfl dX3_next_46 (Nat.le_refl _) (Nat.le_refl _) ?_
            refine r_icmp_le (tgt := 54) dX3_next_49 rfl (fun c8 => ?_) (fun c8 => ?_)
            · --
              refine r_iincN (n := 1) dX3_next_54 rfl rfl (by decide) rfl ?_
              refine r_goto (tgt := 4) dX3_next_57 rfl ?_
              exact r_L (by first | (have h7 := bestOf_n0 (f := fun t => nI (bHo b t)) (p := fun t => stV T t && tb (T 0) (bBy b t)) hbo (by simp [stV, *]); rw [h7]; rfl) | (have h7 : _ := bestOf_s0 (f := fun t => nI (bHo b t)) (p := fun t => stV T t && tb (T 0) (bBy b t)) hbo (Or.inr (by assumption)); rw [h7]; rfl) | (have h7 := bestOf_s0 (f := fun t => nI (bHo b t)) (p := fun t => stV T t && tb (T 0) (bBy b t)) hbo (Or.inl (by simp [stV, *])); rw [h7]; rfl)) (ihi (by omega))
            · --
              refine r_iload_n dX3_next_52 rfl ?_
              refine r_istore_n dX3_next_53 (by decide) rfl ?_
              refine r_iincN (n := 1) dX3_next_54 rfl rfl (by decide) rfl ?_
              refine r_goto (tgt := 4) dX3_next_57 rfl ?_
              exact r_L (by first | (have h7 := bestOf_n1 (f := fun t => nI (bHo b t)) (p := fun t => stV T t && tb (T 0) (bBy b t)) hbo (by simp [stV, *]); rw [h7]; rfl) | (have h7 := bestOf_s1 (f := fun t => nI (bHo b t)) (p := fun t => stV T t && tb (T 0) (bBy b t)) hbo (by simp [stV, *]) (Int32.not_le.mp (by assumption)); rw [h7]; rfl)) (ihi (by omega))

theorem x3_copy {G : ev_G} {h : ev_H} {t x : Nat} {T U : Nat → Int32} {sh su : Int32} (hT : XT t T sh h) (hX : XT x U su h) (hap : t + 3 ≤ x ∨ x + 3 ≤ t) : Called G mX3_copy 1 0 0 [vR t, vR x] h (pR (fun y h1 => y = t ∧ Fr [t, t + 1, t + 2] [] h h1 ∧ XT t U (-1) h1)) := by
  have hct := hT.c
  have hcx := hX.c
  refine called_of rfl [some (vR t), some (vR x)] rfl (Nat.le_of_ble_eq_true rfl) ?_
  refine r_aload_n dX3_copy_0 rfl ?_
  refine r_getRv fX3_9 (hX.k) (v := x + 1) (hX.rin) rfl dX3_copy_1 ?_
  refine r_iconst (v := nI 0) dX3_copy_4 (by decide) ?_
  refine r_aload_n dX3_copy_5 rfl ?_
  refine r_getRv fX3_9 (hT.k) (v := t + 1) (hT.rin) rfl dX3_copy_6 ?_
  refine r_iconst (v := nI 0) dX3_copy_9 (by decide) ?_
  refine r_bipush (v := nI 10) dX3_copy_10 (by decide) ?_
  refine r_copyI (t := 0) q1300 (by decide) hX.kin hT.kin (by omega) (by omega) hX.lin hT.lin (by decide) (by decide) (by decide) (by decide) (fun i hi => rfl) (by decide) (by decide) rfl dX3_copy_12 ?_
  refine r_aload_n dX3_copy_15 rfl ?_
  refine r_getRv fX3_15 (hX.k) (v := x + 2) (hX.rgr) rfl dX3_copy_16 ?_
  refine r_iconst (v := nI 0) dX3_copy_19 (by decide) ?_
  refine r_aload_n dX3_copy_20 rfl ?_
  refine r_getRv fX3_15 (hT.k) (v := t + 2) (hT.rgr) rfl dX3_copy_21 ?_
  refine r_iconst (v := nI 0) dX3_copy_24 (by decide) ?_
  refine r_iconst (v := nI 5) dX3_copy_25 (by decide) ?_
  refine r_copyI (t := 0) q1300 (by decide) hX.kgr hT.kgr (by omega) (by omega) hX.lgr hT.lgr (by decide) (by decide) (by decide) (by decide) (fun i hi => rfl) (by decide) (by decide) rfl dX3_copy_26 ?_
  refine r_aload_n dX3_copy_29 rfl ?_
  refine r_iconst (v := (-1)) dX3_copy_30 (by decide) ?_
  refine r_putN fX3_18 (hT.k) (hct) dX3_copy_31 ?_
  refine r_aload_n dX3_copy_34 rfl ?_
  refine r_aload_n dX3_copy_35 rfl ?_
  refine r_getIv fX3_42 (hX.k) (v := U 0) ((rdI_s (by omega)).trans ((rdI_c (by omega)).trans ((rdI_c (by omega)).trans (hX.si)))) rfl dX3_copy_36 ?_
  refine r_putN fX3_42 (hT.k) (hct) dX3_copy_39 ?_
  refine r_aload_n dX3_copy_42 rfl ?_
  refine r_aload_n dX3_copy_43 rfl ?_
  refine r_getIv fX3_45 (hX.k) (v := U 1) ((rdI_s (by omega)).trans ((rdI_s (by omega)).trans ((rdI_c (by omega)).trans ((rdI_c (by omega)).trans (hX.sa))))) rfl dX3_copy_44 ?_
  refine r_putN fX3_45 (hT.k) (hct) dX3_copy_47 ?_
  refine r_aload_n dX3_copy_50 rfl ?_
  refine r_aload_n dX3_copy_51 rfl ?_
  refine r_getIv fX3_48 (hX.k) (v := U 17) ((rdI_s (by omega)).trans ((rdI_s (by omega)).trans ((rdI_s (by omega)).trans ((rdI_c (by omega)).trans ((rdI_c (by omega)).trans (hX.co)))))) rfl dX3_copy_52 ?_
  refine r_putN fX3_48 (hT.k) (hct) dX3_copy_55 ?_
  refine r_aload_n dX3_copy_58 rfl ?_
  refine r_aload_n dX3_copy_59 rfl ?_
  refine r_getIv fX3_54 (hX.k) (v := U 18) ((rdI_s (by omega)).trans ((rdI_s (by omega)).trans ((rdI_s (by omega)).trans ((rdI_s (by omega)).trans ((rdI_c (by omega)).trans ((rdI_c (by omega)).trans (hX.se))))))) rfl dX3_copy_60 ?_
  refine r_putN fX3_54 (hT.k) (hct) dX3_copy_63 ?_
  refine r_aload_n dX3_copy_66 rfl ?_
  exact r_retr dX3_copy_67 rfl (Or.inl ⟨_, rfl⟩) (Nat.le_refl _) (Nat.le_refl _) ⟨rfl, (((((((Fr.rf.cp _ _ (t + 1) _ _ (by simp)).cp _ _ (t + 2) _ _ (by simp)).sa t 2 _ (by simp)).sa t 3 _ (by simp)).sa t 4 _ (by simp)).sa t 5 _ (by simp)).sa t 6 _ (by simp)), hT.copied hX hap⟩

theorem x3_seat {G : ev_G} {h : ev_H} {t : Nat} {T : Nat → Int32} {sh : Int32} (hT : XT t T sh h) (v : Int32) : Called G mX3_seat 0 0 0 [vR t, vI v] h (pR (fun y h1 => y = t ∧ Fr [t, t + 1, t + 2] [] h h1 ∧ XT t (u1 T 0 v) sh h1)) := by
  refine called_of rfl [some (vR t), some (vI v)] rfl (Nat.le_of_ble_eq_true rfl) ?_
  refine r_aload_n dX3_seat_0 rfl ?_
  refine r_iload_n dX3_seat_1 rfl ?_
  refine r_putN fX3_42 (hT.k) (hT.c) dX3_seat_2 ?_
  refine r_aload_n dX3_seat_5 rfl ?_
  exact r_retr dX3_seat_6 rfl (Or.inl ⟨_, rfl⟩) (Nat.le_refl _) (Nat.le_refl _) (⟨rfl, Fr.rf.sa t 3 _ (by simp), hT.w0 v (by decide)⟩)
