/-! ===== THE REFERENCE: lines, ranks (walks by program) ===== -/
set_option maxRecDepth 100000

theorem c_isLine {G : ev_G} {b : Bk} {k : Nat} {h : ev_H} (hm : MB b k h) {T : Nat → Int32} (hT : MT T h) {v n : Nat} (hv : v < 2 ^ 31) (h0 : 0 < nP b) (hn : n ≤ 6) : Called G mX4_isLine 3 0 0 [vR aM, vI (nI v), vI (nI n)] h (px (vI (b2i (lnB b T n v))) h) := by
  have hl := hm.lay
  have hk2 := hm.k2
  have hb := hm.bw
  have hb1 := hb.p6
  have hb2 := hb.s5
  have hb3 := hb.t10
  refine called_of rfl [some (vR aM), some (vI (nI v)), some (vI (nI n)), none, none, none] rfl (Nat.le_of_ble_eq_true rfl) ?_
  refine r_iconst (v := nI 0) dX4_isLine_0 (by decide) ?_
  refine r_istore_n dX4_isLine_1 (by decide) rfl ?_
  refine r_iconst (v := nI 0) dX4_isLine_2 (by decide) ?_
  refine r_istore dX4_isLine_3 (by decide) rfl ?_
  refine (ev_for (P := fun i => (allB i (lnP b T v n) = true) → Ev G mX4_isLine (ev_room 3 0 0) (ev_MQ G (px (vI (b2i (lnB b T n v))) h) 0 0) 5 [some (vR aM), some (vI (nI v)), some (vI (nI n)), some (vI (lset (nP b) v n i)), some (vI (nI i)), none] [] h 0 0) n (fun i hki ihi qi => ?_)) 0 (Nat.zero_le _) (rfl)
  have hdg : dig (nP b) v n i < nP b := Nat.mod_lt _ h0
  refine r_iload dX4_isLine_5 rfl ?_
  refine r_iload_n dX4_isLine_7 rfl ?_
  refine r_icmpN_ge (tgt := 69) dX4_isLine_8 rfl (by omega) (by omega) (fun c1 => ?_) (fun c1 => ?_)
  · --
    refine r_iconst (v := nI 1) dX4_isLine_69 (by decide) ?_
    exact r_ret1 dX4_isLine_70 rfl (Eq.subst (motive := fun q => allB q (lnP b T v n) = true) (show i = n by omega) qi)
  · --
    refine r_aload_n dX4_isLine_11 rfl ?_
    refine r_iload_n dX4_isLine_12 rfl ?_
    refine r_iload_n dX4_isLine_13 rfl ?_
    refine r_iload dX4_isLine_14 rfl ?_
    refine r_callVx lX4_470 (c_inOrder hm (v := v) (n := n) (k9 := i) (by omega) h0 (by omega) (by omega) (Nat.lt_of_le_of_lt (pwP hb1 (by omega)) (by decide))) (hl.1) rfl rfl rfl rfl dX4_isLine_16 (Nat.le_refl _) (Nat.le_refl _) ?_
    refine r_istore dX4_isLine_19 (by decide) rfl ?_
    refine r_iload_n dX4_isLine_21 rfl ?_
    refine r_iload dX4_isLine_22 rfl ?_
    refine r_callSx lX4_259 (c_bitN _ _) rfl rfl rfl rfl dX4_isLine_24 (Nat.le_refl _) (Nat.le_refl _) ?_
    refine r_ifB_ne (tgt := 54) dX4_isLine_27 rfl (fun c2 => ?_) (fun c2 => ?_)
    · --
      refine r_iconst (v := nI 0) dX4_isLine_54 (by decide) ?_
      exact r_ret0 dX4_isLine_55 rfl ((allB_f (i := i) (by omega) (by unfold lnP; rw [c2]; rfl)))
    · --
      refine r_iload dX4_isLine_30 rfl ?_
      refine r_if_le (tgt := 56) dX4_isLine_32 rfl (fun c3 => ?_) (fun c3 => ?_)
      · --
        refine r_iload_n dX4_isLine_56 rfl ?_
        refine r_iconst (v := nI 1) dX4_isLine_57 (by decide) ?_
        refine r_iload dX4_isLine_58 rfl ?_
        refine r_ishl dX4_isLine_60 ?_
        refine r_top (one (dig (nP b) v n i)) rfl ?_
        refine r_ior dX4_isLine_61 ?_
        refine r_istore_n dX4_isLine_62 (by decide) rfl ?_
        refine r_iincN (n := 1) dX4_isLine_63 rfl rfl (by decide) rfl ?_
        refine r_goto (tgt := 5) dX4_isLine_66 rfl ?_
        refine r_sub [some (vR aM), some (vI (nI v)), some (vI (nI n)), some (vI ((lset (nP b) v n i) ||| (one (dig (nP b) v n i)))), some (vI (nI (i + 1))), none] (And.intro rfl (And.intro rfl (And.intro rfl (And.intro rfl (And.intro rfl trivial))))) ?_
        exact ihi (by omega) (allB_s qi (by unfold lnP; rw [c2, decide_eq_true (nI_le0 (by omega) c3)]; rfl))
      · --
        have hi0 : 0 < i := Nat.pos_of_ne_zero (fun e => c3 (by rw [e]; decide))
        refine r_aload_n dX4_isLine_35 rfl ?_
        refine r_aload_n dX4_isLine_36 rfl ?_
        refine r_iload_n dX4_isLine_37 rfl ?_
        refine r_iload_n dX4_isLine_38 rfl ?_
        refine r_iload dX4_isLine_39 rfl ?_
        refine r_iconst (v := nI 1) dX4_isLine_41 (by decide) ?_
        refine r_isub dX4_isLine_42 ?_
        refine r_top (nI (i - 1)) (pk_sub (by omega)) ?_
        refine r_callVx lX4_470 (c_inOrder hm (v := v) (n := n) (k9 := (i - 1)) (by omega) h0 (by omega) (by omega) (Nat.lt_of_le_of_lt (pwP hb1 (by omega)) (by decide))) (hl.1) rfl rfl rfl rfl dX4_isLine_43 (Nat.le_refl _) (Nat.le_refl _) ?_
        refine r_iload dX4_isLine_46 rfl ?_
        refine r_callVx lX4_473 (c_doesKeep hm hT _ _) (hl.1) rfl rfl rfl rfl dX4_isLine_48 (Nat.le_refl _) (Nat.le_refl _) ?_
        refine r_ifB_ne (tgt := 56) dX4_isLine_51 rfl (fun c4 => ?_) (fun c4 => ?_)
        · --
          refine r_iload_n dX4_isLine_56 rfl ?_
          refine r_iconst (v := nI 1) dX4_isLine_57 (by decide) ?_
          refine r_iload dX4_isLine_58 rfl ?_
          refine r_ishl dX4_isLine_60 ?_
          refine r_top (one (dig (nP b) v n i)) rfl ?_
          refine r_ior dX4_isLine_61 ?_
          refine r_istore_n dX4_isLine_62 (by decide) rfl ?_
          refine r_iincN (n := 1) dX4_isLine_63 rfl rfl (by decide) rfl ?_
          refine r_goto (tgt := 5) dX4_isLine_66 rfl ?_
          refine r_sub [some (vR aM), some (vI (nI v)), some (vI (nI n)), some (vI ((lset (nP b) v n i) ||| (one (dig (nP b) v n i)))), some (vI (nI (i + 1))), none] (And.intro rfl (And.intro rfl (And.intro rfl (And.intro rfl (And.intro rfl trivial))))) ?_
          exact ihi (by omega) (allB_s qi (by unfold lnP; rw [c2, decide_eq_false (fun e => c3 (by rw [e]; decide)), c4]; rfl))
        · --
          refine r_iconst (v := nI 0) dX4_isLine_54 (by decide) ?_
          exact r_ret0 dX4_isLine_55 rfl ((allB_f (i := i) (by omega) (by unfold lnP; rw [c2, decide_eq_false (fun e => c3 (by rw [e]; decide)), c4]; rfl)))

theorem c_line {G : ev_G} {b : Bk} {k : Nat} {h : ev_H} (hm : MB b k h) {T : Nat → Int32} (hT : MT T h) {R : Nat → Int32} (hR : Ar aLaidRow 6 R h) : Called G mX4_line 4 0 0 [vR aM] h (pI (fun y h1 => y = nI (lineN (lnA b T (nP b))) ∧ Fr [aLaidRow] [50] h h1 ∧ hI h1 aM 50 = nI (lineN (lnA b T (nP b))) ∧ Ar aLaidRow 6 (lineR (nP b) R (lnA b T (nP b))) h1)) := by
  have hl := hm.lay
  have hk2 := hm.k2
  have hb := hm.bw
  have hb1 := hb.p6
  have hb2 := hb.s5
  have hb3 := hb.t10
  refine called_of rfl [some (vR aM), none, none, none] rfl (Nat.le_of_ble_eq_true rfl) ?_
  refine r_aload_n dX4_line_0 rfl ?_
  refine r_callVx lX4_358 (c_folk hm) (hl.1) rfl rfl rfl rfl dX4_line_1 (Nat.le_refl _) (Nat.le_refl _) ?_
  refine r_istore_n dX4_line_4 (by decide) rfl ?_
  refine (ev_loop (σ := Nat) (P := fun s9 => ∀ (n : Nat), s9 = (n) → (n ≤ nP b ∧ lnA b T (nP b) = lnA b T n) → Ev G mX4_line (ev_room 4 0 0) (ev_MQ G (pI (fun y h1 => y = nI (lineN (lnA b T (nP b))) ∧ Fr [aLaidRow] [50] h h1 ∧ hI h1 aM 50 = nI (lineN (lnA b T (nP b))) ∧ Ar aLaidRow 6 (lineR (nP b) R (lnA b T (nP b))) h1)) 0 0) 5 [some (vR aM), some (vI (nI n)), none, none] [] h 0 0) (fun s9 => s9) (fun s9 ih5 n e9 q5 => ?_)) (nP b) (nP b) rfl (⟨Nat.le_refl _, rfl⟩)
  replace e9 := e9.symm
  subst e9
  have hn5 := q5.1
  refine r_iload_n dX4_line_5 rfl ?_
  refine r_if_le (tgt := 80) dX4_line_6 rfl (fun c1 => ?_) (fun c1 => ?_)
  · --
    refine r_aload_n dX4_line_80 rfl ?_
    refine r_iconst (v := nI 0) dX4_line_81 (by decide) ?_
    refine r_putN fX4_383 (hl.1) (by decide) dX4_line_82 ?_
    refine r_iconst (v := nI 0) dX4_line_85 (by decide) ?_
    have hln : lnA b T (nP b) = none := by rw [q5.2, nI_le0 (by omega) c1]; rfl
    exact r_reti dX4_line_86 rfl rfl (Nat.le_refl _) (Nat.le_refl _) ⟨by rw [hln]; rfl, Fr.rf.sf 50 _ (by decide), by rw [hln]; rfl, by rw [hln]; exact hR.fr ((Fr.rf (as := []) (fs := [50])).sf 50 _ (by decide)) (by decide) (by decide)⟩
  · --
    have hn0 : 0 < n := Nat.pos_of_ne_zero (fun e => c1 (by rw [e]; decide))
    have h0 : 0 < nP b := by omega
    have hpw := pwP hb1 (e := n) (by omega)
    refine r_iconst (v := nI 0) dX4_line_9 (by decide) ?_
    refine r_istore_n dX4_line_10 (by decide) rfl ?_
    refine (ev_for (P := fun v => (firstOf v (lnB b T n) = none) → Ev G mX4_line (ev_room 4 0 0) (ev_MQ G (pI (fun y h1 => y = nI (lineN (lnA b T (nP b))) ∧ Fr [aLaidRow] [50] h h1 ∧ hI h1 aM 50 = nI (lineN (lnA b T (nP b))) ∧ Ar aLaidRow 6 (lineR (nP b) R (lnA b T (nP b))) h1)) 0 0) 11 [some (vR aM), some (vI (nI n)), some (vI (nI v)), none] [] h 0 0) (nP b ^ n) (fun v hkv ihv qv => ?_)) 0 (Nat.zero_le _) (rfl)
    refine r_iload_n dX4_line_11 rfl ?_
    refine r_aload_n dX4_line_12 rfl ?_
    refine r_callVx lX4_358 (c_folk hm) (hl.1) rfl rfl rfl rfl dX4_line_13 (Nat.le_refl _) (Nat.le_refl _) ?_
    refine r_iload_n dX4_line_16 rfl ?_
    refine r_callSx lX4_455 (by have h9 := c_power (G := G) (h := h) (nI (nP b)) (n := n) (by omega); rw [ipow_n] at h9; exact h9) rfl rfl rfl rfl dX4_line_17 (Nat.le_refl _) (Nat.le_refl _) ?_
    refine r_icmpN_ge (tgt := 74) dX4_line_20 rfl (by omega) (by omega) (fun c2 => ?_) (fun c2 => ?_)
    · --
      refine r_iinc (v := nI (n - 1)) dX4_line_74 rfl (sb_m1 (by omega)) (by decide) rfl ?_
      refine r_goto (tgt := 5) dX4_line_77 rfl ?_
      refine r_sub [some (vR aM), some (vI (nI (n - 1))), none, none] (And.intro rfl (And.intro rfl trivial)) ?_
      exact ih5 (n - 1) (by omega) (n - 1) rfl (⟨by omega, q5.2.trans (lnA_n hn0 (by rw [show v = nP b ^ n by omega] at qv; exact qv))⟩)
    · --
      refine r_aload_n dX4_line_23 rfl ?_
      refine r_iload_n dX4_line_24 rfl ?_
      refine r_iload_n dX4_line_25 rfl ?_
      refine r_callVx lX4_476 (c_isLine hm hT (v := v) (n := n) (by omega) h0 (by omega)) (hl.1) rfl rfl rfl rfl dX4_line_26 (Nat.le_refl _) (Nat.le_refl _) ?_
      refine r_ifB_ne (tgt := 35) dX4_line_29 rfl (fun c3 => ?_) (fun c3 => ?_)
      · --
        have hln : lnA b T (nP b) = some (n, v) := q5.2.trans (lnA_s hn0 (by rw [show nP b ^ n = v + 1 + (nP b ^ n - v - 1) by omega]; exact first_t qv c3 _))
        refine r_iconst (v := nI 0) dX4_line_35 (by decide) ?_
        refine r_istore_n dX4_line_36 (by decide) rfl ?_
        refine (ev_for (P := fun i => ∀ h9 : ev_H, (Fr [aLaidRow] [50] h h9 ∧ Ar aLaidRow 6 (rowD (fun q => nI (dig (nP b) v n q)) i R) h9) → Ev G mX4_line (ev_room 4 0 0) (ev_MQ G (pI (fun y h1 => y = nI (lineN (lnA b T (nP b))) ∧ Fr [aLaidRow] [50] h h1 ∧ hI h1 aM 50 = nI (lineN (lnA b T (nP b))) ∧ Ar aLaidRow 6 (lineR (nP b) R (lnA b T (nP b))) h1)) 0 0) 37 [some (vR aM), some (vI (nI n)), some (vI (nI v)), some (vI (nI i))] [] h9 0 0) n (fun i hki ihi h9 qh9 => ?_)) 0 (Nat.zero_le _) _ (⟨Fr.rf, by rw [rowD_0]; exact hR⟩)
        obtain ⟨f9, hD⟩ := qh9
        have hm9 := hm.fr f9 rfl
        have hl9 := hm9.lay
        refine r_iload_n dX4_line_37 rfl ?_
        refine r_iload_n dX4_line_38 rfl ?_
        refine r_icmpN_ge (tgt := 61) dX4_line_39 rfl (by omega) (by omega) (fun c4 => ?_) (fun c4 => ?_)
        · --
          refine r_aload_n dX4_line_61 rfl ?_
          refine r_iload_n dX4_line_62 rfl ?_
          refine r_putN fX4_383 (hl9.1) (by decide) dX4_line_63 ?_
          refine r_iload_n dX4_line_66 rfl ?_
          exact r_reti dX4_line_67 rfl rfl (Nat.le_refl _) (Nat.le_refl _) ⟨by rw [hln]; rfl, f9.sf 50 _ (by decide), by rw [hln]; rfl, by rw [hln]; rw [show i = n by omega] at hD; exact hD.fr ((Fr.rf (as := []) (fs := [50])).sf 50 _ (by decide)) (by decide) (by decide)⟩
        · --
          refine r_aload_n dX4_line_42 rfl ?_
          refine r_getRv fX4_100 (hl9.1) (v := aLaidRow) ((l_laidRow hl9).1) rfl dX4_line_43 ?_
          refine r_iload_n dX4_line_46 rfl ?_
          refine r_aload_n dX4_line_47 rfl ?_
          refine r_iload_n dX4_line_48 rfl ?_
          refine r_iload_n dX4_line_49 rfl ?_
          refine r_iload_n dX4_line_50 rfl ?_
          refine r_callVx lX4_470 (c_inOrder hm9 (v := v) (n := n) (k9 := i) (by omega) h0 (by omega) (by omega) (Nat.lt_of_le_of_lt (pwP hb1 (by omega)) (by decide))) (hl9.1) rfl rfl rfl rfl dX4_line_51 (Nat.le_refl _) (Nat.le_refl _) ?_
          refine r_iastv ((l_laidRow hl9).2.1) (by decide) ((l_laidRow hl9).2.2) (ix_n (by omega) (by decide)) dX4_line_54 ?_
          refine r_iincN (n := 1) dX4_line_55 rfl rfl (by decide) rfl ?_
          refine r_goto (tgt := 37) dX4_line_58 rfl ?_
          exact ihi (by omega) _ (⟨f9.sa _ _ _ (by decide), rowD_step hD rfl⟩)
      · --
        refine r_goto (tgt := 68) dX4_line_32 rfl ?_
        refine r_iincN (n := 1) dX4_line_68 rfl rfl (by decide) rfl ?_
        refine r_goto (tgt := 11) dX4_line_71 rfl ?_
        exact ihv (by omega) (first_f qv c3)

theorem c_rank {G : ev_G} {b : Bk} {k : Nat} {h : ev_H} (hm : MB b k h) {T : Nat → Int32} (hT : MT T h) : Called G mX4_rank 2 0 0 [vR aM] h (pI (fun y h1 => y = nI (nP b) ∧ Fr [aLaidRow] [50] h h1 ∧ hI h1 aM 50 = nI (nP b) ∧ ∀ q, q < nP b → hI h1 aLaidRow q = nI (rkA b T (nP b) q))) := by
  have hl := hm.lay
  have hk2 := hm.k2
  have hb := hm.bw
  have hb1 := hb.p6
  have hb2 := hb.s5
  have hb3 := hb.t10
  refine called_of rfl [some (vR aM), none, none] rfl (Nat.le_of_ble_eq_true rfl) ?_
  refine r_aload_n dX4_rank_0 rfl ?_
  refine r_iconst (v := nI 0) dX4_rank_1 (by decide) ?_
  refine r_putN fX4_383 (hl.1) (by decide) dX4_rank_2 ?_
  refine r_iconst (v := nI 0) dX4_rank_5 (by decide) ?_
  refine r_istore_n dX4_rank_6 (by decide) rfl ?_
  refine (ev_for (P := fun p => ∀ h9 : ev_H, (Fr [aLaidRow] [50] h h9 ∧ hI h9 aM 50 = nI p ∧ ∀ q, q < p → hI h9 aLaidRow q = nI (rkA b T p q)) → Ev G mX4_rank (ev_room 2 0 0) (ev_MQ G (pI (fun y h1 => y = nI (nP b) ∧ Fr [aLaidRow] [50] h h1 ∧ hI h1 aM 50 = nI (nP b) ∧ ∀ q, q < nP b → hI h1 aLaidRow q = nI (rkA b T (nP b) q))) 0 0) 7 [some (vR aM), some (vI (nI p)), none] [] h9 0 0) (nP b) (fun p hkp ihp h9 qh9 => ?_)) 0 (Nat.zero_le _) _ (⟨Fr.rf.sf 50 _ (by decide), rfl, fun q hq => absurd hq (by omega)⟩)
  obtain ⟨f9, e509, eR9⟩ := qh9
  have hm9 := hm.fr f9 rfl
  have hT9 := hT.fr f9 (by decide)
  have hl9 := hm9.lay
  refine r_iload_n dX4_rank_7 rfl ?_
  refine r_aload_n dX4_rank_8 rfl ?_
  refine r_callVx lX4_358 (c_folk hm9) (hl9.1) rfl rfl rfl rfl dX4_rank_9 (Nat.le_refl _) (Nat.le_refl _) ?_
  refine r_icmpN_ge (tgt := 105) dX4_rank_12 rfl (by omega) (by omega) (fun c1 => ?_) (fun c1 => ?_)
  · --
    refine r_aload_n dX4_rank_105 rfl ?_
    refine r_getIv fX4_383 (hl9.1) (v := nI p) (e509) rfl dX4_rank_106 ?_
    exact r_reti dX4_rank_109 rfl rfl (Nat.le_refl _) (Nat.le_refl _) ⟨by rw [show p = nP b by omega], f9, by rw [← show p = nP b by omega]; exact e509, by rw [← show p = nP b by omega]; exact eR9⟩
  · --
    refine r_aload_n dX4_rank_15 rfl ?_
    refine r_getIv fX4_383 (hl9.1) (v := nI p) (e509) rfl dX4_rank_16 ?_
    refine r_istore_n dX4_rank_19 (by decide) rfl ?_
    refine (ev_loop (σ := Nat × ev_H) (P := fun s9 => ∀ (k8 : Nat) (h8 : ev_H), s9 = (k8, h8) → (k8 ≤ p ∧ Fr [aLaidRow] [50] h h8 ∧ hI h8 aM 50 = nI p ∧ MRk (rkA b T p) p k8 h8 ∧ insK (rkF b T) (rkA b T p) p k8 = insK (rkF b T) (rkA b T p) p p) → Ev G mX4_rank (ev_room 2 0 0) (ev_MQ G (pI (fun y h1 => y = nI (nP b) ∧ Fr [aLaidRow] [50] h h1 ∧ hI h1 aM 50 = nI (nP b) ∧ ∀ q, q < nP b → hI h1 aLaidRow q = nI (rkA b T (nP b) q))) 0 0) 20 [some (vR aM), some (vI (nI p)), some (vI (nI k8))] [] h8 0 0) (fun s9 => s9.1) (fun s9 ih8 k8 h8 e9 q8 => ?_)) (p, h9) p h9 rfl (⟨Nat.le_refl _, f9, e509, ⟨eR9, fun q h1 h2 => absurd h2 (by omega)⟩, rfl⟩)
    subst e9
    have hk8 := q8.1
    have f8 := q8.2.1
    have e508 := q8.2.2.1
    have hM8 := q8.2.2.2.1
    have hm8 := hm.fr f8 rfl
    have hT8 := hT.fr f8 (by decide)
    have hl8 := hm8.lay
    refine r_iload_n dX4_rank_20 rfl ?_
    refine r_if_le (tgt := 82) dX4_rank_21 rfl (fun c2 => ?_) (fun c2 => ?_)
    · --
      refine r_aload_n dX4_rank_82 rfl ?_
      refine r_getRv fX4_100 (hl8.1) (v := aLaidRow) ((l_laidRow hl8).1) rfl dX4_rank_83 ?_
      refine r_iload_n dX4_rank_86 rfl ?_
      refine r_iload_n dX4_rank_87 rfl ?_
      refine r_iastv ((l_laidRow hl8).2.1) (by decide) ((l_laidRow hl8).2.2) (ix_n (by omega) (by decide)) dX4_rank_88 ?_
      refine r_aload_n dX4_rank_89 rfl ?_
      refine r_dup dX4_rank_90 rfl ?_
      refine r_getIv fX4_383 (hl8.1) (v := nI p) (e508) rfl dX4_rank_91 ?_
      refine r_iconst (v := nI 1) dX4_rank_94 (by decide) ?_
      refine r_iadd dX4_rank_95 ?_
      refine r_top (nI (p + 1)) (nI_add _ _) ?_
      refine r_putN fX4_383 (hl8.1) (by decide) dX4_rank_96 ?_
      refine r_iincN (n := 1) dX4_rank_99 rfl rfl (by decide) rfl ?_
      refine r_goto (tgt := 7) dX4_rank_102 rfl ?_
      refine r_sub [some (vR aM), some (vI (nI (p + 1))), none] (And.intro rfl (And.intro rfl trivial)) ?_
      exact ihp (by omega) _ (⟨(f8.sa _ _ _ (by decide)).sf 50 _ (by decide), rfl, by rw [rkA, ← q8.2.2.2.2, (show insK (rkF b T) (rkA b T p) p k8 = k8 from by rw [nI_le0 (by omega) c2]; rfl)]; exact MRk.done hM8 (by omega)⟩)
    · --
      have hk0 : 0 < k8 := Nat.pos_of_ne_zero (fun e => c2 (by rw [e]; decide))
      refine r_aload_n dX4_rank_24 rfl ?_
      refine r_aload_n dX4_rank_25 rfl ?_
      refine r_aload_n dX4_rank_26 rfl ?_
      refine r_getRv fX4_100 (hl8.1) (v := aLaidRow) ((l_laidRow hl8).1) rfl dX4_rank_27 ?_
      refine r_iload_n dX4_rank_30 rfl ?_
      refine r_iconst (v := nI 1) dX4_rank_31 (by decide) ?_
      refine r_isub dX4_rank_32 ?_
      refine r_top (nI (k8 - 1)) (pk_sub (by omega)) ?_
      refine r_ialdv ((l_laidRow hl8).2.1) ((l_laidRow hl8).2.2) (ix_n (by omega) (by decide)) (v := nI (rkA b T p (k8 - 1))) (hM8.1 _ (by omega)) dX4_rank_33 ?_
      refine r_callVx lX4_413 (c_byOf hm8 _) (hl8.1) rfl rfl rfl rfl dX4_rank_34 (Nat.le_refl _) (Nat.le_refl _) ?_
      refine r_aload_n dX4_rank_37 rfl ?_
      refine r_callVx lX4_416 (c_keptNow hm8 hT8) (hl8.1) rfl rfl rfl rfl dX4_rank_38 (Nat.le_refl _) (Nat.le_refl _) ?_
      refine r_iand dX4_rank_41 ?_
      refine r_callVx lX4_348 (c_heatOf hm8 _) (hl8.1) rfl rfl rfl rfl dX4_rank_42 (Nat.le_refl _) (Nat.le_refl _) ?_
      refine r_aload_n dX4_rank_45 rfl ?_
      refine r_aload_n dX4_rank_46 rfl ?_
      refine r_iload_n dX4_rank_47 rfl ?_
      refine r_callVx lX4_413 (c_byOf hm8 _) (hl8.1) rfl rfl rfl rfl dX4_rank_48 (Nat.le_refl _) (Nat.le_refl _) ?_
      refine r_aload_n dX4_rank_51 rfl ?_
      refine r_callVx lX4_416 (c_keptNow hm8 hT8) (hl8.1) rfl rfl rfl rfl dX4_rank_52 (Nat.le_refl _) (Nat.le_refl _) ?_
      refine r_iand dX4_rank_55 ?_
      refine r_callVx lX4_348 (c_heatOf hm8 _) (hl8.1) rfl rfl rfl rfl dX4_rank_56 (Nat.le_refl _) (Nat.le_refl _) ?_
      refine r_icmp_ge (tgt := 82) dX4_rank_59 rfl (fun c3 => ?_) (fun c3 => ?_)
      · --
        refine r_aload_n dX4_rank_82 rfl ?_
        refine r_getRv fX4_100 (hl8.1) (v := aLaidRow) ((l_laidRow hl8).1) rfl dX4_rank_83 ?_
        refine r_iload_n dX4_rank_86 rfl ?_
        refine r_iload_n dX4_rank_87 rfl ?_
        refine r_iastv ((l_laidRow hl8).2.1) (by decide) ((l_laidRow hl8).2.2) (ix_n (by omega) (by decide)) dX4_rank_88 ?_
        refine r_aload_n dX4_rank_89 rfl ?_
        refine r_dup dX4_rank_90 rfl ?_
        refine r_getIv fX4_383 (hl8.1) (v := nI p) (e508) rfl dX4_rank_91 ?_
        refine r_iconst (v := nI 1) dX4_rank_94 (by decide) ?_
        refine r_iadd dX4_rank_95 ?_
        refine r_top (nI (p + 1)) (nI_add _ _) ?_
        refine r_putN fX4_383 (hl8.1) (by decide) dX4_rank_96 ?_
        refine r_iincN (n := 1) dX4_rank_99 rfl rfl (by decide) rfl ?_
        refine r_goto (tgt := 7) dX4_rank_102 rfl ?_
        refine r_sub [some (vR aM), some (vI (nI (p + 1))), none] (And.intro rfl (And.intro rfl trivial)) ?_
        exact ihp (by omega) _ (⟨(f8.sa _ _ _ (by decide)).sf 50 _ (by decide), rfl, by rw [rkA, ← q8.2.2.2.2, insK_f (f := (rkF b T)) (A := (rkA b T p)) (p := p) (k := k8) (by omega) (Int32.not_lt.mpr c3)]; exact MRk.done hM8 (by omega)⟩)
      · --
        refine r_aload_n dX4_rank_62 rfl ?_
        refine r_getRv fX4_100 (hl8.1) (v := aLaidRow) ((l_laidRow hl8).1) rfl dX4_rank_63 ?_
        refine r_iload_n dX4_rank_66 rfl ?_
        refine r_aload_n dX4_rank_67 rfl ?_
        refine r_getRv fX4_100 (hl8.1) (v := aLaidRow) ((l_laidRow hl8).1) rfl dX4_rank_68 ?_
        refine r_iload_n dX4_rank_71 rfl ?_
        refine r_iconst (v := nI 1) dX4_rank_72 (by decide) ?_
        refine r_isub dX4_rank_73 ?_
        refine r_top (nI (k8 - 1)) (pk_sub (by omega)) ?_
        refine r_ialdv ((l_laidRow hl8).2.1) ((l_laidRow hl8).2.2) (ix_n (by omega) (by decide)) (v := nI (rkA b T p (k8 - 1))) (hM8.1 _ (by omega)) dX4_rank_74 ?_
        refine r_iastv ((l_laidRow hl8).2.1) (by decide) ((l_laidRow hl8).2.2) (ix_n (by omega) (by decide)) dX4_rank_75 ?_
        refine r_iinc (v := nI (k8 - 1)) dX4_rank_76 rfl (sb_m1 (by omega)) (by decide) rfl ?_
        refine r_goto (tgt := 20) dX4_rank_79 rfl ?_
        exact ih8 (k8 - 1, _) (by show k8 - 1 < k8; omega) (k8 - 1) _ rfl (⟨by omega, f8.sa _ _ _ (by decide), e508, MRk.step hM8 (by omega) (by omega), (insK_t (f := (rkF b T)) (A := (rkA b T p)) (p := p) (k := k8) (by omega) (Int32.not_le.mp c3)).symm.trans q8.2.2.2.2⟩)
