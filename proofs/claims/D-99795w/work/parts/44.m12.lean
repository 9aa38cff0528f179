/-! ===== THE REFERENCE: small ones (walks by program) ===== -/
set_option maxRecDepth 100000

theorem c_lies {G : ev_G} {h : ev_H} (hl : MLay h) {R : Nat → Int32} {nl : Nat} (hnl : hI h aM 50 = nI nl) (hn6 : nl ≤ 6) (hR : Ar aLaidRow 6 R h) (p : Int32) : Called G mX4_lies 1 0 0 [vR aM, vI p] h (px (vI (liesV R nl p)) h) := by
  refine called_of rfl [some (vR aM), some (vI p)] rfl (Nat.le_of_ble_eq_true rfl) ?_
  refine r_iload_n dX4_lies_0 rfl ?_
  refine r_iconst (v := 0) dX4_lies_1 (by decide) ?_
  refine r_aload_n dX4_lies_2 rfl ?_
  refine r_getIv fX4_383 (hl.1) (v := nI nl) (hnl) rfl dX4_lies_3 ?_
  refine r_iconst (v := 1) dX4_lies_6 (by decide) ?_
  refine r_isub dX4_lies_7 ?_
  refine r_callSx lX4_361 (c_isIn _ _ _) rfl rfl rfl rfl dX4_lies_8 (Nat.le_refl _) (Nat.le_refl _) ?_
  refine r_ifB_eq (tgt := 23) dX4_lies_11 rfl (fun c1 => ?_) (fun c1 => ?_)
  · --
    refine r_iconst (v := (-1)) dX4_lies_23 (by decide) ?_
    exact r_retx dX4_lies_24 rfl rfl (by rw [liesV, if_neg (by rw [c1]; decide)])
  · --
    obtain ⟨j, hj, rfl⟩ := (isIn_n (by omega) p).mp c1
    refine r_aload_n dX4_lies_14 rfl ?_
    refine r_getRv fX4_100 (hl.1) (v := aLaidRow) ((l_laidRow hl).1) rfl dX4_lies_15 ?_
    refine r_iload_n dX4_lies_18 rfl ?_
    refine r_ialdv ((l_laidRow hl).2.1) ((l_laidRow hl).2.2) (ix_n (by omega) (by decide)) (v := R j) (hR _ (by omega)) dX4_lies_19 ?_
    refine r_goto (tgt := 24) dX4_lies_20 rfl ?_
    exact r_retx dX4_lies_24 rfl rfl (by rw [liesV, if_pos c1, nI_clamp (by omega)])

theorem c_fault {G : ev_G} {h : ev_H} (hl : MLay h) {fk fp : Int32} (h4 : hI h aM 4 = fk) (h5 : hI h aM 5 = fp) (wh : Int32) : Called G mX4_fault 0 0 0 [vR aM, vI wh] h (px (vI (faultV fk fp wh)) h) := by
  refine called_of rfl [some (vR aM), some (vI wh)] rfl (Nat.le_of_ble_eq_true rfl) ?_
  refine r_iload_n dX4_fault_0 rfl ?_
  refine r_if_ne (tgt := 11) dX4_fault_1 rfl (fun c1 => ?_) (fun c1 => ?_)
  · --
    refine r_iload_n dX4_fault_11 rfl ?_
    refine r_iconst (v := nI 1) dX4_fault_12 (by decide) ?_
    refine r_icmp_ne (tgt := 23) dX4_fault_13 rfl (fun c2 => ?_) (fun c2 => ?_)
    · --
      refine r_iconst (v := (-1)) dX4_fault_23 (by decide) ?_
      exact r_retx dX4_fault_24 rfl rfl (by unfold faultV; rw [if_neg c1, if_neg c2])
    · --
      refine r_aload_n dX4_fault_16 rfl ?_
      refine r_getIv fX4_16 (hl.1) (v := fp) (h5) rfl dX4_fault_17 ?_
      refine r_goto (tgt := 24) dX4_fault_20 rfl ?_
      exact r_retx dX4_fault_24 rfl rfl (by unfold faultV; rw [if_neg c1, if_pos c2])
  · --
    refine r_aload_n dX4_fault_4 rfl ?_
    refine r_getIv fX4_146 (hl.1) (v := fk) (h4) rfl dX4_fault_5 ?_
    refine r_goto (tgt := 24) dX4_fault_8 rfl ?_
    exact r_retx dX4_fault_24 rfl rfl (by unfold faultV; rw [if_pos c1])

theorem c_later {G : ev_G} {h : ev_H} (hl : MLay h) {tm : Int32} (htm : hI h aM 61 = tm) (p : Int32) : Called G mX4_later 1 0 0 [vR aM, vI p] h (pI (fun y h1 => y = (if laterOk tm p then tm + p else -1) ∧ Fr [] [61] h h1 ∧ hI h1 aM 61 = (if laterOk tm p then tm + p else tm))) := by
  refine called_of rfl [some (vR aM), some (vI p)] rfl (Nat.le_of_ble_eq_true rfl) ?_
  refine r_iload_n dX4_later_0 rfl ?_
  refine r_iconst (v := 0) dX4_later_1 (by decide) ?_
  refine r_sipush (v := nI 1000) dX4_later_2 (by decide) ?_
  refine r_callSx lX4_361 (c_isIn _ _ _) rfl rfl rfl rfl dX4_later_5 (Nat.le_refl _) (Nat.le_refl _) ?_
  refine r_ifB_eq (tgt := 23) dX4_later_8 rfl (fun c1 => ?_) (fun c1 => ?_)
  · --
    refine r_iconst (v := (-1)) dX4_later_23 (by decide) ?_
    exact r_reti dX4_later_24 rfl rfl (Nat.le_refl _) (Nat.le_refl _) ⟨if_n (by simp [laterOk, c1]) rfl, Fr.rf, if_n (by simp [laterOk, c1]) htm⟩
  · --
    refine r_aload_n dX4_later_11 rfl ?_
    refine r_getIv fX4_482 (hl.1) (v := tm) (htm) rfl dX4_later_12 ?_
    refine r_iload_n dX4_later_15 rfl ?_
    refine r_iadd dX4_later_16 ?_
    refine r_ldcw q2343 dX4_later_17 ?_
    refine r_icmp_le (tgt := 25) dX4_later_20 rfl (fun c2 => ?_) (fun c2 => ?_)
    · --
      refine r_aload_n dX4_later_25 rfl ?_
      refine r_dup dX4_later_26 rfl ?_
      refine r_getIv fX4_482 (hl.1) (v := tm) (htm) rfl dX4_later_27 ?_
      refine r_iload_n dX4_later_30 rfl ?_
      refine r_iadd dX4_later_31 ?_
      refine r_putN fX4_482 (hl.1) (by decide) dX4_later_32 ?_
      refine r_aload_n dX4_later_35 rfl ?_
      refine r_getIv fX4_482 (hl.1) (v := tm + p) (rfl) rfl dX4_later_36 ?_
      exact r_reti dX4_later_39 rfl rfl (Nat.le_refl _) (Nat.le_refl _) ⟨if_p (by simp [laterOk, c1, c2]) rfl, Fr.rf.sf 61 _ (by decide), if_p (by simp [laterOk, c1, c2]) rfl⟩
    · --
      refine r_iconst (v := (-1)) dX4_later_23 (by decide) ?_
      exact r_reti dX4_later_24 rfl rfl (Nat.le_refl _) (Nat.le_refl _) ⟨if_n (by simp [laterOk, c1, c2]) rfl, Fr.rf, if_n (by simp [laterOk, c1, c2]) htm⟩

theorem c_end {G : ev_G} {h : ev_H} (hl : MLay h) {nt : Nat} (hnt : hI h aM 2 = nI nt) (p : Int32) : Called G mX4_end 0 0 0 [vR aM, vI p] h (pI (fun y h1 => y = (if endOk nt p then p else -1) ∧ Fr [] [2] h h1 ∧ hI h1 aM 2 = (if endOk nt p then p else nI nt))) := by
  refine called_of rfl [some (vR aM), some (vI p)] rfl (Nat.le_of_ble_eq_true rfl) ?_
  refine r_iload_n dX4_end_0 rfl ?_
  refine r_if_lt (tgt := 12) dX4_end_1 rfl (fun c1 => ?_) (fun c1 => ?_)
  · --
    refine r_iconst (v := (-1)) dX4_end_12 (by decide) ?_
    exact r_reti dX4_end_13 rfl rfl (Nat.le_refl _) (Nat.le_refl _) ⟨if_n (by simp [endOk, c1]) rfl, Fr.rf, if_n (by simp [endOk, c1]) hnt⟩
  · --
    refine r_iload_n dX4_end_4 rfl ?_
    refine r_aload_n dX4_end_5 rfl ?_
    refine r_getIv fX4_250 (hl.1) (v := nI nt) (hnt) rfl dX4_end_6 ?_
    refine r_icmp_le (tgt := 14) dX4_end_9 rfl (fun c2 => ?_) (fun c2 => ?_)
    · --
      refine r_aload_n dX4_end_14 rfl ?_
      refine r_iload_n dX4_end_15 rfl ?_
      refine r_putN fX4_250 (hl.1) (by decide) dX4_end_16 ?_
      refine r_iload_n dX4_end_19 rfl ?_
      exact r_reti dX4_end_20 rfl rfl (Nat.le_refl _) (Nat.le_refl _) ⟨if_p (by simp [endOk, c1, c2]) rfl, Fr.rf.sf 2 _ (by decide), if_p (by simp [endOk, c1, c2]) rfl⟩
    · --
      refine r_iconst (v := (-1)) dX4_end_12 (by decide) ?_
      exact r_reti dX4_end_13 rfl rfl (Nat.le_refl _) (Nat.le_refl _) ⟨if_n (by simp [endOk, c1, c2]) rfl, Fr.rf, if_n (by simp [endOk, c1, c2]) hnt⟩

theorem c_untell {G : ev_G} {h : ev_H} (hl : MLay h) {tm : Int32} {nh : Nat} {U : Nat → Int32} (htm : hI h aM 61 = tm) (hnh : hI h aM 60 = nI nh) (hn30 : nh ≤ 30) (hU : Ar aSUntold 30 U h) (p : Int32) : Called G mX4_untell 1 0 0 [vR aM, vI p] h (pI (fun y h1 => y = (if unOk U nh p then 1 else 0) ∧ Fr [aSUntold] [] h h1 ∧ Ar aSUntold 30 (if unOk U nh p then u1 U p.toNatClampNeg tm else U) h1)) := by
  refine called_of rfl [some (vR aM), some (vI p)] rfl (Nat.le_of_ble_eq_true rfl) ?_
  refine r_iload_n dX4_untell_0 rfl ?_
  refine r_iconst (v := 0) dX4_untell_1 (by decide) ?_
  refine r_aload_n dX4_untell_2 rfl ?_
  refine r_getIv fX4_380 (hl.1) (v := nI nh) (hnh) rfl dX4_untell_3 ?_
  refine r_iconst (v := 1) dX4_untell_6 (by decide) ?_
  refine r_isub dX4_untell_7 ?_
  refine r_callSx lX4_361 (c_isIn _ _ _) rfl rfl rfl rfl dX4_untell_8 (Nat.le_refl _) (Nat.le_refl _) ?_
  refine r_ifB_eq (tgt := 23) dX4_untell_11 rfl (fun c1 => ?_) (fun c1 => ?_)
  · --
    refine r_iconst (v := nI 0) dX4_untell_23 (by decide) ?_
    exact r_reti dX4_untell_24 rfl rfl (Nat.le_refl _) (Nat.le_refl _) ⟨if_n (by simp [unOk, c1]) rfl, Fr.rf, hU.neg (by simp [unOk, c1])⟩
  · --
    obtain ⟨j, hj, rfl⟩ := (isIn_n (by omega) p).mp c1
    refine r_aload_n dX4_untell_14 rfl ?_
    refine r_getRv fX4_121 (hl.1) (v := aSUntold) ((l_sUntold hl).1) rfl dX4_untell_15 ?_
    refine r_iload_n dX4_untell_18 rfl ?_
    refine r_ialdv ((l_sUntold hl).2.1) ((l_sUntold hl).2.2) (ix_n (by omega) (by decide)) (v := U j) (hU _ (by omega)) dX4_untell_19 ?_
    refine r_if_lt (tgt := 25) dX4_untell_20 rfl (fun c2 => ?_) (fun c2 => ?_)
    · --
      refine r_aload_n dX4_untell_25 rfl ?_
      refine r_getRv fX4_121 (hl.1) (v := aSUntold) ((l_sUntold hl).1) rfl dX4_untell_26 ?_
      refine r_iload_n dX4_untell_29 rfl ?_
      refine r_aload_n dX4_untell_30 rfl ?_
      refine r_getIv fX4_482 (hl.1) (v := tm) (htm) rfl dX4_untell_31 ?_
      refine r_iastv ((l_sUntold hl).2.1) (by decide) ((l_sUntold hl).2.2) (ix_n (by omega) (by decide)) dX4_untell_34 ?_
      refine r_iconst (v := nI 1) dX4_untell_35 (by decide) ?_
      exact r_reti dX4_untell_36 rfl rfl (Nat.le_refl _) (Nat.le_refl _) ⟨if_p (by simp only [unOk, nI_clamp (show j < 2 ^ 31 by omega)]; simp [c1, c2]) rfl, Fr.rf.sa aSUntold _ _ (by decide), Ar.pos (by simp only [unOk, nI_clamp (show j < 2 ^ 31 by omega)]; simp [c1, c2]) (by rw [nI_clamp (by omega)]; exact hU.up _ _)⟩
    · --
      refine r_iconst (v := nI 0) dX4_untell_23 (by decide) ?_
      exact r_reti dX4_untell_24 rfl rfl (Nat.le_refl _) (Nat.le_refl _) ⟨if_n (by simp only [unOk, nI_clamp (show j < 2 ^ 31 by omega)]; simp [c1, c2]) rfl, Fr.rf, hU.neg (by simp only [unOk, nI_clamp (show j < 2 ^ 31 by omega)]; simp [c1, c2])⟩

theorem c_odds {G : ev_G} {b : Bk} {k : Nat} {h : ev_H} (hm : MB b k h) (n wh : Int32) : Called G mX4_odds 1 0 0 [vR aM, vI n, vI wh] h (px (vI (oddsV b n wh)) h) := by
  have hl := hm.lay
  have hk2 := hm.k2
  have hb := hm.bw
  have hb1 := hb.p6
  have hb2 := hb.s5
  have hb3 := hb.t10
  refine called_of rfl [some (vR aM), some (vI n), some (vI wh), none, none] rfl (Nat.le_of_ble_eq_true rfl) ?_
  refine r_iload_n dX4_odds_0 rfl ?_
  refine r_iconst (v := 0) dX4_odds_1 (by decide) ?_
  refine r_iconst (v := nI 4) dX4_odds_2 (by decide) ?_
  refine r_callSx lX4_361 (c_isIn _ _ _) rfl rfl rfl rfl dX4_odds_3 (Nat.le_refl _) (Nat.le_refl _) ?_
  refine r_ifB_eq (tgt := 18) dX4_odds_6 rfl (fun c1 => ?_) (fun c1 => ?_)
  · --
    refine r_iconst (v := (-1)) dX4_odds_18 (by decide) ?_
    exact r_retx dX4_odds_19 rfl rfl (by rw [oddsV, if_neg (by simp [c1])])
  · --
    obtain ⟨j, hj, rfl⟩ := isIn_m (by decide) c1
    refine r_iload_n dX4_odds_9 rfl ?_
    refine r_iconst (v := 0) dX4_odds_10 (by decide) ?_
    refine r_iconst (v := 1) dX4_odds_11 (by decide) ?_
    refine r_callSx lX4_361 (c_isIn _ _ _) rfl rfl rfl rfl dX4_odds_12 (Nat.le_refl _) (Nat.le_refl _) ?_
    refine r_ifB_ne (tgt := 20) dX4_odds_15 rfl (fun c2 => ?_) (fun c2 => ?_)
    · --
      have hsn := hb.2.2.2.2.2.1
      have hj1 : 100 ^ j ≤ 100 ^ 4 := Nat.pow_le_pow_right (by decide) hj
      have hj2 : (100 - bSn b) ^ j ≤ 100 ^ j := Nat.pow_le_pow_left (by omega) j
      have hj3 : 0 < 100 ^ j := Nat.pow_pos (by decide)
      have hg0 : Nat.gcd (100 ^ j) ((100 - bSn b) ^ j) ≠ 0 := fun e => by have := Nat.eq_zero_of_gcd_eq_zero_left e; omega
      have hg1 : Nat.gcd (100 ^ j) ((100 - bSn b) ^ j) ≤ 100 ^ j := Nat.gcd_le_left _ hj3
      rw [show (100 : Nat) ^ 4 = 100000000 from rfl] at hj1
      refine r_bipush (v := nI 100) dX4_odds_20 (by decide) ?_
      refine r_aload_n dX4_odds_22 rfl ?_
      refine r_getRv fX4_33 (hl.1) (v := aSneeze) ((l_sneeze hl).1) rfl dX4_odds_23 ?_
      refine r_aload_n dX4_odds_26 rfl ?_
      refine r_getIv fX4_253 (hl.1) (v := nI k) (hm.bank) rfl dX4_odds_27 ?_
      refine r_ialdv ((l_sneeze hl).2.1) ((l_sneeze hl).2.2) (ix_n (by omega) (by decide)) (v := nI (bSn b)) (hm.sneeze) dX4_odds_30 ?_
      refine r_isub dX4_odds_31 ?_
      refine r_top (nI (100 - (bSn b))) (pk_sub (by omega)) ?_
      refine r_iload_n dX4_odds_32 rfl ?_
      refine r_callSx lX4_455 (by have h9 := c_power (G := G) (h := h) (nI (100 - (bSn b))) (n := j) (by omega); rw [ipow_n] at h9; exact h9) rfl rfl rfl rfl dX4_odds_33 (Nat.le_refl _) (Nat.le_refl _) ?_
      refine r_istore_n dX4_odds_36 (by decide) rfl ?_
      refine r_bipush (v := nI 100) dX4_odds_37 (by decide) ?_
      refine r_iload_n dX4_odds_39 rfl ?_
      refine r_callSx lX4_455 (by have h9 := c_power (G := G) (h := h) (nI 100) (n := j) (by omega); rw [ipow_n] at h9; exact h9) rfl rfl rfl rfl dX4_odds_40 (Nat.le_refl _) (Nat.le_refl _) ?_
      refine r_istore dX4_odds_43 (by decide) rfl ?_
      refine r_iload_n dX4_odds_45 rfl ?_
      refine r_if_ne (tgt := 53) dX4_odds_46 rfl (fun c3 => ?_) (fun c3 => ?_)
      · --
        refine r_iload dX4_odds_53 rfl ?_
        refine r_iload dX4_odds_55 rfl ?_
        refine r_iload_n dX4_odds_57 rfl ?_
        refine r_callSx lX4_479 (c_divisor (by omega) (by omega)) rfl rfl rfl rfl dX4_odds_58 (Nat.le_refl _) (Nat.le_refl _) ?_
        refine r_idiv dX4_odds_61 (fun e => hg0 (nI_z (by omega) e)) ?_
        exact r_retx dX4_odds_62 rfl rfl (by rw [oddsV, if_pos (by simp [c1, c2]), nI_clamp (by omega), if_neg c3])
      · --
        refine r_iload_n dX4_odds_49 rfl ?_
        refine r_goto (tgt := 55) dX4_odds_50 rfl ?_
        refine r_iload dX4_odds_55 rfl ?_
        refine r_iload_n dX4_odds_57 rfl ?_
        refine r_callSx lX4_479 (c_divisor (by omega) (by omega)) rfl rfl rfl rfl dX4_odds_58 (Nat.le_refl _) (Nat.le_refl _) ?_
        refine r_idiv dX4_odds_61 (fun e => hg0 (nI_z (by omega) e)) ?_
        exact r_retx dX4_odds_62 rfl rfl (by rw [oddsV, if_pos (by simp [c1, c2]), nI_clamp (by omega), if_pos c3])
    · --
      refine r_iconst (v := (-1)) dX4_odds_18 (by decide) ?_
      exact r_retx dX4_odds_19 rfl rfl (by rw [oddsV, if_neg (by simp [c1, c2])])
