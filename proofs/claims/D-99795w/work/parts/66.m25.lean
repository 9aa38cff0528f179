/-! ===== THE REFERENCE: names here (walks by program) ===== -/
set_option maxRecDepth 100000

theorem c_here {G : ev_G} {h : ev_H} {tx : Nat → Int32} {n : Nat} {s : (Nat × Nat) × Nat} (hq : MP tx n s h) {r fi m N : Nat} {nm : Nat → Int64} (hkr : hK h r = 103) (hLr : hL h r = N) (hN : N < 2 ^ 31) (hfm : fi + m ≤ N) (hnm : ∀ i, i < m → hJ h r (fi + i) = nm i) : Called G mX4_here 0 0 0 [vR aM, vR r, vI (nI fi), vI (nI m)] h (px (vI (optI (hereO tx n s.2 nm m))) h) := by
  have hl := hq.1
  have hx := hq.2.1
  have hk6 := tkT_lt tx n s.2
  have hta := taT_le (tx := tx) hq.2.2.1
  have hn := hx.2.1
  have hf8 := hq.2.2.2.2.2.2
  refine called_of rfl [some (vR aM), some (vR r), some (vI (nI fi)), some (vI (nI m)), none] rfl (Nat.le_of_ble_eq_true rfl) ?_
  refine r_iconst (v := nI 0) dX4_here_0 (by decide) ?_
  refine r_istore dX4_here_1 (by decide) rfl ?_
  refine (ev_for (P := fun i => (firstOf i (fun k => decide (tkT tx n s.2 = 2) && decide (lg_cmp (nm k) (tnT tx n s.2) = 0)) = none) → Ev G mX4_here (ev_room 0 0 0) (ev_MQ G (px (vI (optI (hereO tx n s.2 nm m))) h) 0 0) 3 [some (vR aM), some (vR r), some (vI (nI fi)), some (vI (nI m)), some (vI (nI i))] [] h 0 0) m (fun i hki ihi qi => ?_)) 0 (Nat.zero_le _) (rfl)
  refine r_iload dX4_here_3 rfl ?_
  refine r_iload_n dX4_here_5 rfl ?_
  refine r_icmpN_ge (tgt := 40) dX4_here_6 rfl (by omega) (by omega) (fun c1 => ?_) (fun c1 => ?_)
  · --
    refine r_iconst (v := (-1)) dX4_here_40 (by decide) ?_
    exact r_retx dX4_here_41 rfl rfl (by unfold hereO; rw [← show i = m by omega, qi]; rfl)
  · --
    refine r_aload_n dX4_here_9 rfl ?_
    refine r_getIv fX4_195 (hl.1) (v := nI (tkT tx n s.2)) ((hq.2.2.2.1).2.2.1) rfl dX4_here_10 ?_
    refine r_iconst (v := nI 2) dX4_here_13 (by decide) ?_
    refine r_icmpN_ne (tgt := 34) dX4_here_14 rfl (by omega) (by omega) (fun c2 => ?_) (fun c2 => ?_)
    · --
      refine r_iincN (n := 1) dX4_here_34 rfl rfl (by decide) rfl ?_
      refine r_goto (tgt := 3) dX4_here_37 rfl ?_
      exact ihi (by omega) (first_f qi (by simp [c2]))
    · --
      refine r_aload_n dX4_here_17 rfl ?_
      refine r_iload_n dX4_here_18 rfl ?_
      refine r_iload dX4_here_19 rfl ?_
      refine r_iadd dX4_here_21 ?_
      refine r_top (nI (fi + i)) (nI_add _ _) ?_
      refine r_laldv (hkr) (hLr) (ix_n (by omega) (by omega)) (v := nm i) (hnm i (by omega)) dX4_here_22 ?_
      refine r_aload_n dX4_here_23 rfl ?_
      refine r_getJv fX4_202 (hl.1) (v := tnT tx n s.2) ((hq.2.2.2.1).2.2.2.1 (tkT_le (Or.inr c2))) dX4_here_24 ?_
      refine r_lcmp dX4_here_27 ?_
      refine r_if_ne (tgt := 34) dX4_here_28 rfl (fun c3 => ?_) (fun c3 => ?_)
      · --
        refine r_iincN (n := 1) dX4_here_34 rfl rfl (by decide) rfl ?_
        refine r_goto (tgt := 3) dX4_here_37 rfl ?_
        exact ihi (by omega) (first_f qi (by simp [c2, c3]))
      · --
        refine r_iload dX4_here_31 rfl ?_
        exact r_retx dX4_here_33 rfl rfl (by unfold hereO; rw [show m = i + 1 + (m - i - 1) by omega, first_t qi (by simp [c2, c3])]; rfl)

theorem c_freshN {G : ev_G} {h : ev_H} {tx : Nat → Int32} {n : Nat} {s : (Nat × Nat) × Nat} (hq : MP tx n s h) : Called G mX4_fresh 2 0 0 [vR aM, vI (-1)] h (pJ (fun y h1 => ((freshP tx n none s).1.1 = 0 → y = tnT tx n s.2) ∧ Fj [] [4, 5, 6, 7, 8, 9] [aM] h h1 ∧ MP tx n (freshP tx n none s) h1)) := by
  have hl := hq.1
  have hx := hq.2.1
  have hk6 := tkT_lt tx n s.2
  have hta := taT_le (tx := tx) hq.2.2.1
  have hn := hx.2.1
  have hf8 := hq.2.2.2.2.2.2
  refine called_of rfl [some (vR aM), some (vI (-1)), none, none] rfl (Nat.le_of_ble_eq_true rfl) ?_
  refine r_aload_n dX4_fresh_0 rfl ?_
  refine r_callVx lX4_223 (c_isGood hq.1 hq.2.2.2.2.1) (hl.1) rfl rfl rfl rfl dX4_fresh_1 (Nat.le_refl _) (Nat.le_refl _) ?_
  refine r_ifB_ne (tgt := 9) dX4_fresh_4 rfl (fun c1 => ?_) (fun c1 => ?_)
  · --
    have hg0 : s.1.1 = 0 := nI_z (by omega) (of_decide_eq_true c1)
    refine r_aload_n dX4_fresh_9 rfl ?_
    refine r_getIv fX4_195 (hl.1) (v := nI (tkT tx n s.2)) ((hq.2.2.2.1).2.2.1) rfl dX4_fresh_10 ?_
    refine r_iconst (v := nI 2) dX4_fresh_13 (by decide) ?_
    refine r_icmpN_eq (tgt := 24) dX4_fresh_14 rfl (by omega) (by omega) (fun c2 => ?_) (fun c2 => ?_)
    · --
      refine r_iload_n dX4_fresh_24 rfl ?_
      refine r_if_lt (tgt := 37) dX4_fresh_25 rfl (fun c3 => ?_) (fun c3 => ?_)
      · --
        refine r_aload_n dX4_fresh_37 rfl ?_
        refine r_getJ fX4_202 (hl.1) dX4_fresh_38 ?_
        refine r_lstore_n dX4_fresh_41 (by decide) rfl ?_
        refine r_aload_n dX4_fresh_42 rfl ?_
        refine r_callVx lX4_223 (c_isGood hq.1 hq.2.2.2.2.1) (hl.1) rfl rfl rfl rfl dX4_fresh_43 (Nat.le_refl _) (Nat.le_refl _) ?_
        refine r_ifB_eq (tgt := 53) dX4_fresh_46 rfl (fun c4 => ?_) (fun c4 => ?_)
        · --
          exact absurd (c4.symm.trans c1) (by decide)
        · --
          have en : hJ h aM 10 = tnT tx n s.2 := (hq.2.2.2.1).2.2.2.1 (tkT_le (Or.inr c2))
          refine r_aload_n dX4_fresh_49 rfl ?_
          refine r_callVv lX4_227 (c_goOn hl hx (p := teT tx n s.2) (teT_le hq.2.2.1) hq.2.2.2.1.2.1) (hl.1) rfl rfl rfl rfl dX4_fresh_50 (Nat.le_refl _) (Nat.le_refl _) (fun h3 q3 => ?_)
          obtain ⟨f3, t3⟩ := q3
          have q3 := hq.go f3 t3
          have hl3 := q3.1
          refine r_lload_n dX4_fresh_53 rfl ?_
          have h9 : freshP tx n none s = goP tx n s := by rw [freshP, if_pos hg0, if_pos c2]; rfl
          exact r_retj dX4_fresh_54 rfl (Nat.le_refl _) (Nat.le_refl _) ⟨fun z => en, f3.wk (by simp) (by simp) (by simp), by rw [h9]; exact q3⟩
      · --
        exact absurd (show ((-1) : Int32) < 0 by decide) c3
    · --
      refine r_aload_n dX4_fresh_17 rfl ?_
      refine r_callVv lX4_230 (c_misplaced hq) (hl.1) rfl rfl rfl rfl dX4_fresh_18 (Nat.le_refl _) (Nat.le_refl _) (fun h1 q1 => ?_)
      obtain ⟨f1, q1⟩ := q1
      have hl1 := q1.1
      have hb1 := bad_d (misP_bad tx n s) q1.2.2.2.2.2.2
      refine r_goto (tgt := 37) dX4_fresh_21 rfl ?_
      refine r_aload_n dX4_fresh_37 rfl ?_
      refine r_getJ fX4_202 (hl1.1) dX4_fresh_38 ?_
      refine r_lstore_n dX4_fresh_41 (by decide) rfl ?_
      refine r_aload_n dX4_fresh_42 rfl ?_
      refine r_callVx lX4_223 (c_isGood q1.1 q1.2.2.2.2.1) (hl1.1) rfl rfl rfl rfl dX4_fresh_43 (Nat.le_refl _) (Nat.le_refl _) ?_
      refine r_ifB_eq (tgt := 53) dX4_fresh_46 rfl (fun c5 => ?_) (fun c5 => ?_)
      · --
        refine r_lload_n dX4_fresh_53 rfl ?_
        have h9 : freshP tx n none s = misP tx n s := by rw [freshP, if_pos hg0, if_neg c2]
        exact r_retj dX4_fresh_54 rfl (Nat.le_refl _) (Nat.le_refl _) ⟨fun z => absurd z (by rw [h9]; exact fun z => (misP_bad tx n s z)), f1.wk (by simp) (by simp) (by simp), by rw [h9]; exact q1⟩
      · --
        exact absurd (c5.symm.trans hb1) (by decide)
  · --
    refine r_lconst (v := 0) dX4_fresh_7 (by decide) ?_
    have h9 : freshP tx n none s = s := if_neg (fun e => of_decide_eq_false c1 (by rw [e]; rfl))
    exact r_retj dX4_fresh_8 rfl (Nat.le_refl _) (Nat.le_refl _) ⟨fun z => absurd z (by rw [h9]; exact fun z => (of_decide_eq_false c1 (by rw [z]; rfl))), Fj.rf, by rw [h9]; exact hq⟩

theorem c_freshS {G : ev_G} {h : ev_H} {tx : Nat → Int32} {n : Nat} {s : (Nat × Nat) × Nat} (hq : MP tx n s h) {j : Nat} (hj : j < 2 ^ 31) : Called G mX4_fresh 2 0 0 [vR aM, vI (nI j)] h (pJ (fun y h1 => ((freshP tx n (some j) s).1.1 = 0 → y = tnT tx n s.2) ∧ Fj [] [4, 5, 6, 7, 8, 9] [aM] h h1 ∧ MP tx n (freshP tx n (some j) s) h1)) := by
  have hl := hq.1
  have hx := hq.2.1
  have hk6 := tkT_lt tx n s.2
  have hta := taT_le (tx := tx) hq.2.2.1
  have hn := hx.2.1
  have hf8 := hq.2.2.2.2.2.2
  refine called_of rfl [some (vR aM), some (vI (nI j)), none, none] rfl (Nat.le_of_ble_eq_true rfl) ?_
  refine r_aload_n dX4_fresh_0 rfl ?_
  refine r_callVx lX4_223 (c_isGood hq.1 hq.2.2.2.2.1) (hl.1) rfl rfl rfl rfl dX4_fresh_1 (Nat.le_refl _) (Nat.le_refl _) ?_
  refine r_ifB_ne (tgt := 9) dX4_fresh_4 rfl (fun c1 => ?_) (fun c1 => ?_)
  · --
    have hg0 : s.1.1 = 0 := nI_z (by omega) (of_decide_eq_true c1)
    refine r_aload_n dX4_fresh_9 rfl ?_
    refine r_getIv fX4_195 (hl.1) (v := nI (tkT tx n s.2)) ((hq.2.2.2.1).2.2.1) rfl dX4_fresh_10 ?_
    refine r_iconst (v := nI 2) dX4_fresh_13 (by decide) ?_
    refine r_icmpN_eq (tgt := 24) dX4_fresh_14 rfl (by omega) (by omega) (fun c2 => ?_) (fun c2 => ?_)
    · --
      refine r_iload_n dX4_fresh_24 rfl ?_
      refine r_if_lt (tgt := 37) dX4_fresh_25 rfl (fun c3 => ?_) (fun c3 => ?_)
      · --
        exact absurd c3 (nI_pos (by omega))
      · --
        refine r_aload_n dX4_fresh_28 rfl ?_
        refine r_iconst (v := nI 3) dX4_fresh_29 (by decide) ?_
        refine r_aload_n dX4_fresh_30 rfl ?_
        refine r_getIv fX4_188 (hl.1) (v := nI (taT tx n s.2)) ((hq.2.2.2.1).1) rfl dX4_fresh_31 ?_
        refine r_callVv lX4_219 (c_fails hq (k9 := 3) (pl := (taT tx n s.2)) (by omega)) (hl.1) rfl rfl rfl rfl dX4_fresh_34 (Nat.le_refl _) (Nat.le_refl _) (fun h2 q2 => ?_)
        obtain ⟨f2, q2⟩ := q2
        have hl2 := q2.1
        rw [failP_g hg0] at q2
        have hb2 : decide (nI (((3, taT tx n s.2), s.2) : (Nat × Nat) × Nat).1.1 = 0) = false := bad_d (k := 3) (by decide) (by decide)
        refine r_aload_n dX4_fresh_37 rfl ?_
        refine r_getJ fX4_202 (hl2.1) dX4_fresh_38 ?_
        refine r_lstore_n dX4_fresh_41 (by decide) rfl ?_
        refine r_aload_n dX4_fresh_42 rfl ?_
        refine r_callVx lX4_223 (c_isGood q2.1 q2.2.2.2.2.1) (hl2.1) rfl rfl rfl rfl dX4_fresh_43 (Nat.le_refl _) (Nat.le_refl _) ?_
        refine r_ifB_eq (tgt := 53) dX4_fresh_46 rfl (fun c4 => ?_) (fun c4 => ?_)
        · --
          refine r_lload_n dX4_fresh_53 rfl ?_
          have h9 : freshP tx n (some j) s = ((3, taT tx n s.2), s.2) := by rw [freshP, if_pos hg0, if_pos c2]; rfl
          exact r_retj dX4_fresh_54 rfl (Nat.le_refl _) (Nat.le_refl _) ⟨fun z => absurd z (by rw [h9]; exact fun z => (by cases z)), f2.wk (by simp) (by simp) (by simp), by rw [h9]; exact q2⟩
        · --
          exact absurd (c4.symm.trans hb2) (by decide)
    · --
      refine r_aload_n dX4_fresh_17 rfl ?_
      refine r_callVv lX4_230 (c_misplaced hq) (hl.1) rfl rfl rfl rfl dX4_fresh_18 (Nat.le_refl _) (Nat.le_refl _) (fun h1 q1 => ?_)
      obtain ⟨f1, q1⟩ := q1
      have hl1 := q1.1
      have hb1 := bad_d (misP_bad tx n s) q1.2.2.2.2.2.2
      refine r_goto (tgt := 37) dX4_fresh_21 rfl ?_
      refine r_aload_n dX4_fresh_37 rfl ?_
      refine r_getJ fX4_202 (hl1.1) dX4_fresh_38 ?_
      refine r_lstore_n dX4_fresh_41 (by decide) rfl ?_
      refine r_aload_n dX4_fresh_42 rfl ?_
      refine r_callVx lX4_223 (c_isGood q1.1 q1.2.2.2.2.1) (hl1.1) rfl rfl rfl rfl dX4_fresh_43 (Nat.le_refl _) (Nat.le_refl _) ?_
      refine r_ifB_eq (tgt := 53) dX4_fresh_46 rfl (fun c5 => ?_) (fun c5 => ?_)
      · --
        refine r_lload_n dX4_fresh_53 rfl ?_
        have h9 : freshP tx n (some j) s = misP tx n s := by rw [freshP, if_pos hg0, if_neg c2]
        exact r_retj dX4_fresh_54 rfl (Nat.le_refl _) (Nat.le_refl _) ⟨fun z => absurd z (by rw [h9]; exact fun z => (misP_bad tx n s z)), f1.wk (by simp) (by simp) (by simp), by rw [h9]; exact q1⟩
      · --
        exact absurd (c5.symm.trans hb1) (by decide)
  · --
    refine r_lconst (v := 0) dX4_fresh_7 (by decide) ?_
    have h9 : freshP tx n (some j) s = s := if_neg (fun e => of_decide_eq_false c1 (by rw [e]; rfl))
    exact r_retj dX4_fresh_8 rfl (Nat.le_refl _) (Nat.le_refl _) ⟨fun z => absurd z (by rw [h9]; exact fun z => (of_decide_eq_false c1 (by rw [z]; rfl))), Fj.rf, by rw [h9]; exact hq⟩

theorem c_knownN {G : ev_G} {h : ev_H} {tx : Nat → Int32} {n : Nat} {s : (Nat × Nat) × Nat} (hq : MP tx n s h) : Called G mX4_known 2 0 0 [vR aM, vI (-1)] h (pI (fun y h1 => ((knownP tx n none s).1.1 = 0 → y = (-1)) ∧ Fj [] [4, 5, 6, 7, 8, 9] [aM] h h1 ∧ MP tx n (knownP tx n none s) h1)) := by
  have hl := hq.1
  have hx := hq.2.1
  have hk6 := tkT_lt tx n s.2
  have hta := taT_le (tx := tx) hq.2.2.1
  have hn := hx.2.1
  have hf8 := hq.2.2.2.2.2.2
  refine called_of rfl [some (vR aM), some (vI (-1))] rfl (Nat.le_of_ble_eq_true rfl) ?_
  refine r_aload_n dX4_known_0 rfl ?_
  refine r_callVx lX4_223 (c_isGood hq.1 hq.2.2.2.2.1) (hl.1) rfl rfl rfl rfl dX4_known_1 (Nat.le_refl _) (Nat.le_refl _) ?_
  refine r_ifB_ne (tgt := 9) dX4_known_4 rfl (fun c1 => ?_) (fun c1 => ?_)
  · --
    have hg0 : s.1.1 = 0 := nI_z (by omega) (of_decide_eq_true c1)
    refine r_aload_n dX4_known_9 rfl ?_
    refine r_getIv fX4_195 (hl.1) (v := nI (tkT tx n s.2)) ((hq.2.2.2.1).2.2.1) rfl dX4_known_10 ?_
    refine r_iconst (v := nI 2) dX4_known_13 (by decide) ?_
    refine r_icmpN_eq (tgt := 24) dX4_known_14 rfl (by omega) (by omega) (fun c2 => ?_) (fun c2 => ?_)
    · --
      refine r_iload_n dX4_known_24 rfl ?_
      refine r_if_ge (tgt := 40) dX4_known_25 rfl (fun c3 => ?_) (fun c3 => ?_)
      · --
        exact absurd c3 (show ¬ (0 : Int32) ≤ (-1) by decide)
      · --
        refine r_aload_n dX4_known_28 rfl ?_
        refine r_iconst (v := nI 5) dX4_known_29 (by decide) ?_
        refine r_aload_n dX4_known_30 rfl ?_
        refine r_getIv fX4_188 (hl.1) (v := nI (taT tx n s.2)) ((hq.2.2.2.1).1) rfl dX4_known_31 ?_
        refine r_callVv lX4_219 (c_fails hq (k9 := 5) (pl := (taT tx n s.2)) (by omega)) (hl.1) rfl rfl rfl rfl dX4_known_34 (Nat.le_refl _) (Nat.le_refl _) (fun h2 q2 => ?_)
        obtain ⟨f2, q2⟩ := q2
        have hl2 := q2.1
        rw [failP_g hg0] at q2
        have hb2 : decide (nI (((5, taT tx n s.2), s.2) : (Nat × Nat) × Nat).1.1 = 0) = false := bad_d (k := 5) (by decide) (by decide)
        refine r_goto (tgt := 44) dX4_known_37 rfl ?_
        refine r_iload_n dX4_known_44 rfl ?_
        refine r_if_ge (tgt := 52) dX4_known_45 rfl (fun c4 => ?_) (fun c4 => ?_)
        · --
          exact absurd c4 (show ¬ (0 : Int32) ≤ (-1) by decide)
        · --
          refine r_iconst (v := nI 0) dX4_known_48 (by decide) ?_
          refine r_goto (tgt := 53) dX4_known_49 rfl ?_
          have h9 : knownP tx n none s = ((5, taT tx n s.2), s.2) := by rw [knownP, if_pos hg0, if_pos c2]; rfl
          exact r_reti dX4_known_53 rfl rfl (Nat.le_refl _) (Nat.le_refl _) ⟨fun z => absurd z (by rw [h9]; exact fun z => (by cases z)), f2.wk (by simp) (by simp) (by simp), by rw [h9]; exact q2⟩
    · --
      refine r_aload_n dX4_known_17 rfl ?_
      refine r_callVv lX4_230 (c_misplaced hq) (hl.1) rfl rfl rfl rfl dX4_known_18 (Nat.le_refl _) (Nat.le_refl _) (fun h1 q1 => ?_)
      obtain ⟨f1, q1⟩ := q1
      have hl1 := q1.1
      have hb1 := bad_d (misP_bad tx n s) q1.2.2.2.2.2.2
      refine r_goto (tgt := 44) dX4_known_21 rfl ?_
      refine r_iload_n dX4_known_44 rfl ?_
      refine r_if_ge (tgt := 52) dX4_known_45 rfl (fun c5 => ?_) (fun c5 => ?_)
      · --
        exact absurd c5 (show ¬ (0 : Int32) ≤ (-1) by decide)
      · --
        refine r_iconst (v := nI 0) dX4_known_48 (by decide) ?_
        refine r_goto (tgt := 53) dX4_known_49 rfl ?_
        have h9 : knownP tx n none s = misP tx n s := by rw [knownP, if_pos hg0, if_neg c2]
        exact r_reti dX4_known_53 rfl rfl (Nat.le_refl _) (Nat.le_refl _) ⟨fun z => absurd z (by rw [h9]; exact fun z => (misP_bad tx n s z)), f1.wk (by simp) (by simp) (by simp), by rw [h9]; exact q1⟩
  · --
    refine r_iconst (v := nI 0) dX4_known_7 (by decide) ?_
    have h9 : knownP tx n none s = s := if_neg (fun e => of_decide_eq_false c1 (by rw [e]; rfl))
    exact r_reti dX4_known_8 rfl rfl (Nat.le_refl _) (Nat.le_refl _) ⟨fun z => absurd z (by rw [h9]; exact fun z => (of_decide_eq_false c1 (by rw [z]; rfl))), Fj.rf, by rw [h9]; exact hq⟩

theorem c_knownS {G : ev_G} {h : ev_H} {tx : Nat → Int32} {n : Nat} {s : (Nat × Nat) × Nat} (hq : MP tx n s h) {j : Nat} (hj : j < 2 ^ 31) : Called G mX4_known 2 0 0 [vR aM, vI (nI j)] h (pI (fun y h1 => ((knownP tx n (some j) s).1.1 = 0 → y = nI j) ∧ Fj [] [4, 5, 6, 7, 8, 9] [aM] h h1 ∧ MP tx n (knownP tx n (some j) s) h1)) := by
  have hl := hq.1
  have hx := hq.2.1
  have hk6 := tkT_lt tx n s.2
  have hta := taT_le (tx := tx) hq.2.2.1
  have hn := hx.2.1
  have hf8 := hq.2.2.2.2.2.2
  refine called_of rfl [some (vR aM), some (vI (nI j))] rfl (Nat.le_of_ble_eq_true rfl) ?_
  refine r_aload_n dX4_known_0 rfl ?_
  refine r_callVx lX4_223 (c_isGood hq.1 hq.2.2.2.2.1) (hl.1) rfl rfl rfl rfl dX4_known_1 (Nat.le_refl _) (Nat.le_refl _) ?_
  refine r_ifB_ne (tgt := 9) dX4_known_4 rfl (fun c1 => ?_) (fun c1 => ?_)
  · --
    have hg0 : s.1.1 = 0 := nI_z (by omega) (of_decide_eq_true c1)
    refine r_aload_n dX4_known_9 rfl ?_
    refine r_getIv fX4_195 (hl.1) (v := nI (tkT tx n s.2)) ((hq.2.2.2.1).2.2.1) rfl dX4_known_10 ?_
    refine r_iconst (v := nI 2) dX4_known_13 (by decide) ?_
    refine r_icmpN_eq (tgt := 24) dX4_known_14 rfl (by omega) (by omega) (fun c2 => ?_) (fun c2 => ?_)
    · --
      refine r_iload_n dX4_known_24 rfl ?_
      refine r_if_ge (tgt := 40) dX4_known_25 rfl (fun c3 => ?_) (fun c3 => ?_)
      · --
        refine r_aload_n dX4_known_40 rfl ?_
        refine r_callVv lX4_227 (c_goOn hl hx (p := teT tx n s.2) (teT_le hq.2.2.1) hq.2.2.2.1.2.1) (hl.1) rfl rfl rfl rfl dX4_known_41 (Nat.le_refl _) (Nat.le_refl _) (fun h3 q3 => ?_)
        obtain ⟨f3, t3⟩ := q3
        have q3 := hq.go f3 t3
        have hl3 := q3.1
        refine r_iload_n dX4_known_44 rfl ?_
        refine r_if_ge (tgt := 52) dX4_known_45 rfl (fun c4 => ?_) (fun c4 => ?_)
        · --
          refine r_iload_n dX4_known_52 rfl ?_
          have h9 : knownP tx n (some j) s = goP tx n s := by rw [knownP, if_pos hg0, if_pos c2]; rfl
          exact r_reti dX4_known_53 rfl rfl (Nat.le_refl _) (Nat.le_refl _) ⟨fun z => rfl, f3.wk (by simp) (by simp) (by simp), by rw [h9]; exact q3⟩
        · --
          exact absurd (nI_pos' (by omega)) c4
      · --
        exact absurd (nI_pos' (by omega)) c3
    · --
      refine r_aload_n dX4_known_17 rfl ?_
      refine r_callVv lX4_230 (c_misplaced hq) (hl.1) rfl rfl rfl rfl dX4_known_18 (Nat.le_refl _) (Nat.le_refl _) (fun h1 q1 => ?_)
      obtain ⟨f1, q1⟩ := q1
      have hl1 := q1.1
      have hb1 := bad_d (misP_bad tx n s) q1.2.2.2.2.2.2
      refine r_goto (tgt := 44) dX4_known_21 rfl ?_
      refine r_iload_n dX4_known_44 rfl ?_
      refine r_if_ge (tgt := 52) dX4_known_45 rfl (fun c5 => ?_) (fun c5 => ?_)
      · --
        refine r_iload_n dX4_known_52 rfl ?_
        have h9 : knownP tx n (some j) s = misP tx n s := by rw [knownP, if_pos hg0, if_neg c2]
        exact r_reti dX4_known_53 rfl rfl (Nat.le_refl _) (Nat.le_refl _) ⟨fun z => absurd z (by rw [h9]; exact fun z => (misP_bad tx n s z)), f1.wk (by simp) (by simp) (by simp), by rw [h9]; exact q1⟩
      · --
        exact absurd (nI_pos' (by omega)) c5
  · --
    refine r_iconst (v := nI 0) dX4_known_7 (by decide) ?_
    have h9 : knownP tx n (some j) s = s := if_neg (fun e => of_decide_eq_false c1 (by rw [e]; rfl))
    exact r_reti dX4_known_8 rfl rfl (Nat.le_refl _) (Nat.le_refl _) ⟨fun z => absurd z (by rw [h9]; exact fun z => (of_decide_eq_false c1 (by rw [z]; rfl))), Fj.rf, by rw [h9]; exact hq⟩
