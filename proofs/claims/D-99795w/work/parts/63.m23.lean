/-! ===== THE REFERENCE: what stands here, faults (walks by program) ===== -/
set_option maxRecDepth 100000

theorem c_isSignHere {G : ev_G} {h : ev_H} {tx : Nat → Int32} {n : Nat} {s : (Nat × Nat) × Nat} (hq : MP tx n s h) (c : Int32) : Called G mX4_isSignHere 1 0 0 [vR aM, vI c] h (px (vI (b2i (sgH tx n s.2 c))) h) := by
  have hl := hq.1
  have hx := hq.2.1
  have hk6 := tkT_lt tx n s.2
  have hta := taT_le (tx := tx) hq.2.2.1
  have hn := hx.2.1
  have hf8 := hq.2.2.2.2.2.2
  refine called_of rfl [some (vR aM), some (vI c)] rfl (Nat.le_of_ble_eq_true rfl) ?_
  refine r_aload_n dX4_isSignHere_0 rfl ?_
  refine r_getIv fX4_195 (hl.1) (v := nI (tkT tx n s.2)) ((hq.2.2.2.1).2.2.1) rfl dX4_isSignHere_1 ?_
  refine r_iconst (v := nI 5) dX4_isSignHere_4 (by decide) ?_
  refine r_icmpN_ne (tgt := 24) dX4_isSignHere_5 rfl (by omega) (by omega) (fun c1 => ?_) (fun c1 => ?_)
  · --
    refine r_iconst (v := nI 0) dX4_isSignHere_24 (by decide) ?_
    exact r_ret0 dX4_isSignHere_25 rfl (by simp [sgH, c1])
  · --
    refine r_aload_n dX4_isSignHere_8 rfl ?_
    refine r_aload_n dX4_isSignHere_9 rfl ?_
    refine r_getIv fX4_188 (hl.1) (v := nI (taT tx n s.2)) ((hq.2.2.2.1).1) rfl dX4_isSignHere_10 ?_
    refine r_callVx lX4_191 (c_sign hl hx (k9 := (taT tx n s.2)) (by omega)) (hl.1) rfl rfl rfl rfl dX4_isSignHere_13 (Nat.le_refl _) (Nat.le_refl _) ?_
    refine r_iload_n dX4_isSignHere_16 rfl ?_
    refine r_icmp_ne (tgt := 24) dX4_isSignHere_17 rfl (fun c2 => ?_) (fun c2 => ?_)
    · --
      refine r_iconst (v := nI 0) dX4_isSignHere_24 (by decide) ?_
      exact r_ret0 dX4_isSignHere_25 rfl (by simp [sgH, c1, c2])
    · --
      refine r_iconst (v := nI 1) dX4_isSignHere_20 (by decide) ?_
      refine r_goto (tgt := 25) dX4_isSignHere_21 rfl ?_
      exact r_ret1 dX4_isSignHere_25 rfl (by simp [sgH, c1, c2])

theorem c_isWord {G : ev_G} {h : ev_H} {tx : Nat → Int32} {n : Nat} {s : (Nat × Nat) × Nat} (hq : MP tx n s h) (c : Int64) : Called G mX4_isWord 0 0 0 [vR aM, vJ c] h (px (vI (b2i (woH tx n s.2 c))) h) := by
  have hl := hq.1
  have hx := hq.2.1
  have hk6 := tkT_lt tx n s.2
  have hta := taT_le (tx := tx) hq.2.2.1
  have hn := hx.2.1
  have hf8 := hq.2.2.2.2.2.2
  refine called_of rfl [some (vR aM), some (vJ c), none] rfl (Nat.le_of_ble_eq_true rfl) ?_
  refine r_aload_n dX4_isWord_0 rfl ?_
  refine r_getIv fX4_195 (hl.1) (v := nI (tkT tx n s.2)) ((hq.2.2.2.1).2.2.1) rfl dX4_isWord_1 ?_
  refine r_iconst (v := nI 3) dX4_isWord_4 (by decide) ?_
  refine r_icmpN_ne (tgt := 21) dX4_isWord_5 rfl (by omega) (by omega) (fun c1 => ?_) (fun c1 => ?_)
  · --
    refine r_iconst (v := nI 0) dX4_isWord_21 (by decide) ?_
    exact r_ret0 dX4_isWord_22 rfl (by simp [woH, c1])
  · --
    refine r_aload_n dX4_isWord_8 rfl ?_
    refine r_getJv fX4_202 (hl.1) (v := tnT tx n s.2) ((hq.2.2.2.1).2.2.2.1 (tkT_le (Or.inl c1))) dX4_isWord_9 ?_
    refine r_lload_n dX4_isWord_12 rfl ?_
    refine r_lcmp dX4_isWord_13 ?_
    refine r_if_ne (tgt := 21) dX4_isWord_14 rfl (fun c2 => ?_) (fun c2 => ?_)
    · --
      refine r_iconst (v := nI 0) dX4_isWord_21 (by decide) ?_
      exact r_ret0 dX4_isWord_22 rfl (by simp [woH, c1, c2])
    · --
      refine r_iconst (v := nI 1) dX4_isWord_17 (by decide) ?_
      refine r_goto (tgt := 22) dX4_isWord_18 rfl ?_
      exact r_ret1 dX4_isWord_22 rfl (by simp [woH, c1, c2])

theorem c_fails {G : ev_G} {h : ev_H} {tx : Nat → Int32} {n : Nat} {s : (Nat × Nat) × Nat} (hq : MP tx n s h) {k9 pl : Nat} (hk : k9 < 8) : Called G mX4_fails 0 0 0 [vR aM, vI (nI k9), vI (nI pl)] h (p0 (fun h1 => Fj [] [4, 5] [] h h1 ∧ MP tx n (failP s.1 k9 pl, s.2) h1)) := by
  have hl := hq.1
  have hx := hq.2.1
  have hk6 := tkT_lt tx n s.2
  have hta := taT_le (tx := tx) hq.2.2.1
  have hn := hx.2.1
  have hf8 := hq.2.2.2.2.2.2
  refine called_of rfl [some (vR aM), some (vI (nI k9)), some (vI (nI pl))] rfl (Nat.le_of_ble_eq_true rfl) ?_
  refine r_aload_n dX4_fails_0 rfl ?_
  refine r_getIv fX4_146 (hl.1) (v := nI s.1.1) (hq.2.2.2.2.1) rfl dX4_fails_1 ?_
  refine r_if_le (tgt := 8) dX4_fails_4 rfl (fun c1 => ?_) (fun c1 => ?_)
  · --
    refine r_aload_n dX4_fails_8 rfl ?_
    refine r_iload_n dX4_fails_9 rfl ?_
    refine r_putN fX4_146 (hl.1) (by decide) dX4_fails_10 ?_
    refine r_aload_n dX4_fails_13 rfl ?_
    refine r_iload_n dX4_fails_14 rfl ?_
    refine r_putN fX4_16 (hl.1) (by decide) dX4_fails_15 ?_
    exact r_retv dX4_fails_18 rfl (Nat.le_refl _) (Nat.le_refl _) ⟨(Fj.rf.sf 4 _ (by decide)).sf 5 _ (by decide), by rw [failP_g (nI_le0 (by omega) c1)]; exact hq.setF hk⟩
  · --
    exact r_retv dX4_fails_7 rfl (Nat.le_refl _) (Nat.le_refl _) ⟨Fj.rf, by rw [failP_b (fun e => c1 (by rw [e]; decide))]; exact hq⟩

theorem c_misplaced {G : ev_G} {h : ev_H} {tx : Nat → Int32} {n : Nat} {s : (Nat × Nat) × Nat} (hq : MP tx n s h) : Called G mX4_misplaced 1 0 0 [vR aM] h (p0 (fun h1 => Fj [] [4, 5] [] h h1 ∧ MP tx n (misP tx n s) h1)) := by
  have hl := hq.1
  have hx := hq.2.1
  have hk6 := tkT_lt tx n s.2
  have hta := taT_le (tx := tx) hq.2.2.1
  have hn := hx.2.1
  have hf8 := hq.2.2.2.2.2.2
  refine called_of rfl [some (vR aM)] rfl (Nat.le_of_ble_eq_true rfl) ?_
  refine r_aload_n dX4_misplaced_0 rfl ?_
  refine r_aload_n dX4_misplaced_1 rfl ?_
  refine r_getIv fX4_195 (hl.1) (v := nI (tkT tx n s.2)) ((hq.2.2.2.1).2.2.1) rfl dX4_misplaced_2 ?_
  refine r_iconst (v := nI 1) dX4_misplaced_5 (by decide) ?_
  refine r_icmpN_ne (tgt := 13) dX4_misplaced_6 rfl (by omega) (by omega) (fun c1 => ?_) (fun c1 => ?_)
  · --
    refine r_iconst (v := nI 2) dX4_misplaced_13 (by decide) ?_
    refine r_aload_n dX4_misplaced_14 rfl ?_
    refine r_getIv fX4_188 (hl.1) (v := nI (taT tx n s.2)) ((hq.2.2.2.1).1) rfl dX4_misplaced_15 ?_
    refine r_callVv lX4_219 (c_fails hq (k9 := 2) (pl := (taT tx n s.2)) (by omega)) (hl.1) rfl rfl rfl rfl dX4_misplaced_18 (Nat.le_refl _) (Nat.le_refl _) (fun h1 q1 => ?_)
    obtain ⟨f1, q1⟩ := q1
    exact r_retv dX4_misplaced_21 rfl (Nat.le_refl _) (Nat.le_refl _) ⟨f1, by rw [misP, if_neg c1]; exact q1⟩
  · --
    refine r_iconst (v := nI 1) dX4_misplaced_9 (by decide) ?_
    refine r_goto (tgt := 14) dX4_misplaced_10 rfl ?_
    refine r_aload_n dX4_misplaced_14 rfl ?_
    refine r_getIv fX4_188 (hl.1) (v := nI (taT tx n s.2)) ((hq.2.2.2.1).1) rfl dX4_misplaced_15 ?_
    refine r_callVv lX4_219 (c_fails hq (k9 := 1) (pl := (taT tx n s.2)) (by omega)) (hl.1) rfl rfl rfl rfl dX4_misplaced_18 (Nat.le_refl _) (Nat.le_refl _) (fun h1 q1 => ?_)
    obtain ⟨f1, q1⟩ := q1
    exact r_retv dX4_misplaced_21 rfl (Nat.le_refl _) (Nat.le_refl _) ⟨f1, by rw [misP, if_pos c1]; exact q1⟩

theorem c_must {G : ev_G} {h : ev_H} {tx : Nat → Int32} {n : Nat} {s : (Nat × Nat) × Nat} (hq : MP tx n s h) (c : Bool) : Called G mX4_must 2 0 0 [vR aM, vI (b2i c)] h (p0 (fun h1 => Fj [] [4, 5, 6, 7, 8, 9] [aM] h h1 ∧ MP tx n (mustP tx n c s) h1)) := by
  have hl := hq.1
  have hx := hq.2.1
  have hk6 := tkT_lt tx n s.2
  have hta := taT_le (tx := tx) hq.2.2.1
  have hn := hx.2.1
  have hf8 := hq.2.2.2.2.2.2
  refine called_of rfl [some (vR aM), some (vI (b2i c))] rfl (Nat.le_of_ble_eq_true rfl) ?_
  refine r_aload_n dX4_must_0 rfl ?_
  refine r_callVx lX4_223 (c_isGood hl hq.2.2.2.2.1) (hl.1) rfl rfl rfl rfl dX4_must_1 (Nat.le_refl _) (Nat.le_refl _) ?_
  refine r_ifB_ne (tgt := 8) dX4_must_4 rfl (fun c1 => ?_) (fun c1 => ?_)
  · --
    refine r_iload_n dX4_must_8 rfl ?_
    refine r_ifB_eq (tgt := 19) dX4_must_9 rfl (fun c2 => ?_) (fun c2 => ?_)
    · --
      refine r_aload_n dX4_must_19 rfl ?_
      refine r_callVv lX4_230 (c_misplaced hq) (hl.1) rfl rfl rfl rfl dX4_must_20 (Nat.le_refl _) (Nat.le_refl _) (fun h1 q1 => ?_)
      obtain ⟨f1, q1⟩ := q1
      exact r_retv dX4_must_23 rfl (Nat.le_refl _) (Nat.le_refl _) ⟨f1.wk (by simp) (by simp) (by simp), by rw [mustP_f (nI_z (by omega) (of_decide_eq_true c1)) c2]; exact q1⟩
    · --
      refine r_aload_n dX4_must_12 rfl ?_
      refine r_callVv lX4_227 (c_goOn hl hx (p := teT tx n s.2) (teT_le hq.2.2.1) hq.2.2.2.1.2.1) (hl.1) rfl rfl rfl rfl dX4_must_13 (Nat.le_refl _) (Nat.le_refl _) (fun h1 q1 => ?_)
      obtain ⟨f1, t1⟩ := q1
      have q1 := hq.go f1 t1
      refine r_goto (tgt := 23) dX4_must_16 rfl ?_
      exact r_retv dX4_must_23 rfl (Nat.le_refl _) (Nat.le_refl _) ⟨f1.wk (by simp) (by simp) (by simp), by rw [mustP_t (nI_z (by omega) (of_decide_eq_true c1)) c2]; exact q1⟩
  · --
    exact r_retv dX4_must_7 rfl (Nat.le_refl _) (Nat.le_refl _) ⟨Fj.rf, by rw [mustP_b (fun e => of_decide_eq_false c1 (by rw [e]; rfl))]; exact hq⟩

theorem c_numeral {G : ev_G} {h : ev_H} {tx : Nat → Int32} {n : Nat} {s : (Nat × Nat) × Nat} (hq : MP tx n s h) {lo hi : Nat} : Called G mX4_numeral 2 0 0 [vR aM, vI (nI lo), vI (nI hi)] h (pI (fun y h1 => y = numV tx n lo hi s ∧ Fj [] [4, 5, 6, 7, 8, 9] [aM] h h1 ∧ MP tx n (numP tx n lo hi s) h1)) := by
  have hl := hq.1
  have hx := hq.2.1
  have hk6 := tkT_lt tx n s.2
  have hta := taT_le (tx := tx) hq.2.2.1
  have hn := hx.2.1
  have hf8 := hq.2.2.2.2.2.2
  refine called_of rfl [some (vR aM), some (vI (nI lo)), some (vI (nI hi)), none] rfl (Nat.le_of_ble_eq_true rfl) ?_
  refine r_aload_n dX4_numeral_0 rfl ?_
  refine r_callVx lX4_223 (c_isGood hq.1 hq.2.2.2.2.1) (hl.1) rfl rfl rfl rfl dX4_numeral_1 (Nat.le_refl _) (Nat.le_refl _) ?_
  refine r_ifB_ne (tgt := 9) dX4_numeral_4 rfl (fun c1 => ?_) (fun c1 => ?_)
  · --
    have hg0 : s.1.1 = 0 := nI_z (by omega) (of_decide_eq_true c1)
    refine r_aload_n dX4_numeral_9 rfl ?_
    refine r_getIv fX4_195 (hl.1) (v := nI (tkT tx n s.2)) ((hq.2.2.2.1).2.2.1) rfl dX4_numeral_10 ?_
    refine r_iconst (v := nI 4) dX4_numeral_13 (by decide) ?_
    refine r_icmpN_eq (tgt := 21) dX4_numeral_14 rfl (by omega) (by omega) (fun c2 => ?_) (fun c2 => ?_)
    · --
      refine r_aload_n dX4_numeral_21 rfl ?_
      refine r_callVx lX4_223 (c_isGood hq.1 hq.2.2.2.2.1) (hl.1) rfl rfl rfl rfl dX4_numeral_22 (Nat.le_refl _) (Nat.le_refl _) ?_
      refine r_ifB_eq (tgt := 53) dX4_numeral_25 rfl (fun c3 => ?_) (fun c3 => ?_)
      · --
        exact absurd (c3.symm.trans c1) (by decide)
      · --
        refine r_aload_n dX4_numeral_28 rfl ?_
        refine r_getIv fX4_213 (hl.1) (v := tvT tx n s.2) ((hq.2.2.2.1).2.2.2.2 (tkT_di c2)) rfl dX4_numeral_29 ?_
        refine r_iload_n dX4_numeral_32 rfl ?_
        refine r_icmp_lt (tgt := 44) dX4_numeral_33 rfl (fun c4 => ?_) (fun c4 => ?_)
        · --
          refine r_aload_n dX4_numeral_44 rfl ?_
          refine r_iconst (v := nI 4) dX4_numeral_45 (by decide) ?_
          refine r_aload_n dX4_numeral_46 rfl ?_
          refine r_getIv fX4_188 (hl.1) (v := nI (taT tx n s.2)) ((hq.2.2.2.1).1) rfl dX4_numeral_47 ?_
          refine r_callVv lX4_219 (c_fails hq (k9 := 4) (pl := (taT tx n s.2)) (by omega)) (hl.1) rfl rfl rfl rfl dX4_numeral_50 (Nat.le_refl _) (Nat.le_refl _) (fun h2 q2 => ?_)
          obtain ⟨f2, q2⟩ := q2
          have hl2 := q2.1
          rw [failP_g hg0] at q2
          have hb2 : decide (nI (((4, taT tx n s.2), s.2) : (Nat × Nat) × Nat).1.1 = 0) = false := bad_d (k := 4) (by decide) (by decide)
          refine r_aload_n dX4_numeral_53 rfl ?_
          refine r_getI fX4_213 (hl2.1) rfl dX4_numeral_54 ?_
          refine r_istore_n dX4_numeral_57 (by decide) rfl ?_
          refine r_aload_n dX4_numeral_58 rfl ?_
          refine r_callVx lX4_223 (c_isGood q2.1 q2.2.2.2.2.1) (hl2.1) rfl rfl rfl rfl dX4_numeral_59 (Nat.le_refl _) (Nat.le_refl _) ?_
          refine r_ifB_eq (tgt := 69) dX4_numeral_62 rfl (fun c5 => ?_) (fun c5 => ?_)
          · --
            refine r_aload_n dX4_numeral_69 rfl ?_
            refine r_callVx lX4_223 (c_isGood q2.1 q2.2.2.2.2.1) (hl2.1) rfl rfl rfl rfl dX4_numeral_70 (Nat.le_refl _) (Nat.le_refl _) ?_
            refine r_ifB_eq (tgt := 80) dX4_numeral_73 rfl (fun c6 => ?_) (fun c6 => ?_)
            · --
              refine r_iload_n dX4_numeral_80 rfl ?_
              exact r_reti dX4_numeral_81 rfl rfl (Nat.le_refl _) (Nat.le_refl _) (by have h9 := numP_4 (tx := tx) (n := n) (lo := lo) (hi := hi) hg0 c2 (Or.inl c4); exact ⟨h9.2.symm, f2.wk (by simp) (by simp) (by simp), by rw [h9.1]; exact q2⟩)
            · --
              exact absurd (c6.symm.trans hb2) (by decide)
          · --
            exact absurd (c5.symm.trans hb2) (by decide)
        · --
          refine r_aload_n dX4_numeral_36 rfl ?_
          refine r_getIv fX4_213 (hl.1) (v := tvT tx n s.2) ((hq.2.2.2.1).2.2.2.2 (tkT_di c2)) rfl dX4_numeral_37 ?_
          refine r_iload_n dX4_numeral_40 rfl ?_
          refine r_icmp_le (tgt := 53) dX4_numeral_41 rfl (fun c7 => ?_) (fun c7 => ?_)
          · --
            refine r_aload_n dX4_numeral_53 rfl ?_
            refine r_getIv fX4_213 (hl.1) (v := tvT tx n s.2) ((hq.2.2.2.1).2.2.2.2 (tkT_di c2)) rfl dX4_numeral_54 ?_
            refine r_istore_n dX4_numeral_57 (by decide) rfl ?_
            refine r_aload_n dX4_numeral_58 rfl ?_
            refine r_callVx lX4_223 (c_isGood hq.1 hq.2.2.2.2.1) (hl.1) rfl rfl rfl rfl dX4_numeral_59 (Nat.le_refl _) (Nat.le_refl _) ?_
            refine r_ifB_eq (tgt := 69) dX4_numeral_62 rfl (fun c8 => ?_) (fun c8 => ?_)
            · --
              exact absurd (c8.symm.trans c1) (by decide)
            · --
              refine r_aload_n dX4_numeral_65 rfl ?_
              refine r_callVv lX4_227 (c_goOn hl hx (p := teT tx n s.2) (teT_le hq.2.2.1) hq.2.2.2.1.2.1) (hl.1) rfl rfl rfl rfl dX4_numeral_66 (Nat.le_refl _) (Nat.le_refl _) (fun h3 q3 => ?_)
              obtain ⟨f3, t3⟩ := q3
              have q3 := hq.go f3 t3
              have hl3 := q3.1
              refine r_aload_n dX4_numeral_69 rfl ?_
              refine r_callVx lX4_223 (c_isGood q3.1 q3.2.2.2.2.1) (hl3.1) rfl rfl rfl rfl dX4_numeral_70 (Nat.le_refl _) (Nat.le_refl _) ?_
              refine r_ifB_eq (tgt := 80) dX4_numeral_73 rfl (fun c9 => ?_) (fun c9 => ?_)
              · --
                exact absurd (c9.symm.trans c1) (by decide)
              · --
                refine r_iload_n dX4_numeral_76 rfl ?_
                refine r_goto (tgt := 81) dX4_numeral_77 rfl ?_
                exact r_reti dX4_numeral_81 rfl rfl (Nat.le_refl _) (Nat.le_refl _) (by have h9 := numP_g (tx := tx) (n := n) (lo := lo) (hi := hi) hg0 c2 (fun z => z.elim c4 (fun y => absurd c7 (Int32.not_le.mpr y))); exact ⟨h9.2.symm, f3.wk (by simp) (by simp) (by simp), by rw [h9.1]; exact q3⟩)
          · --
            refine r_aload_n dX4_numeral_44 rfl ?_
            refine r_iconst (v := nI 4) dX4_numeral_45 (by decide) ?_
            refine r_aload_n dX4_numeral_46 rfl ?_
            refine r_getIv fX4_188 (hl.1) (v := nI (taT tx n s.2)) ((hq.2.2.2.1).1) rfl dX4_numeral_47 ?_
            refine r_callVv lX4_219 (c_fails hq (k9 := 4) (pl := (taT tx n s.2)) (by omega)) (hl.1) rfl rfl rfl rfl dX4_numeral_50 (Nat.le_refl _) (Nat.le_refl _) (fun h2 q2 => ?_)
            obtain ⟨f2, q2⟩ := q2
            have hl2 := q2.1
            rw [failP_g hg0] at q2
            have hb2 : decide (nI (((4, taT tx n s.2), s.2) : (Nat × Nat) × Nat).1.1 = 0) = false := bad_d (k := 4) (by decide) (by decide)
            refine r_aload_n dX4_numeral_53 rfl ?_
            refine r_getI fX4_213 (hl2.1) rfl dX4_numeral_54 ?_
            refine r_istore_n dX4_numeral_57 (by decide) rfl ?_
            refine r_aload_n dX4_numeral_58 rfl ?_
            refine r_callVx lX4_223 (c_isGood q2.1 q2.2.2.2.2.1) (hl2.1) rfl rfl rfl rfl dX4_numeral_59 (Nat.le_refl _) (Nat.le_refl _) ?_
            refine r_ifB_eq (tgt := 69) dX4_numeral_62 rfl (fun c10 => ?_) (fun c10 => ?_)
            · --
              refine r_aload_n dX4_numeral_69 rfl ?_
              refine r_callVx lX4_223 (c_isGood q2.1 q2.2.2.2.2.1) (hl2.1) rfl rfl rfl rfl dX4_numeral_70 (Nat.le_refl _) (Nat.le_refl _) ?_
              refine r_ifB_eq (tgt := 80) dX4_numeral_73 rfl (fun c11 => ?_) (fun c11 => ?_)
              · --
                refine r_iload_n dX4_numeral_80 rfl ?_
                exact r_reti dX4_numeral_81 rfl rfl (Nat.le_refl _) (Nat.le_refl _) (by have h9 := numP_4 (tx := tx) (n := n) (lo := lo) (hi := hi) hg0 c2 (Or.inr (Int32.not_le.mp c7)); exact ⟨h9.2.symm, f2.wk (by simp) (by simp) (by simp), by rw [h9.1]; exact q2⟩)
              · --
                exact absurd (c11.symm.trans hb2) (by decide)
            · --
              exact absurd (c10.symm.trans hb2) (by decide)
    · --
      refine r_aload_n dX4_numeral_17 rfl ?_
      refine r_callVv lX4_230 (c_misplaced hq) (hl.1) rfl rfl rfl rfl dX4_numeral_18 (Nat.le_refl _) (Nat.le_refl _) (fun h1 q1 => ?_)
      obtain ⟨f1, q1⟩ := q1
      have hl1 := q1.1
      have hb1 := bad_d (misP_bad tx n s) q1.2.2.2.2.2.2
      refine r_aload_n dX4_numeral_21 rfl ?_
      refine r_callVx lX4_223 (c_isGood q1.1 q1.2.2.2.2.1) (hl1.1) rfl rfl rfl rfl dX4_numeral_22 (Nat.le_refl _) (Nat.le_refl _) ?_
      refine r_ifB_eq (tgt := 53) dX4_numeral_25 rfl (fun c12 => ?_) (fun c12 => ?_)
      · --
        refine r_aload_n dX4_numeral_53 rfl ?_
        refine r_getI fX4_213 (hl1.1) rfl dX4_numeral_54 ?_
        refine r_istore_n dX4_numeral_57 (by decide) rfl ?_
        refine r_aload_n dX4_numeral_58 rfl ?_
        refine r_callVx lX4_223 (c_isGood q1.1 q1.2.2.2.2.1) (hl1.1) rfl rfl rfl rfl dX4_numeral_59 (Nat.le_refl _) (Nat.le_refl _) ?_
        refine r_ifB_eq (tgt := 69) dX4_numeral_62 rfl (fun c13 => ?_) (fun c13 => ?_)
        · --
          refine r_aload_n dX4_numeral_69 rfl ?_
          refine r_callVx lX4_223 (c_isGood q1.1 q1.2.2.2.2.1) (hl1.1) rfl rfl rfl rfl dX4_numeral_70 (Nat.le_refl _) (Nat.le_refl _) ?_
          refine r_ifB_eq (tgt := 80) dX4_numeral_73 rfl (fun c14 => ?_) (fun c14 => ?_)
          · --
            refine r_iload_n dX4_numeral_80 rfl ?_
            exact r_reti dX4_numeral_81 rfl rfl (Nat.le_refl _) (Nat.le_refl _) (by have h9 := numP_m (tx := tx) (n := n) (lo := lo) (hi := hi) hg0 c2; exact ⟨h9.2.symm, f1.wk (by simp) (by simp) (by simp), by rw [h9.1]; exact q1⟩)
          · --
            exact absurd (c14.symm.trans hb1) (by decide)
        · --
          exact absurd (c13.symm.trans hb1) (by decide)
      · --
        exact absurd (c12.symm.trans hb1) (by decide)
  · --
    refine r_iload_n dX4_numeral_7 rfl ?_
    exact r_reti dX4_numeral_8 rfl rfl (Nat.le_refl _) (Nat.le_refl _) (by have h9 := numP_b (tx := tx) (n := n) (lo := lo) (hi := hi) (fun e => of_decide_eq_false c1 (by rw [e]; rfl)); exact ⟨h9.2.symm, Fj.rf, by rw [h9.1]; exact hq⟩)

theorem c_afterWord {G : ev_G} {h : ev_H} {tx : Nat → Int32} {n : Nat} {s : (Nat × Nat) × Nat} (hq : MP tx n s h) (c : Int64) {lo hi : Nat} : Called G mX4_afterWord 3 0 0 [vR aM, vJ c, vI (nI lo), vI (nI hi)] h (pI (fun y h1 => y = numV tx n lo hi (mustP tx n (woH tx n s.2 c) s) ∧ Fj [] [4, 5, 6, 7, 8, 9] [aM] h h1 ∧ MP tx n (numP tx n lo hi (mustP tx n (woH tx n s.2 c) s)) h1)) := by
  have hl := hq.1
  have hx := hq.2.1
  have hk6 := tkT_lt tx n s.2
  have hta := taT_le (tx := tx) hq.2.2.1
  have hn := hx.2.1
  have hf8 := hq.2.2.2.2.2.2
  refine called_of rfl [some (vR aM), some (vJ c), none, some (vI (nI lo)), some (vI (nI hi))] rfl (Nat.le_of_ble_eq_true rfl) ?_
  refine r_aload_n dX4_afterWord_0 rfl ?_
  refine r_aload_n dX4_afterWord_1 rfl ?_
  refine r_lload_n dX4_afterWord_2 rfl ?_
  refine r_callVx lX4_233 (c_isWord hq _) (hl.1) rfl rfl rfl rfl dX4_afterWord_3 (Nat.le_refl _) (Nat.le_refl _) ?_
  refine r_callVv lX4_236 (c_must hq _) (hl.1) rfl rfl rfl rfl dX4_afterWord_6 (Nat.le_refl _) (Nat.le_refl _) (fun h1 q1 => ?_)
  obtain ⟨f1, q1⟩ := q1
  have hl1 := q1.1
  refine r_aload_n dX4_afterWord_9 rfl ?_
  refine r_iload_n dX4_afterWord_10 rfl ?_
  refine r_iload dX4_afterWord_11 rfl ?_
  refine r_callVi lX4_240 (c_numeral q1 (lo := lo) (hi := hi)) (hl1.1) rfl rfl rfl rfl dX4_afterWord_13 (Nat.le_refl _) (Nat.le_refl _) (fun y9 h2 q2 => ?_)
  obtain ⟨rfl, f2, q2⟩ := q2
  exact r_reti dX4_afterWord_16 rfl rfl (Nat.le_refl _) (Nat.le_refl _) ⟨rfl, f1.tr f2, q2⟩
