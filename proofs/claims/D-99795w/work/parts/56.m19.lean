/-! ===== THE REFERENCE: rounds, lines, ranks (walks by program) ===== -/
set_option maxRecDepth 100000

theorem c_round {G : ev_G} {b : Bk} {k : Nat} {h : ev_H} (hm : MB b k h) {T : Nat → Int32} (hT : MT T h) (hth : hI h aM 43 = -1) {R : Nat → Int32} (hR : Ar aLaidRow 6 R h) (n wh : Int32) : Called G mX4_round 8 0 0 [vR aM, vI n, vI wh] h (pI (fun y h1 => y = (if rdOk b n wh then rdV b T n wh else -1) ∧ Fr [aPile, aAll, aKept, aLaidRow] [39, 40, 41, 50] h h1 ∧ MT T h1 ∧ hI h1 aM 50 = (if rdOk b n wh then n else nI 0) ∧ Ar aLaidRow 6 (if rdOk b n wh then rdR b T n R else R) h1)) := by
  have hl := hm.lay
  have hk2 := hm.k2
  have hb := hm.bw
  have hb1 := hb.p6
  have hb2 := hb.s5
  have hb3 := hb.t10
  have f : Fr [aPile, aAll, aKept, aLaidRow] [39, 40, 41, 50] h h := Fr.rf
  refine called_of rfl [some (vR aM), some (vI n), some (vI wh), none, none, none, none, none] rfl (Nat.le_of_ble_eq_true rfl) ?_
  refine r_aload_n dX4_round_0 rfl ?_
  refine r_iconst (v := nI 0) dX4_round_1 (by decide) ?_
  refine r_putN fX4_383 (hl.1) (by decide) dX4_round_2 ?_
  have gZ1 : Fr [] [50] h (sI h aM 50 (nI 0)) := Fr.rf.sf 50 (nI 0) (by decide)
  have hTZ1 : MT T (sI h aM 50 (nI 0)) := hT.fr gZ1 (by decide)
  have hmZ1 : MB b k (sI h aM 50 (nI 0)) := hm.fr gZ1 rfl
  have fZ1 : Fr [aPile, aAll, aKept, aLaidRow] [39, 40, 41, 50] h (sI h aM 50 (nI 0)) := f.tr (gZ1.wk (by simp) (by simp))
  have hRZ1 : Ar aLaidRow 6 R (sI h aM 50 (nI 0)) := hR.fr gZ1 (by decide) (by decide)
  have e50Z1 : hI (sI h aM 50 (nI 0)) aM 50 = nI 0 := rfl
  generalize sI h aM 50 (nI 0) = hZ1 at gZ1 hTZ1 hmZ1 fZ1 hRZ1 e50Z1 ⊢
  have hlZ1 := hmZ1.lay
  refine r_iload_n dX4_round_5 rfl ?_
  refine r_iconst (v := 0) dX4_round_6 (by decide) ?_
  refine r_iconst (v := nI 4) dX4_round_7 (by decide) ?_
  refine r_callSx lX4_361 (c_isIn _ _ _) rfl rfl rfl rfl dX4_round_8 (Nat.le_refl _) (Nat.le_refl _) ?_
  refine r_ifB_eq (tgt := 30) dX4_round_11 rfl (fun c1 => ?_) (fun c1 => ?_)
  · --
    refine r_iconst (v := (-1)) dX4_round_30 (by decide) ?_
    exact r_reti dX4_round_31 rfl rfl (Nat.le_refl _) (Nat.le_refl _) ⟨if_n (by simp [rdOk, c1]) rfl, fZ1, hTZ1, if_n (by simp [rdOk, c1]) e50Z1, Ar.neg (by simp [rdOk, c1]) hRZ1⟩
  · --
    obtain ⟨jn, hjn, rfl⟩ := isIn_m (by decide) c1
    refine r_iload_n dX4_round_14 rfl ?_
    refine r_iconst (v := 0) dX4_round_15 (by decide) ?_
    refine r_iconst (v := 1) dX4_round_16 (by decide) ?_
    refine r_callSx lX4_361 (c_isIn _ _ _) rfl rfl rfl rfl dX4_round_17 (Nat.le_refl _) (Nat.le_refl _) ?_
    refine r_ifB_eq (tgt := 30) dX4_round_20 rfl (fun c2 => ?_) (fun c2 => ?_)
    · --
      refine r_iconst (v := (-1)) dX4_round_30 (by decide) ?_
      exact r_reti dX4_round_31 rfl rfl (Nat.le_refl _) (Nat.le_refl _) ⟨if_n (by simp [rdOk, c1, c2]) rfl, fZ1, hTZ1, if_n (by simp [rdOk, c1, c2]) e50Z1, Ar.neg (by simp [rdOk, c1, c2]) hRZ1⟩
    · --
      refine r_aload_n dX4_round_23 rfl ?_
      refine r_callVx lX4_365 (c_bags hmZ1) (hlZ1.1) rfl rfl rfl rfl dX4_round_24 (Nat.le_refl _) (Nat.le_refl _) ?_
      refine r_if_ne (tgt := 32) dX4_round_27 rfl (fun c3 => ?_) (fun c3 => ?_)
      · --
        have hs0 : 0 < nS b := Nat.pos_of_ne_zero (fun e => c3 (by rw [e]; rfl))
        have hpw := pwS hb2 hjn
        refine r_iconst (v := nI 0) dX4_round_32 (by decide) ?_
        refine r_istore_n dX4_round_33 (by decide) rfl ?_
        refine r_iconst (v := (-1)) dX4_round_34 (by decide) ?_
        refine r_istore dX4_round_35 (by decide) rfl ?_
        refine r_iconst (v := nI 0) dX4_round_37 (by decide) ?_
        refine r_istore dX4_round_38 (by decide) rfl ?_
        refine (ev_for (P := fun v => ∀ hL : ev_H, (Fr [aPile, aAll, aKept, aLaidRow] [39, 40, 41, 50] h hL ∧ MT T hL ∧ Ar aLaidRow 6 R hL) → Ev G mX4_round (ev_room 8 0 0) (ev_MQ G (pI (fun y h1 => y = (if rdOk b (nI jn) wh then rdV b T (nI jn) wh else -1) ∧ Fr [aPile, aAll, aKept, aLaidRow] [39, 40, 41, 50] h h1 ∧ MT T h1 ∧ hI h1 aM 50 = (if rdOk b (nI jn) wh then (nI jn) else nI 0) ∧ Ar aLaidRow 6 (if rdOk b (nI jn) wh then rdR b T (nI jn) R else R) h1)) 0 0) 40 [some (vR aM), some (vI (nI jn)), some (vI wh), some (vI (nI (rdS b T jn v).1)), some (vI ((rdS b T jn v).2)), some (vI (nI v)), none, none] [] hL 0 0) (nS b ^ jn) (fun v hkv ihv hL qhL => ?_)) 0 (Nat.zero_le _) _ (⟨fZ1, hTZ1, hRZ1⟩)
        obtain ⟨fL, hTL, hRL⟩ := qhL
        have hmL := hm.fr fL rfl
        have hlL := hmL.lay
        refine r_iload dX4_round_40 rfl ?_
        refine r_aload_n dX4_round_42 rfl ?_
        refine r_callVx lX4_365 (c_bags hmL) (hlL.1) rfl rfl rfl rfl dX4_round_43 (Nat.le_refl _) (Nat.le_refl _) ?_
        refine r_iload_n dX4_round_46 rfl ?_
        refine r_callSx lX4_455 (by have h9 := c_power (G := G) (h := hL) (nI (nS b)) (n := jn) (by omega); rw [ipow_n] at h9; exact h9) rfl rfl rfl rfl dX4_round_47 (Nat.le_refl _) (Nat.le_refl _) ?_
        refine r_icmpN_ge (tgt := 137) dX4_round_50 rfl (by omega) (by omega) (fun c4 => ?_) (fun c4 => ?_)
        · --
          have hv9 : v = nS b ^ jn := by omega
          subst hv9
          have hbst := rdS_le (b := b) (T := T) (n := jn) (nS b ^ jn)
          refine r_iconst (v := nI 0) dX4_round_137 (by decide) ?_
          refine r_istore dX4_round_138 (by decide) rfl ?_
          refine (ev_for (P := fun i => ∀ hP : ev_H, (Fr [aPile, aAll, aKept, aLaidRow] [39, 40, 41, 50] h hP ∧ MT T hP ∧ Ar aLaidRow 6 (rowD (fun q => nI (dig (nS b) (rdS b T jn (nS b ^ jn)).1 jn q)) i R) hP) → Ev G mX4_round (ev_room 8 0 0) (ev_MQ G (pI (fun y h1 => y = (if rdOk b (nI jn) wh then rdV b T (nI jn) wh else -1) ∧ Fr [aPile, aAll, aKept, aLaidRow] [39, 40, 41, 50] h h1 ∧ MT T h1 ∧ hI h1 aM 50 = (if rdOk b (nI jn) wh then (nI jn) else nI 0) ∧ Ar aLaidRow 6 (if rdOk b (nI jn) wh then rdR b T (nI jn) R else R) h1)) 0 0) 140 [some (vR aM), some (vI (nI jn)), some (vI wh), some (vI (nI (rdS b T jn (nS b ^ jn)).1)), some (vI ((rdS b T jn (nS b ^ jn)).2)), some (vI (nI i)), none, none] [] hP 0 0) jn (fun i hki ihi hP qhP => ?_)) 0 (Nat.zero_le _) _ (⟨fL, hTL, by rw [rowD_0]; exact hRL⟩)
          obtain ⟨fP, hTP, hD⟩ := qhP
          have hmP := hm.fr fP rfl
          have hlP := hmP.lay
          refine r_iload dX4_round_140 rfl ?_
          refine r_iload_n dX4_round_142 rfl ?_
          refine r_icmpN_ge (tgt := 167) dX4_round_143 rfl (by omega) (by omega) (fun c5 => ?_) (fun c5 => ?_)
          · --
            refine r_aload_n dX4_round_167 rfl ?_
            refine r_iload_n dX4_round_168 rfl ?_
            refine r_putN fX4_383 (hlP.1) (by decide) dX4_round_169 ?_
            have gZ2 : Fr [] [50] hP (sI hP aM 50 (nI jn)) := Fr.rf.sf 50 (nI jn) (by decide)
            have hTZ2 : MT T (sI hP aM 50 (nI jn)) := hTP.fr gZ2 (by decide)
            have hmZ2 : MB b k (sI hP aM 50 (nI jn)) := hmP.fr gZ2 rfl
            have fZ2 : Fr [aPile, aAll, aKept, aLaidRow] [39, 40, 41, 50] h (sI hP aM 50 (nI jn)) := fP.tr (gZ2.wk (by simp) (by simp))
            have e50Z2 : hI (sI hP aM 50 (nI jn)) aM 50 = nI jn := rfl
            generalize sI hP aM 50 (nI jn) = hZ2 at gZ2 hTZ2 hmZ2 fZ2 e50Z2 ⊢
            have hlZ2 := hmZ2.lay
            refine r_iload_n dX4_round_172 rfl ?_
            refine r_if_ne (tgt := 184) dX4_round_173 rfl (fun c6 => ?_) (fun c6 => ?_)
            · --
              refine r_iload dX4_round_184 rfl ?_
              refine r_bipush (v := nI 100) dX4_round_186 (by decide) ?_
              refine r_irem dX4_round_188 (by decide) ?_
              exact r_reti dX4_round_189 rfl rfl (Nat.le_refl _) (Nat.le_refl _) ⟨if_p (by simp [rdOk, c1, c2, c3]) (by rw [rdV, nI_clamp (by omega), if_neg c6]; rfl), fZ2, hTZ2, if_p (by simp [rdOk, c1, c2, c3]) e50Z2, Ar.pos (by simp [rdOk, c1, c2, c3]) (by rw [rdR, nI_clamp (by omega)]; rw [show i = jn by omega] at hD; exact hD.fr gZ2 (by decide) (by decide))⟩
            · --
              refine r_iload dX4_round_176 rfl ?_
              refine r_bipush (v := nI 100) dX4_round_178 (by decide) ?_
              refine r_idiv dX4_round_180 (by decide) ?_
              refine r_goto (tgt := 189) dX4_round_181 rfl ?_
              exact r_reti dX4_round_189 rfl rfl (Nat.le_refl _) (Nat.le_refl _) ⟨if_p (by simp [rdOk, c1, c2, c3]) (by rw [rdV, nI_clamp (by omega), if_pos c6]; rfl), fZ2, hTZ2, if_p (by simp [rdOk, c1, c2, c3]) e50Z2, Ar.pos (by simp [rdOk, c1, c2, c3]) (by rw [rdR, nI_clamp (by omega)]; rw [show i = jn by omega] at hD; exact hD.fr gZ2 (by decide) (by decide))⟩
          · --
            refine r_aload_n dX4_round_146 rfl ?_
            refine r_getRv fX4_100 (hlP.1) (v := aLaidRow) ((l_laidRow hlP).1) rfl dX4_round_147 ?_
            refine r_iload dX4_round_150 rfl ?_
            refine r_aload_n dX4_round_152 rfl ?_
            refine r_iload_n dX4_round_153 rfl ?_
            refine r_iload_n dX4_round_154 rfl ?_
            refine r_iload dX4_round_155 rfl ?_
            refine r_callVx lX4_461 (c_inRow hmP (v := (rdS b T jn (nS b ^ jn)).1) (n := jn) (k9 := i) (by omega) hs0 (by omega) (by omega) (Nat.lt_of_le_of_lt (pwS hb2 (by omega)) (by decide))) (hlP.1) rfl rfl rfl rfl dX4_round_157 (Nat.le_refl _) (Nat.le_refl _) ?_
            refine r_iastv ((l_laidRow hlP).2.1) (by decide) ((l_laidRow hlP).2.2) (ix_n (by omega) (by decide)) dX4_round_160 ?_
            have gZ3 : Fr [aLaidRow] [] hP (sI hP aLaidRow i (nI (dig (nS b) ((rdS b T jn (nS b ^ jn)).1) jn i))) := Fr.rf.sa aLaidRow i (nI (dig (nS b) ((rdS b T jn (nS b ^ jn)).1) jn i)) (by decide)
            have hTZ3 : MT T (sI hP aLaidRow i (nI (dig (nS b) ((rdS b T jn (nS b ^ jn)).1) jn i))) := hTP.fr gZ3 (by decide)
            have hmZ3 : MB b k (sI hP aLaidRow i (nI (dig (nS b) ((rdS b T jn (nS b ^ jn)).1) jn i))) := hmP.fr gZ3 rfl
            have fZ3 : Fr [aPile, aAll, aKept, aLaidRow] [39, 40, 41, 50] h (sI hP aLaidRow i (nI (dig (nS b) ((rdS b T jn (nS b ^ jn)).1) jn i))) := fP.tr (gZ3.wk (by simp) (by simp))
            have hDN : Ar aLaidRow 6 (rowD (fun q => nI (dig (nS b) (rdS b T jn (nS b ^ jn)).1 jn q)) (i + 1) R) (sI hP aLaidRow i (nI (dig (nS b) ((rdS b T jn (nS b ^ jn)).1) jn i))) := rowD_step hD rfl
            generalize sI hP aLaidRow i (nI (dig (nS b) ((rdS b T jn (nS b ^ jn)).1) jn i)) = hZ3 at gZ3 hTZ3 hmZ3 fZ3 hDN ⊢
            have hlZ3 := hmZ3.lay
            refine r_iincN (n := 1) dX4_round_161 rfl rfl (by decide) rfl ?_
            refine r_goto (tgt := 140) dX4_round_164 rfl ?_
            exact ihi (by omega) _ (⟨fZ3, hTZ3, hDN⟩)
        · --
          refine r_aload_n dX4_round_53 rfl ?_
          refine r_callVv lX4_458 (c_keepNow hlL hTL) (hlL.1) rfl rfl rfl rfl dX4_round_54 (Nat.le_refl _) (Nat.le_refl _) (fun hZ4 q9 => ?_)
          obtain ⟨gZ4, hKK⟩ := q9
          have fZ4 := fL.tr (gZ4.wk (by simp) (by simp))
          have hmZ4 := hmL.fr gZ4 rfl
          have hTZ4 := hTL.fr gZ4 (by decide)
          have hlZ4 := hmZ4.lay
          have hRZ4 := hRL.fr gZ4 (by decide) (by decide)
          have hKZ4 := hKK
          refine r_iconst (v := nI 0) dX4_round_57 (by decide) ?_
          refine r_istore dX4_round_58 (by decide) rfl ?_
          refine r_iconst (v := nI 0) dX4_round_60 (by decide) ?_
          refine r_istore dX4_round_61 (by decide) rfl ?_
          refine (ev_for (P := fun u => ∀ hQ : ev_H, (Fr [aPile, aAll, aKept, aLaidRow] [39, 40, 41, 50] h hQ ∧ MT ((rdI b T v jn u).1) hQ ∧ MK T hQ ∧ Ar aLaidRow 6 R hQ) → Ev G mX4_round (ev_room 8 0 0) (ev_MQ G (pI (fun y h1 => y = (if rdOk b (nI jn) wh then rdV b T (nI jn) wh else -1) ∧ Fr [aPile, aAll, aKept, aLaidRow] [39, 40, 41, 50] h h1 ∧ MT T h1 ∧ hI h1 aM 50 = (if rdOk b (nI jn) wh then (nI jn) else nI 0) ∧ Ar aLaidRow 6 (if rdOk b (nI jn) wh then rdR b T (nI jn) R else R) h1)) 0 0) 63 [some (vR aM), some (vI (nI jn)), some (vI wh), some (vI (nI (rdS b T jn v).1)), some (vI ((rdS b T jn v).2)), some (vI (nI v)), some (vI ((rdI b T v jn u).2)), some (vI (nI u))] [] hQ 0 0) jn (fun u hku ihu hQ qhQ => ?_)) 0 (Nat.zero_le _) _ (⟨fZ4, hTZ4, hKZ4, hRZ4⟩)
          obtain ⟨fQ, hTQ, hKQ, hRQ⟩ := qhQ
          have hmQ := hm.fr fQ rfl
          have hlQ := hmQ.lay
          refine r_iload dX4_round_63 rfl ?_
          refine r_iload_n dX4_round_65 rfl ?_
          refine r_icmpN_ge (tgt := 93) dX4_round_66 rfl (by omega) (by omega) (fun c7 => ?_) (fun c7 => ?_)
          · --
            have hu9 : jn = u := by omega
            subst hu9
            refine r_aload_n dX4_round_93 rfl ?_
            refine r_callVv lX4_464 (c_bringBack hlQ (K := T) hKQ) (hlQ.1) rfl rfl rfl rfl dX4_round_94 (Nat.le_refl _) (Nat.le_refl _) (fun hZ5 q9 => ?_)
            obtain ⟨gZ5, hTZ5⟩ := q9
            have fZ5 := fQ.tr (gZ5.wk (by simp) (by simp))
            have hmZ5 := hmQ.fr gZ5 rfl
            have hlZ5 := hmZ5.lay
            have hKZ5 := hKQ.fr gZ5 (by decide)
            have hRZ5 := hRQ.fr gZ5 (by decide) (by decide)
            refine r_bipush (v := nI 100) dX4_round_97 (by decide) ?_
            refine r_iload dX4_round_99 rfl ?_
            refine r_callSx lX4_339 (c_bitsOf _) rfl rfl rfl rfl dX4_round_101 (Nat.le_refl _) (Nat.le_refl _) ?_
            refine r_imul dX4_round_104 ?_
            refine r_aload_n dX4_round_105 rfl ?_
            refine r_iload dX4_round_106 rfl ?_
            refine r_callVx lX4_348 (c_heatOf hmZ5 _) (hlZ5.1) rfl rfl rfl rfl dX4_round_108 (Nat.le_refl _) (Nat.le_refl _) ?_
            refine r_iadd dX4_round_111 ?_
            refine r_istore dX4_round_112 (by decide) rfl ?_
            refine r_iload dX4_round_114 rfl ?_
            refine r_iload dX4_round_116 rfl ?_
            refine r_icmp_gt (tgt := 124) dX4_round_118 rfl (fun c8 => ?_) (fun c8 => ?_)
            · --
              refine r_iload dX4_round_124 rfl ?_
              refine r_istore_n dX4_round_126 (by decide) rfl ?_
              refine r_iload dX4_round_127 rfl ?_
              refine r_istore dX4_round_129 (by decide) rfl ?_
              refine r_iincN (n := 1) dX4_round_131 rfl rfl (by decide) rfl ?_
              refine r_goto (tgt := 40) dX4_round_134 rfl ?_
              refine r_sub [some (vR aM), some (vI (nI jn)), some (vI wh), some (vI (nI v)), some (vI (((nI 100) * (popc ((rdI b T v jn jn).2))) + (heatV b ((rdI b T v jn jn).2)))), some (vI (nI (v + 1))), none, none] (And.intro rfl (And.intro rfl (And.intro rfl (And.intro rfl (And.intro rfl (And.intro rfl trivial)))))) ?_
              exact r_L (by rw [rdS_t c8] <;> rfl) (ihv (by omega) _ (⟨fZ5, hTZ5, hRZ5⟩))
            · --
              refine r_goto (tgt := 131) dX4_round_121 rfl ?_
              refine r_iincN (n := 1) dX4_round_131 rfl rfl (by decide) rfl ?_
              refine r_goto (tgt := 40) dX4_round_134 rfl ?_
              refine r_sub [some (vR aM), some (vI (nI jn)), some (vI wh), some (vI (nI (rdS b T jn v).1)), some (vI ((rdS b T jn v).2)), some (vI (nI (v + 1))), none, none] (And.intro rfl (And.intro rfl (And.intro rfl (And.intro rfl (And.intro rfl (And.intro rfl trivial)))))) ?_
              exact r_L (by rw [rdS_f c8] <;> rfl) (ihv (by omega) _ (⟨fZ5, hTZ5, hRZ5⟩))
          · --
            have hdg : dig (nS b) v jn u < nS b := Nat.mod_lt _ hs0
            refine r_iload dX4_round_69 rfl ?_
            refine r_aload_n dX4_round_71 rfl ?_
            refine r_aload_n dX4_round_72 rfl ?_
            refine r_iload dX4_round_73 rfl ?_
            refine r_iload_n dX4_round_75 rfl ?_
            refine r_iload dX4_round_76 rfl ?_
            refine r_callVx lX4_461 (c_inRow hmQ (v := v) (n := jn) (k9 := u) (by omega) hs0 (by omega) (by omega) (Nat.lt_of_le_of_lt (pwS hb2 (by omega)) (by decide))) (hlQ.1) rfl rfl rfl rfl dX4_round_78 (Nat.le_refl _) (Nat.le_refl _) ?_
            refine r_callVi lX4_440 (c_goGrind hmQ hTQ ((fQ.fld 43 (by decide) (by decide)).trans hth) (s := (dig (nS b) v jn u)) (by omega)) (hlQ.1) rfl rfl rfl rfl dX4_round_81 (Nat.le_refl _) (Nat.le_refl _) (fun y9 hZ6 q9 => ?_)
            obtain ⟨rfl, gZ6, hTZ6⟩ := q9
            have fZ6 := fQ.tr (gZ6.wk (by simp) (by simp))
            have hmZ6 := hmQ.fr gZ6 rfl
            have hlZ6 := hmZ6.lay
            have hKZ6 := hKQ.fr gZ6 (by decide)
            have hRZ6 := hRQ.fr gZ6 (by decide) (by decide)
            refine r_ior dX4_round_84 ?_
            refine r_istore dX4_round_85 (by decide) rfl ?_
            refine r_iincN (n := 1) dX4_round_87 rfl rfl (by decide) rfl ?_
            refine r_goto (tgt := 63) dX4_round_90 rfl ?_
            exact ihu (by omega) _ (⟨fZ6, hTZ6, hKZ6, hRZ6⟩)
      · --
        refine r_iconst (v := (-1)) dX4_round_30 (by decide) ?_
        exact r_reti dX4_round_31 rfl rfl (Nat.le_refl _) (Nat.le_refl _) ⟨if_n (by simp [rdOk, c1, c2, c3]) rfl, fZ1, hTZ1, if_n (by simp [rdOk, c1, c2, c3]) e50Z1, Ar.neg (by simp [rdOk, c1, c2, c3]) hRZ1⟩
