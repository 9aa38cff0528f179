/-! ===== THE SYSTEM: mute, send, spark, shyest, after, blend (walks by program) ===== -/
set_option maxRecDepth 100000

theorem aft_s {b : Bk} {T : Nat → Int32} {s t i : Nat} (hb : BW b) (hw : TW b (giT b T s i)) (ht : t < nT b) (e : stV (giT b T s i) t = true) (h : ¬ (outV b (giT b T s i) s >>> (nI t &&& 31)) &&& 1 = 1) : stV (giT b T s (i + 1)) t = true := by
  show stV (grT b (giT b T s i) s) t = true
  rw [st_gr hb hw ht, e, show tb (outV b (giT b T s i) s) t = false from decide_eq_false h]
  rfl
theorem aft_1 {b : Bk} {T : Nat → Int32} {s t i : Nat} (hb : BW b) (hw : TW b (giT b T s i)) (ht : t < nT b) (hi : i < 9) (e : stV (giT b T s i) t = true) (h : (outV b (giT b T s i) s >>> (nI t &&& 31)) &&& 1 = 1) : optI (aftN b T s t (9 - i) i) = nI (i + 1) := by
  have e2 : stV (giT b T s (i + 1)) t = false := by
    show stV (grT b (giT b T s i) s) t = false
    rw [st_gr hb hw ht, e, show tb (outV b (giT b T s i) s) t = true from decide_eq_true h]
    rfl
  rw [aft_t hi e, aft_f e2]
  rfl

theorem x0_mute {G : ev_G} {b : Bk} {K : XK} {T : Nat → Int32} {h : ev_H} (hm : XM b K T h) : Called G mX0_mute 312 0 0 [vR 64] h (pI (fun y h1 => y = muteV b T ∧ Fr (QF K) [] h h1)) := by
  have hb := hm.xb
  have hT := hm.xt
  have hl := hm.lay
  have hw := hm.bw
  have hb1 := hw.p6
  have hb2 := hw.s5
  have hb3 := hw.t10
  have hw9 := hm.tw
  have f : Fr (QF K) [] h h := Fr.rf
  have hp2 := p2_6 hb1
  have hp1 : 1 ≤ 2 ^ nP b := Nat.one_le_two_pow
  refine called_of rfl [some (vR 64), none, none, none] rfl (Nat.le_of_ble_eq_true rfl) ?_
  refine r_aload_n dX0_mute_0 rfl ?_
  refine r_callVx lX0_181 (x0_kept hm) (hl.k) rfl rfl rfl rfl dX0_mute_1 (Nat.le_refl _) (Nat.le_refl _) ?_
  refine r_istore_n dX0_mute_4 (by decide) rfl ?_
  refine r_iconst (v := nI 0) dX0_mute_5 (by decide) ?_
  refine r_istore_n dX0_mute_6 (by decide) rfl ?_
  refine (ev_for (P := fun i => ∀ hL : ev_H, (Fr (QF K) [] h hL) → Ev G mX0_mute (ev_room 312 0 0) (ev_MQ G (pI (fun y h1 => y = muteV b T ∧ Fr (QF K) [] h h1)) 0 0) 7 [some (vR 64), some (vI (andNot i (fun who => saidW b T (nI who)) (keptV b T))), some (vI (nI i)), none] [] hL 0 0) (2 ^ nP b) (fun i hki ihi hL qhL => ?_)) 0 (Nat.zero_le _) _ (f)
  have fL := qhL
  have hmL := hm.fq fL
  have hbL := hmL.xb
  have hTL := hmL.xt
  have hlL := hmL.lay
  refine r_iload_n dX0_mute_7 rfl ?_
  refine r_aload_n dX0_mute_8 rfl ?_
  refine r_callVx lX0_269 (x0_allPeopleN hmL) (hlL.k) rfl rfl rfl rfl dX0_mute_9 (Nat.le_refl _) (Nat.le_refl _) ?_
  refine r_icmpN_gt (tgt := 48) dX0_mute_12 rfl (by omega) (by omega) (fun c1 => ?_) (fun c1 => ?_)
  · --
    refine r_iload_n dX0_mute_48 rfl ?_
    exact r_reti dX0_mute_49 rfl rfl (Nat.le_refl _) (Nat.le_refl _) ⟨congrArg (fun n => andNot n _ _) (by omega), fL⟩
  · --
    refine r_iconst (v := nI 0) dX0_mute_15 (by decide) ?_
    refine r_istore_n dX0_mute_16 (by decide) rfl ?_
    refine r_L (L2 := [some (vR 64), some (vI (andNot i (fun who => saidW b T (nI who)) (keptV b T) &&& ((orIf 0 (fun _ => true) (fun s => outW b T (nI i) s)) ^^^ (-1)))), some (vI (nI i)), some (vI (nI 0))]) (by rw [show orIf 0 (fun _ => true) (fun s => outW b T (nI i) s) = 0 from rfl, mu_0]; rfl) ?_
    refine (ev_for (P := fun jj9 => ∀ hN : ev_H, (Fr (QF K) [] h hN) → Ev G mX0_mute (ev_room 312 0 0) (ev_MQ G (pI (fun y h1 => y = muteV b T ∧ Fr (QF K) [] h h1)) 0 0) 17 [some (vR 64), some (vI (andNot i (fun who => saidW b T (nI who)) (keptV b T) &&& ((orIf jj9 (fun _ => true) (fun s => outW b T (nI i) s)) ^^^ (-1)))), some (vI (nI i)), some (vI (nI jj9))] [] hN 0 0) (nS b) (fun jj9 hkjj9 ihjj9 hN qhN => ?_)) 0 (Nat.zero_le _) _ (fL)
    have fN := qhN
    have hmN := hm.fq fN
    have hbN := hmN.xb
    have hTN := hmN.xt
    have hlN := hmN.lay
    refine r_iload_n dX0_mute_17 rfl ?_
    refine r_aload_n dX0_mute_18 rfl ?_
    refine r_callVx lX0_153 (x0_sacks hmN) (hlN.k) rfl rfl rfl rfl dX0_mute_19 (Nat.le_refl _) (Nat.le_refl _) ?_
    refine r_icmpN_ge (tgt := 42) dX0_mute_22 rfl (by omega) (by omega) (fun c2 => ?_) (fun c2 => ?_)
    · --
      refine r_iincN (n := 1) dX0_mute_42 rfl rfl (by decide) rfl ?_
      refine r_goto (tgt := 7) dX0_mute_45 rfl ?_
      refine r_sub [some (vR 64), some (vI (andNot i (fun who => saidW b T (nI who)) (keptV b T) &&& ((orIf jj9 (fun _ => true) (fun s => outW b T (nI i) s)) ^^^ (-1)))), some (vI (nI (i + 1))), none] (And.intro rfl (And.intro rfl (And.intro rfl trivial))) ?_
      exact r_L (by rw [mu_e hb2 (show jj9 = nS b by omega)]; rfl) (ihi (by omega) _ (fN))
    · --
      refine r_iload_n dX0_mute_25 rfl ?_
      refine r_aload_n dX0_mute_26 rfl ?_
      refine r_iload_n dX0_mute_27 rfl ?_
      refine r_iload_n dX0_mute_28 rfl ?_
      refine r_callVi lX0_276 (x0_outAt hmN (v := (nI i)) (⟨i, by omega, rfl⟩) (s := jj9) (by omega)) (hlN.k) rfl rfl rfl rfl dX0_mute_29 (Nat.le_refl _) (Nat.le_refl _) (fun y9 hZ1 q9 => ?_)
      obtain ⟨rfl, gZ1⟩ := q9
      have kZ1 : Fr (QF K) [] hN hZ1 := gZ1
      have hmZ1 := hmN.fq kZ1
      have fZ1 : Fr (QF K) [] h hZ1 := fN.tr kZ1
      have hbZ1 := hmZ1.xb
      have hTZ1 := hmZ1.xt
      have hlZ1 := hmZ1.lay
      refine r_iconst (v := (-1)) dX0_mute_32 (by decide) ?_
      refine r_ixor dX0_mute_33 ?_
      refine r_iand dX0_mute_34 ?_
      refine r_istore_n dX0_mute_35 (by decide) rfl ?_
      refine r_iincN (n := 1) dX0_mute_36 rfl rfl (by decide) rfl ?_
      refine r_goto (tgt := 17) dX0_mute_39 rfl ?_
      exact r_L (by rw [mu_s]; rfl) (ihjj9 (by omega) _ (fZ1))

theorem x0_send {G : ev_G} {b : Bk} {K : XK} {T : Nat → Int32} {h : ev_H} (hm : XM b K T h) (p wh : Int32) : Called G mX0_send 312 0 0 [vR 64, vI p, vI wh] h (pI (fun y h1 => y = sendV2 b T p wh ∧ Fr (QF K) [] h h1)) := by
  have hb := hm.xb
  have hT := hm.xt
  have hl := hm.lay
  have hw := hm.bw
  have hb1 := hw.p6
  have hb2 := hw.s5
  have hb3 := hw.t10
  have hw9 := hm.tw
  have f : Fr (QF K) [] h h := Fr.rf
  have hp2 := p2_6 hb1
  have hp1 : 1 ≤ 2 ^ nP b := Nat.one_le_two_pow
  obtain ⟨S, hSP, hS0⟩ := hw9.1
  refine called_of rfl [some (vR 64), some (vI p), some (vI wh), none, none] rfl (Nat.le_of_ble_eq_true rfl) ?_
  refine r_aload_n dX0_send_0 rfl ?_
  refine r_iload_n dX0_send_1 rfl ?_
  refine r_callVx lX0_212 (x0_isSack hm _) (hl.k) rfl rfl rfl rfl dX0_send_2 (Nat.le_refl _) (Nat.le_refl _) ?_
  refine r_ifB_eq (tgt := 17) dX0_send_5 rfl (fun c1 => ?_) (fun c1 => ?_)
  · --
    refine r_iconst (v := (-1)) dX0_send_17 (by decide) ?_
    exact r_reti dX0_send_18 rfl rfl (Nat.le_refl _) (Nat.le_refl _) ⟨by rw [sendV2, if_neg (by simp [c1])], f⟩
  · --
    obtain ⟨j, hj, rfl⟩ := sakV_ok hw c1
    refine r_iload_n dX0_send_8 rfl ?_
    refine r_iconst (v := 0) dX0_send_9 (by decide) ?_
    refine r_iconst (v := 1) dX0_send_10 (by decide) ?_
    refine r_callSx lX0_155 (x0_isIn _ _ _) rfl rfl rfl rfl dX0_send_11 (Nat.le_refl _) (Nat.le_refl _) ?_
    refine r_ifB_ne (tgt := 19) dX0_send_14 rfl (fun c2 => ?_) (fun c2 => ?_)
    · --
      refine r_iconst (v := (-1)) dX0_send_19 (by decide) ?_
      refine r_istore_n dX0_send_20 (by decide) rfl ?_
      refine r_iconst (v := nI 0) dX0_send_21 (by decide) ?_
      refine r_istore dX0_send_22 (by decide) rfl ?_
      refine (ev_for (P := fun i => ∀ hL : ev_H, (Fr (QF K) [] h hL) → Ev G mX0_send (ev_room 312 0 0) (ev_MQ G (pI (fun y h1 => y = sendV2 b T (nI j) wh ∧ Fr (QF K) [] h h1)) 0 0) 24 [some (vR 64), some (vI (nI j)), some (vI wh), some (vI (optI (fewOf i (sendP b T j)))), some (vI (nI i))] [] hL 0 0) (S + 1) (fun i hki ihi hL qhL => ?_)) 0 (Nat.zero_le _) _ (f)
      have fL := qhL
      have hmL := hm.fq fL
      have hbL := hmL.xb
      have hTL := hmL.xt
      have hlL := hmL.lay
      refine r_iload dX0_send_24 rfl ?_
      refine r_aload_n dX0_send_26 rfl ?_
      refine r_getRv fX0_53 (hlL.k) (v := 74) (hlL.r 5 (by decide) (by decide)) rfl dX0_send_27 ?_
      refine r_getIv fX0_237 (hTL.k) (v := nI S) ((hTL.si).trans hS0) rfl dX0_send_30 ?_
      refine r_icmpN_gt (tgt := 89) dX0_send_33 rfl (by omega) (by omega) (fun c3 => ?_) (fun c3 => ?_)
      · --
        have hi9 : i = S + 1 := by omega
        subst hi9
        cases hbo : fewOf (S + 1) (sendP b T j) with
        | none =>
          exact absurd (hbo.symm.trans (send_few hw (by omega) hS0)) (by simp)
        | some jb =>
          have hjb := (fewOf_lt hbo).1
          have hje : fewB (sendP b T j) S (S + 1) = jb := Option.some.inj ((send_few hw (by omega) hS0).symm.trans hbo)
          refine r_iload_n dX0_send_89 rfl ?_
          refine r_if_ne (tgt := 100) dX0_send_90 rfl (fun c4 => ?_) (fun c4 => ?_)
          · --
            refine r_iload_n dX0_send_100 rfl ?_
            exact r_reti dX0_send_101 rfl rfl (Nat.le_refl _) (Nat.le_refl _) ⟨by rw [sendV2, if_pos (by simp [c1, c2]), nI_clamp (by omega), hS0, nI_clamp (by omega), hje]; exact (if_neg c4).symm, fL⟩
          · --
            refine r_iload_n dX0_send_93 rfl ?_
            refine r_callSx lX0_239 (xJ15_bc (⟨jb, by omega, rfl⟩)) rfl rfl rfl rfl dX0_send_94 (Nat.le_refl _) (Nat.le_refl _) ?_
            refine r_goto (tgt := 101) dX0_send_97 rfl ?_
            exact r_reti dX0_send_101 rfl rfl (Nat.le_refl _) (Nat.le_refl _) ⟨by rw [sendV2, if_pos (by simp [c1, c2]), nI_clamp (by omega), hS0, nI_clamp (by omega), hje]; exact (if_pos c4).symm, fL⟩
      · --
        cases hbo : fewOf i (sendP b T j) with
        | none =>
          refine r_iload dX0_send_36 rfl ?_
          refine r_aload_n dX0_send_38 rfl ?_
          refine r_getRv fX0_53 (hlL.k) (v := 74) (hlL.r 5 (by decide) (by decide)) rfl dX0_send_39 ?_
          refine r_getIv fX0_237 (hTL.k) (v := nI S) ((hTL.si).trans hS0) rfl dX0_send_42 ?_
          refine r_iconst (v := (-1)) dX0_send_45 (by decide) ?_
          refine r_ixor dX0_send_46 ?_
          refine r_iand dX0_send_47 ?_
          refine r_if_ne (tgt := 83) dX0_send_48 rfl (fun c5 => ?_) (fun c5 => ?_)
          · --
            refine r_iincN (n := 1) dX0_send_83 rfl rfl (by decide) rfl ?_
            refine r_goto (tgt := 24) dX0_send_86 rfl ?_
            exact r_L (by have h7 : fewOf (i + 1) (sendP b T j) = none := fewOf_n0 hbo (by unfold sendP; rw [hS0, decide_eq_false c5]; rfl); rw [h7]; rfl) (ihi (by omega) _ (fL))
          · --
            refine r_iload dX0_send_51 rfl ?_
            refine r_iload_n dX0_send_53 rfl ?_
            refine r_callSx lX0_272 (x0_fewN (n := i) (by omega)) rfl rfl rfl rfl dX0_send_54 (Nat.le_refl _) (Nat.le_refl _) ?_
            refine r_ifB_eq (tgt := 83) dX0_send_57 rfl (fun c6 => ?_) (fun c6 => ?_)
            · --
              exact absurd c6 (by decide)
            · --
              refine r_aload_n dX0_send_60 rfl ?_
              refine r_aload_n dX0_send_61 rfl ?_
              refine r_getRv fX0_53 (hlL.k) (v := 74) (hlL.r 5 (by decide) (by decide)) rfl dX0_send_62 ?_
              refine r_getIv fX0_237 (hTL.k) (v := nI S) ((hTL.si).trans hS0) rfl dX0_send_65 ?_
              refine r_iload dX0_send_68 rfl ?_
              refine r_iconst (v := (-1)) dX0_send_70 (by decide) ?_
              refine r_ixor dX0_send_71 ?_
              refine r_iand dX0_send_72 ?_
              refine r_iload_n dX0_send_73 rfl ?_
              refine r_callVi lX0_276 (x0_outAt hmL (v := ((nI S) &&& ((nI i) ^^^ (-1)))) (and_lt _ ⟨S, hSP, rfl⟩) (s := j) (by omega)) (hlL.k) rfl rfl rfl rfl dX0_send_74 (Nat.le_refl _) (Nat.le_refl _) (fun y9 hZ1 q9 => ?_)
              obtain ⟨rfl, gZ1⟩ := q9
              have kZ1 : Fr (QF K) [] hL hZ1 := gZ1
              have hmZ1 := hmL.fq kZ1
              have fZ1 : Fr (QF K) [] h hZ1 := fL.tr kZ1
              have hbZ1 := hmZ1.xb
              have hTZ1 := hmZ1.xt
              have hlZ1 := hmZ1.lay
              refine r_if_ne (tgt := 83) dX0_send_77 rfl (fun c7 => ?_) (fun c7 => ?_)
              · --
                refine r_iincN (n := 1) dX0_send_83 rfl rfl (by decide) rfl ?_
                refine r_goto (tgt := 24) dX0_send_86 rfl ?_
                exact r_L (by have h7 : fewOf (i + 1) (sendP b T j) = none := fewOf_n0 hbo (by unfold sendP; rw [hS0, decide_eq_true c5, decide_eq_false c7]; rfl); rw [h7]; rfl) (ihi (by omega) _ (fZ1))
              · --
                refine r_iload dX0_send_80 rfl ?_
                refine r_istore_n dX0_send_82 (by decide) rfl ?_
                refine r_iincN (n := 1) dX0_send_83 rfl rfl (by decide) rfl ?_
                refine r_goto (tgt := 24) dX0_send_86 rfl ?_
                exact r_L (by have h7 : fewOf (i + 1) (sendP b T j) = some i := fewOf_n1 hbo (by unfold sendP; rw [hS0, decide_eq_true c5, decide_eq_true c7]; rfl); rw [h7]; rfl) (ihi (by omega) _ (fZ1))
        | some jb =>
          have hjb := (fewOf_lt hbo).1
          refine r_iload dX0_send_36 rfl ?_
          refine r_aload_n dX0_send_38 rfl ?_
          refine r_getRv fX0_53 (hlL.k) (v := 74) (hlL.r 5 (by decide) (by decide)) rfl dX0_send_39 ?_
          refine r_getIv fX0_237 (hTL.k) (v := nI S) ((hTL.si).trans hS0) rfl dX0_send_42 ?_
          refine r_iconst (v := (-1)) dX0_send_45 (by decide) ?_
          refine r_ixor dX0_send_46 ?_
          refine r_iand dX0_send_47 ?_
          refine r_if_ne (tgt := 83) dX0_send_48 rfl (fun c8 => ?_) (fun c8 => ?_)
          · --
            refine r_iincN (n := 1) dX0_send_83 rfl rfl (by decide) rfl ?_
            refine r_goto (tgt := 24) dX0_send_86 rfl ?_
            exact r_L (by have h7 : fewOf (i + 1) (sendP b T j) = some jb := fewOf_s0 hbo (Or.inl (by unfold sendP; rw [hS0, decide_eq_false c8]; rfl)); rw [h7]; rfl) (ihi (by omega) _ (fL))
          · --
            refine r_iload dX0_send_51 rfl ?_
            refine r_iload_n dX0_send_53 rfl ?_
            refine r_callSx lX0_272 (x0_fewS (n := i) (j := jb) (by omega) (by omega)) rfl rfl rfl rfl dX0_send_54 (Nat.le_refl _) (Nat.le_refl _) ?_
            refine r_ifB_eq (tgt := 83) dX0_send_57 rfl (fun c9 => ?_) (fun c9 => ?_)
            · --
              refine r_iincN (n := 1) dX0_send_83 rfl rfl (by decide) rfl ?_
              refine r_goto (tgt := 24) dX0_send_86 rfl ?_
              exact r_L (by have h7 : fewOf (i + 1) (sendP b T j) = some jb := fewOf_s0 hbo (Or.inr (Int32.not_lt.mp (of_decide_eq_false c9))); rw [h7]; rfl) (ihi (by omega) _ (fL))
            · --
              refine r_aload_n dX0_send_60 rfl ?_
              refine r_aload_n dX0_send_61 rfl ?_
              refine r_getRv fX0_53 (hlL.k) (v := 74) (hlL.r 5 (by decide) (by decide)) rfl dX0_send_62 ?_
              refine r_getIv fX0_237 (hTL.k) (v := nI S) ((hTL.si).trans hS0) rfl dX0_send_65 ?_
              refine r_iload dX0_send_68 rfl ?_
              refine r_iconst (v := (-1)) dX0_send_70 (by decide) ?_
              refine r_ixor dX0_send_71 ?_
              refine r_iand dX0_send_72 ?_
              refine r_iload_n dX0_send_73 rfl ?_
              refine r_callVi lX0_276 (x0_outAt hmL (v := ((nI S) &&& ((nI i) ^^^ (-1)))) (and_lt _ ⟨S, hSP, rfl⟩) (s := j) (by omega)) (hlL.k) rfl rfl rfl rfl dX0_send_74 (Nat.le_refl _) (Nat.le_refl _) (fun y9 hZ2 q9 => ?_)
              obtain ⟨rfl, gZ2⟩ := q9
              have kZ2 : Fr (QF K) [] hL hZ2 := gZ2
              have hmZ2 := hmL.fq kZ2
              have fZ2 : Fr (QF K) [] h hZ2 := fL.tr kZ2
              have hbZ2 := hmZ2.xb
              have hTZ2 := hmZ2.xt
              have hlZ2 := hmZ2.lay
              refine r_if_ne (tgt := 83) dX0_send_77 rfl (fun c10 => ?_) (fun c10 => ?_)
              · --
                refine r_iincN (n := 1) dX0_send_83 rfl rfl (by decide) rfl ?_
                refine r_goto (tgt := 24) dX0_send_86 rfl ?_
                exact r_L (by have h7 : fewOf (i + 1) (sendP b T j) = some jb := fewOf_s0 hbo (Or.inl (by unfold sendP; rw [hS0, decide_eq_true c8, decide_eq_false c10]; rfl)); rw [h7]; rfl) (ihi (by omega) _ (fZ2))
              · --
                refine r_iload dX0_send_80 rfl ?_
                refine r_istore_n dX0_send_82 (by decide) rfl ?_
                refine r_iincN (n := 1) dX0_send_83 rfl rfl (by decide) rfl ?_
                refine r_goto (tgt := 24) dX0_send_86 rfl ?_
                exact r_L (by have h7 : fewOf (i + 1) (sendP b T j) = some i := fewOf_s1 hbo (by unfold sendP; rw [hS0, decide_eq_true c8, decide_eq_true c10]; rfl) (of_decide_eq_true c9); rw [h7]; rfl) (ihi (by omega) _ (fZ2))
    · --
      refine r_iconst (v := (-1)) dX0_send_17 (by decide) ?_
      exact r_reti dX0_send_18 rfl rfl (Nat.le_refl _) (Nat.le_refl _) ⟨by rw [sendV2, if_neg (by simp [c1, c2])], f⟩

theorem x0_spark {G : ev_G} {b : Bk} {K : XK} {T : Nat → Int32} {h : ev_H} (hm : XM b K T h) (p : Int32) : Called G mX0_spark 312 0 0 [vR 64, vI p] h (pI (fun y h1 => y = sparkV b T p ∧ Fr (QF K) [] h h1)) := by
  have hb := hm.xb
  have hT := hm.xt
  have hl := hm.lay
  have hw := hm.bw
  have hb1 := hw.p6
  have hb2 := hw.s5
  have hb3 := hw.t10
  have hw9 := hm.tw
  have f : Fr (QF K) [] h h := Fr.rf
  have hp2 := p2_6 hb1
  have hp1 : 1 ≤ 2 ^ nP b := Nat.one_le_two_pow
  obtain ⟨S, hSP, hS0⟩ := hw9.1
  refine called_of rfl [some (vR 64), some (vI p), none, none] rfl (Nat.le_of_ble_eq_true rfl) ?_
  refine r_aload_n dX0_spark_0 rfl ?_
  refine r_iload_n dX0_spark_1 rfl ?_
  refine r_callVx lX0_212 (x0_isSack hm _) (hl.k) rfl rfl rfl rfl dX0_spark_2 (Nat.le_refl _) (Nat.le_refl _) ?_
  refine r_ifB_ne (tgt := 10) dX0_spark_5 rfl (fun c1 => ?_) (fun c1 => ?_)
  · --
    obtain ⟨j, hj, rfl⟩ := sakV_ok hw c1
    refine r_iconst (v := (-1)) dX0_spark_10 (by decide) ?_
    refine r_istore_n dX0_spark_11 (by decide) rfl ?_
    refine r_iconst (v := nI 0) dX0_spark_12 (by decide) ?_
    refine r_istore_n dX0_spark_13 (by decide) rfl ?_
    refine (ev_for (P := fun i => ∀ hL : ev_H, (Fr (QF K) [] h hL) → Ev G mX0_spark (ev_room 312 0 0) (ev_MQ G (pI (fun y h1 => y = sparkV b T (nI j) ∧ Fr (QF K) [] h h1)) 0 0) 14 [some (vR 64), some (vI (nI j)), some (vI (optI (fewOf i (spkP b T j)))), some (vI (nI i))] [] hL 0 0) (2 ^ nP b) (fun i hki ihi hL qhL => ?_)) 0 (Nat.zero_le _) _ (f)
    have fL := qhL
    have hmL := hm.fq fL
    have hbL := hmL.xb
    have hTL := hmL.xt
    have hlL := hmL.lay
    refine r_iload_n dX0_spark_14 rfl ?_
    refine r_aload_n dX0_spark_15 rfl ?_
    refine r_callVx lX0_269 (x0_allPeopleN hmL) (hlL.k) rfl rfl rfl rfl dX0_spark_16 (Nat.le_refl _) (Nat.le_refl _) ?_
    refine r_icmpN_gt (tgt := 67) dX0_spark_19 rfl (by omega) (by omega) (fun c2 => ?_) (fun c2 => ?_)
    · --
      have hi9 : i = 2 ^ nP b := by omega
      subst hi9
      cases hbo : fewOf (2 ^ nP b) (spkP b T j) with
      | none =>
        refine r_iload_n dX0_spark_67 rfl ?_
        refine r_if_ge (tgt := 75) dX0_spark_68 rfl (fun c3 => ?_) (fun c3 => ?_)
        · --
          exact absurd c3 (show ¬ (0 : Int32) ≤ (-1) by decide)
        · --
          refine r_iconst (v := (-1)) dX0_spark_71 (by decide) ?_
          refine r_goto (tgt := 79) dX0_spark_72 rfl ?_
          exact r_reti dX0_spark_79 rfl rfl (Nat.le_refl _) (Nat.le_refl _) ⟨by rw [sparkV, if_pos c1, nI_clamp (by omega), spark_n hp2 hSP hS0 hbo], fL⟩
      | some jb =>
        have hjb := (fewOf_lt hbo).1
        refine r_iload_n dX0_spark_67 rfl ?_
        refine r_if_ge (tgt := 75) dX0_spark_68 rfl (fun c4 => ?_) (fun c4 => ?_)
        · --
          refine r_iload_n dX0_spark_75 rfl ?_
          refine r_callSx lX0_239 (xJ15_bc (⟨jb, by omega, rfl⟩)) rfl rfl rfl rfl dX0_spark_76 (Nat.le_refl _) (Nat.le_refl _) ?_
          exact r_reti dX0_spark_79 rfl rfl (Nat.le_refl _) (Nat.le_refl _) ⟨by rw [sparkV, if_pos c1, nI_clamp (by omega), spark_s hp2 hSP hS0 hbo], fL⟩
        · --
          exact absurd (nI_pos' (by omega)) c4
    · --
      cases hbo : fewOf i (spkP b T j) with
      | none =>
        refine r_iload_n dX0_spark_22 rfl ?_
        refine r_aload_n dX0_spark_23 rfl ?_
        refine r_getRv fX0_53 (hlL.k) (v := 74) (hlL.r 5 (by decide) (by decide)) rfl dX0_spark_24 ?_
        refine r_getIv fX0_237 (hTL.k) (v := nI S) ((hTL.si).trans hS0) rfl dX0_spark_27 ?_
        refine r_iand dX0_spark_30 ?_
        refine r_if_ne (tgt := 61) dX0_spark_31 rfl (fun c5 => ?_) (fun c5 => ?_)
        · --
          refine r_iincN (n := 1) dX0_spark_61 rfl rfl (by decide) rfl ?_
          refine r_goto (tgt := 14) dX0_spark_64 rfl ?_
          exact r_L (by have h7 : fewOf (i + 1) (spkP b T j) = none := fewOf_n0 hbo (by unfold spkP; rw [hS0, decide_eq_false c5]; rfl); rw [h7]; rfl) (ihi (by omega) _ (fL))
        · --
          refine r_iload_n dX0_spark_34 rfl ?_
          refine r_iload_n dX0_spark_35 rfl ?_
          refine r_callSx lX0_272 (x0_fewN (n := i) (by omega)) rfl rfl rfl rfl dX0_spark_36 (Nat.le_refl _) (Nat.le_refl _) ?_
          refine r_ifB_eq (tgt := 61) dX0_spark_39 rfl (fun c6 => ?_) (fun c6 => ?_)
          · --
            exact absurd c6 (by decide)
          · --
            refine r_aload_n dX0_spark_42 rfl ?_
            refine r_aload_n dX0_spark_43 rfl ?_
            refine r_getRv fX0_53 (hlL.k) (v := 74) (hlL.r 5 (by decide) (by decide)) rfl dX0_spark_44 ?_
            refine r_getIv fX0_237 (hTL.k) (v := nI S) ((hTL.si).trans hS0) rfl dX0_spark_47 ?_
            refine r_iload_n dX0_spark_50 rfl ?_
            refine r_ior dX0_spark_51 ?_
            refine r_iload_n dX0_spark_52 rfl ?_
            refine r_callVi lX0_276 (x0_outAt hmL (v := ((nI S) ||| (nI i))) (nIor_lt ⟨S, hSP, rfl⟩ ⟨i, by omega, rfl⟩) (s := j) (by omega)) (hlL.k) rfl rfl rfl rfl dX0_spark_53 (Nat.le_refl _) (Nat.le_refl _) (fun y9 hZ1 q9 => ?_)
            obtain ⟨rfl, gZ1⟩ := q9
            have kZ1 : Fr (QF K) [] hL hZ1 := gZ1
            have hmZ1 := hmL.fq kZ1
            have fZ1 : Fr (QF K) [] h hZ1 := fL.tr kZ1
            have hbZ1 := hmZ1.xb
            have hTZ1 := hmZ1.xt
            have hlZ1 := hmZ1.lay
            refine r_if_eq (tgt := 61) dX0_spark_56 rfl (fun c7 => ?_) (fun c7 => ?_)
            · --
              refine r_iincN (n := 1) dX0_spark_61 rfl rfl (by decide) rfl ?_
              refine r_goto (tgt := 14) dX0_spark_64 rfl ?_
              exact r_L (by have h7 : fewOf (i + 1) (spkP b T j) = none := fewOf_n0 hbo (by unfold spkP; rw [hS0, decide_eq_true c5, decide_eq_true c7]; rfl); rw [h7]; rfl) (ihi (by omega) _ (fZ1))
            · --
              refine r_iload_n dX0_spark_59 rfl ?_
              refine r_istore_n dX0_spark_60 (by decide) rfl ?_
              refine r_iincN (n := 1) dX0_spark_61 rfl rfl (by decide) rfl ?_
              refine r_goto (tgt := 14) dX0_spark_64 rfl ?_
              exact r_L (by have h7 : fewOf (i + 1) (spkP b T j) = some i := fewOf_n1 hbo (by unfold spkP; rw [hS0, decide_eq_true c5, decide_eq_false c7]; rfl); rw [h7]; rfl) (ihi (by omega) _ (fZ1))
      | some jb =>
        have hjb := (fewOf_lt hbo).1
        refine r_iload_n dX0_spark_22 rfl ?_
        refine r_aload_n dX0_spark_23 rfl ?_
        refine r_getRv fX0_53 (hlL.k) (v := 74) (hlL.r 5 (by decide) (by decide)) rfl dX0_spark_24 ?_
        refine r_getIv fX0_237 (hTL.k) (v := nI S) ((hTL.si).trans hS0) rfl dX0_spark_27 ?_
        refine r_iand dX0_spark_30 ?_
        refine r_if_ne (tgt := 61) dX0_spark_31 rfl (fun c8 => ?_) (fun c8 => ?_)
        · --
          refine r_iincN (n := 1) dX0_spark_61 rfl rfl (by decide) rfl ?_
          refine r_goto (tgt := 14) dX0_spark_64 rfl ?_
          exact r_L (by have h7 : fewOf (i + 1) (spkP b T j) = some jb := fewOf_s0 hbo (Or.inl (by unfold spkP; rw [hS0, decide_eq_false c8]; rfl)); rw [h7]; rfl) (ihi (by omega) _ (fL))
        · --
          refine r_iload_n dX0_spark_34 rfl ?_
          refine r_iload_n dX0_spark_35 rfl ?_
          refine r_callSx lX0_272 (x0_fewS (n := i) (j := jb) (by omega) (by omega)) rfl rfl rfl rfl dX0_spark_36 (Nat.le_refl _) (Nat.le_refl _) ?_
          refine r_ifB_eq (tgt := 61) dX0_spark_39 rfl (fun c9 => ?_) (fun c9 => ?_)
          · --
            refine r_iincN (n := 1) dX0_spark_61 rfl rfl (by decide) rfl ?_
            refine r_goto (tgt := 14) dX0_spark_64 rfl ?_
            exact r_L (by have h7 : fewOf (i + 1) (spkP b T j) = some jb := fewOf_s0 hbo (Or.inr (Int32.not_lt.mp (of_decide_eq_false c9))); rw [h7]; rfl) (ihi (by omega) _ (fL))
          · --
            refine r_aload_n dX0_spark_42 rfl ?_
            refine r_aload_n dX0_spark_43 rfl ?_
            refine r_getRv fX0_53 (hlL.k) (v := 74) (hlL.r 5 (by decide) (by decide)) rfl dX0_spark_44 ?_
            refine r_getIv fX0_237 (hTL.k) (v := nI S) ((hTL.si).trans hS0) rfl dX0_spark_47 ?_
            refine r_iload_n dX0_spark_50 rfl ?_
            refine r_ior dX0_spark_51 ?_
            refine r_iload_n dX0_spark_52 rfl ?_
            refine r_callVi lX0_276 (x0_outAt hmL (v := ((nI S) ||| (nI i))) (nIor_lt ⟨S, hSP, rfl⟩ ⟨i, by omega, rfl⟩) (s := j) (by omega)) (hlL.k) rfl rfl rfl rfl dX0_spark_53 (Nat.le_refl _) (Nat.le_refl _) (fun y9 hZ2 q9 => ?_)
            obtain ⟨rfl, gZ2⟩ := q9
            have kZ2 : Fr (QF K) [] hL hZ2 := gZ2
            have hmZ2 := hmL.fq kZ2
            have fZ2 : Fr (QF K) [] h hZ2 := fL.tr kZ2
            have hbZ2 := hmZ2.xb
            have hTZ2 := hmZ2.xt
            have hlZ2 := hmZ2.lay
            refine r_if_eq (tgt := 61) dX0_spark_56 rfl (fun c10 => ?_) (fun c10 => ?_)
            · --
              refine r_iincN (n := 1) dX0_spark_61 rfl rfl (by decide) rfl ?_
              refine r_goto (tgt := 14) dX0_spark_64 rfl ?_
              exact r_L (by have h7 : fewOf (i + 1) (spkP b T j) = some jb := fewOf_s0 hbo (Or.inl (by unfold spkP; rw [hS0, decide_eq_true c8, decide_eq_true c10]; rfl)); rw [h7]; rfl) (ihi (by omega) _ (fZ2))
            · --
              refine r_iload_n dX0_spark_59 rfl ?_
              refine r_istore_n dX0_spark_60 (by decide) rfl ?_
              refine r_iincN (n := 1) dX0_spark_61 rfl rfl (by decide) rfl ?_
              refine r_goto (tgt := 14) dX0_spark_64 rfl ?_
              exact r_L (by have h7 : fewOf (i + 1) (spkP b T j) = some i := fewOf_s1 hbo (by unfold spkP; rw [hS0, decide_eq_true c8, decide_eq_false c10]; rfl) (of_decide_eq_true c9); rw [h7]; rfl) (ihi (by omega) _ (fZ2))
  · --
    refine r_iconst (v := (-1)) dX0_spark_8 (by decide) ?_
    exact r_reti dX0_spark_9 rfl rfl (Nat.le_refl _) (Nat.le_refl _) ⟨by rw [sparkV, if_neg (by rw [c1]; decide)], f⟩

theorem x0_shyest {G : ev_G} {b : Bk} {K : XK} {T : Nat → Int32} {h : ev_H} (hm : XM b K T h) (p : Int32) : Called G mX0_shyest 312 0 0 [vR 64, vI p] h (pI (fun y h1 => y = shyV b T p ∧ Fr (QF K) [] h h1)) := by
  have hb := hm.xb
  have hT := hm.xt
  have hl := hm.lay
  have hw := hm.bw
  have hb1 := hw.p6
  have hb2 := hw.s5
  have hb3 := hw.t10
  have hw9 := hm.tw
  have f : Fr (QF K) [] h h := Fr.rf
  refine called_of rfl [some (vR 64), some (vI p), none, none] rfl (Nat.le_of_ble_eq_true rfl) ?_
  refine r_aload_n dX0_shyest_0 rfl ?_
  refine r_iload_n dX0_shyest_1 rfl ?_
  refine r_callVx lX0_187 (x0_isThing hm _) (hl.k) rfl rfl rfl rfl dX0_shyest_2 (Nat.le_refl _) (Nat.le_refl _) ?_
  refine r_ifB_eq (tgt := 31) dX0_shyest_5 rfl (fun c1 => ?_) (fun c1 => ?_)
  · --
    refine r_iconst (v := (-1)) dX0_shyest_31 (by decide) ?_
    exact r_reti dX0_shyest_32 rfl rfl (Nat.le_refl _) (Nat.le_refl _) ⟨by rw [shyV, if_neg (by simp [c1])], f⟩
  · --
    obtain ⟨j, hj, rfl⟩ := thiV_ok hw c1
    refine r_aload_n dX0_shyest_8 rfl ?_
    refine r_getRv fX0_53 (hl.k) (v := 74) (hl.r 5 (by decide) (by decide)) rfl dX0_shyest_9 ?_
    refine r_iload_n dX0_shyest_12 rfl ?_
    refine r_callVx lX0_202 (x3_isSaidN hT j) (hT.k) rfl rfl rfl rfl dX0_shyest_13 (Nat.le_refl _) (Nat.le_refl _) ?_
    refine r_ifB_ne (tgt := 31) dX0_shyest_16 rfl (fun c2 => ?_) (fun c2 => ?_)
    · --
      refine r_iconst (v := (-1)) dX0_shyest_31 (by decide) ?_
      exact r_reti dX0_shyest_32 rfl rfl (Nat.le_refl _) (Nat.le_refl _) ⟨by rw [shyV, nI_clamp (by omega), if_neg (by simp [stV, c1, c2])], f⟩
    · --
      refine r_aload_n dX0_shyest_19 rfl ?_
      refine r_getRv fX0_53 (hl.k) (v := 74) (hl.r 5 (by decide) (by decide)) rfl dX0_shyest_20 ?_
      refine r_getRv fX0_199 (hT.k) (v := 75) (hT.rin) rfl dX0_shyest_23 ?_
      refine r_iload_n dX0_shyest_26 rfl ?_
      refine r_ialdv (hT.kin) (hT.lin) (ix_n (by omega) (by decide)) (v := T (2 + j)) (hT.in_ (by omega)) dX0_shyest_27 ?_
      refine r_if_ge (tgt := 33) dX0_shyest_28 rfl (fun c3 => ?_) (fun c3 => ?_)
      · --
        obtain ⟨s, hs, es⟩ := hw9.ins (t := j) (by omega) (Int32.not_lt.mpr c3)
        have hst : stV T j = true := by simp [stV, c2]
        refine r_iconst (v := (-1)) dX0_shyest_33 (by decide) ?_
        refine r_istore_n dX0_shyest_34 (by decide) rfl ?_
        refine r_iconst (v := nI 0) dX0_shyest_35 (by decide) ?_
        refine r_istore_n dX0_shyest_36 (by decide) rfl ?_
        refine (ev_for (P := fun i => ∀ hL : ev_H, (Fr (QF K) [] h hL) → Ev G mX0_shyest (ev_room 312 0 0) (ev_MQ G (pI (fun y h1 => y = shyV b T (nI j) ∧ Fr (QF K) [] h h1)) 0 0) 37 [some (vR 64), some (vI (nI j)), some (vI (shyI b T s j i)), some (vI (nI i))] [] hL 0 0) 10 (fun i hki ihi hL qhL => ?_)) 0 (Nat.zero_le _) _ (f)
        have fL := qhL
        have hmL := hm.fq fL
        have hbL := hmL.xb
        have hTL := hmL.xt
        have hlL := hmL.lay
        refine r_iload_n dX0_shyest_37 rfl ?_
        refine r_bipush (v := nI 9) dX0_shyest_38 (by decide) ?_
        refine r_icmpN_gt (tgt := 94) dX0_shyest_40 rfl (by omega) (by omega) (fun c4 => ?_) (fun c4 => ?_)
        · --
          refine r_iload_n dX0_shyest_94 rfl ?_
          exact r_reti dX0_shyest_95 rfl rfl (Nat.le_refl _) (Nat.le_refl _) ⟨by rw [shyV, nI_clamp (by omega), if_pos (by simp [hst, c1, c2, c3]), es, nI_clamp (by omega)]; exact congrArg (shyI b T s j) (by omega), fL⟩
        · --
          refine r_aload_n dX0_shyest_43 rfl ?_
          refine r_getRv fX0_60 (hlL.k) (v := 80) (hlL.r 7 (by decide) (by decide)) rfl dX0_shyest_44 ?_
          refine r_aload_n dX0_shyest_47 rfl ?_
          refine r_getRv fX0_53 (hlL.k) (v := 74) (hlL.r 5 (by decide) (by decide)) rfl dX0_shyest_48 ?_
          refine r_callVr lX0_230 (xq_copy hmL) (hlL.s80.2.1) rfl rfl rfl rfl dX0_shyest_51 (Nat.le_refl _) (Nat.le_refl _) (fun y9 hZ1 q9 => ?_)
          obtain ⟨rfl, gZ1, hqZ1⟩ := q9
          have kZ1 : Fr (QF K) [] hL hZ1 := frq_t gZ1
          have hmZ1 := hmL.fq kZ1
          have fZ1 : Fr (QF K) [] h hZ1 := fL.tr kZ1
          have hbZ1 := hmZ1.xb
          have hTZ1 := hmZ1.xt
          have hlZ1 := hmZ1.lay
          refine r_iload_n dX0_shyest_54 rfl ?_
          refine r_putN fX0_292 (hlZ1.s80.2.1) (by decide) dX0_shyest_55 ?_
          have kZ2 : Fr (QF K) [] hZ1 (sI hZ1 80 2 (nI i)) := Fr.rf.sa 80 2 (nI i) (by simp)
          have hmZ2 : XM b K T (sI hZ1 80 2 (nI i)) := hmZ1.fq kZ2
          have fZ2 : Fr (QF K) [] h (sI hZ1 80 2 (nI i)) := fZ1.tr kZ2
          have hqZ2 : XT 80 T (nI i) (sI hZ1 80 2 (nI i)) := hqZ1.wsh (nI i)
          generalize sI hZ1 80 2 (nI i) = hZ2 at kZ2 hmZ2 fZ2 hqZ2 ⊢
          have hbZ2 := hmZ2.xb
          have hTZ2 := hmZ2.xt
          have hlZ2 := hmZ2.lay
          refine r_aload_n dX0_shyest_58 rfl ?_
          refine r_getRv fX0_60 (hlZ2.k) (v := 80) (hlZ2.r 7 (by decide) (by decide)) rfl dX0_shyest_59 ?_
          refine r_aload_n dX0_shyest_62 rfl ?_
          refine r_getRv fX0_42 (hlZ2.k) (v := kB K) (hmZ2.bk) rfl dX0_shyest_63 ?_
          refine r_aload_n dX0_shyest_66 rfl ?_
          refine r_getRv fX0_53 (hlZ2.k) (v := 74) (hlZ2.r 5 (by decide) (by decide)) rfl dX0_shyest_67 ?_
          refine r_getRv fX0_199 (hTZ2.k) (v := 75) (hTZ2.rin) rfl dX0_shyest_70 ?_
          refine r_iload_n dX0_shyest_73 rfl ?_
          refine r_ialdv (hTZ2.kin) (hTZ2.lin) (ix_n (by omega) (by decide)) (v := nI s) ((hTZ2.in_ (by omega)).trans es) dX0_shyest_74 ?_
          refine r_callVi lX0_221 (x3_out hbZ2 hqZ2 (hw9) (s := s) (by omega)) (hlZ2.s80.2.1) rfl rfl rfl rfl dX0_shyest_75 (Nat.le_refl _) (Nat.le_refl _) (fun y9 hZ3 q9 => ?_)
          obtain ⟨e9, gZ3⟩ := q9
          replace e9 : y9 = outS b T (nI i) s := e9
          subst e9
          have kZ3 : Fr (QF K) [] hZ2 hZ3 := frq_a gZ3
          have hmZ3 := hmZ2.fq kZ3
          have fZ3 : Fr (QF K) [] h hZ3 := fZ2.tr kZ3
          have hbZ3 := hmZ3.xb
          have hTZ3 := hmZ3.xt
          have hlZ3 := hmZ3.lay
          have hqZ3 := hqZ2.frA hbZ2 gZ3
          refine r_iload_n dX0_shyest_78 rfl ?_
          refine r_ishr dX0_shyest_79 ?_
          refine r_iconst (v := 1) dX0_shyest_80 (by decide) ?_
          refine r_iand dX0_shyest_81 ?_
          refine r_iconst (v := 1) dX0_shyest_82 (by decide) ?_
          refine r_icmp_ne (tgt := 88) dX0_shyest_83 rfl (fun c5 => ?_) (fun c5 => ?_)
          · --
            refine r_iincN (n := 1) dX0_shyest_88 rfl rfl (by decide) rfl ?_
            refine r_goto (tgt := 37) dX0_shyest_91 rfl ?_
            exact r_L (by have h7 : shyI b T s j (i + 1) = shyI b T s j i := if_neg (by rw [← shy_b hw hj hst es (by omega)]; exact fun z => c5 (of_decide_eq_true z)); rw [h7]; rfl) (ihi (by omega) _ (fZ3))
          · --
            refine r_iload_n dX0_shyest_86 rfl ?_
            refine r_istore_n dX0_shyest_87 (by decide) rfl ?_
            refine r_iincN (n := 1) dX0_shyest_88 rfl rfl (by decide) rfl ?_
            refine r_goto (tgt := 37) dX0_shyest_91 rfl ?_
            exact r_L (by have h7 : shyI b T s j (i + 1) = nI i := if_pos (by rw [← shy_b hw hj hst es (by omega)]; exact decide_eq_true c5); rw [h7]; rfl) (ihi (by omega) _ (fZ3))
      · --
        refine r_iconst (v := (-1)) dX0_shyest_31 (by decide) ?_
        exact r_reti dX0_shyest_32 rfl rfl (Nat.le_refl _) (Nat.le_refl _) ⟨by rw [shyV, nI_clamp (by omega), if_neg (by simp [stV, c1, c2, c3])], f⟩

theorem x0_after {G : ev_G} {b : Bk} {K : XK} {T : Nat → Int32} {h : ev_H} (hm : XM b K T h) (p : Int32) : Called G mX0_after 312 0 0 [vR 64, vI p] h (pI (fun y h1 => y = afterV b T p ∧ Fr (QF K) [] h h1)) := by
  have hb := hm.xb
  have hT := hm.xt
  have hl := hm.lay
  have hw := hm.bw
  have hb1 := hw.p6
  have hb2 := hw.s5
  have hb3 := hw.t10
  have hw9 := hm.tw
  have f : Fr (QF K) [] h h := Fr.rf
  refine called_of rfl [some (vR 64), some (vI p), none] rfl (Nat.le_of_ble_eq_true rfl) ?_
  refine r_aload_n dX0_after_0 rfl ?_
  refine r_iload_n dX0_after_1 rfl ?_
  refine r_callVx lX0_187 (x0_isThing hm _) (hl.k) rfl rfl rfl rfl dX0_after_2 (Nat.le_refl _) (Nat.le_refl _) ?_
  refine r_ifB_eq (tgt := 16) dX0_after_5 rfl (fun c1 => ?_) (fun c1 => ?_)
  · --
    refine r_iconst (v := (-1)) dX0_after_16 (by decide) ?_
    exact r_reti dX0_after_17 rfl rfl (Nat.le_refl _) (Nat.le_refl _) ⟨by rw [afterV, if_neg (by simp [c1])], f⟩
  · --
    obtain ⟨j, hj, rfl⟩ := thiV_ok hw c1
    refine r_aload_n dX0_after_8 rfl ?_
    refine r_iload_n dX0_after_9 rfl ?_
    refine r_callVx lX0_296 (x0_isInSack hm (t := j) (by omega)) (hl.k) rfl rfl rfl rfl dX0_after_10 (Nat.le_refl _) (Nat.le_refl _) ?_
    refine r_ifB_ne (tgt := 18) dX0_after_13 rfl (fun c2 => ?_) (fun c2 => ?_)
    · --
      have hst : stV T j = true := (Bool.and_eq_true _ _ ▸ c2 : _ ∧ _).1
      have hge : ¬ T (2 + j) < 0 := by have h7 := (Bool.and_eq_true _ _ ▸ c2 : _ ∧ _).2; simpa using h7
      obtain ⟨s, hs, es⟩ := hw9.ins (t := j) (by omega) hge
      refine r_aload_n dX0_after_18 rfl ?_
      refine r_getRv fX0_60 (hl.k) (v := 80) (hl.r 7 (by decide) (by decide)) rfl dX0_after_19 ?_
      refine r_aload_n dX0_after_22 rfl ?_
      refine r_getRv fX0_53 (hl.k) (v := 74) (hl.r 5 (by decide) (by decide)) rfl dX0_after_23 ?_
      refine r_callVr lX0_230 (xq_copy hm) (hl.s80.2.1) rfl rfl rfl rfl dX0_after_26 (Nat.le_refl _) (Nat.le_refl _) (fun y9 hZ1 q9 => ?_)
      obtain ⟨rfl, gZ1, hqZ1⟩ := q9
      have kZ1 : Fr (QF K) [] h hZ1 := frq_t gZ1
      have hmZ1 := hm.fq kZ1
      have fZ1 : Fr (QF K) [] h hZ1 := f.tr kZ1
      have hbZ1 := hmZ1.xb
      have hTZ1 := hmZ1.xt
      have hlZ1 := hmZ1.lay
      refine r_pop dX0_after_29 rfl ?_
      refine r_iconst (v := nI 1) dX0_after_30 (by decide) ?_
      refine r_istore_n dX0_after_31 (by decide) rfl ?_
      refine (ev_for (P := fun i => ∀ hL : ev_H, (Fr (QF K) [] h hL ∧ XT 80 (giT b T s i) (-1) hL ∧ aftN b T s j (9 - i) i = aftN b T s j 9 0 ∧ stV (giT b T s i) j = true) → Ev G mX0_after (ev_room 312 0 0) (ev_MQ G (pI (fun y h1 => y = afterV b T (nI j) ∧ Fr (QF K) [] h h1)) 0 0) 32 [some (vR 64), some (vI (nI j)), some (vI (nI (i + 1)))] [] hL 0 0) 9 (fun i hki ihi hL qhL => ?_)) 0 (Nat.zero_le _) _ (⟨fZ1, hqZ1, rfl, hst⟩)
      obtain ⟨fL, hqL, haf, hsi⟩ := qhL
      have hmL := hm.fq fL
      have hbL := hmL.xb
      have hTL := hmL.xt
      have hlL := hmL.lay
      refine r_iload_n dX0_after_32 rfl ?_
      refine r_bipush (v := nI 9) dX0_after_33 (by decide) ?_
      refine r_icmpN_gt (tgt := 74) dX0_after_35 rfl (by omega) (by omega) (fun c3 => ?_) (fun c3 => ?_)
      · --
        refine r_iconst (v := (-1)) dX0_after_74 (by decide) ?_
        exact r_reti dX0_after_75 rfl rfl (Nat.le_refl _) (Nat.le_refl _) ⟨by rw [afterV, nI_clamp (by omega), if_pos (by rw [Bool.and_assoc, c1, c2]; rfl), es, nI_clamp (by omega), ← haf]; have h9 : i = 9 := (by omega); subst h9; exact (congrArg optI (aft_9 hsi)).symm, fL⟩
      · --
        refine r_aload_n dX0_after_38 rfl ?_
        refine r_getRv fX0_60 (hlL.k) (v := 80) (hlL.r 7 (by decide) (by decide)) rfl dX0_after_39 ?_
        refine r_aload_n dX0_after_42 rfl ?_
        refine r_getRv fX0_42 (hlL.k) (v := kB K) (hmL.bk) rfl dX0_after_43 ?_
        refine r_aload_n dX0_after_46 rfl ?_
        refine r_getRv fX0_53 (hlL.k) (v := 74) (hlL.r 5 (by decide) (by decide)) rfl dX0_after_47 ?_
        refine r_getRv fX0_199 (hTL.k) (v := 75) (hTL.rin) rfl dX0_after_50 ?_
        refine r_iload_n dX0_after_53 rfl ?_
        refine r_ialdv (hTL.kin) (hTL.lin) (ix_n (by omega) (by decide)) (v := nI s) ((hTL.in_ (by omega)).trans es) dX0_after_54 ?_
        refine r_callVi lX0_247 (x3_grind hbL hqL (TW.gi hw9 hw hs i) (s := s) (by omega)) (hlL.s80.2.1) rfl rfl rfl rfl dX0_after_55 (Nat.le_refl _) (Nat.le_refl _) (fun y9 hZ2 q9 => ?_)
        obtain ⟨rfl, gZ2, hqZ2⟩ := q9
        have kZ2 : Fr (QF K) [] hL hZ2 := frq_g gZ2
        have hmZ2 := hmL.fq kZ2
        have fZ2 : Fr (QF K) [] h hZ2 := fL.tr kZ2
        have hbZ2 := hmZ2.xb
        have hTZ2 := hmZ2.xt
        have hlZ2 := hmZ2.lay
        refine r_iload_n dX0_after_58 rfl ?_
        refine r_ishr dX0_after_59 ?_
        refine r_iconst (v := 1) dX0_after_60 (by decide) ?_
        refine r_iand dX0_after_61 ?_
        refine r_iconst (v := 1) dX0_after_62 (by decide) ?_
        refine r_icmp_ne (tgt := 68) dX0_after_63 rfl (fun c4 => ?_) (fun c4 => ?_)
        · --
          refine r_iincN (n := 1) dX0_after_68 rfl rfl (by decide) rfl ?_
          refine r_goto (tgt := 32) dX0_after_71 rfl ?_
          exact ihi (by omega) _ (⟨fZ2, hqZ2, (aft_t (by omega) hsi).symm.trans haf, aft_s hw (TW.gi hw9 hw hs i) hj hsi c4⟩)
        · --
          refine r_iload_n dX0_after_66 rfl ?_
          exact r_reti dX0_after_67 rfl rfl (Nat.le_refl _) (Nat.le_refl _) ⟨by rw [afterV, nI_clamp (by omega), if_pos (by rw [Bool.and_assoc, c1, c2]; rfl), es, nI_clamp (by omega), ← haf]; exact (aft_1 hw (TW.gi hw9 hw hs i) hj (by omega) hsi c4).symm, fZ2⟩
    · --
      refine r_iconst (v := (-1)) dX0_after_16 (by decide) ?_
      exact r_reti dX0_after_17 rfl rfl (Nat.le_refl _) (Nat.le_refl _) ⟨by rw [afterV, nI_clamp (by omega), if_neg (by rw [Bool.and_assoc, c2, Bool.and_false]; decide)], f⟩

theorem x0_blend {G : ev_G} {b : Bk} {K : XK} {T : Nat → Int32} {h : ev_H} (hm : XM b K T h) (p o : Int32) : Called G mX0_blend 312 0 0 [vR 64, vI p, vI o] h (pI (fun y h1 => y = blendV b T p o ∧ Fr (QF K) [] h h1)) := by
  have hb := hm.xb
  have hT := hm.xt
  have hl := hm.lay
  have hw := hm.bw
  have hb1 := hw.p6
  have hb2 := hw.s5
  have hb3 := hw.t10
  have hw9 := hm.tw
  have f : Fr (QF K) [] h h := Fr.rf
  refine called_of rfl [some (vR 64), some (vI p), some (vI o), none] rfl (Nat.le_of_ble_eq_true rfl) ?_
  refine r_aload_n dX0_blend_0 rfl ?_
  refine r_iload_n dX0_blend_1 rfl ?_
  refine r_callVx lX0_212 (x0_isSack hm _) (hl.k) rfl rfl rfl rfl dX0_blend_2 (Nat.le_refl _) (Nat.le_refl _) ?_
  refine r_ifB_eq (tgt := 21) dX0_blend_5 rfl (fun c1 => ?_) (fun c1 => ?_)
  · --
    refine r_iconst (v := (-1)) dX0_blend_21 (by decide) ?_
    exact r_reti dX0_blend_22 rfl rfl (Nat.le_refl _) (Nat.le_refl _) ⟨by rw [blendV, if_neg (by simp [c1])], f⟩
  · --
    obtain ⟨j, hj, rfl⟩ := sakV_ok hw c1
    refine r_aload_n dX0_blend_8 rfl ?_
    refine r_iload_n dX0_blend_9 rfl ?_
    refine r_callVx lX0_212 (x0_isSack hm _) (hl.k) rfl rfl rfl rfl dX0_blend_10 (Nat.le_refl _) (Nat.le_refl _) ?_
    refine r_ifB_eq (tgt := 21) dX0_blend_13 rfl (fun c2 => ?_) (fun c2 => ?_)
    · --
      refine r_iconst (v := (-1)) dX0_blend_21 (by decide) ?_
      exact r_reti dX0_blend_22 rfl rfl (Nat.le_refl _) (Nat.le_refl _) ⟨by rw [blendV, if_neg (by simp [c1, c2])], f⟩
    · --
      obtain ⟨jo, hjo, rfl⟩ := sakV_ok hw c2
      refine r_iload_n dX0_blend_16 rfl ?_
      refine r_iload_n dX0_blend_17 rfl ?_
      refine r_icmp_ne (tgt := 23) dX0_blend_18 rfl (fun c3 => ?_) (fun c3 => ?_)
      · --
        refine r_aload_n dX0_blend_23 rfl ?_
        refine r_getRv fX0_60 (hl.k) (v := 80) (hl.r 7 (by decide) (by decide)) rfl dX0_blend_24 ?_
        refine r_aload_n dX0_blend_27 rfl ?_
        refine r_getRv fX0_53 (hl.k) (v := 74) (hl.r 5 (by decide) (by decide)) rfl dX0_blend_28 ?_
        refine r_callVr lX0_230 (xq_copy hm) (hl.s80.2.1) rfl rfl rfl rfl dX0_blend_31 (Nat.le_refl _) (Nat.le_refl _) (fun y9 hZ1 q9 => ?_)
        obtain ⟨rfl, gZ1, hqZ1⟩ := q9
        have kZ1 : Fr (QF K) [] h hZ1 := frq_t gZ1
        have hmZ1 := hm.fq kZ1
        have fZ1 : Fr (QF K) [] h hZ1 := f.tr kZ1
        have hbZ1 := hmZ1.xb
        have hTZ1 := hmZ1.xt
        have hlZ1 := hmZ1.lay
        refine r_pop dX0_blend_34 rfl ?_
        refine r_iconst (v := nI 0) dX0_blend_35 (by decide) ?_
        refine r_istore_n dX0_blend_36 (by decide) rfl ?_
        refine (ev_for (P := fun i => ∀ hL : ev_H, (Fr (QF K) [] h hL ∧ XT 80 (blX T (nI jo) (nI j) i) (-1) hL) → Ev G mX0_blend (ev_room 312 0 0) (ev_MQ G (pI (fun y h1 => y = blendV b T (nI j) (nI jo) ∧ Fr (QF K) [] h h1)) 0 0) 37 [some (vR 64), some (vI (nI j)), some (vI (nI jo)), some (vI (nI i))] [] hL 0 0) (nT b) (fun i hki ihi hL qhL => ?_)) 0 (Nat.zero_le _) _ (⟨fZ1, hqZ1.eqT (fun k _ => blX_0 k)⟩)
        obtain ⟨fL, hqL⟩ := qhL
        have hmL := hm.fq fL
        have hbL := hmL.xb
        have hTL := hmL.xt
        have hlL := hmL.lay
        refine r_iload_n dX0_blend_37 rfl ?_
        refine r_aload_n dX0_blend_38 rfl ?_
        refine r_callVx lX0_140 (x0_things hmL) (hlL.k) rfl rfl rfl rfl dX0_blend_39 (Nat.le_refl _) (Nat.le_refl _) ?_
        refine r_icmpN_ge (tgt := 86) dX0_blend_42 rfl (by omega) (by omega) (fun c4 => ?_) (fun c4 => ?_)
        · --
          refine r_aload_n dX0_blend_86 rfl ?_
          refine r_getRv fX0_60 (hlL.k) (v := 80) (hlL.r 7 (by decide) (by decide)) rfl dX0_blend_87 ?_
          refine r_aload_n dX0_blend_90 rfl ?_
          refine r_getRv fX0_42 (hlL.k) (v := kB K) (hmL.bk) rfl dX0_blend_91 ?_
          refine r_iload_n dX0_blend_94 rfl ?_
          refine r_callVi lX0_221 (x3_out hbL hqL (hw9.blx (n := i) hj (by omega)) (s := j) (by omega)) (hlL.s80.2.1) rfl rfl rfl rfl dX0_blend_95 (Nat.le_refl _) (Nat.le_refl _) (fun y9 hZ2 q9 => ?_)
          obtain ⟨e9, gZ2⟩ := q9
          replace e9 : y9 = outV b (blX T (nI jo) (nI j) i) j := e9
          subst e9
          have kZ2 : Fr (QF K) [] hL hZ2 := frq_a gZ2
          have hmZ2 := hmL.fq kZ2
          have fZ2 : Fr (QF K) [] h hZ2 := fL.tr kZ2
          have hbZ2 := hmZ2.xb
          have hTZ2 := hmZ2.xt
          have hlZ2 := hmZ2.lay
          have hqZ2 := hqL.frA hbL gZ2
          refine r_callSx lX0_239 (xJ15_bc (lt1024 hw (outV_lt hw _))) rfl rfl rfl rfl dX0_blend_98 (Nat.le_refl _) (Nat.le_refl _) ?_
          exact r_reti dX0_blend_101 rfl rfl (Nat.le_refl _) (Nat.le_refl _) ⟨by rw [blendV, if_pos (by simp [c1, c2, c3]), nI_clamp (by omega), bl_out (by omega), show nT b = i by omega], fZ2⟩
        · --
          refine r_aload_n dX0_blend_45 rfl ?_
          refine r_getRv fX0_60 (hlL.k) (v := 80) (hlL.r 7 (by decide) (by decide)) rfl dX0_blend_46 ?_
          refine r_getRv fX0_199 (hlL.s80.2.1) (v := 81) (hqL.rin) rfl dX0_blend_49 ?_
          refine r_iload_n dX0_blend_52 rfl ?_
          refine r_aload_n dX0_blend_53 rfl ?_
          refine r_getRv fX0_60 (hlL.k) (v := 80) (hlL.r 7 (by decide) (by decide)) rfl dX0_blend_54 ?_
          refine r_getRv fX0_199 (hlL.s80.2.1) (v := 81) (hqL.rin) rfl dX0_blend_57 ?_
          refine r_iload_n dX0_blend_60 rfl ?_
          refine r_ialdv (hqL.kin) (hqL.lin) (ix_n (by omega) (by decide)) (v := T (2 + i)) ((hqL.in_ (by omega)).trans blX_at) dX0_blend_61 ?_
          refine r_iload_n dX0_blend_62 rfl ?_
          refine r_icmp_ne (tgt := 70) dX0_blend_63 rfl (fun c5 => ?_) (fun c5 => ?_)
          · --
            refine r_aload_n dX0_blend_70 rfl ?_
            refine r_getRv fX0_60 (hlL.k) (v := 80) (hlL.r 7 (by decide) (by decide)) rfl dX0_blend_71 ?_
            refine r_getRv fX0_199 (hlL.s80.2.1) (v := 81) (hqL.rin) rfl dX0_blend_74 ?_
            refine r_iload_n dX0_blend_77 rfl ?_
            refine r_ialdv (hqL.kin) (hqL.lin) (ix_n (by omega) (by decide)) (v := T (2 + i)) ((hqL.in_ (by omega)).trans blX_at) dX0_blend_78 ?_
            refine r_iastv (hqL.kin) (by decide) (hqL.lin) (ix_n (by omega) (by decide)) dX0_blend_79 ?_
            have kZ3 : Fr (QF K) [] hL (sI hL 81 i (T (2 + i))) := Fr.rf.sa 81 i (T (2 + i)) (by simp)
            have hmZ3 : XM b K T (sI hL 81 i (T (2 + i))) := hmL.fq kZ3
            have fZ3 : Fr (QF K) [] h (sI hL 81 i (T (2 + i))) := fL.tr kZ3
            have hqZ3 : XT 80 (u1 (blX T (nI jo) (nI j) i) (2 + i) (T (2 + i))) (-1) (sI hL 81 i (T (2 + i))) := hqL.win (by omega) (T (2 + i))
            generalize sI hL 81 i (T (2 + i)) = hZ3 at kZ3 hmZ3 fZ3 hqZ3 ⊢
            have hbZ3 := hmZ3.xb
            have hTZ3 := hmZ3.xt
            have hlZ3 := hmZ3.lay
            refine r_iincN (n := 1) dX0_blend_80 rfl rfl (by decide) rfl ?_
            refine r_goto (tgt := 37) dX0_blend_83 rfl ?_
            exact ihi (by omega) _ (⟨fZ3, hqZ3.eqT (fun k _ => blX_s (if_neg c5) k)⟩)
          · --
            refine r_iload_n dX0_blend_66 rfl ?_
            refine r_goto (tgt := 79) dX0_blend_67 rfl ?_
            refine r_iastv (hqL.kin) (by decide) (hqL.lin) (ix_n (by omega) (by decide)) dX0_blend_79 ?_
            have kZ4 : Fr (QF K) [] hL (sI hL 81 i (nI j)) := Fr.rf.sa 81 i (nI j) (by simp)
            have hmZ4 : XM b K T (sI hL 81 i (nI j)) := hmL.fq kZ4
            have fZ4 : Fr (QF K) [] h (sI hL 81 i (nI j)) := fL.tr kZ4
            have hqZ4 : XT 80 (u1 (blX T (nI jo) (nI j) i) (2 + i) (nI j)) (-1) (sI hL 81 i (nI j)) := hqL.win (by omega) (nI j)
            generalize sI hL 81 i (nI j) = hZ4 at kZ4 hmZ4 fZ4 hqZ4 ⊢
            have hbZ4 := hmZ4.xb
            have hTZ4 := hmZ4.xt
            have hlZ4 := hmZ4.lay
            refine r_iincN (n := 1) dX0_blend_80 rfl rfl (by decide) rfl ?_
            refine r_goto (tgt := 37) dX0_blend_83 rfl ?_
            exact ihi (by omega) _ (⟨fZ4, hqZ4.eqT (fun k _ => blX_s (if_pos c5) k)⟩)
      · --
        refine r_iconst (v := (-1)) dX0_blend_21 (by decide) ?_
        exact r_reti dX0_blend_22 rfl rfl (Nat.le_refl _) (Nat.le_refl _) ⟨by rw [blendV, if_neg (by simp [c1, c2, c3])], f⟩
