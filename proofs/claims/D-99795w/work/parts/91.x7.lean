/-! ===== THE SYSTEM: who could sit, sacks otherwise (walks by program) ===== -/
set_option maxRecDepth 100000

theorem few_none {p : Nat → Bool} : ∀ {n : Nat}, fewOf n p = none → ∀ k, k < n → p k = false
  | 0, _, k, hk => absurd hk (by omega)
  | n + 1, h, k, hk => by
    unfold fewOf at h
    cases e : fewOf n p with
    | some j => rw [e] at h; simp only at h; split at h <;> cases h
    | none =>
      rw [e] at h
      simp only at h
      cases ep : p n with
      | true => rw [ep] at h; cases h
      | false =>
        rcases Nat.lt_or_ge k n with q | q
        · exact few_none e k q
        · rw [show k = n by omega]; exact ep

theorem fewest_some {b : Bk} {T : Nat → Int32} (hs : nS b ≤ 5) : ¬ fewestO b T (2 ^ nS b) = none := fun h => by
  have h1 : 1 ≤ 2 ^ nS b := Nat.one_le_two_pow
  have e := few_none (n := 2 ^ nS b) h (2 ^ nS b - 1) (by omega)
  rw [← allV_n (by omega)] at e
  exact absurd e (by simp)
theorem popc_k : ∀ n : Fin 1024, pcf 32 (nI n.val).toBitVec.toNat ≤ 10 := by decide +kernel
theorem popc_11 {x : Int32} (h : ∃ n, n < 1024 ∧ x = nI n) : popc x < nI 11 := by
  obtain ⟨n, hn, rfl⟩ := h
  exact nI_lt (by have := popc_k ⟨n, hn⟩; simp only at this; omega) (by omega)
theorem hid_0 {b : Bk} {T : Nat → Int32} {j i : Nat} (h : (outV b (u1 T (2 + j) (nI i)) i >>> (nI j &&& 31)) &&& 1 = 1) : (!tb (hideF b T j i) j) = false := by
  have e : tb (hideF b T j i) j = true := decide_eq_true h
  rw [e]; rfl
theorem hid_1 {b : Bk} {T : Nat → Int32} {j i : Nat} (h : ¬ (outV b (u1 T (2 + j) (nI i)) i >>> (nI j &&& 31)) &&& 1 = 1) : (!tb (hideF b T j i) j) = true := by
  have e : tb (hideF b T j i) j = false := decide_eq_false h
  rw [e]; rfl
theorem TW.gro {b : Bk} {T : Nat → Int32} (hw : TW b T) {s : Nat} {v : Int32} (hs : s < 5) (hb : BW b) (hv : isInV v 0 (nI 99) = true) : TW b (u1 T (12 + s) v) := by
  have h10 := hb.t10
  obtain ⟨g, hg, rfl⟩ := isIn_m (by omega) hv
  exact hw.up (by omega) (by omega) (by omega) (fun _ _ _ => ⟨g, hg, rfl⟩) (by omega) (by omega)
theorem TW.inn {b : Bk} {T : Nat → Int32} (hw : TW b T) {t : Nat} {v : Int32} (ht : t < 10) (hv : v = -1 ∨ ∃ s, s < nS b ∧ v = nI s) : TW b (u1 T (2 + t) v) := hw.up (by omega) (by omega) (fun _ _ _ => hv) (by omega) (by omega) (by omega)

theorem x0_table {G : ev_G} {b : Bk} {K : XK} {T : Nat → Int32} {h : ev_H} (hm : XM b K T h) (set p wh : Int32) : Called G mX0_table 312 0 0 [vR 64, vI set, vI p, vI wh] h (pI (fun y h1 => y = tableV b T set p wh ∧ Fr (QF K) [] h h1)) := by
  have hb := hm.xb
  have hT := hm.xt
  have hl := hm.lay
  have hw := hm.bw
  have hb1 := hw.p6
  have hb2 := hw.s5
  have hb3 := hw.t10
  have hw9 := hm.tw
  have f : Fr (QF K) [] h h := Fr.rf
  have hp2 := p2_6 hb1
  have hp1 : 1 ≤ 2 ^ nP b := Nat.one_le_two_pow
  refine called_of rfl [some (vR 64), some (vI set), some (vI p), some (vI wh), none, none] rfl (Nat.le_of_ble_eq_true rfl) ?_
  refine r_iload_n dX0_table_0 rfl ?_
  refine r_iconst (v := 0) dX0_table_1 (by decide) ?_
  refine r_aload_n dX0_table_2 rfl ?_
  refine r_getRv fX0_42 (hl.k) (v := kB K) (hm.bk) rfl dX0_table_3 ?_
  refine r_callVx lX0_159 (x1_all hb) (hb.k) rfl rfl rfl rfl dX0_table_6 (Nat.le_refl _) (Nat.le_refl _) ?_
  refine r_callSx lX0_155 (x0_isIn _ _ _) rfl rfl rfl rfl dX0_table_9 (Nat.le_refl _) (Nat.le_refl _) ?_
  refine r_ifB_eq (tgt := 32) dX0_table_12 rfl (fun c1 => ?_) (fun c1 => ?_)
  · --
    refine r_iconst (v := (-1)) dX0_table_32 (by decide) ?_
    exact r_reti dX0_table_33 rfl rfl (Nat.le_refl _) (Nat.le_refl _) ⟨by rw [tableV, if_neg (by simp [c1])], f⟩
  · --
    refine r_aload_n dX0_table_15 rfl ?_
    refine r_iload_n dX0_table_16 rfl ?_
    refine r_callVx lX0_212 (x0_isSack hm _) (hl.k) rfl rfl rfl rfl dX0_table_17 (Nat.le_refl _) (Nat.le_refl _) ?_
    refine r_ifB_eq (tgt := 32) dX0_table_20 rfl (fun c2 => ?_) (fun c2 => ?_)
    · --
      refine r_iconst (v := (-1)) dX0_table_32 (by decide) ?_
      exact r_reti dX0_table_33 rfl rfl (Nat.le_refl _) (Nat.le_refl _) ⟨by rw [tableV, if_neg (by simp [c1, c2])], f⟩
    · --
      obtain ⟨j, hj, rfl⟩ := sakV_ok hw c2
      refine r_iload_n dX0_table_23 rfl ?_
      refine r_iconst (v := 0) dX0_table_24 (by decide) ?_
      refine r_iconst (v := 1) dX0_table_25 (by decide) ?_
      refine r_callSx lX0_155 (x0_isIn _ _ _) rfl rfl rfl rfl dX0_table_26 (Nat.le_refl _) (Nat.le_refl _) ?_
      refine r_ifB_ne (tgt := 34) dX0_table_29 rfl (fun c3 => ?_) (fun c3 => ?_)
      · --
        refine r_iconst (v := (-1)) dX0_table_34 (by decide) ?_
        refine r_istore dX0_table_35 (by decide) rfl ?_
        refine r_iconst (v := nI 0) dX0_table_37 (by decide) ?_
        refine r_istore dX0_table_38 (by decide) rfl ?_
        refine (ev_for (P := fun i => ∀ hL : ev_H, (Fr (QF K) [] h hL) → Ev G mX0_table (ev_room 312 0 0) (ev_MQ G (pI (fun y h1 => y = tableV b T set (nI j) wh ∧ Fr (QF K) [] h h1)) 0 0) 40 [some (vR 64), some (vI set), some (vI (nI j)), some (vI wh), some (vI (optI (fewOf i (fun who => decide (outW b T (nI who) j = set))))), some (vI (nI i))] [] hL 0 0) (2 ^ nP b) (fun i hki ihi hL qhL => ?_)) 0 (Nat.zero_le _) _ (f)
        have fL := qhL
        have hmL := hm.fq fL
        have hbL := hmL.xb
        have hTL := hmL.xt
        have hlL := hmL.lay
        refine r_iload dX0_table_40 rfl ?_
        refine r_aload_n dX0_table_42 rfl ?_
        refine r_callVx lX0_269 (x0_allPeopleN hmL) (hlL.k) rfl rfl rfl rfl dX0_table_43 (Nat.le_refl _) (Nat.le_refl _) ?_
        refine r_icmpN_gt (tgt := 80) dX0_table_46 rfl (by omega) (by omega) (fun c4 => ?_) (fun c4 => ?_)
        · --
          have hi9 : i = 2 ^ nP b := by omega
          subst hi9
          cases hbo : fewOf (2 ^ nP b) (fun who => decide (outW b T (nI who) j = set)) with
          | none =>
            refine r_iload dX0_table_80 rfl ?_
            refine r_if_ge (tgt := 89) dX0_table_82 rfl (fun c5 => ?_) (fun c5 => ?_)
            · --
              exact absurd c5 (show ¬ (0 : Int32) ≤ (-1) by decide)
            · --
              refine r_iconst (v := (-1)) dX0_table_85 (by decide) ?_
              refine r_goto (tgt := 103) dX0_table_86 rfl ?_
              exact r_reti dX0_table_103 rfl rfl (Nat.le_refl _) (Nat.le_refl _) ⟨by rw [tableV, if_pos (by rw [c1, c2, c3]; rfl), nI_clamp (by omega), hbo], fL⟩
          | some jb =>
            have hjb := (fewOf_lt hbo).1
            refine r_iload dX0_table_80 rfl ?_
            refine r_if_ge (tgt := 89) dX0_table_82 rfl (fun c6 => ?_) (fun c6 => ?_)
            · --
              refine r_iload_n dX0_table_89 rfl ?_
              refine r_if_ne (tgt := 101) dX0_table_90 rfl (fun c7 => ?_) (fun c7 => ?_)
              · --
                refine r_iload dX0_table_101 rfl ?_
                exact r_reti dX0_table_103 rfl rfl (Nat.le_refl _) (Nat.le_refl _) ⟨by rw [tableV, if_pos (by rw [c1, c2, c3]; rfl), nI_clamp (by omega), hbo]; exact (if_neg c7).symm, fL⟩
              · --
                refine r_iload dX0_table_93 rfl ?_
                refine r_callSx lX0_239 (xJ15_bc (⟨jb, by omega, rfl⟩)) rfl rfl rfl rfl dX0_table_95 (Nat.le_refl _) (Nat.le_refl _) ?_
                refine r_goto (tgt := 103) dX0_table_98 rfl ?_
                exact r_reti dX0_table_103 rfl rfl (Nat.le_refl _) (Nat.le_refl _) ⟨by rw [tableV, if_pos (by rw [c1, c2, c3]; rfl), nI_clamp (by omega), hbo]; exact (if_pos c7).symm, fL⟩
            · --
              exact absurd (nI_pos' (by omega)) c6
        · --
          cases hbo : fewOf i (fun who => decide (outW b T (nI who) j = set)) with
          | none =>
            refine r_iload dX0_table_49 rfl ?_
            refine r_iload dX0_table_51 rfl ?_
            refine r_callSx lX0_272 (x0_fewN (n := i) (by omega)) rfl rfl rfl rfl dX0_table_53 (Nat.le_refl _) (Nat.le_refl _) ?_
            refine r_ifB_eq (tgt := 74) dX0_table_56 rfl (fun c8 => ?_) (fun c8 => ?_)
            · --
              exact absurd c8 (by decide)
            · --
              refine r_aload_n dX0_table_59 rfl ?_
              refine r_iload dX0_table_60 rfl ?_
              refine r_iload_n dX0_table_62 rfl ?_
              refine r_callVi lX0_276 (x0_outAt hmL (v := (nI i)) (⟨i, by omega, rfl⟩) (s := j) (by omega)) (hlL.k) rfl rfl rfl rfl dX0_table_63 (Nat.le_refl _) (Nat.le_refl _) (fun y9 hZ1 q9 => ?_)
              obtain ⟨rfl, gZ1⟩ := q9
              have kZ1 : Fr (QF K) [] hL hZ1 := gZ1
              have hmZ1 := hmL.fq kZ1
              have fZ1 : Fr (QF K) [] h hZ1 := fL.tr kZ1
              have hbZ1 := hmZ1.xb
              have hTZ1 := hmZ1.xt
              have hlZ1 := hmZ1.lay
              refine r_iload_n dX0_table_66 rfl ?_
              refine r_icmp_ne (tgt := 74) dX0_table_67 rfl (fun c9 => ?_) (fun c9 => ?_)
              · --
                refine r_iincN (n := 1) dX0_table_74 rfl rfl (by decide) rfl ?_
                refine r_goto (tgt := 40) dX0_table_77 rfl ?_
                exact r_L (by have h7 : fewOf (i + 1) (fun who => decide (outW b T (nI who) j = set)) = none := fewOf_n0 hbo (decide_eq_false c9); rw [h7]; rfl) (ihi (by omega) _ (fZ1))
              · --
                refine r_iload dX0_table_70 rfl ?_
                refine r_istore dX0_table_72 (by decide) rfl ?_
                refine r_iincN (n := 1) dX0_table_74 rfl rfl (by decide) rfl ?_
                refine r_goto (tgt := 40) dX0_table_77 rfl ?_
                exact r_L (by have h7 : fewOf (i + 1) (fun who => decide (outW b T (nI who) j = set)) = some i := fewOf_n1 hbo (decide_eq_true c9); rw [h7]; rfl) (ihi (by omega) _ (fZ1))
          | some jb =>
            have hjb := (fewOf_lt hbo).1
            refine r_iload dX0_table_49 rfl ?_
            refine r_iload dX0_table_51 rfl ?_
            refine r_callSx lX0_272 (x0_fewS (n := i) (j := jb) (by omega) (by omega)) rfl rfl rfl rfl dX0_table_53 (Nat.le_refl _) (Nat.le_refl _) ?_
            refine r_ifB_eq (tgt := 74) dX0_table_56 rfl (fun c10 => ?_) (fun c10 => ?_)
            · --
              refine r_iincN (n := 1) dX0_table_74 rfl rfl (by decide) rfl ?_
              refine r_goto (tgt := 40) dX0_table_77 rfl ?_
              exact r_L (by have h7 : fewOf (i + 1) (fun who => decide (outW b T (nI who) j = set)) = some jb := fewOf_s0 hbo (Or.inr (Int32.not_lt.mp (of_decide_eq_false c10))); rw [h7]; rfl) (ihi (by omega) _ (fL))
            · --
              refine r_aload_n dX0_table_59 rfl ?_
              refine r_iload dX0_table_60 rfl ?_
              refine r_iload_n dX0_table_62 rfl ?_
              refine r_callVi lX0_276 (x0_outAt hmL (v := (nI i)) (⟨i, by omega, rfl⟩) (s := j) (by omega)) (hlL.k) rfl rfl rfl rfl dX0_table_63 (Nat.le_refl _) (Nat.le_refl _) (fun y9 hZ2 q9 => ?_)
              obtain ⟨rfl, gZ2⟩ := q9
              have kZ2 : Fr (QF K) [] hL hZ2 := gZ2
              have hmZ2 := hmL.fq kZ2
              have fZ2 : Fr (QF K) [] h hZ2 := fL.tr kZ2
              have hbZ2 := hmZ2.xb
              have hTZ2 := hmZ2.xt
              have hlZ2 := hmZ2.lay
              refine r_iload_n dX0_table_66 rfl ?_
              refine r_icmp_ne (tgt := 74) dX0_table_67 rfl (fun c11 => ?_) (fun c11 => ?_)
              · --
                refine r_iincN (n := 1) dX0_table_74 rfl rfl (by decide) rfl ?_
                refine r_goto (tgt := 40) dX0_table_77 rfl ?_
                exact r_L (by have h7 : fewOf (i + 1) (fun who => decide (outW b T (nI who) j = set)) = some jb := fewOf_s0 hbo (Or.inl (decide_eq_false c11)); rw [h7]; rfl) (ihi (by omega) _ (fZ2))
              · --
                refine r_iload dX0_table_70 rfl ?_
                refine r_istore dX0_table_72 (by decide) rfl ?_
                refine r_iincN (n := 1) dX0_table_74 rfl rfl (by decide) rfl ?_
                refine r_goto (tgt := 40) dX0_table_77 rfl ?_
                exact r_L (by have h7 : fewOf (i + 1) (fun who => decide (outW b T (nI who) j = set)) = some i := fewOf_s1 hbo (decide_eq_true c11) (of_decide_eq_true c10); rw [h7]; rfl) (ihi (by omega) _ (fZ2))
      · --
        refine r_iconst (v := (-1)) dX0_table_32 (by decide) ?_
        exact r_reti dX0_table_33 rfl rfl (Nat.le_refl _) (Nat.le_refl _) ⟨by rw [tableV, if_neg (by simp [c1, c2, c3])], f⟩

theorem x0_spine {G : ev_G} {b : Bk} {K : XK} {T : Nat → Int32} {h : ev_H} (hm : XM b K T h) (p : Int32) : Called G mX0_spine 312 0 0 [vR 64, vI p] h (pI (fun y h1 => y = spineV b T p ∧ Fr (QF K) [] h h1)) := by
  have hb := hm.xb
  have hT := hm.xt
  have hl := hm.lay
  have hw := hm.bw
  have hb1 := hw.p6
  have hb2 := hw.s5
  have hb3 := hw.t10
  have hw9 := hm.tw
  have f : Fr (QF K) [] h h := Fr.rf
  have hp2 := p2_6 hb1
  have hp1 : 1 ≤ 2 ^ nP b := Nat.one_le_two_pow
  refine called_of rfl [some (vR 64), some (vI p), none, none] rfl (Nat.le_of_ble_eq_true rfl) ?_
  refine r_aload_n dX0_spine_0 rfl ?_
  refine r_iload_n dX0_spine_1 rfl ?_
  refine r_callVx lX0_212 (x0_isSack hm _) (hl.k) rfl rfl rfl rfl dX0_spine_2 (Nat.le_refl _) (Nat.le_refl _) ?_
  refine r_ifB_ne (tgt := 10) dX0_spine_5 rfl (fun c1 => ?_) (fun c1 => ?_)
  · --
    obtain ⟨j, hj, rfl⟩ := sakV_ok hw c1
    refine r_iconst (v := (-1)) dX0_spine_10 (by decide) ?_
    refine r_istore_n dX0_spine_11 (by decide) rfl ?_
    refine r_iconst (v := nI 0) dX0_spine_12 (by decide) ?_
    refine r_istore_n dX0_spine_13 (by decide) rfl ?_
    refine (ev_for (P := fun i => ∀ hL : ev_H, (Fr (QF K) [] h hL) → Ev G mX0_spine (ev_room 312 0 0) (ev_MQ G (pI (fun y h1 => y = spineV b T (nI j) ∧ Fr (QF K) [] h h1)) 0 0) 14 [some (vR 64), some (vI (nI j)), some (vI (andOf i (fun who => !decide (outW b T (nI who) j = 0)))), some (vI (nI i))] [] hL 0 0) (2 ^ nP b) (fun i hki ihi hL qhL => ?_)) 0 (Nat.zero_le _) _ (f)
    have fL := qhL
    have hmL := hm.fq fL
    have hbL := hmL.xb
    have hTL := hmL.xt
    have hlL := hmL.lay
    refine r_iload_n dX0_spine_14 rfl ?_
    refine r_aload_n dX0_spine_15 rfl ?_
    refine r_callVx lX0_269 (x0_allPeopleN hmL) (hlL.k) rfl rfl rfl rfl dX0_spine_16 (Nat.le_refl _) (Nat.le_refl _) ?_
    refine r_icmpN_gt (tgt := 41) dX0_spine_19 rfl (by omega) (by omega) (fun c2 => ?_) (fun c2 => ?_)
    · --
      refine r_iload_n dX0_spine_41 rfl ?_
      exact r_reti dX0_spine_42 rfl rfl (Nat.le_refl _) (Nat.le_refl _) ⟨by rw [spineV, if_pos c1, nI_clamp (by omega)]; exact congrArg (fun n => andOf n _) (by omega), fL⟩
    · --
      refine r_aload_n dX0_spine_22 rfl ?_
      refine r_iload_n dX0_spine_23 rfl ?_
      refine r_iload_n dX0_spine_24 rfl ?_
      refine r_callVi lX0_276 (x0_outAt hmL (v := (nI i)) (⟨i, by omega, rfl⟩) (s := j) (by omega)) (hlL.k) rfl rfl rfl rfl dX0_spine_25 (Nat.le_refl _) (Nat.le_refl _) (fun y9 hZ1 q9 => ?_)
      obtain ⟨rfl, gZ1⟩ := q9
      have kZ1 : Fr (QF K) [] hL hZ1 := gZ1
      have hmZ1 := hmL.fq kZ1
      have fZ1 : Fr (QF K) [] h hZ1 := fL.tr kZ1
      have hbZ1 := hmZ1.xb
      have hTZ1 := hmZ1.xt
      have hlZ1 := hmZ1.lay
      refine r_if_eq (tgt := 35) dX0_spine_28 rfl (fun c3 => ?_) (fun c3 => ?_)
      · --
        refine r_iincN (n := 1) dX0_spine_35 rfl rfl (by decide) rfl ?_
        refine r_goto (tgt := 14) dX0_spine_38 rfl ?_
        exact r_L (by rw [← andOf_f (by simp [c3])]; rfl) (ihi (by omega) _ (fZ1))
      · --
        refine r_iload_n dX0_spine_31 rfl ?_
        refine r_iload_n dX0_spine_32 rfl ?_
        refine r_iand dX0_spine_33 ?_
        refine r_istore_n dX0_spine_34 (by decide) rfl ?_
        refine r_iincN (n := 1) dX0_spine_35 rfl rfl (by decide) rfl ?_
        refine r_goto (tgt := 14) dX0_spine_38 rfl ?_
        exact r_L (by rw [← andOf_t (by simp [c3])]; rfl) (ihi (by omega) _ (fZ1))
  · --
    refine r_iconst (v := (-1)) dX0_spine_8 (by decide) ?_
    exact r_reti dX0_spine_9 rfl rfl (Nat.le_refl _) (Nat.le_refl _) ⟨by rw [spineV, if_neg (by rw [c1]; decide)], f⟩

theorem x0_fewest {G : ev_G} {b : Bk} {K : XK} {T : Nat → Int32} {h : ev_H} (hm : XM b K T h) (wh : Int32) : Called G mX0_fewest 314 0 0 [vR 64, vI wh] h (pI (fun y h1 => y = fewestV b T wh ∧ Fr (QF K) [] h h1)) := by
  have hb := hm.xb
  have hT := hm.xt
  have hl := hm.lay
  have hw := hm.bw
  have hb1 := hw.p6
  have hb2 := hw.s5
  have hb3 := hw.t10
  have hw9 := hm.tw
  have f : Fr (QF K) [] h h := Fr.rf
  have hs2 := p2_5 hb2
  have hs1 : 1 ≤ 2 ^ nS b := Nat.one_le_two_pow
  refine called_of rfl [some (vR 64), some (vI wh), none, none, none] rfl (Nat.le_of_ble_eq_true rfl) ?_
  refine r_iload_n dX0_fewest_0 rfl ?_
  refine r_iconst (v := 0) dX0_fewest_1 (by decide) ?_
  refine r_iconst (v := 2) dX0_fewest_2 (by decide) ?_
  refine r_callSx lX0_155 (x0_isIn _ _ _) rfl rfl rfl rfl dX0_fewest_3 (Nat.le_refl _) (Nat.le_refl _) ?_
  refine r_ifB_ne (tgt := 11) dX0_fewest_6 rfl (fun c1 => ?_) (fun c1 => ?_)
  · --
    refine r_aload_n dX0_fewest_11 rfl ?_
    refine r_aload_n dX0_fewest_12 rfl ?_
    refine r_callVx lX0_280 (x0_allSacks hm) (hl.k) rfl rfl rfl rfl dX0_fewest_13 (Nat.le_refl _) (Nat.le_refl _) ?_
    refine r_callVi lX0_283 (x0_saidBySome hm (allV (nS b))) (hl.k) rfl rfl rfl rfl dX0_fewest_16 (Nat.le_refl _) (Nat.le_refl _) (fun y9 hZ1 q9 => ?_)
    obtain ⟨rfl, gZ1⟩ := q9
    have kZ1 : Fr (QF K) [] h hZ1 := gZ1
    have hmZ1 := hm.fq kZ1
    have fZ1 : Fr (QF K) [] h hZ1 := f.tr kZ1
    have hbZ1 := hmZ1.xb
    have hTZ1 := hmZ1.xt
    have hlZ1 := hmZ1.lay
    refine r_istore_n dX0_fewest_19 (by decide) rfl ?_
    refine r_iconst (v := (-1)) dX0_fewest_20 (by decide) ?_
    refine r_istore_n dX0_fewest_21 (by decide) rfl ?_
    refine r_iconst (v := nI 0) dX0_fewest_22 (by decide) ?_
    refine r_istore dX0_fewest_23 (by decide) rfl ?_
    refine (ev_for (P := fun i => ∀ hL : ev_H, (Fr (QF K) [] h hL) → Ev G mX0_fewest (ev_room 314 0 0) (ev_MQ G (pI (fun y h1 => y = fewestV b T wh ∧ Fr (QF K) [] h h1)) 0 0) 25 [some (vR 64), some (vI wh), some (vI (saidV b T (allV (nS b)))), some (vI (optI (fewestO b T i))), some (vI (nI i))] [] hL 0 0) (2 ^ nS b) (fun i hki ihi hL qhL => ?_)) 0 (Nat.zero_le _) _ (fZ1)
    have fL := qhL
    have hmL := hm.fq fL
    have hbL := hmL.xb
    have hTL := hmL.xt
    have hlL := hmL.lay
    refine r_iload dX0_fewest_25 rfl ?_
    refine r_aload_n dX0_fewest_27 rfl ?_
    refine r_callVx lX0_280 (x0_allSacksN hmL) (hlL.k) rfl rfl rfl rfl dX0_fewest_28 (Nat.le_refl _) (Nat.le_refl _) ?_
    refine r_icmpN_gt (tgt := 62) dX0_fewest_31 rfl (by omega) (by omega) (fun c2 => ?_) (fun c2 => ?_)
    · --
      have hi9 : i = 2 ^ nS b := by omega
      subst hi9
      cases hbo : fewestO b T (2 ^ nS b) with
      | none =>
        refine r_iload_n dX0_fewest_62 rfl ?_
        refine r_if_ne (tgt := 73) dX0_fewest_63 rfl (fun c3 => ?_) (fun c3 => ?_)
        · --
          refine r_iload_n dX0_fewest_73 rfl ?_
          refine r_iconst (v := nI 1) dX0_fewest_74 (by decide) ?_
          refine r_icmp_ne (tgt := 82) dX0_fewest_75 rfl (fun c4 => ?_) (fun c4 => ?_)
          · --
            refine r_iload_n dX0_fewest_82 rfl ?_
            exact r_reti dX0_fewest_83 rfl rfl (Nat.le_refl _) (Nat.le_refl _) ⟨by exact absurd hbo (fewest_some hb2), fL⟩
          · --
            refine r_iload_n dX0_fewest_78 rfl ?_
            refine r_goto (tgt := 83) dX0_fewest_79 rfl ?_
            exact r_reti dX0_fewest_83 rfl rfl (Nat.le_refl _) (Nat.le_refl _) ⟨by exact absurd hbo (fewest_some hb2), fL⟩
        · --
          exact absurd hbo (fewest_some hb2)
      | some jb =>
        have hjb := (fewOf_lt hbo).1
        refine r_iload_n dX0_fewest_62 rfl ?_
        refine r_if_ne (tgt := 73) dX0_fewest_63 rfl (fun c5 => ?_) (fun c5 => ?_)
        · --
          refine r_iload_n dX0_fewest_73 rfl ?_
          refine r_iconst (v := nI 1) dX0_fewest_74 (by decide) ?_
          refine r_icmp_ne (tgt := 82) dX0_fewest_75 rfl (fun c6 => ?_) (fun c6 => ?_)
          · --
            refine r_iload_n dX0_fewest_82 rfl ?_
            exact r_reti dX0_fewest_83 rfl rfl (Nat.le_refl _) (Nat.le_refl _) ⟨by rw [fewestV, if_pos c1, hbo]; rw [if_neg c5]; exact (if_neg c6).symm, fL⟩
          · --
            refine r_iload_n dX0_fewest_78 rfl ?_
            refine r_goto (tgt := 83) dX0_fewest_79 rfl ?_
            exact r_reti dX0_fewest_83 rfl rfl (Nat.le_refl _) (Nat.le_refl _) ⟨by rw [fewestV, if_pos c1, hbo]; rw [if_neg c5]; exact (if_pos c6).symm, fL⟩
        · --
          refine r_iload_n dX0_fewest_66 rfl ?_
          refine r_callSx lX0_239 (xJ15_bc (⟨jb, by omega, rfl⟩)) rfl rfl rfl rfl dX0_fewest_67 (Nat.le_refl _) (Nat.le_refl _) ?_
          refine r_goto (tgt := 83) dX0_fewest_70 rfl ?_
          exact r_reti dX0_fewest_83 rfl rfl (Nat.le_refl _) (Nat.le_refl _) ⟨by rw [fewestV, if_pos c1, hbo]; exact (if_pos c5).symm, fL⟩
    · --
      cases hbo : fewestO b T i with
      | none =>
        refine r_iload dX0_fewest_34 rfl ?_
        refine r_iload_n dX0_fewest_36 rfl ?_
        refine r_callSx lX0_272 (x0_fewN (n := i) (by omega)) rfl rfl rfl rfl dX0_fewest_37 (Nat.le_refl _) (Nat.le_refl _) ?_
        refine r_ifB_eq (tgt := 56) dX0_fewest_40 rfl (fun c7 => ?_) (fun c7 => ?_)
        · --
          exact absurd c7 (by decide)
        · --
          refine r_aload_n dX0_fewest_43 rfl ?_
          refine r_iload dX0_fewest_44 rfl ?_
          refine r_callVi lX0_283 (x0_saidBySome hmL (nI i)) (hlL.k) rfl rfl rfl rfl dX0_fewest_46 (Nat.le_refl _) (Nat.le_refl _) (fun y9 hZ2 q9 => ?_)
          obtain ⟨rfl, gZ2⟩ := q9
          have kZ2 : Fr (QF K) [] hL hZ2 := gZ2
          have hmZ2 := hmL.fq kZ2
          have fZ2 : Fr (QF K) [] h hZ2 := fL.tr kZ2
          have hbZ2 := hmZ2.xb
          have hTZ2 := hmZ2.xt
          have hlZ2 := hmZ2.lay
          refine r_iload_n dX0_fewest_49 rfl ?_
          refine r_icmp_ne (tgt := 56) dX0_fewest_50 rfl (fun c8 => ?_) (fun c8 => ?_)
          · --
            refine r_iincN (n := 1) dX0_fewest_56 rfl rfl (by decide) rfl ?_
            refine r_goto (tgt := 25) dX0_fewest_59 rfl ?_
            exact r_L (by have h7 : fewestO b T (i + 1) = none := fewOf_n0 hbo (decide_eq_false c8); rw [h7]; rfl) (ihi (by omega) _ (fZ2))
          · --
            refine r_iload dX0_fewest_53 rfl ?_
            refine r_istore_n dX0_fewest_55 (by decide) rfl ?_
            refine r_iincN (n := 1) dX0_fewest_56 rfl rfl (by decide) rfl ?_
            refine r_goto (tgt := 25) dX0_fewest_59 rfl ?_
            exact r_L (by have h7 : fewestO b T (i + 1) = some i := fewOf_n1 hbo (decide_eq_true c8); rw [h7]; rfl) (ihi (by omega) _ (fZ2))
      | some jb =>
        have hjb := (fewOf_lt hbo).1
        refine r_iload dX0_fewest_34 rfl ?_
        refine r_iload_n dX0_fewest_36 rfl ?_
        refine r_callSx lX0_272 (x0_fewS (n := i) (j := jb) (by omega) (by omega)) rfl rfl rfl rfl dX0_fewest_37 (Nat.le_refl _) (Nat.le_refl _) ?_
        refine r_ifB_eq (tgt := 56) dX0_fewest_40 rfl (fun c9 => ?_) (fun c9 => ?_)
        · --
          refine r_iincN (n := 1) dX0_fewest_56 rfl rfl (by decide) rfl ?_
          refine r_goto (tgt := 25) dX0_fewest_59 rfl ?_
          exact r_L (by have h7 : fewestO b T (i + 1) = some jb := fewOf_s0 hbo (Or.inr (Int32.not_lt.mp (of_decide_eq_false c9))); rw [h7]; rfl) (ihi (by omega) _ (fL))
        · --
          refine r_aload_n dX0_fewest_43 rfl ?_
          refine r_iload dX0_fewest_44 rfl ?_
          refine r_callVi lX0_283 (x0_saidBySome hmL (nI i)) (hlL.k) rfl rfl rfl rfl dX0_fewest_46 (Nat.le_refl _) (Nat.le_refl _) (fun y9 hZ3 q9 => ?_)
          obtain ⟨rfl, gZ3⟩ := q9
          have kZ3 : Fr (QF K) [] hL hZ3 := gZ3
          have hmZ3 := hmL.fq kZ3
          have fZ3 : Fr (QF K) [] h hZ3 := fL.tr kZ3
          have hbZ3 := hmZ3.xb
          have hTZ3 := hmZ3.xt
          have hlZ3 := hmZ3.lay
          refine r_iload_n dX0_fewest_49 rfl ?_
          refine r_icmp_ne (tgt := 56) dX0_fewest_50 rfl (fun c10 => ?_) (fun c10 => ?_)
          · --
            refine r_iincN (n := 1) dX0_fewest_56 rfl rfl (by decide) rfl ?_
            refine r_goto (tgt := 25) dX0_fewest_59 rfl ?_
            exact r_L (by have h7 : fewestO b T (i + 1) = some jb := fewOf_s0 hbo (Or.inl (decide_eq_false c10)); rw [h7]; rfl) (ihi (by omega) _ (fZ3))
          · --
            refine r_iload dX0_fewest_53 rfl ?_
            refine r_istore_n dX0_fewest_55 (by decide) rfl ?_
            refine r_iincN (n := 1) dX0_fewest_56 rfl rfl (by decide) rfl ?_
            refine r_goto (tgt := 25) dX0_fewest_59 rfl ?_
            exact r_L (by have h7 : fewestO b T (i + 1) = some i := fewOf_s1 hbo (decide_eq_true c10) (of_decide_eq_true c9); rw [h7]; rfl) (ihi (by omega) _ (fZ3))
  · --
    refine r_iconst (v := (-1)) dX0_fewest_9 (by decide) ?_
    exact r_reti dX0_fewest_10 rfl rfl (Nat.le_refl _) (Nat.le_refl _) ⟨by rw [fewestV, if_neg (by simp [c1])], f⟩

theorem x0_law {G : ev_G} {b : Bk} {K : XK} {T : Nat → Int32} {h : ev_H} (hm : XM b K T h) (p n : Int32) : Called G mX0_law 312 0 0 [vR 64, vI p, vI n] h (pI (fun y h1 => y = lawV b T p n ∧ Fr (QF K) [] h h1)) := by
  have hb := hm.xb
  have hT := hm.xt
  have hl := hm.lay
  have hw := hm.bw
  have hb1 := hw.p6
  have hb2 := hw.s5
  have hb3 := hw.t10
  have hw9 := hm.tw
  have f : Fr (QF K) [] h h := Fr.rf
  refine called_of rfl [some (vR 64), some (vI p), some (vI n)] rfl (Nat.le_of_ble_eq_true rfl) ?_
  refine r_aload_n dX0_law_0 rfl ?_
  refine r_iload_n dX0_law_1 rfl ?_
  refine r_callVx lX0_212 (x0_isSack hm _) (hl.k) rfl rfl rfl rfl dX0_law_2 (Nat.le_refl _) (Nat.le_refl _) ?_
  refine r_ifB_eq (tgt := 18) dX0_law_5 rfl (fun c1 => ?_) (fun c1 => ?_)
  · --
    refine r_iconst (v := (-1)) dX0_law_18 (by decide) ?_
    exact r_reti dX0_law_19 rfl rfl (Nat.le_refl _) (Nat.le_refl _) ⟨by simp [lawV, c1], f⟩
  · --
    obtain ⟨j, hj, rfl⟩ := sakV_ok hw c1
    refine r_iload_n dX0_law_8 rfl ?_
    refine r_iconst (v := 0) dX0_law_9 (by decide) ?_
    refine r_bipush (v := 99) dX0_law_10 (by decide) ?_
    refine r_callSx lX0_155 (x0_isIn _ _ _) rfl rfl rfl rfl dX0_law_12 (Nat.le_refl _) (Nat.le_refl _) ?_
    refine r_ifB_ne (tgt := 20) dX0_law_15 rfl (fun c2 => ?_) (fun c2 => ?_)
    · --
      refine r_aload_n dX0_law_20 rfl ?_
      refine r_getRv fX0_60 (hl.k) (v := 80) (hl.r 7 (by decide) (by decide)) rfl dX0_law_21 ?_
      refine r_aload_n dX0_law_24 rfl ?_
      refine r_getRv fX0_53 (hl.k) (v := 74) (hl.r 5 (by decide) (by decide)) rfl dX0_law_25 ?_
      refine r_callVr lX0_230 (xq_copy hm) (hl.s80.2.1) rfl rfl rfl rfl dX0_law_28 (Nat.le_refl _) (Nat.le_refl _) (fun y9 hZ1 q9 => ?_)
      obtain ⟨rfl, gZ1, hqZ1⟩ := q9
      have kZ1 : Fr (QF K) [] h hZ1 := frq_t gZ1
      have hmZ1 := hm.fq kZ1
      have fZ1 : Fr (QF K) [] h hZ1 := f.tr kZ1
      have hbZ1 := hmZ1.xb
      have hTZ1 := hmZ1.xt
      have hlZ1 := hmZ1.lay
      refine r_getRv fX0_218 (hlZ1.s80.2.1) (v := 82) (hqZ1.rgr) rfl dX0_law_31 ?_
      refine r_iload_n dX0_law_34 rfl ?_
      refine r_iload_n dX0_law_35 rfl ?_
      refine r_iastv (hqZ1.kgr) (by decide) (hqZ1.lgr) (ix_n (by omega) (by decide)) dX0_law_36 ?_
      have kZ2 : Fr (QF K) [] hZ1 (sI hZ1 82 j n) := Fr.rf.sa 82 j n (by simp)
      have hmZ2 : XM b K T (sI hZ1 82 j n) := hmZ1.fq kZ2
      have fZ2 : Fr (QF K) [] h (sI hZ1 82 j n) := fZ1.tr kZ2
      have hqZ2 : XT 80 (u1 T (12 + j) n) (-1) (sI hZ1 82 j n) := hqZ1.wgr (by omega) n
      generalize sI hZ1 82 j n = hZ2 at kZ2 hmZ2 fZ2 hqZ2 ⊢
      have hbZ2 := hmZ2.xb
      have hTZ2 := hmZ2.xt
      have hlZ2 := hmZ2.lay
      refine r_aload_n dX0_law_37 rfl ?_
      refine r_getRv fX0_60 (hlZ2.k) (v := 80) (hlZ2.r 7 (by decide) (by decide)) rfl dX0_law_38 ?_
      refine r_aload_n dX0_law_41 rfl ?_
      refine r_getRv fX0_42 (hlZ2.k) (v := kB K) (hmZ2.bk) rfl dX0_law_42 ?_
      refine r_iload_n dX0_law_45 rfl ?_
      refine r_callVi lX0_221 (x3_out hbZ2 hqZ2 (hw9.gro (by omega) hw c2) (s := j) (by omega)) (hlZ2.s80.2.1) rfl rfl rfl rfl dX0_law_46 (Nat.le_refl _) (Nat.le_refl _) (fun y9 hZ3 q9 => ?_)
      obtain ⟨e9, gZ3⟩ := q9
      replace e9 : y9 = outV b (u1 T (12 + j) n) j := e9
      subst e9
      have kZ3 : Fr (QF K) [] hZ2 hZ3 := frq_a gZ3
      have hmZ3 := hmZ2.fq kZ3
      have fZ3 : Fr (QF K) [] h hZ3 := fZ2.tr kZ3
      have hbZ3 := hmZ3.xb
      have hTZ3 := hmZ3.xt
      have hlZ3 := hmZ3.lay
      have hqZ3 := hqZ2.frA hbZ2 gZ3
      refine r_callSx lX0_239 (xJ15_bc (lt1024 hw (outV_lt hw _))) rfl rfl rfl rfl dX0_law_49 (Nat.le_refl _) (Nat.le_refl _) ?_
      exact r_reti dX0_law_52 rfl rfl (Nat.le_refl _) (Nat.le_refl _) ⟨by rw [lawV, if_pos (by simp [c1, c2]), nI_clamp (by omega)], fZ3⟩
    · --
      refine r_iconst (v := (-1)) dX0_law_18 (by decide) ?_
      exact r_reti dX0_law_19 rfl rfl (Nat.le_refl _) (Nat.le_refl _) ⟨by simp [lawV, c1, c2], f⟩

theorem x0_invite {G : ev_G} {b : Bk} {K : XK} {T : Nat → Int32} {h : ev_H} (hm : XM b K T h) (wh : Int32) : Called G mX0_invite 314 0 0 [vR 64, vI wh] h (pI (fun y h1 => y = inviteV b T wh ∧ Fr (QF K) [] h h1)) := by
  have hb := hm.xb
  have hT := hm.xt
  have hl := hm.lay
  have hw := hm.bw
  have hb1 := hw.p6
  have hb2 := hw.s5
  have hb3 := hw.t10
  have hw9 := hm.tw
  have f : Fr (QF K) [] h h := Fr.rf
  refine called_of rfl [some (vR 64), some (vI wh), none, none, none, none] rfl (Nat.le_of_ble_eq_true rfl) ?_
  refine r_iload_n dX0_invite_0 rfl ?_
  refine r_iconst (v := 0) dX0_invite_1 (by decide) ?_
  refine r_iconst (v := 1) dX0_invite_2 (by decide) ?_
  refine r_callSx lX0_155 (x0_isIn _ _ _) rfl rfl rfl rfl dX0_invite_3 (Nat.le_refl _) (Nat.le_refl _) ?_
  refine r_ifB_ne (tgt := 11) dX0_invite_6 rfl (fun c1 => ?_) (fun c1 => ?_)
  · --
    refine r_iconst (v := (-1)) dX0_invite_11 (by decide) ?_
    refine r_istore_n dX0_invite_12 (by decide) rfl ?_
    refine r_iconst (v := (-1)) dX0_invite_13 (by decide) ?_
    refine r_istore_n dX0_invite_14 (by decide) rfl ?_
    refine r_iconst (v := nI 0) dX0_invite_15 (by decide) ?_
    refine r_istore dX0_invite_16 (by decide) rfl ?_
    refine (ev_for (P := fun i => ∀ hL : ev_H, (Fr (QF K) [] h hL) → Ev G mX0_invite (ev_room 314 0 0) (ev_MQ G (pI (fun y h1 => y = inviteV b T wh ∧ Fr (QF K) [] h h1)) 0 0) 18 [some (vR 64), some (vI wh), some (vI (optI (inviO b T i))), some (vI (atI (inviO b T i) (-1) (inviF b T))), some (vI (nI i)), none] [] hL 0 0) (nP b) (fun i hki ihi hL qhL => ?_)) 0 (Nat.zero_le _) _ (f)
    have fL := qhL
    have hmL := hm.fq fL
    have hbL := hmL.xb
    have hTL := hmL.xt
    have hlL := hmL.lay
    refine r_iload dX0_invite_18 rfl ?_
    refine r_aload_n dX0_invite_20 rfl ?_
    refine r_callVx lX0_151 (x0_people hmL) (hlL.k) rfl rfl rfl rfl dX0_invite_21 (Nat.le_refl _) (Nat.le_refl _) ?_
    refine r_icmpN_ge (tgt := 78) dX0_invite_24 rfl (by omega) (by omega) (fun c2 => ?_) (fun c2 => ?_)
    · --
      refine r_iload_n dX0_invite_78 rfl ?_
      refine r_if_ne (tgt := 86) dX0_invite_79 rfl (fun c3 => ?_) (fun c3 => ?_)
      · --
        refine r_iload_n dX0_invite_86 rfl ?_
        exact r_reti dX0_invite_87 rfl rfl (Nat.le_refl _) (Nat.le_refl _) ⟨by rw [inviteV, if_pos c1, show nP b = i by omega]; exact (if_neg c3).symm, fL⟩
      · --
        refine r_iload_n dX0_invite_82 rfl ?_
        refine r_goto (tgt := 87) dX0_invite_83 rfl ?_
        exact r_reti dX0_invite_87 rfl rfl (Nat.le_refl _) (Nat.le_refl _) ⟨by rw [inviteV, if_pos c1, show nP b = i by omega]; exact (if_pos c3).symm, fL⟩
    · --
      cases hbo : inviO b T i with
      | none =>
        refine r_aload_n dX0_invite_27 rfl ?_
        refine r_aload_n dX0_invite_28 rfl ?_
        refine r_getRv fX0_53 (hlL.k) (v := 74) (hlL.r 5 (by decide) (by decide)) rfl dX0_invite_29 ?_
        refine r_getIv fX0_237 (hTL.k) (v := T 0) (hTL.si) rfl dX0_invite_32 ?_
        refine r_iconst (v := nI 1) dX0_invite_35 (by decide) ?_
        refine r_iload dX0_invite_36 rfl ?_
        refine r_ishl dX0_invite_38 ?_
        refine r_top (one i) rfl ?_
        refine r_ior dX0_invite_39 ?_
        refine r_callVi lX0_293 (x0_allSaidAt hmL (v := ((T 0) ||| (one i))) (nIor_lt hw9.1 (one_lt (j := i) (by omega)))) (hlL.k) rfl rfl rfl rfl dX0_invite_40 (Nat.le_refl _) (Nat.le_refl _) (fun y9 hZ1 q9 => ?_)
        obtain ⟨rfl, gZ1⟩ := q9
        have kZ1 : Fr (QF K) [] hL hZ1 := gZ1
        have hmZ1 := hmL.fq kZ1
        have fZ1 : Fr (QF K) [] h hZ1 := fL.tr kZ1
        have hbZ1 := hmZ1.xb
        have hTZ1 := hmZ1.xt
        have hlZ1 := hmZ1.lay
        refine r_istore dX0_invite_43 (by decide) rfl ?_
        refine r_aload_n dX0_invite_45 rfl ?_
        refine r_getRv fX0_53 (hlZ1.k) (v := 74) (hlZ1.r 5 (by decide) (by decide)) rfl dX0_invite_46 ?_
        refine r_iload dX0_invite_49 rfl ?_
        refine r_callVx lX0_174 (x3_sitsN hTZ1 i) (hTZ1.k) rfl rfl rfl rfl dX0_invite_51 (Nat.le_refl _) (Nat.le_refl _) ?_
        refine r_ifB_ne (tgt := 72) dX0_invite_54 rfl (fun c4 => ?_) (fun c4 => ?_)
        · --
          refine r_iincN (n := 1) dX0_invite_72 rfl rfl (by decide) rfl ?_
          refine r_goto (tgt := 18) dX0_invite_75 rfl ?_
          refine r_sub [some (vR 64), some (vI wh), some (vI (-1)), some (vI (-1)), some (vI (nI (i + 1))), none] (And.intro rfl (And.intro rfl (And.intro rfl (And.intro rfl (And.intro rfl trivial))))) ?_
          exact r_L (by have h7 : inviO b T (i + 1) = none := bestOf_n0 hbo (by simp [c4]); rw [h7]; rfl) (ihi (by omega) _ (fZ1))
        · --
          refine r_iload dX0_invite_57 rfl ?_
          refine r_iload_n dX0_invite_59 rfl ?_
          refine r_icmp_gt (tgt := 66) dX0_invite_60 rfl (fun c5 => ?_) (fun c5 => ?_)
          · --
            refine r_iload dX0_invite_66 rfl ?_
            refine r_istore_n dX0_invite_68 (by decide) rfl ?_
            refine r_iload dX0_invite_69 rfl ?_
            refine r_istore_n dX0_invite_71 (by decide) rfl ?_
            refine r_iincN (n := 1) dX0_invite_72 rfl rfl (by decide) rfl ?_
            refine r_goto (tgt := 18) dX0_invite_75 rfl ?_
            refine r_sub [some (vR 64), some (vI wh), some (vI (nI i)), some (vI (popc (saidW b T ((T 0) ||| (one i))))), some (vI (nI (i + 1))), none] (And.intro rfl (And.intro rfl (And.intro rfl (And.intro rfl (And.intro rfl trivial))))) ?_
            exact r_L (by have h7 : inviO b T (i + 1) = some i := bestOf_n1 hbo (by simp [c4]); rw [h7]; rfl) (ihi (by omega) _ (fZ1))
          · --
            refine r_goto (tgt := 72) dX0_invite_63 rfl ?_
            refine r_iincN (n := 1) dX0_invite_72 rfl rfl (by decide) rfl ?_
            refine r_goto (tgt := 18) dX0_invite_75 rfl ?_
            refine r_sub [some (vR 64), some (vI wh), some (vI (-1)), some (vI (-1)), some (vI (nI (i + 1))), none] (And.intro rfl (And.intro rfl (And.intro rfl (And.intro rfl (And.intro rfl trivial))))) ?_
            exact r_L (absurd (popc_m _) c5) (ihi (by omega) _ (fZ1))
      | some jb =>
        have hjb := bestOf_lt hbo
        refine r_aload_n dX0_invite_27 rfl ?_
        refine r_aload_n dX0_invite_28 rfl ?_
        refine r_getRv fX0_53 (hlL.k) (v := 74) (hlL.r 5 (by decide) (by decide)) rfl dX0_invite_29 ?_
        refine r_getIv fX0_237 (hTL.k) (v := T 0) (hTL.si) rfl dX0_invite_32 ?_
        refine r_iconst (v := nI 1) dX0_invite_35 (by decide) ?_
        refine r_iload dX0_invite_36 rfl ?_
        refine r_ishl dX0_invite_38 ?_
        refine r_top (one i) rfl ?_
        refine r_ior dX0_invite_39 ?_
        refine r_callVi lX0_293 (x0_allSaidAt hmL (v := ((T 0) ||| (one i))) (nIor_lt hw9.1 (one_lt (j := i) (by omega)))) (hlL.k) rfl rfl rfl rfl dX0_invite_40 (Nat.le_refl _) (Nat.le_refl _) (fun y9 hZ2 q9 => ?_)
        obtain ⟨rfl, gZ2⟩ := q9
        have kZ2 : Fr (QF K) [] hL hZ2 := gZ2
        have hmZ2 := hmL.fq kZ2
        have fZ2 : Fr (QF K) [] h hZ2 := fL.tr kZ2
        have hbZ2 := hmZ2.xb
        have hTZ2 := hmZ2.xt
        have hlZ2 := hmZ2.lay
        refine r_istore dX0_invite_43 (by decide) rfl ?_
        refine r_aload_n dX0_invite_45 rfl ?_
        refine r_getRv fX0_53 (hlZ2.k) (v := 74) (hlZ2.r 5 (by decide) (by decide)) rfl dX0_invite_46 ?_
        refine r_iload dX0_invite_49 rfl ?_
        refine r_callVx lX0_174 (x3_sitsN hTZ2 i) (hTZ2.k) rfl rfl rfl rfl dX0_invite_51 (Nat.le_refl _) (Nat.le_refl _) ?_
        refine r_ifB_ne (tgt := 72) dX0_invite_54 rfl (fun c6 => ?_) (fun c6 => ?_)
        · --
          refine r_iincN (n := 1) dX0_invite_72 rfl rfl (by decide) rfl ?_
          refine r_goto (tgt := 18) dX0_invite_75 rfl ?_
          refine r_sub [some (vR 64), some (vI wh), some (vI (nI jb)), some (vI (inviF b T jb)), some (vI (nI (i + 1))), none] (And.intro rfl (And.intro rfl (And.intro rfl (And.intro rfl (And.intro rfl trivial))))) ?_
          exact r_L (by have h7 : inviO b T (i + 1) = some jb := bestOf_s0 hbo (Or.inl (by simp [c6])); rw [h7]; rfl) (ihi (by omega) _ (fZ2))
        · --
          refine r_iload dX0_invite_57 rfl ?_
          refine r_iload_n dX0_invite_59 rfl ?_
          refine r_icmp_gt (tgt := 66) dX0_invite_60 rfl (fun c7 => ?_) (fun c7 => ?_)
          · --
            refine r_iload dX0_invite_66 rfl ?_
            refine r_istore_n dX0_invite_68 (by decide) rfl ?_
            refine r_iload dX0_invite_69 rfl ?_
            refine r_istore_n dX0_invite_71 (by decide) rfl ?_
            refine r_iincN (n := 1) dX0_invite_72 rfl rfl (by decide) rfl ?_
            refine r_goto (tgt := 18) dX0_invite_75 rfl ?_
            refine r_sub [some (vR 64), some (vI wh), some (vI (nI i)), some (vI (popc (saidW b T ((T 0) ||| (one i))))), some (vI (nI (i + 1))), none] (And.intro rfl (And.intro rfl (And.intro rfl (And.intro rfl (And.intro rfl trivial))))) ?_
            exact r_L (by have h7 : inviO b T (i + 1) = some i := bestOf_s1 hbo (by simp [c6]) c7; rw [h7]; rfl) (ihi (by omega) _ (fZ2))
          · --
            refine r_goto (tgt := 72) dX0_invite_63 rfl ?_
            refine r_iincN (n := 1) dX0_invite_72 rfl rfl (by decide) rfl ?_
            refine r_goto (tgt := 18) dX0_invite_75 rfl ?_
            refine r_sub [some (vR 64), some (vI wh), some (vI (nI jb)), some (vI (inviF b T jb)), some (vI (nI (i + 1))), none] (And.intro rfl (And.intro rfl (And.intro rfl (And.intro rfl (And.intro rfl trivial))))) ?_
            exact r_L (by have h7 : inviO b T (i + 1) = some jb := bestOf_s0 hbo (Or.inr (Int32.not_lt.mp c7)); rw [h7]; rfl) (ihi (by omega) _ (fZ2))
  · --
    refine r_iconst (v := (-1)) dX0_invite_9 (by decide) ?_
    exact r_reti dX0_invite_10 rfl rfl (Nat.le_refl _) (Nat.le_refl _) ⟨by rw [inviteV, if_neg (by simp [c1])], f⟩

theorem x0_hide {G : ev_G} {b : Bk} {K : XK} {T : Nat → Int32} {h : ev_H} (hm : XM b K T h) (p wh : Int32) : Called G mX0_hide 312 0 0 [vR 64, vI p, vI wh] h (pI (fun y h1 => y = hideV b T p wh ∧ Fr (QF K) [] h h1)) := by
  have hb := hm.xb
  have hT := hm.xt
  have hl := hm.lay
  have hw := hm.bw
  have hb1 := hw.p6
  have hb2 := hw.s5
  have hb3 := hw.t10
  have hw9 := hm.tw
  have f : Fr (QF K) [] h h := Fr.rf
  refine called_of rfl [some (vR 64), some (vI p), some (vI wh), none, none, none, none] rfl (Nat.le_of_ble_eq_true rfl) ?_
  refine r_aload_n dX0_hide_0 rfl ?_
  refine r_iload_n dX0_hide_1 rfl ?_
  refine r_callVx lX0_187 (x0_isThing hm _) (hl.k) rfl rfl rfl rfl dX0_hide_2 (Nat.le_refl _) (Nat.le_refl _) ?_
  refine r_ifB_eq (tgt := 28) dX0_hide_5 rfl (fun c1 => ?_) (fun c1 => ?_)
  · --
    refine r_iconst (v := (-1)) dX0_hide_28 (by decide) ?_
    exact r_reti dX0_hide_29 rfl rfl (Nat.le_refl _) (Nat.le_refl _) ⟨by rw [hideV, if_neg (by simp [c1])], f⟩
  · --
    obtain ⟨j, hj, rfl⟩ := thiV_ok hw c1
    refine r_aload_n dX0_hide_8 rfl ?_
    refine r_getRv fX0_53 (hl.k) (v := 74) (hl.r 5 (by decide) (by decide)) rfl dX0_hide_9 ?_
    refine r_iload_n dX0_hide_12 rfl ?_
    refine r_callVx lX0_202 (x3_isSaidN hT j) (hT.k) rfl rfl rfl rfl dX0_hide_13 (Nat.le_refl _) (Nat.le_refl _) ?_
    refine r_ifB_ne (tgt := 28) dX0_hide_16 rfl (fun c2 => ?_) (fun c2 => ?_)
    · --
      refine r_iconst (v := (-1)) dX0_hide_28 (by decide) ?_
      exact r_reti dX0_hide_29 rfl rfl (Nat.le_refl _) (Nat.le_refl _) ⟨by rw [hideV, nI_clamp (by omega), if_neg (by simp [stV, c1, c2])], f⟩
    · --
      refine r_iload_n dX0_hide_19 rfl ?_
      refine r_iconst (v := 0) dX0_hide_20 (by decide) ?_
      refine r_iconst (v := 1) dX0_hide_21 (by decide) ?_
      refine r_callSx lX0_155 (x0_isIn _ _ _) rfl rfl rfl rfl dX0_hide_22 (Nat.le_refl _) (Nat.le_refl _) ?_
      refine r_ifB_ne (tgt := 30) dX0_hide_25 rfl (fun c3 => ?_) (fun c3 => ?_)
      · --
        refine r_iconst (v := (-1)) dX0_hide_30 (by decide) ?_
        refine r_istore_n dX0_hide_31 (by decide) rfl ?_
        refine r_bipush (v := nI 11) dX0_hide_32 (by decide) ?_
        refine r_istore dX0_hide_34 (by decide) rfl ?_
        refine r_iconst (v := nI 0) dX0_hide_36 (by decide) ?_
        refine r_istore dX0_hide_37 (by decide) rfl ?_
        refine (ev_for (P := fun i => ∀ hL : ev_H, (Fr (QF K) [] h hL) → Ev G mX0_hide (ev_room 312 0 0) (ev_MQ G (pI (fun y h1 => y = hideV b T (nI j) wh ∧ Fr (QF K) [] h h1)) 0 0) 39 [some (vR 64), some (vI (nI j)), some (vI wh), some (vI (optI (hideO b T j i))), some (vI (atI (hideO b T j i) (nI 11) (fun s => popc (hideF b T j s)))), some (vI (nI i)), none] [] hL 0 0) (nS b) (fun i hki ihi hL qhL => ?_)) 0 (Nat.zero_le _) _ (f)
        have fL := qhL
        have hmL := hm.fq fL
        have hbL := hmL.xb
        have hTL := hmL.xt
        have hlL := hmL.lay
        refine r_iload dX0_hide_39 rfl ?_
        refine r_aload_n dX0_hide_41 rfl ?_
        refine r_callVx lX0_153 (x0_sacks hmL) (hlL.k) rfl rfl rfl rfl dX0_hide_42 (Nat.le_refl _) (Nat.le_refl _) ?_
        refine r_icmpN_ge (tgt := 120) dX0_hide_45 rfl (by omega) (by omega) (fun c4 => ?_) (fun c4 => ?_)
        · --
          have hi9 : i = nS b := by omega
          subst hi9
          cases hbo : hideO b T j (nS b) with
          | none =>
            refine r_iload_n dX0_hide_120 rfl ?_
            refine r_if_ge (tgt := 128) dX0_hide_121 rfl (fun c5 => ?_) (fun c5 => ?_)
            · --
              exact absurd c5 (show ¬ (0 : Int32) ≤ (-1) by decide)
            · --
              refine r_iconst (v := (-1)) dX0_hide_124 (by decide) ?_
              refine r_goto (tgt := 138) dX0_hide_125 rfl ?_
              exact r_reti dX0_hide_138 rfl rfl (Nat.le_refl _) (Nat.le_refl _) ⟨by rw [hideV, nI_clamp (by omega), if_pos (by simp [stV, c1, c2, c3]), hbo], fL⟩
          | some jb =>
            have hjb := leastOf_lt hbo
            refine r_iload_n dX0_hide_120 rfl ?_
            refine r_if_ge (tgt := 128) dX0_hide_121 rfl (fun c6 => ?_) (fun c6 => ?_)
            · --
              refine r_iload_n dX0_hide_128 rfl ?_
              refine r_if_ne (tgt := 136) dX0_hide_129 rfl (fun c7 => ?_) (fun c7 => ?_)
              · --
                refine r_iload dX0_hide_136 rfl ?_
                exact r_reti dX0_hide_138 rfl rfl (Nat.le_refl _) (Nat.le_refl _) ⟨by rw [hideV, nI_clamp (by omega), if_pos (by simp [stV, c1, c2, c3]), hbo]; exact (if_neg c7).symm, fL⟩
              · --
                refine r_iload_n dX0_hide_132 rfl ?_
                refine r_goto (tgt := 138) dX0_hide_133 rfl ?_
                exact r_reti dX0_hide_138 rfl rfl (Nat.le_refl _) (Nat.le_refl _) ⟨by rw [hideV, nI_clamp (by omega), if_pos (by simp [stV, c1, c2, c3]), hbo]; exact (if_pos c7).symm, fL⟩
            · --
              exact absurd (nI_pos' (by omega)) c6
        · --
          cases hbo : hideO b T j i with
          | none =>
            refine r_aload_n dX0_hide_48 rfl ?_
            refine r_getRv fX0_60 (hlL.k) (v := 80) (hlL.r 7 (by decide) (by decide)) rfl dX0_hide_49 ?_
            refine r_aload_n dX0_hide_52 rfl ?_
            refine r_getRv fX0_53 (hlL.k) (v := 74) (hlL.r 5 (by decide) (by decide)) rfl dX0_hide_53 ?_
            refine r_callVr lX0_230 (xq_copy hmL) (hlL.s80.2.1) rfl rfl rfl rfl dX0_hide_56 (Nat.le_refl _) (Nat.le_refl _) (fun y9 hZ1 q9 => ?_)
            obtain ⟨rfl, gZ1, hqZ1⟩ := q9
            have kZ1 : Fr (QF K) [] hL hZ1 := frq_t gZ1
            have hmZ1 := hmL.fq kZ1
            have fZ1 : Fr (QF K) [] h hZ1 := fL.tr kZ1
            have hbZ1 := hmZ1.xb
            have hTZ1 := hmZ1.xt
            have hlZ1 := hmZ1.lay
            refine r_getRv fX0_199 (hlZ1.s80.2.1) (v := 81) (hqZ1.rin) rfl dX0_hide_59 ?_
            refine r_iload_n dX0_hide_62 rfl ?_
            refine r_iload dX0_hide_63 rfl ?_
            refine r_iastv (hqZ1.kin) (by decide) (hqZ1.lin) (ix_n (by omega) (by decide)) dX0_hide_65 ?_
            have kZ2 : Fr (QF K) [] hZ1 (sI hZ1 81 j (nI i)) := Fr.rf.sa 81 j (nI i) (by simp)
            have hmZ2 : XM b K T (sI hZ1 81 j (nI i)) := hmZ1.fq kZ2
            have fZ2 : Fr (QF K) [] h (sI hZ1 81 j (nI i)) := fZ1.tr kZ2
            have hqZ2 : XT 80 (u1 T (2 + j) (nI i)) (-1) (sI hZ1 81 j (nI i)) := hqZ1.win (by omega) (nI i)
            generalize sI hZ1 81 j (nI i) = hZ2 at kZ2 hmZ2 fZ2 hqZ2 ⊢
            have hbZ2 := hmZ2.xb
            have hTZ2 := hmZ2.xt
            have hlZ2 := hmZ2.lay
            refine r_aload_n dX0_hide_66 rfl ?_
            refine r_getRv fX0_60 (hlZ2.k) (v := 80) (hlZ2.r 7 (by decide) (by decide)) rfl dX0_hide_67 ?_
            refine r_aload_n dX0_hide_70 rfl ?_
            refine r_getRv fX0_42 (hlZ2.k) (v := kB K) (hmZ2.bk) rfl dX0_hide_71 ?_
            refine r_iload dX0_hide_74 rfl ?_
            refine r_callVi lX0_221 (x3_out hbZ2 hqZ2 (hw9.inn (by omega) (Or.inr ⟨i, by omega, rfl⟩)) (s := i) (by omega)) (hlZ2.s80.2.1) rfl rfl rfl rfl dX0_hide_76 (Nat.le_refl _) (Nat.le_refl _) (fun y9 hZ3 q9 => ?_)
            obtain ⟨e9, gZ3⟩ := q9
            replace e9 : y9 = outV b (u1 T (2 + j) (nI i)) i := e9
            subst e9
            have kZ3 : Fr (QF K) [] hZ2 hZ3 := frq_a gZ3
            have hmZ3 := hmZ2.fq kZ3
            have fZ3 : Fr (QF K) [] h hZ3 := fZ2.tr kZ3
            have hbZ3 := hmZ3.xb
            have hTZ3 := hmZ3.xt
            have hlZ3 := hmZ3.lay
            have hqZ3 := hqZ2.frA hbZ2 gZ3
            refine r_istore dX0_hide_79 (by decide) rfl ?_
            refine r_iload dX0_hide_81 rfl ?_
            refine r_iload_n dX0_hide_83 rfl ?_
            refine r_ishr dX0_hide_84 ?_
            refine r_iconst (v := 1) dX0_hide_85 (by decide) ?_
            refine r_iand dX0_hide_86 ?_
            refine r_iconst (v := 1) dX0_hide_87 (by decide) ?_
            refine r_icmp_eq (tgt := 114) dX0_hide_88 rfl (fun c8 => ?_) (fun c8 => ?_)
            · --
              refine r_iincN (n := 1) dX0_hide_114 rfl rfl (by decide) rfl ?_
              refine r_goto (tgt := 39) dX0_hide_117 rfl ?_
              refine r_sub [some (vR 64), some (vI (nI j)), some (vI wh), some (vI (-1)), some (vI (nI 11)), some (vI (nI (i + 1))), none] (And.intro rfl (And.intro rfl (And.intro rfl (And.intro rfl (And.intro rfl (And.intro rfl trivial)))))) ?_
              exact r_L (by have h7 : hideO b T j (i + 1) = none := leastOf_n0 hbo (hid_0 c8); rw [h7]; rfl) (ihi (by omega) _ (fZ3))
            · --
              refine r_iload dX0_hide_91 rfl ?_
              refine r_callSx lX0_239 (xJ15_bc (lt1024 hw (outV_lt hw _))) rfl rfl rfl rfl dX0_hide_93 (Nat.le_refl _) (Nat.le_refl _) ?_
              refine r_iload dX0_hide_96 rfl ?_
              refine r_icmp_lt (tgt := 104) dX0_hide_98 rfl (fun c9 => ?_) (fun c9 => ?_)
              · --
                refine r_iload dX0_hide_104 rfl ?_
                refine r_istore_n dX0_hide_106 (by decide) rfl ?_
                refine r_iload dX0_hide_107 rfl ?_
                refine r_callSx lX0_239 (xJ15_bc (lt1024 hw (outV_lt hw _))) rfl rfl rfl rfl dX0_hide_109 (Nat.le_refl _) (Nat.le_refl _) ?_
                refine r_istore dX0_hide_112 (by decide) rfl ?_
                refine r_iincN (n := 1) dX0_hide_114 rfl rfl (by decide) rfl ?_
                refine r_goto (tgt := 39) dX0_hide_117 rfl ?_
                refine r_sub [some (vR 64), some (vI (nI j)), some (vI wh), some (vI (nI i)), some (vI (popc (outV b (u1 T (2 + j) (nI i)) i))), some (vI (nI (i + 1))), none] (And.intro rfl (And.intro rfl (And.intro rfl (And.intro rfl (And.intro rfl (And.intro rfl trivial)))))) ?_
                exact r_L (by have h7 : hideO b T j (i + 1) = some i := leastOf_n1 hbo (hid_1 c8); rw [h7]; rfl) (ihi (by omega) _ (fZ3))
              · --
                refine r_goto (tgt := 114) dX0_hide_101 rfl ?_
                refine r_iincN (n := 1) dX0_hide_114 rfl rfl (by decide) rfl ?_
                refine r_goto (tgt := 39) dX0_hide_117 rfl ?_
                refine r_sub [some (vR 64), some (vI (nI j)), some (vI wh), some (vI (-1)), some (vI (nI 11)), some (vI (nI (i + 1))), none] (And.intro rfl (And.intro rfl (And.intro rfl (And.intro rfl (And.intro rfl (And.intro rfl trivial)))))) ?_
                exact r_L (absurd (popc_11 (lt1024 hw (outV_lt hw _))) c9) (ihi (by omega) _ (fZ3))
          | some jb =>
            have hjb := leastOf_lt hbo
            refine r_aload_n dX0_hide_48 rfl ?_
            refine r_getRv fX0_60 (hlL.k) (v := 80) (hlL.r 7 (by decide) (by decide)) rfl dX0_hide_49 ?_
            refine r_aload_n dX0_hide_52 rfl ?_
            refine r_getRv fX0_53 (hlL.k) (v := 74) (hlL.r 5 (by decide) (by decide)) rfl dX0_hide_53 ?_
            refine r_callVr lX0_230 (xq_copy hmL) (hlL.s80.2.1) rfl rfl rfl rfl dX0_hide_56 (Nat.le_refl _) (Nat.le_refl _) (fun y9 hZ4 q9 => ?_)
            obtain ⟨rfl, gZ4, hqZ4⟩ := q9
            have kZ4 : Fr (QF K) [] hL hZ4 := frq_t gZ4
            have hmZ4 := hmL.fq kZ4
            have fZ4 : Fr (QF K) [] h hZ4 := fL.tr kZ4
            have hbZ4 := hmZ4.xb
            have hTZ4 := hmZ4.xt
            have hlZ4 := hmZ4.lay
            refine r_getRv fX0_199 (hlZ4.s80.2.1) (v := 81) (hqZ4.rin) rfl dX0_hide_59 ?_
            refine r_iload_n dX0_hide_62 rfl ?_
            refine r_iload dX0_hide_63 rfl ?_
            refine r_iastv (hqZ4.kin) (by decide) (hqZ4.lin) (ix_n (by omega) (by decide)) dX0_hide_65 ?_
            have kZ5 : Fr (QF K) [] hZ4 (sI hZ4 81 j (nI i)) := Fr.rf.sa 81 j (nI i) (by simp)
            have hmZ5 : XM b K T (sI hZ4 81 j (nI i)) := hmZ4.fq kZ5
            have fZ5 : Fr (QF K) [] h (sI hZ4 81 j (nI i)) := fZ4.tr kZ5
            have hqZ5 : XT 80 (u1 T (2 + j) (nI i)) (-1) (sI hZ4 81 j (nI i)) := hqZ4.win (by omega) (nI i)
            generalize sI hZ4 81 j (nI i) = hZ5 at kZ5 hmZ5 fZ5 hqZ5 ⊢
            have hbZ5 := hmZ5.xb
            have hTZ5 := hmZ5.xt
            have hlZ5 := hmZ5.lay
            refine r_aload_n dX0_hide_66 rfl ?_
            refine r_getRv fX0_60 (hlZ5.k) (v := 80) (hlZ5.r 7 (by decide) (by decide)) rfl dX0_hide_67 ?_
            refine r_aload_n dX0_hide_70 rfl ?_
            refine r_getRv fX0_42 (hlZ5.k) (v := kB K) (hmZ5.bk) rfl dX0_hide_71 ?_
            refine r_iload dX0_hide_74 rfl ?_
            refine r_callVi lX0_221 (x3_out hbZ5 hqZ5 (hw9.inn (by omega) (Or.inr ⟨i, by omega, rfl⟩)) (s := i) (by omega)) (hlZ5.s80.2.1) rfl rfl rfl rfl dX0_hide_76 (Nat.le_refl _) (Nat.le_refl _) (fun y9 hZ6 q9 => ?_)
            obtain ⟨e9, gZ6⟩ := q9
            replace e9 : y9 = outV b (u1 T (2 + j) (nI i)) i := e9
            subst e9
            have kZ6 : Fr (QF K) [] hZ5 hZ6 := frq_a gZ6
            have hmZ6 := hmZ5.fq kZ6
            have fZ6 : Fr (QF K) [] h hZ6 := fZ5.tr kZ6
            have hbZ6 := hmZ6.xb
            have hTZ6 := hmZ6.xt
            have hlZ6 := hmZ6.lay
            have hqZ6 := hqZ5.frA hbZ5 gZ6
            refine r_istore dX0_hide_79 (by decide) rfl ?_
            refine r_iload dX0_hide_81 rfl ?_
            refine r_iload_n dX0_hide_83 rfl ?_
            refine r_ishr dX0_hide_84 ?_
            refine r_iconst (v := 1) dX0_hide_85 (by decide) ?_
            refine r_iand dX0_hide_86 ?_
            refine r_iconst (v := 1) dX0_hide_87 (by decide) ?_
            refine r_icmp_eq (tgt := 114) dX0_hide_88 rfl (fun c10 => ?_) (fun c10 => ?_)
            · --
              refine r_iincN (n := 1) dX0_hide_114 rfl rfl (by decide) rfl ?_
              refine r_goto (tgt := 39) dX0_hide_117 rfl ?_
              refine r_sub [some (vR 64), some (vI (nI j)), some (vI wh), some (vI (nI jb)), some (vI (popc (hideF b T j jb))), some (vI (nI (i + 1))), none] (And.intro rfl (And.intro rfl (And.intro rfl (And.intro rfl (And.intro rfl (And.intro rfl trivial)))))) ?_
              exact r_L (by have h7 : hideO b T j (i + 1) = some jb := leastOf_s0 hbo (Or.inl (hid_0 c10)); rw [h7]; rfl) (ihi (by omega) _ (fZ6))
            · --
              refine r_iload dX0_hide_91 rfl ?_
              refine r_callSx lX0_239 (xJ15_bc (lt1024 hw (outV_lt hw _))) rfl rfl rfl rfl dX0_hide_93 (Nat.le_refl _) (Nat.le_refl _) ?_
              refine r_iload dX0_hide_96 rfl ?_
              refine r_icmp_lt (tgt := 104) dX0_hide_98 rfl (fun c11 => ?_) (fun c11 => ?_)
              · --
                refine r_iload dX0_hide_104 rfl ?_
                refine r_istore_n dX0_hide_106 (by decide) rfl ?_
                refine r_iload dX0_hide_107 rfl ?_
                refine r_callSx lX0_239 (xJ15_bc (lt1024 hw (outV_lt hw _))) rfl rfl rfl rfl dX0_hide_109 (Nat.le_refl _) (Nat.le_refl _) ?_
                refine r_istore dX0_hide_112 (by decide) rfl ?_
                refine r_iincN (n := 1) dX0_hide_114 rfl rfl (by decide) rfl ?_
                refine r_goto (tgt := 39) dX0_hide_117 rfl ?_
                refine r_sub [some (vR 64), some (vI (nI j)), some (vI wh), some (vI (nI i)), some (vI (popc (outV b (u1 T (2 + j) (nI i)) i))), some (vI (nI (i + 1))), none] (And.intro rfl (And.intro rfl (And.intro rfl (And.intro rfl (And.intro rfl (And.intro rfl trivial)))))) ?_
                exact r_L (by have h7 : hideO b T j (i + 1) = some i := leastOf_s1 hbo (hid_1 c10) c11; rw [h7]; rfl) (ihi (by omega) _ (fZ6))
              · --
                refine r_goto (tgt := 114) dX0_hide_101 rfl ?_
                refine r_iincN (n := 1) dX0_hide_114 rfl rfl (by decide) rfl ?_
                refine r_goto (tgt := 39) dX0_hide_117 rfl ?_
                refine r_sub [some (vR 64), some (vI (nI j)), some (vI wh), some (vI (nI jb)), some (vI (popc (hideF b T j jb))), some (vI (nI (i + 1))), none] (And.intro rfl (And.intro rfl (And.intro rfl (And.intro rfl (And.intro rfl (And.intro rfl trivial)))))) ?_
                exact r_L (by have h7 : hideO b T j (i + 1) = some jb := leastOf_s0 hbo (Or.inr (Int32.not_lt.mp c11)); rw [h7]; rfl) (ihi (by omega) _ (fZ6))
      · --
        refine r_iconst (v := (-1)) dX0_hide_28 (by decide) ?_
        exact r_reti dX0_hide_29 rfl rfl (Nat.le_refl _) (Nat.le_refl _) ⟨by rw [hideV, nI_clamp (by omega), if_neg (by simp [stV, c1, c2, c3])], f⟩
