/-! ===== THE REFERENCE: hide, send, spark, blend, after, shyest (walks by program) ===== -/
set_option maxRecDepth 100000

theorem u1_id {α : Type} {T : Nat → α} {e k : Nat} : u1 T e (T e) k = T k := by
  unfold u1
  split
  · next h => rw [h]
  · rfl

theorem c_hide {G : ev_G} {b : Bk} {k : Nat} {h : ev_H} (hm : MB b k h) {T : Nat → Int32} (hT : MT T h) (hth : hI h aM 43 = -1) (p wh : Int32) : Called G mX4_hide 8 0 0 [vR aM, vI p, vI wh] h (pI (fun y h1 => y = hideV b T p wh ∧ Fr [aPile, aAll] [39, 40, 41] h h1 ∧ MT T h1)) := by
  have hl := hm.lay
  have hk2 := hm.k2
  have hb := hm.bw
  have hb1 := hb.p6
  have hb2 := hb.s5
  have hb3 := hb.t10
  have f : Fr [aPile, aAll] [39, 40, 41] h h := Fr.rf
  refine called_of rfl [some (vR aM), some (vI p), some (vI wh), none, none, none, none, none] rfl (Nat.le_of_ble_eq_true rfl) ?_
  refine r_aload_n dX4_hide_0 rfl ?_
  refine r_iload_n dX4_hide_1 rfl ?_
  refine r_callVx lX4_422 (c_isThing hm _) (hl.1) rfl rfl rfl rfl dX4_hide_2 (Nat.le_refl _) (Nat.le_refl _) ?_
  refine r_ifB_eq (tgt := 25) dX4_hide_5 rfl (fun c1 => ?_) (fun c1 => ?_)
  · --
    refine r_iconst (v := (-1)) dX4_hide_25 (by decide) ?_
    exact r_reti dX4_hide_26 rfl rfl (Nat.le_refl _) (Nat.le_refl _) ⟨by rw [hideV, if_neg (by simp [c1])], f, hT⟩
  · --
    obtain ⟨j, hj, rfl⟩ := thiV_ok hb c1
    refine r_aload_n dX4_hide_8 rfl ?_
    refine r_iload_n dX4_hide_9 rfl ?_
    refine r_callVx lX4_386 (c_isStill hm hT (t := j)) (hl.1) rfl rfl rfl rfl dX4_hide_10 (Nat.le_refl _) (Nat.le_refl _) ?_
    refine r_ifB_eq (tgt := 25) dX4_hide_13 rfl (fun c2 => ?_) (fun c2 => ?_)
    · --
      refine r_iconst (v := (-1)) dX4_hide_25 (by decide) ?_
      exact r_reti dX4_hide_26 rfl rfl (Nat.le_refl _) (Nat.le_refl _) ⟨by rw [hideV, nI_clamp (by omega), if_neg (by simp [c1, c2])], f, hT⟩
    · --
      refine r_iload_n dX4_hide_16 rfl ?_
      refine r_iconst (v := 0) dX4_hide_17 (by decide) ?_
      refine r_iconst (v := 1) dX4_hide_18 (by decide) ?_
      refine r_callSx lX4_361 (c_isIn _ _ _) rfl rfl rfl rfl dX4_hide_19 (Nat.le_refl _) (Nat.le_refl _) ?_
      refine r_ifB_ne (tgt := 27) dX4_hide_22 rfl (fun c3 => ?_) (fun c3 => ?_)
      · --
        refine r_aload_n dX4_hide_27 rfl ?_
        refine r_getRv fX4_88 (hl.1) (v := aAll) ((l_all hl).1) rfl dX4_hide_28 ?_
        refine r_iconst (v := nI 2) dX4_hide_31 (by decide) ?_
        refine r_iload_n dX4_hide_32 rfl ?_
        refine r_iadd dX4_hide_33 ?_
        refine r_top (nI (2 + j)) (nI_add _ _) ?_
        refine r_ialdv ((l_all hl).2.1) ((l_all hl).2.2) (ix_n (by omega) (by decide)) (v := T (2 + j)) (hT _ (by omega)) dX4_hide_34 ?_
        refine r_istore_n dX4_hide_35 (by decide) rfl ?_
        refine r_iconst (v := (-1)) dX4_hide_36 (by decide) ?_
        refine r_istore dX4_hide_37 (by decide) rfl ?_
        refine r_bipush (v := nI 100) dX4_hide_39 (by decide) ?_
        refine r_istore dX4_hide_41 (by decide) rfl ?_
        refine r_iconst (v := nI 0) dX4_hide_43 (by decide) ?_
        refine r_istore dX4_hide_44 (by decide) rfl ?_
        refine (ev_for (P := fun i => ∀ hL : ev_H, (Fr [aPile, aAll] [39, 40, 41] h hL ∧ ∃ v, MT (u1 T (2 + j) v) hL) → Ev G mX4_hide (ev_room 8 0 0) (ev_MQ G (pI (fun y h1 => y = hideV b T (nI j) wh ∧ Fr [aPile, aAll] [39, 40, 41] h h1 ∧ MT T h1)) 0 0) 46 [some (vR aM), some (vI (nI j)), some (vI wh), some (vI (T (2 + j))), some (vI (optI (hideO b T j i))), some (vI (atI (hideO b T j i) (nI 100) (fun s => popc (hideF b T j s)))), some (vI (nI i)), none] [] hL 0 0) (nS b) (fun i hki ihi hL qhL => ?_)) 0 (Nat.zero_le _) _ (⟨f, T (2 + j), hT.eq (fun k _ => u1_id.symm)⟩)
        obtain ⟨fL, v9, hTL⟩ := qhL
        have hmL := hm.fr fL rfl
        have hlL := hmL.lay
        refine r_iload dX4_hide_46 rfl ?_
        refine r_aload_n dX4_hide_48 rfl ?_
        refine r_callVx lX4_365 (c_bags hmL) (hlL.1) rfl rfl rfl rfl dX4_hide_49 (Nat.le_refl _) (Nat.le_refl _) ?_
        refine r_icmpN_ge (tgt := 112) dX4_hide_52 rfl (by omega) (by omega) (fun c4 => ?_) (fun c4 => ?_)
        · --
          have hi9 : i = nS b := by omega
          subst hi9
          refine r_aload_n dX4_hide_112 rfl ?_
          refine r_getRv fX4_88 (hlL.1) (v := aAll) ((l_all hlL).1) rfl dX4_hide_113 ?_
          refine r_iconst (v := nI 2) dX4_hide_116 (by decide) ?_
          refine r_iload_n dX4_hide_117 rfl ?_
          refine r_iadd dX4_hide_118 ?_
          refine r_top (nI (2 + j)) (nI_add _ _) ?_
          refine r_iload_n dX4_hide_119 rfl ?_
          refine r_iastv ((l_all hlL).2.1) (by decide) ((l_all hlL).2.2) (ix_n (by omega) (by decide)) dX4_hide_120 ?_
          have gZ1 : Fr [aAll] [] hL (sI hL aAll (2 + j) (T (2 + j))) := Fr.rf.sa aAll (2 + j) (T (2 + j)) (by decide)
          have hTZ1 : MT (u1 (u1 T (2 + j) v9) (2 + j) (T (2 + j))) (sI hL aAll (2 + j) (T (2 + j))) := hTL.up (2 + j) (T (2 + j))
          rw [u1_u1] at hTZ1
          have hmZ1 : MB b k (sI hL aAll (2 + j) (T (2 + j))) := hmL.fr gZ1 rfl
          have fZ1 : Fr [aPile, aAll] [39, 40, 41] h (sI hL aAll (2 + j) (T (2 + j))) := fL.tr (gZ1.wk (by simp) (by simp))
          generalize sI hL aAll (2 + j) (T (2 + j)) = hZ1 at gZ1 hTZ1 hmZ1 fZ1 ⊢
          have hlZ1 := hmZ1.lay
          cases hbo : hideO b T j (nS b) with
          | none =>
            refine r_iload dX4_hide_121 rfl ?_
            refine r_if_ge (tgt := 130) dX4_hide_123 rfl (fun c5 => ?_) (fun c5 => ?_)
            · --
              exact absurd c5 (show ¬ (0 : Int32) ≤ (-1) by decide)
            · --
              refine r_iconst (v := (-1)) dX4_hide_126 (by decide) ?_
              refine r_goto (tgt := 141) dX4_hide_127 rfl ?_
              exact r_reti dX4_hide_141 rfl rfl (Nat.le_refl _) (Nat.le_refl _) ⟨by rw [hideV, nI_clamp (by omega), if_pos (by simp [c1, c2, c3]), hbo], fZ1, hTZ1.same rfl⟩
          | some jb =>
            have hjb := leastOf_lt hbo
            refine r_iload dX4_hide_121 rfl ?_
            refine r_if_ge (tgt := 130) dX4_hide_123 rfl (fun c6 => ?_) (fun c6 => ?_)
            · --
              refine r_iload_n dX4_hide_130 rfl ?_
              refine r_if_ne (tgt := 139) dX4_hide_131 rfl (fun c7 => ?_) (fun c7 => ?_)
              · --
                refine r_iload dX4_hide_139 rfl ?_
                exact r_reti dX4_hide_141 rfl rfl (Nat.le_refl _) (Nat.le_refl _) ⟨by rw [hideV, nI_clamp (by omega), if_pos (by simp [c1, c2, c3]), hbo]; exact (if_neg c7).symm, fZ1, hTZ1.same rfl⟩
              · --
                refine r_iload dX4_hide_134 rfl ?_
                refine r_goto (tgt := 141) dX4_hide_136 rfl ?_
                exact r_reti dX4_hide_141 rfl rfl (Nat.le_refl _) (Nat.le_refl _) ⟨by rw [hideV, nI_clamp (by omega), if_pos (by simp [c1, c2, c3]), hbo]; exact (if_pos c7).symm, fZ1, hTZ1.same rfl⟩
            · --
              exact absurd (nI_pos' (by omega)) c6
        · --
          cases hbo : hideO b T j i with
          | none =>
            refine r_aload_n dX4_hide_55 rfl ?_
            refine r_getRv fX4_88 (hlL.1) (v := aAll) ((l_all hlL).1) rfl dX4_hide_56 ?_
            refine r_iconst (v := nI 2) dX4_hide_59 (by decide) ?_
            refine r_iload_n dX4_hide_60 rfl ?_
            refine r_iadd dX4_hide_61 ?_
            refine r_top (nI (2 + j)) (nI_add _ _) ?_
            refine r_iload dX4_hide_62 rfl ?_
            refine r_iastv ((l_all hlL).2.1) (by decide) ((l_all hlL).2.2) (ix_n (by omega) (by decide)) dX4_hide_64 ?_
            have gZ2 : Fr [aAll] [] hL (sI hL aAll (2 + j) (nI i)) := Fr.rf.sa aAll (2 + j) (nI i) (by decide)
            have hTZ2 : MT (u1 (u1 T (2 + j) v9) (2 + j) (nI i)) (sI hL aAll (2 + j) (nI i)) := hTL.up (2 + j) (nI i)
            rw [u1_u1] at hTZ2
            have hmZ2 : MB b k (sI hL aAll (2 + j) (nI i)) := hmL.fr gZ2 rfl
            have fZ2 : Fr [aPile, aAll] [39, 40, 41] h (sI hL aAll (2 + j) (nI i)) := fL.tr (gZ2.wk (by simp) (by simp))
            generalize sI hL aAll (2 + j) (nI i) = hZ2 at gZ2 hTZ2 hmZ2 fZ2 ⊢
            have hlZ2 := hmZ2.lay
            refine r_aload_n dX4_hide_65 rfl ?_
            refine r_iload dX4_hide_66 rfl ?_
            refine r_callVi lX4_407 (c_wouldOf hmZ2 hTZ2 (s := i) (by omega) ((fZ2.fld 43 (by decide) (by decide)).trans hth)) (hlZ2.1) rfl rfl rfl rfl dX4_hide_68 (Nat.le_refl _) (Nat.le_refl _) (fun y9 hZ3 q9 => ?_)
            obtain ⟨rfl, gZ3⟩ := q9
            have fZ3 := fZ2.tr (gZ3.wk (by simp) (by simp))
            have hmZ3 := hmZ2.fr gZ3 rfl
            have hTZ3 := hTZ2.fr gZ3 (by decide)
            have hlZ3 := hmZ3.lay
            refine r_istore dX4_hide_71 (by decide) rfl ?_
            refine r_iload dX4_hide_73 rfl ?_
            refine r_iload_n dX4_hide_75 rfl ?_
            refine r_callSx lX4_259 (c_bitN _ _) rfl rfl rfl rfl dX4_hide_76 (Nat.le_refl _) (Nat.le_refl _) ?_
            refine r_ifB_ne (tgt := 106) dX4_hide_79 rfl (fun c8 => ?_) (fun c8 => ?_)
            · --
              refine r_iincN (n := 1) dX4_hide_106 rfl rfl (by decide) rfl ?_
              refine r_goto (tgt := 46) dX4_hide_109 rfl ?_
              refine r_sub [some (vR aM), some (vI (nI j)), some (vI wh), some (vI (T (2 + j))), some (vI (-1)), some (vI (nI 100)), some (vI (nI (i + 1))), none] (And.intro rfl (And.intro rfl (And.intro rfl (And.intro rfl (And.intro rfl (And.intro rfl (And.intro rfl trivial))))))) ?_
              exact r_L (by have h7 : hideO b T j (i + 1) = none := leastOf_n0 hbo (by simp [hideF, c8]); rw [h7]; rfl) (ihi (by omega) _ (⟨fZ3, _, hTZ3⟩))
            · --
              refine r_iload dX4_hide_82 rfl ?_
              refine r_callSx lX4_339 (c_bitsOf _) rfl rfl rfl rfl dX4_hide_84 (Nat.le_refl _) (Nat.le_refl _) ?_
              refine r_iload dX4_hide_87 rfl ?_
              refine r_icmp_lt (tgt := 95) dX4_hide_89 rfl (fun c9 => ?_) (fun c9 => ?_)
              · --
                refine r_iload dX4_hide_95 rfl ?_
                refine r_istore dX4_hide_97 (by decide) rfl ?_
                refine r_iload dX4_hide_99 rfl ?_
                refine r_callSx lX4_339 (c_bitsOf _) rfl rfl rfl rfl dX4_hide_101 (Nat.le_refl _) (Nat.le_refl _) ?_
                refine r_istore dX4_hide_104 (by decide) rfl ?_
                refine r_iincN (n := 1) dX4_hide_106 rfl rfl (by decide) rfl ?_
                refine r_goto (tgt := 46) dX4_hide_109 rfl ?_
                refine r_sub [some (vR aM), some (vI (nI j)), some (vI wh), some (vI (T (2 + j))), some (vI (nI i)), some (vI (popc (outV b (u1 T (2 + j) (nI i)) i))), some (vI (nI (i + 1))), none] (And.intro rfl (And.intro rfl (And.intro rfl (And.intro rfl (And.intro rfl (And.intro rfl (And.intro rfl trivial))))))) ?_
                exact r_L (by have h7 : hideO b T j (i + 1) = some i := leastOf_n1 hbo (by simp [hideF, c8]); rw [h7]; rfl) (ihi (by omega) _ (⟨fZ3, _, hTZ3⟩))
              · --
                refine r_goto (tgt := 106) dX4_hide_92 rfl ?_
                refine r_iincN (n := 1) dX4_hide_106 rfl rfl (by decide) rfl ?_
                refine r_goto (tgt := 46) dX4_hide_109 rfl ?_
                refine r_sub [some (vR aM), some (vI (nI j)), some (vI wh), some (vI (T (2 + j))), some (vI (-1)), some (vI (nI 100)), some (vI (nI (i + 1))), none] (And.intro rfl (And.intro rfl (And.intro rfl (And.intro rfl (And.intro rfl (And.intro rfl (And.intro rfl trivial))))))) ?_
                exact r_L (absurd (popc_lt _) c9) (ihi (by omega) _ (⟨fZ3, _, hTZ3⟩))
          | some jb =>
            have hjb := leastOf_lt hbo
            refine r_aload_n dX4_hide_55 rfl ?_
            refine r_getRv fX4_88 (hlL.1) (v := aAll) ((l_all hlL).1) rfl dX4_hide_56 ?_
            refine r_iconst (v := nI 2) dX4_hide_59 (by decide) ?_
            refine r_iload_n dX4_hide_60 rfl ?_
            refine r_iadd dX4_hide_61 ?_
            refine r_top (nI (2 + j)) (nI_add _ _) ?_
            refine r_iload dX4_hide_62 rfl ?_
            refine r_iastv ((l_all hlL).2.1) (by decide) ((l_all hlL).2.2) (ix_n (by omega) (by decide)) dX4_hide_64 ?_
            have gZ4 : Fr [aAll] [] hL (sI hL aAll (2 + j) (nI i)) := Fr.rf.sa aAll (2 + j) (nI i) (by decide)
            have hTZ4 : MT (u1 (u1 T (2 + j) v9) (2 + j) (nI i)) (sI hL aAll (2 + j) (nI i)) := hTL.up (2 + j) (nI i)
            rw [u1_u1] at hTZ4
            have hmZ4 : MB b k (sI hL aAll (2 + j) (nI i)) := hmL.fr gZ4 rfl
            have fZ4 : Fr [aPile, aAll] [39, 40, 41] h (sI hL aAll (2 + j) (nI i)) := fL.tr (gZ4.wk (by simp) (by simp))
            generalize sI hL aAll (2 + j) (nI i) = hZ4 at gZ4 hTZ4 hmZ4 fZ4 ⊢
            have hlZ4 := hmZ4.lay
            refine r_aload_n dX4_hide_65 rfl ?_
            refine r_iload dX4_hide_66 rfl ?_
            refine r_callVi lX4_407 (c_wouldOf hmZ4 hTZ4 (s := i) (by omega) ((fZ4.fld 43 (by decide) (by decide)).trans hth)) (hlZ4.1) rfl rfl rfl rfl dX4_hide_68 (Nat.le_refl _) (Nat.le_refl _) (fun y9 hZ5 q9 => ?_)
            obtain ⟨rfl, gZ5⟩ := q9
            have fZ5 := fZ4.tr (gZ5.wk (by simp) (by simp))
            have hmZ5 := hmZ4.fr gZ5 rfl
            have hTZ5 := hTZ4.fr gZ5 (by decide)
            have hlZ5 := hmZ5.lay
            refine r_istore dX4_hide_71 (by decide) rfl ?_
            refine r_iload dX4_hide_73 rfl ?_
            refine r_iload_n dX4_hide_75 rfl ?_
            refine r_callSx lX4_259 (c_bitN _ _) rfl rfl rfl rfl dX4_hide_76 (Nat.le_refl _) (Nat.le_refl _) ?_
            refine r_ifB_ne (tgt := 106) dX4_hide_79 rfl (fun c10 => ?_) (fun c10 => ?_)
            · --
              refine r_iincN (n := 1) dX4_hide_106 rfl rfl (by decide) rfl ?_
              refine r_goto (tgt := 46) dX4_hide_109 rfl ?_
              refine r_sub [some (vR aM), some (vI (nI j)), some (vI wh), some (vI (T (2 + j))), some (vI (nI jb)), some (vI (popc (hideF b T j jb))), some (vI (nI (i + 1))), none] (And.intro rfl (And.intro rfl (And.intro rfl (And.intro rfl (And.intro rfl (And.intro rfl (And.intro rfl trivial))))))) ?_
              exact r_L (by have h7 : hideO b T j (i + 1) = some jb := leastOf_s0 hbo (Or.inl (by simp [hideF, c10])); rw [h7]; rfl) (ihi (by omega) _ (⟨fZ5, _, hTZ5⟩))
            · --
              refine r_iload dX4_hide_82 rfl ?_
              refine r_callSx lX4_339 (c_bitsOf _) rfl rfl rfl rfl dX4_hide_84 (Nat.le_refl _) (Nat.le_refl _) ?_
              refine r_iload dX4_hide_87 rfl ?_
              refine r_icmp_lt (tgt := 95) dX4_hide_89 rfl (fun c11 => ?_) (fun c11 => ?_)
              · --
                refine r_iload dX4_hide_95 rfl ?_
                refine r_istore dX4_hide_97 (by decide) rfl ?_
                refine r_iload dX4_hide_99 rfl ?_
                refine r_callSx lX4_339 (c_bitsOf _) rfl rfl rfl rfl dX4_hide_101 (Nat.le_refl _) (Nat.le_refl _) ?_
                refine r_istore dX4_hide_104 (by decide) rfl ?_
                refine r_iincN (n := 1) dX4_hide_106 rfl rfl (by decide) rfl ?_
                refine r_goto (tgt := 46) dX4_hide_109 rfl ?_
                refine r_sub [some (vR aM), some (vI (nI j)), some (vI wh), some (vI (T (2 + j))), some (vI (nI i)), some (vI (popc (outV b (u1 T (2 + j) (nI i)) i))), some (vI (nI (i + 1))), none] (And.intro rfl (And.intro rfl (And.intro rfl (And.intro rfl (And.intro rfl (And.intro rfl (And.intro rfl trivial))))))) ?_
                exact r_L (by have h7 : hideO b T j (i + 1) = some i := leastOf_s1 hbo (by simp [hideF, c10]) c11; rw [h7]; rfl) (ihi (by omega) _ (⟨fZ5, _, hTZ5⟩))
              · --
                refine r_goto (tgt := 106) dX4_hide_92 rfl ?_
                refine r_iincN (n := 1) dX4_hide_106 rfl rfl (by decide) rfl ?_
                refine r_goto (tgt := 46) dX4_hide_109 rfl ?_
                refine r_sub [some (vR aM), some (vI (nI j)), some (vI wh), some (vI (T (2 + j))), some (vI (nI jb)), some (vI (popc (hideF b T j jb))), some (vI (nI (i + 1))), none] (And.intro rfl (And.intro rfl (And.intro rfl (And.intro rfl (And.intro rfl (And.intro rfl (And.intro rfl trivial))))))) ?_
                exact r_L (by have h7 : hideO b T j (i + 1) = some jb := leastOf_s0 hbo (Or.inr (Int32.not_lt.mp c11)); rw [h7]; rfl) (ihi (by omega) _ (⟨fZ5, _, hTZ5⟩))
      · --
        refine r_iconst (v := (-1)) dX4_hide_25 (by decide) ?_
        exact r_reti dX4_hide_26 rfl rfl (Nat.le_refl _) (Nat.le_refl _) ⟨by rw [hideV, nI_clamp (by omega), if_neg (by simp [c1, c2, c3])], f, hT⟩

theorem c_send {G : ev_G} {b : Bk} {k : Nat} {h : ev_H} (hm : MB b k h) {T : Nat → Int32} (hT : MT T h) (hth : hI h aM 43 = -1) (hw : TW b T) (p wh : Int32) : Called G mX4_send 8 0 0 [vR aM, vI p, vI wh] h (pI (fun y h1 => y = sendV2 b T p wh ∧ Fr [aPile, aAll] [39, 40, 41] h h1 ∧ MT T h1)) := by
  have hl := hm.lay
  have hk2 := hm.k2
  have hb := hm.bw
  have hb1 := hb.p6
  have hb2 := hb.s5
  have hb3 := hb.t10
  have f : Fr [aPile, aAll] [39, 40, 41] h h := Fr.rf
  obtain ⟨S, hS64, hS0⟩ := hw.sit hb
  refine called_of rfl [some (vR aM), some (vI p), some (vI wh), none, none] rfl (Nat.le_of_ble_eq_true rfl) ?_
  refine r_aload_n dX4_send_0 rfl ?_
  refine r_iload_n dX4_send_1 rfl ?_
  refine r_callVx lX4_425 (c_isSack hm _) (hl.1) rfl rfl rfl rfl dX4_send_2 (Nat.le_refl _) (Nat.le_refl _) ?_
  refine r_ifB_eq (tgt := 17) dX4_send_5 rfl (fun c1 => ?_) (fun c1 => ?_)
  · --
    refine r_iconst (v := (-1)) dX4_send_17 (by decide) ?_
    exact r_reti dX4_send_18 rfl rfl (Nat.le_refl _) (Nat.le_refl _) ⟨by rw [sendV2, if_neg (by simp [c1])], f, hT⟩
  · --
    obtain ⟨j, hj, rfl⟩ := sakV_ok hb c1
    refine r_iload_n dX4_send_8 rfl ?_
    refine r_iconst (v := 0) dX4_send_9 (by decide) ?_
    refine r_iconst (v := 1) dX4_send_10 (by decide) ?_
    refine r_callSx lX4_361 (c_isIn _ _ _) rfl rfl rfl rfl dX4_send_11 (Nat.le_refl _) (Nat.le_refl _) ?_
    refine r_ifB_ne (tgt := 19) dX4_send_14 rfl (fun c2 => ?_) (fun c2 => ?_)
    · --
      refine r_aload_n dX4_send_19 rfl ?_
      refine r_getRv fX4_88 (hl.1) (v := aAll) ((l_all hl).1) rfl dX4_send_20 ?_
      refine r_iconst (v := nI 0) dX4_send_23 (by decide) ?_
      refine r_ialdv ((l_all hl).2.1) ((l_all hl).2.2) (ix_n (by omega) (by decide)) (v := nI S) ((hT _ (by omega)).trans hS0) dX4_send_24 ?_
      refine r_istore_n dX4_send_25 (by decide) rfl ?_
      refine r_iconst (v := nI 0) dX4_send_26 (by decide) ?_
      refine r_istore dX4_send_27 (by decide) rfl ?_
      refine (ev_for (P := fun i => ∀ hL : ev_H, (Fr [aPile, aAll] [39, 40, 41] h hL ∧ MT T hL) → Ev G mX4_send (ev_room 8 0 0) (ev_MQ G (pI (fun y h1 => y = sendV2 b T (nI j) wh ∧ Fr [aPile, aAll] [39, 40, 41] h h1 ∧ MT T h1)) 0 0) 29 [some (vR aM), some (vI (nI j)), some (vI wh), some (vI (nI (fewB (sendP b T j) S i))), some (vI (nI i))] [] hL 0 0) (S + 1) (fun i hki ihi hL qhL => ?_)) 0 (Nat.zero_le _) _ (⟨f, hT⟩)
      obtain ⟨fL, hTL⟩ := qhL
      have hmL := hm.fr fL rfl
      have hlL := hmL.lay
      refine r_iload dX4_send_29 rfl ?_
      refine r_aload_n dX4_send_31 rfl ?_
      refine r_getRv fX4_88 (hlL.1) (v := aAll) ((l_all hlL).1) rfl dX4_send_32 ?_
      refine r_iconst (v := nI 0) dX4_send_35 (by decide) ?_
      refine r_ialdv ((l_all hlL).2.1) ((l_all hlL).2.2) (ix_n (by omega) (by decide)) (v := nI S) ((hTL _ (by omega)).trans hS0) dX4_send_36 ?_
      refine r_icmpN_gt (tgt := 94) dX4_send_37 rfl (by omega) (by omega) (fun c3 => ?_) (fun c3 => ?_)
      · --
        refine r_iload_n dX4_send_94 rfl ?_
        refine r_if_ne (tgt := 105) dX4_send_95 rfl (fun c4 => ?_) (fun c4 => ?_)
        · --
          refine r_iload_n dX4_send_105 rfl ?_
          exact r_reti dX4_send_106 rfl rfl (Nat.le_refl _) (Nat.le_refl _) ⟨by rw [sendV2, if_pos (by simp [c1, c2]), nI_clamp (by omega), hS0, nI_clamp (by omega), show S + 1 = i by omega]; exact (if_neg c4).symm, fL, hTL⟩
        · --
          refine r_iload_n dX4_send_98 rfl ?_
          refine r_callSx lX4_339 (c_bitsOf _) rfl rfl rfl rfl dX4_send_99 (Nat.le_refl _) (Nat.le_refl _) ?_
          refine r_goto (tgt := 106) dX4_send_102 rfl ?_
          exact r_reti dX4_send_106 rfl rfl (Nat.le_refl _) (Nat.le_refl _) ⟨by rw [sendV2, if_pos (by simp [c1, c2]), nI_clamp (by omega), hS0, nI_clamp (by omega), show S + 1 = i by omega]; exact (if_pos c4).symm, fL, hTL⟩
      · --
        refine r_iload dX4_send_40 rfl ?_
        refine r_aload_n dX4_send_42 rfl ?_
        refine r_getRv fX4_88 (hlL.1) (v := aAll) ((l_all hlL).1) rfl dX4_send_43 ?_
        refine r_iconst (v := nI 0) dX4_send_46 (by decide) ?_
        refine r_ialdv ((l_all hlL).2.1) ((l_all hlL).2.2) (ix_n (by omega) (by decide)) (v := nI S) ((hTL _ (by omega)).trans hS0) dX4_send_47 ?_
        refine r_iconst (v := (-1)) dX4_send_48 (by decide) ?_
        refine r_ixor dX4_send_49 ?_
        refine r_iand dX4_send_50 ?_
        refine r_if_ne (tgt := 88) dX4_send_51 rfl (fun c5 => ?_) (fun c5 => ?_)
        · --
          refine r_iincN (n := 1) dX4_send_88 rfl rfl (by decide) rfl ?_
          refine r_goto (tgt := 29) dX4_send_91 rfl ?_
          exact r_L (by have h7 : fewB (sendP b T j) S (i + 1) = fewB (sendP b T j) S i := fewB_0 (Or.inl (by unfold sendP; rw [hS0, decide_eq_false c5]; rfl)); rw [h7]; rfl) (ihi (by omega) _ (⟨fL, hTL⟩))
        · --
          refine r_iload dX4_send_54 rfl ?_
          refine r_callSx lX4_339 (c_bitsOf _) rfl rfl rfl rfl dX4_send_56 (Nat.le_refl _) (Nat.le_refl _) ?_
          refine r_iload_n dX4_send_59 rfl ?_
          refine r_callSx lX4_339 (c_bitsOf _) rfl rfl rfl rfl dX4_send_60 (Nat.le_refl _) (Nat.le_refl _) ?_
          refine r_icmp_ge (tgt := 88) dX4_send_63 rfl (fun c6 => ?_) (fun c6 => ?_)
          · --
            refine r_iincN (n := 1) dX4_send_88 rfl rfl (by decide) rfl ?_
            refine r_goto (tgt := 29) dX4_send_91 rfl ?_
            exact r_L (by have h7 : fewB (sendP b T j) S (i + 1) = fewB (sendP b T j) S i := fewB_0 (Or.inr c6); rw [h7]; rfl) (ihi (by omega) _ (⟨fL, hTL⟩))
          · --
            refine r_aload_n dX4_send_66 rfl ?_
            refine r_aload_n dX4_send_67 rfl ?_
            refine r_getRv fX4_88 (hlL.1) (v := aAll) ((l_all hlL).1) rfl dX4_send_68 ?_
            refine r_iconst (v := nI 0) dX4_send_71 (by decide) ?_
            refine r_ialdv ((l_all hlL).2.1) ((l_all hlL).2.2) (ix_n (by omega) (by decide)) (v := nI S) ((hTL _ (by omega)).trans hS0) dX4_send_72 ?_
            refine r_iload dX4_send_73 rfl ?_
            refine r_iconst (v := (-1)) dX4_send_75 (by decide) ?_
            refine r_ixor dX4_send_76 ?_
            refine r_iand dX4_send_77 ?_
            refine r_iload_n dX4_send_78 rfl ?_
            refine r_callVi lX4_446 (c_wouldWith hmL hTL ((fL.fld 43 (by decide) (by decide)).trans hth) ((nI S) &&& ((nI i) ^^^ (-1))) (s := j) (by omega)) (hlL.1) rfl rfl rfl rfl dX4_send_79 (Nat.le_refl _) (Nat.le_refl _) (fun y9 hZ1 q9 => ?_)
            obtain ⟨rfl, gZ1, hTZ1⟩ := q9
            have fZ1 := fL.tr (gZ1.wk (by simp) (by simp))
            have hmZ1 := hmL.fr gZ1 rfl
            have hlZ1 := hmZ1.lay
            refine r_if_ne (tgt := 88) dX4_send_82 rfl (fun c7 => ?_) (fun c7 => ?_)
            · --
              refine r_iincN (n := 1) dX4_send_88 rfl rfl (by decide) rfl ?_
              refine r_goto (tgt := 29) dX4_send_91 rfl ?_
              exact r_L (by have h7 : fewB (sendP b T j) S (i + 1) = fewB (sendP b T j) S i := fewB_0 (Or.inl (by unfold sendP outW; rw [hS0, decide_eq_true c5, decide_eq_false c7]; rfl)); rw [h7]; rfl) (ihi (by omega) _ (⟨fZ1, hTZ1⟩))
            · --
              refine r_iload dX4_send_85 rfl ?_
              refine r_istore_n dX4_send_87 (by decide) rfl ?_
              refine r_iincN (n := 1) dX4_send_88 rfl rfl (by decide) rfl ?_
              refine r_goto (tgt := 29) dX4_send_91 rfl ?_
              exact r_L (by have h7 : fewB (sendP b T j) S (i + 1) = i := fewB_1 (by unfold sendP outW; rw [hS0, decide_eq_true c5, decide_eq_true c7]; rfl) (Int32.not_le.mp c6); rw [h7]; rfl) (ihi (by omega) _ (⟨fZ1, hTZ1⟩))
    · --
      refine r_iconst (v := (-1)) dX4_send_17 (by decide) ?_
      exact r_reti dX4_send_18 rfl rfl (Nat.le_refl _) (Nat.le_refl _) ⟨by rw [sendV2, if_neg (by simp [c1, c2])], f, hT⟩

theorem c_spark {G : ev_G} {b : Bk} {k : Nat} {h : ev_H} (hm : MB b k h) {T : Nat → Int32} (hT : MT T h) (hth : hI h aM 43 = -1) (p : Int32) : Called G mX4_spark 8 0 0 [vR aM, vI p] h (pI (fun y h1 => y = sparkV b T p ∧ Fr [aPile, aAll] [39, 40, 41] h h1 ∧ MT T h1)) := by
  have hl := hm.lay
  have hk2 := hm.k2
  have hb := hm.bw
  have hb1 := hb.p6
  have hb2 := hb.s5
  have hb3 := hb.t10
  have f : Fr [aPile, aAll] [39, 40, 41] h h := Fr.rf
  have hp2 := p2_6 hb1
  have ho2 : one (nP b) = nI (2 ^ nP b) := one_n (by omega)
  refine called_of rfl [some (vR aM), some (vI p), none, none, none] rfl (Nat.le_of_ble_eq_true rfl) ?_
  cases hsk : sakV b p with
  | false =>
    refine r_iconst (v := (-1)) dX4_spark_0 (by decide) ?_
    refine r_istore_n dX4_spark_1 (by decide) rfl ?_
    refine r_iconst (v := nI 0) dX4_spark_2 (by decide) ?_
    refine r_istore_n dX4_spark_3 (by decide) rfl ?_
    refine r_iload_n dX4_spark_4 rfl ?_
    refine r_iconst (v := nI 1) dX4_spark_5 (by decide) ?_
    refine r_aload_n dX4_spark_6 rfl ?_
    refine r_callVx lX4_358 (c_folk hm) (hl.1) rfl rfl rfl rfl dX4_spark_7 (Nat.le_refl _) (Nat.le_refl _) ?_
    refine r_ishl dX4_spark_10 ?_
    refine r_top (nI (2 ^ nP b)) (ho2) ?_
    refine r_icmpN_ge (tgt := 78) dX4_spark_11 rfl (by omega) (by omega) (fun c1 => ?_) (fun c1 => ?_)
    · --
      refine r_iload_n dX4_spark_78 rfl ?_
      exact r_reti dX4_spark_79 rfl rfl (Nat.le_refl _) (Nat.le_refl _) ⟨by rw [sparkV, if_neg (by rw [hsk]; decide)], f, hT⟩
    · --
      refine r_aload_n dX4_spark_14 rfl ?_
      refine r_iload_n dX4_spark_15 rfl ?_
      refine r_callVx lX4_425 (c_isSack hm _) (hl.1) rfl rfl rfl rfl dX4_spark_16 (Nat.le_refl _) (Nat.le_refl _) ?_
      refine r_ifB_eq (tgt := 78) dX4_spark_19 rfl (fun c2 => ?_) (fun c2 => ?_)
      · --
        refine r_iload_n dX4_spark_78 rfl ?_
        exact r_reti dX4_spark_79 rfl rfl (Nat.le_refl _) (Nat.le_refl _) ⟨by rw [sparkV, if_neg (by rw [hsk]; decide)], f, hT⟩
      · --
        exact absurd (c2.symm.trans hsk) (by decide)
  | true =>
    obtain ⟨j, hj, rfl⟩ := sakV_ok hb hsk
    refine r_iconst (v := (-1)) dX4_spark_0 (by decide) ?_
    refine r_istore_n dX4_spark_1 (by decide) rfl ?_
    refine r_iconst (v := nI 0) dX4_spark_2 (by decide) ?_
    refine r_istore_n dX4_spark_3 (by decide) rfl ?_
    refine (ev_for (P := fun i => ∀ hL : ev_H, (Fr [aPile, aAll] [39, 40, 41] h hL ∧ MT T hL) → Ev G mX4_spark (ev_room 8 0 0) (ev_MQ G (pI (fun y h1 => y = sparkV b T (nI j) ∧ Fr [aPile, aAll] [39, 40, 41] h h1 ∧ MT T h1)) 0 0) 4 [some (vR aM), some (vI (nI j)), some (vI (atI (leastOf i (sparkP b T j) (sparkF T)) (-1) (sparkF T))), some (vI (nI i)), none] [] hL 0 0) (2 ^ nP b) (fun i hki ihi hL qhL => ?_)) 0 (Nat.zero_le _) _ (⟨f, hT⟩)
    obtain ⟨fL, hTL⟩ := qhL
    have hmL := hm.fr fL rfl
    have hlL := hmL.lay
    refine r_iload_n dX4_spark_4 rfl ?_
    refine r_iconst (v := nI 1) dX4_spark_5 (by decide) ?_
    refine r_aload_n dX4_spark_6 rfl ?_
    refine r_callVx lX4_358 (c_folk hmL) (hlL.1) rfl rfl rfl rfl dX4_spark_7 (Nat.le_refl _) (Nat.le_refl _) ?_
    refine r_ishl dX4_spark_10 ?_
    refine r_top (nI (2 ^ nP b)) (ho2) ?_
    refine r_icmpN_ge (tgt := 78) dX4_spark_11 rfl (by omega) (by omega) (fun c3 => ?_) (fun c3 => ?_)
    · --
      refine r_iload_n dX4_spark_78 rfl ?_
      exact r_reti dX4_spark_79 rfl rfl (Nat.le_refl _) (Nat.le_refl _) ⟨by rw [sparkV, if_pos hsk, nI_clamp (by omega), show 2 ^ nP b = i by omega], fL, hTL⟩
    · --
      cases hbo : leastOf i (sparkP b T j) (sparkF T) with
      | none =>
        refine r_aload_n dX4_spark_14 rfl ?_
        refine r_iload_n dX4_spark_15 rfl ?_
        refine r_callVx lX4_425 (c_isSack hmL _) (hlL.1) rfl rfl rfl rfl dX4_spark_16 (Nat.le_refl _) (Nat.le_refl _) ?_
        refine r_ifB_eq (tgt := 78) dX4_spark_19 rfl (fun c4 => ?_) (fun c4 => ?_)
        · --
          exact absurd (c4.symm.trans hsk) (by decide)
        · --
          refine r_iload_n dX4_spark_22 rfl ?_
          refine r_aload_n dX4_spark_23 rfl ?_
          refine r_getRv fX4_88 (hlL.1) (v := aAll) ((l_all hlL).1) rfl dX4_spark_24 ?_
          refine r_iconst (v := nI 0) dX4_spark_27 (by decide) ?_
          refine r_ialdv ((l_all hlL).2.1) ((l_all hlL).2.2) (ix_n (by omega) (by decide)) (v := T (0)) (hTL _ (by omega)) dX4_spark_28 ?_
          refine r_iconst (v := (-1)) dX4_spark_29 (by decide) ?_
          refine r_ixor dX4_spark_30 ?_
          refine r_iand dX4_spark_31 ?_
          refine r_callSx lX4_339 (c_bitsOf _) rfl rfl rfl rfl dX4_spark_32 (Nat.le_refl _) (Nat.le_refl _) ?_
          refine r_istore dX4_spark_35 (by decide) rfl ?_
          refine r_aload_n dX4_spark_37 rfl ?_
          refine r_getRv fX4_88 (hlL.1) (v := aAll) ((l_all hlL).1) rfl dX4_spark_38 ?_
          refine r_iconst (v := nI 0) dX4_spark_41 (by decide) ?_
          refine r_ialdv ((l_all hlL).2.1) ((l_all hlL).2.2) (ix_n (by omega) (by decide)) (v := T (0)) (hTL _ (by omega)) dX4_spark_42 ?_
          refine r_iload_n dX4_spark_43 rfl ?_
          refine r_iconst (v := (-1)) dX4_spark_44 (by decide) ?_
          refine r_ixor dX4_spark_45 ?_
          refine r_iand dX4_spark_46 ?_
          refine r_if_ne (tgt := 72) dX4_spark_47 rfl (fun c5 => ?_) (fun c5 => ?_)
          · --
            refine r_iincN (n := 1) dX4_spark_72 rfl rfl (by decide) rfl ?_
            refine r_goto (tgt := 4) dX4_spark_75 rfl ?_
            refine r_sub [some (vR aM), some (vI (nI j)), some (vI (-1)), some (vI (nI (i + 1))), none] (And.intro rfl (And.intro rfl (And.intro rfl (And.intro rfl trivial)))) ?_
            exact r_L (by have h7 : leastOf (i + 1) (sparkP b T j) (sparkF T) = none := leastOf_n0 hbo (by unfold sparkP; rw [decide_eq_false c5]; rfl); rw [h7]; rfl) (ihi (by omega) _ (⟨fL, hTL⟩))
          · --
            refine r_iload_n dX4_spark_50 rfl ?_
            refine r_if_lt (tgt := 60) dX4_spark_51 rfl (fun c6 => ?_) (fun c6 => ?_)
            · --
              refine r_aload_n dX4_spark_60 rfl ?_
              refine r_iload_n dX4_spark_61 rfl ?_
              refine r_iload_n dX4_spark_62 rfl ?_
              refine r_callVi lX4_446 (c_wouldWith hmL hTL ((fL.fld 43 (by decide) (by decide)).trans hth) (nI i) (s := j) (by omega)) (hlL.1) rfl rfl rfl rfl dX4_spark_63 (Nat.le_refl _) (Nat.le_refl _) (fun y9 hZ1 q9 => ?_)
              obtain ⟨rfl, gZ1, hTZ1⟩ := q9
              have fZ1 := fL.tr (gZ1.wk (by simp) (by simp))
              have hmZ1 := hmL.fr gZ1 rfl
              have hlZ1 := hmZ1.lay
              refine r_if_eq (tgt := 72) dX4_spark_66 rfl (fun c7 => ?_) (fun c7 => ?_)
              · --
                refine r_iincN (n := 1) dX4_spark_72 rfl rfl (by decide) rfl ?_
                refine r_goto (tgt := 4) dX4_spark_75 rfl ?_
                refine r_sub [some (vR aM), some (vI (nI j)), some (vI (-1)), some (vI (nI (i + 1))), none] (And.intro rfl (And.intro rfl (And.intro rfl (And.intro rfl trivial)))) ?_
                exact r_L (by have h7 : leastOf (i + 1) (sparkP b T j) (sparkF T) = none := leastOf_n0 hbo (by unfold sparkP outW; rw [decide_eq_true c5, decide_eq_true c7]; rfl); rw [h7]; rfl) (ihi (by omega) _ (⟨fZ1, hTZ1⟩))
              · --
                refine r_iload dX4_spark_69 rfl ?_
                refine r_istore_n dX4_spark_71 (by decide) rfl ?_
                refine r_iincN (n := 1) dX4_spark_72 rfl rfl (by decide) rfl ?_
                refine r_goto (tgt := 4) dX4_spark_75 rfl ?_
                refine r_sub [some (vR aM), some (vI (nI j)), some (vI (popc ((nI i) &&& ((T (0)) ^^^ (-1))))), some (vI (nI (i + 1))), none] (And.intro rfl (And.intro rfl (And.intro rfl (And.intro rfl trivial)))) ?_
                exact r_L (by have h7 : leastOf (i + 1) (sparkP b T j) (sparkF T) = some i := leastOf_n1 hbo (by unfold sparkP outW; rw [decide_eq_true c5, decide_eq_false c7]; rfl); rw [h7]; rfl) (ihi (by omega) _ (⟨fZ1, hTZ1⟩))
            · --
              exact absurd (show ((-1) : Int32) < 0 by decide) c6
      | some jb =>
        refine r_aload_n dX4_spark_14 rfl ?_
        refine r_iload_n dX4_spark_15 rfl ?_
        refine r_callVx lX4_425 (c_isSack hmL _) (hlL.1) rfl rfl rfl rfl dX4_spark_16 (Nat.le_refl _) (Nat.le_refl _) ?_
        refine r_ifB_eq (tgt := 78) dX4_spark_19 rfl (fun c8 => ?_) (fun c8 => ?_)
        · --
          exact absurd (c8.symm.trans hsk) (by decide)
        · --
          refine r_iload_n dX4_spark_22 rfl ?_
          refine r_aload_n dX4_spark_23 rfl ?_
          refine r_getRv fX4_88 (hlL.1) (v := aAll) ((l_all hlL).1) rfl dX4_spark_24 ?_
          refine r_iconst (v := nI 0) dX4_spark_27 (by decide) ?_
          refine r_ialdv ((l_all hlL).2.1) ((l_all hlL).2.2) (ix_n (by omega) (by decide)) (v := T (0)) (hTL _ (by omega)) dX4_spark_28 ?_
          refine r_iconst (v := (-1)) dX4_spark_29 (by decide) ?_
          refine r_ixor dX4_spark_30 ?_
          refine r_iand dX4_spark_31 ?_
          refine r_callSx lX4_339 (c_bitsOf _) rfl rfl rfl rfl dX4_spark_32 (Nat.le_refl _) (Nat.le_refl _) ?_
          refine r_istore dX4_spark_35 (by decide) rfl ?_
          refine r_aload_n dX4_spark_37 rfl ?_
          refine r_getRv fX4_88 (hlL.1) (v := aAll) ((l_all hlL).1) rfl dX4_spark_38 ?_
          refine r_iconst (v := nI 0) dX4_spark_41 (by decide) ?_
          refine r_ialdv ((l_all hlL).2.1) ((l_all hlL).2.2) (ix_n (by omega) (by decide)) (v := T (0)) (hTL _ (by omega)) dX4_spark_42 ?_
          refine r_iload_n dX4_spark_43 rfl ?_
          refine r_iconst (v := (-1)) dX4_spark_44 (by decide) ?_
          refine r_ixor dX4_spark_45 ?_
          refine r_iand dX4_spark_46 ?_
          refine r_if_ne (tgt := 72) dX4_spark_47 rfl (fun c9 => ?_) (fun c9 => ?_)
          · --
            refine r_iincN (n := 1) dX4_spark_72 rfl rfl (by decide) rfl ?_
            refine r_goto (tgt := 4) dX4_spark_75 rfl ?_
            refine r_sub [some (vR aM), some (vI (nI j)), some (vI (popc (nI jb &&& (T 0 ^^^ (-1))))), some (vI (nI (i + 1))), none] (And.intro rfl (And.intro rfl (And.intro rfl (And.intro rfl trivial)))) ?_
            exact r_L (by have h7 : leastOf (i + 1) (sparkP b T j) (sparkF T) = some jb := leastOf_s0 hbo (Or.inl (by unfold sparkP; rw [decide_eq_false c9]; rfl)); rw [h7]; rfl) (ihi (by omega) _ (⟨fL, hTL⟩))
          · --
            refine r_iload_n dX4_spark_50 rfl ?_
            refine r_if_lt (tgt := 60) dX4_spark_51 rfl (fun c10 => ?_) (fun c10 => ?_)
            · --
              exact absurd c10 (popc_ge _)
            · --
              refine r_iload dX4_spark_54 rfl ?_
              refine r_iload_n dX4_spark_56 rfl ?_
              refine r_icmp_ge (tgt := 72) dX4_spark_57 rfl (fun c11 => ?_) (fun c11 => ?_)
              · --
                refine r_iincN (n := 1) dX4_spark_72 rfl rfl (by decide) rfl ?_
                refine r_goto (tgt := 4) dX4_spark_75 rfl ?_
                refine r_sub [some (vR aM), some (vI (nI j)), some (vI (popc (nI jb &&& (T 0 ^^^ (-1))))), some (vI (nI (i + 1))), none] (And.intro rfl (And.intro rfl (And.intro rfl (And.intro rfl trivial)))) ?_
                exact r_L (by have h7 : leastOf (i + 1) (sparkP b T j) (sparkF T) = some jb := leastOf_s0 hbo (Or.inr c11); rw [h7]; rfl) (ihi (by omega) _ (⟨fL, hTL⟩))
              · --
                refine r_aload_n dX4_spark_60 rfl ?_
                refine r_iload_n dX4_spark_61 rfl ?_
                refine r_iload_n dX4_spark_62 rfl ?_
                refine r_callVi lX4_446 (c_wouldWith hmL hTL ((fL.fld 43 (by decide) (by decide)).trans hth) (nI i) (s := j) (by omega)) (hlL.1) rfl rfl rfl rfl dX4_spark_63 (Nat.le_refl _) (Nat.le_refl _) (fun y9 hZ2 q9 => ?_)
                obtain ⟨rfl, gZ2, hTZ2⟩ := q9
                have fZ2 := fL.tr (gZ2.wk (by simp) (by simp))
                have hmZ2 := hmL.fr gZ2 rfl
                have hlZ2 := hmZ2.lay
                refine r_if_eq (tgt := 72) dX4_spark_66 rfl (fun c12 => ?_) (fun c12 => ?_)
                · --
                  refine r_iincN (n := 1) dX4_spark_72 rfl rfl (by decide) rfl ?_
                  refine r_goto (tgt := 4) dX4_spark_75 rfl ?_
                  refine r_sub [some (vR aM), some (vI (nI j)), some (vI (popc (nI jb &&& (T 0 ^^^ (-1))))), some (vI (nI (i + 1))), none] (And.intro rfl (And.intro rfl (And.intro rfl (And.intro rfl trivial)))) ?_
                  exact r_L (by have h7 : leastOf (i + 1) (sparkP b T j) (sparkF T) = some jb := leastOf_s0 hbo (Or.inl (by unfold sparkP outW; rw [decide_eq_true c9, decide_eq_true c12]; rfl)); rw [h7]; rfl) (ihi (by omega) _ (⟨fZ2, hTZ2⟩))
                · --
                  refine r_iload dX4_spark_69 rfl ?_
                  refine r_istore_n dX4_spark_71 (by decide) rfl ?_
                  refine r_iincN (n := 1) dX4_spark_72 rfl rfl (by decide) rfl ?_
                  refine r_goto (tgt := 4) dX4_spark_75 rfl ?_
                  refine r_sub [some (vR aM), some (vI (nI j)), some (vI (popc ((nI i) &&& ((T (0)) ^^^ (-1))))), some (vI (nI (i + 1))), none] (And.intro rfl (And.intro rfl (And.intro rfl (And.intro rfl trivial)))) ?_
                  exact r_L (by have h7 : leastOf (i + 1) (sparkP b T j) (sparkF T) = some i := leastOf_s1 hbo (by unfold sparkP outW; rw [decide_eq_true c9, decide_eq_false c12]; rfl) (Int32.not_le.mp c11); rw [h7]; rfl) (ihi (by omega) _ (⟨fZ2, hTZ2⟩))
