/-! ===== THE REFERENCE: feasts, exchanges, rounds (walks by program) ===== -/
set_option maxRecDepth 100000

theorem c_feast {G : ev_G} {b : Bk} {k : Nat} {h : ev_H} (hm : MB b k h) {T : Nat → Int32} (hT : MT T h) (hth : hI h aM 43 = -1) {R : Nat → Int32} (hR : Ar aLaidRow 6 R h) (p o : Int32) : Called G mX4_feast 9 0 0 [vR aM, vI p, vI o] h (pI (fun y h1 => y = (if fsOk b p o then nI (rfN (fsG b T p o) 4) else -1) ∧ Fr [aPile, aAll, aFeasts, aLaidRow] [39, 40, 41, 50] h h1 ∧ MT T h1 ∧ hI h1 aM 50 = (if fsOk b p o then nI (fsN (firstOf 4 (fsG b T p o))) else nI 0) ∧ Ar aLaidRow 6 (if fsOk b p o then fsR R (firstOf 4 (fsG b T p o)) else R) h1)) := by
  have hl := hm.lay
  have hk2 := hm.k2
  have hb := hm.bw
  have hb1 := hb.p6
  have hb2 := hb.s5
  have hb3 := hb.t10
  have f : Fr [aPile, aAll, aFeasts, aLaidRow] [39, 40, 41, 50] h h := Fr.rf
  refine called_of rfl [some (vR aM), some (vI p), some (vI o), none, none] rfl (Nat.le_of_ble_eq_true rfl) ?_
  refine r_aload_n dX4_feast_0 rfl ?_
  refine r_iconst (v := nI 0) dX4_feast_1 (by decide) ?_
  refine r_putN fX4_383 (hl.1) (by decide) dX4_feast_2 ?_
  have gZ1 : Fr [] [50] h (sI h aM 50 (nI 0)) := Fr.rf.sf 50 (nI 0) (by decide)
  have hTZ1 : MT T (sI h aM 50 (nI 0)) := hT.fr gZ1 (by decide)
  have hmZ1 : MB b k (sI h aM 50 (nI 0)) := hm.fr gZ1 rfl
  have fZ1 : Fr [aPile, aAll, aFeasts, aLaidRow] [39, 40, 41, 50] h (sI h aM 50 (nI 0)) := f.tr (gZ1.wk (by simp) (by simp))
  have e50Z1 : hI (sI h aM 50 (nI 0)) aM 50 = nI 0 := rfl
  generalize sI h aM 50 (nI 0) = hZ1 at gZ1 hTZ1 hmZ1 fZ1 e50Z1 ⊢
  have hlZ1 := hmZ1.lay
  refine r_aload_n dX4_feast_5 rfl ?_
  refine r_iload_n dX4_feast_6 rfl ?_
  refine r_callVx lX4_410 (c_isPerson hmZ1 _) (hlZ1.1) rfl rfl rfl rfl dX4_feast_7 (Nat.le_refl _) (Nat.le_refl _) ?_
  refine r_ifB_eq (tgt := 26) dX4_feast_10 rfl (fun c1 => ?_) (fun c1 => ?_)
  · --
    refine r_iconst (v := (-1)) dX4_feast_26 (by decide) ?_
    exact r_reti dX4_feast_27 rfl rfl (Nat.le_refl _) (Nat.le_refl _) ⟨if_n (by simp [fsOk, c1]) rfl, fZ1, hTZ1, if_n (by simp [fsOk, c1]) e50Z1, Ar.neg (by simp [fsOk, c1]) (hR.fr gZ1 (by decide) (by decide))⟩
  · --
    obtain ⟨j, hj, rfl⟩ := perV_ok hb c1
    refine r_aload_n dX4_feast_13 rfl ?_
    refine r_iload_n dX4_feast_14 rfl ?_
    refine r_callVx lX4_410 (c_isPerson hmZ1 _) (hlZ1.1) rfl rfl rfl rfl dX4_feast_15 (Nat.le_refl _) (Nat.le_refl _) ?_
    refine r_ifB_eq (tgt := 26) dX4_feast_18 rfl (fun c2 => ?_) (fun c2 => ?_)
    · --
      refine r_iconst (v := (-1)) dX4_feast_26 (by decide) ?_
      exact r_reti dX4_feast_27 rfl rfl (Nat.le_refl _) (Nat.le_refl _) ⟨if_n (by simp [fsOk, c1, c2]) rfl, fZ1, hTZ1, if_n (by simp [fsOk, c1, c2]) e50Z1, Ar.neg (by simp [fsOk, c1, c2]) (hR.fr gZ1 (by decide) (by decide))⟩
    · --
      obtain ⟨jo, hjo, rfl⟩ := perV_ok hb c2
      refine r_iload_n dX4_feast_21 rfl ?_
      refine r_iload_n dX4_feast_22 rfl ?_
      refine r_icmpN_ne (tgt := 28) dX4_feast_23 rfl (by omega) (by omega) (fun c3 => ?_) (fun c3 => ?_)
      · --
        have hne : ¬ nI j = nI jo := fun e => c3 ((nI_eq (by omega) (by omega)).mp e)
        refine r_iconst (v := nI 0) dX4_feast_28 (by decide) ?_
        refine r_istore_n dX4_feast_29 (by decide) rfl ?_
        refine (ev_for (P := fun i => ∀ hA : ev_H, (Fr [aPile, aAll, aFeasts, aLaidRow] [39, 40, 41, 50] h hA ∧ MT T hA ∧ hI hA aM 50 = nI 0 ∧ Ar aLaidRow 6 R hA ∧ MFS b T (nI j) (nI jo) i hA) → Ev G mX4_feast (ev_room 9 0 0) (ev_MQ G (pI (fun y h1 => y = (if fsOk b (nI j) (nI jo) then nI (rfN (fsG b T (nI j) (nI jo)) 4) else -1) ∧ Fr [aPile, aAll, aFeasts, aLaidRow] [39, 40, 41, 50] h h1 ∧ MT T h1 ∧ hI h1 aM 50 = (if fsOk b (nI j) (nI jo) then nI (fsN (firstOf 4 (fsG b T (nI j) (nI jo)))) else nI 0) ∧ Ar aLaidRow 6 (if fsOk b (nI j) (nI jo) then fsR R (firstOf 4 (fsG b T (nI j) (nI jo))) else R) h1)) 0 0) 30 [some (vR aM), some (vI (nI j)), some (vI (nI jo)), some (vI (nI i)), none] [] hA 0 0) 4 (fun i hki ihi hA qhA => ?_)) 0 (Nat.zero_le _) _ (⟨fZ1, hTZ1, e50Z1, hR.fr gZ1 (by decide) (by decide), fun v hv => absurd hv (by omega)⟩)
        obtain ⟨fA, hTA, e50A, hRA, hFA⟩ := qhA
        have hmA := hm.fr fA rfl
        have hlA := hmA.lay
        refine r_iload_n dX4_feast_30 rfl ?_
        refine r_iconst (v := nI 4) dX4_feast_31 (by decide) ?_
        refine r_icmpN_ge (tgt := 105) dX4_feast_32 rfl (by omega) (by omega) (fun c4 => ?_) (fun c4 => ?_)
        · --
          refine r_iconst (v := nI 0) dX4_feast_105 (by decide) ?_
          refine r_istore_n dX4_feast_106 (by decide) rfl ?_
          refine r_iconst (v := nI 0) dX4_feast_107 (by decide) ?_
          refine r_istore dX4_feast_108 (by decide) rfl ?_
          refine (ev_for (P := fun v => ∀ hB : ev_H, (Fr [aPile, aAll, aFeasts, aLaidRow] [39, 40, 41, 50] h hB ∧ MT T hB ∧ MFS b T (nI j) (nI jo) 4 hB ∧ hI hB aM 50 = nI (fsN (firstOf v (fsG b T (nI j) (nI jo)))) ∧ Ar aLaidRow 6 (fsR R (firstOf v (fsG b T (nI j) (nI jo)))) hB) → Ev G mX4_feast (ev_room 9 0 0) (ev_MQ G (pI (fun y h1 => y = (if fsOk b (nI j) (nI jo) then nI (rfN (fsG b T (nI j) (nI jo)) 4) else -1) ∧ Fr [aPile, aAll, aFeasts, aLaidRow] [39, 40, 41, 50] h h1 ∧ MT T h1 ∧ hI h1 aM 50 = (if fsOk b (nI j) (nI jo) then nI (fsN (firstOf 4 (fsG b T (nI j) (nI jo)))) else nI 0) ∧ Ar aLaidRow 6 (if fsOk b (nI j) (nI jo) then fsR R (firstOf 4 (fsG b T (nI j) (nI jo))) else R) h1)) 0 0) 110 [some (vR aM), some (vI (nI j)), some (vI (nI jo)), some (vI (nI (rfN (fsG b T (nI j) (nI jo)) v))), some (vI (nI v))] [] hB 0 0) 4 (fun v hkv ihv hB qhB => ?_)) 0 (Nat.zero_le _) _ (⟨fA, hTA, by rw [show i = 4 by omega] at hFA; exact hFA, e50A, hRA⟩)
          obtain ⟨fB, hTB, hFB, e50B, hRB⟩ := qhB
          have hmB := hm.fr fB rfl
          have hlB := hmB.lay
          have hrf := rfN_le (fsG b T (nI j) (nI jo)) v
          refine r_iload dX4_feast_110 rfl ?_
          refine r_iconst (v := nI 4) dX4_feast_112 (by decide) ?_
          refine r_icmpN_ge (tgt := 199) dX4_feast_113 rfl (by omega) (by omega) (fun c5 => ?_) (fun c5 => ?_)
          · --
            refine r_iload_n dX4_feast_199 rfl ?_
            exact r_reti dX4_feast_200 rfl rfl (Nat.le_refl _) (Nat.le_refl _) ⟨if_p (by simp [fsOk, c1, c2, hne]) (by rw [← show v = 4 by omega]), fB, hTB, if_p (by simp [fsOk, c1, c2, hne]) (by rw [← show v = 4 by omega]; exact e50B), Ar.pos (by simp [fsOk, c1, c2, hne]) (by rw [← show v = 4 by omega]; exact hRB)⟩
          · --
            have hx2 := xor_4 (v := v) (c := 2) (by omega) (by decide)
            have hx1 := xor_4 (v := v) (c := 1) (by omega) (by decide)
            refine r_aload_n dX4_feast_116 rfl ?_
            refine r_getRv fX4_103 (hlB.1) (v := aFeasts) ((l_feasts hlB).1) rfl dX4_feast_117 ?_
            refine r_iload dX4_feast_120 rfl ?_
            refine r_iconst (v := nI 2) dX4_feast_122 (by decide) ?_
            refine r_ixor dX4_feast_123 ?_
            refine r_top (nI (v ^^^ 2)) (nx_xor _ _) ?_
            refine r_ialdv ((l_feasts hlB).2.1) ((l_feasts hlB).2.2) (ix_n (by omega) (by decide)) (v := fsF b T (nI j) (nI jo) (nI j) (v ^^^ 2)) ((hFB _ (by omega)).1) dX4_feast_124 ?_
            refine r_aload_n dX4_feast_125 rfl ?_
            refine r_getRv fX4_103 (hlB.1) (v := aFeasts) ((l_feasts hlB).1) rfl dX4_feast_126 ?_
            refine r_iload dX4_feast_129 rfl ?_
            refine r_ialdv ((l_feasts hlB).2.1) ((l_feasts hlB).2.2) (ix_n (by omega) (by decide)) (v := fsF b T (nI j) (nI jo) (nI j) (v)) ((hFB _ (by omega)).1) dX4_feast_131 ?_
            refine r_icmp_gt (tgt := 193) dX4_feast_132 rfl (fun c6 => ?_) (fun c6 => ?_)
            · --
              refine r_iincN (n := 1) dX4_feast_193 rfl rfl (by decide) rfl ?_
              refine r_goto (tgt := 110) dX4_feast_196 rfl ?_
              exact r_L (by rw [← rfN_f (by simp [fsG, c6])] <;> rfl) (ihv (by omega) _ (⟨fB, hTB, hFB, by rw [first_skip (by simp [fsG, c6])]; exact e50B, by rw [first_skip (by simp [fsG, c6])]; exact hRB⟩))
            · --
              refine r_aload_n dX4_feast_135 rfl ?_
              refine r_getRv fX4_103 (hlB.1) (v := aFeasts) ((l_feasts hlB).1) rfl dX4_feast_136 ?_
              refine r_iconst (v := nI 4) dX4_feast_139 (by decide) ?_
              refine r_iload dX4_feast_140 rfl ?_
              refine r_iconst (v := nI 1) dX4_feast_142 (by decide) ?_
              refine r_ixor dX4_feast_143 ?_
              refine r_top (nI (v ^^^ 1)) (nx_xor _ _) ?_
              refine r_iadd dX4_feast_144 ?_
              refine r_top (nI (4 + (v ^^^ 1))) (nI_add _ _) ?_
              refine r_ialdv ((l_feasts hlB).2.1) ((l_feasts hlB).2.2) (ix_n (by omega) (by decide)) (v := fsF b T (nI j) (nI jo) (nI jo) ((v ^^^ 1))) ((hFB _ (by omega)).2) dX4_feast_145 ?_
              refine r_aload_n dX4_feast_146 rfl ?_
              refine r_getRv fX4_103 (hlB.1) (v := aFeasts) ((l_feasts hlB).1) rfl dX4_feast_147 ?_
              refine r_iconst (v := nI 4) dX4_feast_150 (by decide) ?_
              refine r_iload dX4_feast_151 rfl ?_
              refine r_iadd dX4_feast_153 ?_
              refine r_top (nI (4 + v)) (nI_add _ _) ?_
              refine r_ialdv ((l_feasts hlB).2.1) ((l_feasts hlB).2.2) (ix_n (by omega) (by decide)) (v := fsF b T (nI j) (nI jo) (nI jo) (v)) ((hFB _ (by omega)).2) dX4_feast_154 ?_
              refine r_icmp_le (tgt := 161) dX4_feast_155 rfl (fun c7 => ?_) (fun c7 => ?_)
              · --
                refine r_iload_n dX4_feast_161 rfl ?_
                refine r_if_ne (tgt := 190) dX4_feast_162 rfl (fun c8 => ?_) (fun c8 => ?_)
                · --
                  refine r_iincN (n := 1) dX4_feast_190 rfl rfl (by decide) rfl ?_
                  refine r_iincN (n := 1) dX4_feast_193 rfl rfl (by decide) rfl ?_
                  refine r_goto (tgt := 110) dX4_feast_196 rfl ?_
                  exact r_L (by rw [← rfN_t (by simp [fsG, c6, c7])] <;> rfl) (ihv (by omega) _ (⟨fB, hTB, hFB, by rw [first_same (fun e => c8 (by rw [e]; rfl))]; exact e50B, by rw [first_same (fun e => c8 (by rw [e]; rfl))]; exact hRB⟩))
                · --
                  have hno : firstOf v (fsG b T (nI j) (nI jo)) = none := rf_none (nI_z (by omega) c8)
                  refine r_aload_n dX4_feast_165 rfl ?_
                  refine r_getRv fX4_100 (hlB.1) (v := aLaidRow) ((l_laidRow hlB).1) rfl dX4_feast_166 ?_
                  refine r_iconst (v := nI 0) dX4_feast_169 (by decide) ?_
                  refine r_iload dX4_feast_170 rfl ?_
                  refine r_iconst (v := nI 2) dX4_feast_172 (by decide) ?_
                  refine r_idiv dX4_feast_173 (nI_ne0 (by omega) (by omega)) ?_
                  refine r_top (nI (v / 2)) (pk_div (by omega) (by omega) (by omega)) ?_
                  refine r_iastv ((l_laidRow hlB).2.1) (by decide) ((l_laidRow hlB).2.2) (ix_n (by omega) (by decide)) dX4_feast_174 ?_
                  have gZ2 : Fr [aLaidRow] [] hB (sI hB aLaidRow 0 (nI (v / 2))) := Fr.rf.sa aLaidRow 0 (nI (v / 2)) (by decide)
                  have hTZ2 : MT T (sI hB aLaidRow 0 (nI (v / 2))) := hTB.fr gZ2 (by decide)
                  have hmZ2 : MB b k (sI hB aLaidRow 0 (nI (v / 2))) := hmB.fr gZ2 rfl
                  have fZ2 : Fr [aPile, aAll, aFeasts, aLaidRow] [39, 40, 41, 50] h (sI hB aLaidRow 0 (nI (v / 2))) := fB.tr (gZ2.wk (by simp) (by simp))
                  have hR1 : Ar aLaidRow 6 (u1 R 0 (nI (v / 2))) (sI hB aLaidRow 0 (nI (v / 2))) := Ar.up (by rw [hno] at hRB; exact hRB) _ _
                  generalize sI hB aLaidRow 0 (nI (v / 2)) = hZ2 at gZ2 hTZ2 hmZ2 fZ2 hR1 ⊢
                  have hlZ2 := hmZ2.lay
                  refine r_aload_n dX4_feast_175 rfl ?_
                  refine r_getRv fX4_100 (hlZ2.1) (v := aLaidRow) ((l_laidRow hlZ2).1) rfl dX4_feast_176 ?_
                  refine r_iconst (v := nI 1) dX4_feast_179 (by decide) ?_
                  refine r_iload dX4_feast_180 rfl ?_
                  refine r_iconst (v := nI 2) dX4_feast_182 (by decide) ?_
                  refine r_irem dX4_feast_183 (nI_ne0 (by omega) (by omega)) ?_
                  refine r_top (nI (v % 2)) (pk_rem (by omega) (by omega) (by omega)) ?_
                  refine r_iastv ((l_laidRow hlZ2).2.1) (by decide) ((l_laidRow hlZ2).2.2) (ix_n (by omega) (by decide)) dX4_feast_184 ?_
                  have gZ3 : Fr [aLaidRow] [] hZ2 (sI hZ2 aLaidRow 1 (nI (v % 2))) := Fr.rf.sa aLaidRow 1 (nI (v % 2)) (by decide)
                  have hTZ3 : MT T (sI hZ2 aLaidRow 1 (nI (v % 2))) := hTZ2.fr gZ3 (by decide)
                  have hmZ3 : MB b k (sI hZ2 aLaidRow 1 (nI (v % 2))) := hmZ2.fr gZ3 rfl
                  have fZ3 : Fr [aPile, aAll, aFeasts, aLaidRow] [39, 40, 41, 50] h (sI hZ2 aLaidRow 1 (nI (v % 2))) := fZ2.tr (gZ3.wk (by simp) (by simp))
                  have hR2 : Ar aLaidRow 6 (u1 (u1 R 0 (nI (v / 2))) 1 (nI (v % 2))) (sI hZ2 aLaidRow 1 (nI (v % 2))) := hR1.up _ _
                  generalize sI hZ2 aLaidRow 1 (nI (v % 2)) = hZ3 at gZ3 hTZ3 hmZ3 fZ3 hR2 ⊢
                  have hlZ3 := hmZ3.lay
                  refine r_aload_n dX4_feast_185 rfl ?_
                  refine r_iconst (v := nI 2) dX4_feast_186 (by decide) ?_
                  refine r_putN fX4_383 (hlZ3.1) (by decide) dX4_feast_187 ?_
                  have gZ4 : Fr [] [50] hZ3 (sI hZ3 aM 50 (nI 2)) := Fr.rf.sf 50 (nI 2) (by decide)
                  have hTZ4 : MT T (sI hZ3 aM 50 (nI 2)) := hTZ3.fr gZ4 (by decide)
                  have hmZ4 : MB b k (sI hZ3 aM 50 (nI 2)) := hmZ3.fr gZ4 rfl
                  have fZ4 : Fr [aPile, aAll, aFeasts, aLaidRow] [39, 40, 41, 50] h (sI hZ3 aM 50 (nI 2)) := fZ3.tr (gZ4.wk (by simp) (by simp))
                  have e50N : hI (sI hZ3 aM 50 (nI 2)) aM 50 = nI 2 := rfl
                  have hR3 : Ar aLaidRow 6 (u1 (u1 R 0 (nI (v / 2))) 1 (nI (v % 2))) (sI hZ3 aM 50 (nI 2)) := hR2.fr gZ4 (by decide) (by decide)
                  generalize sI hZ3 aM 50 (nI 2) = hZ4 at gZ4 hTZ4 hmZ4 fZ4 e50N hR3 ⊢
                  have hlZ4 := hmZ4.lay
                  refine r_iincN (n := 1) dX4_feast_190 rfl rfl (by decide) rfl ?_
                  refine r_iincN (n := 1) dX4_feast_193 rfl rfl (by decide) rfl ?_
                  refine r_goto (tgt := 110) dX4_feast_196 rfl ?_
                  exact r_L (by rw [← rfN_t (by simp [fsG, c6, c7])] <;> rfl) (ihv (by omega) _ (⟨fZ4, hTZ4, (((hFB.fr gZ2 (by decide)).fr gZ3 (by decide)).fr gZ4 (by decide)), by rw [first_1 hno (by simp [fsG, c6, c7])]; exact e50N, by rw [first_1 hno (by simp [fsG, c6, c7])]; exact hR3⟩))
              · --
                refine r_goto (tgt := 193) dX4_feast_158 rfl ?_
                refine r_iincN (n := 1) dX4_feast_193 rfl rfl (by decide) rfl ?_
                refine r_goto (tgt := 110) dX4_feast_196 rfl ?_
                exact r_L (by rw [← rfN_f (by simp [fsG, c6, c7])] <;> rfl) (ihv (by omega) _ (⟨fB, hTB, hFB, by rw [first_skip (by simp [fsG, c6, c7])]; exact e50B, by rw [first_skip (by simp [fsG, c6, c7])]; exact hRB⟩))
        · --
          refine r_aload_n dX4_feast_35 rfl ?_
          refine r_aload_n dX4_feast_36 rfl ?_
          refine r_getRv fX4_88 (hlA.1) (v := aAll) ((l_all hlA).1) rfl dX4_feast_37 ?_
          refine r_iconst (v := nI 0) dX4_feast_40 (by decide) ?_
          refine r_ialdv ((l_all hlA).2.1) ((l_all hlA).2.2) (ix_n (by omega) (by decide)) (v := T (0)) (hTA _ (by omega)) dX4_feast_41 ?_
          refine r_iconst (v := nI 1) dX4_feast_42 (by decide) ?_
          refine r_iload_n dX4_feast_43 rfl ?_
          refine r_ishl dX4_feast_44 ?_
          refine r_iconst (v := (-1)) dX4_feast_45 (by decide) ?_
          refine r_ixor dX4_feast_46 ?_
          refine r_iand dX4_feast_47 ?_
          refine r_iconst (v := nI 1) dX4_feast_48 (by decide) ?_
          refine r_iload_n dX4_feast_49 rfl ?_
          refine r_ishl dX4_feast_50 ?_
          refine r_iconst (v := (-1)) dX4_feast_51 (by decide) ?_
          refine r_ixor dX4_feast_52 ?_
          refine r_iand dX4_feast_53 ?_
          refine r_iload_n dX4_feast_54 rfl ?_
          refine r_iconst (v := nI 2) dX4_feast_55 (by decide) ?_
          refine r_idiv dX4_feast_56 (nI_ne0 (by omega) (by omega)) ?_
          refine r_top (nI (i / 2)) (pk_div (by omega) (by omega) (by omega)) ?_
          refine r_iload_n dX4_feast_57 rfl ?_
          refine r_ishl dX4_feast_58 ?_
          refine r_ior dX4_feast_59 ?_
          refine r_iload_n dX4_feast_60 rfl ?_
          refine r_iconst (v := nI 2) dX4_feast_61 (by decide) ?_
          refine r_irem dX4_feast_62 (nI_ne0 (by omega) (by omega)) ?_
          refine r_top (nI (i % 2)) (pk_rem (by omega) (by omega) (by omega)) ?_
          refine r_iload_n dX4_feast_63 rfl ?_
          refine r_ishl dX4_feast_64 ?_
          refine r_ior dX4_feast_65 ?_
          refine r_callVi lX4_449 (c_saidWith hmA hTA ((fA.fld 43 (by decide) (by decide)).trans hth) (((((T (0)) &&& ((one j) ^^^ (-1))) &&& ((one jo) ^^^ (-1))) ||| ((nI (i / 2)) <<< ((nI j) &&& 31))) ||| ((nI (i % 2)) <<< ((nI jo) &&& 31)))) (hlA.1) rfl rfl rfl rfl dX4_feast_66 (Nat.le_refl _) (Nat.le_refl _) (fun y9 hZ5 q9 => ?_)
          obtain ⟨rfl, gZ5, hTZ5⟩ := q9
          have fZ5 := fA.tr (gZ5.wk (by simp) (by simp))
          have hmZ5 := hmA.fr gZ5 rfl
          have hlZ5 := hmZ5.lay
          refine r_istore dX4_feast_69 (by decide) rfl ?_
          refine r_aload_n dX4_feast_71 rfl ?_
          refine r_getRv fX4_103 (hlZ5.1) (v := aFeasts) ((l_feasts hlZ5).1) rfl dX4_feast_72 ?_
          refine r_iload_n dX4_feast_75 rfl ?_
          refine r_aload_n dX4_feast_76 rfl ?_
          refine r_iload_n dX4_feast_77 rfl ?_
          refine r_iload dX4_feast_78 rfl ?_
          refine r_callVx lX4_452 (c_worthTo hmZ5 _ _) (hlZ5.1) rfl rfl rfl rfl dX4_feast_80 (Nat.le_refl _) (Nat.le_refl _) ?_
          refine r_iastv ((l_feasts hlZ5).2.1) (by decide) ((l_feasts hlZ5).2.2) (ix_n (by omega) (by decide)) dX4_feast_83 ?_
          have gZ6 : Fr [aFeasts] [] hZ5 (sI hZ5 aFeasts i (worthV b (nI j) (saidV b (u1 T 0 (((((T (0)) &&& ((one j) ^^^ (-1))) &&& ((one jo) ^^^ (-1))) ||| ((nI (i / 2)) <<< ((nI j) &&& 31))) ||| ((nI (i % 2)) <<< ((nI jo) &&& 31)))) (allV (nS b))))) := Fr.rf.sa aFeasts i (worthV b (nI j) (saidV b (u1 T 0 (((((T (0)) &&& ((one j) ^^^ (-1))) &&& ((one jo) ^^^ (-1))) ||| ((nI (i / 2)) <<< ((nI j) &&& 31))) ||| ((nI (i % 2)) <<< ((nI jo) &&& 31)))) (allV (nS b)))) (by decide)
          have hTZ6 : MT T (sI hZ5 aFeasts i (worthV b (nI j) (saidV b (u1 T 0 (((((T (0)) &&& ((one j) ^^^ (-1))) &&& ((one jo) ^^^ (-1))) ||| ((nI (i / 2)) <<< ((nI j) &&& 31))) ||| ((nI (i % 2)) <<< ((nI jo) &&& 31)))) (allV (nS b))))) := hTZ5.fr gZ6 (by decide)
          have hmZ6 : MB b k (sI hZ5 aFeasts i (worthV b (nI j) (saidV b (u1 T 0 (((((T (0)) &&& ((one j) ^^^ (-1))) &&& ((one jo) ^^^ (-1))) ||| ((nI (i / 2)) <<< ((nI j) &&& 31))) ||| ((nI (i % 2)) <<< ((nI jo) &&& 31)))) (allV (nS b))))) := hmZ5.fr gZ6 rfl
          have fZ6 : Fr [aPile, aAll, aFeasts, aLaidRow] [39, 40, 41, 50] h (sI hZ5 aFeasts i (worthV b (nI j) (saidV b (u1 T 0 (((((T (0)) &&& ((one j) ^^^ (-1))) &&& ((one jo) ^^^ (-1))) ||| ((nI (i / 2)) <<< ((nI j) &&& 31))) ||| ((nI (i % 2)) <<< ((nI jo) &&& 31)))) (allV (nS b))))) := fZ5.tr (gZ6.wk (by simp) (by simp))
          have hF1 : MFS b T (nI j) (nI jo) i (sI hZ5 aFeasts i (worthV b (nI j) (saidV b (u1 T 0 (((((T (0)) &&& ((one j) ^^^ (-1))) &&& ((one jo) ^^^ (-1))) ||| ((nI (i / 2)) <<< ((nI j) &&& 31))) ||| ((nI (i % 2)) <<< ((nI jo) &&& 31)))) (allV (nS b))))) ∧ hI (sI hZ5 aFeasts i (worthV b (nI j) (saidV b (u1 T 0 (((((T (0)) &&& ((one j) ^^^ (-1))) &&& ((one jo) ^^^ (-1))) ||| ((nI (i / 2)) <<< ((nI j) &&& 31))) ||| ((nI (i % 2)) <<< ((nI jo) &&& 31)))) (allV (nS b))))) aFeasts i = worthV b (nI j) (saidV b (u1 T 0 (((((T (0)) &&& ((one j) ^^^ (-1))) &&& ((one jo) ^^^ (-1))) ||| ((nI (i / 2)) <<< ((nI j) &&& 31))) ||| ((nI (i % 2)) <<< ((nI jo) &&& 31)))) (allV (nS b))) := MFS.s1 (hFA.fr gZ5 (by decide)) (by omega)
          generalize sI hZ5 aFeasts i (worthV b (nI j) (saidV b (u1 T 0 (((((T (0)) &&& ((one j) ^^^ (-1))) &&& ((one jo) ^^^ (-1))) ||| ((nI (i / 2)) <<< ((nI j) &&& 31))) ||| ((nI (i % 2)) <<< ((nI jo) &&& 31)))) (allV (nS b)))) = hZ6 at gZ6 hTZ6 hmZ6 fZ6 hF1 ⊢
          have hlZ6 := hmZ6.lay
          refine r_aload_n dX4_feast_84 rfl ?_
          refine r_getRv fX4_103 (hlZ6.1) (v := aFeasts) ((l_feasts hlZ6).1) rfl dX4_feast_85 ?_
          refine r_iconst (v := nI 4) dX4_feast_88 (by decide) ?_
          refine r_iload_n dX4_feast_89 rfl ?_
          refine r_iadd dX4_feast_90 ?_
          refine r_top (nI (4 + i)) (nI_add _ _) ?_
          refine r_aload_n dX4_feast_91 rfl ?_
          refine r_iload_n dX4_feast_92 rfl ?_
          refine r_iload dX4_feast_93 rfl ?_
          refine r_callVx lX4_452 (c_worthTo hmZ6 _ _) (hlZ6.1) rfl rfl rfl rfl dX4_feast_95 (Nat.le_refl _) (Nat.le_refl _) ?_
          refine r_iastv ((l_feasts hlZ6).2.1) (by decide) ((l_feasts hlZ6).2.2) (ix_n (by omega) (by decide)) dX4_feast_98 ?_
          have gZ7 : Fr [aFeasts] [] hZ6 (sI hZ6 aFeasts (4 + i) (worthV b (nI jo) (saidV b (u1 T 0 (((((T (0)) &&& ((one j) ^^^ (-1))) &&& ((one jo) ^^^ (-1))) ||| ((nI (i / 2)) <<< ((nI j) &&& 31))) ||| ((nI (i % 2)) <<< ((nI jo) &&& 31)))) (allV (nS b))))) := Fr.rf.sa aFeasts (4 + i) (worthV b (nI jo) (saidV b (u1 T 0 (((((T (0)) &&& ((one j) ^^^ (-1))) &&& ((one jo) ^^^ (-1))) ||| ((nI (i / 2)) <<< ((nI j) &&& 31))) ||| ((nI (i % 2)) <<< ((nI jo) &&& 31)))) (allV (nS b)))) (by decide)
          have hTZ7 : MT T (sI hZ6 aFeasts (4 + i) (worthV b (nI jo) (saidV b (u1 T 0 (((((T (0)) &&& ((one j) ^^^ (-1))) &&& ((one jo) ^^^ (-1))) ||| ((nI (i / 2)) <<< ((nI j) &&& 31))) ||| ((nI (i % 2)) <<< ((nI jo) &&& 31)))) (allV (nS b))))) := hTZ6.fr gZ7 (by decide)
          have hmZ7 : MB b k (sI hZ6 aFeasts (4 + i) (worthV b (nI jo) (saidV b (u1 T 0 (((((T (0)) &&& ((one j) ^^^ (-1))) &&& ((one jo) ^^^ (-1))) ||| ((nI (i / 2)) <<< ((nI j) &&& 31))) ||| ((nI (i % 2)) <<< ((nI jo) &&& 31)))) (allV (nS b))))) := hmZ6.fr gZ7 rfl
          have fZ7 : Fr [aPile, aAll, aFeasts, aLaidRow] [39, 40, 41, 50] h (sI hZ6 aFeasts (4 + i) (worthV b (nI jo) (saidV b (u1 T 0 (((((T (0)) &&& ((one j) ^^^ (-1))) &&& ((one jo) ^^^ (-1))) ||| ((nI (i / 2)) <<< ((nI j) &&& 31))) ||| ((nI (i % 2)) <<< ((nI jo) &&& 31)))) (allV (nS b))))) := fZ6.tr (gZ7.wk (by simp) (by simp))
          have hFN : MFS b T (nI j) (nI jo) (i + 1) (sI hZ6 aFeasts (4 + i) (worthV b (nI jo) (saidV b (u1 T 0 (((((T (0)) &&& ((one j) ^^^ (-1))) &&& ((one jo) ^^^ (-1))) ||| ((nI (i / 2)) <<< ((nI j) &&& 31))) ||| ((nI (i % 2)) <<< ((nI jo) &&& 31)))) (allV (nS b))))) := MFS.s2 hF1.1 (by omega) hF1.2 rfl
          generalize sI hZ6 aFeasts (4 + i) (worthV b (nI jo) (saidV b (u1 T 0 (((((T (0)) &&& ((one j) ^^^ (-1))) &&& ((one jo) ^^^ (-1))) ||| ((nI (i / 2)) <<< ((nI j) &&& 31))) ||| ((nI (i % 2)) <<< ((nI jo) &&& 31)))) (allV (nS b)))) = hZ7 at gZ7 hTZ7 hmZ7 fZ7 hFN ⊢
          have hlZ7 := hmZ7.lay
          refine r_iincN (n := 1) dX4_feast_99 rfl rfl (by decide) rfl ?_
          refine r_goto (tgt := 30) dX4_feast_102 rfl ?_
          refine r_sub [some (vR aM), some (vI (nI j)), some (vI (nI jo)), some (vI (nI (i + 1))), none] (And.intro rfl (And.intro rfl (And.intro rfl (And.intro rfl trivial)))) ?_
          exact ihi (by omega) _ (⟨fZ7, hTZ7, ((gZ7.fld 50 (by decide) (by decide)).trans ((gZ6.fld 50 (by decide) (by decide)).trans ((gZ5.fld 50 (by decide) (by decide)).trans e50A))), (((hRA.fr gZ5 (by decide) (by decide)).fr gZ6 (by decide) (by decide)).fr gZ7 (by decide) (by decide)), hFN⟩)
      · --
        refine r_iconst (v := (-1)) dX4_feast_26 (by decide) ?_
        exact r_reti dX4_feast_27 rfl rfl (Nat.le_refl _) (Nat.le_refl _) ⟨if_n (by rw [c3]; simp [fsOk]) rfl, fZ1, hTZ1, if_n (by rw [c3]; simp [fsOk]) e50Z1, Ar.neg (by rw [c3]; simp [fsOk]) (hR.fr gZ1 (by decide) (by decide))⟩

theorem c_exchange {G : ev_G} {b : Bk} {k : Nat} {h : ev_H} (hm : MB b k h) {T : Nat → Int32} (hT : MT T h) (hth : hI h aM 43 = -1) (wh : Int32) : Called G mX4_exchange 8 0 0 [vR aM, vI wh] h (pI (fun y h1 => y = exV b T wh ∧ Fr [aPile, aAll, aKept] [39, 40, 41] h h1 ∧ MT T h1)) := by
  have hl := hm.lay
  have hk2 := hm.k2
  have hb := hm.bw
  have hb1 := hb.p6
  have hb2 := hb.s5
  have hb3 := hb.t10
  have f : Fr [aPile, aAll, aKept] [39, 40, 41] h h := Fr.rf
  have h100 : nT b * nT b ≤ 10 * 10 := Nat.mul_le_mul hb3 hb3
  refine called_of rfl [some (vR aM), some (vI wh), none, none, none, none, none, none] rfl (Nat.le_of_ble_eq_true rfl) ?_
  refine r_iload_n dX4_exchange_0 rfl ?_
  refine r_iconst (v := 0) dX4_exchange_1 (by decide) ?_
  refine r_iconst (v := nI 2) dX4_exchange_2 (by decide) ?_
  refine r_callSx lX4_361 (c_isIn _ _ _) rfl rfl rfl rfl dX4_exchange_3 (Nat.le_refl _) (Nat.le_refl _) ?_
  refine r_ifB_ne (tgt := 11) dX4_exchange_6 rfl (fun c1 => ?_) (fun c1 => ?_)
  · --
    refine r_iconst (v := (-1)) dX4_exchange_11 (by decide) ?_
    refine r_istore_n dX4_exchange_12 (by decide) rfl ?_
    refine r_aload_n dX4_exchange_13 rfl ?_
    refine r_aload_n dX4_exchange_14 rfl ?_
    refine r_callVx lX4_428 (c_allSacks hm) (hl.1) rfl rfl rfl rfl dX4_exchange_15 (Nat.le_refl _) (Nat.le_refl _) ?_
    refine r_callVi lX4_431 (c_saidBy hm hT hth (allV (nS b))) (hl.1) rfl rfl rfl rfl dX4_exchange_18 (Nat.le_refl _) (Nat.le_refl _) (fun y9 hZ1 q9 => ?_)
    obtain ⟨rfl, gZ1⟩ := q9
    have fZ1 := f.tr (gZ1.wk (by simp) (by simp))
    have hmZ1 := hm.fr gZ1 rfl
    have hTZ1 := hT.fr gZ1 (by decide)
    have hlZ1 := hmZ1.lay
    refine r_callSx lX4_339 (c_bitsOf _) rfl rfl rfl rfl dX4_exchange_21 (Nat.le_refl _) (Nat.le_refl _) ?_
    refine r_istore_n dX4_exchange_24 (by decide) rfl ?_
    refine r_iconst (v := nI 0) dX4_exchange_25 (by decide) ?_
    refine r_istore dX4_exchange_26 (by decide) rfl ?_
    refine (ev_for (P := fun v => ∀ hL : ev_H, (Fr [aPile, aAll, aKept] [39, 40, 41] h hL ∧ MT T hL) → Ev G mX4_exchange (ev_room 8 0 0) (ev_MQ G (pI (fun y h1 => y = exV b T wh ∧ Fr [aPile, aAll, aKept] [39, 40, 41] h h1 ∧ MT T h1)) 0 0) 28 [some (vR aM), some (vI wh), some (vI (optI ((exS b T v).1))), some (vI ((exS b T v).2)), some (vI (nI v)), none, none, none] [] hL 0 0) (nT b * nT b) (fun v hkv ihv hL qhL => ?_)) 0 (Nat.zero_le _) _ (⟨fZ1, hTZ1⟩)
    obtain ⟨fL, hTL⟩ := qhL
    have hmL := hm.fr fL rfl
    have hlL := hmL.lay
    have hd1 : v / nT b ≤ v := Nat.div_le_self _ _
    have hd2 : v % nT b ≤ v := Nat.mod_le _ _
    refine r_iload dX4_exchange_28 rfl ?_
    refine r_aload_n dX4_exchange_30 rfl ?_
    refine r_callVx lX4_368 (c_many hmL) (hlL.1) rfl rfl rfl rfl dX4_exchange_31 (Nat.le_refl _) (Nat.le_refl _) ?_
    refine r_aload_n dX4_exchange_34 rfl ?_
    refine r_callVx lX4_368 (c_many hmL) (hlL.1) rfl rfl rfl rfl dX4_exchange_35 (Nat.le_refl _) (Nat.le_refl _) ?_
    refine r_imul dX4_exchange_38 ?_
    refine r_top (nI ((nT b) * (nT b))) (pk_mul _ _) ?_
    refine r_icmpN_ge (tgt := 159) dX4_exchange_39 rfl (by omega) (by omega) (fun c2 => ?_) (fun c2 => ?_)
    · --
      have hv9 : v = nT b * nT b := by omega
      subst hv9
      cases hbo : (exS b T (nT b * nT b)).1 with
      | none =>
        refine r_iload_n dX4_exchange_159 rfl ?_
        refine r_if_ge (tgt := 167) dX4_exchange_160 rfl (fun c3 => ?_) (fun c3 => ?_)
        · --
          exact absurd c3 (show ¬ (0 : Int32) ≤ (-1) by decide)
        · --
          refine r_iconst (v := (-1)) dX4_exchange_163 (by decide) ?_
          refine r_goto (tgt := 195) dX4_exchange_164 rfl ?_
          exact r_reti dX4_exchange_195 rfl rfl (Nat.le_refl _) (Nat.le_refl _) ⟨by rw [exV, if_pos c1, hbo], fL, hTL⟩
      | some jb =>
        have hjb := exS_lt hbo
        have hn0 : 0 < nT b := Nat.pos_of_ne_zero (fun e => by rw [e] at hjb; omega)
        refine r_iload_n dX4_exchange_159 rfl ?_
        refine r_if_ge (tgt := 167) dX4_exchange_160 rfl (fun c4 => ?_) (fun c4 => ?_)
        · --
          refine r_iload_n dX4_exchange_167 rfl ?_
          refine r_if_ne (tgt := 180) dX4_exchange_168 rfl (fun c5 => ?_) (fun c5 => ?_)
          · --
            refine r_iload_n dX4_exchange_180 rfl ?_
            refine r_iconst (v := nI 1) dX4_exchange_181 (by decide) ?_
            refine r_icmp_ne (tgt := 194) dX4_exchange_182 rfl (fun c6 => ?_) (fun c6 => ?_)
            · --
              refine r_iload_n dX4_exchange_194 rfl ?_
              exact r_reti dX4_exchange_195 rfl rfl (Nat.le_refl _) (Nat.le_refl _) ⟨by rw [exV, if_pos c1, hbo]; show _ = ite _ _ _; rw [if_neg c5, if_neg c6], fL, hTL⟩
            · --
              refine r_iload_n dX4_exchange_185 rfl ?_
              refine r_aload_n dX4_exchange_186 rfl ?_
              refine r_callVx lX4_368 (c_many hmL) (hlL.1) rfl rfl rfl rfl dX4_exchange_187 (Nat.le_refl _) (Nat.le_refl _) ?_
              refine r_irem dX4_exchange_190 (nI_ne0 (by omega) (by omega)) ?_
              refine r_top (nI (jb % (nT b))) (pk_rem (by omega) (by omega) (by omega)) ?_
              refine r_goto (tgt := 195) dX4_exchange_191 rfl ?_
              exact r_reti dX4_exchange_195 rfl rfl (Nat.le_refl _) (Nat.le_refl _) ⟨by rw [exV, if_pos c1, hbo]; show _ = ite _ _ _; rw [if_neg c5, if_pos c6], fL, hTL⟩
          · --
            refine r_iload_n dX4_exchange_171 rfl ?_
            refine r_aload_n dX4_exchange_172 rfl ?_
            refine r_callVx lX4_368 (c_many hmL) (hlL.1) rfl rfl rfl rfl dX4_exchange_173 (Nat.le_refl _) (Nat.le_refl _) ?_
            refine r_idiv dX4_exchange_176 (nI_ne0 (by omega) (by omega)) ?_
            refine r_top (nI (jb / (nT b))) (pk_div (by omega) (by omega) (by omega)) ?_
            refine r_goto (tgt := 195) dX4_exchange_177 rfl ?_
            exact r_reti dX4_exchange_195 rfl rfl (Nat.le_refl _) (Nat.le_refl _) ⟨by rw [exV, if_pos c1, hbo]; show _ = ite _ _ _; rw [if_pos c5], fL, hTL⟩
        · --
          exact absurd (nI_pos' (by omega)) c4
    · --
      have hn0 : 0 < nT b := Nat.pos_of_ne_zero (fun e => by rw [e] at c2; omega)
      have hd3 : v / nT b < nT b := Nat.div_lt_of_lt_mul c2
      have hd4 : v % nT b < nT b := Nat.mod_lt _ hn0
      refine r_iload dX4_exchange_42 rfl ?_
      refine r_aload_n dX4_exchange_44 rfl ?_
      refine r_callVx lX4_368 (c_many hmL) (hlL.1) rfl rfl rfl rfl dX4_exchange_45 (Nat.le_refl _) (Nat.le_refl _) ?_
      refine r_idiv dX4_exchange_48 (nI_ne0 (by omega) (by omega)) ?_
      refine r_top (nI (v / (nT b))) (pk_div (by omega) (by omega) (by omega)) ?_
      refine r_istore dX4_exchange_49 (by decide) rfl ?_
      refine r_iload dX4_exchange_51 rfl ?_
      refine r_aload_n dX4_exchange_53 rfl ?_
      refine r_callVx lX4_368 (c_many hmL) (hlL.1) rfl rfl rfl rfl dX4_exchange_54 (Nat.le_refl _) (Nat.le_refl _) ?_
      refine r_irem dX4_exchange_57 (nI_ne0 (by omega) (by omega)) ?_
      refine r_top (nI (v % (nT b))) (pk_rem (by omega) (by omega) (by omega)) ?_
      refine r_istore dX4_exchange_58 (by decide) rfl ?_
      refine r_iload dX4_exchange_60 rfl ?_
      refine r_iload dX4_exchange_62 rfl ?_
      refine r_icmpN_ge (tgt := 153) dX4_exchange_64 rfl (by omega) (by omega) (fun c7 => ?_) (fun c7 => ?_)
      · --
        refine r_iincN (n := 1) dX4_exchange_153 rfl rfl (by decide) rfl ?_
        refine r_goto (tgt := 28) dX4_exchange_156 rfl ?_
        refine r_sub [some (vR aM), some (vI wh), some (vI (optI ((exS b T v).1))), some (vI ((exS b T v).2)), some (vI (nI (v + 1))), none, none, none] (And.intro rfl (And.intro rfl (And.intro rfl (And.intro rfl (And.intro rfl trivial))))) ?_
        exact r_L (by rw [exS_f (Or.inl c7)] <;> rfl) (ihv (by omega) _ (⟨fL, hTL⟩))
      · --
        refine r_aload_n dX4_exchange_67 rfl ?_
        refine r_iload dX4_exchange_68 rfl ?_
        refine r_iload dX4_exchange_70 rfl ?_
        refine r_callVx lX4_467 (c_canChange hmL hTL (t := (v / (nT b))) (o := (v % (nT b))) (by omega) (by omega)) (hlL.1) rfl rfl rfl rfl dX4_exchange_72 (Nat.le_refl _) (Nat.le_refl _) ?_
        refine r_ifB_ne (tgt := 81) dX4_exchange_75 rfl (fun c8 => ?_) (fun c8 => ?_)
        · --
          refine r_aload_n dX4_exchange_81 rfl ?_
          refine r_callVv lX4_458 (c_keepNow hlL hTL) (hlL.1) rfl rfl rfl rfl dX4_exchange_82 (Nat.le_refl _) (Nat.le_refl _) (fun hZ2 q9 => ?_)
          obtain ⟨gZ2, hKK⟩ := q9
          have fZ2 := fL.tr (gZ2.wk (by simp) (by simp))
          have hmZ2 := hmL.fr gZ2 rfl
          have hTZ2 := hTL.fr gZ2 (by decide)
          have hlZ2 := hmZ2.lay
          have hKZ2 := hKK
          refine r_aload_n dX4_exchange_85 rfl ?_
          refine r_getRv fX4_88 (hlZ2.1) (v := aAll) ((l_all hlZ2).1) rfl dX4_exchange_86 ?_
          refine r_iconst (v := nI 2) dX4_exchange_89 (by decide) ?_
          refine r_iload dX4_exchange_90 rfl ?_
          refine r_iadd dX4_exchange_92 ?_
          refine r_top (nI (2 + (v / (nT b)))) (nI_add _ _) ?_
          refine r_aload_n dX4_exchange_93 rfl ?_
          refine r_getRv fX4_97 (hlZ2.1) (v := aKept) ((l_kept hlZ2).1) rfl dX4_exchange_94 ?_
          refine r_iconst (v := nI 2) dX4_exchange_97 (by decide) ?_
          refine r_iload dX4_exchange_98 rfl ?_
          refine r_iadd dX4_exchange_100 ?_
          refine r_top (nI (2 + (v % (nT b)))) (nI_add _ _) ?_
          refine r_ialdv ((l_kept hlZ2).2.1) ((l_kept hlZ2).2.2) (ix_n (by omega) (by decide)) (v := T (2 + (v % (nT b)))) (hKZ2 _ (by omega)) dX4_exchange_101 ?_
          refine r_iastv ((l_all hlZ2).2.1) (by decide) ((l_all hlZ2).2.2) (ix_n (by omega) (by decide)) dX4_exchange_102 ?_
          have gZ3 : Fr [aAll] [] hZ2 (sI hZ2 aAll (2 + (v / (nT b))) (T (2 + (v % (nT b))))) := Fr.rf.sa aAll (2 + (v / (nT b))) (T (2 + (v % (nT b)))) (by decide)
          have hTZ3 : MT (u1 T (2 + (v / (nT b))) (T (2 + (v % (nT b))))) (sI hZ2 aAll (2 + (v / (nT b))) (T (2 + (v % (nT b))))) := hTZ2.up (2 + (v / (nT b))) (T (2 + (v % (nT b))))
          have hmZ3 : MB b k (sI hZ2 aAll (2 + (v / (nT b))) (T (2 + (v % (nT b))))) := hmZ2.fr gZ3 rfl
          have fZ3 : Fr [aPile, aAll, aKept] [39, 40, 41] h (sI hZ2 aAll (2 + (v / (nT b))) (T (2 + (v % (nT b))))) := fZ2.tr (gZ3.wk (by simp) (by simp))
          have hKZ3 : MK T (sI hZ2 aAll (2 + (v / (nT b))) (T (2 + (v % (nT b))))) := hKZ2.fr gZ3 (by decide)
          generalize sI hZ2 aAll (2 + (v / (nT b))) (T (2 + (v % (nT b)))) = hZ3 at gZ3 hTZ3 hmZ3 fZ3 hKZ3 ⊢
          have hlZ3 := hmZ3.lay
          refine r_aload_n dX4_exchange_103 rfl ?_
          refine r_getRv fX4_88 (hlZ3.1) (v := aAll) ((l_all hlZ3).1) rfl dX4_exchange_104 ?_
          refine r_iconst (v := nI 2) dX4_exchange_107 (by decide) ?_
          refine r_iload dX4_exchange_108 rfl ?_
          refine r_iadd dX4_exchange_110 ?_
          refine r_top (nI (2 + (v % (nT b)))) (nI_add _ _) ?_
          refine r_aload_n dX4_exchange_111 rfl ?_
          refine r_getRv fX4_97 (hlZ3.1) (v := aKept) ((l_kept hlZ3).1) rfl dX4_exchange_112 ?_
          refine r_iconst (v := nI 2) dX4_exchange_115 (by decide) ?_
          refine r_iload dX4_exchange_116 rfl ?_
          refine r_iadd dX4_exchange_118 ?_
          refine r_top (nI (2 + (v / (nT b)))) (nI_add _ _) ?_
          refine r_ialdv ((l_kept hlZ3).2.1) ((l_kept hlZ3).2.2) (ix_n (by omega) (by decide)) (v := T (2 + (v / (nT b)))) (hKZ3 _ (by omega)) dX4_exchange_119 ?_
          refine r_iastv ((l_all hlZ3).2.1) (by decide) ((l_all hlZ3).2.2) (ix_n (by omega) (by decide)) dX4_exchange_120 ?_
          have gZ4 : Fr [aAll] [] hZ3 (sI hZ3 aAll (2 + (v % (nT b))) (T (2 + (v / (nT b))))) := Fr.rf.sa aAll (2 + (v % (nT b))) (T (2 + (v / (nT b)))) (by decide)
          have hTZ4 : MT (u1 (u1 T (2 + (v / (nT b))) (T (2 + (v % (nT b))))) (2 + (v % (nT b))) (T (2 + (v / (nT b))))) (sI hZ3 aAll (2 + (v % (nT b))) (T (2 + (v / (nT b))))) := hTZ3.up (2 + (v % (nT b))) (T (2 + (v / (nT b))))
          have hmZ4 : MB b k (sI hZ3 aAll (2 + (v % (nT b))) (T (2 + (v / (nT b))))) := hmZ3.fr gZ4 rfl
          have fZ4 : Fr [aPile, aAll, aKept] [39, 40, 41] h (sI hZ3 aAll (2 + (v % (nT b))) (T (2 + (v / (nT b))))) := fZ3.tr (gZ4.wk (by simp) (by simp))
          have hKZ4 : MK T (sI hZ3 aAll (2 + (v % (nT b))) (T (2 + (v / (nT b))))) := hKZ3.fr gZ4 (by decide)
          generalize sI hZ3 aAll (2 + (v % (nT b))) (T (2 + (v / (nT b)))) = hZ4 at gZ4 hTZ4 hmZ4 fZ4 hKZ4 ⊢
          have hlZ4 := hmZ4.lay
          refine r_aload_n dX4_exchange_121 rfl ?_
          refine r_aload_n dX4_exchange_122 rfl ?_
          refine r_callVx lX4_428 (c_allSacks hmZ4) (hlZ4.1) rfl rfl rfl rfl dX4_exchange_123 (Nat.le_refl _) (Nat.le_refl _) ?_
          refine r_callVi lX4_431 (c_saidBy hmZ4 hTZ4 ((fZ4.fld 43 (by decide) (by decide)).trans hth) (allV (nS b))) (hlZ4.1) rfl rfl rfl rfl dX4_exchange_126 (Nat.le_refl _) (Nat.le_refl _) (fun y9 hZ5 q9 => ?_)
          obtain ⟨rfl, gZ5⟩ := q9
          have fZ5 := fZ4.tr (gZ5.wk (by simp) (by simp))
          have hmZ5 := hmZ4.fr gZ5 rfl
          have hTZ5 := hTZ4.fr gZ5 (by decide)
          have hlZ5 := hmZ5.lay
          have hKZ5 := hKZ4.fr gZ5 (by decide)
          refine r_callSx lX4_339 (c_bitsOf _) rfl rfl rfl rfl dX4_exchange_129 (Nat.le_refl _) (Nat.le_refl _) ?_
          refine r_istore dX4_exchange_132 (by decide) rfl ?_
          refine r_aload_n dX4_exchange_134 rfl ?_
          refine r_callVv lX4_464 (c_bringBack hlZ5 (K := T) hKZ5) (hlZ5.1) rfl rfl rfl rfl dX4_exchange_135 (Nat.le_refl _) (Nat.le_refl _) (fun hZ6 q9 => ?_)
          obtain ⟨gZ6, hTZ6⟩ := q9
          have fZ6 := fZ5.tr (gZ6.wk (by simp) (by simp))
          have hmZ6 := hmZ5.fr gZ6 rfl
          have hlZ6 := hmZ6.lay
          refine r_iload dX4_exchange_138 rfl ?_
          refine r_iload_n dX4_exchange_140 rfl ?_
          refine r_icmp_gt (tgt := 147) dX4_exchange_141 rfl (fun c9 => ?_) (fun c9 => ?_)
          · --
            refine r_iload dX4_exchange_147 rfl ?_
            refine r_istore_n dX4_exchange_149 (by decide) rfl ?_
            refine r_iload dX4_exchange_150 rfl ?_
            refine r_istore_n dX4_exchange_152 (by decide) rfl ?_
            refine r_iincN (n := 1) dX4_exchange_153 rfl rfl (by decide) rfl ?_
            refine r_goto (tgt := 28) dX4_exchange_156 rfl ?_
            refine r_sub [some (vR aM), some (vI wh), some (vI (nI v)), some (vI (popc (saidV b (u1 (u1 T (2 + (v / (nT b))) (T (2 + (v % (nT b))))) (2 + (v % (nT b))) (T (2 + (v / (nT b))))) (allV (nS b))))), some (vI (nI (v + 1))), none, none, none] (And.intro rfl (And.intro rfl (And.intro rfl (And.intro rfl (And.intro rfl trivial))))) ?_
            exact r_L (by rw [exS_t c7 c8 c9] <;> rfl) (ihv (by omega) _ (⟨fZ6, hTZ6⟩))
          · --
            refine r_goto (tgt := 153) dX4_exchange_144 rfl ?_
            refine r_iincN (n := 1) dX4_exchange_153 rfl rfl (by decide) rfl ?_
            refine r_goto (tgt := 28) dX4_exchange_156 rfl ?_
            refine r_sub [some (vR aM), some (vI wh), some (vI (optI ((exS b T v).1))), some (vI ((exS b T v).2)), some (vI (nI (v + 1))), none, none, none] (And.intro rfl (And.intro rfl (And.intro rfl (And.intro rfl (And.intro rfl trivial))))) ?_
            exact r_L (by rw [exS_f (Or.inr (Or.inr c9))] <;> rfl) (ihv (by omega) _ (⟨fZ6, hTZ6⟩))
        · --
          refine r_goto (tgt := 153) dX4_exchange_78 rfl ?_
          refine r_iincN (n := 1) dX4_exchange_153 rfl rfl (by decide) rfl ?_
          refine r_goto (tgt := 28) dX4_exchange_156 rfl ?_
          refine r_sub [some (vR aM), some (vI wh), some (vI (optI ((exS b T v).1))), some (vI ((exS b T v).2)), some (vI (nI (v + 1))), none, none, none] (And.intro rfl (And.intro rfl (And.intro rfl (And.intro rfl (And.intro rfl trivial))))) ?_
          exact r_L (by rw [exS_f (Or.inr (Or.inl c8))] <;> rfl) (ihv (by omega) _ (⟨fL, hTL⟩))
  · --
    refine r_iconst (v := (-1)) dX4_exchange_9 (by decide) ?_
    exact r_reti dX4_exchange_10 rfl rfl (Nat.le_refl _) (Nat.le_refl _) ⟨(if_neg (by rw [c1]; decide)).symm, f, hT⟩
