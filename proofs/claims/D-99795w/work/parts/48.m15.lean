/-! ===== THE REFERENCE: a new begin, the tape, shyest, what fits (walks by program) ===== -/
set_option maxRecDepth 100000

theorem c_startAnew {G : ev_G} {b : Bk} {k : Nat} {h : ev_H} (hm : MB b k h) : Called G mX4_startAnew 2 0 0 [vR aM] h (p0 (fun h1 => Fr [aAll, aIsBoxed] [46, 47, 60, 50] h h1 ∧ MT (layT b) h1 ∧ Ar aIsBoxed 3 (fun _ => 0) h1 ∧ hI h1 aM 46 = nI 0 ∧ hI h1 aM 47 = nI 0 ∧ hI h1 aM 60 = nI 0 ∧ hI h1 aM 50 = nI 0)) := by
  have hl := hm.lay
  have hk2 := hm.k2
  have hb := hm.bw
  have hb1 := hb.p6
  have hb2 := hb.s5
  have hb3 := hb.t10
  refine called_of rfl [some (vR aM), none] rfl (Nat.le_of_ble_eq_true rfl) ?_
  refine r_aload_n dX4_startAnew_0 rfl ?_
  refine r_callVv lX4_371 (c_layTold hm) (hl.1) rfl rfl rfl rfl dX4_startAnew_1 (Nat.le_refl _) (Nat.le_refl _) (fun hA qA => ?_)
  obtain ⟨fA, tA⟩ := qA
  have hlA := fA.lay hl
  refine r_aload_n dX4_startAnew_4 rfl ?_
  refine r_iconst (v := nI 0) dX4_startAnew_5 (by decide) ?_
  refine r_putN fX4_374 (hlA.1) (by decide) dX4_startAnew_6 ?_
  refine r_aload_n dX4_startAnew_9 rfl ?_
  refine r_iconst (v := nI 0) dX4_startAnew_10 (by decide) ?_
  refine r_putN fX4_377 (hlA.1) (by decide) dX4_startAnew_11 ?_
  refine r_aload_n dX4_startAnew_14 rfl ?_
  refine r_iconst (v := nI 0) dX4_startAnew_15 (by decide) ?_
  refine r_putN fX4_380 (hlA.1) (by decide) dX4_startAnew_16 ?_
  refine r_aload_n dX4_startAnew_19 rfl ?_
  refine r_iconst (v := nI 0) dX4_startAnew_20 (by decide) ?_
  refine r_putN fX4_383 (hlA.1) (by decide) dX4_startAnew_21 ?_
  refine r_iconst (v := nI 0) dX4_startAnew_24 (by decide) ?_
  refine r_istore_n dX4_startAnew_25 (by decide) rfl ?_
  refine (ev_for (P := fun i => ∀ h9 : ev_H, (Fr [aAll, aIsBoxed] [46, 47, 60, 50] h h9 ∧ MT (layT b) h9 ∧ (∀ j, j < i → hI h9 aIsBoxed j = (fun _ => (0 : Int32)) j) ∧ hI h9 aM 46 = nI 0 ∧ hI h9 aM 47 = nI 0 ∧ hI h9 aM 60 = nI 0 ∧ hI h9 aM 50 = nI 0) → Ev G mX4_startAnew (ev_room 2 0 0) (ev_MQ G (p0 (fun h1 => Fr [aAll, aIsBoxed] [46, 47, 60, 50] h h1 ∧ MT (layT b) h1 ∧ Ar aIsBoxed 3 (fun _ => 0) h1 ∧ hI h1 aM 46 = nI 0 ∧ hI h1 aM 47 = nI 0 ∧ hI h1 aM 60 = nI 0 ∧ hI h1 aM 50 = nI 0)) 0 0) 26 [some (vR aM), some (vI (nI i))] [] h9 0 0) 3 (fun i hki ihi h9 qh9 => ?_)) 0 (Nat.zero_le _) _ (⟨((((fA.wk (by simp) (by simp)).sf 46 _ (by decide)).sf 47 _ (by decide)).sf 60 _ (by decide)).sf 50 _ (by decide), tA, fun j hj => absurd hj (by omega), rfl, rfl, rfl, rfl⟩)
  obtain ⟨f9, t9, e9, q1, q2, q3, q4⟩ := qh9
  have hl9 := f9.lay hl
  refine r_iload_n dX4_startAnew_26 rfl ?_
  refine r_iconst (v := nI 3) dX4_startAnew_27 (by decide) ?_
  refine r_icmpN_ge (tgt := 44) dX4_startAnew_28 rfl (by omega) (by omega) (fun c1 => ?_) (fun c1 => ?_)
  · --
    exact r_retv dX4_startAnew_44 rfl (Nat.le_refl _) (Nat.le_refl _) (⟨f9, t9, fun j hj => e9 j (by omega), q1, q2, q3, q4⟩)
  · --
    refine r_aload_n dX4_startAnew_31 rfl ?_
    refine r_getRv fX4_133 (hl9.1) (v := aIsBoxed) ((l_isBoxed hl9).1) rfl dX4_startAnew_32 ?_
    refine r_iload_n dX4_startAnew_35 rfl ?_
    refine r_iconst (v := nI 0) dX4_startAnew_36 (by decide) ?_
    refine r_zastx ((l_isBoxed hl9).2.1) (by decide) ((l_isBoxed hl9).2.2) (ix_n (by omega) (by decide)) rfl dX4_startAnew_37 ?_
    refine r_iincN (n := 1) dX4_startAnew_38 rfl rfl (by decide) rfl ?_
    refine r_goto (tgt := 26) dX4_startAnew_41 rfl ?_
    exact ihi (by omega) _ (⟨f9.sa _ _ _ (by decide), t9, cp_step e9 rfl, q1, q2, q3, q4⟩)

def fdOk (nt : Nat) : Bool := decide (nt + 20 ≤ 1600)

theorem c_feed {G : ev_G} {h : ev_H} (hl : MLay h) {nt : Nat} {tp : Nat → Int32} (hnt : hI h aM 2 = nI nt) (hn : nt ≤ 1600) (hA : Ar aTape 1620 tp h) (a c d e f : Int32) : Called G mX4_feed 0 0 0 [vR aM, vI a, vI c, vI d, vI e, vI f] h (pI (fun y h1 => y = (if fdOk nt then nI (nt + 20) else -1) ∧ Fr [aTape] [2] h h1 ∧ Ar aTape 1620 (if fdOk nt then feedT tp nt 20 a c d e f else tp) h1 ∧ hI h1 aM 2 = (if fdOk nt then nI (nt + 20) else nI nt))) := by
  refine called_of rfl [some (vR aM), some (vI a), some (vI c), some (vI d), some (vI e), some (vI f), none, none] rfl (Nat.le_of_ble_eq_true rfl) ?_
  refine r_aload_n dX4_feed_0 rfl ?_
  refine r_getIv fX4_250 (hl.1) (v := nI nt) (hnt) rfl dX4_feed_1 ?_
  refine r_bipush (v := nI 20) dX4_feed_4 (by decide) ?_
  refine r_iadd dX4_feed_6 ?_
  refine r_top (nI (nt + 20)) (nI_add _ _) ?_
  refine r_sipush (v := nI 1600) dX4_feed_7 (by decide) ?_
  refine r_icmpN_le (tgt := 15) dX4_feed_10 rfl (by omega) (by omega) (fun c1 => ?_) (fun c1 => ?_)
  · --
    refine r_iconst (v := nI 0) dX4_feed_15 (by decide) ?_
    refine r_istore dX4_feed_16 (by decide) rfl ?_
    refine (ev_for (P := fun i => ∀ h9 : ev_H, (Fr [aTape] [] h h9 ∧ Ar aTape 1620 (feedT tp nt i a c d e f) h9) → Ev G mX4_feed (ev_room 0 0 0) (ev_MQ G (pI (fun y h1 => y = (if fdOk nt then nI (nt + 20) else -1) ∧ Fr [aTape] [2] h h1 ∧ Ar aTape 1620 (if fdOk nt then feedT tp nt 20 a c d e f else tp) h1 ∧ hI h1 aM 2 = (if fdOk nt then nI (nt + 20) else nI nt))) 0 0) 18 [some (vR aM), some (vI a), some (vI c), some (vI d), some (vI e), some (vI f), some (vI (nI i)), none] [] h9 0 0) 20 (fun i hki ihi h9 qh9 => ?_)) 0 (Nat.zero_le _) _ (⟨Fr.rf, hA.eq (fun j _ => by unfold feedT; rw [if_neg (by omega)])⟩)
    obtain ⟨f9, e9⟩ := qh9
    have hl9 := f9.lay hl
    have hnt9 := (f9.fld 2 (by decide) (by decide)).trans hnt
    refine r_iload dX4_feed_18 rfl ?_
    refine r_bipush (v := nI 20) dX4_feed_20 (by decide) ?_
    refine r_icmpN_ge (tgt := 105) dX4_feed_22 rfl (by omega) (by omega) (fun c2 => ?_) (fun c2 => ?_)
    · --
      refine r_aload_n dX4_feed_105 rfl ?_
      refine r_dup dX4_feed_106 rfl ?_
      refine r_getIv fX4_250 (hl9.1) (v := nI nt) (hnt9) rfl dX4_feed_107 ?_
      refine r_bipush (v := nI 20) dX4_feed_110 (by decide) ?_
      refine r_iadd dX4_feed_112 ?_
      refine r_top (nI (nt + 20)) (nI_add _ _) ?_
      refine r_putN fX4_250 (hl9.1) (by decide) dX4_feed_113 ?_
      refine r_aload_n dX4_feed_116 rfl ?_
      refine r_getIv fX4_250 (hl9.1) (v := nI (nt + 20)) (rfl) rfl dX4_feed_117 ?_
      exact r_reti dX4_feed_120 rfl rfl (Nat.le_refl _) (Nat.le_refl _) ⟨if_p (by simp [fdOk]; omega) rfl, (f9.wk (by simp) (by simp)).sf 2 _ (by decide), Ar.pos (by simp [fdOk]; omega) (Ar.fr (by rw [← show i = 20 by omega]; exact e9) ((Fr.rf (as := []) (fs := [2])).sf 2 _ (by decide)) (by decide) (by decide)), if_p (by simp [fdOk]; omega) rfl⟩
    · --
      refine r_iload dX4_feed_25 rfl ?_
      refine r_iconst (v := nI 4) dX4_feed_27 (by decide) ?_
      refine r_icmpN_ge (tgt := 35) dX4_feed_28 rfl (by omega) (by omega) (fun c3 => ?_) (fun c3 => ?_)
      · --
        refine r_iload dX4_feed_35 rfl ?_
        refine r_bipush (v := nI 8) dX4_feed_37 (by decide) ?_
        refine r_icmpN_ge (tgt := 46) dX4_feed_39 rfl (by omega) (by omega) (fun c4 => ?_) (fun c4 => ?_)
        · --
          refine r_iload dX4_feed_46 rfl ?_
          refine r_bipush (v := nI 12) dX4_feed_48 (by decide) ?_
          refine r_icmpN_ge (tgt := 57) dX4_feed_50 rfl (by omega) (by omega) (fun c5 => ?_) (fun c5 => ?_)
          · --
            refine r_iload dX4_feed_57 rfl ?_
            refine r_bipush (v := nI 16) dX4_feed_59 (by decide) ?_
            refine r_icmpN_ge (tgt := 69) dX4_feed_61 rfl (by omega) (by omega) (fun c6 => ?_) (fun c6 => ?_)
            · --
              refine r_iload dX4_feed_69 rfl ?_
              refine r_istore dX4_feed_71 (by decide) rfl ?_
              refine r_aload_n dX4_feed_73 rfl ?_
              refine r_getRv fX4_7 (hl9.1) (v := aTape) ((l_tape hl9).1) rfl dX4_feed_74 ?_
              refine r_aload_n dX4_feed_77 rfl ?_
              refine r_getIv fX4_250 (hl9.1) (v := nI nt) (hnt9) rfl dX4_feed_78 ?_
              refine r_iload dX4_feed_81 rfl ?_
              refine r_iadd dX4_feed_83 ?_
              refine r_top (nI (nt + i)) (nI_add _ _) ?_
              refine r_iload dX4_feed_84 rfl ?_
              refine r_bipush (v := nI 24) dX4_feed_86 (by decide) ?_
              refine r_bipush (v := nI 8) dX4_feed_88 (by decide) ?_
              refine r_iload dX4_feed_90 rfl ?_
              refine r_iconst (v := nI 3) dX4_feed_92 (by decide) ?_
              refine r_iand dX4_feed_93 ?_
              refine r_top (nI (i % 4)) (pk_andN (by omega) 2 (by decide)) ?_
              refine r_imul dX4_feed_94 ?_
              refine r_top (nI (8 * (i % 4))) (pk_mul _ _) ?_
              refine r_isub dX4_feed_95 ?_
              refine r_top (nI (24 - (8 * (i % 4)))) (pk_sub (by omega)) ?_
              refine r_ishr dX4_feed_96 ?_
              refine r_i2b dX4_feed_97 rfl ?_
              refine r_bastv ((l_tape hl9).2.1) (by decide) ((l_tape hl9).2.2) (ix_n (by omega) (by decide)) (v := (f >>> ((nI (24 - (8 * (i % 4)))) &&& 31)).toInt8.toInt32) (pk_nb _) dX4_feed_98 ?_
              refine r_iincN (n := 1) dX4_feed_99 rfl rfl (by decide) rfl ?_
              refine r_goto (tgt := 18) dX4_feed_102 rfl ?_
              refine r_sub [some (vR aM), some (vI a), some (vI c), some (vI d), some (vI e), some (vI f), some (vI (nI (i + 1))), none] (And.intro rfl (And.intro rfl (And.intro rfl (And.intro rfl (And.intro rfl (And.intro rfl (And.intro rfl trivial))))))) ?_
              exact ihi (by omega) _ (⟨f9.sa _ _ _ (by decide), feed_step e9 (by unfold feedB feedW; rw [if_neg (by omega), if_neg (by omega), if_neg (by omega), if_neg (by omega)])⟩)
            · --
              refine r_iload dX4_feed_64 rfl ?_
              refine r_goto (tgt := 71) dX4_feed_66 rfl ?_
              refine r_istore dX4_feed_71 (by decide) rfl ?_
              refine r_aload_n dX4_feed_73 rfl ?_
              refine r_getRv fX4_7 (hl9.1) (v := aTape) ((l_tape hl9).1) rfl dX4_feed_74 ?_
              refine r_aload_n dX4_feed_77 rfl ?_
              refine r_getIv fX4_250 (hl9.1) (v := nI nt) (hnt9) rfl dX4_feed_78 ?_
              refine r_iload dX4_feed_81 rfl ?_
              refine r_iadd dX4_feed_83 ?_
              refine r_top (nI (nt + i)) (nI_add _ _) ?_
              refine r_iload dX4_feed_84 rfl ?_
              refine r_bipush (v := nI 24) dX4_feed_86 (by decide) ?_
              refine r_bipush (v := nI 8) dX4_feed_88 (by decide) ?_
              refine r_iload dX4_feed_90 rfl ?_
              refine r_iconst (v := nI 3) dX4_feed_92 (by decide) ?_
              refine r_iand dX4_feed_93 ?_
              refine r_top (nI (i % 4)) (pk_andN (by omega) 2 (by decide)) ?_
              refine r_imul dX4_feed_94 ?_
              refine r_top (nI (8 * (i % 4))) (pk_mul _ _) ?_
              refine r_isub dX4_feed_95 ?_
              refine r_top (nI (24 - (8 * (i % 4)))) (pk_sub (by omega)) ?_
              refine r_ishr dX4_feed_96 ?_
              refine r_i2b dX4_feed_97 rfl ?_
              refine r_bastv ((l_tape hl9).2.1) (by decide) ((l_tape hl9).2.2) (ix_n (by omega) (by decide)) (v := (e >>> ((nI (24 - (8 * (i % 4)))) &&& 31)).toInt8.toInt32) (pk_nb _) dX4_feed_98 ?_
              refine r_iincN (n := 1) dX4_feed_99 rfl rfl (by decide) rfl ?_
              refine r_goto (tgt := 18) dX4_feed_102 rfl ?_
              refine r_sub [some (vR aM), some (vI a), some (vI c), some (vI d), some (vI e), some (vI f), some (vI (nI (i + 1))), none] (And.intro rfl (And.intro rfl (And.intro rfl (And.intro rfl (And.intro rfl (And.intro rfl (And.intro rfl trivial))))))) ?_
              exact ihi (by omega) _ (⟨f9.sa _ _ _ (by decide), feed_step e9 (by unfold feedB feedW; rw [if_neg (by omega), if_neg (by omega), if_neg (by omega), if_pos (by omega)])⟩)
          · --
            refine r_iload_n dX4_feed_53 rfl ?_
            refine r_goto (tgt := 71) dX4_feed_54 rfl ?_
            refine r_istore dX4_feed_71 (by decide) rfl ?_
            refine r_aload_n dX4_feed_73 rfl ?_
            refine r_getRv fX4_7 (hl9.1) (v := aTape) ((l_tape hl9).1) rfl dX4_feed_74 ?_
            refine r_aload_n dX4_feed_77 rfl ?_
            refine r_getIv fX4_250 (hl9.1) (v := nI nt) (hnt9) rfl dX4_feed_78 ?_
            refine r_iload dX4_feed_81 rfl ?_
            refine r_iadd dX4_feed_83 ?_
            refine r_top (nI (nt + i)) (nI_add _ _) ?_
            refine r_iload dX4_feed_84 rfl ?_
            refine r_bipush (v := nI 24) dX4_feed_86 (by decide) ?_
            refine r_bipush (v := nI 8) dX4_feed_88 (by decide) ?_
            refine r_iload dX4_feed_90 rfl ?_
            refine r_iconst (v := nI 3) dX4_feed_92 (by decide) ?_
            refine r_iand dX4_feed_93 ?_
            refine r_top (nI (i % 4)) (pk_andN (by omega) 2 (by decide)) ?_
            refine r_imul dX4_feed_94 ?_
            refine r_top (nI (8 * (i % 4))) (pk_mul _ _) ?_
            refine r_isub dX4_feed_95 ?_
            refine r_top (nI (24 - (8 * (i % 4)))) (pk_sub (by omega)) ?_
            refine r_ishr dX4_feed_96 ?_
            refine r_i2b dX4_feed_97 rfl ?_
            refine r_bastv ((l_tape hl9).2.1) (by decide) ((l_tape hl9).2.2) (ix_n (by omega) (by decide)) (v := (d >>> ((nI (24 - (8 * (i % 4)))) &&& 31)).toInt8.toInt32) (pk_nb _) dX4_feed_98 ?_
            refine r_iincN (n := 1) dX4_feed_99 rfl rfl (by decide) rfl ?_
            refine r_goto (tgt := 18) dX4_feed_102 rfl ?_
            refine r_sub [some (vR aM), some (vI a), some (vI c), some (vI d), some (vI e), some (vI f), some (vI (nI (i + 1))), none] (And.intro rfl (And.intro rfl (And.intro rfl (And.intro rfl (And.intro rfl (And.intro rfl (And.intro rfl trivial))))))) ?_
            exact ihi (by omega) _ (⟨f9.sa _ _ _ (by decide), feed_step e9 (by unfold feedB feedW; rw [if_neg (by omega), if_neg (by omega), if_pos (by omega)])⟩)
        · --
          refine r_iload_n dX4_feed_42 rfl ?_
          refine r_goto (tgt := 71) dX4_feed_43 rfl ?_
          refine r_istore dX4_feed_71 (by decide) rfl ?_
          refine r_aload_n dX4_feed_73 rfl ?_
          refine r_getRv fX4_7 (hl9.1) (v := aTape) ((l_tape hl9).1) rfl dX4_feed_74 ?_
          refine r_aload_n dX4_feed_77 rfl ?_
          refine r_getIv fX4_250 (hl9.1) (v := nI nt) (hnt9) rfl dX4_feed_78 ?_
          refine r_iload dX4_feed_81 rfl ?_
          refine r_iadd dX4_feed_83 ?_
          refine r_top (nI (nt + i)) (nI_add _ _) ?_
          refine r_iload dX4_feed_84 rfl ?_
          refine r_bipush (v := nI 24) dX4_feed_86 (by decide) ?_
          refine r_bipush (v := nI 8) dX4_feed_88 (by decide) ?_
          refine r_iload dX4_feed_90 rfl ?_
          refine r_iconst (v := nI 3) dX4_feed_92 (by decide) ?_
          refine r_iand dX4_feed_93 ?_
          refine r_top (nI (i % 4)) (pk_andN (by omega) 2 (by decide)) ?_
          refine r_imul dX4_feed_94 ?_
          refine r_top (nI (8 * (i % 4))) (pk_mul _ _) ?_
          refine r_isub dX4_feed_95 ?_
          refine r_top (nI (24 - (8 * (i % 4)))) (pk_sub (by omega)) ?_
          refine r_ishr dX4_feed_96 ?_
          refine r_i2b dX4_feed_97 rfl ?_
          refine r_bastv ((l_tape hl9).2.1) (by decide) ((l_tape hl9).2.2) (ix_n (by omega) (by decide)) (v := (c >>> ((nI (24 - (8 * (i % 4)))) &&& 31)).toInt8.toInt32) (pk_nb _) dX4_feed_98 ?_
          refine r_iincN (n := 1) dX4_feed_99 rfl rfl (by decide) rfl ?_
          refine r_goto (tgt := 18) dX4_feed_102 rfl ?_
          refine r_sub [some (vR aM), some (vI a), some (vI c), some (vI d), some (vI e), some (vI f), some (vI (nI (i + 1))), none] (And.intro rfl (And.intro rfl (And.intro rfl (And.intro rfl (And.intro rfl (And.intro rfl (And.intro rfl trivial))))))) ?_
          exact ihi (by omega) _ (⟨f9.sa _ _ _ (by decide), feed_step e9 (by unfold feedB feedW; rw [if_neg (by omega), if_pos (by omega)])⟩)
      · --
        refine r_iload_n dX4_feed_31 rfl ?_
        refine r_goto (tgt := 71) dX4_feed_32 rfl ?_
        refine r_istore dX4_feed_71 (by decide) rfl ?_
        refine r_aload_n dX4_feed_73 rfl ?_
        refine r_getRv fX4_7 (hl9.1) (v := aTape) ((l_tape hl9).1) rfl dX4_feed_74 ?_
        refine r_aload_n dX4_feed_77 rfl ?_
        refine r_getIv fX4_250 (hl9.1) (v := nI nt) (hnt9) rfl dX4_feed_78 ?_
        refine r_iload dX4_feed_81 rfl ?_
        refine r_iadd dX4_feed_83 ?_
        refine r_top (nI (nt + i)) (nI_add _ _) ?_
        refine r_iload dX4_feed_84 rfl ?_
        refine r_bipush (v := nI 24) dX4_feed_86 (by decide) ?_
        refine r_bipush (v := nI 8) dX4_feed_88 (by decide) ?_
        refine r_iload dX4_feed_90 rfl ?_
        refine r_iconst (v := nI 3) dX4_feed_92 (by decide) ?_
        refine r_iand dX4_feed_93 ?_
        refine r_top (nI (i % 4)) (pk_andN (by omega) 2 (by decide)) ?_
        refine r_imul dX4_feed_94 ?_
        refine r_top (nI (8 * (i % 4))) (pk_mul _ _) ?_
        refine r_isub dX4_feed_95 ?_
        refine r_top (nI (24 - (8 * (i % 4)))) (pk_sub (by omega)) ?_
        refine r_ishr dX4_feed_96 ?_
        refine r_i2b dX4_feed_97 rfl ?_
        refine r_bastv ((l_tape hl9).2.1) (by decide) ((l_tape hl9).2.2) (ix_n (by omega) (by decide)) (v := (a >>> ((nI (24 - (8 * (i % 4)))) &&& 31)).toInt8.toInt32) (pk_nb _) dX4_feed_98 ?_
        refine r_iincN (n := 1) dX4_feed_99 rfl rfl (by decide) rfl ?_
        refine r_goto (tgt := 18) dX4_feed_102 rfl ?_
        refine r_sub [some (vR aM), some (vI a), some (vI c), some (vI d), some (vI e), some (vI f), some (vI (nI (i + 1))), none] (And.intro rfl (And.intro rfl (And.intro rfl (And.intro rfl (And.intro rfl (And.intro rfl (And.intro rfl trivial))))))) ?_
        exact ihi (by omega) _ (⟨f9.sa _ _ _ (by decide), feed_step e9 (by unfold feedB feedW; rw [if_pos (by omega)])⟩)
  · --
    refine r_iconst (v := (-1)) dX4_feed_13 (by decide) ?_
    exact r_reti dX4_feed_14 rfl rfl (Nat.le_refl _) (Nat.le_refl _) ⟨if_n (by simp [fdOk]; omega) rfl, Fr.rf, hA.neg (by simp [fdOk]; omega), if_n (by simp [fdOk]; omega) hnt⟩

theorem shyI_t {b : Bk} {T : Nat → Int32} {s t n : Nat} (h : letS b T (nI n) s t = true) : nI n = shyI b T s t (n + 1) := (if_pos h).symm
theorem shyI_f {b : Bk} {T : Nat → Int32} {s t n : Nat} (h : letS b T (nI n) s t = false) : shyI b T s t n = shyI b T s t (n + 1) := (if_neg (by rw [h]; decide)).symm

theorem c_shyest {G : ev_G} {b : Bk} {k : Nat} {h : ev_H} (hm : MB b k h) {T : Nat → Int32} (hT : MT T h) (hth : hI h aM 43 = -1) (hw : TW b T) (p : Int32) : Called G mX4_shyest 6 0 0 [vR aM, vI p] h (pI (fun y h1 => y = shyV b T p ∧ Fr [aPile] [39, 40, 41, 43, 44] h h1 ∧ hI h1 aM 43 = -1)) := by
  have hl := hm.lay
  have hk2 := hm.k2
  have hb := hm.bw
  have hb1 := hb.p6
  have hb2 := hb.s5
  have hb3 := hb.t10
  refine called_of rfl [some (vR aM), some (vI p), none, none] rfl (Nat.le_of_ble_eq_true rfl) ?_
  refine r_aload_n dX4_shyest_0 rfl ?_
  refine r_iload_n dX4_shyest_1 rfl ?_
  refine r_callVx lX4_422 (c_isThing hm _) (hl.1) rfl rfl rfl rfl dX4_shyest_2 (Nat.le_refl _) (Nat.le_refl _) ?_
  refine r_ifB_eq (tgt := 27) dX4_shyest_5 rfl (fun c1 => ?_) (fun c1 => ?_)
  · --
    refine r_iconst (v := (-1)) dX4_shyest_27 (by decide) ?_
    exact r_reti dX4_shyest_28 rfl rfl (Nat.le_refl _) (Nat.le_refl _) ⟨by rw [shyV, if_neg (by simp [c1])], Fr.rf, hth⟩
  · --
    obtain ⟨j, hj, rfl⟩ := thiV_ok hb c1
    refine r_aload_n dX4_shyest_8 rfl ?_
    refine r_iload_n dX4_shyest_9 rfl ?_
    refine r_callVx lX4_386 (c_isStill hm hT (t := j)) (hl.1) rfl rfl rfl rfl dX4_shyest_10 (Nat.le_refl _) (Nat.le_refl _) ?_
    refine r_ifB_eq (tgt := 27) dX4_shyest_13 rfl (fun c2 => ?_) (fun c2 => ?_)
    · --
      refine r_iconst (v := (-1)) dX4_shyest_27 (by decide) ?_
      exact r_reti dX4_shyest_28 rfl rfl (Nat.le_refl _) (Nat.le_refl _) ⟨by rw [shyV, nI_clamp (by omega), if_neg (by simp [c1, c2])], Fr.rf, hth⟩
    · --
      refine r_aload_n dX4_shyest_16 rfl ?_
      refine r_getRv fX4_88 (hl.1) (v := aAll) ((l_all hl).1) rfl dX4_shyest_17 ?_
      refine r_iconst (v := nI 2) dX4_shyest_20 (by decide) ?_
      refine r_iload_n dX4_shyest_21 rfl ?_
      refine r_iadd dX4_shyest_22 ?_
      refine r_top (nI (2 + j)) (nI_add _ _) ?_
      refine r_ialdv ((l_all hl).2.1) ((l_all hl).2.2) (ix_n (by omega) (by decide)) (v := T (2 + j)) (hT _ (by omega)) dX4_shyest_23 ?_
      refine r_if_ge (tgt := 29) dX4_shyest_24 rfl (fun c3 => ?_) (fun c3 => ?_)
      · --
        obtain ⟨s, hs, es⟩ := hw.ins (t := j) (by omega) (Int32.not_lt.mpr c3)
        refine r_iconst (v := (-1)) dX4_shyest_29 (by decide) ?_
        refine r_istore_n dX4_shyest_30 (by decide) rfl ?_
        refine r_aload_n dX4_shyest_31 rfl ?_
        refine r_iload_n dX4_shyest_32 rfl ?_
        refine r_putN fX4_91 (hl.1) (by decide) dX4_shyest_33 ?_
        refine r_iconst (v := nI 0) dX4_shyest_36 (by decide) ?_
        refine r_istore_n dX4_shyest_37 (by decide) rfl ?_
        refine (ev_for (P := fun i => ∀ h9 : ev_H, (Fr [aPile] [39, 40, 41, 43, 44] h h9 ∧ hI h9 aM 43 = nI j) → Ev G mX4_shyest (ev_room 6 0 0) (ev_MQ G (pI (fun y h1 => y = shyV b T (nI j) ∧ Fr [aPile] [39, 40, 41, 43, 44] h h1 ∧ hI h1 aM 43 = -1)) 0 0) 38 [some (vR aM), some (vI (nI j)), some (vI (shyI b T s j i)), some (vI (nI i))] [] h9 0 0) 10 (fun i hki ihi h9 qh9 => ?_)) 0 (Nat.zero_le _) _ (⟨Fr.rf.sf 43 _ (by decide), rfl⟩)
        obtain ⟨f9, q43⟩ := qh9
        have hm9 := hm.fr f9 rfl
        have hT9 := hT.fr f9 (by decide)
        have hl9 := hm9.lay
        refine r_iload_n dX4_shyest_38 rfl ?_
        refine r_bipush (v := nI 9) dX4_shyest_39 (by decide) ?_
        refine r_icmpN_gt (tgt := 73) dX4_shyest_41 rfl (by omega) (by omega) (fun c4 => ?_) (fun c4 => ?_)
        · --
          refine r_aload_n dX4_shyest_73 rfl ?_
          refine r_iconst (v := (-1)) dX4_shyest_74 (by decide) ?_
          refine r_putN fX4_91 (hl9.1) (by decide) dX4_shyest_75 ?_
          refine r_iload_n dX4_shyest_78 rfl ?_
          exact r_reti dX4_shyest_79 rfl rfl (Nat.le_refl _) (Nat.le_refl _) ⟨by rw [shyV, nI_clamp (by omega), if_pos (by simp [c1, c2, c3]), es, nI_clamp (by omega), ← show i = 10 by omega], f9.sf 43 _ (by decide), rfl⟩
        · --
          refine r_aload_n dX4_shyest_44 rfl ?_
          refine r_iload_n dX4_shyest_45 rfl ?_
          refine r_putN fX4_398 (hl9.1) (by decide) dX4_shyest_46 ?_
          refine r_aload_n dX4_shyest_49 rfl ?_
          refine r_iload_n dX4_shyest_50 rfl ?_
          refine r_aload_n dX4_shyest_51 rfl ?_
          refine r_getRv fX4_88 (hl9.1) (v := aAll) ((l_all hl9).1) rfl dX4_shyest_52 ?_
          refine r_iconst (v := nI 2) dX4_shyest_55 (by decide) ?_
          refine r_iload_n dX4_shyest_56 rfl ?_
          refine r_iadd dX4_shyest_57 ?_
          refine r_top (nI (2 + j)) (nI_add _ _) ?_
          refine r_ialdv ((l_all hl9).2.1) ((l_all hl9).2.2) (ix_n (by omega) (by decide)) (v := nI s) ((hT9 _ (by omega)).trans es) dX4_shyest_58 ?_
          refine r_callVi lX4_404 (c_isLetOut (T := T) (th := nI j) (ts := nI i) (sh := nI i) (t := j) (s := s) (hm9.fr (Fr.rf.sf (as := []) (fs := [44]) 44 _ (by decide)) rfl) (hT9.fr (Fr.rf.sf (as := []) (fs := [44]) 44 _ (by decide)) (by decide)) (by omega) hs q43 rfl (if_pos rfl)) (hl9.1) rfl rfl rfl rfl dX4_shyest_59 (Nat.le_refl _) (Nat.le_refl _) (fun y9 hB q9 => ?_)
          obtain ⟨rfl, gB⟩ := q9
          refine r_ifB_eq (tgt := 67) dX4_shyest_62 rfl (fun c5 => ?_) (fun c5 => ?_)
          · --
            refine r_iincN (n := 1) dX4_shyest_67 rfl rfl (by decide) rfl ?_
            refine r_goto (tgt := 38) dX4_shyest_70 rfl ?_
            exact r_L (by rw [← shyI_f c5]; rfl) (ihi (by omega) _ (⟨(f9.sf 44 _ (by decide)).tr (gB.wk (by simp) (by simp)), (gB.fld 43 (by decide) (by decide)).trans q43⟩))
          · --
            refine r_iload_n dX4_shyest_65 rfl ?_
            refine r_istore_n dX4_shyest_66 (by decide) rfl ?_
            refine r_iincN (n := 1) dX4_shyest_67 rfl rfl (by decide) rfl ?_
            refine r_goto (tgt := 38) dX4_shyest_70 rfl ?_
            exact r_L (by rw [← shyI_t c5]; rfl) (ihi (by omega) _ (⟨(f9.sf 44 _ (by decide)).tr (gB.wk (by simp) (by simp)), (gB.fld 43 (by decide) (by decide)).trans q43⟩))
      · --
        refine r_iconst (v := (-1)) dX4_shyest_27 (by decide) ?_
        exact r_reti dX4_shyest_28 rfl rfl (Nat.le_refl _) (Nat.le_refl _) ⟨by rw [shyV, nI_clamp (by omega), if_neg (by simp [c1, c2, c3])], Fr.rf, hth⟩

def allB : Nat → (Nat → Bool) → Bool
  | 0, _ => true
  | n + 1, p => allB n p && p n
theorem allB_s {n : Nat} {p : Nat → Bool} (h : allB n p = true) (h1 : p n = true) : allB (n + 1) p = true := by show (allB n p && p n) = true; rw [h, h1]; rfl
theorem allB_f {p : Nat → Bool} {i : Nat} : ∀ {n : Nat}, i < n → p i = false → allB n p = false
  | n + 1, hi, h => by
    show (allB n p && p n) = false
    rcases Nat.lt_or_ge i n with q | q
    · rw [allB_f q h]; rfl
    · rw [show n = i by omega, h, Bool.and_false]
/-- what was heard, fits or is not in force -/
def hdV (R : HR) (my : Nat → Int32) (k : Int32) (n : Nat) : Bool := decide (k < R.t n) || (!decide (R.u n < 0) && !decide (k < R.u n)) || decide ((if my (R.s n).toNatClampNeg < R.m n then nI 0 else nI 1) = R.i n)
def fitV (R : HR) (nh : Nat) (my : Nat → Int32) (k : Int32) : Bool := allB nh (hdV R my k)

theorem c_doesFit {G : ev_G} {h : ev_H} (hl : MLay h) {R : HR} {nh v S : Nat} {MY : Nat → Int32} (hnh : hI h aM 60 = nI nh) (hn30 : nh ≤ 30) (hS : MS R h) (hR : ∀ n, n < nh → ∃ s, s < S ∧ R.s n = nI s) (hS5 : S ≤ 5) (hM : Ar aManyBy 180 MY h) (hv : v < 36) (k9 : Int32) : Called G mX4_doesFit 0 0 0 [vR aM, vI (nI v), vI k9] h (px (vI (b2i (fitV R nh (fun q => MY (5 * v + q)) k9))) h) := by
  refine called_of rfl [some (vR aM), some (vI (nI v)), some (vI k9), none, none] rfl (Nat.le_of_ble_eq_true rfl) ?_
  refine r_iconst (v := nI 0) dX4_doesFit_0 (by decide) ?_
  refine r_istore_n dX4_doesFit_1 (by decide) rfl ?_
  refine (ev_for (P := fun i => (allB i (hdV R (fun q => MY (5 * v + q)) k9) = true) → Ev G mX4_doesFit (ev_room 0 0 0) (ev_MQ G (px (vI (b2i (fitV R nh (fun q => MY (5 * v + q)) k9))) h) 0 0) 2 [some (vR aM), some (vI (nI v)), some (vI k9), some (vI (nI i)), none] [] h 0 0) nh (fun i hki ihi qi => ?_)) 0 (Nat.zero_le _) (rfl)
  refine r_iload_n dX4_doesFit_2 rfl ?_
  refine r_aload_n dX4_doesFit_3 rfl ?_
  refine r_getIv fX4_380 (hl.1) (v := nI nh) (hnh) rfl dX4_doesFit_4 ?_
  refine r_icmpN_ge (tgt := 92) dX4_doesFit_7 rfl (by omega) (by omega) (fun c1 => ?_) (fun c1 => ?_)
  · --
    refine r_iconst (v := nI 1) dX4_doesFit_92 (by decide) ?_
    exact r_ret1 dX4_doesFit_93 rfl (by unfold fitV; rw [← show i = nh by omega]; exact qi)
  · --
    obtain ⟨s9, hs9, es9⟩ := hR i (by omega)
    refine r_aload_n dX4_doesFit_10 rfl ?_
    refine r_getRv fX4_118 (hl.1) (v := aSTold) ((l_sTold hl).1) rfl dX4_doesFit_11 ?_
    refine r_iload_n dX4_doesFit_14 rfl ?_
    refine r_ialdv ((l_sTold hl).2.1) ((l_sTold hl).2.2) (ix_n (by omega) (by decide)) (v := R.t i) (hS.2.2.2.1 _ (by omega)) dX4_doesFit_15 ?_
    refine r_iload_n dX4_doesFit_16 rfl ?_
    refine r_icmp_gt (tgt := 86) dX4_doesFit_17 rfl (fun c2 => ?_) (fun c2 => ?_)
    · --
      refine r_iincN (n := 1) dX4_doesFit_86 rfl rfl (by decide) rfl ?_
      refine r_goto (tgt := 2) dX4_doesFit_89 rfl ?_
      exact ihi (by omega) (allB_s qi (by unfold hdV; rw [es9, nI_clamp (by omega)]; simp [c2]))
    · --
      refine r_aload_n dX4_doesFit_20 rfl ?_
      refine r_getRv fX4_121 (hl.1) (v := aSUntold) ((l_sUntold hl).1) rfl dX4_doesFit_21 ?_
      refine r_iload_n dX4_doesFit_24 rfl ?_
      refine r_ialdv ((l_sUntold hl).2.1) ((l_sUntold hl).2.2) (ix_n (by omega) (by decide)) (v := R.u i) (hS.2.2.2.2 _ (by omega)) dX4_doesFit_25 ?_
      refine r_if_lt (tgt := 42) dX4_doesFit_26 rfl (fun c3 => ?_) (fun c3 => ?_)
      · --
        refine r_aload_n dX4_doesFit_42 rfl ?_
        refine r_getRv fX4_106 (hl.1) (v := aManyBy) ((l_manyBy hl).1) rfl dX4_doesFit_43 ?_
        refine r_iconst (v := nI 5) dX4_doesFit_46 (by decide) ?_
        refine r_iload_n dX4_doesFit_47 rfl ?_
        refine r_imul dX4_doesFit_48 ?_
        refine r_top (nI (5 * v)) (pk_mul _ _) ?_
        refine r_aload_n dX4_doesFit_49 rfl ?_
        refine r_getRv fX4_109 (hl.1) (v := aSSack) ((l_sSack hl).1) rfl dX4_doesFit_50 ?_
        refine r_iload_n dX4_doesFit_53 rfl ?_
        refine r_ialdv ((l_sSack hl).2.1) ((l_sSack hl).2.2) (ix_n (by omega) (by decide)) (v := nI s9) ((hS.1 _ (by omega)).trans es9) dX4_doesFit_54 ?_
        refine r_iadd dX4_doesFit_55 ?_
        refine r_top (nI (5 * v + s9)) (nI_add _ _) ?_
        refine r_ialdv ((l_manyBy hl).2.1) ((l_manyBy hl).2.2) (ix_n (by omega) (by decide)) (v := MY (5 * v + s9)) (hM _ (by omega)) dX4_doesFit_56 ?_
        refine r_aload_n dX4_doesFit_57 rfl ?_
        refine r_getRv fX4_112 (hl.1) (v := aSMany) ((l_sMany hl).1) rfl dX4_doesFit_58 ?_
        refine r_iload_n dX4_doesFit_61 rfl ?_
        refine r_ialdv ((l_sMany hl).2.1) ((l_sMany hl).2.2) (ix_n (by omega) (by decide)) (v := R.m i) (hS.2.1 _ (by omega)) dX4_doesFit_62 ?_
        refine r_icmp_lt (tgt := 70) dX4_doesFit_63 rfl (fun c4 => ?_) (fun c4 => ?_)
        · --
          refine r_iconst (v := nI 0) dX4_doesFit_70 (by decide) ?_
          refine r_istore dX4_doesFit_71 (by decide) rfl ?_
          refine r_iload dX4_doesFit_73 rfl ?_
          refine r_aload_n dX4_doesFit_75 rfl ?_
          refine r_getRv fX4_115 (hl.1) (v := aSIs) ((l_sIs hl).1) rfl dX4_doesFit_76 ?_
          refine r_iload_n dX4_doesFit_79 rfl ?_
          refine r_ialdv ((l_sIs hl).2.1) ((l_sIs hl).2.2) (ix_n (by omega) (by decide)) (v := R.i i) (hS.2.2.1 _ (by omega)) dX4_doesFit_80 ?_
          refine r_icmp_eq (tgt := 86) dX4_doesFit_81 rfl (fun c5 => ?_) (fun c5 => ?_)
          · --
            refine r_iincN (n := 1) dX4_doesFit_86 rfl rfl (by decide) rfl ?_
            refine r_goto (tgt := 2) dX4_doesFit_89 rfl ?_
            refine r_sub [some (vR aM), some (vI (nI v)), some (vI k9), some (vI (nI (i + 1))), none] (And.intro rfl (And.intro rfl (And.intro rfl (And.intro rfl trivial)))) ?_
            exact ihi (by omega) (allB_s qi (by unfold hdV; rw [es9, nI_clamp (by omega)]; simp [c2, c3, c4, c5]))
          · --
            refine r_iconst (v := nI 0) dX4_doesFit_84 (by decide) ?_
            exact r_ret0 dX4_doesFit_85 rfl ((allB_f (i := i) (by omega) (by unfold hdV; rw [es9, nI_clamp (by omega)]; simp [c2, c3, c4, c5])))
        · --
          refine r_iconst (v := nI 1) dX4_doesFit_66 (by decide) ?_
          refine r_goto (tgt := 71) dX4_doesFit_67 rfl ?_
          refine r_istore dX4_doesFit_71 (by decide) rfl ?_
          refine r_iload dX4_doesFit_73 rfl ?_
          refine r_aload_n dX4_doesFit_75 rfl ?_
          refine r_getRv fX4_115 (hl.1) (v := aSIs) ((l_sIs hl).1) rfl dX4_doesFit_76 ?_
          refine r_iload_n dX4_doesFit_79 rfl ?_
          refine r_ialdv ((l_sIs hl).2.1) ((l_sIs hl).2.2) (ix_n (by omega) (by decide)) (v := R.i i) (hS.2.2.1 _ (by omega)) dX4_doesFit_80 ?_
          refine r_icmp_eq (tgt := 86) dX4_doesFit_81 rfl (fun c6 => ?_) (fun c6 => ?_)
          · --
            refine r_iincN (n := 1) dX4_doesFit_86 rfl rfl (by decide) rfl ?_
            refine r_goto (tgt := 2) dX4_doesFit_89 rfl ?_
            refine r_sub [some (vR aM), some (vI (nI v)), some (vI k9), some (vI (nI (i + 1))), none] (And.intro rfl (And.intro rfl (And.intro rfl (And.intro rfl trivial)))) ?_
            exact ihi (by omega) (allB_s qi (by unfold hdV; rw [es9, nI_clamp (by omega)]; simp [c2, c3, c4, c6]))
          · --
            refine r_iconst (v := nI 0) dX4_doesFit_84 (by decide) ?_
            exact r_ret0 dX4_doesFit_85 rfl ((allB_f (i := i) (by omega) (by unfold hdV; rw [es9, nI_clamp (by omega)]; simp [c2, c3, c4, c6])))
      · --
        refine r_aload_n dX4_doesFit_29 rfl ?_
        refine r_getRv fX4_121 (hl.1) (v := aSUntold) ((l_sUntold hl).1) rfl dX4_doesFit_30 ?_
        refine r_iload_n dX4_doesFit_33 rfl ?_
        refine r_ialdv ((l_sUntold hl).2.1) ((l_sUntold hl).2.2) (ix_n (by omega) (by decide)) (v := R.u i) (hS.2.2.2.2 _ (by omega)) dX4_doesFit_34 ?_
        refine r_iload_n dX4_doesFit_35 rfl ?_
        refine r_icmp_gt (tgt := 42) dX4_doesFit_36 rfl (fun c7 => ?_) (fun c7 => ?_)
        · --
          refine r_aload_n dX4_doesFit_42 rfl ?_
          refine r_getRv fX4_106 (hl.1) (v := aManyBy) ((l_manyBy hl).1) rfl dX4_doesFit_43 ?_
          refine r_iconst (v := nI 5) dX4_doesFit_46 (by decide) ?_
          refine r_iload_n dX4_doesFit_47 rfl ?_
          refine r_imul dX4_doesFit_48 ?_
          refine r_top (nI (5 * v)) (pk_mul _ _) ?_
          refine r_aload_n dX4_doesFit_49 rfl ?_
          refine r_getRv fX4_109 (hl.1) (v := aSSack) ((l_sSack hl).1) rfl dX4_doesFit_50 ?_
          refine r_iload_n dX4_doesFit_53 rfl ?_
          refine r_ialdv ((l_sSack hl).2.1) ((l_sSack hl).2.2) (ix_n (by omega) (by decide)) (v := nI s9) ((hS.1 _ (by omega)).trans es9) dX4_doesFit_54 ?_
          refine r_iadd dX4_doesFit_55 ?_
          refine r_top (nI (5 * v + s9)) (nI_add _ _) ?_
          refine r_ialdv ((l_manyBy hl).2.1) ((l_manyBy hl).2.2) (ix_n (by omega) (by decide)) (v := MY (5 * v + s9)) (hM _ (by omega)) dX4_doesFit_56 ?_
          refine r_aload_n dX4_doesFit_57 rfl ?_
          refine r_getRv fX4_112 (hl.1) (v := aSMany) ((l_sMany hl).1) rfl dX4_doesFit_58 ?_
          refine r_iload_n dX4_doesFit_61 rfl ?_
          refine r_ialdv ((l_sMany hl).2.1) ((l_sMany hl).2.2) (ix_n (by omega) (by decide)) (v := R.m i) (hS.2.1 _ (by omega)) dX4_doesFit_62 ?_
          refine r_icmp_lt (tgt := 70) dX4_doesFit_63 rfl (fun c8 => ?_) (fun c8 => ?_)
          · --
            refine r_iconst (v := nI 0) dX4_doesFit_70 (by decide) ?_
            refine r_istore dX4_doesFit_71 (by decide) rfl ?_
            refine r_iload dX4_doesFit_73 rfl ?_
            refine r_aload_n dX4_doesFit_75 rfl ?_
            refine r_getRv fX4_115 (hl.1) (v := aSIs) ((l_sIs hl).1) rfl dX4_doesFit_76 ?_
            refine r_iload_n dX4_doesFit_79 rfl ?_
            refine r_ialdv ((l_sIs hl).2.1) ((l_sIs hl).2.2) (ix_n (by omega) (by decide)) (v := R.i i) (hS.2.2.1 _ (by omega)) dX4_doesFit_80 ?_
            refine r_icmp_eq (tgt := 86) dX4_doesFit_81 rfl (fun c9 => ?_) (fun c9 => ?_)
            · --
              refine r_iincN (n := 1) dX4_doesFit_86 rfl rfl (by decide) rfl ?_
              refine r_goto (tgt := 2) dX4_doesFit_89 rfl ?_
              refine r_sub [some (vR aM), some (vI (nI v)), some (vI k9), some (vI (nI (i + 1))), none] (And.intro rfl (And.intro rfl (And.intro rfl (And.intro rfl trivial)))) ?_
              exact ihi (by omega) (allB_s qi (by unfold hdV; rw [es9, nI_clamp (by omega)]; simp [c2, c3, c7, c8, c9]))
            · --
              refine r_iconst (v := nI 0) dX4_doesFit_84 (by decide) ?_
              exact r_ret0 dX4_doesFit_85 rfl ((allB_f (i := i) (by omega) (by unfold hdV; rw [es9, nI_clamp (by omega)]; simp [c2, c3, c7, c8, c9])))
          · --
            refine r_iconst (v := nI 1) dX4_doesFit_66 (by decide) ?_
            refine r_goto (tgt := 71) dX4_doesFit_67 rfl ?_
            refine r_istore dX4_doesFit_71 (by decide) rfl ?_
            refine r_iload dX4_doesFit_73 rfl ?_
            refine r_aload_n dX4_doesFit_75 rfl ?_
            refine r_getRv fX4_115 (hl.1) (v := aSIs) ((l_sIs hl).1) rfl dX4_doesFit_76 ?_
            refine r_iload_n dX4_doesFit_79 rfl ?_
            refine r_ialdv ((l_sIs hl).2.1) ((l_sIs hl).2.2) (ix_n (by omega) (by decide)) (v := R.i i) (hS.2.2.1 _ (by omega)) dX4_doesFit_80 ?_
            refine r_icmp_eq (tgt := 86) dX4_doesFit_81 rfl (fun c10 => ?_) (fun c10 => ?_)
            · --
              refine r_iincN (n := 1) dX4_doesFit_86 rfl rfl (by decide) rfl ?_
              refine r_goto (tgt := 2) dX4_doesFit_89 rfl ?_
              refine r_sub [some (vR aM), some (vI (nI v)), some (vI k9), some (vI (nI (i + 1))), none] (And.intro rfl (And.intro rfl (And.intro rfl (And.intro rfl trivial)))) ?_
              exact ihi (by omega) (allB_s qi (by unfold hdV; rw [es9, nI_clamp (by omega)]; simp [c2, c3, c7, c8, c10]))
            · --
              refine r_iconst (v := nI 0) dX4_doesFit_84 (by decide) ?_
              exact r_ret0 dX4_doesFit_85 rfl ((allB_f (i := i) (by omega) (by unfold hdV; rw [es9, nI_clamp (by omega)]; simp [c2, c3, c7, c8, c10])))
        · --
          refine r_goto (tgt := 86) dX4_doesFit_39 rfl ?_
          refine r_iincN (n := 1) dX4_doesFit_86 rfl rfl (by decide) rfl ?_
          refine r_goto (tgt := 2) dX4_doesFit_89 rfl ?_
          exact ihi (by omega) (allB_s qi (by unfold hdV; rw [es9, nI_clamp (by omega)]; simp [c2, c3, c7]))
