/-! ===== THE REFERENCE: heard, feed, shyest, rows (walks by program) ===== -/
set_option maxRecDepth 100000

theorem c_heard {G : ev_G} {b : Bk} {k : Nat} {h : ev_H} (hm : MB b k h) {nh : Nat} {tm : Int32} {R : HR} (hnh : hI h aM 60 = nI nh) (hn30 : nh ≤ 30) (htm : hI h aM 61 = tm) (hS : MS R h) (s n : Int32) (is : Bool) : Called G mX4_heard 2 0 0 [vR aM, vI s, vI n, vI (b2i is)] h (pI (fun y h1 => y = (if hdOk b nh s n then nI nh else -1) ∧ Fr [aSSack, aSMany, aSIs, aSTold, aSUntold] [60] h h1 ∧ MS (if hdOk b nh s n then hrAdd R nh s n (b2i is) tm else R) h1 ∧ hI h1 aM 60 = (if hdOk b nh s n then nI (nh + 1) else nI nh))) := by
  have hl := hm.lay
  have hk2 := hm.k2
  have hb := hm.bw
  have hb1 := hb.p6
  have hb2 := hb.s5
  have hb3 := hb.t10
  refine called_of rfl [some (vR aM), some (vI s), some (vI n), some (vI (b2i is))] rfl (Nat.le_of_ble_eq_true rfl) ?_
  refine r_aload_n dX4_heard_0 rfl ?_
  refine r_iload_n dX4_heard_1 rfl ?_
  refine r_callVx lX4_425 (c_isSack hm _) (hl.1) rfl rfl rfl rfl dX4_heard_2 (Nat.le_refl _) (Nat.le_refl _) ?_
  refine r_ifB_eq (tgt := 34) dX4_heard_5 rfl (fun c1 => ?_) (fun c1 => ?_)
  · --
    refine r_iconst (v := (-1)) dX4_heard_34 (by decide) ?_
    exact r_reti dX4_heard_35 rfl rfl (Nat.le_refl _) (Nat.le_refl _) ⟨if_n (by simp [hdOk, c1]) rfl, Fr.rf, hS.neg (by simp [hdOk, c1]), if_n (by simp [hdOk, c1]) hnh⟩
  · --
    refine r_iload_n dX4_heard_8 rfl ?_
    refine r_iconst (v := 0) dX4_heard_9 (by decide) ?_
    refine r_bipush (v := nI 10) dX4_heard_10 (by decide) ?_
    refine r_callSx lX4_361 (c_isIn _ _ _) rfl rfl rfl rfl dX4_heard_12 (Nat.le_refl _) (Nat.le_refl _) ?_
    refine r_ifB_eq (tgt := 34) dX4_heard_15 rfl (fun c2 => ?_) (fun c2 => ?_)
    · --
      refine r_iconst (v := (-1)) dX4_heard_34 (by decide) ?_
      exact r_reti dX4_heard_35 rfl rfl (Nat.le_refl _) (Nat.le_refl _) ⟨if_n (by simp [hdOk, c1, c2]) rfl, Fr.rf, hS.neg (by simp [hdOk, c1, c2]), if_n (by simp [hdOk, c1, c2]) hnh⟩
    · --
      refine r_aload_n dX4_heard_18 rfl ?_
      refine r_getIv fX4_380 (hl.1) (v := nI nh) (hnh) rfl dX4_heard_19 ?_
      refine r_bipush (v := nI 30) dX4_heard_22 (by decide) ?_
      refine r_icmpN_eq (tgt := 34) dX4_heard_24 rfl (by omega) (by omega) (fun c3 => ?_) (fun c3 => ?_)
      · --
        refine r_iconst (v := (-1)) dX4_heard_34 (by decide) ?_
        exact r_reti dX4_heard_35 rfl rfl (Nat.le_refl _) (Nat.le_refl _) ⟨if_n (by simp [hdOk, c1, c2, c3]) rfl, Fr.rf, hS.neg (by simp [hdOk, c1, c2, c3]), if_n (by simp [hdOk, c1, c2, c3]) hnh⟩
      · --
        refine r_aload_n dX4_heard_27 rfl ?_
        refine r_callVx lX4_368 (c_many hm) (hl.1) rfl rfl rfl rfl dX4_heard_28 (Nat.le_refl _) (Nat.le_refl _) ?_
        refine r_if_ne (tgt := 36) dX4_heard_31 rfl (fun c4 => ?_) (fun c4 => ?_)
        · --
          refine r_aload_n dX4_heard_36 rfl ?_
          refine r_getRv fX4_109 (hl.1) (v := aSSack) ((l_sSack hl).1) rfl dX4_heard_37 ?_
          refine r_aload_n dX4_heard_40 rfl ?_
          refine r_getIv fX4_380 (hl.1) (v := nI nh) (hnh) rfl dX4_heard_41 ?_
          refine r_iload_n dX4_heard_44 rfl ?_
          refine r_iastv ((l_sSack hl).2.1) (by decide) ((l_sSack hl).2.2) (ix_n (by omega) (by decide)) dX4_heard_45 ?_
          refine r_aload_n dX4_heard_46 rfl ?_
          refine r_getRv fX4_112 (hl.1) (v := aSMany) ((l_sMany hl).1) rfl dX4_heard_47 ?_
          refine r_aload_n dX4_heard_50 rfl ?_
          refine r_getIv fX4_380 (hl.1) (v := nI nh) (hnh) rfl dX4_heard_51 ?_
          refine r_iload_n dX4_heard_54 rfl ?_
          refine r_iastv ((l_sMany hl).2.1) (by decide) ((l_sMany hl).2.2) (ix_n (by omega) (by decide)) dX4_heard_55 ?_
          refine r_aload_n dX4_heard_56 rfl ?_
          refine r_getRv fX4_115 (hl.1) (v := aSIs) ((l_sIs hl).1) rfl dX4_heard_57 ?_
          refine r_aload_n dX4_heard_60 rfl ?_
          refine r_getIv fX4_380 (hl.1) (v := nI nh) (hnh) rfl dX4_heard_61 ?_
          refine r_iload_n dX4_heard_64 rfl ?_
          refine r_ifB_eq (tgt := 72) dX4_heard_65 rfl (fun c5 => ?_) (fun c5 => ?_)
          · --
            refine r_iconst (v := nI 0) dX4_heard_72 (by decide) ?_
            refine r_iastv ((l_sIs hl).2.1) (by decide) ((l_sIs hl).2.2) (ix_n (by omega) (by decide)) dX4_heard_73 ?_
            refine r_aload_n dX4_heard_74 rfl ?_
            refine r_getRv fX4_118 (hl.1) (v := aSTold) ((l_sTold hl).1) rfl dX4_heard_75 ?_
            refine r_aload_n dX4_heard_78 rfl ?_
            refine r_getIv fX4_380 (hl.1) (v := nI nh) (hnh) rfl dX4_heard_79 ?_
            refine r_aload_n dX4_heard_82 rfl ?_
            refine r_getIv fX4_482 (hl.1) (v := tm) (htm) rfl dX4_heard_83 ?_
            refine r_iastv ((l_sTold hl).2.1) (by decide) ((l_sTold hl).2.2) (ix_n (by omega) (by decide)) dX4_heard_86 ?_
            refine r_aload_n dX4_heard_87 rfl ?_
            refine r_getRv fX4_121 (hl.1) (v := aSUntold) ((l_sUntold hl).1) rfl dX4_heard_88 ?_
            refine r_aload_n dX4_heard_91 rfl ?_
            refine r_getIv fX4_380 (hl.1) (v := nI nh) (hnh) rfl dX4_heard_92 ?_
            refine r_iconst (v := (-1)) dX4_heard_95 (by decide) ?_
            refine r_iastv ((l_sUntold hl).2.1) (by decide) ((l_sUntold hl).2.2) (ix_n (by omega) (by decide)) dX4_heard_96 ?_
            refine r_aload_n dX4_heard_97 rfl ?_
            refine r_dup dX4_heard_98 rfl ?_
            refine r_getIv fX4_380 (hl.1) (v := nI nh) (hnh) rfl dX4_heard_99 ?_
            refine r_iconst (v := nI 1) dX4_heard_102 (by decide) ?_
            refine r_iadd dX4_heard_103 ?_
            refine r_top (nI (nh + 1)) (nI_add _ _) ?_
            refine r_putN fX4_380 (hl.1) (by decide) dX4_heard_104 ?_
            refine r_aload_n dX4_heard_107 rfl ?_
            refine r_getIv fX4_380 (hl.1) (v := nI (nh + 1)) (rfl) rfl dX4_heard_108 ?_
            refine r_iconst (v := nI 1) dX4_heard_111 (by decide) ?_
            refine r_isub dX4_heard_112 ?_
            refine r_top (nI (nh + 1 - 1)) (pk_sub (by omega)) ?_
            exact r_reti dX4_heard_113 rfl rfl (Nat.le_refl _) (Nat.le_refl _) ⟨if_p (by simp [hdOk, c1, c2, c3, c4, c5]) rfl, (((((Fr.rf.sa aSSack _ _ (by decide)).sa aSMany _ _ (by decide)).sa aSIs _ _ (by decide)).sa aSTold _ _ (by decide)).sa aSUntold _ _ (by decide)).sf 60 _ (by decide), MS.pos (by simp [hdOk, c1, c2, c3, c4, c5]) (MS.fr (by rw [c5]; exact hS.add nh s n _ tm) ((Fr.rf (as := []) (fs := [60])).sf 60 _ (by decide)) (by decide)), if_p (by simp [hdOk, c1, c2, c3, c4, c5]) rfl⟩
          · --
            refine r_iconst (v := nI 1) dX4_heard_68 (by decide) ?_
            refine r_goto (tgt := 73) dX4_heard_69 rfl ?_
            refine r_iastv ((l_sIs hl).2.1) (by decide) ((l_sIs hl).2.2) (ix_n (by omega) (by decide)) dX4_heard_73 ?_
            refine r_aload_n dX4_heard_74 rfl ?_
            refine r_getRv fX4_118 (hl.1) (v := aSTold) ((l_sTold hl).1) rfl dX4_heard_75 ?_
            refine r_aload_n dX4_heard_78 rfl ?_
            refine r_getIv fX4_380 (hl.1) (v := nI nh) (hnh) rfl dX4_heard_79 ?_
            refine r_aload_n dX4_heard_82 rfl ?_
            refine r_getIv fX4_482 (hl.1) (v := tm) (htm) rfl dX4_heard_83 ?_
            refine r_iastv ((l_sTold hl).2.1) (by decide) ((l_sTold hl).2.2) (ix_n (by omega) (by decide)) dX4_heard_86 ?_
            refine r_aload_n dX4_heard_87 rfl ?_
            refine r_getRv fX4_121 (hl.1) (v := aSUntold) ((l_sUntold hl).1) rfl dX4_heard_88 ?_
            refine r_aload_n dX4_heard_91 rfl ?_
            refine r_getIv fX4_380 (hl.1) (v := nI nh) (hnh) rfl dX4_heard_92 ?_
            refine r_iconst (v := (-1)) dX4_heard_95 (by decide) ?_
            refine r_iastv ((l_sUntold hl).2.1) (by decide) ((l_sUntold hl).2.2) (ix_n (by omega) (by decide)) dX4_heard_96 ?_
            refine r_aload_n dX4_heard_97 rfl ?_
            refine r_dup dX4_heard_98 rfl ?_
            refine r_getIv fX4_380 (hl.1) (v := nI nh) (hnh) rfl dX4_heard_99 ?_
            refine r_iconst (v := nI 1) dX4_heard_102 (by decide) ?_
            refine r_iadd dX4_heard_103 ?_
            refine r_top (nI (nh + 1)) (nI_add _ _) ?_
            refine r_putN fX4_380 (hl.1) (by decide) dX4_heard_104 ?_
            refine r_aload_n dX4_heard_107 rfl ?_
            refine r_getIv fX4_380 (hl.1) (v := nI (nh + 1)) (rfl) rfl dX4_heard_108 ?_
            refine r_iconst (v := nI 1) dX4_heard_111 (by decide) ?_
            refine r_isub dX4_heard_112 ?_
            refine r_top (nI (nh + 1 - 1)) (pk_sub (by omega)) ?_
            exact r_reti dX4_heard_113 rfl rfl (Nat.le_refl _) (Nat.le_refl _) ⟨if_p (by simp [hdOk, c1, c2, c3, c4, c5]) rfl, (((((Fr.rf.sa aSSack _ _ (by decide)).sa aSMany _ _ (by decide)).sa aSIs _ _ (by decide)).sa aSTold _ _ (by decide)).sa aSUntold _ _ (by decide)).sf 60 _ (by decide), MS.pos (by simp [hdOk, c1, c2, c3, c4, c5]) (MS.fr (by rw [c5]; exact hS.add nh s n _ tm) ((Fr.rf (as := []) (fs := [60])).sf 60 _ (by decide)) (by decide)), if_p (by simp [hdOk, c1, c2, c3, c4, c5]) rfl⟩
        · --
          refine r_iconst (v := (-1)) dX4_heard_34 (by decide) ?_
          exact r_reti dX4_heard_35 rfl rfl (Nat.le_refl _) (Nat.le_refl _) ⟨if_n (by simp [hdOk, c1, c2, c3, c4]) rfl, Fr.rf, hS.neg (by simp [hdOk, c1, c2, c3, c4]), if_n (by simp [hdOk, c1, c2, c3, c4]) hnh⟩

theorem c_doesKeep {G : ev_G} {b : Bk} {k : Nat} {h : ev_H} (hm : MB b k h) {T : Nat → Int32} (hT : MT T h) (p o : Int32) : Called G mX4_doesKeep 2 0 0 [vR aM, vI p, vI o] h (px (vI (b2i (dkV b T p o))) h) := by
  have hl := hm.lay
  have hk2 := hm.k2
  have hb := hm.bw
  have hb1 := hb.p6
  have hb2 := hb.s5
  have hb3 := hb.t10
  refine called_of rfl [some (vR aM), some (vI p), some (vI o)] rfl (Nat.le_of_ble_eq_true rfl) ?_
  refine r_aload_n dX4_doesKeep_0 rfl ?_
  refine r_iload_n dX4_doesKeep_1 rfl ?_
  refine r_callVx lX4_413 (c_byOf hm _) (hl.1) rfl rfl rfl rfl dX4_doesKeep_2 (Nat.le_refl _) (Nat.le_refl _) ?_
  refine r_aload_n dX4_doesKeep_5 rfl ?_
  refine r_iload_n dX4_doesKeep_6 rfl ?_
  refine r_callVx lX4_419 (c_toOf hm _) (hl.1) rfl rfl rfl rfl dX4_doesKeep_7 (Nat.le_refl _) (Nat.le_refl _) ?_
  refine r_iand dX4_doesKeep_10 ?_
  refine r_aload_n dX4_doesKeep_11 rfl ?_
  refine r_callVx lX4_416 (c_keptNow hm hT) (hl.1) rfl rfl rfl rfl dX4_doesKeep_12 (Nat.le_refl _) (Nat.le_refl _) ?_
  refine r_iand dX4_doesKeep_15 ?_
  refine r_if_eq (tgt := 23) dX4_doesKeep_16 rfl (fun c1 => ?_) (fun c1 => ?_)
  · --
    refine r_iconst (v := nI 0) dX4_doesKeep_23 (by decide) ?_
    exact r_ret0 dX4_doesKeep_24 rfl (by simp [dkV, c1])
  · --
    refine r_iconst (v := nI 1) dX4_doesKeep_19 (by decide) ?_
    refine r_goto (tgt := 24) dX4_doesKeep_20 rfl ?_
    exact r_ret1 dX4_doesKeep_24 rfl (by simp [dkV, c1])

theorem c_inRow {G : ev_G} {b : Bk} {k : Nat} {h : ev_H} (hm : MB b k h) {v n k9 : Nat} (hv : v < 2 ^ 31) (h0 : 0 < nS b) (hk : k9 < n) (hn : n < 2 ^ 31) (hpw : (nS b) ^ (n - 1 - k9) < 2 ^ 31) : Called G mX4_inRow 2 0 0 [vR aM, vI (nI v), vI (nI n), vI (nI k9)] h (px (vI (nI (dig (nS b) v n k9))) h) := by
  have hl := hm.lay
  have hk2 := hm.k2
  have hb := hm.bw
  have hb1 := hb.p6
  have hb2 := hb.s5
  have hb3 := hb.t10
  have hp0 : 0 < (nS b) ^ (n - 1 - k9) := Nat.pow_pos h0
  have hd9 : v / (nS b) ^ (n - 1 - k9) ≤ v := Nat.div_le_self _ _
  refine called_of rfl [some (vR aM), some (vI (nI v)), some (vI (nI n)), some (vI (nI k9))] rfl (Nat.le_of_ble_eq_true rfl) ?_
  refine r_iload_n dX4_inRow_0 rfl ?_
  refine r_aload_n dX4_inRow_1 rfl ?_
  refine r_callVx lX4_365 (c_bags hm) (hl.1) rfl rfl rfl rfl dX4_inRow_2 (Nat.le_refl _) (Nat.le_refl _) ?_
  refine r_iload_n dX4_inRow_5 rfl ?_
  refine r_iconst (v := nI 1) dX4_inRow_6 (by decide) ?_
  refine r_isub dX4_inRow_7 ?_
  refine r_top (nI (n - 1)) (pk_sub (by omega)) ?_
  refine r_iload_n dX4_inRow_8 rfl ?_
  refine r_isub dX4_inRow_9 ?_
  refine r_top (nI (n - 1 - k9)) (pk_sub (by omega)) ?_
  refine r_callSx lX4_455 (by have h9 := c_power (G := G) (h := h) (nI (nS b)) (n := n - 1 - k9) (by omega); rw [ipow_n] at h9; exact h9) rfl rfl rfl rfl dX4_inRow_10 (Nat.le_refl _) (Nat.le_refl _) ?_
  refine r_idiv dX4_inRow_13 (nI_ne0 (by omega) (by omega)) ?_
  refine r_top (nI (v / ((nS b) ^ (n - 1 - k9)))) (pk_div (by omega) (by omega) (by omega)) ?_
  refine r_aload_n dX4_inRow_14 rfl ?_
  refine r_callVx lX4_365 (c_bags hm) (hl.1) rfl rfl rfl rfl dX4_inRow_15 (Nat.le_refl _) (Nat.le_refl _) ?_
  refine r_irem dX4_inRow_18 (nI_ne0 (by omega) (by omega)) ?_
  refine r_top (nI ((v / ((nS b) ^ (n - 1 - k9))) % (nS b))) (pk_rem (by omega) (by omega) (by omega)) ?_
  exact r_retx dX4_inRow_19 rfl rfl (rfl)

theorem c_inOrder {G : ev_G} {b : Bk} {k : Nat} {h : ev_H} (hm : MB b k h) {v n k9 : Nat} (hv : v < 2 ^ 31) (h0 : 0 < nP b) (hk : k9 < n) (hn : n < 2 ^ 31) (hpw : (nP b) ^ (n - 1 - k9) < 2 ^ 31) : Called G mX4_inOrder 2 0 0 [vR aM, vI (nI v), vI (nI n), vI (nI k9)] h (px (vI (nI (dig (nP b) v n k9))) h) := by
  have hl := hm.lay
  have hk2 := hm.k2
  have hb := hm.bw
  have hb1 := hb.p6
  have hb2 := hb.s5
  have hb3 := hb.t10
  have hp0 : 0 < (nP b) ^ (n - 1 - k9) := Nat.pow_pos h0
  have hd9 : v / (nP b) ^ (n - 1 - k9) ≤ v := Nat.div_le_self _ _
  refine called_of rfl [some (vR aM), some (vI (nI v)), some (vI (nI n)), some (vI (nI k9))] rfl (Nat.le_of_ble_eq_true rfl) ?_
  refine r_iload_n dX4_inOrder_0 rfl ?_
  refine r_aload_n dX4_inOrder_1 rfl ?_
  refine r_callVx lX4_358 (c_folk hm) (hl.1) rfl rfl rfl rfl dX4_inOrder_2 (Nat.le_refl _) (Nat.le_refl _) ?_
  refine r_iload_n dX4_inOrder_5 rfl ?_
  refine r_iconst (v := nI 1) dX4_inOrder_6 (by decide) ?_
  refine r_isub dX4_inOrder_7 ?_
  refine r_top (nI (n - 1)) (pk_sub (by omega)) ?_
  refine r_iload_n dX4_inOrder_8 rfl ?_
  refine r_isub dX4_inOrder_9 ?_
  refine r_top (nI (n - 1 - k9)) (pk_sub (by omega)) ?_
  refine r_callSx lX4_455 (by have h9 := c_power (G := G) (h := h) (nI (nP b)) (n := n - 1 - k9) (by omega); rw [ipow_n] at h9; exact h9) rfl rfl rfl rfl dX4_inOrder_10 (Nat.le_refl _) (Nat.le_refl _) ?_
  refine r_idiv dX4_inOrder_13 (nI_ne0 (by omega) (by omega)) ?_
  refine r_top (nI (v / ((nP b) ^ (n - 1 - k9)))) (pk_div (by omega) (by omega) (by omega)) ?_
  refine r_aload_n dX4_inOrder_14 rfl ?_
  refine r_callVx lX4_358 (c_folk hm) (hl.1) rfl rfl rfl rfl dX4_inOrder_15 (Nat.le_refl _) (Nat.le_refl _) ?_
  refine r_irem dX4_inOrder_18 (nI_ne0 (by omega) (by omega)) ?_
  refine r_top (nI ((v / ((nP b) ^ (n - 1 - k9))) % (nP b))) (pk_rem (by omega) (by omega) (by omega)) ?_
  exact r_retx dX4_inOrder_19 rfl rfl (rfl)

theorem c_hidden {G : ev_G} {b : Bk} {k : Nat} {h : ev_H} (hm : MB b k h) : Called G mX4_hidden 1 0 0 [vR aM] h (px (vI (nI (hid b))) h) := by
  have hl := hm.lay
  have hk2 := hm.k2
  have hb := hm.bw
  have hb1 := hb.p6
  have hb2 := hb.s5
  have hb3 := hb.t10
  refine called_of rfl [some (vR aM)] rfl (Nat.le_of_ble_eq_true rfl) ?_
  refine r_aload_n dX4_hidden_0 rfl ?_
  refine r_callVx lX4_368 (c_many hm) (hl.1) rfl rfl rfl rfl dX4_hidden_1 (Nat.le_refl _) (Nat.le_refl _) ?_
  refine r_iconst (v := nI 2) dX4_hidden_4 (by decide) ?_
  refine r_icmpN_ge (tgt := 15) dX4_hidden_5 rfl (by omega) (by omega) (fun c1 => ?_) (fun c1 => ?_)
  · --
    refine r_iconst (v := nI 2) dX4_hidden_15 (by decide) ?_
    exact r_retx dX4_hidden_16 rfl rfl (by unfold hid; rw [if_neg (by omega)])
  · --
    refine r_aload_n dX4_hidden_8 rfl ?_
    refine r_callVx lX4_368 (c_many hm) (hl.1) rfl rfl rfl rfl dX4_hidden_9 (Nat.le_refl _) (Nat.le_refl _) ?_
    refine r_goto (tgt := 16) dX4_hidden_12 rfl ?_
    exact r_retx dX4_hidden_16 rfl rfl (by unfold hid; rw [if_pos (by omega)])

theorem c_sackIn {G : ev_G} {b : Bk} {k : Nat} {h : ev_H} (hm : MB b k h) {v w9 : Nat} (hv : v < 2 ^ 31) (hw : w9 < 2 ^ 31) : Called G mX4_sackIn 1 0 0 [vR aM, vI (nI v), vI (nI w9)] h (px (vI (nI (skI (nS b) v w9))) h) := by
  have hl := hm.lay
  have hk2 := hm.k2
  have hb := hm.bw
  have hb1 := hb.p6
  have hb2 := hb.s5
  have hb3 := hb.t10
  refine called_of rfl [some (vR aM), some (vI (nI v)), some (vI (nI w9))] rfl (Nat.le_of_ble_eq_true rfl) ?_
  refine r_iload_n dX4_sackIn_0 rfl ?_
  refine r_if_ne (tgt := 15) dX4_sackIn_1 rfl (fun c1 => ?_) (fun c1 => ?_)
  · --
    refine r_iload_n dX4_sackIn_15 rfl ?_
    refine r_aload_n dX4_sackIn_16 rfl ?_
    refine r_callVx lX4_365 (c_bags hm) (hl.1) rfl rfl rfl rfl dX4_sackIn_17 (Nat.le_refl _) (Nat.le_refl _) ?_
    refine r_iconst (v := nI 1) dX4_sackIn_20 (by decide) ?_
    refine r_iadd dX4_sackIn_21 ?_
    refine r_top (nI (nS b + 1)) (nI_add _ _) ?_
    refine r_idiv dX4_sackIn_22 (nI_ne0 (by omega) (by omega)) ?_
    refine r_top (nI (v / (nS b + 1))) (pk_div (by omega) (by omega) (by omega)) ?_
    exact r_retx dX4_sackIn_23 rfl rfl (by unfold skI; rw [if_neg c1])
  · --
    refine r_iload_n dX4_sackIn_4 rfl ?_
    refine r_aload_n dX4_sackIn_5 rfl ?_
    refine r_callVx lX4_365 (c_bags hm) (hl.1) rfl rfl rfl rfl dX4_sackIn_6 (Nat.le_refl _) (Nat.le_refl _) ?_
    refine r_iconst (v := nI 1) dX4_sackIn_9 (by decide) ?_
    refine r_iadd dX4_sackIn_10 ?_
    refine r_top (nI (nS b + 1)) (nI_add _ _) ?_
    refine r_irem dX4_sackIn_11 (nI_ne0 (by omega) (by omega)) ?_
    refine r_top (nI (v % (nS b + 1))) (pk_rem (by omega) (by omega) (by omega)) ?_
    refine r_goto (tgt := 23) dX4_sackIn_12 rfl ?_
    exact r_retx dX4_sackIn_23 rfl rfl (by unfold skI; rw [if_pos c1])

theorem c_allRows {G : ev_G} {b : Bk} {k : Nat} {h : ev_H} (hm : MB b k h) : Called G mX4_allRows 2 0 0 [vR aM] h (px (vI (nI (nRow b))) h) := by
  have hl := hm.lay
  have hk2 := hm.k2
  have hb := hm.bw
  have hb1 := hb.p6
  have hb2 := hb.s5
  have hb3 := hb.t10
  have hh2 := hid_2 b
  refine called_of rfl [some (vR aM)] rfl (Nat.le_of_ble_eq_true rfl) ?_
  refine r_aload_n dX4_allRows_0 rfl ?_
  refine r_callVx lX4_368 (c_many hm) (hl.1) rfl rfl rfl rfl dX4_allRows_1 (Nat.le_refl _) (Nat.le_refl _) ?_
  refine r_if_ne (tgt := 11) dX4_allRows_4 rfl (fun c1 => ?_) (fun c1 => ?_)
  · --
    refine r_aload_n dX4_allRows_11 rfl ?_
    refine r_callVx lX4_365 (c_bags hm) (hl.1) rfl rfl rfl rfl dX4_allRows_12 (Nat.le_refl _) (Nat.le_refl _) ?_
    refine r_iconst (v := nI 1) dX4_allRows_15 (by decide) ?_
    refine r_iadd dX4_allRows_16 ?_
    refine r_top (nI (nS b + 1)) (nI_add _ _) ?_
    refine r_aload_n dX4_allRows_17 rfl ?_
    refine r_callVx lX4_486 (c_hidden hm) (hl.1) rfl rfl rfl rfl dX4_allRows_18 (Nat.le_refl _) (Nat.le_refl _) ?_
    refine r_callSx lX4_455 (by have h9 := c_power (G := G) (h := h) (nI (nS b + 1)) (n := hid b) (by omega); rw [ipow_n] at h9; exact h9) rfl rfl rfl rfl dX4_allRows_21 (Nat.le_refl _) (Nat.le_refl _) ?_
    exact r_retx dX4_allRows_24 rfl rfl (by unfold nRow; rw [if_neg (fun e => c1 (by rw [e]; rfl))])
  · --
    refine r_iconst (v := nI 0) dX4_allRows_7 (by decide) ?_
    refine r_goto (tgt := 24) dX4_allRows_8 rfl ?_
    exact r_retx dX4_allRows_24 rfl rfl (by unfold nRow; rw [if_pos (nI_z (by omega) c1)])
