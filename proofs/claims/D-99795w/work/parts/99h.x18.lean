/-! ===== THE SYSTEM: rows told by numbers (walks by program) ===== -/
set_option maxRecDepth 100000

def chV (S v w : Nat) : Int32 := if nI (skI S v w) = nI S then -1 else nI (skI S v w)
section NR
variable {b : Bk}
theorem nr_0 (h : nT b = 0) : nI 0 = nI (nRow b) := by unfold nRow; rw [if_pos h]
theorem nr_1 (h : nT b = 1) : nI (nS b + 1) = nI (nRow b) := by
  unfold nRow hid
  rw [if_neg (by omega), if_pos (by omega), h, Nat.pow_one]
theorem nr_2 (h0 : ¬ nT b = 0) (h1 : ¬ nT b = 1) : nI ((nS b + 1) * (nS b + 1)) = nI (nRow b) := by
  unfold nRow hid
  rw [if_neg h0, if_neg (by omega), Nat.pow_two]
end NR

theorem x0_choices {G : ev_G} {b : Bk} {K : XK} {T : Nat → Int32} {h : ev_H} (hm : XM b K T h) : Called G mX0_choices 2 0 0 [vR 64] h (px (vI (nI (nS b + 1))) h) := by
  have hb := hm.xb
  have hT := hm.xt
  have hl := hm.lay
  have hw := hm.bw
  have hb1 := hw.p6
  have hb2 := hw.s5
  have hb3 := hw.t10
  have hw9 := hm.tw
  refine called_of rfl [some (vR 64)] rfl (Nat.le_of_ble_eq_true rfl) ?_
  refine r_aload_n dX0_choices_0 rfl ?_
  refine r_callVx lX0_153 (x0_sacks hm) (hl.k) rfl rfl rfl rfl dX0_choices_1 (Nat.le_refl _) (Nat.le_refl _) ?_
  refine r_iconst (v := nI 1) dX0_choices_4 (by decide) ?_
  refine r_iadd dX0_choices_5 ?_
  refine r_top (nI (nS b + 1)) (nI_add _ _) ?_
  exact r_retx dX0_choices_6 rfl rfl (rfl)

theorem x0_rowsInAll {G : ev_G} {b : Bk} {K : XK} {T : Nat → Int32} {h : ev_H} (hm : XM b K T h) : Called G mX0_rowsInAll 3 0 0 [vR 64] h (px (vI (nI (nRow b))) h) := by
  have hb := hm.xb
  have hT := hm.xt
  have hl := hm.lay
  have hw := hm.bw
  have hb1 := hw.p6
  have hb2 := hw.s5
  have hb3 := hw.t10
  have hw9 := hm.tw
  refine called_of rfl [some (vR 64)] rfl (Nat.le_of_ble_eq_true rfl) ?_
  refine r_aload_n dX0_rowsInAll_0 rfl ?_
  refine r_callVx lX0_140 (x0_things hm) (hl.k) rfl rfl rfl rfl dX0_rowsInAll_1 (Nat.le_refl _) (Nat.le_refl _) ?_
  refine r_if_ne (tgt := 11) dX0_rowsInAll_4 rfl (fun c1 => ?_) (fun c1 => ?_)
  · --
    refine r_aload_n dX0_rowsInAll_11 rfl ?_
    refine r_callVx lX0_140 (x0_things hm) (hl.k) rfl rfl rfl rfl dX0_rowsInAll_12 (Nat.le_refl _) (Nat.le_refl _) ?_
    refine r_iconst (v := nI 1) dX0_rowsInAll_15 (by decide) ?_
    refine r_icmpN_ne (tgt := 26) dX0_rowsInAll_16 rfl (by omega) (by omega) (fun c2 => ?_) (fun c2 => ?_)
    · --
      refine r_aload_n dX0_rowsInAll_26 rfl ?_
      refine r_callVx lX0_353 (x0_choices hm) (hl.k) rfl rfl rfl rfl dX0_rowsInAll_27 (Nat.le_refl _) (Nat.le_refl _) ?_
      refine r_aload_n dX0_rowsInAll_30 rfl ?_
      refine r_callVx lX0_353 (x0_choices hm) (hl.k) rfl rfl rfl rfl dX0_rowsInAll_31 (Nat.le_refl _) (Nat.le_refl _) ?_
      refine r_imul dX0_rowsInAll_34 ?_
      refine r_top (nI ((nS b + 1) * (nS b + 1))) (pk_mul _ _) ?_
      exact r_retx dX0_rowsInAll_35 rfl rfl (nr_2 (fun e => c1 (by rw [e]; rfl)) c2)
    · --
      refine r_aload_n dX0_rowsInAll_19 rfl ?_
      refine r_callVx lX0_353 (x0_choices hm) (hl.k) rfl rfl rfl rfl dX0_rowsInAll_20 (Nat.le_refl _) (Nat.le_refl _) ?_
      refine r_goto (tgt := 35) dX0_rowsInAll_23 rfl ?_
      exact r_retx dX0_rowsInAll_35 rfl rfl (nr_1 c2)
  · --
    refine r_iconst (v := nI 0) dX0_rowsInAll_7 (by decide) ?_
    refine r_goto (tgt := 35) dX0_rowsInAll_8 rfl ?_
    exact r_retx dX0_rowsInAll_35 rfl rfl (nr_0 (nI_z (by omega) c1))

theorem x0_choice {G : ev_G} {b : Bk} {K : XK} {T : Nat → Int32} {h : ev_H} (hm : XM b K T h) {v w : Nat} (hv : v < 2 ^ 31) : Called G mX0_choice 3 0 0 [vR 64, vI (nI v), vI (nI w)] h (px (vI (chV (nS b) v w)) h) := by
  have hb := hm.xb
  have hT := hm.xt
  have hl := hm.lay
  have hw := hm.bw
  have hb1 := hw.p6
  have hb2 := hw.s5
  have hb3 := hw.t10
  have hw9 := hm.tw
  refine called_of rfl [some (vR 64), some (vI (nI v)), some (vI (nI w)), none] rfl (Nat.le_of_ble_eq_true rfl) ?_
  refine r_iload_n dX0_choice_0 rfl ?_
  refine r_if_ne (tgt := 13) dX0_choice_1 rfl (fun c1 => ?_) (fun c1 => ?_)
  · --
    refine r_iload_n dX0_choice_13 rfl ?_
    refine r_aload_n dX0_choice_14 rfl ?_
    refine r_callVx lX0_353 (x0_choices hm) (hl.k) rfl rfl rfl rfl dX0_choice_15 (Nat.le_refl _) (Nat.le_refl _) ?_
    refine r_idiv dX0_choice_18 (nI_ne0 (by omega) (by omega)) ?_
    refine r_top (nI (v / (nS b + 1))) (pk_div (hv) (by omega) (by omega)) ?_
    refine r_istore_n dX0_choice_19 (by decide) rfl ?_
    refine r_iload_n dX0_choice_20 rfl ?_
    refine r_aload_n dX0_choice_21 rfl ?_
    refine r_callVx lX0_153 (x0_sacks hm) (hl.k) rfl rfl rfl rfl dX0_choice_22 (Nat.le_refl _) (Nat.le_refl _) ?_
    refine r_icmp_ne (tgt := 32) dX0_choice_25 rfl (fun c2 => ?_) (fun c2 => ?_)
    · --
      refine r_iload_n dX0_choice_32 rfl ?_
      exact r_retx dX0_choice_33 rfl rfl (by unfold chV skI; rw [if_neg c1]; exact (if_neg c2).symm)
    · --
      refine r_iconst (v := (-1)) dX0_choice_28 (by decide) ?_
      refine r_goto (tgt := 33) dX0_choice_29 rfl ?_
      exact r_retx dX0_choice_33 rfl rfl (by unfold chV skI; rw [if_neg c1]; exact (if_pos c2).symm)
  · --
    refine r_iload_n dX0_choice_4 rfl ?_
    refine r_aload_n dX0_choice_5 rfl ?_
    refine r_callVx lX0_353 (x0_choices hm) (hl.k) rfl rfl rfl rfl dX0_choice_6 (Nat.le_refl _) (Nat.le_refl _) ?_
    refine r_irem dX0_choice_9 (nI_ne0 (by omega) (by omega)) ?_
    refine r_top (nI (v % (nS b + 1))) (pk_rem (hv) (by omega) (by omega)) ?_
    refine r_goto (tgt := 19) dX0_choice_10 rfl ?_
    refine r_istore_n dX0_choice_19 (by decide) rfl ?_
    refine r_iload_n dX0_choice_20 rfl ?_
    refine r_aload_n dX0_choice_21 rfl ?_
    refine r_callVx lX0_153 (x0_sacks hm) (hl.k) rfl rfl rfl rfl dX0_choice_22 (Nat.le_refl _) (Nat.le_refl _) ?_
    refine r_icmp_ne (tgt := 32) dX0_choice_25 rfl (fun c3 => ?_) (fun c3 => ?_)
    · --
      refine r_iload_n dX0_choice_32 rfl ?_
      exact r_retx dX0_choice_33 rfl rfl (by unfold chV skI; rw [if_pos c1]; exact (if_neg c3).symm)
    · --
      refine r_iconst (v := (-1)) dX0_choice_28 (by decide) ?_
      refine r_goto (tgt := 33) dX0_choice_29 rfl ?_
      exact r_retx dX0_choice_33 rfl rfl (by unfold chV skI; rw [if_pos c1]; exact (if_pos c3).symm)
