/-! ===== THE SYSTEM: a noise (walks by program) ===== -/
set_option maxRecDepth 100000

theorem XLay.k95 {h : ev_H} (x : XLay h) : hK h 95 = 106 ∧ hL h 95 = 36 := ⟨x.2.2.2.1.2.2.1, x.2.2.2.1.2.2.2.1⟩
theorem XLay.cnt {h : ev_H} (x : XLay h) {j : Nat} (hj : j < 36) : hR h 95 j = 96 + j ∧ hK h (96 + j) = 100 ∧ hL h (96 + j) = 5 := x.2.2.2.1.2.2.2.2 j hj
/-- a noise lets a row be in which cv are said -/
def noV (t u m cv : Int32) (is : Bool) (k : Int32) : Bool := decide (k < t) || (!decide (u < 0) && !decide (k < u)) || decide ((if cv < m then nI 0 else nI 1) = b2i is)
section NO
variable {t u m cv k z : Int32} {is : Bool}
theorem no_1 (h : k < t) : noV t u m cv is k = true := by unfold noV; rw [decide_eq_true h]; rfl
theorem no_2 (h : ¬ u < 0) (h2 : u ≤ k) : noV t u m cv is k = true := by
  unfold noV
  rw [decide_eq_false h, decide_eq_false (Int32.not_lt.mpr h2)]
  simp
theorem no_a (h1 : ¬ k < t) (h2 : u < 0 ∨ ¬ u ≤ k) : noV t u m cv is k = decide ((if cv < m then nI 0 else nI 1) = b2i is) := by
  unfold noV
  rw [decide_eq_false h1]
  rcases h2 with e | e
  · rw [decide_eq_true e]; simp
  · rw [decide_eq_true (Int32.not_le.mp e)]; simp
theorem no_3t (h1 : ¬ k < t) (h2 : u < 0 ∨ ¬ u ≤ k) (e : (if cv < m then nI 0 else nI 1) = z) (h : z = b2i is) : noV t u m cv is k = true := by
  rw [no_a h1 h2, e]; exact decide_eq_true h
theorem no_3f (h1 : ¬ k < t) (h2 : u < 0 ∨ ¬ u ≤ k) (e : (if cv < m then nI 0 else nI 1) = z) (h : ¬ z = b2i is) : noV t u m cv is k = false := by
  rw [no_a h1 h2, e]; exact decide_eq_false h
end NO

theorem x13_untell {G : ev_G} {h : ev_H} (hl : XLay h) {x : Nat} (hc : ev_c < x) (hx : hK h x = 14) {u tm : Int32} (hu : hI h x 4 = u) (h5 : hR h x 5 = 64) (htm : hI h 64 8 = tm) : Called G mX13_untell 0 0 0 [vR x] h (pI (fun y h1 => y = (if u < 0 then 1 else 0) ∧ h1 = (if u < 0 then sI h x 4 tm else h))) := by
  refine called_of rfl [some (vR x)] rfl (Nat.le_of_ble_eq_true rfl) ?_
  refine r_aload_n dX13_untell_0 rfl ?_
  refine r_getIv fX13_15 (hx) (v := u) (hu) rfl dX13_untell_1 ?_
  refine r_if_lt (tgt := 9) dX13_untell_4 rfl (fun c1 => ?_) (fun c1 => ?_)
  · --
    refine r_aload_n dX13_untell_9 rfl ?_
    refine r_aload_n dX13_untell_10 rfl ?_
    refine r_getRv fX13_3 (hx) (v := 64) (h5) rfl dX13_untell_11 ?_
    refine r_getN fX13_29 hl.k (vI tm) (by rw [← htm]; rfl) dX13_untell_14 ?_
    refine r_putN fX13_15 (hx) (hc) dX13_untell_17 ?_
    refine r_iconst (v := nI 1) dX13_untell_20 (by decide) ?_
    exact r_reti dX13_untell_21 rfl rfl (Nat.le_refl _) (Nat.le_refl _) ⟨(if_pos c1).symm, (if_pos c1).symm⟩
  · --
    refine r_iconst (v := nI 0) dX13_untell_7 (by decide) ?_
    exact r_reti dX13_untell_8 rfl rfl (Nat.le_refl _) (Nat.le_refl _) ⟨(if_neg c1).symm, (if_neg c1).symm⟩

theorem x13_allows {G : ev_G} {h : ev_H} (hl : XLay h) {x : Nat} (hx : hK h x = 14) {u t m cv : Int32} {s v : Nat} {is : Bool} (hs5 : s < 5) (hv : v < 36) (hu : hI h x 4 = u) (h5 : hR h x 5 = 64) (ht : hI h x 2 = t) (hs0 : hI h x 0 = nI s) (hm0 : hI h x 1 = m) (hi0 : hI h x 3 = b2i is) (hcv : hI h (96 + v) s = cv) (k : Int32) : Called G mX13_allows 0 0 0 [vR x, vI (nI v), vI k] h (px (vI (b2i (noV t u m cv is k))) h) := by
  refine called_of rfl [some (vR x), some (vI (nI v)), some (vI k)] rfl (Nat.le_of_ble_eq_true rfl) ?_
  refine r_aload_n dX13_allows_0 rfl ?_
  refine r_getIv fX13_32 (hx) (v := t) (ht) rfl dX13_allows_1 ?_
  refine r_iload_n dX13_allows_4 rfl ?_
  refine r_icmp_gt (tgt := 56) dX13_allows_5 rfl (fun c1 => ?_) (fun c1 => ?_)
  · --
    refine r_iconst (v := nI 1) dX13_allows_56 (by decide) ?_
    refine r_goto (tgt := 61) dX13_allows_57 rfl ?_
    exact r_ret1 dX13_allows_61 rfl (no_1 c1)
  · --
    refine r_aload_n dX13_allows_8 rfl ?_
    refine r_getIv fX13_15 (hx) (v := u) (hu) rfl dX13_allows_9 ?_
    refine r_if_lt (tgt := 23) dX13_allows_12 rfl (fun c2 => ?_) (fun c2 => ?_)
    · --
      refine r_aload_n dX13_allows_23 rfl ?_
      refine r_getRv fX13_3 (hx) (v := 64) (h5) rfl dX13_allows_24 ?_
      refine r_getN fX13_35 hl.k (vR 95) (by rw [show (95 : Nat) = hR h 64 20 from (hl.r 20 (by decide) (by decide)).symm]; rfl) dX13_allows_27 ?_
      refine r_iload_n dX13_allows_30 rfl ?_
      refine r_aaldv (t := 6) (hl.k95.1) (by decide) (hl.k95.2) (ix_n (by omega) (by decide)) (v := 96 + v) ((hl.cnt hv).1) dX13_allows_31 ?_
      refine r_aload_n dX13_allows_32 rfl ?_
      refine r_getIv fX13_19 (hx) (v := nI s) (hs0) rfl dX13_allows_33 ?_
      refine r_ialdv ((hl.cnt hv).2.1) ((hl.cnt hv).2.2) (ix_n (by omega) (by decide)) (v := cv) (hcv) dX13_allows_36 ?_
      refine r_aload_n dX13_allows_37 rfl ?_
      refine r_getIv fX13_22 (hx) (v := m) (hm0) rfl dX13_allows_38 ?_
      refine r_icmp_lt (tgt := 48) dX13_allows_41 rfl (fun c3 => ?_) (fun c3 => ?_)
      · --
        refine r_iconst (v := nI 0) dX13_allows_48 (by decide) ?_
        refine r_aload_n dX13_allows_49 rfl ?_
        refine r_getIv fX13_25 (hx) (v := b2i is) (hi0) rfl dX13_allows_50 ?_
        refine r_icmp_ne (tgt := 60) dX13_allows_53 rfl (fun c4 => ?_) (fun c4 => ?_)
        · --
          refine r_iconst (v := nI 0) dX13_allows_60 (by decide) ?_
          exact r_ret0 dX13_allows_61 rfl (no_3f c1 (Or.inl c2) (if_pos c3) c4)
        · --
          refine r_iconst (v := nI 1) dX13_allows_56 (by decide) ?_
          refine r_goto (tgt := 61) dX13_allows_57 rfl ?_
          exact r_ret1 dX13_allows_61 rfl (no_3t c1 (Or.inl c2) (if_pos c3) c4)
      · --
        refine r_iconst (v := nI 1) dX13_allows_44 (by decide) ?_
        refine r_goto (tgt := 49) dX13_allows_45 rfl ?_
        refine r_aload_n dX13_allows_49 rfl ?_
        refine r_getIv fX13_25 (hx) (v := b2i is) (hi0) rfl dX13_allows_50 ?_
        refine r_icmp_ne (tgt := 60) dX13_allows_53 rfl (fun c5 => ?_) (fun c5 => ?_)
        · --
          refine r_iconst (v := nI 0) dX13_allows_60 (by decide) ?_
          exact r_ret0 dX13_allows_61 rfl (no_3f c1 (Or.inl c2) (if_neg c3) c5)
        · --
          refine r_iconst (v := nI 1) dX13_allows_56 (by decide) ?_
          refine r_goto (tgt := 61) dX13_allows_57 rfl ?_
          exact r_ret1 dX13_allows_61 rfl (no_3t c1 (Or.inl c2) (if_neg c3) c5)
    · --
      refine r_aload_n dX13_allows_15 rfl ?_
      refine r_getIv fX13_15 (hx) (v := u) (hu) rfl dX13_allows_16 ?_
      refine r_iload_n dX13_allows_19 rfl ?_
      refine r_icmp_le (tgt := 56) dX13_allows_20 rfl (fun c6 => ?_) (fun c6 => ?_)
      · --
        refine r_iconst (v := nI 1) dX13_allows_56 (by decide) ?_
        refine r_goto (tgt := 61) dX13_allows_57 rfl ?_
        exact r_ret1 dX13_allows_61 rfl (no_2 c2 c6)
      · --
        refine r_aload_n dX13_allows_23 rfl ?_
        refine r_getRv fX13_3 (hx) (v := 64) (h5) rfl dX13_allows_24 ?_
        refine r_getN fX13_35 hl.k (vR 95) (by rw [show (95 : Nat) = hR h 64 20 from (hl.r 20 (by decide) (by decide)).symm]; rfl) dX13_allows_27 ?_
        refine r_iload_n dX13_allows_30 rfl ?_
        refine r_aaldv (t := 6) (hl.k95.1) (by decide) (hl.k95.2) (ix_n (by omega) (by decide)) (v := 96 + v) ((hl.cnt hv).1) dX13_allows_31 ?_
        refine r_aload_n dX13_allows_32 rfl ?_
        refine r_getIv fX13_19 (hx) (v := nI s) (hs0) rfl dX13_allows_33 ?_
        refine r_ialdv ((hl.cnt hv).2.1) ((hl.cnt hv).2.2) (ix_n (by omega) (by decide)) (v := cv) (hcv) dX13_allows_36 ?_
        refine r_aload_n dX13_allows_37 rfl ?_
        refine r_getIv fX13_22 (hx) (v := m) (hm0) rfl dX13_allows_38 ?_
        refine r_icmp_lt (tgt := 48) dX13_allows_41 rfl (fun c7 => ?_) (fun c7 => ?_)
        · --
          refine r_iconst (v := nI 0) dX13_allows_48 (by decide) ?_
          refine r_aload_n dX13_allows_49 rfl ?_
          refine r_getIv fX13_25 (hx) (v := b2i is) (hi0) rfl dX13_allows_50 ?_
          refine r_icmp_ne (tgt := 60) dX13_allows_53 rfl (fun c8 => ?_) (fun c8 => ?_)
          · --
            refine r_iconst (v := nI 0) dX13_allows_60 (by decide) ?_
            exact r_ret0 dX13_allows_61 rfl (no_3f c1 (Or.inr c6) (if_pos c7) c8)
          · --
            refine r_iconst (v := nI 1) dX13_allows_56 (by decide) ?_
            refine r_goto (tgt := 61) dX13_allows_57 rfl ?_
            exact r_ret1 dX13_allows_61 rfl (no_3t c1 (Or.inr c6) (if_pos c7) c8)
        · --
          refine r_iconst (v := nI 1) dX13_allows_44 (by decide) ?_
          refine r_goto (tgt := 49) dX13_allows_45 rfl ?_
          refine r_aload_n dX13_allows_49 rfl ?_
          refine r_getIv fX13_25 (hx) (v := b2i is) (hi0) rfl dX13_allows_50 ?_
          refine r_icmp_ne (tgt := 60) dX13_allows_53 rfl (fun c9 => ?_) (fun c9 => ?_)
          · --
            refine r_iconst (v := nI 0) dX13_allows_60 (by decide) ?_
            exact r_ret0 dX13_allows_61 rfl (no_3f c1 (Or.inr c6) (if_neg c7) c9)
          · --
            refine r_iconst (v := nI 1) dX13_allows_56 (by decide) ?_
            refine r_goto (tgt := 61) dX13_allows_57 rfl ?_
            exact r_ret1 dX13_allows_61 rfl (no_3t c1 (Or.inr c6) (if_neg c7) c9)
