/-! ===== THE READER: tokens (walks by program) ===== -/
set_option maxRecDepth 100000

/-- the reader r and the text: tx its bytes, n its size -/
def RTx (r : Nat) (tx : Nat → Int32) (n : Nat) (h : ev_H) : Prop := hK h r = 6 ∧ ev_c < r ∧ hR h r 10 = 64 ∧ XLay h ∧ hI h 64 1 = nI n ∧ n ≤ 1600 ∧ ∀ k, k < n → hI h 65 k &&& nI 255 = tx k
def hrV (tx : Nat → Int32) (n k : Nat) : Int32 := if k < n then tx k else -1
section TK
variable {tx : Nat → Int32} {n k m a i r p : Nat} {h h1 h2 : ev_H}
theorem le_1 (c1 : ¬ hrV tx n k < nI 97) (c2 : ¬ nI 122 < hrV tx n k) : leT tx n k = true := by
  unfold leT sgT isLetV
  unfold hrV at c1 c2
  by_cases e : k < n
  · rw [if_pos e] at *; rw [decide_eq_false c1, decide_eq_false c2]; rfl
  · rw [if_neg e] at c1; exact absurd (show (-1 : Int32) < nI 97 by decide) c1
theorem le_0 (c : hrV tx n k < nI 97 ∨ nI 122 < hrV tx n k) : leT tx n k = false := by
  unfold leT sgT isLetV
  unfold hrV at c
  by_cases e : k < n
  · rw [if_pos e] at *
    rcases c with c | c
    · rw [decide_eq_true c]; rfl
    · rw [decide_eq_true c]; simp
  · rw [if_neg e]; decide
theorem di_1 (c1 : ¬ hrV tx n k < nI 48) (c2 : ¬ nI 57 < hrV tx n k) : diT tx n k = true := by
  unfold diT sgT isDigV
  unfold hrV at c1 c2
  by_cases e : k < n
  · rw [if_pos e] at *; rw [decide_eq_false c1, decide_eq_false c2]; rfl
  · rw [if_neg e] at c1; exact absurd (show (-1 : Int32) < nI 48 by decide) c1
theorem di_0 (c : hrV tx n k < nI 48 ∨ nI 57 < hrV tx n k) : diT tx n k = false := by
  unfold diT sgT isDigV
  unfold hrV at c
  by_cases e : k < n
  · rw [if_pos e] at *
    rcases c with c | c
    · rw [decide_eq_true c]; rfl
    · rw [decide_eq_true c]; simp
  · rw [if_neg e]; decide
end TK

theorem x5_here {G : ev_G} {h : ev_H} {r n : Nat} {tx : Nat → Int32} (hx : RTx r tx n h) {p j : Nat} (hp : hI h r 0 = nI p) (hpj : p + j < 2 ^ 30) : Called G mX5_here 0 0 0 [vR r, vI (nI j)] h (px (vI (hrV tx n (p + j))) h) := by
  have hn1 := hx.2.2.2.2.2.1
  refine called_of rfl [some (vR r), some (vI (nI j))] rfl (Nat.le_of_ble_eq_true rfl) ?_
  refine r_aload_n dX5_here_0 rfl ?_
  refine r_getIv fX5_28 (hx.1) (v := nI p) (hp) rfl dX5_here_1 ?_
  refine r_iload_n dX5_here_4 rfl ?_
  refine r_iadd dX5_here_5 ?_
  refine r_top (nI (p + j)) (nI_add _ _) ?_
  refine r_aload_n dX5_here_6 rfl ?_
  refine r_getRv fX5_3 (hx.1) (v := 64) (hx.2.2.1) rfl dX5_here_7 ?_
  refine r_getN fX5_32 hx.2.2.2.1.k (vI (nI n)) (by rw [← hx.2.2.2.2.1]; rfl) dX5_here_10 ?_
  refine r_icmpN_ge (tgt := 37) dX5_here_13 rfl (by omega) (by omega) (fun c1 => ?_) (fun c1 => ?_)
  · --
    refine r_iconst (v := (-1)) dX5_here_37 (by decide) ?_
    exact r_retx dX5_here_38 rfl rfl (by unfold hrV; rw [if_neg (by omega)])
  · --
    refine r_aload_n dX5_here_16 rfl ?_
    refine r_getRv fX5_3 (hx.1) (v := 64) (hx.2.2.1) rfl dX5_here_17 ?_
    refine r_getN fX5_35 hx.2.2.2.1.k (vR 65) (by rw [show (65 : Nat) = hR h 64 0 from (hx.2.2.2.1.r 0 (by decide) (by decide)).symm]; rfl) dX5_here_20 ?_
    refine r_aload_n dX5_here_23 rfl ?_
    refine r_getIv fX5_28 (hx.1) (v := nI p) (hp) rfl dX5_here_24 ?_
    refine r_iload_n dX5_here_27 rfl ?_
    refine r_iadd dX5_here_28 ?_
    refine r_top (nI (p + j)) (nI_add _ _) ?_
    refine r_baldv (hx.2.2.2.1.tape.1) (hx.2.2.2.1.tape.2) (ix_n (by have := hx.2.2.2.2.2.1; omega) (by decide)) (v := hI h 65 (p + j)) (rfl) dX5_here_29 ?_
    refine r_sipush (v := nI 255) dX5_here_30 (by decide) ?_
    refine r_iand dX5_here_33 ?_
    refine r_top (tx (p + j)) (hx.2.2.2.2.2.2 _ (by omega)) ?_
    refine r_goto (tgt := 38) dX5_here_34 rfl ?_
    exact r_retx dX5_here_38 rfl rfl (by unfold hrV; rw [if_pos (by omega)])

theorem x5_isLetter {G : ev_G} {h : ev_H} {r n : Nat} {tx : Nat → Int32} (hx : RTx r tx n h) {p j : Nat} (hp : hI h r 0 = nI p) (hpj : p + j < 2 ^ 30) : Called G mX5_isLetter 1 0 0 [vR r, vI (nI j)] h (px (vI (b2i (leT tx n (p + j)))) h) := by
  refine called_of rfl [some (vR r), some (vI (nI j))] rfl (Nat.le_of_ble_eq_true rfl) ?_
  refine r_aload_n dX5_isLetter_0 rfl ?_
  refine r_iload_n dX5_isLetter_1 rfl ?_
  refine r_callVx lX5_39 (x5_here hx hp hpj) (hx.1) rfl rfl rfl rfl dX5_isLetter_2 (Nat.le_refl _) (Nat.le_refl _) ?_
  refine r_bipush (v := nI 97) dX5_isLetter_5 (by decide) ?_
  refine r_icmp_lt (tgt := 24) dX5_isLetter_7 rfl (fun c1 => ?_) (fun c1 => ?_)
  · --
    refine r_iconst (v := nI 0) dX5_isLetter_24 (by decide) ?_
    exact r_ret0 dX5_isLetter_25 rfl (le_0 (Or.inl c1))
  · --
    refine r_aload_n dX5_isLetter_10 rfl ?_
    refine r_iload_n dX5_isLetter_11 rfl ?_
    refine r_callVx lX5_39 (x5_here hx hp hpj) (hx.1) rfl rfl rfl rfl dX5_isLetter_12 (Nat.le_refl _) (Nat.le_refl _) ?_
    refine r_bipush (v := nI 122) dX5_isLetter_15 (by decide) ?_
    refine r_icmp_gt (tgt := 24) dX5_isLetter_17 rfl (fun c2 => ?_) (fun c2 => ?_)
    · --
      refine r_iconst (v := nI 0) dX5_isLetter_24 (by decide) ?_
      exact r_ret0 dX5_isLetter_25 rfl (le_0 (Or.inr c2))
    · --
      refine r_iconst (v := nI 1) dX5_isLetter_20 (by decide) ?_
      refine r_goto (tgt := 25) dX5_isLetter_21 rfl ?_
      exact r_ret1 dX5_isLetter_25 rfl (le_1 c1 c2)

theorem x5_isDigit {G : ev_G} {h : ev_H} {r n : Nat} {tx : Nat → Int32} (hx : RTx r tx n h) {p j : Nat} (hp : hI h r 0 = nI p) (hpj : p + j < 2 ^ 30) : Called G mX5_isDigit 1 0 0 [vR r, vI (nI j)] h (px (vI (b2i (diT tx n (p + j)))) h) := by
  refine called_of rfl [some (vR r), some (vI (nI j))] rfl (Nat.le_of_ble_eq_true rfl) ?_
  refine r_aload_n dX5_isDigit_0 rfl ?_
  refine r_iload_n dX5_isDigit_1 rfl ?_
  refine r_callVx lX5_39 (x5_here hx hp hpj) (hx.1) rfl rfl rfl rfl dX5_isDigit_2 (Nat.le_refl _) (Nat.le_refl _) ?_
  refine r_bipush (v := nI 48) dX5_isDigit_5 (by decide) ?_
  refine r_icmp_lt (tgt := 24) dX5_isDigit_7 rfl (fun c1 => ?_) (fun c1 => ?_)
  · --
    refine r_iconst (v := nI 0) dX5_isDigit_24 (by decide) ?_
    exact r_ret0 dX5_isDigit_25 rfl (di_0 (Or.inl c1))
  · --
    refine r_aload_n dX5_isDigit_10 rfl ?_
    refine r_iload_n dX5_isDigit_11 rfl ?_
    refine r_callVx lX5_39 (x5_here hx hp hpj) (hx.1) rfl rfl rfl rfl dX5_isDigit_12 (Nat.le_refl _) (Nat.le_refl _) ?_
    refine r_bipush (v := nI 57) dX5_isDigit_15 (by decide) ?_
    refine r_icmp_gt (tgt := 24) dX5_isDigit_17 rfl (fun c2 => ?_) (fun c2 => ?_)
    · --
      refine r_iconst (v := nI 0) dX5_isDigit_24 (by decide) ?_
      exact r_ret0 dX5_isDigit_25 rfl (di_0 (Or.inr c2))
    · --
      refine r_iconst (v := nI 1) dX5_isDigit_20 (by decide) ?_
      refine r_goto (tgt := 25) dX5_isDigit_21 rfl ?_
      exact r_ret1 dX5_isDigit_25 rfl (di_1 c1 c2)

theorem x5_isSign {G : ev_G} {h : ev_H} (c : Int32) : Called G mX5_isSign 0 0 0 [vI c] h (px (vI (b2i (isSgV c))) h) := by
  refine called_of rfl [some (vI c)] rfl (Nat.le_of_ble_eq_true rfl) ?_
  refine r_iload_n dX5_isSign_0 rfl ?_
  refine r_bipush (v := nI 59) dX5_isSign_1 (by decide) ?_
  refine r_icmp_eq (tgt := 66) dX5_isSign_3 rfl (fun c1 => ?_) (fun c1 => ?_)
  · --
    refine r_iconst (v := nI 1) dX5_isSign_66 (by decide) ?_
    refine r_goto (tgt := 71) dX5_isSign_67 rfl ?_
    exact r_ret1 dX5_isSign_71 rfl (by simp [isSgV, *])
  · --
    refine r_iload_n dX5_isSign_6 rfl ?_
    refine r_bipush (v := nI 40) dX5_isSign_7 (by decide) ?_
    refine r_icmp_eq (tgt := 66) dX5_isSign_9 rfl (fun c2 => ?_) (fun c2 => ?_)
    · --
      refine r_iconst (v := nI 1) dX5_isSign_66 (by decide) ?_
      refine r_goto (tgt := 71) dX5_isSign_67 rfl ?_
      exact r_ret1 dX5_isSign_71 rfl (by simp [isSgV, *])
    · --
      refine r_iload_n dX5_isSign_12 rfl ?_
      refine r_bipush (v := nI 41) dX5_isSign_13 (by decide) ?_
      refine r_icmp_eq (tgt := 66) dX5_isSign_15 rfl (fun c3 => ?_) (fun c3 => ?_)
      · --
        refine r_iconst (v := nI 1) dX5_isSign_66 (by decide) ?_
        refine r_goto (tgt := 71) dX5_isSign_67 rfl ?_
        exact r_ret1 dX5_isSign_71 rfl (by simp [isSgV, *])
      · --
        refine r_iload_n dX5_isSign_18 rfl ?_
        refine r_bipush (v := nI 60) dX5_isSign_19 (by decide) ?_
        refine r_icmp_eq (tgt := 66) dX5_isSign_21 rfl (fun c4 => ?_) (fun c4 => ?_)
        · --
          refine r_iconst (v := nI 1) dX5_isSign_66 (by decide) ?_
          refine r_goto (tgt := 71) dX5_isSign_67 rfl ?_
          exact r_ret1 dX5_isSign_71 rfl (by simp [isSgV, *])
        · --
          refine r_iload_n dX5_isSign_24 rfl ?_
          refine r_bipush (v := nI 62) dX5_isSign_25 (by decide) ?_
          refine r_icmp_eq (tgt := 66) dX5_isSign_27 rfl (fun c5 => ?_) (fun c5 => ?_)
          · --
            refine r_iconst (v := nI 1) dX5_isSign_66 (by decide) ?_
            refine r_goto (tgt := 71) dX5_isSign_67 rfl ?_
            exact r_ret1 dX5_isSign_71 rfl (by simp [isSgV, *])
          · --
            refine r_iload_n dX5_isSign_30 rfl ?_
            refine r_bipush (v := nI 61) dX5_isSign_31 (by decide) ?_
            refine r_icmp_eq (tgt := 66) dX5_isSign_33 rfl (fun c6 => ?_) (fun c6 => ?_)
            · --
              refine r_iconst (v := nI 1) dX5_isSign_66 (by decide) ?_
              refine r_goto (tgt := 71) dX5_isSign_67 rfl ?_
              exact r_ret1 dX5_isSign_71 rfl (by simp [isSgV, *])
            · --
              refine r_iload_n dX5_isSign_36 rfl ?_
              refine r_bipush (v := nI 43) dX5_isSign_37 (by decide) ?_
              refine r_icmp_eq (tgt := 66) dX5_isSign_39 rfl (fun c7 => ?_) (fun c7 => ?_)
              · --
                refine r_iconst (v := nI 1) dX5_isSign_66 (by decide) ?_
                refine r_goto (tgt := 71) dX5_isSign_67 rfl ?_
                exact r_ret1 dX5_isSign_71 rfl (by simp [isSgV, *])
              · --
                refine r_iload_n dX5_isSign_42 rfl ?_
                refine r_bipush (v := nI 45) dX5_isSign_43 (by decide) ?_
                refine r_icmp_eq (tgt := 66) dX5_isSign_45 rfl (fun c8 => ?_) (fun c8 => ?_)
                · --
                  refine r_iconst (v := nI 1) dX5_isSign_66 (by decide) ?_
                  refine r_goto (tgt := 71) dX5_isSign_67 rfl ?_
                  exact r_ret1 dX5_isSign_71 rfl (by simp [isSgV, *])
                · --
                  refine r_iload_n dX5_isSign_48 rfl ?_
                  refine r_bipush (v := nI 42) dX5_isSign_49 (by decide) ?_
                  refine r_icmp_eq (tgt := 66) dX5_isSign_51 rfl (fun c9 => ?_) (fun c9 => ?_)
                  · --
                    refine r_iconst (v := nI 1) dX5_isSign_66 (by decide) ?_
                    refine r_goto (tgt := 71) dX5_isSign_67 rfl ?_
                    exact r_ret1 dX5_isSign_71 rfl (by simp [isSgV, *])
                  · --
                    refine r_iload_n dX5_isSign_54 rfl ?_
                    refine r_bipush (v := nI 47) dX5_isSign_55 (by decide) ?_
                    refine r_icmp_eq (tgt := 66) dX5_isSign_57 rfl (fun c10 => ?_) (fun c10 => ?_)
                    · --
                      refine r_iconst (v := nI 1) dX5_isSign_66 (by decide) ?_
                      refine r_goto (tgt := 71) dX5_isSign_67 rfl ?_
                      exact r_ret1 dX5_isSign_71 rfl (by simp [isSgV, *])
                    · --
                      refine r_iload_n dX5_isSign_60 rfl ?_
                      refine r_bipush (v := nI 37) dX5_isSign_61 (by decide) ?_
                      refine r_icmp_ne (tgt := 70) dX5_isSign_63 rfl (fun c11 => ?_) (fun c11 => ?_)
                      · --
                        refine r_iconst (v := nI 0) dX5_isSign_70 (by decide) ?_
                        exact r_ret0 dX5_isSign_71 rfl (by simp [isSgV, *])
                      · --
                        refine r_iconst (v := nI 1) dX5_isSign_66 (by decide) ?_
                        refine r_goto (tgt := 71) dX5_isSign_67 rfl ?_
                        exact r_ret1 dX5_isSign_71 rfl (by simp [isSgV, *])
