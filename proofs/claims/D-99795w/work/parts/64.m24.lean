/-! ===== THE REFERENCE: words and ranks here (walks by program) ===== -/
set_option maxRecDepth 100000

def woC (tx : Nat → Int32) (n q : Nat) : Nat := if woH tx n q 6844276 then 104 else if woH tx n q 7563385 then 115 else if woH tx n q 113753910899827 then 103 else if woH tx n q 113741193899620 then 114 else if woH tx n q 1751474548 then 116 else if woH tx n q 109330362954597 then 99 else 0

theorem c_wordHere {G : ev_G} {h : ev_H} {tx : Nat → Int32} {n : Nat} {s : (Nat × Nat) × Nat} (hq : MP tx n s h) : Called G mX4_wordHere 1 0 0 [vR aM] h (px (vI (nI (woC tx n s.2))) h) := by
  have hl := hq.1
  have hx := hq.2.1
  have hk6 := tkT_lt tx n s.2
  have hta := taT_le (tx := tx) hq.2.2.1
  have hn := hx.2.1
  have hf8 := hq.2.2.2.2.2.2
  refine called_of rfl [some (vR aM)] rfl (Nat.le_of_ble_eq_true rfl) ?_
  refine r_aload_n dX4_wordHere_0 rfl ?_
  refine r_ldc2 q1883 dX4_wordHere_1 ?_
  refine r_callVx lX4_233 (c_isWord hq _) (hl.1) rfl rfl rfl rfl dX4_wordHere_4 (Nat.le_refl _) (Nat.le_refl _) ?_
  refine r_ifB_eq (tgt := 13) dX4_wordHere_7 rfl (fun c1 => ?_) (fun c1 => ?_)
  · --
    refine r_aload_n dX4_wordHere_13 rfl ?_
    refine r_ldc2 q1878 dX4_wordHere_14 ?_
    refine r_callVx lX4_233 (c_isWord hq _) (hl.1) rfl rfl rfl rfl dX4_wordHere_17 (Nat.le_refl _) (Nat.le_refl _) ?_
    refine r_ifB_eq (tgt := 26) dX4_wordHere_20 rfl (fun c2 => ?_) (fun c2 => ?_)
    · --
      refine r_aload_n dX4_wordHere_26 rfl ?_
      refine r_ldc2 q1888 dX4_wordHere_27 ?_
      refine r_callVx lX4_233 (c_isWord hq _) (hl.1) rfl rfl rfl rfl dX4_wordHere_30 (Nat.le_refl _) (Nat.le_refl _) ?_
      refine r_ifB_eq (tgt := 39) dX4_wordHere_33 rfl (fun c3 => ?_) (fun c3 => ?_)
      · --
        refine r_aload_n dX4_wordHere_39 rfl ?_
        refine r_ldc2 q1889 dX4_wordHere_40 ?_
        refine r_callVx lX4_233 (c_isWord hq _) (hl.1) rfl rfl rfl rfl dX4_wordHere_43 (Nat.le_refl _) (Nat.le_refl _) ?_
        refine r_ifB_eq (tgt := 52) dX4_wordHere_46 rfl (fun c4 => ?_) (fun c4 => ?_)
        · --
          refine r_aload_n dX4_wordHere_52 rfl ?_
          refine r_ldc2 q1890 dX4_wordHere_53 ?_
          refine r_callVx lX4_233 (c_isWord hq _) (hl.1) rfl rfl rfl rfl dX4_wordHere_56 (Nat.le_refl _) (Nat.le_refl _) ?_
          refine r_ifB_eq (tgt := 65) dX4_wordHere_59 rfl (fun c5 => ?_) (fun c5 => ?_)
          · --
            refine r_aload_n dX4_wordHere_65 rfl ?_
            refine r_ldc2 q1891 dX4_wordHere_66 ?_
            refine r_callVx lX4_233 (c_isWord hq _) (hl.1) rfl rfl rfl rfl dX4_wordHere_69 (Nat.le_refl _) (Nat.le_refl _) ?_
            refine r_ifB_eq (tgt := 80) dX4_wordHere_72 rfl (fun c6 => ?_) (fun c6 => ?_)
            · --
              refine r_iconst (v := nI 0) dX4_wordHere_80 (by decide) ?_
              exact r_retx dX4_wordHere_81 rfl rfl (by simp [woC, c1, c2, c3, c4, c5, c6])
            · --
              refine r_bipush (v := nI 99) dX4_wordHere_75 (by decide) ?_
              refine r_goto (tgt := 81) dX4_wordHere_77 rfl ?_
              exact r_retx dX4_wordHere_81 rfl rfl (by simp [woC, c1, c2, c3, c4, c5, c6])
          · --
            refine r_bipush (v := nI 116) dX4_wordHere_62 (by decide) ?_
            exact r_retx dX4_wordHere_64 rfl rfl (by simp [woC, c1, c2, c3, c4, c5])
        · --
          refine r_bipush (v := nI 114) dX4_wordHere_49 (by decide) ?_
          exact r_retx dX4_wordHere_51 rfl rfl (by simp [woC, c1, c2, c3, c4])
      · --
        refine r_bipush (v := nI 103) dX4_wordHere_36 (by decide) ?_
        exact r_retx dX4_wordHere_38 rfl rfl (by simp [woC, c1, c2, c3])
    · --
      refine r_bipush (v := nI 115) dX4_wordHere_23 (by decide) ?_
      exact r_retx dX4_wordHere_25 rfl rfl (by simp [woC, c1, c2])
  · --
    refine r_bipush (v := nI 104) dX4_wordHere_10 (by decide) ?_
    exact r_retx dX4_wordHere_12 rfl rfl (by simp [woC, c1])

def rkC (tx : Nat → Int32) (n q : Nat) : Nat := if woH tx n q 6385252 then 2 else if woH tx n q 28530 then 1 else if (sgH tx n q (nI 60) || sgH tx n q (nI 62) || sgH tx n q (nI 61)) then 4 else if (sgH tx n q (nI 43) || sgH tx n q (nI 45)) then 5 else if (sgH tx n q (nI 42) || sgH tx n q (nI 47) || sgH tx n q (nI 37)) then 6 else 0

theorem c_rankHere {G : ev_G} {h : ev_H} {tx : Nat → Int32} {n : Nat} {s : (Nat × Nat) × Nat} (hq : MP tx n s h) : Called G mX4_rankHere 2 0 0 [vR aM] h (px (vI (nI (rkC tx n s.2))) h) := by
  have hl := hq.1
  have hx := hq.2.1
  have hk6 := tkT_lt tx n s.2
  have hta := taT_le (tx := tx) hq.2.2.1
  have hn := hx.2.1
  have hf8 := hq.2.2.2.2.2.2
  refine called_of rfl [some (vR aM)] rfl (Nat.le_of_ble_eq_true rfl) ?_
  refine r_aload_n dX4_rankHere_0 rfl ?_
  refine r_ldc2 q1893 dX4_rankHere_1 ?_
  refine r_callVx lX4_233 (c_isWord hq _) (hl.1) rfl rfl rfl rfl dX4_rankHere_4 (Nat.le_refl _) (Nat.le_refl _) ?_
  refine r_ifB_eq (tgt := 12) dX4_rankHere_7 rfl (fun c1 => ?_) (fun c1 => ?_)
  · --
    refine r_aload_n dX4_rankHere_12 rfl ?_
    refine r_ldc2 q1892 dX4_rankHere_13 ?_
    refine r_callVx lX4_233 (c_isWord hq _) (hl.1) rfl rfl rfl rfl dX4_rankHere_16 (Nat.le_refl _) (Nat.le_refl _) ?_
    refine r_ifB_eq (tgt := 24) dX4_rankHere_19 rfl (fun c2 => ?_) (fun c2 => ?_)
    · --
      refine r_aload_n dX4_rankHere_24 rfl ?_
      refine r_bipush (v := nI 60) dX4_rankHere_25 (by decide) ?_
      refine r_callVx lX4_287 (c_isSignHere hq _) (hl.1) rfl rfl rfl rfl dX4_rankHere_27 (Nat.le_refl _) (Nat.le_refl _) ?_
      refine r_ifB_ne (tgt := 51) dX4_rankHere_30 rfl (fun c3 => ?_) (fun c3 => ?_)
      · --
        refine r_iconst (v := nI 4) dX4_rankHere_51 (by decide) ?_
        exact r_retx dX4_rankHere_52 rfl rfl (by simp [rkC, c1, c2, c3])
      · --
        refine r_aload_n dX4_rankHere_33 rfl ?_
        refine r_bipush (v := nI 62) dX4_rankHere_34 (by decide) ?_
        refine r_callVx lX4_287 (c_isSignHere hq _) (hl.1) rfl rfl rfl rfl dX4_rankHere_36 (Nat.le_refl _) (Nat.le_refl _) ?_
        refine r_ifB_ne (tgt := 51) dX4_rankHere_39 rfl (fun c4 => ?_) (fun c4 => ?_)
        · --
          refine r_iconst (v := nI 4) dX4_rankHere_51 (by decide) ?_
          exact r_retx dX4_rankHere_52 rfl rfl (by simp [rkC, c1, c2, c3, c4])
        · --
          refine r_aload_n dX4_rankHere_42 rfl ?_
          refine r_bipush (v := nI 61) dX4_rankHere_43 (by decide) ?_
          refine r_callVx lX4_287 (c_isSignHere hq _) (hl.1) rfl rfl rfl rfl dX4_rankHere_45 (Nat.le_refl _) (Nat.le_refl _) ?_
          refine r_ifB_eq (tgt := 53) dX4_rankHere_48 rfl (fun c5 => ?_) (fun c5 => ?_)
          · --
            refine r_aload_n dX4_rankHere_53 rfl ?_
            refine r_bipush (v := nI 43) dX4_rankHere_54 (by decide) ?_
            refine r_callVx lX4_287 (c_isSignHere hq _) (hl.1) rfl rfl rfl rfl dX4_rankHere_56 (Nat.le_refl _) (Nat.le_refl _) ?_
            refine r_ifB_ne (tgt := 71) dX4_rankHere_59 rfl (fun c6 => ?_) (fun c6 => ?_)
            · --
              refine r_iconst (v := nI 5) dX4_rankHere_71 (by decide) ?_
              exact r_retx dX4_rankHere_72 rfl rfl (by simp [rkC, c1, c2, c3, c4, c5, c6])
            · --
              refine r_aload_n dX4_rankHere_62 rfl ?_
              refine r_bipush (v := nI 45) dX4_rankHere_63 (by decide) ?_
              refine r_callVx lX4_287 (c_isSignHere hq _) (hl.1) rfl rfl rfl rfl dX4_rankHere_65 (Nat.le_refl _) (Nat.le_refl _) ?_
              refine r_ifB_eq (tgt := 73) dX4_rankHere_68 rfl (fun c7 => ?_) (fun c7 => ?_)
              · --
                refine r_aload_n dX4_rankHere_73 rfl ?_
                refine r_bipush (v := nI 42) dX4_rankHere_74 (by decide) ?_
                refine r_callVx lX4_287 (c_isSignHere hq _) (hl.1) rfl rfl rfl rfl dX4_rankHere_76 (Nat.le_refl _) (Nat.le_refl _) ?_
                refine r_ifB_ne (tgt := 100) dX4_rankHere_79 rfl (fun c8 => ?_) (fun c8 => ?_)
                · --
                  refine r_bipush (v := nI 6) dX4_rankHere_100 (by decide) ?_
                  refine r_goto (tgt := 106) dX4_rankHere_102 rfl ?_
                  exact r_retx dX4_rankHere_106 rfl rfl (by simp [rkC, c1, c2, c3, c4, c5, c6, c7, c8])
                · --
                  refine r_aload_n dX4_rankHere_82 rfl ?_
                  refine r_bipush (v := nI 47) dX4_rankHere_83 (by decide) ?_
                  refine r_callVx lX4_287 (c_isSignHere hq _) (hl.1) rfl rfl rfl rfl dX4_rankHere_85 (Nat.le_refl _) (Nat.le_refl _) ?_
                  refine r_ifB_ne (tgt := 100) dX4_rankHere_88 rfl (fun c9 => ?_) (fun c9 => ?_)
                  · --
                    refine r_bipush (v := nI 6) dX4_rankHere_100 (by decide) ?_
                    refine r_goto (tgt := 106) dX4_rankHere_102 rfl ?_
                    exact r_retx dX4_rankHere_106 rfl rfl (by simp [rkC, c1, c2, c3, c4, c5, c6, c7, c8, c9])
                  · --
                    refine r_aload_n dX4_rankHere_91 rfl ?_
                    refine r_bipush (v := nI 37) dX4_rankHere_92 (by decide) ?_
                    refine r_callVx lX4_287 (c_isSignHere hq _) (hl.1) rfl rfl rfl rfl dX4_rankHere_94 (Nat.le_refl _) (Nat.le_refl _) ?_
                    refine r_ifB_eq (tgt := 105) dX4_rankHere_97 rfl (fun c10 => ?_) (fun c10 => ?_)
                    · --
                      refine r_iconst (v := nI 0) dX4_rankHere_105 (by decide) ?_
                      exact r_retx dX4_rankHere_106 rfl rfl (by simp [rkC, c1, c2, c3, c4, c5, c6, c7, c8, c9, c10])
                    · --
                      refine r_bipush (v := nI 6) dX4_rankHere_100 (by decide) ?_
                      refine r_goto (tgt := 106) dX4_rankHere_102 rfl ?_
                      exact r_retx dX4_rankHere_106 rfl rfl (by simp [rkC, c1, c2, c3, c4, c5, c6, c7, c8, c9, c10])
              · --
                refine r_iconst (v := nI 5) dX4_rankHere_71 (by decide) ?_
                exact r_retx dX4_rankHere_72 rfl rfl (by simp [rkC, c1, c2, c3, c4, c5, c6, c7])
          · --
            refine r_iconst (v := nI 4) dX4_rankHere_51 (by decide) ?_
            exact r_retx dX4_rankHere_52 rfl rfl (by simp [rkC, c1, c2, c3, c4, c5])
    · --
      refine r_iconst (v := nI 1) dX4_rankHere_22 (by decide) ?_
      exact r_retx dX4_rankHere_23 rfl rfl (by simp [rkC, c1, c2])
  · --
    refine r_iconst (v := nI 2) dX4_rankHere_10 (by decide) ?_
    exact r_retx dX4_rankHere_11 rfl rfl (by simp [rkC, c1])
