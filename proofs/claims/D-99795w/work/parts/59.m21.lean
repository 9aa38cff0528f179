/-! ===== THE REFERENCE: tokens (walks by program) ===== -/
set_option maxRecDepth 100000

theorem c_sign {G : ev_G} {h : ev_H} (hl : MLay h) {tx : Nat → Int32} {n : Nat} (hx : MX tx n h) {k9 : Nat} (hk : k9 < 2 ^ 31) : Called G mX4_sign 0 0 0 [vR aM, vI (nI k9)] h (px (vI (sgT tx n k9)) h) := by
  have hn := hx.2.1
  refine called_of rfl [some (vR aM), some (vI (nI k9))] rfl (Nat.le_of_ble_eq_true rfl) ?_
  refine r_iload_n dX4_sign_0 rfl ?_
  refine r_aload_n dX4_sign_1 rfl ?_
  refine r_getIv fX4_143 (hl.1) (v := nI n) (hx.1) rfl dX4_sign_2 ?_
  refine r_icmpN_ge (tgt := 21) dX4_sign_5 rfl (by omega) (by omega) (fun c1 => ?_) (fun c1 => ?_)
  · --
    refine r_iconst (v := nI 0) dX4_sign_21 (by decide) ?_
    exact r_retx dX4_sign_22 rfl rfl (by unfold sgT; rw [if_neg (by omega)]; rfl)
  · --
    refine r_aload_n dX4_sign_8 rfl ?_
    refine r_getRv fX4_13 (hl.1) (v := aText) ((l_text hl).1) rfl dX4_sign_9 ?_
    refine r_iload_n dX4_sign_12 rfl ?_
    refine r_baldv ((l_text hl).2.1) ((l_text hl).2.2) (ix_n (by omega) (by decide)) (v := hI h aText k9) (rfl) dX4_sign_13 ?_
    refine r_sipush (v := nI 255) dX4_sign_14 (by decide) ?_
    refine r_iand dX4_sign_17 ?_
    refine r_top (tx k9) (hx.2.2 _ (by omega)) ?_
    refine r_goto (tgt := 22) dX4_sign_18 rfl ?_
    exact r_retx dX4_sign_22 rfl rfl (by unfold sgT; rw [if_pos (by omega)])

theorem c_isGood {G : ev_G} {h : ev_H} (hl : MLay h) {fk : Int32} (hfk : hI h aM 4 = fk) : Called G mX4_isGood 0 0 0 [vR aM] h (px (vI (b2i (decide (fk = 0)))) h) := by
  refine called_of rfl [some (vR aM)] rfl (Nat.le_of_ble_eq_true rfl) ?_
  refine r_aload_n dX4_isGood_0 rfl ?_
  refine r_getIv fX4_146 (hl.1) (v := fk) (hfk) rfl dX4_isGood_1 ?_
  refine r_if_ne (tgt := 11) dX4_isGood_4 rfl (fun c1 => ?_) (fun c1 => ?_)
  · --
    refine r_iconst (v := nI 0) dX4_isGood_11 (by decide) ?_
    exact r_ret0 dX4_isGood_12 rfl (by simp [c1])
  · --
    refine r_iconst (v := nI 1) dX4_isGood_7 (by decide) ?_
    refine r_goto (tgt := 12) dX4_isGood_8 rfl ?_
    exact r_ret1 dX4_isGood_12 rfl (by simp [c1])

def kepW (v : Int64) : Bool := decide (lg_cmp v 123581014175598 = 0) || decide (lg_cmp v 7563385 = 0) || decide (lg_cmp v 1935762283 = 0) || decide (lg_cmp v 499967946343 = 0) || decide (lg_cmp v 25209 = 0) || decide (lg_cmp v 29807 = 0) || decide (lg_cmp v 6844276 = 0) || decide (lg_cmp v 26990 = 0) || decide (lg_cmp v 1935763812 = 0) || decide (lg_cmp v 126917984746085 = 0) || decide (lg_cmp v 1685217655 = 0) || decide (lg_cmp v 113753910899827 = 0) || decide (lg_cmp v 113741193899620 = 0) || decide (lg_cmp v 1751474548 = 0) || decide (lg_cmp v 109330362954597 = 0) || decide (lg_cmp v 28530 = 0) || decide (lg_cmp v 6385252 = 0) || decide (lg_cmp v 7237492 = 0)

theorem c_isKept {G : ev_G} {h : ev_H} (v9 : Int64) : Called G mX4_isKept 0 0 0 [vJ v9] h (px (vI (b2i (kepW v9))) h) := by
  refine called_of rfl [some (vJ v9), none, none] rfl (Nat.le_of_ble_eq_true rfl) ?_
  refine r_lload_n dX4_isKept_0 rfl ?_
  refine r_ldc2 q1877 dX4_isKept_1 ?_
  refine r_lcmp dX4_isKept_4 ?_
  refine r_if_eq (tgt := 72) dX4_isKept_5 rfl (fun c1 => ?_) (fun c1 => ?_)
  · --
    refine r_iconst (v := nI 1) dX4_isKept_72 (by decide) ?_
    refine r_goto (tgt := 77) dX4_isKept_73 rfl ?_
    refine r_istore_n dX4_isKept_77 (by decide) rfl ?_
    refine r_iload_n dX4_isKept_78 rfl ?_
    refine r_if_ne (tgt := 154) dX4_isKept_79 rfl (fun c2 => ?_) (fun c2 => ?_)
    · --
      refine r_iconst (v := nI 1) dX4_isKept_154 (by decide) ?_
      refine r_goto (tgt := 159) dX4_isKept_155 rfl ?_
      exact r_ret1 dX4_isKept_159 rfl (by simp [kepW, c1, c2])
    · --
      exact absurd c2 (by decide)
  · --
    refine r_lload_n dX4_isKept_8 rfl ?_
    refine r_ldc2 q1878 dX4_isKept_9 ?_
    refine r_lcmp dX4_isKept_12 ?_
    refine r_if_eq (tgt := 72) dX4_isKept_13 rfl (fun c3 => ?_) (fun c3 => ?_)
    · --
      refine r_iconst (v := nI 1) dX4_isKept_72 (by decide) ?_
      refine r_goto (tgt := 77) dX4_isKept_73 rfl ?_
      refine r_istore_n dX4_isKept_77 (by decide) rfl ?_
      refine r_iload_n dX4_isKept_78 rfl ?_
      refine r_if_ne (tgt := 154) dX4_isKept_79 rfl (fun c4 => ?_) (fun c4 => ?_)
      · --
        refine r_iconst (v := nI 1) dX4_isKept_154 (by decide) ?_
        refine r_goto (tgt := 159) dX4_isKept_155 rfl ?_
        exact r_ret1 dX4_isKept_159 rfl (by simp [kepW, c1, c3, c4])
      · --
        exact absurd c4 (by decide)
    · --
      refine r_lload_n dX4_isKept_16 rfl ?_
      refine r_ldc2 q1879 dX4_isKept_17 ?_
      refine r_lcmp dX4_isKept_20 ?_
      refine r_if_eq (tgt := 72) dX4_isKept_21 rfl (fun c5 => ?_) (fun c5 => ?_)
      · --
        refine r_iconst (v := nI 1) dX4_isKept_72 (by decide) ?_
        refine r_goto (tgt := 77) dX4_isKept_73 rfl ?_
        refine r_istore_n dX4_isKept_77 (by decide) rfl ?_
        refine r_iload_n dX4_isKept_78 rfl ?_
        refine r_if_ne (tgt := 154) dX4_isKept_79 rfl (fun c6 => ?_) (fun c6 => ?_)
        · --
          refine r_iconst (v := nI 1) dX4_isKept_154 (by decide) ?_
          refine r_goto (tgt := 159) dX4_isKept_155 rfl ?_
          exact r_ret1 dX4_isKept_159 rfl (by simp [kepW, c1, c3, c5, c6])
        · --
          exact absurd c6 (by decide)
      · --
        refine r_lload_n dX4_isKept_24 rfl ?_
        refine r_ldc2 q1880 dX4_isKept_25 ?_
        refine r_lcmp dX4_isKept_28 ?_
        refine r_if_eq (tgt := 72) dX4_isKept_29 rfl (fun c7 => ?_) (fun c7 => ?_)
        · --
          refine r_iconst (v := nI 1) dX4_isKept_72 (by decide) ?_
          refine r_goto (tgt := 77) dX4_isKept_73 rfl ?_
          refine r_istore_n dX4_isKept_77 (by decide) rfl ?_
          refine r_iload_n dX4_isKept_78 rfl ?_
          refine r_if_ne (tgt := 154) dX4_isKept_79 rfl (fun c8 => ?_) (fun c8 => ?_)
          · --
            refine r_iconst (v := nI 1) dX4_isKept_154 (by decide) ?_
            refine r_goto (tgt := 159) dX4_isKept_155 rfl ?_
            exact r_ret1 dX4_isKept_159 rfl (by simp [kepW, c1, c3, c5, c7, c8])
          · --
            exact absurd c8 (by decide)
        · --
          refine r_lload_n dX4_isKept_32 rfl ?_
          refine r_ldc2 q1881 dX4_isKept_33 ?_
          refine r_lcmp dX4_isKept_36 ?_
          refine r_if_eq (tgt := 72) dX4_isKept_37 rfl (fun c9 => ?_) (fun c9 => ?_)
          · --
            refine r_iconst (v := nI 1) dX4_isKept_72 (by decide) ?_
            refine r_goto (tgt := 77) dX4_isKept_73 rfl ?_
            refine r_istore_n dX4_isKept_77 (by decide) rfl ?_
            refine r_iload_n dX4_isKept_78 rfl ?_
            refine r_if_ne (tgt := 154) dX4_isKept_79 rfl (fun c10 => ?_) (fun c10 => ?_)
            · --
              refine r_iconst (v := nI 1) dX4_isKept_154 (by decide) ?_
              refine r_goto (tgt := 159) dX4_isKept_155 rfl ?_
              exact r_ret1 dX4_isKept_159 rfl (by simp [kepW, c1, c3, c5, c7, c9, c10])
            · --
              exact absurd c10 (by decide)
          · --
            refine r_lload_n dX4_isKept_40 rfl ?_
            refine r_ldc2 q1882 dX4_isKept_41 ?_
            refine r_lcmp dX4_isKept_44 ?_
            refine r_if_eq (tgt := 72) dX4_isKept_45 rfl (fun c11 => ?_) (fun c11 => ?_)
            · --
              refine r_iconst (v := nI 1) dX4_isKept_72 (by decide) ?_
              refine r_goto (tgt := 77) dX4_isKept_73 rfl ?_
              refine r_istore_n dX4_isKept_77 (by decide) rfl ?_
              refine r_iload_n dX4_isKept_78 rfl ?_
              refine r_if_ne (tgt := 154) dX4_isKept_79 rfl (fun c12 => ?_) (fun c12 => ?_)
              · --
                refine r_iconst (v := nI 1) dX4_isKept_154 (by decide) ?_
                refine r_goto (tgt := 159) dX4_isKept_155 rfl ?_
                exact r_ret1 dX4_isKept_159 rfl (by simp [kepW, c1, c3, c5, c7, c9, c11, c12])
              · --
                exact absurd c12 (by decide)
            · --
              refine r_lload_n dX4_isKept_48 rfl ?_
              refine r_ldc2 q1883 dX4_isKept_49 ?_
              refine r_lcmp dX4_isKept_52 ?_
              refine r_if_eq (tgt := 72) dX4_isKept_53 rfl (fun c13 => ?_) (fun c13 => ?_)
              · --
                refine r_iconst (v := nI 1) dX4_isKept_72 (by decide) ?_
                refine r_goto (tgt := 77) dX4_isKept_73 rfl ?_
                refine r_istore_n dX4_isKept_77 (by decide) rfl ?_
                refine r_iload_n dX4_isKept_78 rfl ?_
                refine r_if_ne (tgt := 154) dX4_isKept_79 rfl (fun c14 => ?_) (fun c14 => ?_)
                · --
                  refine r_iconst (v := nI 1) dX4_isKept_154 (by decide) ?_
                  refine r_goto (tgt := 159) dX4_isKept_155 rfl ?_
                  exact r_ret1 dX4_isKept_159 rfl (by simp [kepW, c1, c3, c5, c7, c9, c11, c13, c14])
                · --
                  exact absurd c14 (by decide)
              · --
                refine r_lload_n dX4_isKept_56 rfl ?_
                refine r_ldc2 q1884 dX4_isKept_57 ?_
                refine r_lcmp dX4_isKept_60 ?_
                refine r_if_eq (tgt := 72) dX4_isKept_61 rfl (fun c15 => ?_) (fun c15 => ?_)
                · --
                  refine r_iconst (v := nI 1) dX4_isKept_72 (by decide) ?_
                  refine r_goto (tgt := 77) dX4_isKept_73 rfl ?_
                  refine r_istore_n dX4_isKept_77 (by decide) rfl ?_
                  refine r_iload_n dX4_isKept_78 rfl ?_
                  refine r_if_ne (tgt := 154) dX4_isKept_79 rfl (fun c16 => ?_) (fun c16 => ?_)
                  · --
                    refine r_iconst (v := nI 1) dX4_isKept_154 (by decide) ?_
                    refine r_goto (tgt := 159) dX4_isKept_155 rfl ?_
                    exact r_ret1 dX4_isKept_159 rfl (by simp [kepW, c1, c3, c5, c7, c9, c11, c13, c15, c16])
                  · --
                    exact absurd c16 (by decide)
                · --
                  refine r_lload_n dX4_isKept_64 rfl ?_
                  refine r_ldc2 q1885 dX4_isKept_65 ?_
                  refine r_lcmp dX4_isKept_68 ?_
                  refine r_if_ne (tgt := 76) dX4_isKept_69 rfl (fun c17 => ?_) (fun c17 => ?_)
                  · --
                    refine r_iconst (v := nI 0) dX4_isKept_76 (by decide) ?_
                    refine r_istore_n dX4_isKept_77 (by decide) rfl ?_
                    refine r_iload_n dX4_isKept_78 rfl ?_
                    refine r_if_ne (tgt := 154) dX4_isKept_79 rfl (fun c18 => ?_) (fun c18 => ?_)
                    · --
                      exact absurd rfl c18
                    · --
                      refine r_lload_n dX4_isKept_82 rfl ?_
                      refine r_ldc2 q1886 dX4_isKept_83 ?_
                      refine r_lcmp dX4_isKept_86 ?_
                      refine r_if_eq (tgt := 154) dX4_isKept_87 rfl (fun c19 => ?_) (fun c19 => ?_)
                      · --
                        refine r_iconst (v := nI 1) dX4_isKept_154 (by decide) ?_
                        refine r_goto (tgt := 159) dX4_isKept_155 rfl ?_
                        exact r_ret1 dX4_isKept_159 rfl (by simp [kepW, c1, c3, c5, c7, c9, c11, c13, c15, c17, c18, c19])
                      · --
                        refine r_lload_n dX4_isKept_90 rfl ?_
                        refine r_ldc2 q1887 dX4_isKept_91 ?_
                        refine r_lcmp dX4_isKept_94 ?_
                        refine r_if_eq (tgt := 154) dX4_isKept_95 rfl (fun c20 => ?_) (fun c20 => ?_)
                        · --
                          refine r_iconst (v := nI 1) dX4_isKept_154 (by decide) ?_
                          refine r_goto (tgt := 159) dX4_isKept_155 rfl ?_
                          exact r_ret1 dX4_isKept_159 rfl (by simp [kepW, c1, c3, c5, c7, c9, c11, c13, c15, c17, c18, c19, c20])
                        · --
                          refine r_lload_n dX4_isKept_98 rfl ?_
                          refine r_ldc2 q1888 dX4_isKept_99 ?_
                          refine r_lcmp dX4_isKept_102 ?_
                          refine r_if_eq (tgt := 154) dX4_isKept_103 rfl (fun c21 => ?_) (fun c21 => ?_)
                          · --
                            refine r_iconst (v := nI 1) dX4_isKept_154 (by decide) ?_
                            refine r_goto (tgt := 159) dX4_isKept_155 rfl ?_
                            exact r_ret1 dX4_isKept_159 rfl (by simp [kepW, c1, c3, c5, c7, c9, c11, c13, c15, c17, c18, c19, c20, c21])
                          · --
                            refine r_lload_n dX4_isKept_106 rfl ?_
                            refine r_ldc2 q1889 dX4_isKept_107 ?_
                            refine r_lcmp dX4_isKept_110 ?_
                            refine r_if_eq (tgt := 154) dX4_isKept_111 rfl (fun c22 => ?_) (fun c22 => ?_)
                            · --
                              refine r_iconst (v := nI 1) dX4_isKept_154 (by decide) ?_
                              refine r_goto (tgt := 159) dX4_isKept_155 rfl ?_
                              exact r_ret1 dX4_isKept_159 rfl (by simp [kepW, c1, c3, c5, c7, c9, c11, c13, c15, c17, c18, c19, c20, c21, c22])
                            · --
                              refine r_lload_n dX4_isKept_114 rfl ?_
                              refine r_ldc2 q1890 dX4_isKept_115 ?_
                              refine r_lcmp dX4_isKept_118 ?_
                              refine r_if_eq (tgt := 154) dX4_isKept_119 rfl (fun c23 => ?_) (fun c23 => ?_)
                              · --
                                refine r_iconst (v := nI 1) dX4_isKept_154 (by decide) ?_
                                refine r_goto (tgt := 159) dX4_isKept_155 rfl ?_
                                exact r_ret1 dX4_isKept_159 rfl (by simp [kepW, c1, c3, c5, c7, c9, c11, c13, c15, c17, c18, c19, c20, c21, c22, c23])
                              · --
                                refine r_lload_n dX4_isKept_122 rfl ?_
                                refine r_ldc2 q1891 dX4_isKept_123 ?_
                                refine r_lcmp dX4_isKept_126 ?_
                                refine r_if_eq (tgt := 154) dX4_isKept_127 rfl (fun c24 => ?_) (fun c24 => ?_)
                                · --
                                  refine r_iconst (v := nI 1) dX4_isKept_154 (by decide) ?_
                                  refine r_goto (tgt := 159) dX4_isKept_155 rfl ?_
                                  exact r_ret1 dX4_isKept_159 rfl (by simp [kepW, c1, c3, c5, c7, c9, c11, c13, c15, c17, c18, c19, c20, c21, c22, c23, c24])
                                · --
                                  refine r_lload_n dX4_isKept_130 rfl ?_
                                  refine r_ldc2 q1892 dX4_isKept_131 ?_
                                  refine r_lcmp dX4_isKept_134 ?_
                                  refine r_if_eq (tgt := 154) dX4_isKept_135 rfl (fun c25 => ?_) (fun c25 => ?_)
                                  · --
                                    refine r_iconst (v := nI 1) dX4_isKept_154 (by decide) ?_
                                    refine r_goto (tgt := 159) dX4_isKept_155 rfl ?_
                                    exact r_ret1 dX4_isKept_159 rfl (by simp [kepW, c1, c3, c5, c7, c9, c11, c13, c15, c17, c18, c19, c20, c21, c22, c23, c24, c25])
                                  · --
                                    refine r_lload_n dX4_isKept_138 rfl ?_
                                    refine r_ldc2 q1893 dX4_isKept_139 ?_
                                    refine r_lcmp dX4_isKept_142 ?_
                                    refine r_if_eq (tgt := 154) dX4_isKept_143 rfl (fun c26 => ?_) (fun c26 => ?_)
                                    · --
                                      refine r_iconst (v := nI 1) dX4_isKept_154 (by decide) ?_
                                      refine r_goto (tgt := 159) dX4_isKept_155 rfl ?_
                                      exact r_ret1 dX4_isKept_159 rfl (by simp [kepW, c1, c3, c5, c7, c9, c11, c13, c15, c17, c18, c19, c20, c21, c22, c23, c24, c25, c26])
                                    · --
                                      refine r_lload_n dX4_isKept_146 rfl ?_
                                      refine r_ldc2 q1894 dX4_isKept_147 ?_
                                      refine r_lcmp dX4_isKept_150 ?_
                                      refine r_if_ne (tgt := 158) dX4_isKept_151 rfl (fun c27 => ?_) (fun c27 => ?_)
                                      · --
                                        refine r_iconst (v := nI 0) dX4_isKept_158 (by decide) ?_
                                        exact r_ret0 dX4_isKept_159 rfl (by simp [kepW, c1, c3, c5, c7, c9, c11, c13, c15, c17, c18, c19, c20, c21, c22, c23, c24, c25, c26, c27])
                                      · --
                                        refine r_iconst (v := nI 1) dX4_isKept_154 (by decide) ?_
                                        refine r_goto (tgt := 159) dX4_isKept_155 rfl ?_
                                        exact r_ret1 dX4_isKept_159 rfl (by simp [kepW, c1, c3, c5, c7, c9, c11, c13, c15, c17, c18, c19, c20, c21, c22, c23, c24, c25, c26, c27])
                  · --
                    refine r_iconst (v := nI 1) dX4_isKept_72 (by decide) ?_
                    refine r_goto (tgt := 77) dX4_isKept_73 rfl ?_
                    refine r_istore_n dX4_isKept_77 (by decide) rfl ?_
                    refine r_iload_n dX4_isKept_78 rfl ?_
                    refine r_if_ne (tgt := 154) dX4_isKept_79 rfl (fun c28 => ?_) (fun c28 => ?_)
                    · --
                      refine r_iconst (v := nI 1) dX4_isKept_154 (by decide) ?_
                      refine r_goto (tgt := 159) dX4_isKept_155 rfl ?_
                      exact r_ret1 dX4_isKept_159 rfl (by simp [kepW, c1, c3, c5, c7, c9, c11, c13, c15, c17, c28])
                    · --
                      exact absurd c28 (by decide)
