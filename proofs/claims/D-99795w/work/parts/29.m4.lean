/-! ===== THE REFERENCE: a rule's word, what grinding says (walks by program) ===== -/
set_option maxRecDepth 100000

theorem n1_ : nI 1 = 1 := rfl
theorem nI_m1 {t : Nat} (h : t < 2 ^ 31) : ¬ nI t = -1 := fun e => nI_pos h (by rw [e]; decide)

theorem c_two {G : ev_G} {h : ev_H} (cq av dv : Int32) : Called G mX4_two 0 0 0 [vI cq, vI av, vI dv] h (px (vI (twoV cq av dv)) h) := by
  refine called_of rfl [some (vI cq), some (vI av), some (vI dv)] rfl (Nat.le_of_ble_eq_true rfl) ?_
  refine r_iload_n dX4_two_0 rfl ?_
  by_cases e37 : cq = nI 37
  · refine r_tswC (tgt := 144) (off := 143) 37 dX4_two_1 e37 (by decide) rfl ?_
    refine r_iload_n dX4_two_144 rfl ?_
    refine r_if_ne (tgt := 152) dX4_two_145 rfl (fun c1 => ?_) (fun c1 => ?_)
    · --
      refine r_iload_n dX4_two_152 rfl ?_
      refine r_iload_n dX4_two_153 rfl ?_
      refine r_irem dX4_two_154 (by assumption) ?_
      exact r_retx dX4_two_155 rfl rfl (by rw [e37]; first | rfl | exact b2i_dec (by simp_all) | exact b2i_decn (by simp_all) | (show _ = b2i _; simp [*]; rfl) | (show _ = ite _ _ _; simp [*]; try rfl))
    · --
      refine r_iconst (v := nI 0) dX4_two_148 (by decide) ?_
      refine r_goto (tgt := 155) dX4_two_149 rfl ?_
      exact r_retx dX4_two_155 rfl rfl (by rw [e37]; first | rfl | exact b2i_dec (by simp_all) | exact b2i_decn (by simp_all) | (show _ = b2i _; simp [*]; rfl) | (show _ = ite _ _ _; simp [*]; try rfl))
  by_cases e38 : cq = nI 38
  · refine r_tswC (tgt := 189) (off := 188) 38 dX4_two_1 e38 (by decide) rfl ?_
    refine r_iload_n dX4_two_189 rfl ?_
    refine r_if_eq (tgt := 201) dX4_two_190 rfl (fun c2 => ?_) (fun c2 => ?_)
    · --
      refine r_iconst (v := nI 0) dX4_two_201 (by decide) ?_
      exact r_retx dX4_two_202 rfl rfl (by rw [e38]; first | rfl | exact b2i_dec (by simp_all) | exact b2i_decn (by simp_all) | (show _ = b2i _; simp [*]; rfl) | (show _ = ite _ _ _; simp [*]; try rfl))
    · --
      refine r_iload_n dX4_two_193 rfl ?_
      refine r_if_eq (tgt := 201) dX4_two_194 rfl (fun c3 => ?_) (fun c3 => ?_)
      · --
        refine r_iconst (v := nI 0) dX4_two_201 (by decide) ?_
        exact r_retx dX4_two_202 rfl rfl (by rw [e38]; first | rfl | exact b2i_dec (by simp_all) | exact b2i_decn (by simp_all) | (show _ = b2i _; simp [*]; rfl) | (show _ = ite _ _ _; simp [*]; try rfl))
      · --
        refine r_iconst (v := nI 1) dX4_two_197 (by decide) ?_
        refine r_goto (tgt := 202) dX4_two_198 rfl ?_
        exact r_retx dX4_two_202 rfl rfl (by rw [e38]; first | rfl | exact b2i_dec (by simp_all) | exact b2i_decn (by simp_all) | (show _ = b2i _; simp [*]; rfl) | (show _ = ite _ _ _; simp [*]; try rfl))
  by_cases e42 : cq = nI 42
  · refine r_tswC (tgt := 128) (off := 127) 42 dX4_two_1 e42 (by decide) rfl ?_
    refine r_iload_n dX4_two_128 rfl ?_
    refine r_iload_n dX4_two_129 rfl ?_
    refine r_imul dX4_two_130 ?_
    exact r_retx dX4_two_131 rfl rfl (by rw [e42]; first | rfl | exact b2i_dec (by simp_all) | exact b2i_decn (by simp_all) | (show _ = b2i _; simp [*]; rfl) | (show _ = ite _ _ _; simp [*]; try rfl))
  by_cases e43 : cq = nI 43
  · refine r_tswC (tgt := 120) (off := 119) 43 dX4_two_1 e43 (by decide) rfl ?_
    refine r_iload_n dX4_two_120 rfl ?_
    refine r_iload_n dX4_two_121 rfl ?_
    refine r_iadd dX4_two_122 ?_
    exact r_retx dX4_two_123 rfl rfl (by rw [e43]; first | rfl | exact b2i_dec (by simp_all) | exact b2i_decn (by simp_all) | (show _ = b2i _; simp [*]; rfl) | (show _ = ite _ _ _; simp [*]; try rfl))
  by_cases e45 : cq = nI 45
  · refine r_tswC (tgt := 124) (off := 123) 45 dX4_two_1 e45 (by decide) rfl ?_
    refine r_iload_n dX4_two_124 rfl ?_
    refine r_iload_n dX4_two_125 rfl ?_
    refine r_isub dX4_two_126 ?_
    exact r_retx dX4_two_127 rfl rfl (by rw [e45]; first | rfl | exact b2i_dec (by simp_all) | exact b2i_decn (by simp_all) | (show _ = b2i _; simp [*]; rfl) | (show _ = ite _ _ _; simp [*]; try rfl))
  by_cases e47 : cq = nI 47
  · refine r_tswC (tgt := 132) (off := 131) 47 dX4_two_1 e47 (by decide) rfl ?_
    refine r_iload_n dX4_two_132 rfl ?_
    refine r_if_ne (tgt := 140) dX4_two_133 rfl (fun c4 => ?_) (fun c4 => ?_)
    · --
      refine r_iload_n dX4_two_140 rfl ?_
      refine r_iload_n dX4_two_141 rfl ?_
      refine r_idiv dX4_two_142 (by assumption) ?_
      exact r_retx dX4_two_143 rfl rfl (by rw [e47]; first | rfl | exact b2i_dec (by simp_all) | exact b2i_decn (by simp_all) | (show _ = b2i _; simp [*]; rfl) | (show _ = ite _ _ _; simp [*]; try rfl))
    · --
      refine r_iconst (v := nI 0) dX4_two_136 (by decide) ?_
      refine r_goto (tgt := 143) dX4_two_137 rfl ?_
      exact r_retx dX4_two_143 rfl rfl (by rw [e47]; first | rfl | exact b2i_dec (by simp_all) | exact b2i_decn (by simp_all) | (show _ = b2i _; simp [*]; rfl) | (show _ = ite _ _ _; simp [*]; try rfl))
  by_cases e60 : cq = nI 60
  · refine r_tswC (tgt := 156) (off := 155) 60 dX4_two_1 e60 (by decide) rfl ?_
    refine r_iload_n dX4_two_156 rfl ?_
    refine r_iload_n dX4_two_157 rfl ?_
    refine r_icmp_ge (tgt := 165) dX4_two_158 rfl (fun c5 => ?_) (fun c5 => ?_)
    · --
      refine r_iconst (v := nI 0) dX4_two_165 (by decide) ?_
      exact r_retx dX4_two_166 rfl rfl (by rw [e60]; first | rfl | exact b2i_dec (by simp_all) | exact b2i_decn (by simp_all) | (show _ = b2i _; simp [*]; rfl) | (show _ = ite _ _ _; simp [*]; try rfl))
    · --
      refine r_iconst (v := nI 1) dX4_two_161 (by decide) ?_
      refine r_goto (tgt := 166) dX4_two_162 rfl ?_
      exact r_retx dX4_two_166 rfl rfl (by rw [e60]; first | rfl | exact b2i_dec (by simp_all) | exact b2i_decn (by simp_all) | (show _ = b2i _; simp [*]; rfl) | (show _ = ite _ _ _; simp [*]; try rfl))
  by_cases e61 : cq = nI 61
  · refine r_tswC (tgt := 178) (off := 177) 61 dX4_two_1 e61 (by decide) rfl ?_
    refine r_iload_n dX4_two_178 rfl ?_
    refine r_iload_n dX4_two_179 rfl ?_
    refine r_icmp_ne (tgt := 187) dX4_two_180 rfl (fun c6 => ?_) (fun c6 => ?_)
    · --
      refine r_iconst (v := nI 0) dX4_two_187 (by decide) ?_
      exact r_retx dX4_two_188 rfl rfl (by rw [e61]; first | rfl | exact b2i_dec (by simp_all) | exact b2i_decn (by simp_all) | (show _ = b2i _; simp [*]; rfl) | (show _ = ite _ _ _; simp [*]; try rfl))
    · --
      refine r_iconst (v := nI 1) dX4_two_183 (by decide) ?_
      refine r_goto (tgt := 188) dX4_two_184 rfl ?_
      exact r_retx dX4_two_188 rfl rfl (by rw [e61]; first | rfl | exact b2i_dec (by simp_all) | exact b2i_decn (by simp_all) | (show _ = b2i _; simp [*]; rfl) | (show _ = ite _ _ _; simp [*]; try rfl))
  by_cases e62 : cq = nI 62
  · refine r_tswC (tgt := 167) (off := 166) 62 dX4_two_1 e62 (by decide) rfl ?_
    refine r_iload_n dX4_two_167 rfl ?_
    refine r_iload_n dX4_two_168 rfl ?_
    refine r_icmp_le (tgt := 176) dX4_two_169 rfl (fun c7 => ?_) (fun c7 => ?_)
    · --
      refine r_iconst (v := nI 0) dX4_two_176 (by decide) ?_
      exact r_retx dX4_two_177 rfl rfl (by rw [e62]; first | rfl | exact b2i_dec (by simp_all) | exact b2i_decn (by simp_all) | (show _ = b2i _; simp [*]; rfl) | (show _ = ite _ _ _; simp [*]; try rfl))
    · --
      refine r_iconst (v := nI 1) dX4_two_172 (by decide) ?_
      refine r_goto (tgt := 177) dX4_two_173 rfl ?_
      exact r_retx dX4_two_177 rfl rfl (by rw [e62]; first | rfl | exact b2i_dec (by simp_all) | exact b2i_decn (by simp_all) | (show _ = b2i _; simp [*]; rfl) | (show _ = ite _ _ _; simp [*]; try rfl))
  refine r_tswD (tgt := 203) 37 [37, 38, 42, 43, 45, 47, 60, 61, 62] dX4_two_1 (by decide) (by decide) (by simp [*]) rfl ?_
  refine r_iload_n dX4_two_203 rfl ?_
  refine r_if_ne (tgt := 211) dX4_two_204 rfl (fun c8 => ?_) (fun c8 => ?_)
  · --
    refine r_iconst (v := nI 1) dX4_two_211 (by decide) ?_
    refine r_goto (tgt := 216) dX4_two_212 rfl ?_
    exact r_retx dX4_two_216 rfl rfl (by simp only [twoV, if_neg e43, if_neg e45, if_neg e42, if_neg e47, if_neg e37, if_neg e60, if_neg e62, if_neg e61, if_neg e38]; simp [*]; rfl)
  · --
    refine r_iload_n dX4_two_207 rfl ?_
    refine r_if_eq (tgt := 215) dX4_two_208 rfl (fun c9 => ?_) (fun c9 => ?_)
    · --
      refine r_iconst (v := nI 0) dX4_two_215 (by decide) ?_
      exact r_retx dX4_two_216 rfl rfl (by simp only [twoV, if_neg e43, if_neg e45, if_neg e42, if_neg e47, if_neg e37, if_neg e60, if_neg e62, if_neg e61, if_neg e38]; simp [*]; rfl)
    · --
      refine r_iconst (v := nI 1) dX4_two_211 (by decide) ?_
      refine r_goto (tgt := 216) dX4_two_212 rfl ?_
      exact r_retx dX4_two_216 rfl rfl (by simp only [twoV, if_neg e43, if_neg e45, if_neg e42, if_neg e47, if_neg e37, if_neg e60, if_neg e62, if_neg e61, if_neg e38]; simp [*]; rfl)

theorem c_asked {G : ev_G} {b : Bk} {k : Nat} {h : ev_H} (hm : MB b k h) {T : Nat → Int32} (hT : MT T h) {s t : Nat} {sh : Int32} (ht : t < nT b) (hs : s < nS b) (h39 : hI h aM 39 = nI t) (h40 : hI h aM 40 = nI s) (h41 : hI h aM 41 = sh) (cq nv : Int32) : Called G mX4_asked 3 0 0 [vR aM, vI cq, vI nv] h (px (vI (askV (qV b T sh s t) cq nv)) h) := by
  have hl := hm.lay
  have hk2 := hm.k2
  have hb := hm.bw
  have hb1 := hb.p6
  have hb2 := hb.s5
  have hb3 := hb.t10
  refine called_of rfl [some (vR aM), some (vI cq), some (vI nv)] rfl (Nat.le_of_ble_eq_true rfl) ?_
  refine r_iload_n dX4_asked_0 rfl ?_
  by_cases e99 : cq = nI 99
  · refine r_tswC (tgt := 138) (off := 137) 99 dX4_asked_1 e99 (by decide) rfl ?_
    refine r_aload_n dX4_asked_138 rfl ?_
    refine r_getRv fX4_88 (hl.1) (v := aAll) ((l_all hl).1) rfl dX4_asked_139 ?_
    refine r_bipush (v := nI 17) dX4_asked_142 (by decide) ?_
    refine r_ialdv ((l_all hl).2.1) ((l_all hl).2.2) (ix_n (by omega) (by decide)) (v := T (17)) (hT _ (by omega)) dX4_asked_144 ?_
    exact r_retx dX4_asked_145 rfl rfl (by rw [e99]; rfl)
  by_cases e103 : cq = nI 103
  · refine r_tswC (tgt := 102) (off := 101) 103 dX4_asked_1 e103 (by decide) rfl ?_
    refine r_aload_n dX4_asked_102 rfl ?_
    refine r_getRv fX4_88 (hl.1) (v := aAll) ((l_all hl).1) rfl dX4_asked_103 ?_
    refine r_iconst (v := nI 0) dX4_asked_106 (by decide) ?_
    refine r_ialdv ((l_all hl).2.1) ((l_all hl).2.2) (ix_n (by omega) (by decide)) (v := T (0)) (hT _ (by omega)) dX4_asked_107 ?_
    refine r_callSx lX4_339 (c_bitsOf _) rfl rfl rfl rfl dX4_asked_108 (Nat.le_refl _) (Nat.le_refl _) ?_
    exact r_retx dX4_asked_111 rfl rfl (by rw [e103]; rfl)
  by_cases e104 : cq = nI 104
  · refine r_tswC (tgt := 88) (off := 87) 104 dX4_asked_1 e104 (by decide) rfl ?_
    refine r_aload_n dX4_asked_88 rfl ?_
    refine r_aload_n dX4_asked_89 rfl ?_
    refine r_getIv fX4_330 (hl.1) (v := nI t) (h39) rfl dX4_asked_90 ?_
    refine r_callVx lX4_333 (c_hotOf hm (t := t) (by omega)) (hl.1) rfl rfl rfl rfl dX4_asked_93 (Nat.le_refl _) (Nat.le_refl _) ?_
    exact r_retx dX4_asked_96 rfl rfl (by rw [e104]; rfl)
  by_cases e114 : cq = nI 114
  · refine r_tswC (tgt := 112) (off := 111) 114 dX4_asked_1 e114 (by decide) rfl ?_
    refine r_aload_n dX4_asked_112 rfl ?_
    refine r_getRv fX4_88 (hl.1) (v := aAll) ((l_all hl).1) rfl dX4_asked_113 ?_
    refine r_bipush (v := nI 12) dX4_asked_116 (by decide) ?_
    refine r_aload_n dX4_asked_118 rfl ?_
    refine r_getIv fX4_342 (hl.1) (v := nI s) (h40) rfl dX4_asked_119 ?_
    refine r_iadd dX4_asked_122 ?_
    refine r_top (nI (12 + s)) (nI_add _ _) ?_
    refine r_ialdv ((l_all hl).2.1) ((l_all hl).2.2) (ix_n (by omega) (by decide)) (v := T (12 + s)) (hT _ (by omega)) dX4_asked_123 ?_
    exact r_retx dX4_asked_124 rfl rfl (by rw [e114]; rfl)
  by_cases e115 : cq = nI 115
  · refine r_tswC (tgt := 97) (off := 96) 115 dX4_asked_1 e115 (by decide) rfl ?_
    refine r_aload_n dX4_asked_97 rfl ?_
    refine r_getIv fX4_336 (hl.1) (v := sh) (h41) rfl dX4_asked_98 ?_
    exact r_retx dX4_asked_101 rfl rfl (by rw [e115]; rfl)
  by_cases e116 : cq = nI 116
  · refine r_tswC (tgt := 125) (off := 124) 116 dX4_asked_1 e116 (by decide) rfl ?_
    refine r_aload_n dX4_asked_125 rfl ?_
    refine r_aload_n dX4_asked_126 rfl ?_
    refine r_aload_n dX4_asked_127 rfl ?_
    refine r_getIv fX4_342 (hl.1) (v := nI s) (h40) rfl dX4_asked_128 ?_
    refine r_callVx lX4_345 (c_inOf hm hT _) (hl.1) rfl rfl rfl rfl dX4_asked_131 (Nat.le_refl _) (Nat.le_refl _) ?_
    refine r_callVx lX4_348 (c_heatOf hm _) (hl.1) rfl rfl rfl rfl dX4_asked_134 (Nat.le_refl _) (Nat.le_refl _) ?_
    exact r_retx dX4_asked_137 rfl rfl (by rw [e116]; rfl)
  refine r_tswD (tgt := 146) 99 [99, 103, 104, 114, 115, 116] dX4_asked_1 (by decide) (by decide) (by simp [*]) rfl ?_
  refine r_iload_n dX4_asked_146 rfl ?_
  exact r_retx dX4_asked_147 rfl rfl (by simp [askV, *])

theorem c_comes {G : ev_G} {b : Bk} {k : Nat} {h : ev_H} (hm : MB b k h) {T : Nat → Int32} (hT : MT T h) {s t : Nat} {sh : Int32} {cs : List (Int32 × Int32)} (hru : bRu b = some cs) (ht : t < nT b) (hs : s < nS b) (h39 : hI h aM 39 = nI t) (h40 : hI h aM 40 = nI s) (h41 : hI h aM 41 = sh) : Called G mX4_comes 4 0 0 [vR aM] h (pI (fun y h1 => y = ruleV (qV b T sh s t) cs ∧ Fr [aPile] [] h h1)) := by
  have hl := hm.lay
  have hk2 := hm.k2
  have hb := hm.bw
  have hb1 := hb.p6
  have hb2 := hb.s5
  have hb3 := hb.t10
  obtain ⟨r0, hr1, hr2, hr3, hr4⟩ := hm.2.2.2.2.2.2.2.2.2 cs hru
  refine called_of rfl [some (vR aM), none, none, none] rfl (Nat.le_of_ble_eq_true rfl) ?_
  refine r_iconst (v := nI 0) dX4_comes_0 (by decide) ?_
  refine r_istore_n dX4_comes_1 (by decide) rfl ?_
  refine r_aload_n dX4_comes_2 rfl ?_
  refine r_getRv fX4_57 (hl.1) (v := aRuleFrom) ((l_ruleFrom hl).1) rfl dX4_comes_3 ?_
  refine r_aload_n dX4_comes_6 rfl ?_
  refine r_getIv fX4_253 (hl.1) (v := nI k) (hm.bank) rfl dX4_comes_7 ?_
  refine r_ialdv ((l_ruleFrom hl).2.1) ((l_ruleFrom hl).2.2) (ix_n (by omega) (by decide)) (v := nI r0) (hr1) dX4_comes_10 ?_
  refine r_istore_n dX4_comes_11 (by decide) rfl ?_
  refine (ev_loop (σ := Nat × List Int32 × ev_H) (P := fun s9 => ∀ (i : Nat) (st : List Int32) (h9 : ev_H), s9 = (i, st, h9) → (i ≤ cs.length ∧ st.length ≤ 60 ∧ rpnH (cs.drop i) st.length = some 1 ∧ rpn (qV b T sh s t) (cs.drop i) st = rpn (qV b T sh s t) cs [] ∧ Pl st h9 ∧ Fr [aPile] [] h h9) → Ev G mX4_comes (ev_room 4 0 0) (ev_MQ G (pI (fun y h1 => y = ruleV (qV b T sh s t) cs ∧ Fr [aPile] [] h h1)) 0 0) 12 [some (vR aM), some (vI (nI st.length)), some (vI (nI (r0 + i))), none] [] h9 0 0) (fun s9 => cs.length - s9.1) (fun s9 ih1 i st h9 e9 q1 => ?_)) (0, [], h) 0 ([]) h rfl (⟨Nat.zero_le _, Nat.zero_le _, hb.2.2.2.2.2.2.2.2 cs hru, rfl, Pl.nil, Fr.rf⟩)
  subst e9
  obtain ⟨hi, hst, hrh, hrp, hpl, f9⟩ := q1
  have hm9 := hm.fr f9 rfl
  have hT9 := hT.fr f9 (by decide)
  have hl9 := hm9.lay
  have hr29 : hI h9 aRuleTo k = nI (r0 + cs.length) := (f9.ar aRuleTo (by decide) (by decide) k).trans hr2
  refine r_iload_n dX4_comes_12 rfl ?_
  refine r_aload_n dX4_comes_13 rfl ?_
  refine r_getRv fX4_60 (hl9.1) (v := aRuleTo) ((l_ruleTo hl9).1) rfl dX4_comes_14 ?_
  refine r_aload_n dX4_comes_17 rfl ?_
  refine r_getIv fX4_253 (hl9.1) (v := nI k) (hm9.bank) rfl dX4_comes_18 ?_
  refine r_ialdv ((l_ruleTo hl9).2.1) ((l_ruleTo hl9).2.2) (ix_n (by omega) (by decide)) (v := nI (r0 + cs.length)) (hr29) dX4_comes_21 ?_
  refine r_icmpN_ge (tgt := 130) dX4_comes_22 rfl (by omega) (by omega) (fun c1 => ?_) (fun c1 => ?_)
  · --
    have hi9 : i = cs.length := by omega
    have hd9 : cs.drop i = [] := List.drop_eq_nil_of_le (by omega)
    rw [hd9] at hrh hrp
    have hl1 : st.length = 1 := Option.some.inj hrh
    have hp0 : hI h9 aPile 0 = st.headD 0 := by have := hpl.top (by omega); rw [hl1] at this; exact this
    refine r_aload_n dX4_comes_130 rfl ?_
    refine r_getRv fX4_85 (hl9.1) (v := aPile) ((l_pile hl9).1) rfl dX4_comes_131 ?_
    refine r_iconst (v := nI 0) dX4_comes_134 (by decide) ?_
    refine r_ialdv ((l_pile hl9).2.1) ((l_pile hl9).2.2) (ix_n (by omega) (by decide)) (v := st.headD 0) (hp0) dX4_comes_135 ?_
    exact r_reti dX4_comes_136 rfl (rfl) (Nat.le_refl _) (Nat.le_refl _) (⟨by unfold ruleV; rw [← hrp]; rfl, f9⟩)
  · --
    obtain ⟨q, hq⟩ : ∃ q, cs[i]? = some q := ⟨_, List.getElem?_eq_getElem (by omega)⟩
    have hdr : cs.drop i = q :: cs.drop (i + 1) := by rw [List.drop_eq_getElem_cons (by omega)]; congr 1; rw [List.getElem?_eq_getElem (by omega)] at hq; exact Option.some.inj hq
    rw [hdr] at hrh hrp
    have hq1 : hI h9 aCode (r0 + i) = q.1 := (f9.ar aCode (by decide) (by decide) _).trans (hr4 i q hq).1
    have hq2 : hI h9 aCodeNumber (r0 + i) = q.2 := (f9.ar aCodeNumber (by decide) (by decide) _).trans (hr4 i q hq).2
    refine r_aload_n dX4_comes_25 rfl ?_
    refine r_getRv fX4_73 (hl9.1) (v := aCode) ((l_code hl9).1) rfl dX4_comes_26 ?_
    refine r_iload_n dX4_comes_29 rfl ?_
    refine r_ialdv ((l_code hl9).2.1) ((l_code hl9).2.2) (ix_n (by omega) (by decide)) (v := q.1) (hq1) dX4_comes_30 ?_
    refine r_istore_n dX4_comes_31 (by decide) rfl ?_
    refine r_iload_n dX4_comes_32 rfl ?_
    refine r_bipush (v := nI 126) dX4_comes_33 (by decide) ?_
    refine r_icmp_ne (tgt := 65) dX4_comes_35 rfl (fun c2 => ?_) (fun c2 => ?_)
    · --
      refine r_iload_n dX4_comes_65 rfl ?_
      refine r_callSx lX4_198 (c_isLetter _) rfl rfl rfl rfl dX4_comes_66 (Nat.le_refl _) (Nat.le_refl _) ?_
      refine r_ifB_eq (tgt := 95) dX4_comes_69 rfl (fun c3 => ?_) (fun c3 => ?_)
      · --
        have hx9 := rpnH_two (by assumption) (by assumption) hrh
        refine r_iinc (v := nI (st.length - 1)) dX4_comes_95 rfl (sb_m1 (by omega)) (by decide) rfl ?_
        refine r_aload_n dX4_comes_98 rfl ?_
        refine r_getRv fX4_85 (hl9.1) (v := aPile) ((l_pile hl9).1) rfl dX4_comes_99 ?_
        refine r_iload_n dX4_comes_102 rfl ?_
        refine r_iconst (v := nI 1) dX4_comes_103 (by decide) ?_
        refine r_isub dX4_comes_104 ?_
        refine r_top (nI (st.length - 1 - 1)) (pk_sub (by omega)) ?_
        refine r_iload_n dX4_comes_105 rfl ?_
        refine r_aload_n dX4_comes_106 rfl ?_
        refine r_getRv fX4_85 (hl9.1) (v := aPile) ((l_pile hl9).1) rfl dX4_comes_107 ?_
        refine r_iload_n dX4_comes_110 rfl ?_
        refine r_iconst (v := nI 1) dX4_comes_111 (by decide) ?_
        refine r_isub dX4_comes_112 ?_
        refine r_top (nI (st.length - 1 - 1)) (pk_sub (by omega)) ?_
        refine r_ialdv ((l_pile hl9).2.1) ((l_pile hl9).2.2) (ix_n (by omega) (by decide)) (v := st.tail.headD 0) (hpl.snd (by omega)) dX4_comes_113 ?_
        refine r_aload_n dX4_comes_114 rfl ?_
        refine r_getRv fX4_85 (hl9.1) (v := aPile) ((l_pile hl9).1) rfl dX4_comes_115 ?_
        refine r_iload_n dX4_comes_118 rfl ?_
        refine r_ialdv ((l_pile hl9).2.1) ((l_pile hl9).2.2) (ix_n (by omega) (by decide)) (v := st.headD 0) (hpl.top (by omega)) dX4_comes_119 ?_
        refine r_callSx lX4_354 (c_two _ _ _) rfl rfl rfl rfl dX4_comes_120 (Nat.le_refl _) (Nat.le_refl _) ?_
        refine r_iastv ((l_pile hl9).2.1) (by decide) ((l_pile hl9).2.2) (ix_n (by omega) (by decide)) dX4_comes_123 ?_
        refine r_iincN (n := 1) dX4_comes_124 rfl rfl (by decide) rfl ?_
        refine r_goto (tgt := 12) dX4_comes_127 rfl ?_
        refine r_sub [some (vR aM), some (vI (nI (st.length - 1))), some (vI (nI (r0 + i + 1))), none] (And.intro rfl (And.intro rfl (And.intro rfl trivial))) ?_
        exact r_L (by rw [List.length_cons, List.length_tail, List.length_tail, show st.length - 1 - 1 + 1 = st.length - 1 by omega]; rfl) (ih1 (i + 1, (twoV q.1 (st.tail.headD 0) (st.headD 0)) :: st.tail.tail, sI h9 aPile (st.length - 1 - 1) (twoV q.1 (st.tail.headD 0) (st.headD 0))) (by show cs.length - (i + 1) < cs.length - i; omega) (i + 1) ((twoV q.1 (st.tail.headD 0) (st.headD 0)) :: st.tail.tail) (sI h9 aPile (st.length - 1 - 1) (twoV q.1 (st.tail.headD 0) (st.headD 0))) rfl (⟨by omega, by rw [List.length_cons, List.length_tail, List.length_tail]; omega, by rw [List.length_cons, List.length_tail, List.length_tail, show st.length - 1 - 1 + 1 = st.length - 1 by omega]; exact hx9.2, by rw [← hrp]; show _ = rpn _ _ (rpn1 _ _ _); rw [rpn1_two (by assumption) (by assumption) hx9.1], hpl.two (by omega) _, f9.sa _ _ _ (by decide)⟩))
      · --
        have hx9 := rpnH_let (by assumption) (by assumption) hrh
        refine r_aload_n dX4_comes_72 rfl ?_
        refine r_getRv fX4_85 (hl9.1) (v := aPile) ((l_pile hl9).1) rfl dX4_comes_73 ?_
        refine r_iload_n dX4_comes_76 rfl ?_
        refine r_aload_n dX4_comes_77 rfl ?_
        refine r_iload_n dX4_comes_78 rfl ?_
        refine r_aload_n dX4_comes_79 rfl ?_
        refine r_getRv fX4_76 (hl9.1) (v := aCodeNumber) ((l_codeNumber hl9).1) rfl dX4_comes_80 ?_
        refine r_iload_n dX4_comes_83 rfl ?_
        refine r_ialdv ((l_codeNumber hl9).2.1) ((l_codeNumber hl9).2.2) (ix_n (by omega) (by decide)) (v := q.2) (hq2) dX4_comes_84 ?_
        refine r_callVx lX4_351 (c_asked hm9 hT9 ht hs ((f9.fld 39 (by decide) (by decide)).trans h39) ((f9.fld 40 (by decide) (by decide)).trans h40) ((f9.fld 41 (by decide) (by decide)).trans h41) _ _) (hl9.1) rfl rfl rfl rfl dX4_comes_85 (Nat.le_refl _) (Nat.le_refl _) ?_
        refine r_iastv ((l_pile hl9).2.1) (by decide) ((l_pile hl9).2.2) (ix_n (by omega) (by decide)) dX4_comes_88 ?_
        refine r_iincN (n := 1) dX4_comes_89 rfl rfl (by decide) rfl ?_
        refine r_goto (tgt := 124) dX4_comes_92 rfl ?_
        refine r_iincN (n := 1) dX4_comes_124 rfl rfl (by decide) rfl ?_
        refine r_goto (tgt := 12) dX4_comes_127 rfl ?_
        refine r_sub [some (vR aM), some (vI (nI (st.length + 1))), some (vI (nI (r0 + i + 1))), none] (And.intro rfl (And.intro rfl (And.intro rfl trivial))) ?_
        exact ih1 (i + 1, (askV (qV b T sh s t) q.1 q.2) :: st, sI h9 aPile st.length (askV (qV b T sh s t) q.1 q.2)) (by show cs.length - (i + 1) < cs.length - i; omega) (i + 1) ((askV (qV b T sh s t) q.1 q.2) :: st) (sI h9 aPile st.length (askV (qV b T sh s t) q.1 q.2)) rfl (⟨by omega, by show st.length + 1 ≤ 60; omega, hx9.2, by rw [← hrp]; show _ = rpn _ _ (rpn1 _ _ _); rw [rpn1_let (by assumption) (by assumption)], hpl.push _, f9.sa _ _ _ (by decide)⟩)
    · --
      have hx9 := rpnH_not (by assumption) hrh
      refine r_aload_n dX4_comes_38 rfl ?_
      refine r_getRv fX4_85 (hl9.1) (v := aPile) ((l_pile hl9).1) rfl dX4_comes_39 ?_
      refine r_iload_n dX4_comes_42 rfl ?_
      refine r_iconst (v := nI 1) dX4_comes_43 (by decide) ?_
      refine r_isub dX4_comes_44 ?_
      refine r_top (nI (st.length - 1)) (pk_sub (by omega)) ?_
      refine r_aload_n dX4_comes_45 rfl ?_
      refine r_getRv fX4_85 (hl9.1) (v := aPile) ((l_pile hl9).1) rfl dX4_comes_46 ?_
      refine r_iload_n dX4_comes_49 rfl ?_
      refine r_iconst (v := nI 1) dX4_comes_50 (by decide) ?_
      refine r_isub dX4_comes_51 ?_
      refine r_top (nI (st.length - 1)) (pk_sub (by omega)) ?_
      refine r_ialdv ((l_pile hl9).2.1) ((l_pile hl9).2.2) (ix_n (by omega) (by decide)) (v := st.headD 0) (hpl.top (by omega)) dX4_comes_52 ?_
      refine r_if_ne (tgt := 60) dX4_comes_53 rfl (fun c4 => ?_) (fun c4 => ?_)
      · --
        refine r_iconst (v := nI 0) dX4_comes_60 (by decide) ?_
        refine r_iastv ((l_pile hl9).2.1) (by decide) ((l_pile hl9).2.2) (ix_n (by omega) (by decide)) dX4_comes_61 ?_
        refine r_goto (tgt := 124) dX4_comes_62 rfl ?_
        refine r_iincN (n := 1) dX4_comes_124 rfl rfl (by decide) rfl ?_
        refine r_goto (tgt := 12) dX4_comes_127 rfl ?_
        refine r_sub [some (vR aM), some (vI (nI st.length)), some (vI (nI (r0 + i + 1))), none] (And.intro rfl (And.intro rfl (And.intro rfl trivial))) ?_
        exact r_L (by rw [List.length_cons, List.length_tail, show st.length - 1 + 1 = st.length by omega]; rfl) (ih1 (i + 1, (nI 0) :: st.tail, sI h9 aPile (st.length - 1) (nI 0)) (by show cs.length - (i + 1) < cs.length - i; omega) (i + 1) ((nI 0) :: st.tail) (sI h9 aPile (st.length - 1) (nI 0)) rfl (⟨by omega, by rw [List.length_cons, List.length_tail]; omega, by rw [List.length_cons, List.length_tail, show st.length - 1 + 1 = st.length by omega]; exact hx9.2, by rw [← hrp]; show _ = rpn _ _ (rpn1 _ _ _); rw [rpn1_not (by assumption) hx9.1]; first | (rw [if_pos (by assumption)]; rfl) | (rw [if_neg (by assumption)]; rfl), hpl.set (by omega) _, f9.sa _ _ _ (by decide)⟩))
      · --
        refine r_iconst (v := nI 1) dX4_comes_56 (by decide) ?_
        refine r_goto (tgt := 61) dX4_comes_57 rfl ?_
        refine r_iastv ((l_pile hl9).2.1) (by decide) ((l_pile hl9).2.2) (ix_n (by omega) (by decide)) dX4_comes_61 ?_
        refine r_goto (tgt := 124) dX4_comes_62 rfl ?_
        refine r_iincN (n := 1) dX4_comes_124 rfl rfl (by decide) rfl ?_
        refine r_goto (tgt := 12) dX4_comes_127 rfl ?_
        refine r_sub [some (vR aM), some (vI (nI st.length)), some (vI (nI (r0 + i + 1))), none] (And.intro rfl (And.intro rfl (And.intro rfl trivial))) ?_
        exact r_L (by rw [List.length_cons, List.length_tail, show st.length - 1 + 1 = st.length by omega]; rfl) (ih1 (i + 1, (nI 1) :: st.tail, sI h9 aPile (st.length - 1) (nI 1)) (by show cs.length - (i + 1) < cs.length - i; omega) (i + 1) ((nI 1) :: st.tail) (sI h9 aPile (st.length - 1) (nI 1)) rfl (⟨by omega, by rw [List.length_cons, List.length_tail]; omega, by rw [List.length_cons, List.length_tail, show st.length - 1 + 1 = st.length by omega]; exact hx9.2, by rw [← hrp]; show _ = rpn _ _ (rpn1 _ _ _); rw [rpn1_not (by assumption) hx9.1]; first | (rw [if_pos (by assumption)]; rfl) | (rw [if_neg (by assumption)]; rfl), hpl.set (by omega) _, f9.sa _ _ _ (by decide)⟩))

theorem c_isLetOut {G : ev_G} {b : Bk} {k : Nat} {h : ev_H} (hm : MB b k h) {T : Nat → Int32} (hT : MT T h) {s t : Nat} {sh th ts : Int32} (ht : t < nT b) (hs : s < nS b) (hth : hI h aM 43 = th) (hts : hI h aM 44 = ts) (hsh : (if nI t = th then ts else nI (bSh b (bBy b t))) = sh) : Called G mX4_isLetOut 5 0 0 [vR aM, vI (nI t), vI (nI s)] h (pI (fun y h1 => y = b2i (letS b T sh s t) ∧ Fr [aPile] [39, 40, 41] h h1)) := by
  have hl := hm.lay
  have hk2 := hm.k2
  have hb := hm.bw
  have hb1 := hb.p6
  have hb2 := hb.s5
  have hb3 := hb.t10
  have hbt := hb.by ht
  refine called_of rfl [some (vR aM), some (vI (nI t)), some (vI (nI s))] rfl (Nat.le_of_ble_eq_true rfl) ?_
  refine r_aload_n dX4_isLetOut_0 rfl ?_
  refine r_iload_n dX4_isLetOut_1 rfl ?_
  refine r_callVx lX4_395 (c_doBothSit hm hT (t := t) (by omega)) (hl.1) rfl rfl rfl rfl dX4_isLetOut_2 (Nat.le_refl _) (Nat.le_refl _) ?_
  refine r_ifB_ne (tgt := 10) dX4_isLetOut_5 rfl (fun c1 => ?_) (fun c1 => ?_)
  · --
    refine r_aload_n dX4_isLetOut_10 rfl ?_
    refine r_iload_n dX4_isLetOut_11 rfl ?_
    refine r_putN fX4_330 (hl.1) (by decide) dX4_isLetOut_12 ?_
    refine r_aload_n dX4_isLetOut_15 rfl ?_
    refine r_iload_n dX4_isLetOut_16 rfl ?_
    refine r_putN fX4_342 (hl.1) (by decide) dX4_isLetOut_17 ?_
    refine r_aload_n dX4_isLetOut_20 rfl ?_
    refine r_iload_n dX4_isLetOut_21 rfl ?_
    refine r_aload_n dX4_isLetOut_22 rfl ?_
    refine r_getIv fX4_91 (hl.1) (v := th) (hth) rfl dX4_isLetOut_23 ?_
    refine r_icmp_ne (tgt := 36) dX4_isLetOut_26 rfl (fun c2 => ?_) (fun c2 => ?_)
    · --
      refine r_aload_n dX4_isLetOut_36 rfl ?_
      refine r_getRv fX4_42 (hl.1) (v := aShy) ((l_shy hl).1) rfl dX4_isLetOut_37 ?_
      refine r_bipush (v := nI 6) dX4_isLetOut_40 (by decide) ?_
      refine r_aload_n dX4_isLetOut_42 rfl ?_
      refine r_getIv fX4_253 (hl.1) (v := nI k) (hm.bank) rfl dX4_isLetOut_43 ?_
      refine r_imul dX4_isLetOut_46 ?_
      refine r_top (nI (6 * k)) (pk_mul _ _) ?_
      refine r_aload_n dX4_isLetOut_47 rfl ?_
      refine r_iload_n dX4_isLetOut_48 rfl ?_
      refine r_callVx lX4_389 (c_fromOf (hm.fr (((Fr.rf (as := []) (fs := [39, 40])).sf 39 _ (by decide)).sf 40 _ (by decide)) rfl) (t := t) (by omega)) (hl.1) rfl rfl rfl rfl dX4_isLetOut_49 (Nat.le_refl _) (Nat.le_refl _) ?_
      refine r_iadd dX4_isLetOut_52 ?_
      refine r_top (nI (6 * k + (bBy b t))) (nI_add _ _) ?_
      refine r_ialdv ((l_shy hl).2.1) ((l_shy hl).2.2) (ix_n (by omega) (by decide)) (v := nI (bSh b (bBy b t))) (hm.shy (by omega)) dX4_isLetOut_53 ?_
      refine r_top sh (by rw [← hsh]; simp [*]) ?_
      refine r_putN fX4_336 (hl.1) (by decide) dX4_isLetOut_54 ?_
      have f3 : Fr [] [39, 40, 41] h (sI (sI (sI h aM 39 (nI t)) aM 40 (nI s)) aM 41 sh) := ((Fr.rf.s aM 39 _ (by decide)).s aM 40 _ (by decide)).s aM 41 _ (by decide)
      have f4 : Fr [aPile] [39, 40, 41] h (sI (sI (sI h aM 39 (nI t)) aM 40 (nI s)) aM 41 sh) := f3.wk (by simp) (by simp)
      refine r_aload_n dX4_isLetOut_57 rfl ?_
      refine r_getRv fX4_39 (hl.1) (v := aTold) ((l_told hl).1) rfl dX4_isLetOut_58 ?_
      refine r_aload_n dX4_isLetOut_61 rfl ?_
      refine r_getIv fX4_253 (hl.1) (v := nI k) (hm.bank) rfl dX4_isLetOut_62 ?_
      refine r_ialdv ((l_told hl).2.1) ((l_told hl).2.2) (ix_n (by omega) (by decide)) (v := hI h aTold k) (rfl) dX4_isLetOut_65 ?_
      refine r_iconst (v := nI 0) dX4_isLetOut_66 (by decide) ?_
      refine r_callSx lX4_259 (c_bitN _ _) rfl rfl rfl rfl dX4_isLetOut_67 (Nat.le_refl _) (Nat.le_refl _) ?_
      refine r_ifB_eq (tgt := 88) dX4_isLetOut_70 rfl (fun c3 => ?_) (fun c3 => ?_)
      · --
        refine r_aload_n dX4_isLetOut_88 rfl ?_
        refine r_iload_n dX4_isLetOut_89 rfl ?_
        refine r_callVx lX4_333 (c_hotOf (hm.fr ((((Fr.rf (as := []) (fs := [39, 40, 41])).sf 39 _ (by decide)).sf 40 _ (by decide)).sf 41 _ (by decide)) rfl) (t := t) (by omega)) (hl.1) rfl rfl rfl rfl dX4_isLetOut_90 (Nat.le_refl _) (Nat.le_refl _) ?_
        refine r_aload_n dX4_isLetOut_93 rfl ?_
        refine r_getIv fX4_336 (hl.1) (v := sh) (rfl) rfl dX4_isLetOut_94 ?_
        refine r_icmp_le (tgt := 104) dX4_isLetOut_97 rfl (fun c4 => ?_) (fun c4 => ?_)
        · --
          refine r_iconst (v := nI 0) dX4_isLetOut_104 (by decide) ?_
          exact r_reti dX4_isLetOut_105 rfl rfl (Nat.le_refl _) (Nat.le_refl _) (⟨(by have hnn : bRu b = none := (by have h7 := hm.told; simp_all); simp only [letS, c1, hnn, Bool.true_and]; first | exact b2i_dec (Int32.not_le.mp (by assumption)) | exact b2i_decn (Int32.not_lt.mpr (by assumption))), f4⟩)
        · --
          refine r_iconst (v := nI 1) dX4_isLetOut_100 (by decide) ?_
          refine r_goto (tgt := 105) dX4_isLetOut_101 rfl ?_
          exact r_reti dX4_isLetOut_105 rfl rfl (Nat.le_refl _) (Nat.le_refl _) (⟨(by have hnn : bRu b = none := (by have h7 := hm.told; simp_all); simp only [letS, c1, hnn, Bool.true_and]; first | exact b2i_dec (Int32.not_le.mp (by assumption)) | exact b2i_decn (Int32.not_lt.mpr (by assumption))), f4⟩)
      · --
        have hru9 : (bRu b).isSome = true := hm.told ▸ (by assumption)
        obtain ⟨cs, hru⟩ := Option.isSome_iff_exists.mp hru9
        refine r_aload_n dX4_isLetOut_73 rfl ?_
        refine r_callVi lX4_401 (c_comes (hm.fr f3 rfl) (hT.fr f3 (by decide)) (sh := sh) hru ht hs rfl rfl rfl) (hl.1) rfl rfl rfl rfl dX4_isLetOut_74 (Nat.le_refl _) (Nat.le_refl _) (fun y9 h9 q9 => ?_)
        obtain ⟨rfl, f9⟩ := q9
        have f5 : Fr [aPile] [39, 40, 41] h h9 := f4.tr (f9.wk (by simp) (by simp))
        refine r_if_eq (tgt := 84) dX4_isLetOut_77 rfl (fun c5 => ?_) (fun c5 => ?_)
        · --
          refine r_iconst (v := nI 0) dX4_isLetOut_84 (by decide) ?_
          refine r_goto (tgt := 105) dX4_isLetOut_85 rfl ?_
          exact r_reti dX4_isLetOut_105 rfl rfl (Nat.le_refl _) (Nat.le_refl _) (⟨by simp [letS, *]; rfl, f5⟩)
        · --
          refine r_iconst (v := nI 1) dX4_isLetOut_80 (by decide) ?_
          refine r_goto (tgt := 105) dX4_isLetOut_81 rfl ?_
          exact r_reti dX4_isLetOut_105 rfl rfl (Nat.le_refl _) (Nat.le_refl _) (⟨by simp [letS, *]; rfl, f5⟩)
    · --
      refine r_aload_n dX4_isLetOut_29 rfl ?_
      refine r_getIv fX4_398 (hl.1) (v := ts) (hts) rfl dX4_isLetOut_30 ?_
      refine r_goto (tgt := 54) dX4_isLetOut_33 rfl ?_
      refine r_top sh (by rw [← hsh]; simp [*]) ?_
      refine r_putN fX4_336 (hl.1) (by decide) dX4_isLetOut_54 ?_
      have f3 : Fr [] [39, 40, 41] h (sI (sI (sI h aM 39 (nI t)) aM 40 (nI s)) aM 41 sh) := ((Fr.rf.s aM 39 _ (by decide)).s aM 40 _ (by decide)).s aM 41 _ (by decide)
      have f4 : Fr [aPile] [39, 40, 41] h (sI (sI (sI h aM 39 (nI t)) aM 40 (nI s)) aM 41 sh) := f3.wk (by simp) (by simp)
      refine r_aload_n dX4_isLetOut_57 rfl ?_
      refine r_getRv fX4_39 (hl.1) (v := aTold) ((l_told hl).1) rfl dX4_isLetOut_58 ?_
      refine r_aload_n dX4_isLetOut_61 rfl ?_
      refine r_getIv fX4_253 (hl.1) (v := nI k) (hm.bank) rfl dX4_isLetOut_62 ?_
      refine r_ialdv ((l_told hl).2.1) ((l_told hl).2.2) (ix_n (by omega) (by decide)) (v := hI h aTold k) (rfl) dX4_isLetOut_65 ?_
      refine r_iconst (v := nI 0) dX4_isLetOut_66 (by decide) ?_
      refine r_callSx lX4_259 (c_bitN _ _) rfl rfl rfl rfl dX4_isLetOut_67 (Nat.le_refl _) (Nat.le_refl _) ?_
      refine r_ifB_eq (tgt := 88) dX4_isLetOut_70 rfl (fun c6 => ?_) (fun c6 => ?_)
      · --
        refine r_aload_n dX4_isLetOut_88 rfl ?_
        refine r_iload_n dX4_isLetOut_89 rfl ?_
        refine r_callVx lX4_333 (c_hotOf (hm.fr ((((Fr.rf (as := []) (fs := [39, 40, 41])).sf 39 _ (by decide)).sf 40 _ (by decide)).sf 41 _ (by decide)) rfl) (t := t) (by omega)) (hl.1) rfl rfl rfl rfl dX4_isLetOut_90 (Nat.le_refl _) (Nat.le_refl _) ?_
        refine r_aload_n dX4_isLetOut_93 rfl ?_
        refine r_getIv fX4_336 (hl.1) (v := sh) (rfl) rfl dX4_isLetOut_94 ?_
        refine r_icmp_le (tgt := 104) dX4_isLetOut_97 rfl (fun c7 => ?_) (fun c7 => ?_)
        · --
          refine r_iconst (v := nI 0) dX4_isLetOut_104 (by decide) ?_
          exact r_reti dX4_isLetOut_105 rfl rfl (Nat.le_refl _) (Nat.le_refl _) (⟨(by have hnn : bRu b = none := (by have h7 := hm.told; simp_all); simp only [letS, c1, hnn, Bool.true_and]; first | exact b2i_dec (Int32.not_le.mp (by assumption)) | exact b2i_decn (Int32.not_lt.mpr (by assumption))), f4⟩)
        · --
          refine r_iconst (v := nI 1) dX4_isLetOut_100 (by decide) ?_
          refine r_goto (tgt := 105) dX4_isLetOut_101 rfl ?_
          exact r_reti dX4_isLetOut_105 rfl rfl (Nat.le_refl _) (Nat.le_refl _) (⟨(by have hnn : bRu b = none := (by have h7 := hm.told; simp_all); simp only [letS, c1, hnn, Bool.true_and]; first | exact b2i_dec (Int32.not_le.mp (by assumption)) | exact b2i_decn (Int32.not_lt.mpr (by assumption))), f4⟩)
      · --
        have hru9 : (bRu b).isSome = true := hm.told ▸ (by assumption)
        obtain ⟨cs, hru⟩ := Option.isSome_iff_exists.mp hru9
        refine r_aload_n dX4_isLetOut_73 rfl ?_
        refine r_callVi lX4_401 (c_comes (hm.fr f3 rfl) (hT.fr f3 (by decide)) (sh := sh) hru ht hs rfl rfl rfl) (hl.1) rfl rfl rfl rfl dX4_isLetOut_74 (Nat.le_refl _) (Nat.le_refl _) (fun y9 h9 q9 => ?_)
        obtain ⟨rfl, f9⟩ := q9
        have f5 : Fr [aPile] [39, 40, 41] h h9 := f4.tr (f9.wk (by simp) (by simp))
        refine r_if_eq (tgt := 84) dX4_isLetOut_77 rfl (fun c8 => ?_) (fun c8 => ?_)
        · --
          refine r_iconst (v := nI 0) dX4_isLetOut_84 (by decide) ?_
          refine r_goto (tgt := 105) dX4_isLetOut_85 rfl ?_
          exact r_reti dX4_isLetOut_105 rfl rfl (Nat.le_refl _) (Nat.le_refl _) (⟨by simp [letS, *]; rfl, f5⟩)
        · --
          refine r_iconst (v := nI 1) dX4_isLetOut_80 (by decide) ?_
          refine r_goto (tgt := 105) dX4_isLetOut_81 rfl ?_
          exact r_reti dX4_isLetOut_105 rfl rfl (Nat.le_refl _) (Nat.le_refl _) (⟨by simp [letS, *]; rfl, f5⟩)
  · --
    refine r_iconst (v := nI 0) dX4_isLetOut_8 (by decide) ?_
    exact r_reti dX4_isLetOut_9 rfl rfl (Nat.le_refl _) (Nat.le_refl _) (⟨by simp [letS, *]; rfl, Fr.rf⟩)

theorem c_wouldOf {G : ev_G} {b : Bk} {k : Nat} {h : ev_H} (hm : MB b k h) {T : Nat → Int32} (hT : MT T h) {s : Nat} (hs : s < nS b) (hth : hI h aM 43 = -1) : Called G mX4_wouldOf 6 0 0 [vR aM, vI (nI s)] h (pI (fun y h1 => y = outV b T s ∧ Fr [aPile] [39, 40, 41] h h1)) := by
  have hl := hm.lay
  have hk2 := hm.k2
  have hb := hm.bw
  have hb1 := hb.p6
  have hb2 := hb.s5
  have hb3 := hb.t10
  refine called_of rfl [some (vR aM), some (vI (nI s)), none, none, none] rfl (Nat.le_of_ble_eq_true rfl) ?_
  refine r_aload_n dX4_wouldOf_0 rfl ?_
  refine r_iload_n dX4_wouldOf_1 rfl ?_
  refine r_callVx lX4_345 (c_inOf hm hT _) (hl.1) rfl rfl rfl rfl dX4_wouldOf_2 (Nat.le_refl _) (Nat.le_refl _) ?_
  refine r_istore_n dX4_wouldOf_5 (by decide) rfl ?_
  refine r_iconst (v := nI 0) dX4_wouldOf_6 (by decide) ?_
  refine r_istore_n dX4_wouldOf_7 (by decide) rfl ?_
  refine r_iconst (v := nI 0) dX4_wouldOf_8 (by decide) ?_
  refine r_istore dX4_wouldOf_9 (by decide) rfl ?_
  refine (ev_for (P := fun i => ∀ h9 : ev_H, (Fr [aPile] [39, 40, 41] h h9) → Ev G mX4_wouldOf (ev_room 6 0 0) (ev_MQ G (pI (fun y h1 => y = outV b T s ∧ Fr [aPile] [39, 40, 41] h h1)) 0 0) 11 [some (vR aM), some (vI (nI s)), some (vI (inV b T (nI s))), some (vI (setOf i (fun t => tb (inV b T (nI s)) t && letV b T s t))), some (vI (nI i))] [] h9 0 0) (nT b) (fun i hki ihi h9 qh9 => ?_)) 0 (Nat.zero_le _) _ (Fr.rf)
  have f9 := qh9
  have hm9 := hm.fr f9 rfl
  have hT9 := hT.fr f9 (by decide)
  have hl9 := hm9.lay
  refine r_iload dX4_wouldOf_11 rfl ?_
  refine r_aload_n dX4_wouldOf_13 rfl ?_
  refine r_callVx lX4_368 (c_many hm9) (hl9.1) rfl rfl rfl rfl dX4_wouldOf_14 (Nat.le_refl _) (Nat.le_refl _) ?_
  refine r_icmpN_ge (tgt := 52) dX4_wouldOf_17 rfl (by omega) (by omega) (fun c1 => ?_) (fun c1 => ?_)
  · --
    refine r_iload_n dX4_wouldOf_52 rfl ?_
    exact r_reti dX4_wouldOf_53 rfl (rfl) (Nat.le_refl _) (Nat.le_refl _) (⟨congrArg (fun n => setOf n _) (by omega), f9⟩)
  · --
    refine r_iload_n dX4_wouldOf_20 rfl ?_
    refine r_iload dX4_wouldOf_21 rfl ?_
    refine r_callSx lX4_259 (c_bitN _ _) rfl rfl rfl rfl dX4_wouldOf_23 (Nat.le_refl _) (Nat.le_refl _) ?_
    refine r_ifB_eq (tgt := 46) dX4_wouldOf_26 rfl (fun c2 => ?_) (fun c2 => ?_)
    · --
      refine r_iincN (n := 1) dX4_wouldOf_46 rfl rfl (by decide) rfl ?_
      refine r_goto (tgt := 11) dX4_wouldOf_49 rfl ?_
      exact r_L (by rw [← setOf_f (by simp [letV, *])]; rfl) (ihi (by omega) _ (f9))
    · --
      refine r_aload_n dX4_wouldOf_29 rfl ?_
      refine r_iload dX4_wouldOf_30 rfl ?_
      refine r_iload_n dX4_wouldOf_32 rfl ?_
      refine r_callVi lX4_404 (c_isLetOut hm9 hT9 (t := i) (s := s) (sh := nI (bSh b (bBy b i))) (by omega) hs ((f9.fld 43 (by decide) (by decide)).trans hth) rfl (if_neg (nI_m1 (by omega)))) (hl9.1) rfl rfl rfl rfl dX4_wouldOf_33 (Nat.le_refl _) (Nat.le_refl _) (fun y9 h8 q9 => ?_)
      obtain ⟨rfl, f8⟩ := q9
      have f7 := f9.tr f8
      refine r_ifB_eq (tgt := 46) dX4_wouldOf_36 rfl (fun c3 => ?_) (fun c3 => ?_)
      · --
        refine r_iincN (n := 1) dX4_wouldOf_46 rfl rfl (by decide) rfl ?_
        refine r_goto (tgt := 11) dX4_wouldOf_49 rfl ?_
        exact r_L (by rw [← setOf_f (by simp [letV, *])]; rfl) (ihi (by omega) _ (f7))
      · --
        refine r_iload_n dX4_wouldOf_39 rfl ?_
        refine r_iconst (v := nI 1) dX4_wouldOf_40 (by decide) ?_
        refine r_iload dX4_wouldOf_41 rfl ?_
        refine r_ishl dX4_wouldOf_43 ?_
        refine r_top (one i) rfl ?_
        refine r_ior dX4_wouldOf_44 ?_
        refine r_istore_n dX4_wouldOf_45 (by decide) rfl ?_
        refine r_iincN (n := 1) dX4_wouldOf_46 rfl rfl (by decide) rfl ?_
        refine r_goto (tgt := 11) dX4_wouldOf_49 rfl ?_
        exact r_L (by rw [← setOf_t (by simp [letV, *])]; rfl) (ihi (by omega) _ (f7))
