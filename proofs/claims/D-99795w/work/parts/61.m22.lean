/-! ===== THE REFERENCE: the next token (walks by program) ===== -/
set_option maxRecDepth 100000

theorem c_goOn {G : ev_G} {h : ev_H} (hl : MLay h) {tx : Nat → Int32} {n : Nat} (hx : MX tx n h) {p : Nat} (hp : p ≤ n) (he : hI h aM 7 = nI p) : Called G mX4_goOn 1 0 0 [vR aM] h (p0 (fun h1 => Fj [] [6, 7, 8, 9] [aM] h h1 ∧ MTk tx n p h1)) := by
  have hn := hx.2.1
  refine called_of rfl [some (vR aM), none, none] rfl (Nat.le_of_ble_eq_true rfl) ?_
  refine r_aload_n dX4_goOn_0 rfl ?_
  refine r_aload_n dX4_goOn_1 rfl ?_
  refine r_getIv fX4_185 (hl.1) (v := nI p) (he) rfl dX4_goOn_2 ?_
  refine r_putN fX4_188 (hl.1) (by decide) dX4_goOn_5 ?_
  refine (ev_loop (σ := Nat × ev_H) (P := fun s9 => ∀ (a : Nat) (hA : ev_H), s9 = (a, hA) → (a ≤ n ∧ Fj [] [6, 7, 8, 9] [aM] h hA ∧ hI hA aM 6 = nI a ∧ taT tx n p = runT (wsT tx n) (n - a) a) → Ev G mX4_goOn (ev_room 1 0 0) (ev_MQ G (p0 (fun h1 => Fj [] [6, 7, 8, 9] [aM] h h1 ∧ MTk tx n p h1)) 0 0) 8 [some (vR aM), none, none] [] hA 0 0) (fun s9 => n - s9.1) (fun s9 ih8 a hA e9 q8 => ?_)) (p, _) p _ rfl (⟨hp, Fj.rf.sf 6 _ (by decide), rfl, rfl⟩)
  subst e9
  obtain ⟨ha, fA, e6A, qa⟩ := q8
  have hlA := fA.lay hl
  have hxA := hx.fj fA (by decide) (by decide) (by decide)
  refine r_aload_n dX4_goOn_8 rfl ?_
  refine r_getIv fX4_188 (hlA.1) (v := nI a) (e6A) rfl dX4_goOn_9 ?_
  refine r_aload_n dX4_goOn_12 rfl ?_
  refine r_getIv fX4_143 (hlA.1) (v := nI n) (hxA.1) rfl dX4_goOn_13 ?_
  refine r_icmpN_ge (tgt := 58) dX4_goOn_16 rfl (by omega) (by omega) (fun c1 => ?_) (fun c1 => ?_)
  · --
    have hta : taT tx n p = a := by rw [qa]; exact runT_f (by simp [wsT, Nat.not_lt.mpr c1])
    refine r_aload_n dX4_goOn_58 rfl ?_
    refine r_aload_n dX4_goOn_59 rfl ?_
    refine r_getIv fX4_188 (hlA.1) (v := nI a) (e6A) rfl dX4_goOn_60 ?_
    refine r_callVx lX4_191 (c_sign hlA (hxA) (k9 := a) (by omega)) (hlA.1) rfl rfl rfl rfl dX4_goOn_63 (Nat.le_refl _) (Nat.le_refl _) ?_
    refine r_istore_n dX4_goOn_66 (by decide) rfl ?_
    refine r_aload_n dX4_goOn_67 rfl ?_
    refine r_aload_n dX4_goOn_68 rfl ?_
    refine r_getIv fX4_188 (hlA.1) (v := nI a) (e6A) rfl dX4_goOn_69 ?_
    refine r_iconst (v := nI 1) dX4_goOn_72 (by decide) ?_
    refine r_iadd dX4_goOn_73 ?_
    refine r_top (nI (a + 1)) (nI_add _ _) ?_
    refine r_putN fX4_185 (hlA.1) (by decide) dX4_goOn_74 ?_
    refine r_aload_n dX4_goOn_77 rfl ?_
    refine r_getIv fX4_188 (hlA.1) (v := nI a) (e6A) rfl dX4_goOn_78 ?_
    refine r_aload_n dX4_goOn_81 rfl ?_
    refine r_getIv fX4_143 (hlA.1) (v := nI n) (hxA.1) rfl dX4_goOn_82 ?_
    refine r_icmpN_lt (tgt := 112) dX4_goOn_85 rfl (by omega) (by omega) (fun c2 => ?_) (fun c2 => ?_)
    · --
      refine r_iload_n dX4_goOn_112 rfl ?_
      refine r_callSx lX4_198 (c_isLetter _) rfl rfl rfl rfl dX4_goOn_113 (Nat.le_refl _) (Nat.le_refl _) ?_
      refine r_ifB_eq (tgt := 239) dX4_goOn_116 rfl (fun c3 => ?_) (fun c3 => ?_)
      · --
        refine r_iload_n dX4_goOn_239 rfl ?_
        refine r_callSx lX4_210 (c_isDigit _) rfl rfl rfl rfl dX4_goOn_240 (Nat.le_refl _) (Nat.le_refl _) ?_
        refine r_ifB_eq (tgt := 361) dX4_goOn_243 rfl (fun c4 => ?_) (fun c4 => ?_)
        · --
          refine r_aload_n dX4_goOn_361 rfl ?_
          refine r_iload_n dX4_goOn_362 rfl ?_
          refine r_callSx lX4_216 (c_isSign _) rfl rfl rfl rfl dX4_goOn_363 (Nat.le_refl _) (Nat.le_refl _) ?_
          refine r_ifB_eq (tgt := 373) dX4_goOn_366 rfl (fun c5 => ?_) (fun c5 => ?_)
          · --
            refine r_iconst (v := nI 1) dX4_goOn_373 (by decide) ?_
            refine r_putN fX4_195 (hlA.1) (by decide) dX4_goOn_374 ?_
            exact r_retv dX4_goOn_377 rfl (Nat.le_refl _) (Nat.le_refl _) ⟨((fA.sf 7 _ (by decide)).sf 8 _ (by decide)), MTk.sign (k := nI 1) hta (by omega) c3 c4 e6A rfl rfl (by rw [if_neg (by rw [c5]; decide)])⟩
          · --
            refine r_iconst (v := nI 5) dX4_goOn_369 (by decide) ?_
            refine r_goto (tgt := 374) dX4_goOn_370 rfl ?_
            refine r_putN fX4_195 (hlA.1) (by decide) dX4_goOn_374 ?_
            exact r_retv dX4_goOn_377 rfl (Nat.le_refl _) (Nat.le_refl _) ⟨((fA.sf 7 _ (by decide)).sf 8 _ (by decide)), MTk.sign (k := nI 5) hta (by omega) c3 c4 e6A rfl rfl (by rw [if_pos c5])⟩
        · --
          refine r_aload_n dX4_goOn_246 rfl ?_
          refine r_iconst (v := nI 0) dX4_goOn_247 (by decide) ?_
          refine r_putN fX4_213 (hlA.1) (by decide) dX4_goOn_248 ?_
          refine r_aload_n dX4_goOn_251 rfl ?_
          refine r_aload_n dX4_goOn_252 rfl ?_
          refine r_getIv fX4_188 (hlA.1) (v := nI a) (e6A) rfl dX4_goOn_253 ?_
          refine r_putN fX4_185 (hlA.1) (by decide) dX4_goOn_256 ?_
          refine (ev_loop (σ := Nat × ev_H) (P := fun s9 => ∀ (e : Nat) (hD : ev_H), s9 = (e, hD) → (a ≤ e ∧ e ≤ n ∧ Fj [] [6, 7, 8, 9] [aM] h hD ∧ hI hD aM 6 = nI a ∧ hI hD aM 7 = nI e ∧ hI hD aM 9 = nuT tx n a (e - a) ∧ runT (diT tx n) (n - a) a = runT (diT tx n) (n - e) e) → Ev G mX4_goOn (ev_room 1 0 0) (ev_MQ G (p0 (fun h1 => Fj [] [6, 7, 8, 9] [aM] h h1 ∧ MTk tx n p h1)) 0 0) 259 [some (vR aM), some (vI (sgT tx n a)), none] [] hD 0 0) (fun s9 => n - s9.1) (fun s9 ih259 e hD e9 q259 => ?_)) (a, _) a _ rfl (⟨Nat.le_refl _, by omega, ((fA.sf 7 _ (by decide)).sf 9 _ (by decide)).sf 7 _ (by decide), e6A, rfl, by rw [Nat.sub_self]; rfl, rfl⟩)
          subst e9
          obtain ⟨hae, hen, fD, e6D, e7D, e9D, qe⟩ := q259
          have hlD := fD.lay hl
          have hxD := hx.fj fD (by decide) (by decide) (by decide)
          refine r_aload_n dX4_goOn_259 rfl ?_
          refine r_aload_n dX4_goOn_260 rfl ?_
          refine r_getIv fX4_185 (hlD.1) (v := nI e) (e7D) rfl dX4_goOn_261 ?_
          refine r_callVx lX4_191 (c_sign hlD (hxD) (k9 := e) (by omega)) (hlD.1) rfl rfl rfl rfl dX4_goOn_264 (Nat.le_refl _) (Nat.le_refl _) ?_
          refine r_callSx lX4_210 (c_isDigit _) rfl rfl rfl rfl dX4_goOn_267 (Nat.le_refl _) (Nat.le_refl _) ?_
          refine r_ifB_eq (tgt := 322) dX4_goOn_270 rfl (fun c6 => ?_) (fun c6 => ?_)
          · --
            refine r_aload_n dX4_goOn_322 rfl ?_
            refine r_aload_n dX4_goOn_323 rfl ?_
            refine r_getIv fX4_185 (hlD.1) (v := nI e) (e7D) rfl dX4_goOn_324 ?_
            refine r_aload_n dX4_goOn_327 rfl ?_
            refine r_getIv fX4_188 (hlD.1) (v := nI a) (e6D) rfl dX4_goOn_328 ?_
            refine r_isub dX4_goOn_331 ?_
            refine r_top (nI (e - a)) (pk_sub (by omega)) ?_
            refine r_iconst (v := nI 4) dX4_goOn_332 (by decide) ?_
            refine r_icmpN_gt (tgt := 350) dX4_goOn_333 rfl (by omega) (by omega) (fun c7 => ?_) (fun c7 => ?_)
            · --
              refine r_iconst (v := nI 1) dX4_goOn_350 (by decide) ?_
              refine r_goto (tgt := 355) dX4_goOn_351 rfl ?_
              refine r_putN fX4_195 (hlD.1) (by decide) dX4_goOn_355 ?_
              refine r_goto (tgt := 377) dX4_goOn_358 rfl ?_
              exact r_retv dX4_goOn_377 rfl (Nat.le_refl _) (Nat.le_refl _) ⟨(fD.sf 8 _ (by decide)), MTk.num (e := e) (k := nI 1) hta (by omega) c3 c4 (qe.trans (runT_f c6)) e6D e7D rfl (by rw [if_pos (Or.inl (by omega))]) e9D⟩
            · --
              refine r_aload_n dX4_goOn_336 rfl ?_
              refine r_aload_n dX4_goOn_337 rfl ?_
              refine r_getIv fX4_185 (hlD.1) (v := nI e) (e7D) rfl dX4_goOn_338 ?_
              refine r_callVx lX4_191 (c_sign hlD (hxD) (k9 := e) (by omega)) (hlD.1) rfl rfl rfl rfl dX4_goOn_341 (Nat.le_refl _) (Nat.le_refl _) ?_
              refine r_callSx lX4_198 (c_isLetter _) rfl rfl rfl rfl dX4_goOn_344 (Nat.le_refl _) (Nat.le_refl _) ?_
              refine r_ifB_eq (tgt := 354) dX4_goOn_347 rfl (fun c8 => ?_) (fun c8 => ?_)
              · --
                refine r_iconst (v := nI 4) dX4_goOn_354 (by decide) ?_
                refine r_putN fX4_195 (hlD.1) (by decide) dX4_goOn_355 ?_
                refine r_goto (tgt := 377) dX4_goOn_358 rfl ?_
                exact r_retv dX4_goOn_377 rfl (Nat.le_refl _) (Nat.le_refl _) ⟨(fD.sf 8 _ (by decide)), MTk.num (e := e) (k := nI 4) hta (by omega) c3 c4 (qe.trans (runT_f c6)) e6D e7D rfl (by rw [if_neg (by rintro (z | z); omega; exact absurd (z.symm.trans c8) (by decide))]) e9D⟩
              · --
                refine r_iconst (v := nI 1) dX4_goOn_350 (by decide) ?_
                refine r_goto (tgt := 355) dX4_goOn_351 rfl ?_
                refine r_putN fX4_195 (hlD.1) (by decide) dX4_goOn_355 ?_
                refine r_goto (tgt := 377) dX4_goOn_358 rfl ?_
                exact r_retv dX4_goOn_377 rfl (Nat.le_refl _) (Nat.le_refl _) ⟨(fD.sf 8 _ (by decide)), MTk.num (e := e) (k := nI 1) hta (by omega) c3 c4 (qe.trans (runT_f c6)) e6D e7D rfl (by rw [if_pos (Or.inr (show leT tx n e = true from c8))]) e9D⟩
          · --
            refine r_aload_n dX4_goOn_273 rfl ?_
            refine r_getIv fX4_185 (hlD.1) (v := nI e) (e7D) rfl dX4_goOn_274 ?_
            refine r_aload_n dX4_goOn_277 rfl ?_
            refine r_getIv fX4_188 (hlD.1) (v := nI a) (e6D) rfl dX4_goOn_278 ?_
            refine r_isub dX4_goOn_281 ?_
            refine r_top (nI (e - a)) (pk_sub (by omega)) ?_
            refine r_iconst (v := nI 4) dX4_goOn_282 (by decide) ?_
            refine r_icmpN_ge (tgt := 309) dX4_goOn_283 rfl (by omega) (by omega) (fun c9 => ?_) (fun c9 => ?_)
            · --
              refine r_aload_n dX4_goOn_309 rfl ?_
              refine r_dup dX4_goOn_310 rfl ?_
              refine r_getIv fX4_185 (hlD.1) (v := nI e) (e7D) rfl dX4_goOn_311 ?_
              refine r_iconst (v := nI 1) dX4_goOn_314 (by decide) ?_
              refine r_iadd dX4_goOn_315 ?_
              refine r_top (nI (e + 1)) (nI_add _ _) ?_
              refine r_putN fX4_185 (hlD.1) (by decide) dX4_goOn_316 ?_
              refine r_goto (tgt := 259) dX4_goOn_319 rfl ?_
              exact ih259 (e + 1, _) (by have := diT_n (tx := tx) (n := n) (k := e) c6; show n - (e + 1) < n - e; omega) (e + 1) _ rfl (by have h9 := diT_n (tx := tx) (n := n) (k := e) c6; exact ⟨by omega, by omega, fD.sf 7 _ (by decide), e6D, rfl, by rw [show e + 1 - a = e - a + 1 by omega, nuT, if_neg (by omega)]; exact e9D, by rw [qe, show n - e = n - (e + 1) + 1 by omega]; exact runT_t c6⟩)
            · --
              refine r_aload_n dX4_goOn_286 rfl ?_
              refine r_bipush (v := nI 10) dX4_goOn_287 (by decide) ?_
              refine r_aload_n dX4_goOn_289 rfl ?_
              refine r_getIv fX4_213 (hlD.1) (v := nuT tx n a (e - a)) (e9D) rfl dX4_goOn_290 ?_
              refine r_imul dX4_goOn_293 ?_
              refine r_aload_n dX4_goOn_294 rfl ?_
              refine r_aload_n dX4_goOn_295 rfl ?_
              refine r_getIv fX4_185 (hlD.1) (v := nI e) (e7D) rfl dX4_goOn_296 ?_
              refine r_callVx lX4_191 (c_sign hlD (hxD) (k9 := e) (by omega)) (hlD.1) rfl rfl rfl rfl dX4_goOn_299 (Nat.le_refl _) (Nat.le_refl _) ?_
              refine r_iadd dX4_goOn_302 ?_
              refine r_bipush (v := nI 48) dX4_goOn_303 (by decide) ?_
              refine r_isub dX4_goOn_305 ?_
              refine r_putN fX4_213 (hlD.1) (by decide) dX4_goOn_306 ?_
              refine r_aload_n dX4_goOn_309 rfl ?_
              refine r_dup dX4_goOn_310 rfl ?_
              refine r_getIv fX4_185 (hlD.1) (v := nI e) (e7D) rfl dX4_goOn_311 ?_
              refine r_iconst (v := nI 1) dX4_goOn_314 (by decide) ?_
              refine r_iadd dX4_goOn_315 ?_
              refine r_top (nI (e + 1)) (nI_add _ _) ?_
              refine r_putN fX4_185 (hlD.1) (by decide) dX4_goOn_316 ?_
              refine r_goto (tgt := 259) dX4_goOn_319 rfl ?_
              exact ih259 (e + 1, _) (by have := diT_n (tx := tx) (n := n) (k := e) c6; show n - (e + 1) < n - e; omega) (e + 1) _ rfl (by have h9 := diT_n (tx := tx) (n := n) (k := e) c6; exact ⟨by omega, by omega, (fD.sf 9 _ (by decide)).sf 7 _ (by decide), e6D, rfl, by rw [show e + 1 - a = e - a + 1 by omega, nuT, if_pos (by omega), show a + (e - a) = e by omega]; rfl, by rw [qe, show n - e = n - (e + 1) + 1 by omega]; exact runT_t c6⟩)
      · --
        refine (ev_loop (σ := Nat × ev_H) (P := fun s9 => ∀ (e : Nat) (hB : ev_H), s9 = (e, hB) → (a + 1 ≤ e ∧ e ≤ n ∧ Fj [] [6, 7, 8, 9] [aM] h hB ∧ hI hB aM 6 = nI a ∧ hI hB aM 7 = nI e ∧ runT (leT tx n) (n - a) a = runT (leT tx n) (n - e) e) → Ev G mX4_goOn (ev_room 1 0 0) (ev_MQ G (p0 (fun h1 => Fj [] [6, 7, 8, 9] [aM] h h1 ∧ MTk tx n p h1)) 0 0) 119 [some (vR aM), some (vI (sgT tx n a)), none] [] hB 0 0) (fun s9 => n - s9.1) (fun s9 ih119 e hB e9 q119 => ?_)) (a + 1, _) (a + 1) _ rfl (⟨Nat.le_refl _, by omega, fA.sf 7 _ (by decide), e6A, rfl, by rw [show n - a = n - (a + 1) + 1 by omega]; exact runT_t c3⟩)
        subst e9
        obtain ⟨hae, hen, fB, e6B, e7B, qe⟩ := q119
        have hlB := fB.lay hl
        have hxB := hx.fj fB (by decide) (by decide) (by decide)
        refine r_aload_n dX4_goOn_119 rfl ?_
        refine r_aload_n dX4_goOn_120 rfl ?_
        refine r_getIv fX4_185 (hlB.1) (v := nI e) (e7B) rfl dX4_goOn_121 ?_
        refine r_callVx lX4_191 (c_sign hlB (hxB) (k9 := e) (by omega)) (hlB.1) rfl rfl rfl rfl dX4_goOn_124 (Nat.le_refl _) (Nat.le_refl _) ?_
        refine r_callSx lX4_198 (c_isLetter _) rfl rfl rfl rfl dX4_goOn_127 (Nat.le_refl _) (Nat.le_refl _) ?_
        refine r_ifB_eq (tgt := 146) dX4_goOn_130 rfl (fun c10 => ?_) (fun c10 => ?_)
        · --
          refine r_aload_n dX4_goOn_146 rfl ?_
          refine r_lconst (v := 0) dX4_goOn_147 (by decide) ?_
          refine r_putJ fX4_202 (hlB.1) (by decide) dX4_goOn_148 ?_
          refine r_aload_n dX4_goOn_151 rfl ?_
          refine r_getIv fX4_188 (hlB.1) (v := nI a) (e6B) rfl dX4_goOn_152 ?_
          refine r_istore_n dX4_goOn_155 (by decide) rfl ?_
          refine (ev_loop (σ := Nat × ev_H) (P := fun s9 => ∀ (k8 : Nat) (hC : ev_H), s9 = (k8, hC) → (a ≤ k8 ∧ k8 ≤ e ∧ k8 ≤ a + 8 ∧ Fj [] [6, 7, 8, 9] [aM] h hC ∧ hI hC aM 6 = nI a ∧ hI hC aM 7 = nI e ∧ hJ hC aM 10 = nmT tx n a (k8 - a)) → Ev G mX4_goOn (ev_room 1 0 0) (ev_MQ G (p0 (fun h1 => Fj [] [6, 7, 8, 9] [aM] h h1 ∧ MTk tx n p h1)) 0 0) 156 [some (vR aM), some (vI (sgT tx n a)), some (vI (nI k8))] [] hC 0 0) (fun s9 => e - s9.1) (fun s9 ih156 k8 hC e9 q156 => ?_)) (a, _) a _ rfl (⟨Nat.le_refl _, by omega, by omega, fB.sj aM 10 _ (by decide), e6B, e7B, by rw [Nat.sub_self]; rfl⟩)
          subst e9
          obtain ⟨hk1, hk2, hk3, fC, e6C, e7C, e10C⟩ := q156
          have hlC := fC.lay hl
          have hxC := hx.fj fC (by decide) (by decide) (by decide)
          refine r_iload_n dX4_goOn_156 rfl ?_
          refine r_aload_n dX4_goOn_157 rfl ?_
          refine r_getIv fX4_185 (hlC.1) (v := nI e) (e7C) rfl dX4_goOn_158 ?_
          refine r_icmpN_ge (tgt := 199) dX4_goOn_161 rfl (by omega) (by omega) (fun c11 => ?_) (fun c11 => ?_)
          · --
            refine r_aload_n dX4_goOn_199 rfl ?_
            refine r_aload_n dX4_goOn_200 rfl ?_
            refine r_getIv fX4_185 (hlC.1) (v := nI e) (e7C) rfl dX4_goOn_201 ?_
            refine r_aload_n dX4_goOn_204 rfl ?_
            refine r_getIv fX4_188 (hlC.1) (v := nI a) (e6C) rfl dX4_goOn_205 ?_
            refine r_isub dX4_goOn_208 ?_
            refine r_top (nI (e - a)) (pk_sub (by omega)) ?_
            refine r_bipush (v := nI 8) dX4_goOn_209 (by decide) ?_
            refine r_icmpN_le (tgt := 218) dX4_goOn_211 rfl (by omega) (by omega) (fun c12 => ?_) (fun c12 => ?_)
            · --
              refine r_aload_n dX4_goOn_218 rfl ?_
              refine r_getJv fX4_202 (hlC.1) (v := nmT tx n a (k8 - a)) (e10C) dX4_goOn_219 ?_
              refine r_callSx lX4_206 (c_isKept _) rfl rfl rfl rfl dX4_goOn_222 (Nat.le_refl _) (Nat.le_refl _) ?_
              refine r_ifB_eq (tgt := 232) dX4_goOn_225 rfl (fun c13 => ?_) (fun c13 => ?_)
              · --
                refine r_iconst (v := nI 2) dX4_goOn_232 (by decide) ?_
                refine r_putN fX4_195 (hlC.1) (by decide) dX4_goOn_233 ?_
                refine r_goto (tgt := 377) dX4_goOn_236 rfl ?_
                exact r_retv dX4_goOn_377 rfl (Nat.le_refl _) (Nat.le_refl _) ⟨(fC.sf 8 _ (by decide)), MTk.word (e := e) (k := nI 2) hta (by omega) c3 (qe.trans (runT_f c10)) e6C e7C rfl (by rw [← show k8 - a = min 8 (e - a) by omega]; rw [if_neg (by omega), if_neg (by rw [c13]; decide)]) (by rw [← show k8 - a = min 8 (e - a) by omega]; exact e10C)⟩
              · --
                refine r_iconst (v := nI 3) dX4_goOn_228 (by decide) ?_
                refine r_goto (tgt := 233) dX4_goOn_229 rfl ?_
                refine r_putN fX4_195 (hlC.1) (by decide) dX4_goOn_233 ?_
                refine r_goto (tgt := 377) dX4_goOn_236 rfl ?_
                exact r_retv dX4_goOn_377 rfl (Nat.le_refl _) (Nat.le_refl _) ⟨(fC.sf 8 _ (by decide)), MTk.word (e := e) (k := nI 3) hta (by omega) c3 (qe.trans (runT_f c10)) e6C e7C rfl (by rw [← show k8 - a = min 8 (e - a) by omega]; rw [if_neg (by omega), if_pos c13]) (by rw [← show k8 - a = min 8 (e - a) by omega]; exact e10C)⟩
            · --
              refine r_iconst (v := nI 1) dX4_goOn_214 (by decide) ?_
              refine r_goto (tgt := 233) dX4_goOn_215 rfl ?_
              refine r_putN fX4_195 (hlC.1) (by decide) dX4_goOn_233 ?_
              refine r_goto (tgt := 377) dX4_goOn_236 rfl ?_
              exact r_retv dX4_goOn_377 rfl (Nat.le_refl _) (Nat.le_refl _) ⟨(fC.sf 8 _ (by decide)), MTk.word (e := e) (k := nI 1) hta (by omega) c3 (qe.trans (runT_f c10)) e6C e7C rfl (by rw [← show k8 - a = min 8 (e - a) by omega]; rw [if_pos (by omega)]) (by rw [← show k8 - a = min 8 (e - a) by omega]; exact e10C)⟩
          · --
            refine r_iload_n dX4_goOn_164 rfl ?_
            refine r_aload_n dX4_goOn_165 rfl ?_
            refine r_getIv fX4_188 (hlC.1) (v := nI a) (e6C) rfl dX4_goOn_166 ?_
            refine r_bipush (v := nI 8) dX4_goOn_169 (by decide) ?_
            refine r_iadd dX4_goOn_171 ?_
            refine r_top (nI (a + 8)) (nI_add _ _) ?_
            refine r_icmpN_ge (tgt := 199) dX4_goOn_172 rfl (by omega) (by omega) (fun c14 => ?_) (fun c14 => ?_)
            · --
              refine r_aload_n dX4_goOn_199 rfl ?_
              refine r_aload_n dX4_goOn_200 rfl ?_
              refine r_getIv fX4_185 (hlC.1) (v := nI e) (e7C) rfl dX4_goOn_201 ?_
              refine r_aload_n dX4_goOn_204 rfl ?_
              refine r_getIv fX4_188 (hlC.1) (v := nI a) (e6C) rfl dX4_goOn_205 ?_
              refine r_isub dX4_goOn_208 ?_
              refine r_top (nI (e - a)) (pk_sub (by omega)) ?_
              refine r_bipush (v := nI 8) dX4_goOn_209 (by decide) ?_
              refine r_icmpN_le (tgt := 218) dX4_goOn_211 rfl (by omega) (by omega) (fun c15 => ?_) (fun c15 => ?_)
              · --
                refine r_aload_n dX4_goOn_218 rfl ?_
                refine r_getJv fX4_202 (hlC.1) (v := nmT tx n a (k8 - a)) (e10C) dX4_goOn_219 ?_
                refine r_callSx lX4_206 (c_isKept _) rfl rfl rfl rfl dX4_goOn_222 (Nat.le_refl _) (Nat.le_refl _) ?_
                refine r_ifB_eq (tgt := 232) dX4_goOn_225 rfl (fun c16 => ?_) (fun c16 => ?_)
                · --
                  refine r_iconst (v := nI 2) dX4_goOn_232 (by decide) ?_
                  refine r_putN fX4_195 (hlC.1) (by decide) dX4_goOn_233 ?_
                  refine r_goto (tgt := 377) dX4_goOn_236 rfl ?_
                  exact r_retv dX4_goOn_377 rfl (Nat.le_refl _) (Nat.le_refl _) ⟨(fC.sf 8 _ (by decide)), MTk.word (e := e) (k := nI 2) hta (by omega) c3 (qe.trans (runT_f c10)) e6C e7C rfl (by rw [← show k8 - a = min 8 (e - a) by omega]; rw [if_neg (by omega), if_neg (by rw [c16]; decide)]) (by rw [← show k8 - a = min 8 (e - a) by omega]; exact e10C)⟩
                · --
                  refine r_iconst (v := nI 3) dX4_goOn_228 (by decide) ?_
                  refine r_goto (tgt := 233) dX4_goOn_229 rfl ?_
                  refine r_putN fX4_195 (hlC.1) (by decide) dX4_goOn_233 ?_
                  refine r_goto (tgt := 377) dX4_goOn_236 rfl ?_
                  exact r_retv dX4_goOn_377 rfl (Nat.le_refl _) (Nat.le_refl _) ⟨(fC.sf 8 _ (by decide)), MTk.word (e := e) (k := nI 3) hta (by omega) c3 (qe.trans (runT_f c10)) e6C e7C rfl (by rw [← show k8 - a = min 8 (e - a) by omega]; rw [if_neg (by omega), if_pos c16]) (by rw [← show k8 - a = min 8 (e - a) by omega]; exact e10C)⟩
              · --
                refine r_iconst (v := nI 1) dX4_goOn_214 (by decide) ?_
                refine r_goto (tgt := 233) dX4_goOn_215 rfl ?_
                refine r_putN fX4_195 (hlC.1) (by decide) dX4_goOn_233 ?_
                refine r_goto (tgt := 377) dX4_goOn_236 rfl ?_
                exact r_retv dX4_goOn_377 rfl (Nat.le_refl _) (Nat.le_refl _) ⟨(fC.sf 8 _ (by decide)), MTk.word (e := e) (k := nI 1) hta (by omega) c3 (qe.trans (runT_f c10)) e6C e7C rfl (by rw [← show k8 - a = min 8 (e - a) by omega]; rw [if_pos (by omega)]) (by rw [← show k8 - a = min 8 (e - a) by omega]; exact e10C)⟩
            · --
              refine r_aload_n dX4_goOn_175 rfl ?_
              refine r_aload_n dX4_goOn_176 rfl ?_
              refine r_getJv fX4_202 (hlC.1) (v := nmT tx n a (k8 - a)) (e10C) dX4_goOn_177 ?_
              refine r_bipush (v := nI 8) dX4_goOn_180 (by decide) ?_
              refine r_lshl dX4_goOn_182 rfl ?_
              refine r_aload_n dX4_goOn_183 rfl ?_
              refine r_iload_n dX4_goOn_184 rfl ?_
              refine r_callVx lX4_191 (c_sign hlC (hxC) (k9 := k8) (by omega)) (hlC.1) rfl rfl rfl rfl dX4_goOn_185 (Nat.le_refl _) (Nat.le_refl _) ?_
              refine r_i2l dX4_goOn_188 rfl ?_
              refine r_lor dX4_goOn_189 ?_
              refine r_putJ fX4_202 (hlC.1) (by decide) dX4_goOn_190 ?_
              refine r_iincN (n := 1) dX4_goOn_193 rfl rfl (by decide) rfl ?_
              refine r_goto (tgt := 156) dX4_goOn_196 rfl ?_
              exact ih156 (k8 + 1, _) (by show e - (k8 + 1) < e - k8; omega) (k8 + 1) _ rfl (⟨by omega, by omega, by omega, fC.sj aM 10 _ (by decide), e6C, e7C, by rw [show k8 + 1 - a = k8 - a + 1 by omega]; show _ = (nmT tx n a (k8 - a) <<< _) ||| (sgT tx n (a + (k8 - a))).toInt64; rw [show a + (k8 - a) = k8 by omega]; rfl⟩)
        · --
          refine r_aload_n dX4_goOn_133 rfl ?_
          refine r_dup dX4_goOn_134 rfl ?_
          refine r_getIv fX4_185 (hlB.1) (v := nI e) (e7B) rfl dX4_goOn_135 ?_
          refine r_iconst (v := nI 1) dX4_goOn_138 (by decide) ?_
          refine r_iadd dX4_goOn_139 ?_
          refine r_top (nI (e + 1)) (nI_add _ _) ?_
          refine r_putN fX4_185 (hlB.1) (by decide) dX4_goOn_140 ?_
          refine r_goto (tgt := 119) dX4_goOn_143 rfl ?_
          exact ih119 (e + 1, _) (by have := leT_n (tx := tx) (n := n) (k := e) c10; show n - (e + 1) < n - e; omega) (e + 1) _ rfl (by have h9 := leT_n (tx := tx) (n := n) (k := e) c10; exact ⟨by omega, by omega, fB.sf 7 _ (by decide), e6B, rfl, by rw [qe, show n - e = n - (e + 1) + 1 by omega]; exact runT_t c10⟩)
    · --
      refine r_aload_n dX4_goOn_88 rfl ?_
      refine r_iconst (v := nI 0) dX4_goOn_89 (by decide) ?_
      refine r_putN fX4_195 (hlA.1) (by decide) dX4_goOn_90 ?_
      refine r_aload_n dX4_goOn_93 rfl ?_
      refine r_aload_n dX4_goOn_94 rfl ?_
      refine r_getIv fX4_143 (hlA.1) (v := nI n) (hxA.1) rfl dX4_goOn_95 ?_
      refine r_putN fX4_188 (hlA.1) (by decide) dX4_goOn_98 ?_
      refine r_aload_n dX4_goOn_101 rfl ?_
      refine r_aload_n dX4_goOn_102 rfl ?_
      refine r_getIv fX4_143 (hlA.1) (v := nI n) (hxA.1) rfl dX4_goOn_103 ?_
      refine r_putN fX4_185 (hlA.1) (by decide) dX4_goOn_106 ?_
      refine r_goto (tgt := 377) dX4_goOn_109 rfl ?_
      exact r_retv dX4_goOn_377 rfl (Nat.le_refl _) (Nat.le_refl _) ⟨((((fA.sf 7 _ (by decide)).sf 8 _ (by decide)).sf 6 _ (by decide)).sf 7 _ (by decide)), MTk.over hta (by omega) (by omega) rfl rfl rfl⟩
  · --
    refine r_aload_n dX4_goOn_19 rfl ?_
    refine r_aload_n dX4_goOn_20 rfl ?_
    refine r_getIv fX4_188 (hlA.1) (v := nI a) (e6A) rfl dX4_goOn_21 ?_
    refine r_callVx lX4_191 (c_sign hlA (hxA) (k9 := a) (by omega)) (hlA.1) rfl rfl rfl rfl dX4_goOn_24 (Nat.le_refl _) (Nat.le_refl _) ?_
    refine r_bipush (v := nI 32) dX4_goOn_27 (by decide) ?_
    refine r_icmp_eq (tgt := 45) dX4_goOn_29 rfl (fun c17 => ?_) (fun c17 => ?_)
    · --
      refine r_aload_n dX4_goOn_45 rfl ?_
      refine r_dup dX4_goOn_46 rfl ?_
      refine r_getIv fX4_188 (hlA.1) (v := nI a) (e6A) rfl dX4_goOn_47 ?_
      refine r_iconst (v := nI 1) dX4_goOn_50 (by decide) ?_
      refine r_iadd dX4_goOn_51 ?_
      refine r_top (nI (a + 1)) (nI_add _ _) ?_
      refine r_putN fX4_188 (hlA.1) (by decide) dX4_goOn_52 ?_
      refine r_goto (tgt := 8) dX4_goOn_55 rfl ?_
      exact ih8 (a + 1, _) (by show n - (a + 1) < n - a; omega) (a + 1) _ rfl (⟨by omega, fA.sf 6 _ (by decide), rfl, by rw [qa, show n - a = n - (a + 1) + 1 by omega]; exact runT_t (by simp [wsT, c1, c17])⟩)
    · --
      refine r_aload_n dX4_goOn_32 rfl ?_
      refine r_aload_n dX4_goOn_33 rfl ?_
      refine r_getIv fX4_188 (hlA.1) (v := nI a) (e6A) rfl dX4_goOn_34 ?_
      refine r_callVx lX4_191 (c_sign hlA (hxA) (k9 := a) (by omega)) (hlA.1) rfl rfl rfl rfl dX4_goOn_37 (Nat.le_refl _) (Nat.le_refl _) ?_
      refine r_bipush (v := nI 10) dX4_goOn_40 (by decide) ?_
      refine r_icmp_ne (tgt := 58) dX4_goOn_42 rfl (fun c18 => ?_) (fun c18 => ?_)
      · --
        have hta : taT tx n p = a := by rw [qa]; exact runT_f (by simp [wsT, c1, c17, c18])
        refine r_aload_n dX4_goOn_58 rfl ?_
        refine r_aload_n dX4_goOn_59 rfl ?_
        refine r_getIv fX4_188 (hlA.1) (v := nI a) (e6A) rfl dX4_goOn_60 ?_
        refine r_callVx lX4_191 (c_sign hlA (hxA) (k9 := a) (by omega)) (hlA.1) rfl rfl rfl rfl dX4_goOn_63 (Nat.le_refl _) (Nat.le_refl _) ?_
        refine r_istore_n dX4_goOn_66 (by decide) rfl ?_
        refine r_aload_n dX4_goOn_67 rfl ?_
        refine r_aload_n dX4_goOn_68 rfl ?_
        refine r_getIv fX4_188 (hlA.1) (v := nI a) (e6A) rfl dX4_goOn_69 ?_
        refine r_iconst (v := nI 1) dX4_goOn_72 (by decide) ?_
        refine r_iadd dX4_goOn_73 ?_
        refine r_top (nI (a + 1)) (nI_add _ _) ?_
        refine r_putN fX4_185 (hlA.1) (by decide) dX4_goOn_74 ?_
        refine r_aload_n dX4_goOn_77 rfl ?_
        refine r_getIv fX4_188 (hlA.1) (v := nI a) (e6A) rfl dX4_goOn_78 ?_
        refine r_aload_n dX4_goOn_81 rfl ?_
        refine r_getIv fX4_143 (hlA.1) (v := nI n) (hxA.1) rfl dX4_goOn_82 ?_
        refine r_icmpN_lt (tgt := 112) dX4_goOn_85 rfl (by omega) (by omega) (fun c19 => ?_) (fun c19 => ?_)
        · --
          refine r_iload_n dX4_goOn_112 rfl ?_
          refine r_callSx lX4_198 (c_isLetter _) rfl rfl rfl rfl dX4_goOn_113 (Nat.le_refl _) (Nat.le_refl _) ?_
          refine r_ifB_eq (tgt := 239) dX4_goOn_116 rfl (fun c20 => ?_) (fun c20 => ?_)
          · --
            refine r_iload_n dX4_goOn_239 rfl ?_
            refine r_callSx lX4_210 (c_isDigit _) rfl rfl rfl rfl dX4_goOn_240 (Nat.le_refl _) (Nat.le_refl _) ?_
            refine r_ifB_eq (tgt := 361) dX4_goOn_243 rfl (fun c21 => ?_) (fun c21 => ?_)
            · --
              refine r_aload_n dX4_goOn_361 rfl ?_
              refine r_iload_n dX4_goOn_362 rfl ?_
              refine r_callSx lX4_216 (c_isSign _) rfl rfl rfl rfl dX4_goOn_363 (Nat.le_refl _) (Nat.le_refl _) ?_
              refine r_ifB_eq (tgt := 373) dX4_goOn_366 rfl (fun c22 => ?_) (fun c22 => ?_)
              · --
                refine r_iconst (v := nI 1) dX4_goOn_373 (by decide) ?_
                refine r_putN fX4_195 (hlA.1) (by decide) dX4_goOn_374 ?_
                exact r_retv dX4_goOn_377 rfl (Nat.le_refl _) (Nat.le_refl _) ⟨((fA.sf 7 _ (by decide)).sf 8 _ (by decide)), MTk.sign (k := nI 1) hta (by omega) c20 c21 e6A rfl rfl (by rw [if_neg (by rw [c22]; decide)])⟩
              · --
                refine r_iconst (v := nI 5) dX4_goOn_369 (by decide) ?_
                refine r_goto (tgt := 374) dX4_goOn_370 rfl ?_
                refine r_putN fX4_195 (hlA.1) (by decide) dX4_goOn_374 ?_
                exact r_retv dX4_goOn_377 rfl (Nat.le_refl _) (Nat.le_refl _) ⟨((fA.sf 7 _ (by decide)).sf 8 _ (by decide)), MTk.sign (k := nI 5) hta (by omega) c20 c21 e6A rfl rfl (by rw [if_pos c22])⟩
            · --
              refine r_aload_n dX4_goOn_246 rfl ?_
              refine r_iconst (v := nI 0) dX4_goOn_247 (by decide) ?_
              refine r_putN fX4_213 (hlA.1) (by decide) dX4_goOn_248 ?_
              refine r_aload_n dX4_goOn_251 rfl ?_
              refine r_aload_n dX4_goOn_252 rfl ?_
              refine r_getIv fX4_188 (hlA.1) (v := nI a) (e6A) rfl dX4_goOn_253 ?_
              refine r_putN fX4_185 (hlA.1) (by decide) dX4_goOn_256 ?_
              refine (ev_loop (σ := Nat × ev_H) (P := fun s9 => ∀ (e : Nat) (hD : ev_H), s9 = (e, hD) → (a ≤ e ∧ e ≤ n ∧ Fj [] [6, 7, 8, 9] [aM] h hD ∧ hI hD aM 6 = nI a ∧ hI hD aM 7 = nI e ∧ hI hD aM 9 = nuT tx n a (e - a) ∧ runT (diT tx n) (n - a) a = runT (diT tx n) (n - e) e) → Ev G mX4_goOn (ev_room 1 0 0) (ev_MQ G (p0 (fun h1 => Fj [] [6, 7, 8, 9] [aM] h h1 ∧ MTk tx n p h1)) 0 0) 259 [some (vR aM), some (vI (sgT tx n a)), none] [] hD 0 0) (fun s9 => n - s9.1) (fun s9 ih259 e hD e9 q259 => ?_)) (a, _) a _ rfl (⟨Nat.le_refl _, by omega, ((fA.sf 7 _ (by decide)).sf 9 _ (by decide)).sf 7 _ (by decide), e6A, rfl, by rw [Nat.sub_self]; rfl, rfl⟩)
              subst e9
              obtain ⟨hae, hen, fD, e6D, e7D, e9D, qe⟩ := q259
              have hlD := fD.lay hl
              have hxD := hx.fj fD (by decide) (by decide) (by decide)
              refine r_aload_n dX4_goOn_259 rfl ?_
              refine r_aload_n dX4_goOn_260 rfl ?_
              refine r_getIv fX4_185 (hlD.1) (v := nI e) (e7D) rfl dX4_goOn_261 ?_
              refine r_callVx lX4_191 (c_sign hlD (hxD) (k9 := e) (by omega)) (hlD.1) rfl rfl rfl rfl dX4_goOn_264 (Nat.le_refl _) (Nat.le_refl _) ?_
              refine r_callSx lX4_210 (c_isDigit _) rfl rfl rfl rfl dX4_goOn_267 (Nat.le_refl _) (Nat.le_refl _) ?_
              refine r_ifB_eq (tgt := 322) dX4_goOn_270 rfl (fun c23 => ?_) (fun c23 => ?_)
              · --
                refine r_aload_n dX4_goOn_322 rfl ?_
                refine r_aload_n dX4_goOn_323 rfl ?_
                refine r_getIv fX4_185 (hlD.1) (v := nI e) (e7D) rfl dX4_goOn_324 ?_
                refine r_aload_n dX4_goOn_327 rfl ?_
                refine r_getIv fX4_188 (hlD.1) (v := nI a) (e6D) rfl dX4_goOn_328 ?_
                refine r_isub dX4_goOn_331 ?_
                refine r_top (nI (e - a)) (pk_sub (by omega)) ?_
                refine r_iconst (v := nI 4) dX4_goOn_332 (by decide) ?_
                refine r_icmpN_gt (tgt := 350) dX4_goOn_333 rfl (by omega) (by omega) (fun c24 => ?_) (fun c24 => ?_)
                · --
                  refine r_iconst (v := nI 1) dX4_goOn_350 (by decide) ?_
                  refine r_goto (tgt := 355) dX4_goOn_351 rfl ?_
                  refine r_putN fX4_195 (hlD.1) (by decide) dX4_goOn_355 ?_
                  refine r_goto (tgt := 377) dX4_goOn_358 rfl ?_
                  exact r_retv dX4_goOn_377 rfl (Nat.le_refl _) (Nat.le_refl _) ⟨(fD.sf 8 _ (by decide)), MTk.num (e := e) (k := nI 1) hta (by omega) c20 c21 (qe.trans (runT_f c23)) e6D e7D rfl (by rw [if_pos (Or.inl (by omega))]) e9D⟩
                · --
                  refine r_aload_n dX4_goOn_336 rfl ?_
                  refine r_aload_n dX4_goOn_337 rfl ?_
                  refine r_getIv fX4_185 (hlD.1) (v := nI e) (e7D) rfl dX4_goOn_338 ?_
                  refine r_callVx lX4_191 (c_sign hlD (hxD) (k9 := e) (by omega)) (hlD.1) rfl rfl rfl rfl dX4_goOn_341 (Nat.le_refl _) (Nat.le_refl _) ?_
                  refine r_callSx lX4_198 (c_isLetter _) rfl rfl rfl rfl dX4_goOn_344 (Nat.le_refl _) (Nat.le_refl _) ?_
                  refine r_ifB_eq (tgt := 354) dX4_goOn_347 rfl (fun c25 => ?_) (fun c25 => ?_)
                  · --
                    refine r_iconst (v := nI 4) dX4_goOn_354 (by decide) ?_
                    refine r_putN fX4_195 (hlD.1) (by decide) dX4_goOn_355 ?_
                    refine r_goto (tgt := 377) dX4_goOn_358 rfl ?_
                    exact r_retv dX4_goOn_377 rfl (Nat.le_refl _) (Nat.le_refl _) ⟨(fD.sf 8 _ (by decide)), MTk.num (e := e) (k := nI 4) hta (by omega) c20 c21 (qe.trans (runT_f c23)) e6D e7D rfl (by rw [if_neg (by rintro (z | z); omega; exact absurd (z.symm.trans c25) (by decide))]) e9D⟩
                  · --
                    refine r_iconst (v := nI 1) dX4_goOn_350 (by decide) ?_
                    refine r_goto (tgt := 355) dX4_goOn_351 rfl ?_
                    refine r_putN fX4_195 (hlD.1) (by decide) dX4_goOn_355 ?_
                    refine r_goto (tgt := 377) dX4_goOn_358 rfl ?_
                    exact r_retv dX4_goOn_377 rfl (Nat.le_refl _) (Nat.le_refl _) ⟨(fD.sf 8 _ (by decide)), MTk.num (e := e) (k := nI 1) hta (by omega) c20 c21 (qe.trans (runT_f c23)) e6D e7D rfl (by rw [if_pos (Or.inr (show leT tx n e = true from c25))]) e9D⟩
              · --
                refine r_aload_n dX4_goOn_273 rfl ?_
                refine r_getIv fX4_185 (hlD.1) (v := nI e) (e7D) rfl dX4_goOn_274 ?_
                refine r_aload_n dX4_goOn_277 rfl ?_
                refine r_getIv fX4_188 (hlD.1) (v := nI a) (e6D) rfl dX4_goOn_278 ?_
                refine r_isub dX4_goOn_281 ?_
                refine r_top (nI (e - a)) (pk_sub (by omega)) ?_
                refine r_iconst (v := nI 4) dX4_goOn_282 (by decide) ?_
                refine r_icmpN_ge (tgt := 309) dX4_goOn_283 rfl (by omega) (by omega) (fun c26 => ?_) (fun c26 => ?_)
                · --
                  refine r_aload_n dX4_goOn_309 rfl ?_
                  refine r_dup dX4_goOn_310 rfl ?_
                  refine r_getIv fX4_185 (hlD.1) (v := nI e) (e7D) rfl dX4_goOn_311 ?_
                  refine r_iconst (v := nI 1) dX4_goOn_314 (by decide) ?_
                  refine r_iadd dX4_goOn_315 ?_
                  refine r_top (nI (e + 1)) (nI_add _ _) ?_
                  refine r_putN fX4_185 (hlD.1) (by decide) dX4_goOn_316 ?_
                  refine r_goto (tgt := 259) dX4_goOn_319 rfl ?_
                  exact ih259 (e + 1, _) (by have := diT_n (tx := tx) (n := n) (k := e) c23; show n - (e + 1) < n - e; omega) (e + 1) _ rfl (by have h9 := diT_n (tx := tx) (n := n) (k := e) c23; exact ⟨by omega, by omega, fD.sf 7 _ (by decide), e6D, rfl, by rw [show e + 1 - a = e - a + 1 by omega, nuT, if_neg (by omega)]; exact e9D, by rw [qe, show n - e = n - (e + 1) + 1 by omega]; exact runT_t c23⟩)
                · --
                  refine r_aload_n dX4_goOn_286 rfl ?_
                  refine r_bipush (v := nI 10) dX4_goOn_287 (by decide) ?_
                  refine r_aload_n dX4_goOn_289 rfl ?_
                  refine r_getIv fX4_213 (hlD.1) (v := nuT tx n a (e - a)) (e9D) rfl dX4_goOn_290 ?_
                  refine r_imul dX4_goOn_293 ?_
                  refine r_aload_n dX4_goOn_294 rfl ?_
                  refine r_aload_n dX4_goOn_295 rfl ?_
                  refine r_getIv fX4_185 (hlD.1) (v := nI e) (e7D) rfl dX4_goOn_296 ?_
                  refine r_callVx lX4_191 (c_sign hlD (hxD) (k9 := e) (by omega)) (hlD.1) rfl rfl rfl rfl dX4_goOn_299 (Nat.le_refl _) (Nat.le_refl _) ?_
                  refine r_iadd dX4_goOn_302 ?_
                  refine r_bipush (v := nI 48) dX4_goOn_303 (by decide) ?_
                  refine r_isub dX4_goOn_305 ?_
                  refine r_putN fX4_213 (hlD.1) (by decide) dX4_goOn_306 ?_
                  refine r_aload_n dX4_goOn_309 rfl ?_
                  refine r_dup dX4_goOn_310 rfl ?_
                  refine r_getIv fX4_185 (hlD.1) (v := nI e) (e7D) rfl dX4_goOn_311 ?_
                  refine r_iconst (v := nI 1) dX4_goOn_314 (by decide) ?_
                  refine r_iadd dX4_goOn_315 ?_
                  refine r_top (nI (e + 1)) (nI_add _ _) ?_
                  refine r_putN fX4_185 (hlD.1) (by decide) dX4_goOn_316 ?_
                  refine r_goto (tgt := 259) dX4_goOn_319 rfl ?_
                  exact ih259 (e + 1, _) (by have := diT_n (tx := tx) (n := n) (k := e) c23; show n - (e + 1) < n - e; omega) (e + 1) _ rfl (by have h9 := diT_n (tx := tx) (n := n) (k := e) c23; exact ⟨by omega, by omega, (fD.sf 9 _ (by decide)).sf 7 _ (by decide), e6D, rfl, by rw [show e + 1 - a = e - a + 1 by omega, nuT, if_pos (by omega), show a + (e - a) = e by omega]; rfl, by rw [qe, show n - e = n - (e + 1) + 1 by omega]; exact runT_t c23⟩)
          · --
            refine (ev_loop (σ := Nat × ev_H) (P := fun s9 => ∀ (e : Nat) (hB : ev_H), s9 = (e, hB) → (a + 1 ≤ e ∧ e ≤ n ∧ Fj [] [6, 7, 8, 9] [aM] h hB ∧ hI hB aM 6 = nI a ∧ hI hB aM 7 = nI e ∧ runT (leT tx n) (n - a) a = runT (leT tx n) (n - e) e) → Ev G mX4_goOn (ev_room 1 0 0) (ev_MQ G (p0 (fun h1 => Fj [] [6, 7, 8, 9] [aM] h h1 ∧ MTk tx n p h1)) 0 0) 119 [some (vR aM), some (vI (sgT tx n a)), none] [] hB 0 0) (fun s9 => n - s9.1) (fun s9 ih119 e hB e9 q119 => ?_)) (a + 1, _) (a + 1) _ rfl (⟨Nat.le_refl _, by omega, fA.sf 7 _ (by decide), e6A, rfl, by rw [show n - a = n - (a + 1) + 1 by omega]; exact runT_t c20⟩)
            subst e9
            obtain ⟨hae, hen, fB, e6B, e7B, qe⟩ := q119
            have hlB := fB.lay hl
            have hxB := hx.fj fB (by decide) (by decide) (by decide)
            refine r_aload_n dX4_goOn_119 rfl ?_
            refine r_aload_n dX4_goOn_120 rfl ?_
            refine r_getIv fX4_185 (hlB.1) (v := nI e) (e7B) rfl dX4_goOn_121 ?_
            refine r_callVx lX4_191 (c_sign hlB (hxB) (k9 := e) (by omega)) (hlB.1) rfl rfl rfl rfl dX4_goOn_124 (Nat.le_refl _) (Nat.le_refl _) ?_
            refine r_callSx lX4_198 (c_isLetter _) rfl rfl rfl rfl dX4_goOn_127 (Nat.le_refl _) (Nat.le_refl _) ?_
            refine r_ifB_eq (tgt := 146) dX4_goOn_130 rfl (fun c27 => ?_) (fun c27 => ?_)
            · --
              refine r_aload_n dX4_goOn_146 rfl ?_
              refine r_lconst (v := 0) dX4_goOn_147 (by decide) ?_
              refine r_putJ fX4_202 (hlB.1) (by decide) dX4_goOn_148 ?_
              refine r_aload_n dX4_goOn_151 rfl ?_
              refine r_getIv fX4_188 (hlB.1) (v := nI a) (e6B) rfl dX4_goOn_152 ?_
              refine r_istore_n dX4_goOn_155 (by decide) rfl ?_
              refine (ev_loop (σ := Nat × ev_H) (P := fun s9 => ∀ (k8 : Nat) (hC : ev_H), s9 = (k8, hC) → (a ≤ k8 ∧ k8 ≤ e ∧ k8 ≤ a + 8 ∧ Fj [] [6, 7, 8, 9] [aM] h hC ∧ hI hC aM 6 = nI a ∧ hI hC aM 7 = nI e ∧ hJ hC aM 10 = nmT tx n a (k8 - a)) → Ev G mX4_goOn (ev_room 1 0 0) (ev_MQ G (p0 (fun h1 => Fj [] [6, 7, 8, 9] [aM] h h1 ∧ MTk tx n p h1)) 0 0) 156 [some (vR aM), some (vI (sgT tx n a)), some (vI (nI k8))] [] hC 0 0) (fun s9 => e - s9.1) (fun s9 ih156 k8 hC e9 q156 => ?_)) (a, _) a _ rfl (⟨Nat.le_refl _, by omega, by omega, fB.sj aM 10 _ (by decide), e6B, e7B, by rw [Nat.sub_self]; rfl⟩)
              subst e9
              obtain ⟨hk1, hk2, hk3, fC, e6C, e7C, e10C⟩ := q156
              have hlC := fC.lay hl
              have hxC := hx.fj fC (by decide) (by decide) (by decide)
              refine r_iload_n dX4_goOn_156 rfl ?_
              refine r_aload_n dX4_goOn_157 rfl ?_
              refine r_getIv fX4_185 (hlC.1) (v := nI e) (e7C) rfl dX4_goOn_158 ?_
              refine r_icmpN_ge (tgt := 199) dX4_goOn_161 rfl (by omega) (by omega) (fun c28 => ?_) (fun c28 => ?_)
              · --
                refine r_aload_n dX4_goOn_199 rfl ?_
                refine r_aload_n dX4_goOn_200 rfl ?_
                refine r_getIv fX4_185 (hlC.1) (v := nI e) (e7C) rfl dX4_goOn_201 ?_
                refine r_aload_n dX4_goOn_204 rfl ?_
                refine r_getIv fX4_188 (hlC.1) (v := nI a) (e6C) rfl dX4_goOn_205 ?_
                refine r_isub dX4_goOn_208 ?_
                refine r_top (nI (e - a)) (pk_sub (by omega)) ?_
                refine r_bipush (v := nI 8) dX4_goOn_209 (by decide) ?_
                refine r_icmpN_le (tgt := 218) dX4_goOn_211 rfl (by omega) (by omega) (fun c29 => ?_) (fun c29 => ?_)
                · --
                  refine r_aload_n dX4_goOn_218 rfl ?_
                  refine r_getJv fX4_202 (hlC.1) (v := nmT tx n a (k8 - a)) (e10C) dX4_goOn_219 ?_
                  refine r_callSx lX4_206 (c_isKept _) rfl rfl rfl rfl dX4_goOn_222 (Nat.le_refl _) (Nat.le_refl _) ?_
                  refine r_ifB_eq (tgt := 232) dX4_goOn_225 rfl (fun c30 => ?_) (fun c30 => ?_)
                  · --
                    refine r_iconst (v := nI 2) dX4_goOn_232 (by decide) ?_
                    refine r_putN fX4_195 (hlC.1) (by decide) dX4_goOn_233 ?_
                    refine r_goto (tgt := 377) dX4_goOn_236 rfl ?_
                    exact r_retv dX4_goOn_377 rfl (Nat.le_refl _) (Nat.le_refl _) ⟨(fC.sf 8 _ (by decide)), MTk.word (e := e) (k := nI 2) hta (by omega) c20 (qe.trans (runT_f c27)) e6C e7C rfl (by rw [← show k8 - a = min 8 (e - a) by omega]; rw [if_neg (by omega), if_neg (by rw [c30]; decide)]) (by rw [← show k8 - a = min 8 (e - a) by omega]; exact e10C)⟩
                  · --
                    refine r_iconst (v := nI 3) dX4_goOn_228 (by decide) ?_
                    refine r_goto (tgt := 233) dX4_goOn_229 rfl ?_
                    refine r_putN fX4_195 (hlC.1) (by decide) dX4_goOn_233 ?_
                    refine r_goto (tgt := 377) dX4_goOn_236 rfl ?_
                    exact r_retv dX4_goOn_377 rfl (Nat.le_refl _) (Nat.le_refl _) ⟨(fC.sf 8 _ (by decide)), MTk.word (e := e) (k := nI 3) hta (by omega) c20 (qe.trans (runT_f c27)) e6C e7C rfl (by rw [← show k8 - a = min 8 (e - a) by omega]; rw [if_neg (by omega), if_pos c30]) (by rw [← show k8 - a = min 8 (e - a) by omega]; exact e10C)⟩
                · --
                  refine r_iconst (v := nI 1) dX4_goOn_214 (by decide) ?_
                  refine r_goto (tgt := 233) dX4_goOn_215 rfl ?_
                  refine r_putN fX4_195 (hlC.1) (by decide) dX4_goOn_233 ?_
                  refine r_goto (tgt := 377) dX4_goOn_236 rfl ?_
                  exact r_retv dX4_goOn_377 rfl (Nat.le_refl _) (Nat.le_refl _) ⟨(fC.sf 8 _ (by decide)), MTk.word (e := e) (k := nI 1) hta (by omega) c20 (qe.trans (runT_f c27)) e6C e7C rfl (by rw [← show k8 - a = min 8 (e - a) by omega]; rw [if_pos (by omega)]) (by rw [← show k8 - a = min 8 (e - a) by omega]; exact e10C)⟩
              · --
                refine r_iload_n dX4_goOn_164 rfl ?_
                refine r_aload_n dX4_goOn_165 rfl ?_
                refine r_getIv fX4_188 (hlC.1) (v := nI a) (e6C) rfl dX4_goOn_166 ?_
                refine r_bipush (v := nI 8) dX4_goOn_169 (by decide) ?_
                refine r_iadd dX4_goOn_171 ?_
                refine r_top (nI (a + 8)) (nI_add _ _) ?_
                refine r_icmpN_ge (tgt := 199) dX4_goOn_172 rfl (by omega) (by omega) (fun c31 => ?_) (fun c31 => ?_)
                · --
                  refine r_aload_n dX4_goOn_199 rfl ?_
                  refine r_aload_n dX4_goOn_200 rfl ?_
                  refine r_getIv fX4_185 (hlC.1) (v := nI e) (e7C) rfl dX4_goOn_201 ?_
                  refine r_aload_n dX4_goOn_204 rfl ?_
                  refine r_getIv fX4_188 (hlC.1) (v := nI a) (e6C) rfl dX4_goOn_205 ?_
                  refine r_isub dX4_goOn_208 ?_
                  refine r_top (nI (e - a)) (pk_sub (by omega)) ?_
                  refine r_bipush (v := nI 8) dX4_goOn_209 (by decide) ?_
                  refine r_icmpN_le (tgt := 218) dX4_goOn_211 rfl (by omega) (by omega) (fun c32 => ?_) (fun c32 => ?_)
                  · --
                    refine r_aload_n dX4_goOn_218 rfl ?_
                    refine r_getJv fX4_202 (hlC.1) (v := nmT tx n a (k8 - a)) (e10C) dX4_goOn_219 ?_
                    refine r_callSx lX4_206 (c_isKept _) rfl rfl rfl rfl dX4_goOn_222 (Nat.le_refl _) (Nat.le_refl _) ?_
                    refine r_ifB_eq (tgt := 232) dX4_goOn_225 rfl (fun c33 => ?_) (fun c33 => ?_)
                    · --
                      refine r_iconst (v := nI 2) dX4_goOn_232 (by decide) ?_
                      refine r_putN fX4_195 (hlC.1) (by decide) dX4_goOn_233 ?_
                      refine r_goto (tgt := 377) dX4_goOn_236 rfl ?_
                      exact r_retv dX4_goOn_377 rfl (Nat.le_refl _) (Nat.le_refl _) ⟨(fC.sf 8 _ (by decide)), MTk.word (e := e) (k := nI 2) hta (by omega) c20 (qe.trans (runT_f c27)) e6C e7C rfl (by rw [← show k8 - a = min 8 (e - a) by omega]; rw [if_neg (by omega), if_neg (by rw [c33]; decide)]) (by rw [← show k8 - a = min 8 (e - a) by omega]; exact e10C)⟩
                    · --
                      refine r_iconst (v := nI 3) dX4_goOn_228 (by decide) ?_
                      refine r_goto (tgt := 233) dX4_goOn_229 rfl ?_
                      refine r_putN fX4_195 (hlC.1) (by decide) dX4_goOn_233 ?_
                      refine r_goto (tgt := 377) dX4_goOn_236 rfl ?_
                      exact r_retv dX4_goOn_377 rfl (Nat.le_refl _) (Nat.le_refl _) ⟨(fC.sf 8 _ (by decide)), MTk.word (e := e) (k := nI 3) hta (by omega) c20 (qe.trans (runT_f c27)) e6C e7C rfl (by rw [← show k8 - a = min 8 (e - a) by omega]; rw [if_neg (by omega), if_pos c33]) (by rw [← show k8 - a = min 8 (e - a) by omega]; exact e10C)⟩
                  · --
                    refine r_iconst (v := nI 1) dX4_goOn_214 (by decide) ?_
                    refine r_goto (tgt := 233) dX4_goOn_215 rfl ?_
                    refine r_putN fX4_195 (hlC.1) (by decide) dX4_goOn_233 ?_
                    refine r_goto (tgt := 377) dX4_goOn_236 rfl ?_
                    exact r_retv dX4_goOn_377 rfl (Nat.le_refl _) (Nat.le_refl _) ⟨(fC.sf 8 _ (by decide)), MTk.word (e := e) (k := nI 1) hta (by omega) c20 (qe.trans (runT_f c27)) e6C e7C rfl (by rw [← show k8 - a = min 8 (e - a) by omega]; rw [if_pos (by omega)]) (by rw [← show k8 - a = min 8 (e - a) by omega]; exact e10C)⟩
                · --
                  refine r_aload_n dX4_goOn_175 rfl ?_
                  refine r_aload_n dX4_goOn_176 rfl ?_
                  refine r_getJv fX4_202 (hlC.1) (v := nmT tx n a (k8 - a)) (e10C) dX4_goOn_177 ?_
                  refine r_bipush (v := nI 8) dX4_goOn_180 (by decide) ?_
                  refine r_lshl dX4_goOn_182 rfl ?_
                  refine r_aload_n dX4_goOn_183 rfl ?_
                  refine r_iload_n dX4_goOn_184 rfl ?_
                  refine r_callVx lX4_191 (c_sign hlC (hxC) (k9 := k8) (by omega)) (hlC.1) rfl rfl rfl rfl dX4_goOn_185 (Nat.le_refl _) (Nat.le_refl _) ?_
                  refine r_i2l dX4_goOn_188 rfl ?_
                  refine r_lor dX4_goOn_189 ?_
                  refine r_putJ fX4_202 (hlC.1) (by decide) dX4_goOn_190 ?_
                  refine r_iincN (n := 1) dX4_goOn_193 rfl rfl (by decide) rfl ?_
                  refine r_goto (tgt := 156) dX4_goOn_196 rfl ?_
                  exact ih156 (k8 + 1, _) (by show e - (k8 + 1) < e - k8; omega) (k8 + 1) _ rfl (⟨by omega, by omega, by omega, fC.sj aM 10 _ (by decide), e6C, e7C, by rw [show k8 + 1 - a = k8 - a + 1 by omega]; show _ = (nmT tx n a (k8 - a) <<< _) ||| (sgT tx n (a + (k8 - a))).toInt64; rw [show a + (k8 - a) = k8 by omega]; rfl⟩)
            · --
              refine r_aload_n dX4_goOn_133 rfl ?_
              refine r_dup dX4_goOn_134 rfl ?_
              refine r_getIv fX4_185 (hlB.1) (v := nI e) (e7B) rfl dX4_goOn_135 ?_
              refine r_iconst (v := nI 1) dX4_goOn_138 (by decide) ?_
              refine r_iadd dX4_goOn_139 ?_
              refine r_top (nI (e + 1)) (nI_add _ _) ?_
              refine r_putN fX4_185 (hlB.1) (by decide) dX4_goOn_140 ?_
              refine r_goto (tgt := 119) dX4_goOn_143 rfl ?_
              exact ih119 (e + 1, _) (by have := leT_n (tx := tx) (n := n) (k := e) c27; show n - (e + 1) < n - e; omega) (e + 1) _ rfl (by have h9 := leT_n (tx := tx) (n := n) (k := e) c27; exact ⟨by omega, by omega, fB.sf 7 _ (by decide), e6B, rfl, by rw [qe, show n - e = n - (e + 1) + 1 by omega]; exact runT_t c27⟩)
        · --
          refine r_aload_n dX4_goOn_88 rfl ?_
          refine r_iconst (v := nI 0) dX4_goOn_89 (by decide) ?_
          refine r_putN fX4_195 (hlA.1) (by decide) dX4_goOn_90 ?_
          refine r_aload_n dX4_goOn_93 rfl ?_
          refine r_aload_n dX4_goOn_94 rfl ?_
          refine r_getIv fX4_143 (hlA.1) (v := nI n) (hxA.1) rfl dX4_goOn_95 ?_
          refine r_putN fX4_188 (hlA.1) (by decide) dX4_goOn_98 ?_
          refine r_aload_n dX4_goOn_101 rfl ?_
          refine r_aload_n dX4_goOn_102 rfl ?_
          refine r_getIv fX4_143 (hlA.1) (v := nI n) (hxA.1) rfl dX4_goOn_103 ?_
          refine r_putN fX4_185 (hlA.1) (by decide) dX4_goOn_106 ?_
          refine r_goto (tgt := 377) dX4_goOn_109 rfl ?_
          exact r_retv dX4_goOn_377 rfl (Nat.le_refl _) (Nat.le_refl _) ⟨((((fA.sf 7 _ (by decide)).sf 8 _ (by decide)).sf 6 _ (by decide)).sf 7 _ (by decide)), MTk.over hta (by omega) (by omega) rfl rfl rfl⟩
      · --
        refine r_aload_n dX4_goOn_45 rfl ?_
        refine r_dup dX4_goOn_46 rfl ?_
        refine r_getIv fX4_188 (hlA.1) (v := nI a) (e6A) rfl dX4_goOn_47 ?_
        refine r_iconst (v := nI 1) dX4_goOn_50 (by decide) ?_
        refine r_iadd dX4_goOn_51 ?_
        refine r_top (nI (a + 1)) (nI_add _ _) ?_
        refine r_putN fX4_188 (hlA.1) (by decide) dX4_goOn_52 ?_
        refine r_goto (tgt := 8) dX4_goOn_55 rfl ?_
        exact ih8 (a + 1, _) (by show n - (a + 1) < n - a; omega) (a + 1) _ rfl (⟨by omega, fA.sf 6 _ (by decide), rfl, by rw [qa, show n - a = n - (a + 1) + 1 by omega]; exact runT_t (by simp [wsT, c1, c17, c18])⟩)
