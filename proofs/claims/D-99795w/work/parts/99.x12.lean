/-! ===== THE SYSTEM: sit, rise, pour, course (walks by program) ===== -/
set_option maxRecDepth 100000

theorem n_no {a : Nat} (ha : a ∈ [74, 74 + 1, 74 + 2]) : a ≠ 64 ∧ ¬ SW a := by
  have h7 : a = 74 ∨ a = 75 ∨ a = 76 := by simpa using ha
  unfold SW
  omega
theorem one_x : ∀ S : Fin 64, ∀ j : Fin 6, (tb (nI S.val) j.val = false → nI S.val ^^^ one j.val = nI S.val ||| one j.val) ∧ (tb (nI S.val) j.val = true → nI S.val ^^^ one j.val = nI S.val &&& (one j.val ^^^ (-1))) := by decide +kernel
section CH
variable {b : Bk} {T : Nat → Int32} {j : Nat}
theorem ch_lt (hb : BW b) (hw : TW b T) (hj : j < nP b) : ∃ n, n < 2 ^ nP b ∧ T 0 ^^^ one j = nI n := by
  obtain ⟨S, h1, h2⟩ := hw.1
  have h6 := hb.p6
  refine ⟨S ^^^ 2 ^ j, Nat.xor_lt_two_pow h1 (Nat.pow_lt_pow_right (by decide) hj), ?_⟩
  rw [h2, one_n (by omega), nx_xor]
theorem ch_64 (hb : BW b) (hw : TW b T) (hj : j < nP b) : ∃ n, n < 1024 ∧ T 0 ^^^ one j = nI n := by
  obtain ⟨n, h1, h2⟩ := ch_lt hb hw hj
  exact ⟨n, by have := p2_6 hb.p6; omega, h2⟩
theorem si_x (hb : BW b) (hw : TW b T) (hj : j < nP b) (h : tb (T 0) j = false) : T 0 ^^^ one j = T 0 ||| (1 : Int32) <<< (nI j &&& 31) := by
  obtain ⟨S, h1, h2⟩ := hw.sit hb
  have h6 := hb.p6
  rw [h2] at h ⊢
  exact (one_x ⟨S, h1⟩ ⟨j, by omega⟩).1 h
theorem ri_x (hb : BW b) (hw : TW b T) (hj : j < nP b) (h : tb (T 0) j = true) : T 0 ^^^ one j = T 0 &&& ((1 : Int32) <<< (nI j &&& 31) ^^^ (-1)) := by
  obtain ⟨S, h1, h2⟩ := hw.sit hb
  have h6 := hb.p6
  rw [h2] at h ⊢
  exact (one_x ⟨S, h1⟩ ⟨j, by omega⟩).2 h
theorem po_s {s : Int32} (hb : BW b) (h : s = -1 ∨ sakV b s = true) : s = -1 ∨ ∃ i, i < nS b ∧ s = nI i := by
  rcases h with e | e
  · exact Or.inl e
  · exact Or.inr (sakV_ok hb e)
theorem lt_m1 {s : Int32} (h : ¬ s = -1) : (s < -1) ↔ (s < 0) := by
  have e : ¬ s.toInt = -1 := fun z => h (Int32.toInt_inj.mp z)
  rw [Int32.lt_iff_toInt_lt, Int32.lt_iff_toInt_lt, show (-1 : Int32).toInt = -1 by decide, show (0 : Int32).toInt = 0 by decide]
  omega
theorem po_m {n : Nat} (h : n ≤ 5) : ¬ nI n - 1 < -1 := by
  match n, h with
  | 0, _ => decide
  | 1, _ => decide
  | 2, _ => decide
  | 3, _ => decide
  | 4, _ => decide
  | 5, _ => decide
theorem po_i {s : Int32} (hb : BW b) : isInV s (-1) (nI (nS b) - 1) = (decide (s = -1) || sakV b s) := by
  have hm := po_m hb.s5
  unfold sakV isInV
  by_cases e : s = -1
  · subst e
    rw [decide_eq_true rfl, decide_eq_false (show ¬ (-1 : Int32) < -1 by decide), decide_eq_false hm]
    rfl
  · rw [decide_eq_false e, decide_eq_decide.mpr (lt_m1 e)]
    rfl
theorem po_y {s : Int32} (hb : BW b) (hj : j < 2 ^ 31) (c1 : thiV b (nI j) = true) (c2 : tb (T 1) j = false) (hs : s = -1 ∨ sakV b s = true) (c4 : ¬ T (2 + j) = s) : pourOk b T (nI j) s = true := by
  unfold pourOk
  have e2 : stV T j = true := by unfold stV; rw [c2]; rfl
  have e3 : (decide (s = -1) || sakV b s) = true := by
    rcases hs with e | e
    · rw [decide_eq_true e]; rfl
    · rw [e]; simp
  rw [nI_clamp hj, c1, po_i hb, e3, e2, decide_eq_false c4]
  rfl
theorem po_n {s : Int32} (hb : BW b) (hj : j < 2 ^ 31) (h : tb (T 1) j = true ∨ (¬ s = -1 ∧ sakV b s = false) ∨ T (2 + j) = s) : pourOk b T (nI j) s = false := by
  unfold pourOk
  rw [nI_clamp hj, po_i hb]
  rcases h with e | ⟨e1, e2⟩ | e
  · have e2 : stV T j = false := by unfold stV; rw [e]; rfl
    rw [e2]; simp
  · rw [decide_eq_false e1, e2]; simp
  · rw [decide_eq_true e]; simp
end CH

theorem x3_draw {G : ev_G} {b : Bk} {K : XK} {h : ev_H} (hb : XB b K h) {t : Nat} {T : Nat → Int32} {sh : Int32} (hT : XT t T sh h) : Called G mX3_draw 0 0 0 [vR t, vR (kB K)] h (pI (fun y h1 => y = b2i (decide (drawS (T 18) - drawS (T 18) / nI 100 * nI 100 < nI (bSn b))) ∧ Fr [t, t + 1, t + 2] [] h h1 ∧ XT t (u1 T 18 (drawS (T 18))) sh h1)) := by
  have hw := hb.bw
  have hb1 := hw.p6
  have hb2 := hw.s5
  have hb3 := hw.t10
  have hct := hT.c
  have f : Fr [t, t + 1, t + 2] [] h h := Fr.rf
  obtain ⟨hnA, hnB, hnC⟩ := hT.neA hb
  refine called_of rfl [some (vR t), some (vR (kB K))] rfl (Nat.le_of_ble_eq_true rfl) ?_
  refine r_aload_n dX3_draw_0 rfl ?_
  refine r_aload_n dX3_draw_1 rfl ?_
  refine r_getIv fX3_54 (hT.k) (v := T 18) (hT.se) rfl dX3_draw_2 ?_
  refine r_sipush (v := nI 137) dX3_draw_5 (by decide) ?_
  refine r_imul dX3_draw_8 ?_
  refine r_bipush (v := nI 71) dX3_draw_9 (by decide) ?_
  refine r_iadd dX3_draw_11 ?_
  refine r_sipush (v := nI 1000) dX3_draw_12 (by decide) ?_
  refine r_irem dX3_draw_15 (by decide) ?_
  refine r_top (drawS (T 18)) (by rw [Int32.mul_comm]; rfl) ?_
  refine r_putN fX3_54 (hT.k) (hct) dX3_draw_16 ?_
  have gZ1 : Fr [t] [] h (sI h t 6 (drawS (T 18))) := Fr.rf.sa t 6 (drawS (T 18)) (by simp)
  have hbZ1 : XB b K (sI h t 6 (drawS (T 18))) := hb.fr gZ1 (fun a ha => hT.okT a (by rw [List.mem_singleton.mp ha]; simp))
  have fZ1 : Fr [t, t + 1, t + 2] [] h (sI h t 6 (drawS (T 18))) := f.tr2 gZ1 (fun _ z => z) (by simp)
  have hTZ1 : XT t (u1 T 18 (drawS (T 18))) sh (sI h t 6 (drawS (T 18))) := hT.w0 (drawS (T 18)) (by decide)
  generalize sI h t 6 (drawS (T 18)) = hZ1 at gZ1 hbZ1 fZ1 hTZ1 ⊢
  refine r_aload_n dX3_draw_19 rfl ?_
  refine r_getIv fX3_54 (hTZ1.k) (v := drawS (T 18)) (hTZ1.se) rfl dX3_draw_20 ?_
  refine r_bipush (v := nI 100) dX3_draw_23 (by decide) ?_
  refine r_irem dX3_draw_25 (by decide) ?_
  refine r_top (drawS (T 18) - drawS (T 18) / nI 100 * nI 100) (rfl) ?_
  refine r_aload_n dX3_draw_26 rfl ?_
  refine r_getIv fX3_136 (hbZ1.k) (v := nI (bSn b)) (hbZ1.sn) rfl dX3_draw_27 ?_
  refine r_icmp_ge (tgt := 37) dX3_draw_30 rfl (fun c1 => ?_) (fun c1 => ?_)
  · --
    refine r_iconst (v := nI 0) dX3_draw_37 (by decide) ?_
    exact r_reti dX3_draw_38 rfl rfl (Nat.le_refl _) (Nat.le_refl _) ⟨by rw [decide_eq_false (Int32.not_lt.mpr c1)]; rfl, fZ1, hTZ1⟩
  · --
    refine r_iconst (v := nI 1) dX3_draw_33 (by decide) ?_
    refine r_goto (tgt := 38) dX3_draw_34 rfl ?_
    exact r_reti dX3_draw_38 rfl rfl (Nat.le_refl _) (Nat.le_refl _) ⟨by rw [decide_eq_true (Int32.not_le.mp c1)]; rfl, fZ1, hTZ1⟩

theorem x0_change {G : ev_G} {b : Bk} {K : XK} {T : Nat → Int32} {h : ev_H} (hm : XM b K T h) {W : Nat → Int32} {na nu : Nat} (hH : XH b W na nu h) {j : Nat} (hj : j < nP b) : Called G mX0_change 3 0 0 [vR 64, vI (nI j)] h (pI (fun y h1 => y = popc (T 0 ^^^ one j) ∧ Fw (SC K) [10, 11] h h1 ∧ XM b K (u1 T 0 (T 0 ^^^ one j)) h1 ∧ XH b (kaW W na T) (kaN na) 0 h1)) := by
  have hb := hm.xb
  have hT := hm.xt
  have hl := hm.lay
  have hw := hm.bw
  have hb1 := hw.p6
  have hb2 := hw.s5
  have hb3 := hw.t10
  have hw9 := hm.tw
  have hH0 := hH
  refine called_of rfl [some (vR 64), some (vI (nI j))] rfl (Nat.le_of_ble_eq_true rfl) ?_
  refine r_aload_n dX0_change_0 rfl ?_
  refine r_callVv lX0_234 (x0_act hm hH0) (hl.k) rfl rfl rfl rfl dX0_change_1 (Nat.le_refl _) (Nat.le_refl _) (fun hP q9 => ?_)
  obtain ⟨kW, hHP⟩ := q9
  have hmP : XM b K T hP := hm.fw kW (fun a z => Or.inr (Or.inr z)) (hT.fw kW hl.k hl.were.1 (by unfold SW; omega) (by unfold SW; omega) (by unfold SW; omega)) hw9
  have hbP := hmP.xb
  have hTP := hmP.xt
  have hlP := hmP.lay
  have kP : Fw (SC K) [10, 11] h hP := kW.wk (fun a z => Or.inr (Or.inr z)) (fun _ z => z)
  refine r_aload_n dX0_change_4 rfl ?_
  refine r_getRv fX0_53 (hlP.k) (v := 74) (hlP.r 5 (by decide) (by decide)) rfl dX0_change_5 ?_
  refine r_dup dX0_change_8 rfl ?_
  refine r_getIv fX0_237 (hTP.k) (v := T 0) (hTP.si) rfl dX0_change_9 ?_
  refine r_iconst (v := nI 1) dX0_change_12 (by decide) ?_
  refine r_iload_n dX0_change_13 rfl ?_
  refine r_ishl dX0_change_14 ?_
  refine r_top (one j) rfl ?_
  refine r_ixor dX0_change_15 ?_
  refine r_putN fX0_237 (hTP.k) (by decide) dX0_change_16 ?_
  have gZ1 : Fr [74, 74 + 1, 74 + 2] [] hP (sI hP 74 3 ((T 0) ^^^ (one j))) := Fr.rf.sa 74 3 ((T 0) ^^^ (one j)) (by simp)
  have hTZ1 : XT 74 (u1 T 0 ((T 0) ^^^ (one j))) (-1) (sI hP 74 3 ((T 0) ^^^ (one j))) := hTP.w0 ((T 0) ^^^ (one j)) (by decide)
  have hbZ1 : XB b K (sI hP 74 3 ((T 0) ^^^ (one j))) := hbP.frT hTP gZ1
  have hlZ1 : XLay (sI hP 74 3 ((T 0) ^^^ (one j))) := hlP.fr gZ1
  have kZ1 : Fw (SC K) [10, 11] h (sI hP 74 3 ((T 0) ^^^ (one j))) := kP.tr (gZ1.fw (fun a ha => gr_mem (List.mem_cons_of_mem _ ha)))
  have hHZ1 := hHP.fr gZ1 (fun a ha => n_no ha)
  generalize sI hP 74 3 ((T 0) ^^^ (one j)) = hZ1 at gZ1 hTZ1 hbZ1 hlZ1 kZ1 hHZ1 ⊢
  refine r_aload_n dX0_change_19 rfl ?_
  refine r_getRv fX0_53 (hlZ1.k) (v := 74) (hlZ1.r 5 (by decide) (by decide)) rfl dX0_change_20 ?_
  refine r_getIv fX0_237 (hTZ1.k) (v := (T 0) ^^^ (one j)) (hTZ1.si) rfl dX0_change_23 ?_
  refine r_callSx lX0_239 (xJ15_bc (ch_64 hw hw9 hj)) rfl rfl rfl rfl dX0_change_26 (Nat.le_refl _) (Nat.le_refl _) ?_
  exact r_reti dX0_change_29 rfl rfl (Nat.le_refl _) (Nat.le_refl _) ⟨rfl, kZ1, ⟨hlZ1, by rw [kZ1.2.2.2.1 64 (by decide)]; exact hm.bk, hbZ1, hTZ1, hw9.sits (ch_lt hw hw9 hj)⟩, hHZ1⟩

theorem x0_sit {G : ev_G} {b : Bk} {K : XK} {T : Nat → Int32} {h : ev_H} (hm : XM b K T h) {W : Nat → Int32} {na nu : Nat} (hH : XH b W na nu h) (p : Int32) : Called G mX0_sit 4 0 0 [vR 64, vI p] h (pI (fun y h1 => y = (if sitOk b T p then popc ((sitT T p) 0) else (-1)) ∧ Fw (SC K) [10, 11] h h1 ∧ XM b K (if sitOk b T p then sitT T p else T) h1 ∧ XH b (if sitOk b T p then kaW W na T else W) (if sitOk b T p then kaN na else na) (if sitOk b T p then 0 else nu) h1)) := by
  have hb := hm.xb
  have hT := hm.xt
  have hl := hm.lay
  have hw := hm.bw
  have hb1 := hw.p6
  have hb2 := hw.s5
  have hb3 := hw.t10
  have hw9 := hm.tw
  have hH0 := hH
  refine called_of rfl [some (vR 64), some (vI p)] rfl (Nat.le_of_ble_eq_true rfl) ?_
  refine r_aload_n dX0_sit_0 rfl ?_
  refine r_iload_n dX0_sit_1 rfl ?_
  refine r_callVx lX0_165 (x0_isPerson hm _) (hl.k) rfl rfl rfl rfl dX0_sit_2 (Nat.le_refl _) (Nat.le_refl _) ?_
  refine r_ifB_eq (tgt := 27) dX0_sit_5 rfl (fun c1 => ?_) (fun c1 => ?_)
  · --
    refine r_iconst (v := (-1)) dX0_sit_27 (by decide) ?_
    exact r_reti dX0_sit_28 rfl rfl (Nat.le_refl _) (Nat.le_refl _) (⟨if_n (by unfold sitOk; rw [c1]; rfl) rfl, Fw.rf, XM.neg (by unfold sitOk; rw [c1]; rfl) hm, XH.neg (by unfold sitOk; rw [c1]; rfl) hH0⟩)
  · --
    obtain ⟨j, hj, rfl⟩ := perV_ok hw c1
    refine r_aload_n dX0_sit_8 rfl ?_
    refine r_getRv fX0_53 (hl.k) (v := 74) (hl.r 5 (by decide) (by decide)) rfl dX0_sit_9 ?_
    refine r_iload_n dX0_sit_12 rfl ?_
    refine r_callVx lX0_174 (x3_sitsN hT j) (hT.k) rfl rfl rfl rfl dX0_sit_13 (Nat.le_refl _) (Nat.le_refl _) ?_
    refine r_ifB_ne (tgt := 27) dX0_sit_16 rfl (fun c2 => ?_) (fun c2 => ?_)
    · --
      refine r_iconst (v := (-1)) dX0_sit_27 (by decide) ?_
      exact r_reti dX0_sit_28 rfl rfl (Nat.le_refl _) (Nat.le_refl _) (⟨if_n (by unfold sitOk; rw [c1]; exact congrArg (fun z => true && !z) c2) rfl, Fw.rf, XM.neg (by unfold sitOk; rw [c1]; exact congrArg (fun z => true && !z) c2) hm, XH.neg (by unfold sitOk; rw [c1]; exact congrArg (fun z => true && !z) c2) hH0⟩)
    · --
      refine r_aload_n dX0_sit_19 rfl ?_
      refine r_iload_n dX0_sit_20 rfl ?_
      refine r_callVi lX0_244 (x0_change hm hH0 hj) (hl.k) rfl rfl rfl rfl dX0_sit_21 (Nat.le_refl _) (Nat.le_refl _) (fun y9 hQ q9 => ?_)
      obtain ⟨rfl, kQ, hmQ, hHQ⟩ := q9
      have et : u1 T 0 (T 0 ^^^ one j) = sitT T (nI j) := congrArg (u1 T 0) (si_x hw hw9 hj c2)
      refine r_goto (tgt := 28) dX0_sit_24 rfl ?_
      exact r_reti dX0_sit_28 rfl rfl (Nat.le_refl _) (Nat.le_refl _) (⟨if_p (by unfold sitOk; rw [c1]; exact congrArg (fun z => true && !z) c2) (by rw [← et]; rfl), kQ, XM.pos (by unfold sitOk; rw [c1]; exact congrArg (fun z => true && !z) c2) (et ▸ hmQ), XH.pos (by unfold sitOk; rw [c1]; exact congrArg (fun z => true && !z) c2) hHQ⟩)

theorem x0_rise {G : ev_G} {b : Bk} {K : XK} {T : Nat → Int32} {h : ev_H} (hm : XM b K T h) {W : Nat → Int32} {na nu : Nat} (hH : XH b W na nu h) (p : Int32) : Called G mX0_rise 4 0 0 [vR 64, vI p] h (pI (fun y h1 => y = (if riseOk b T p then popc ((riseT T p) 0) else (-1)) ∧ Fw (SC K) [10, 11] h h1 ∧ XM b K (if riseOk b T p then riseT T p else T) h1 ∧ XH b (if riseOk b T p then kaW W na T else W) (if riseOk b T p then kaN na else na) (if riseOk b T p then 0 else nu) h1)) := by
  have hb := hm.xb
  have hT := hm.xt
  have hl := hm.lay
  have hw := hm.bw
  have hb1 := hw.p6
  have hb2 := hw.s5
  have hb3 := hw.t10
  have hw9 := hm.tw
  have hH0 := hH
  refine called_of rfl [some (vR 64), some (vI p)] rfl (Nat.le_of_ble_eq_true rfl) ?_
  refine r_aload_n dX0_rise_0 rfl ?_
  refine r_iload_n dX0_rise_1 rfl ?_
  refine r_callVx lX0_165 (x0_isPerson hm _) (hl.k) rfl rfl rfl rfl dX0_rise_2 (Nat.le_refl _) (Nat.le_refl _) ?_
  refine r_ifB_eq (tgt := 27) dX0_rise_5 rfl (fun c1 => ?_) (fun c1 => ?_)
  · --
    refine r_iconst (v := (-1)) dX0_rise_27 (by decide) ?_
    exact r_reti dX0_rise_28 rfl rfl (Nat.le_refl _) (Nat.le_refl _) (⟨if_n (by unfold riseOk; rw [c1]; rfl) rfl, Fw.rf, XM.neg (by unfold riseOk; rw [c1]; rfl) hm, XH.neg (by unfold riseOk; rw [c1]; rfl) hH0⟩)
  · --
    obtain ⟨j, hj, rfl⟩ := perV_ok hw c1
    refine r_aload_n dX0_rise_8 rfl ?_
    refine r_getRv fX0_53 (hl.k) (v := 74) (hl.r 5 (by decide) (by decide)) rfl dX0_rise_9 ?_
    refine r_iload_n dX0_rise_12 rfl ?_
    refine r_callVx lX0_174 (x3_sitsN hT j) (hT.k) rfl rfl rfl rfl dX0_rise_13 (Nat.le_refl _) (Nat.le_refl _) ?_
    refine r_ifB_eq (tgt := 27) dX0_rise_16 rfl (fun c2 => ?_) (fun c2 => ?_)
    · --
      refine r_iconst (v := (-1)) dX0_rise_27 (by decide) ?_
      exact r_reti dX0_rise_28 rfl rfl (Nat.le_refl _) (Nat.le_refl _) (⟨if_n (by unfold riseOk; rw [c1]; exact congrArg (fun z => true && z) c2) rfl, Fw.rf, XM.neg (by unfold riseOk; rw [c1]; exact congrArg (fun z => true && z) c2) hm, XH.neg (by unfold riseOk; rw [c1]; exact congrArg (fun z => true && z) c2) hH0⟩)
    · --
      refine r_aload_n dX0_rise_19 rfl ?_
      refine r_iload_n dX0_rise_20 rfl ?_
      refine r_callVi lX0_244 (x0_change hm hH0 hj) (hl.k) rfl rfl rfl rfl dX0_rise_21 (Nat.le_refl _) (Nat.le_refl _) (fun y9 hQ q9 => ?_)
      obtain ⟨rfl, kQ, hmQ, hHQ⟩ := q9
      have et : u1 T 0 (T 0 ^^^ one j) = riseT T (nI j) := congrArg (u1 T 0) (ri_x hw hw9 hj c2)
      refine r_goto (tgt := 28) dX0_rise_24 rfl ?_
      exact r_reti dX0_rise_28 rfl rfl (Nat.le_refl _) (Nat.le_refl _) (⟨if_p (by unfold riseOk; rw [c1]; exact congrArg (fun z => true && z) c2) (by rw [← et]; rfl), kQ, XM.pos (by unfold riseOk; rw [c1]; exact congrArg (fun z => true && z) c2) (et ▸ hmQ), XH.pos (by unfold riseOk; rw [c1]; exact congrArg (fun z => true && z) c2) hHQ⟩)

theorem x0_pour {G : ev_G} {b : Bk} {K : XK} {T : Nat → Int32} {h : ev_H} (hm : XM b K T h) {W : Nat → Int32} {na nu : Nat} (hH : XH b W na nu h) (p s : Int32) : Called G mX0_pour 3 0 0 [vR 64, vI p, vI s] h (pI (fun y h1 => y = (if pourOk b T p s then T (2 + p.toNatClampNeg) else (-2)) ∧ Fw (SC K) [10, 11] h h1 ∧ XM b K (if pourOk b T p s then u1 T (2 + p.toNatClampNeg) s else T) h1 ∧ XH b (if pourOk b T p s then kaW W na T else W) (if pourOk b T p s then kaN na else na) (if pourOk b T p s then 0 else nu) h1)) := by
  have hb := hm.xb
  have hT := hm.xt
  have hl := hm.lay
  have hw := hm.bw
  have hb1 := hw.p6
  have hb2 := hw.s5
  have hb3 := hw.t10
  have hw9 := hm.tw
  have hH0 := hH
  refine called_of rfl [some (vR 64), some (vI p), some (vI s), none] rfl (Nat.le_of_ble_eq_true rfl) ?_
  refine r_aload_n dX0_pour_0 rfl ?_
  refine r_iload_n dX0_pour_1 rfl ?_
  refine r_callVx lX0_187 (x0_isThing hm _) (hl.k) rfl rfl rfl rfl dX0_pour_2 (Nat.le_refl _) (Nat.le_refl _) ?_
  refine r_ifB_eq (tgt := 45) dX0_pour_5 rfl (fun c1 => ?_) (fun c1 => ?_)
  · --
    refine r_bipush (v := (-2)) dX0_pour_45 (by decide) ?_
    exact r_reti dX0_pour_47 rfl rfl (Nat.le_refl _) (Nat.le_refl _) (⟨if_n (by unfold pourOk; rw [c1]; rfl) rfl, Fw.rf, XM.neg (by unfold pourOk; rw [c1]; rfl) hm, XH.neg (by unfold pourOk; rw [c1]; rfl) hH0⟩)
  · --
    obtain ⟨j, hj, rfl⟩ := thiV_ok hw c1
    refine r_aload_n dX0_pour_8 rfl ?_
    refine r_getRv fX0_53 (hl.k) (v := 74) (hl.r 5 (by decide) (by decide)) rfl dX0_pour_9 ?_
    refine r_iload_n dX0_pour_12 rfl ?_
    refine r_callVx lX0_202 (x3_isSaidN hT j) (hT.k) rfl rfl rfl rfl dX0_pour_13 (Nat.le_refl _) (Nat.le_refl _) ?_
    refine r_ifB_ne (tgt := 45) dX0_pour_16 rfl (fun c2 => ?_) (fun c2 => ?_)
    · --
      refine r_bipush (v := (-2)) dX0_pour_45 (by decide) ?_
      exact r_reti dX0_pour_47 rfl rfl (Nat.le_refl _) (Nat.le_refl _) (⟨if_n (po_n hw (by omega) (Or.inl c2)) rfl, Fw.rf, XM.neg (po_n hw (by omega) (Or.inl c2)) hm, XH.neg (po_n hw (by omega) (Or.inl c2)) hH0⟩)
    · --
      refine r_iload_n dX0_pour_19 rfl ?_
      refine r_iconst (v := (-1)) dX0_pour_20 (by decide) ?_
      refine r_icmp_eq (tgt := 32) dX0_pour_21 rfl (fun c3 => ?_) (fun c3 => ?_)
      · --
        refine r_aload_n dX0_pour_32 rfl ?_
        refine r_getRv fX0_53 (hl.k) (v := 74) (hl.r 5 (by decide) (by decide)) rfl dX0_pour_33 ?_
        refine r_getRv fX0_199 (hT.k) (v := 75) (hT.rin) rfl dX0_pour_36 ?_
        refine r_iload_n dX0_pour_39 rfl ?_
        refine r_ialdv (hT.kin) (hT.lin) (ix_n (by omega) (by decide)) (v := T (2 + j)) (hT.in_ (by omega)) dX0_pour_40 ?_
        refine r_iload_n dX0_pour_41 rfl ?_
        refine r_icmp_ne (tgt := 48) dX0_pour_42 rfl (fun c4 => ?_) (fun c4 => ?_)
        · --
          refine r_aload_n dX0_pour_48 rfl ?_
          refine r_callVv lX0_234 (x0_act hm hH0) (hl.k) rfl rfl rfl rfl dX0_pour_49 (Nat.le_refl _) (Nat.le_refl _) (fun hP q9 => ?_)
          obtain ⟨kW, hHP⟩ := q9
          have hmP : XM b K T hP := hm.fw kW (fun a z => Or.inr (Or.inr z)) (hT.fw kW hl.k hl.were.1 (by unfold SW; omega) (by unfold SW; omega) (by unfold SW; omega)) hw9
          have hbP := hmP.xb
          have hTP := hmP.xt
          have hlP := hmP.lay
          have kP : Fw (SC K) [10, 11] h hP := kW.wk (fun a z => Or.inr (Or.inr z)) (fun _ z => z)
          refine r_aload_n dX0_pour_52 rfl ?_
          refine r_getRv fX0_53 (hlP.k) (v := 74) (hlP.r 5 (by decide) (by decide)) rfl dX0_pour_53 ?_
          refine r_getRv fX0_199 (hTP.k) (v := 75) (hTP.rin) rfl dX0_pour_56 ?_
          refine r_iload_n dX0_pour_59 rfl ?_
          refine r_ialdv (hTP.kin) (hTP.lin) (ix_n (by omega) (by decide)) (v := T (2 + j)) (hTP.in_ (by omega)) dX0_pour_60 ?_
          refine r_istore_n dX0_pour_61 (by decide) rfl ?_
          refine r_aload_n dX0_pour_62 rfl ?_
          refine r_getRv fX0_53 (hlP.k) (v := 74) (hlP.r 5 (by decide) (by decide)) rfl dX0_pour_63 ?_
          refine r_getRv fX0_199 (hTP.k) (v := 75) (hTP.rin) rfl dX0_pour_66 ?_
          refine r_iload_n dX0_pour_69 rfl ?_
          refine r_iload_n dX0_pour_70 rfl ?_
          refine r_iastv (hTP.kin) (by decide) (hTP.lin) (ix_n (by omega) (by decide)) dX0_pour_71 ?_
          have gZ1 : Fr [74, 74 + 1, 74 + 2] [] hP (sI hP 75 j s) := Fr.rf.sa 75 j s (by simp)
          have hTZ1 : XT 74 (u1 T (2 + j) s) (-1) (sI hP 75 j s) := hTP.win (by omega) s
          have hbZ1 : XB b K (sI hP 75 j s) := hbP.frT hTP gZ1
          have hlZ1 : XLay (sI hP 75 j s) := hlP.fr gZ1
          have kZ1 : Fw (SC K) [10, 11] h (sI hP 75 j s) := kP.tr (gZ1.fw (fun a ha => gr_mem (List.mem_cons_of_mem _ ha)))
          have hHZ1 := hHP.fr gZ1 (fun a ha => n_no ha)
          generalize sI hP 75 j s = hZ1 at gZ1 hTZ1 hbZ1 hlZ1 kZ1 hHZ1 ⊢
          refine r_iload_n dX0_pour_72 rfl ?_
          exact r_reti dX0_pour_73 rfl rfl (Nat.le_refl _) (Nat.le_refl _) (⟨if_p (po_y hw (by omega) c1 c2 (Or.inl c3) c4) (by rw [nI_clamp (by omega)]), kZ1, XM.pos (po_y hw (by omega) c1 c2 (Or.inl c3) c4) (by rw [nI_clamp (by omega)]; exact ⟨hlZ1, by rw [kZ1.2.2.2.1 64 (by decide)]; exact hm.bk, hbZ1, hTZ1, hw9.inn (by omega) (po_s hw (Or.inl c3))⟩), XH.pos (po_y hw (by omega) c1 c2 (Or.inl c3) c4) hHZ1⟩)
        · --
          refine r_bipush (v := (-2)) dX0_pour_45 (by decide) ?_
          exact r_reti dX0_pour_47 rfl rfl (Nat.le_refl _) (Nat.le_refl _) (⟨if_n (po_n hw (by omega) (Or.inr (Or.inr c4))) rfl, Fw.rf, XM.neg (po_n hw (by omega) (Or.inr (Or.inr c4))) hm, XH.neg (po_n hw (by omega) (Or.inr (Or.inr c4))) hH0⟩)
      · --
        refine r_aload_n dX0_pour_24 rfl ?_
        refine r_iload_n dX0_pour_25 rfl ?_
        refine r_callVx lX0_212 (x0_isSack hm _) (hl.k) rfl rfl rfl rfl dX0_pour_26 (Nat.le_refl _) (Nat.le_refl _) ?_
        refine r_ifB_eq (tgt := 45) dX0_pour_29 rfl (fun c5 => ?_) (fun c5 => ?_)
        · --
          refine r_bipush (v := (-2)) dX0_pour_45 (by decide) ?_
          exact r_reti dX0_pour_47 rfl rfl (Nat.le_refl _) (Nat.le_refl _) (⟨if_n (po_n hw (by omega) (Or.inr (Or.inl ⟨c3, c5⟩))) rfl, Fw.rf, XM.neg (po_n hw (by omega) (Or.inr (Or.inl ⟨c3, c5⟩))) hm, XH.neg (po_n hw (by omega) (Or.inr (Or.inl ⟨c3, c5⟩))) hH0⟩)
        · --
          refine r_aload_n dX0_pour_32 rfl ?_
          refine r_getRv fX0_53 (hl.k) (v := 74) (hl.r 5 (by decide) (by decide)) rfl dX0_pour_33 ?_
          refine r_getRv fX0_199 (hT.k) (v := 75) (hT.rin) rfl dX0_pour_36 ?_
          refine r_iload_n dX0_pour_39 rfl ?_
          refine r_ialdv (hT.kin) (hT.lin) (ix_n (by omega) (by decide)) (v := T (2 + j)) (hT.in_ (by omega)) dX0_pour_40 ?_
          refine r_iload_n dX0_pour_41 rfl ?_
          refine r_icmp_ne (tgt := 48) dX0_pour_42 rfl (fun c6 => ?_) (fun c6 => ?_)
          · --
            refine r_aload_n dX0_pour_48 rfl ?_
            refine r_callVv lX0_234 (x0_act hm hH0) (hl.k) rfl rfl rfl rfl dX0_pour_49 (Nat.le_refl _) (Nat.le_refl _) (fun hP q9 => ?_)
            obtain ⟨kW, hHP⟩ := q9
            have hmP : XM b K T hP := hm.fw kW (fun a z => Or.inr (Or.inr z)) (hT.fw kW hl.k hl.were.1 (by unfold SW; omega) (by unfold SW; omega) (by unfold SW; omega)) hw9
            have hbP := hmP.xb
            have hTP := hmP.xt
            have hlP := hmP.lay
            have kP : Fw (SC K) [10, 11] h hP := kW.wk (fun a z => Or.inr (Or.inr z)) (fun _ z => z)
            refine r_aload_n dX0_pour_52 rfl ?_
            refine r_getRv fX0_53 (hlP.k) (v := 74) (hlP.r 5 (by decide) (by decide)) rfl dX0_pour_53 ?_
            refine r_getRv fX0_199 (hTP.k) (v := 75) (hTP.rin) rfl dX0_pour_56 ?_
            refine r_iload_n dX0_pour_59 rfl ?_
            refine r_ialdv (hTP.kin) (hTP.lin) (ix_n (by omega) (by decide)) (v := T (2 + j)) (hTP.in_ (by omega)) dX0_pour_60 ?_
            refine r_istore_n dX0_pour_61 (by decide) rfl ?_
            refine r_aload_n dX0_pour_62 rfl ?_
            refine r_getRv fX0_53 (hlP.k) (v := 74) (hlP.r 5 (by decide) (by decide)) rfl dX0_pour_63 ?_
            refine r_getRv fX0_199 (hTP.k) (v := 75) (hTP.rin) rfl dX0_pour_66 ?_
            refine r_iload_n dX0_pour_69 rfl ?_
            refine r_iload_n dX0_pour_70 rfl ?_
            refine r_iastv (hTP.kin) (by decide) (hTP.lin) (ix_n (by omega) (by decide)) dX0_pour_71 ?_
            have gZ2 : Fr [74, 74 + 1, 74 + 2] [] hP (sI hP 75 j s) := Fr.rf.sa 75 j s (by simp)
            have hTZ2 : XT 74 (u1 T (2 + j) s) (-1) (sI hP 75 j s) := hTP.win (by omega) s
            have hbZ2 : XB b K (sI hP 75 j s) := hbP.frT hTP gZ2
            have hlZ2 : XLay (sI hP 75 j s) := hlP.fr gZ2
            have kZ2 : Fw (SC K) [10, 11] h (sI hP 75 j s) := kP.tr (gZ2.fw (fun a ha => gr_mem (List.mem_cons_of_mem _ ha)))
            have hHZ2 := hHP.fr gZ2 (fun a ha => n_no ha)
            generalize sI hP 75 j s = hZ2 at gZ2 hTZ2 hbZ2 hlZ2 kZ2 hHZ2 ⊢
            refine r_iload_n dX0_pour_72 rfl ?_
            exact r_reti dX0_pour_73 rfl rfl (Nat.le_refl _) (Nat.le_refl _) (⟨if_p (po_y hw (by omega) c1 c2 (Or.inr c5) c6) (by rw [nI_clamp (by omega)]), kZ2, XM.pos (po_y hw (by omega) c1 c2 (Or.inr c5) c6) (by rw [nI_clamp (by omega)]; exact ⟨hlZ2, by rw [kZ2.2.2.2.1 64 (by decide)]; exact hm.bk, hbZ2, hTZ2, hw9.inn (by omega) (po_s hw (Or.inr c5))⟩), XH.pos (po_y hw (by omega) c1 c2 (Or.inr c5) c6) hHZ2⟩)
          · --
            refine r_bipush (v := (-2)) dX0_pour_45 (by decide) ?_
            exact r_reti dX0_pour_47 rfl rfl (Nat.le_refl _) (Nat.le_refl _) (⟨if_n (po_n hw (by omega) (Or.inr (Or.inr c6))) rfl, Fw.rf, XM.neg (po_n hw (by omega) (Or.inr (Or.inr c6))) hm, XH.neg (po_n hw (by omega) (Or.inr (Or.inr c6))) hH0⟩)
