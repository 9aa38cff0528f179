/-! ===== THE SYSTEM: course, image, back, later, end, about (walks by program) ===== -/
set_option maxRecDepth 100000

section CO
variable {b : Bk} {T : Nat → Int32}
theorem co_n (h : ¬ drawS (T 18) - drawS (T 18) / nI 100 * nI 100 < nI (bSn b)) : couO b T = none := if_neg h
theorem co_y {o : Option Nat} (h : drawS (T 18) - drawS (T 18) / nI 100 * nI 100 < nI (bSn b)) (hs : sneV b (couT T) = o) : couO b T = o := (if_pos h).trans hs
theorem co_T0 (h : couO b T = none) : couT2 b T = couT T := by unfold couT2; rw [h]
theorem co_T1 {j : Nat} (h : couO b T = some j) : couT2 b T = u1 (couT T) 1 (couT T 1 ||| one j) := by unfold couT2; rw [h]
theorem TW.cou (hw : TW b T) (hb : BW b) (h9 : ¬ T 17 = nI 999) : TW b (couT2 b T) := by
  have h10 := hb.t10
  have h5 := hb.s5
  obtain ⟨c, hc, ec⟩ := hw.2.2.2.2.1
  obtain ⟨v, hv, ev⟩ := hw.2.2.2.2.2
  have hc9 : c ≠ 999 := fun z => h9 (by rw [ec, z])
  have w1 : TW b (couT T) := by
    unfold couT
    refine (hw.up (e := 17) (by omega) (by omega) (by omega) (by omega) (fun _ => ⟨c + 1, by omega, ?_⟩) (by omega)).up (e := 18) (by omega) (by omega) (by omega) (by omega) (by omega) (fun _ => ⟨(137 * v + 71) % 1000, by omega, ?_⟩)
    · rw [ec, nI_add]
    · unfold drawS
      rw [ev, pk_mul, nI_add, pk_rem (by omega) (by omega) (by omega)]
  cases e : couO b T with
  | none => rw [co_T0 e]; exact w1
  | some j =>
    have hj : j < nT b := by
      unfold couO at e
      split at e
      · exact bestOf_lt e
      · cases e
    rw [co_T1 e]
    exact w1.up (by omega) (fun _ => nIor_lt w1.2.1 (one_lt hj)) (by omega) (by omega) (by omega) (by omega)
theorem la_y {tm w : Int32} (h1 : ¬ w < 0) (h2 : ¬ nI 1000 < w) (h3 : tm + w ≤ 100000) : laterOk tm w = true := by
  unfold laterOk isInV
  rw [decide_eq_false h1, decide_eq_false h2, decide_eq_true h3]
  rfl
theorem la_1 {tm w : Int32} (h1 : w < 0) : laterOk tm w = false := by
  unfold laterOk isInV
  rw [decide_eq_true h1]
  rfl
theorem la_2 {tm w : Int32} (h1 : nI 1000 < w) : laterOk tm w = false := by
  unfold laterOk isInV
  rw [decide_eq_true h1]
  simp
theorem la_3 {tm w : Int32} (h1 : ¬ tm + w ≤ 100000) : laterOk tm w = false := by
  unfold laterOk
  rw [decide_eq_false h1]
  simp
theorem en_y {nt : Nat} {w : Int32} (h1 : ¬ w < 0) (h2 : w ≤ nI nt) : endOk nt w = true := by
  unfold endOk
  rw [decide_eq_false h1, decide_eq_true h2]
  rfl
theorem en_1 {nt : Nat} {w : Int32} (h1 : w < 0) : endOk nt w = false := by
  unfold endOk
  rw [decide_eq_true h1]
  rfl
theorem en_2 {nt : Nat} {w : Int32} (h1 : ¬ w ≤ nI nt) : endOk nt w = false := by
  unfold endOk
  rw [decide_eq_false h1]
  simp
end CO
/-- the boxes -/
def XBx (b : Bk) (B Q : Nat → Int32) (h : ev_H) : Prop := (∀ j, j < 3 → hI h 134 j = Q j) ∧ ∀ j, j < 3 → ¬ Q j = 0 → XT (255 + 3 * j) (undT B j) (-1) h ∧ TW b (undT B j)
def SBx : List Nat := [134, 255, 256, 257, 258, 259, 260, 261, 262, 263]
theorem bx_mem {j a : Nat} (hj : j ≤ 2) (ha : a ∈ [255 + 3 * j, 255 + 3 * j + 1, 255 + 3 * j + 2]) : a ∈ SBx := by
  have h7 : a = 255 + 3 * j ∨ a = 255 + 3 * j + 1 ∨ a = 255 + 3 * j + 2 := by simpa using ha
  unfold SBx
  simp
  omega
theorem bx_w {h : ev_H} {j k : Nat} {v : Int32} : hI (sI h 134 j v) 134 k = if k = j then v else hI h 134 k := by
  by_cases e : k = j
  · rw [if_pos e, e]; exact (show u2 (hI h) 134 j v 134 j = v from u2_self)
  · rw [if_neg e]; exact rdI_k e
section BX
variable {b : Bk} {T B Q B2 Q2 : Nat → Int32} {h hA hC : ev_H} {ok : Bool} {j : Nat}
theorem XBx.pos (e : ok = true) (x : XBx b B Q h) : XBx b (if ok then B else B2) (if ok then Q else Q2) h := by rw [if_pos e, if_pos e]; exact x
theorem XBx.neg (e : ok = false) (x : XBx b B Q h) : XBx b (if ok then B2 else B) (if ok then Q2 else Q) h := by rw [if_neg (by rw [e]; decide), if_neg (by rw [e]; decide)]; exact x
theorem XBx.put (hb : BW b) (hw : TW b T) (hj : j ≤ 2) (x : XBx b B Q h) (gA : Fr [255 + 3 * j, 255 + 3 * j + 1, 255 + 3 * j + 2] [] h hA) (hU : XT (255 + 3 * j) T (-1) hA) (gC : Fr [134] [] hA hC) (eC : ∀ k, hI hC 134 k = if k = j then nI 1 else hI hA 134 k) : XBx b (puW B j T) (u1 Q j (nI 1)) hC := by
  refine ⟨fun k hk => ?_, fun k hk hq => ?_⟩
  · rw [eC k]
    by_cases e : k = j
    · rw [if_pos e, e]; exact (u1_self).symm
    · rw [if_neg e, u1_ne e, gA.2.2.2.2.2 134 k (by simp; omega) (fun _ => by simp)]; exact x.1 k hk
  · by_cases e : k = j
    · subst e
      exact ⟨(hU.fr gC (by simp; omega) (by simp; omega) (by simp; omega)).eqT (fun i hi => und_eq i hi), hw.eq hb (fun i hi => und_eq i hi)⟩
    · rw [u1_ne e] at hq
      have z := x.2 k hk hq
      exact ⟨((z.1.fr gA (by simp; omega) (by simp; omega) (by simp; omega)).fr gC (by simp; omega) (by simp; omega) (by simp; omega)).eqT (fun i hi => und_ne e i hi), z.2.eq hb (fun i hi => und_ne e i hi)⟩
end BX

theorem x0_course {G : ev_G} {b : Bk} {K : XK} {T : Nat → Int32} {h : ev_H} (hm : XM b K T h) {W : Nat → Int32} {na nu : Nat} (hH : XH b W na nu h) : Called G mX0_course 6 0 0 [vR 64] h (pI (fun y h1 => y = (if (!decide (T 17 = nI 999)) then optI (couO b T) else (-2)) ∧ Fw (SC K) [10, 11] h h1 ∧ XM b K (if (!decide (T 17 = nI 999)) then couT2 b T else T) h1 ∧ XH b (if (!decide (T 17 = nI 999)) then kaW W na T else W) (if (!decide (T 17 = nI 999)) then kaN na else na) (if (!decide (T 17 = nI 999)) then 0 else nu) h1)) := by
  have hb := hm.xb
  have hT := hm.xt
  have hl := hm.lay
  have hw := hm.bw
  have hb1 := hw.p6
  have hb2 := hw.s5
  have hb3 := hw.t10
  have hw9 := hm.tw
  have hH0 := hH
  refine called_of rfl [some (vR 64), none] rfl (Nat.le_of_ble_eq_true rfl) ?_
  refine r_aload_n dX0_course_0 rfl ?_
  refine r_getRv fX0_53 (hl.k) (v := 74) (hl.r 5 (by decide) (by decide)) rfl dX0_course_1 ?_
  refine r_getIv fX0_250 (hT.k) (v := T 17) (hT.co) rfl dX0_course_4 ?_
  refine r_sipush (v := nI 999) dX0_course_7 (by decide) ?_
  refine r_icmp_ne (tgt := 16) dX0_course_10 rfl (fun c1 => ?_) (fun c1 => ?_)
  · --
    refine r_aload_n dX0_course_16 rfl ?_
    refine r_callVv lX0_234 (x0_act hm hH0) (hl.k) rfl rfl rfl rfl dX0_course_17 (Nat.le_refl _) (Nat.le_refl _) (fun hP q9 => ?_)
    obtain ⟨kW, hHP⟩ := q9
    have hmP : XM b K T hP := hm.fw kW (fun a z => Or.inr (Or.inr z)) (hT.fw kW hl.k hl.were.1 (by unfold SW; omega) (by unfold SW; omega) (by unfold SW; omega)) hw9
    have hbP := hmP.xb
    have hTP := hmP.xt
    have hlP := hmP.lay
    have kP : Fw (SC K) [10, 11] h hP := kW.wk (fun a z => Or.inr (Or.inr z)) (fun _ z => z)
    refine r_aload_n dX0_course_20 rfl ?_
    refine r_getRv fX0_53 (hlP.k) (v := 74) (hlP.r 5 (by decide) (by decide)) rfl dX0_course_21 ?_
    refine r_dup dX0_course_24 rfl ?_
    refine r_getIv fX0_250 (hTP.k) (v := T 17) (hTP.co) rfl dX0_course_25 ?_
    refine r_iconst (v := nI 1) dX0_course_28 (by decide) ?_
    refine r_iadd dX0_course_29 ?_
    refine r_putN fX0_250 (hTP.k) (by decide) dX0_course_30 ?_
    have gZ1 : Fr [74, 74 + 1, 74 + 2] [] hP (sI hP 74 5 ((T 17) + (nI 1))) := Fr.rf.sa 74 5 ((T 17) + (nI 1)) (by simp)
    have hTZ1 : XT 74 (u1 T 17 ((T 17) + (nI 1))) (-1) (sI hP 74 5 ((T 17) + (nI 1))) := hTP.w0 ((T 17) + (nI 1)) (by decide)
    have hbZ1 : XB b K (sI hP 74 5 ((T 17) + (nI 1))) := hbP.frT hTP gZ1
    have hlZ1 : XLay (sI hP 74 5 ((T 17) + (nI 1))) := hlP.fr gZ1
    have kZ1 : Fw (SC K) [10, 11] h (sI hP 74 5 ((T 17) + (nI 1))) := kP.tr (gZ1.fw (fun a ha => gr_mem (List.mem_cons_of_mem _ ha)))
    have hHZ1 := hHP.fr gZ1 (fun a ha => n_no ha)
    generalize sI hP 74 5 ((T 17) + (nI 1)) = hZ1 at gZ1 hTZ1 hbZ1 hlZ1 kZ1 hHZ1 ⊢
    refine r_aload_n dX0_course_33 rfl ?_
    refine r_getRv fX0_53 (hlZ1.k) (v := 74) (hlZ1.r 5 (by decide) (by decide)) rfl dX0_course_34 ?_
    refine r_aload_n dX0_course_37 rfl ?_
    refine r_getRv fX0_42 (hlZ1.k) (v := kB K) ((congrFun (kZ1.2.2.2.1 64 (by decide)) 4).trans hm.bk) rfl dX0_course_38 ?_
    refine r_callVi lX0_253 (x3_draw hbZ1 hTZ1) (hTZ1.k) rfl rfl rfl rfl dX0_course_41 (Nat.le_refl _) (Nat.le_refl _) (fun y9 hD q9 => ?_)
    obtain ⟨e9, gD, hTD0⟩ := q9
    replace e9 : y9 = b2i (decide (drawS (T 18) - drawS (T 18) / nI 100 * nI 100 < nI (bSn b))) := e9
    subst e9
    have hTD : XT 74 (couT T) (-1) hD := hTD0
    have hbD : XB b K (hD) := hbZ1.frT hTZ1 gD
    have hlD : XLay (hD) := hlZ1.fr gD
    have kD : Fw (SC K) [10, 11] h (hD) := kZ1.tr (gD.fw (fun a ha => gr_mem (List.mem_cons_of_mem _ ha)))
    have hHD := hHZ1.fr gD (fun a ha => n_no ha)
    refine r_ifB_ne (tgt := 49) dX0_course_44 rfl (fun c2 => ?_) (fun c2 => ?_)
    · --
      refine r_aload_n dX0_course_49 rfl ?_
      refine r_getRv fX0_53 (hlD.k) (v := 74) (hlD.r 5 (by decide) (by decide)) rfl dX0_course_50 ?_
      refine r_aload_n dX0_course_53 rfl ?_
      refine r_getRv fX0_42 (hlD.k) (v := kB K) ((congrFun (kD.2.2.2.1 64 (by decide)) 4).trans hm.bk) rfl dX0_course_54 ?_
      refine r_callVx lX0_257 (x3_next hbD hTD) (hTD.k) rfl rfl rfl rfl dX0_course_57 (Nat.le_refl _) (Nat.le_refl _) ?_
      refine r_istore_n dX0_course_60 (by decide) rfl ?_
      cases hs : sneV b (couT T) with
      | none =>
        refine r_aload_n dX0_course_61 rfl ?_
        refine r_getRv fX0_53 (hlD.k) (v := 74) (hlD.r 5 (by decide) (by decide)) rfl dX0_course_62 ?_
        refine r_dup dX0_course_65 rfl ?_
        refine r_getIv fX0_162 (hTD.k) (v := (couT T) (1)) (hTD.sa) rfl dX0_course_66 ?_
        refine r_iload_n dX0_course_69 rfl ?_
        refine r_if_ge (tgt := 77) dX0_course_70 rfl (fun c3 => ?_) (fun c3 => ?_)
        · --
          exact absurd c3 (show ¬ (0 : Int32) ≤ (-1) by decide)
        · --
          refine r_iconst (v := nI 0) dX0_course_73 (by decide) ?_
          refine r_goto (tgt := 80) dX0_course_74 rfl ?_
          refine r_ior dX0_course_80 ?_
          refine r_putN fX0_162 (hTD.k) (by decide) dX0_course_81 ?_
          have gZ2 : Fr [74, 74 + 1, 74 + 2] [] hD (sI hD 74 4 (((couT T) (1)) ||| (nI 0))) := Fr.rf.sa 74 4 (((couT T) (1)) ||| (nI 0)) (by simp)
          have hTZ2 : XT 74 (u1 (couT T) 1 (((couT T) (1)) ||| (nI 0))) (-1) (sI hD 74 4 (((couT T) (1)) ||| (nI 0))) := hTD.w0 (((couT T) (1)) ||| (nI 0)) (by decide)
          have hbZ2 : XB b K (sI hD 74 4 (((couT T) (1)) ||| (nI 0))) := hbD.frT hTD gZ2
          have hlZ2 : XLay (sI hD 74 4 (((couT T) (1)) ||| (nI 0))) := hlD.fr gZ2
          have kZ2 : Fw (SC K) [10, 11] h (sI hD 74 4 (((couT T) (1)) ||| (nI 0))) := kD.tr (gZ2.fw (fun a ha => gr_mem (List.mem_cons_of_mem _ ha)))
          have hHZ2 := hHD.fr gZ2 (fun a ha => n_no ha)
          generalize sI hD 74 4 (((couT T) (1)) ||| (nI 0)) = hZ2 at gZ2 hTZ2 hbZ2 hlZ2 kZ2 hHZ2 ⊢
          refine r_iload_n dX0_course_84 rfl ?_
          exact r_reti dX0_course_85 rfl rfl (Nat.le_refl _) (Nat.le_refl _) (⟨if_p (by rw [decide_eq_false c1]; rfl) ((congrArg optI (co_y (of_decide_eq_true c2) hs)).symm), kZ2, XM.pos (by rw [decide_eq_false c1]; rfl) ⟨hlZ2, by rw [kZ2.2.2.2.1 64 (by decide)]; exact hm.bk, hbZ2, hTZ2.eqT (fun k _ => by rw [co_T0 (co_y (of_decide_eq_true c2) hs), or0]; exact u1_id), hw9.cou hw c1⟩, XH.pos (by rw [decide_eq_false c1]; rfl) hHZ2⟩)
      | some j =>
        have hj := bestOf_lt hs
        refine r_aload_n dX0_course_61 rfl ?_
        refine r_getRv fX0_53 (hlD.k) (v := 74) (hlD.r 5 (by decide) (by decide)) rfl dX0_course_62 ?_
        refine r_dup dX0_course_65 rfl ?_
        refine r_getIv fX0_162 (hTD.k) (v := (couT T) (1)) (hTD.sa) rfl dX0_course_66 ?_
        refine r_iload_n dX0_course_69 rfl ?_
        refine r_if_ge (tgt := 77) dX0_course_70 rfl (fun c4 => ?_) (fun c4 => ?_)
        · --
          refine r_iconst (v := nI 1) dX0_course_77 (by decide) ?_
          refine r_iload_n dX0_course_78 rfl ?_
          refine r_ishl dX0_course_79 ?_
          refine r_top (one j) rfl ?_
          refine r_ior dX0_course_80 ?_
          refine r_putN fX0_162 (hTD.k) (by decide) dX0_course_81 ?_
          have gZ3 : Fr [74, 74 + 1, 74 + 2] [] hD (sI hD 74 4 (((couT T) (1)) ||| (one j))) := Fr.rf.sa 74 4 (((couT T) (1)) ||| (one j)) (by simp)
          have hTZ3 : XT 74 (u1 (couT T) 1 (((couT T) (1)) ||| (one j))) (-1) (sI hD 74 4 (((couT T) (1)) ||| (one j))) := hTD.w0 (((couT T) (1)) ||| (one j)) (by decide)
          have hbZ3 : XB b K (sI hD 74 4 (((couT T) (1)) ||| (one j))) := hbD.frT hTD gZ3
          have hlZ3 : XLay (sI hD 74 4 (((couT T) (1)) ||| (one j))) := hlD.fr gZ3
          have kZ3 : Fw (SC K) [10, 11] h (sI hD 74 4 (((couT T) (1)) ||| (one j))) := kD.tr (gZ3.fw (fun a ha => gr_mem (List.mem_cons_of_mem _ ha)))
          have hHZ3 := hHD.fr gZ3 (fun a ha => n_no ha)
          generalize sI hD 74 4 (((couT T) (1)) ||| (one j)) = hZ3 at gZ3 hTZ3 hbZ3 hlZ3 kZ3 hHZ3 ⊢
          refine r_iload_n dX0_course_84 rfl ?_
          exact r_reti dX0_course_85 rfl rfl (Nat.le_refl _) (Nat.le_refl _) (⟨if_p (by rw [decide_eq_false c1]; rfl) ((congrArg optI (co_y (of_decide_eq_true c2) hs)).symm), kZ3, XM.pos (by rw [decide_eq_false c1]; rfl) ⟨hlZ3, by rw [kZ3.2.2.2.1 64 (by decide)]; exact hm.bk, hbZ3, hTZ3.eqT (fun k _ => by rw [co_T1 (co_y (of_decide_eq_true c2) hs)]), hw9.cou hw c1⟩, XH.pos (by rw [decide_eq_false c1]; rfl) hHZ3⟩)
        · --
          exact absurd (nI_pos' (by omega)) c4
    · --
      refine r_iconst (v := (-1)) dX0_course_47 (by decide) ?_
      exact r_reti dX0_course_48 rfl rfl (Nat.le_refl _) (Nat.le_refl _) (⟨if_p (by rw [decide_eq_false c1]; rfl) ((congrArg optI (co_n (of_decide_eq_false c2))).symm), kD, XM.pos (by rw [decide_eq_false c1]; rfl) ⟨hlD, by rw [kD.2.2.2.1 64 (by decide)]; exact hm.bk, hbD, hTD.eqT (fun k _ => by rw [co_T0 (co_n (of_decide_eq_false c2))]), hw9.cou hw c1⟩, XH.pos (by rw [decide_eq_false c1]; rfl) hHD⟩)
  · --
    refine r_bipush (v := (-2)) dX0_course_13 (by decide) ?_
    exact r_reti dX0_course_15 rfl rfl (Nat.le_refl _) (Nat.le_refl _) (⟨if_n (by rw [decide_eq_true c1]; rfl) rfl, Fw.rf, XM.neg (by rw [decide_eq_true c1]; rfl) hm, XH.neg (by rw [decide_eq_true c1]; rfl) hH0⟩)

theorem x0_isBox {G : ev_G} {h : ev_H} (p : Int32) : Called G mX0_isBox 1 0 0 [vI p] h (px (vI (b2i (isInV p 0 (nI 2)))) h) := by
  refine called_of rfl [some (vI p)] rfl (Nat.le_of_ble_eq_true rfl) ?_
  refine r_iload_n dX0_isBox_0 rfl ?_
  refine r_iconst (v := 0) dX0_isBox_1 (by decide) ?_
  refine r_iconst (v := nI 2) dX0_isBox_2 (by decide) ?_
  refine r_callSx lX0_155 (x0_isIn _ _ _) rfl rfl rfl rfl dX0_isBox_3 (Nat.le_refl _) (Nat.le_refl _) ?_
  exact r_retB dX0_isBox_6 rfl (rfl)

theorem x0_image {G : ev_G} {b : Bk} {K : XK} {T : Nat → Int32} {h : ev_H} (hm : XM b K T h) {B Q : Nat → Int32} (hB : XBx b B Q h) (p : Int32) : Called G mX0_image 2 0 0 [vR 64, vI p] h (pI (fun y h1 => y = (if isInV p 0 (nI 2) then T 17 else -1) ∧ Fr SBx [] h h1 ∧ XBx b (if isInV p 0 (nI 2) then puW B p.toNatClampNeg T else B) (if isInV p 0 (nI 2) then u1 Q p.toNatClampNeg (nI 1) else Q) h1)) := by
  have hb := hm.xb
  have hT := hm.xt
  have hl := hm.lay
  have hw := hm.bw
  have hb1 := hw.p6
  have hb2 := hw.s5
  have hb3 := hw.t10
  have hw9 := hm.tw
  refine called_of rfl [some (vR 64), some (vI p)] rfl (Nat.le_of_ble_eq_true rfl) ?_
  refine r_iload_n dX0_image_0 rfl ?_
  refine r_callSx lX0_379 (x0_isBox _) rfl rfl rfl rfl dX0_image_1 (Nat.le_refl _) (Nat.le_refl _) ?_
  refine r_ifB_ne (tgt := 9) dX0_image_4 rfl (fun c1 => ?_) (fun c1 => ?_)
  · --
    obtain ⟨j, hj, rfl⟩ := isIn_m (by decide) c1
    refine r_aload_n dX0_image_9 rfl ?_
    refine r_getRv fX0_99 (hl.k) (v := 133) (hl.r 22 (by decide) (by decide)) rfl dX0_image_10 ?_
    refine r_iload_n dX0_image_13 rfl ?_
    refine r_aaldv (t := 5) (hl.boxes.1) (by decide) (hl.boxes.2) (ix_n (by omega) (by decide)) (v := 255 + 3 * j) ((hl.sb (j := j) (by omega)).1) dX0_image_14 ?_
    refine r_aload_n dX0_image_15 rfl ?_
    refine r_getRv fX0_53 (hl.k) (v := 74) (hl.r 5 (by decide) (by decide)) rfl dX0_image_16 ?_
    refine r_callVr lX0_230 (x3_copy (hl.sb (j := j) (by omega)).2.xt hT (by omega)) ((hl.sb (j := j) (by omega)).2.2.1) rfl rfl rfl rfl dX0_image_19 (Nat.le_refl _) (Nat.le_refl _) (fun y9 hA q9 => ?_)
    obtain ⟨-, gA, hUA⟩ := q9
    have hlA := hl.fr gA
    have hTA := hT.fr gA (by simp; omega) (by simp; omega) (by simp; omega)
    refine r_pop dX0_image_22 rfl ?_
    refine r_aload_n dX0_image_23 rfl ?_
    refine r_getRv fX0_102 (hlA.k) (v := 134) (hlA.r 23 (by decide) (by decide)) rfl dX0_image_24 ?_
    refine r_iload_n dX0_image_27 rfl ?_
    refine r_iconst (v := nI 1) dX0_image_28 (by decide) ?_
    refine r_zastx (hlA.there.1) (by decide) (hlA.there.2) (ix_n (by omega) (by decide)) rfl dX0_image_29 ?_
    have hlC : XLay (sI hA 134 j (nI 1)) := hlA.fr (Fr.rf (as := [134]).sa 134 _ _ (by simp))
    have hTC : XT 74 T (-1) (sI hA 134 j (nI 1)) := hTA.fr (Fr.rf (as := [134]).sa 134 _ _ (by simp)) (by simp) (by simp) (by simp)
    have gC : Fr [134] [] hA (sI hA 134 j (nI 1)) := Fr.rf.sa 134 _ _ (by simp)
    have eC : ∀ k, hI (sI hA 134 j (nI 1)) 134 k = if k = j then nI 1 else hI hA 134 k := fun k => bx_w
    generalize sI hA 134 j (nI 1) = hC at hlC hTC gC eC ⊢
    refine r_aload_n dX0_image_30 rfl ?_
    refine r_getRv fX0_53 (hlC.k) (v := 74) (hlC.r 5 (by decide) (by decide)) rfl dX0_image_31 ?_
    refine r_getIv fX0_250 (hTC.k) (v := T 17) (hTC.co) rfl dX0_image_34 ?_
    exact r_reti dX0_image_37 rfl rfl (Nat.le_refl _) (Nat.le_refl _) (⟨if_p c1 rfl, (gA.tr2 gC (as := SBx) (fun a ha => bx_mem hj ha) (by simp [SBx])), XBx.pos c1 (by rw [nI_clamp (by omega)]; exact XBx.put hw hw9 hj hB gA hUA gC eC)⟩)
  · --
    refine r_iconst (v := (-1)) dX0_image_7 (by decide) ?_
    exact r_reti dX0_image_8 rfl rfl (Nat.le_refl _) (Nat.le_refl _) (⟨if_n c1 rfl, Fr.rf, XBx.neg c1 hB⟩)

theorem x0_later {G : ev_G} {h : ev_H} (hl : XLay h) {tm : Int32} (htm : hI h 64 8 = tm) (p : Int32) : Called G mX0_later 1 0 0 [vR 64, vI p] h (pI (fun y h1 => y = (if laterOk tm p then tm + p else -1) ∧ Fw (fun _ => False) [8] h h1 ∧ hI h1 64 8 = (if laterOk tm p then tm + p else tm))) := by
  refine called_of rfl [some (vR 64), some (vI p)] rfl (Nat.le_of_ble_eq_true rfl) ?_
  refine r_iload_n dX0_later_0 rfl ?_
  refine r_if_lt (tgt := 23) dX0_later_1 rfl (fun c1 => ?_) (fun c1 => ?_)
  · --
    refine r_iconst (v := (-1)) dX0_later_23 (by decide) ?_
    exact r_reti dX0_later_24 rfl rfl (Nat.le_refl _) (Nat.le_refl _) (⟨if_n (la_1 c1) rfl, Fw.rf, if_n (la_1 c1) htm⟩)
  · --
    refine r_iload_n dX0_later_4 rfl ?_
    refine r_sipush (v := nI 1000) dX0_later_5 (by decide) ?_
    refine r_icmp_gt (tgt := 23) dX0_later_8 rfl (fun c2 => ?_) (fun c2 => ?_)
    · --
      refine r_iconst (v := (-1)) dX0_later_23 (by decide) ?_
      exact r_reti dX0_later_24 rfl rfl (Nat.le_refl _) (Nat.le_refl _) (⟨if_n (la_2 c2) rfl, Fw.rf, if_n (la_2 c2) htm⟩)
    · --
      refine r_aload_n dX0_later_11 rfl ?_
      refine r_getIv fX0_349 (hl.k) (v := tm) (htm) rfl dX0_later_12 ?_
      refine r_iload_n dX0_later_15 rfl ?_
      refine r_iadd dX0_later_16 ?_
      refine r_ldcw q1586 dX0_later_17 ?_
      refine r_icmp_le (tgt := 25) dX0_later_20 rfl (fun c3 => ?_) (fun c3 => ?_)
      · --
        refine r_aload_n dX0_later_25 rfl ?_
        refine r_dup dX0_later_26 rfl ?_
        refine r_getIv fX0_349 (hl.k) (v := tm) (htm) rfl dX0_later_27 ?_
        refine r_iload_n dX0_later_30 rfl ?_
        refine r_iadd dX0_later_31 ?_
        refine r_putN fX0_349 (hl.k) (by decide) dX0_later_32 ?_
        refine r_aload_n dX0_later_35 rfl ?_
        refine r_getIv fX0_349 (hl.k) (v := tm + p) (rfl) rfl dX0_later_36 ?_
        exact r_reti dX0_later_39 rfl rfl (Nat.le_refl _) (Nat.le_refl _) (⟨if_p (la_y c1 c2 c3) rfl, Fw.sf 8 _ (by simp), if_p (la_y c1 c2 c3) rfl⟩)
      · --
        refine r_iconst (v := (-1)) dX0_later_23 (by decide) ?_
        exact r_reti dX0_later_24 rfl rfl (Nat.le_refl _) (Nat.le_refl _) (⟨if_n (la_3 c3) rfl, Fw.rf, if_n (la_3 c3) htm⟩)

theorem x0_end {G : ev_G} {h : ev_H} (hl : XLay h) {nt : Nat} (hnt : hI h 64 1 = nI nt) (p : Int32) : Called G mX0_end 1 0 0 [vR 64, vI p] h (pI (fun y h1 => y = (if endOk nt p then p else -1) ∧ Fw (fun _ => False) [1] h h1 ∧ hI h1 64 1 = (if endOk nt p then p else nI nt))) := by
  refine called_of rfl [some (vR 64), some (vI p)] rfl (Nat.le_of_ble_eq_true rfl) ?_
  refine r_iload_n dX0_end_0 rfl ?_
  refine r_if_lt (tgt := 12) dX0_end_1 rfl (fun c1 => ?_) (fun c1 => ?_)
  · --
    refine r_iconst (v := (-1)) dX0_end_12 (by decide) ?_
    exact r_reti dX0_end_13 rfl rfl (Nat.le_refl _) (Nat.le_refl _) (⟨if_n (en_1 c1) rfl, Fw.rf, if_n (en_1 c1) hnt⟩)
  · --
    refine r_iload_n dX0_end_4 rfl ?_
    refine r_aload_n dX0_end_5 rfl ?_
    refine r_getIv fX0_105 (hl.k) (v := nI nt) (hnt) rfl dX0_end_6 ?_
    refine r_icmp_le (tgt := 14) dX0_end_9 rfl (fun c2 => ?_) (fun c2 => ?_)
    · --
      refine r_aload_n dX0_end_14 rfl ?_
      refine r_iload_n dX0_end_15 rfl ?_
      refine r_putN fX0_105 (hl.k) (by decide) dX0_end_16 ?_
      refine r_iload_n dX0_end_19 rfl ?_
      exact r_reti dX0_end_20 rfl rfl (Nat.le_refl _) (Nat.le_refl _) (⟨if_p (en_y c1 c2) rfl, Fw.sf 1 _ (by simp), if_p (en_y c1 c2) rfl⟩)
    · --
      refine r_iconst (v := (-1)) dX0_end_12 (by decide) ?_
      exact r_reti dX0_end_13 rfl rfl (Nat.le_refl _) (Nat.le_refl _) (⟨if_n (en_2 c2) rfl, Fw.rf, if_n (en_2 c2) hnt⟩)

theorem x0_about {G : ev_G} {b : Bk} {K : XK} {T : Nat → Int32} {h : ev_H} (hm : XM b K T h) {na nu nh nt nl en : Nat} {tm : Int32} (hna : hI h 64 10 = nI na) (hnu : hI h 64 11 = nI nu) (hn : ALs 93 en nh h) (htm : hI h 64 8 = tm) (hnt : hI h 64 1 = nI nt) (hnl : hI h 64 15 = nI nl) (wh : Int32) : Called G mX0_about 5 0 0 [vR 64, vI wh] h (px (vI (abV b T na nu nh nt nl tm wh)) h) := by
  have hb := hm.xb
  have hT := hm.xt
  have hl := hm.lay
  have hw := hm.bw
  have hb1 := hw.p6
  have hb2 := hw.s5
  have hb3 := hw.t10
  have hw9 := hm.tw
  refine called_of rfl [some (vR 64), some (vI wh)] rfl (Nat.le_of_ble_eq_true rfl) ?_
  refine r_iload_n dX0_about_0 rfl ?_
  by_cases e0 : wh = nI 0
  · refine r_tswC (tgt := 80) (off := 79) 0 dX0_about_1 e0 (by decide) rfl ?_
    refine r_aload_n dX0_about_80 rfl ?_
    refine r_callVx lX0_140 (x0_things hm) (hl.k) rfl rfl rfl rfl dX0_about_81 (Nat.le_refl _) (Nat.le_refl _) ?_
    exact r_retx dX0_about_84 rfl rfl (by rw [e0]; rfl)
  by_cases e1 : wh = nI 1
  · refine r_tswC (tgt := 85) (off := 84) 1 dX0_about_1 e1 (by decide) rfl ?_
    refine r_aload_n dX0_about_85 rfl ?_
    refine r_callVx lX0_151 (x0_people hm) (hl.k) rfl rfl rfl rfl dX0_about_86 (Nat.le_refl _) (Nat.le_refl _) ?_
    exact r_retx dX0_about_89 rfl rfl (by rw [e1]; rfl)
  by_cases e2 : wh = nI 2
  · refine r_tswC (tgt := 90) (off := 89) 2 dX0_about_1 e2 (by decide) rfl ?_
    refine r_aload_n dX0_about_90 rfl ?_
    refine r_callVx lX0_153 (x0_sacks hm) (hl.k) rfl rfl rfl rfl dX0_about_91 (Nat.le_refl _) (Nat.le_refl _) ?_
    exact r_retx dX0_about_94 rfl rfl (by rw [e2]; rfl)
  by_cases e3 : wh = nI 3
  · refine r_tswC (tgt := 95) (off := 94) 3 dX0_about_1 e3 (by decide) rfl ?_
    refine r_aload_n dX0_about_95 rfl ?_
    refine r_getRv fX0_53 (hl.k) (v := 74) (hl.r 5 (by decide) (by decide)) rfl dX0_about_96 ?_
    refine r_getIv fX0_237 (hT.k) (v := T 0) (hT.si) rfl dX0_about_99 ?_
    exact r_retx dX0_about_102 rfl rfl (by rw [e3]; rfl)
  by_cases e4 : wh = nI 4
  · refine r_tswC (tgt := 103) (off := 102) 4 dX0_about_1 e4 (by decide) rfl ?_
    refine r_aload_n dX0_about_103 rfl ?_
    refine r_getRv fX0_53 (hl.k) (v := 74) (hl.r 5 (by decide) (by decide)) rfl dX0_about_104 ?_
    refine r_getIv fX0_162 (hT.k) (v := T 1) (hT.sa) rfl dX0_about_107 ?_
    exact r_retx dX0_about_110 rfl rfl (by rw [e4]; rfl)
  by_cases e5 : wh = nI 5
  · refine r_tswC (tgt := 111) (off := 110) 5 dX0_about_1 e5 (by decide) rfl ?_
    refine r_aload_n dX0_about_111 rfl ?_
    refine r_getRv fX0_53 (hl.k) (v := 74) (hl.r 5 (by decide) (by decide)) rfl dX0_about_112 ?_
    refine r_getIv fX0_250 (hT.k) (v := T 17) (hT.co) rfl dX0_about_115 ?_
    exact r_retx dX0_about_118 rfl rfl (by rw [e5]; rfl)
  by_cases e6 : wh = nI 6
  · refine r_tswC (tgt := 119) (off := 118) 6 dX0_about_1 e6 (by decide) rfl ?_
    refine r_aload_n dX0_about_119 rfl ?_
    refine r_getRv fX0_53 (hl.k) (v := 74) (hl.r 5 (by decide) (by decide)) rfl dX0_about_120 ?_
    refine r_getIv fX0_382 (hT.k) (v := T 18) (hT.se) rfl dX0_about_123 ?_
    exact r_retx dX0_about_126 rfl rfl (by rw [e6]; rfl)
  by_cases e7 : wh = nI 7
  · refine r_tswC (tgt := 127) (off := 126) 7 dX0_about_1 e7 (by decide) rfl ?_
    refine r_aload_n dX0_about_127 rfl ?_
    refine r_getIv fX0_117 (hl.k) (v := nI na) (hna) rfl dX0_about_128 ?_
    exact r_retx dX0_about_131 rfl rfl (by rw [e7]; rfl)
  by_cases e8 : wh = nI 8
  · refine r_tswC (tgt := 132) (off := 131) 8 dX0_about_1 e8 (by decide) rfl ?_
    refine r_aload_n dX0_about_132 rfl ?_
    refine r_getIv fX0_120 (hl.k) (v := nI nu) (hnu) rfl dX0_about_133 ?_
    exact r_retx dX0_about_136 rfl rfl (by rw [e8]; rfl)
  by_cases e9 : wh = nI 9
  · refine r_tswC (tgt := 137) (off := 136) 9 dX0_about_1 e9 (by decide) rfl ?_
    refine r_aload_n dX0_about_137 rfl ?_
    refine r_getRv fX0_88 (hl.k) (v := 93) (hl.r 19 (by decide) (by decide)) rfl dX0_about_138 ?_
    refine r_callVx lX0_3 (xJ2_size hn) (hn.1) rfl rfl rfl rfl dX0_about_141 (Nat.le_refl _) (Nat.le_refl _) ?_
    exact r_retx dX0_about_144 rfl rfl (by rw [e9]; rfl)
  by_cases e10 : wh = nI 10
  · refine r_tswC (tgt := 145) (off := 144) 10 dX0_about_1 e10 (by decide) rfl ?_
    refine r_aload_n dX0_about_145 rfl ?_
    refine r_getIv fX0_349 (hl.k) (v := tm) (htm) rfl dX0_about_146 ?_
    exact r_retx dX0_about_149 rfl rfl (by rw [e10]; rfl)
  by_cases e11 : wh = nI 11
  · refine r_tswC (tgt := 150) (off := 149) 11 dX0_about_1 e11 (by decide) rfl ?_
    refine r_aload_n dX0_about_150 rfl ?_
    refine r_getIv fX0_105 (hl.k) (v := nI nt) (hnt) rfl dX0_about_151 ?_
    exact r_retx dX0_about_154 rfl rfl (by rw [e11]; rfl)
  by_cases e12 : wh = nI 12
  · refine r_tswC (tgt := 155) (off := 154) 12 dX0_about_1 e12 (by decide) rfl ?_
    refine r_aload_n dX0_about_155 rfl ?_
    refine r_getRv fX0_42 (hl.k) (v := kB K) (hm.bk) rfl dX0_about_156 ?_
    refine r_getIv fX0_385 (hb.k) (v := nI (bUn b)) (hb.un) rfl dX0_about_159 ?_
    exact r_retx dX0_about_162 rfl rfl (by rw [e12]; rfl)
  by_cases e13 : wh = nI 13
  · refine r_tswC (tgt := 163) (off := 162) 13 dX0_about_1 e13 (by decide) rfl ?_
    refine r_aload_n dX0_about_163 rfl ?_
    refine r_getIv fX0_123 (hl.k) (v := nI nl) (hnl) rfl dX0_about_164 ?_
    exact r_retx dX0_about_167 rfl rfl (by rw [e13]; rfl)
  by_cases e14 : wh = nI 14
  · refine r_tswC (tgt := 168) (off := 167) 14 dX0_about_1 e14 (by decide) rfl ?_
    refine r_aload_n dX0_about_168 rfl ?_
    refine r_getRv fX0_42 (hl.k) (v := kB K) (hm.bk) rfl dX0_about_169 ?_
    refine r_getIv fX0_331 (hb.k) (v := nI (bSn b)) (hb.sn) rfl dX0_about_172 ?_
    exact r_retx dX0_about_175 rfl rfl (by rw [e14]; rfl)
  by_cases e15 : wh = nI 15
  · refine r_tswC (tgt := 176) (off := 175) 15 dX0_about_1 e15 (by decide) rfl ?_
    refine r_aload_n dX0_about_176 rfl ?_
    refine r_getRv fX0_42 (hl.k) (v := kB K) (hm.bk) rfl dX0_about_177 ?_
    refine r_aload_n dX0_about_180 rfl ?_
    refine r_callVx lX0_181 (x0_kept hm) (hl.k) rfl rfl rfl rfl dX0_about_181 (Nat.le_refl _) (Nat.le_refl _) ?_
    refine r_callVx lX0_209 (x1_heat hb _) (hb.k) rfl rfl rfl rfl dX0_about_184 (Nat.le_refl _) (Nat.le_refl _) ?_
    exact r_retx dX0_about_187 rfl rfl (by rw [e15]; rfl)
  refine r_tswD (tgt := 188) 0 [0, 1, 2, 3, 4, 5, 6, 7, 8, 9, 10, 11, 12, 13, 14, 15] dX0_about_1 (by decide) (by decide) (by simp [*]) rfl ?_
  refine r_iconst (v := (-1)) dX0_about_188 (by decide) ?_
  exact r_retx dX0_about_189 rfl rfl (by simp [abV, *])
