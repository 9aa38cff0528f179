/-! ===== THE SYSTEM: undo, redo, grind, sit, rise, pour, course (walks by program) ===== -/
set_option maxRecDepth 100000

section PN
variable {b : Bk} {K : XK} {T T2 W W2 : Nat → Int32} {n n2 m m2 : Nat} {h : ev_H} {ok : Bool}
theorem XM.pos (e : ok = true) (x : XM b K T h) : XM b K (if ok then T else T2) h := by rw [if_pos e]; exact x
theorem XM.neg (e : ok = false) (x : XM b K T h) : XM b K (if ok then T2 else T) h := by rw [if_neg (by rw [e]; decide)]; exact x
theorem XH.pos (e : ok = true) (x : XH b W n m h) : XH b (if ok then W else W2) (if ok then n else n2) (if ok then m else m2) h := by rw [if_pos e, if_pos e, if_pos e]; exact x
theorem XH.neg (e : ok = false) (x : XH b W n m h) : XH b (if ok then W2 else W) (if ok then n2 else n) (if ok then m2 else m) h := by
  rw [if_neg (by rw [e]; decide), if_neg (by rw [e]; decide), if_neg (by rw [e]; decide)]; exact x
theorem tu_mem {t a : Nat} (h1 : 135 ≤ t) (h2 : t + 3 ≤ 255) (ha : a ∈ [77, 78, 79, t, t + 1, t + 2, 74, 75, 76]) : SC K a := by
  have h7 : a = 77 ∨ a = 78 ∨ a = 79 ∨ a = t ∨ a = t + 1 ∨ a = t + 2 ∨ a = 74 ∨ a = 75 ∨ a = 76 := by simpa using ha
  unfold SC
  right
  omega
theorem gr_mem {a : Nat} (ha : a ∈ [kAk K, 74, 74 + 1, 74 + 2]) : SC K a := by
  rcases List.mem_cons.mp ha with e | e
  · exact Or.inl e
  · have h7 : a = 74 ∨ a = 75 ∨ a = 76 := by simpa using e
    unfold SC
    right
    omega
theorem XM.akn (x : XM b K T h) : kAk K ≠ 64 ∧ ¬ SW (kAk K) := by
  have hk := x.xb.akk
  refine ⟨fun e => (by rw [e, x.lay.k] at hk; cases hk), fun s => ?_⟩
  unfold SW at s
  have hs := x.lay.sw (j := (kAk K - 135) / 3) (by omega)
  have hc : kAk K = 135 + 3 * ((kAk K - 135) / 3) ∨ kAk K = 135 + 3 * ((kAk K - 135) / 3) + 1 ∨ kAk K = 135 + 3 * ((kAk K - 135) / 3) + 2 := by omega
  rcases hc with e | e | e
  · rw [e, hs.2.1] at hk; cases hk
  · rw [e, hs.2.2.2.1.1] at hk; cases hk
  · rw [e, hs.2.2.2.2.1] at hk; cases hk
theorem XM.gr_no (x : XM b K T h) {a : Nat} (ha : a ∈ [kAk K, 74, 74 + 1, 74 + 2]) : a ≠ 64 ∧ ¬ SW a := by
  rcases List.mem_cons.mp ha with e | e
  · rw [e]; exact x.akn
  · have h7 : a = 74 ∨ a = 75 ∨ a = 76 := by simpa using e
    unfold SW
    omega
end PN

theorem x0_turnAbout {G : ev_G} {b : Bk} {K : XK} {T : Nat → Int32} {h : ev_H} (hm : XM b K T h) {t : Nat} (h1t : 135 ≤ t) (h2t : t + 3 ≤ 255) {U : Nat → Int32} (hU : XT t U (-1) h) : Called G mX0_turnAbout 2 0 0 [vR 64, vR t] h (p0 (fun h1 => Fr [77, 78, 79, t, t + 1, t + 2, 74, 75, 76] [] h h1 ∧ XT 74 U (-1) h1 ∧ XT t T (-1) h1)) := by
  have hb := hm.xb
  have hT := hm.xt
  have hl := hm.lay
  have hw := hm.bw
  have hb1 := hw.p6
  have hb2 := hw.s5
  have hb3 := hw.t10
  have hw9 := hm.tw
  refine called_of rfl [some (vR 64), some (vR t)] rfl (Nat.le_of_ble_eq_true rfl) ?_
  refine r_aload_n dX0_turnAbout_0 rfl ?_
  refine r_getRv fX0_57 (hl.k) (v := 77) (hl.r 6 (by decide) (by decide)) rfl dX0_turnAbout_1 ?_
  refine r_aload_n dX0_turnAbout_4 rfl ?_
  refine r_callVr lX0_230 (x3_copy hl.s77.xt hU (by omega)) (hl.s77.2.1) rfl rfl rfl rfl dX0_turnAbout_5 (Nat.le_refl _) (Nat.le_refl _) (fun y9 hA q9 => ?_)
  obtain ⟨-, gA, hsA⟩ := q9
  have hUA := hU.fr gA (by simp; omega) (by simp; omega) (by simp; omega)
  have hTA := hT.fr gA (by simp) (by simp) (by simp)
  have hlA := hl.fr gA
  refine r_pop dX0_turnAbout_8 rfl ?_
  refine r_aload_n dX0_turnAbout_9 rfl ?_
  refine r_aload_n dX0_turnAbout_10 rfl ?_
  refine r_getRv fX0_53 (hlA.k) (v := 74) (hlA.r 5 (by decide) (by decide)) rfl dX0_turnAbout_11 ?_
  refine r_callVr lX0_230 (x3_copy hUA hTA (by omega)) (hUA.k) rfl rfl rfl rfl dX0_turnAbout_14 (Nat.le_refl _) (Nat.le_refl _) (fun y8 hB q9 => ?_)
  obtain ⟨-, gB, hUB⟩ := q9
  have hTB := hTA.fr gB (by simp; omega) (by simp; omega) (by simp; omega)
  have hsB := hsA.fr gB (by simp; omega) (by simp; omega) (by simp; omega)
  have hlB := hlA.fr gB
  refine r_pop dX0_turnAbout_17 rfl ?_
  refine r_aload_n dX0_turnAbout_18 rfl ?_
  refine r_getRv fX0_53 (hlB.k) (v := 74) (hlB.r 5 (by decide) (by decide)) rfl dX0_turnAbout_19 ?_
  refine r_aload_n dX0_turnAbout_22 rfl ?_
  refine r_getRv fX0_57 (hlB.k) (v := 77) (hlB.r 6 (by decide) (by decide)) rfl dX0_turnAbout_23 ?_
  refine r_callVr lX0_230 (x3_copy hTB hsB (by omega)) (hTB.k) rfl rfl rfl rfl dX0_turnAbout_26 (Nat.le_refl _) (Nat.le_refl _) (fun y7 hC q9 => ?_)
  obtain ⟨-, gC, hTC⟩ := q9
  have hUC := hUB.fr gC (by simp; omega) (by simp; omega) (by simp; omega)
  refine r_pop dX0_turnAbout_29 rfl ?_
  exact r_retv dX0_turnAbout_30 rfl (Nat.le_refl _) (Nat.le_refl _) (⟨((gA.tr2 gB (as := [77, 78, 79, t, t + 1, t + 2, 74, 75, 76]) (by simp) (by simp)).tr2 gC (fun _ z => z) (by simp)), hTC, hUC⟩)

theorem x0_undo {G : ev_G} {b : Bk} {K : XK} {T : Nat → Int32} {h : ev_H} (hm : XM b K T h) {W : Nat → Int32} {na nu : Nat} (hH : XH b W na nu h) : Called G mX0_undo 3 0 0 [vR 64] h (pI (fun y h1 => y = (if (!decide (na = 0)) then 1 else 0) ∧ Fw (SC K) [10, 11] h h1 ∧ XM b K (if (!decide (na = 0)) then undT W (na - 1) else T) h1 ∧ XH b (if (!decide (na = 0)) then puW W (na - 1) T else W) (if (!decide (na = 0)) then na - 1 else na) (if (!decide (na = 0)) then nu + 1 else nu) h1)) := by
  have hb := hm.xb
  have hT := hm.xt
  have hl := hm.lay
  have hw := hm.bw
  have hb1 := hw.p6
  have hb2 := hw.s5
  have hb3 := hw.t10
  have hw9 := hm.tw
  have hH0 := hH
  obtain ⟨e10, e11, hle, -⟩ := hH
  refine called_of rfl [some (vR 64)] rfl (Nat.le_of_ble_eq_true rfl) ?_
  refine r_aload_n dX0_undo_0 rfl ?_
  refine r_getIv fX0_117 (hl.k) (v := nI na) (e10) rfl dX0_undo_1 ?_
  refine r_if_ne (tgt := 9) dX0_undo_4 rfl (fun c1 => ?_) (fun c1 => ?_)
  · --
    have n0 : na ≠ 0 := fun e => c1 (by rw [e]; rfl)
    refine r_aload_n dX0_undo_9 rfl ?_
    refine r_dup dX0_undo_10 rfl ?_
    refine r_getIv fX0_117 (hl.k) (v := nI na) (e10) rfl dX0_undo_11 ?_
    refine r_iconst (v := nI 1) dX0_undo_14 (by decide) ?_
    refine r_isub dX0_undo_15 ?_
    refine r_top (nI (na - 1)) (pk_sub (by omega)) ?_
    refine r_putN fX0_117 (hl.k) (by decide) dX0_undo_16 ?_
    refine r_aload_n dX0_undo_19 rfl ?_
    refine r_dup dX0_undo_20 rfl ?_
    refine r_getIv fX0_120 (hl.k) (v := nI nu) (e11) rfl dX0_undo_21 ?_
    refine r_iconst (v := nI 1) dX0_undo_24 (by decide) ?_
    refine r_iadd dX0_undo_25 ?_
    refine r_top (nI (nu + 1)) (nI_add _ _) ?_
    refine r_putN fX0_120 (hl.k) (by decide) dX0_undo_26 ?_
    have gP : Fr [64] [] h (sI (sI h 64 10 (nI (na - 1))) 64 11 (nI (nu + 1))) := (Fr.rf.sa 64 10 _ (by simp)).sa 64 11 _ (by simp)
    have hHP : XH b W (na - 1) (nu + 1) (sI (sI h 64 10 (nI (na - 1))) 64 11 (nI (nu + 1))) := hH0.nums gP rfl rfl (by omega)
    have kP : Fw (SC K) [10, 11] h (sI (sI h 64 10 (nI (na - 1))) 64 11 (nI (nu + 1))) := (Fw.sf 10 _ (by simp)).tr (Fw.sf 11 _ (by simp))
    have hmP : XM b K T (sI (sI h 64 10 (nI (na - 1))) 64 11 (nI (nu + 1))) := hm.fw kP (fun _ z => z) (hT.fr gP (by simp) (by simp) (by simp)) hw9
    generalize sI (sI h 64 10 (nI (na - 1))) 64 11 (nI (nu + 1)) = hP at gP hHP kP hmP ⊢
    have hbP := hmP.xb
    have hTP := hmP.xt
    have hlP := hmP.lay
    obtain ⟨e10P, e11P, hleP, f, hf1, hf2, hf3⟩ := hHP
    have hfb := (hf1 (na - 1) (by omega)).1
    refine r_aload_n dX0_undo_29 rfl ?_
    refine r_aload_n dX0_undo_30 rfl ?_
    refine r_getRv fX0_63 (hlP.k) (v := 83) (hlP.r 9 (by decide) (by decide)) rfl dX0_undo_31 ?_
    refine r_aload_n dX0_undo_34 rfl ?_
    refine r_getIv fX0_117 (hlP.k) (v := nI (na - 1)) (e10P) rfl dX0_undo_35 ?_
    refine r_aaldv (t := 5) (hlP.were.1) (by decide) (hlP.were.2) (ix_n (by omega) (by decide)) (v := 135 + 3 * f (na - 1)) ((hf1 (na - 1) (by omega)).2) dX0_undo_38 ?_
    refine r_callVv lX0_261 (x0_turnAbout hmP (t := 135 + 3 * f (na - 1)) (by omega) (by omega) (hf3 (na - 1) (by omega)).1) (hlP.k) rfl rfl rfl rfl dX0_undo_39 (Nat.le_refl _) (Nat.le_refl _) (fun hQ q9 => ?_)
    obtain ⟨gQ, hTQ, hUQ⟩ := q9
    have kQ : Fw (SC K) [10, 11] hP hQ := gQ.fw (fun a ha => tu_mem (by omega) (by omega) ha)
    have n64 : 64 ∉ [77, 78, 79, 135 + 3 * f (na - 1), 135 + 3 * f (na - 1) + 1, 135 + 3 * f (na - 1) + 2, 74, 75, 76] := by simp; omega
    refine r_iconst (v := nI 1) dX0_undo_42 (by decide) ?_
    exact r_reti dX0_undo_43 rfl rfl (Nat.le_refl _) (Nat.le_refl _) (⟨if_p (by simp [n0]) rfl, kP.tr kQ, XM.pos (by simp [n0]) (hmP.fw kQ (fun _ z => z) hTQ (hf3 (na - 1) (by omega)).2), XH.pos (by simp [n0]) (XH.swap hw hw9 (n := na - 1) (m := na - 1 + (nu + 1)) (by omega) hleP hf1 hf2 hf3 gQ hUQ ((gQ.2.2.2.2.2 64 10 n64 (fun _ => by simp)).trans e10P) ((gQ.2.2.2.2.2 64 11 n64 (fun _ => by simp)).trans e11P) rfl)⟩)
  · --
    have n0 : na = 0 := nI_z (by omega) c1
    refine r_iconst (v := nI 0) dX0_undo_7 (by decide) ?_
    exact r_reti dX0_undo_8 rfl rfl (Nat.le_refl _) (Nat.le_refl _) (⟨if_n (by rw [n0]; rfl) rfl, Fw.rf, XM.neg (by rw [n0]; rfl) hm, XH.neg (by rw [n0]; rfl) hH0⟩)

theorem x0_redo {G : ev_G} {b : Bk} {K : XK} {T : Nat → Int32} {h : ev_H} (hm : XM b K T h) {W : Nat → Int32} {na nu : Nat} (hH : XH b W na nu h) : Called G mX0_redo 3 0 0 [vR 64] h (pI (fun y h1 => y = (if (!decide (nu = 0)) then 1 else 0) ∧ Fw (SC K) [10, 11] h h1 ∧ XM b K (if (!decide (nu = 0)) then undT W na else T) h1 ∧ XH b (if (!decide (nu = 0)) then puW W na T else W) (if (!decide (nu = 0)) then na + 1 else na) (if (!decide (nu = 0)) then nu - 1 else nu) h1)) := by
  have hb := hm.xb
  have hT := hm.xt
  have hl := hm.lay
  have hw := hm.bw
  have hb1 := hw.p6
  have hb2 := hw.s5
  have hb3 := hw.t10
  have hw9 := hm.tw
  have hH0 := hH
  obtain ⟨e10, e11, hle, f, hf1, hf2, hf3⟩ := hH
  refine called_of rfl [some (vR 64)] rfl (Nat.le_of_ble_eq_true rfl) ?_
  refine r_aload_n dX0_redo_0 rfl ?_
  refine r_getIv fX0_120 (hl.k) (v := nI nu) (e11) rfl dX0_redo_1 ?_
  refine r_if_ne (tgt := 9) dX0_redo_4 rfl (fun c1 => ?_) (fun c1 => ?_)
  · --
    have n0 : nu ≠ 0 := fun e => c1 (by rw [e]; rfl)
    have hfb := (hf1 na (by omega)).1
    refine r_aload_n dX0_redo_9 rfl ?_
    refine r_aload_n dX0_redo_10 rfl ?_
    refine r_getRv fX0_63 (hl.k) (v := 83) (hl.r 9 (by decide) (by decide)) rfl dX0_redo_11 ?_
    refine r_aload_n dX0_redo_14 rfl ?_
    refine r_getIv fX0_117 (hl.k) (v := nI na) (e10) rfl dX0_redo_15 ?_
    refine r_aaldv (t := 5) (hl.were.1) (by decide) (hl.were.2) (ix_n (by omega) (by decide)) (v := 135 + 3 * f na) ((hf1 na (by omega)).2) dX0_redo_18 ?_
    refine r_callVv lX0_261 (x0_turnAbout hm (t := 135 + 3 * f na) (by omega) (by omega) (hf3 na (by omega)).1) (hl.k) rfl rfl rfl rfl dX0_redo_19 (Nat.le_refl _) (Nat.le_refl _) (fun hQ q9 => ?_)
    obtain ⟨gQ, hTQ, hUQ⟩ := q9
    have kQ : Fw (SC K) [10, 11] h hQ := gQ.fw (fun a ha => tu_mem (by omega) (by omega) ha)
    have n64 : 64 ∉ [77, 78, 79, 135 + 3 * f na, 135 + 3 * f na + 1, 135 + 3 * f na + 2, 74, 75, 76] := by simp; omega
    have e10Q := (gQ.2.2.2.2.2 64 10 n64 (fun _ => by simp)).trans e10
    have e11Q := (gQ.2.2.2.2.2 64 11 n64 (fun _ => by simp)).trans e11
    have hmQ := hm.fw kQ (fun _ z => z) hTQ (hf3 na (by omega)).2
    have hHQ := XH.swap hw hw9 (n := na) (m := na + nu) (by omega) hle hf1 hf2 hf3 gQ hUQ e10Q e11Q rfl
    have hbQ := hmQ.xb
    have hTQ := hmQ.xt
    have hlQ := hmQ.lay
    refine r_aload_n dX0_redo_22 rfl ?_
    refine r_dup dX0_redo_23 rfl ?_
    refine r_getIv fX0_117 (hlQ.k) (v := nI na) (e10Q) rfl dX0_redo_24 ?_
    refine r_iconst (v := nI 1) dX0_redo_27 (by decide) ?_
    refine r_iadd dX0_redo_28 ?_
    refine r_top (nI (na + 1)) (nI_add _ _) ?_
    refine r_putN fX0_117 (hlQ.k) (by decide) dX0_redo_29 ?_
    refine r_aload_n dX0_redo_32 rfl ?_
    refine r_dup dX0_redo_33 rfl ?_
    refine r_getIv fX0_120 (hlQ.k) (v := nI nu) (e11Q) rfl dX0_redo_34 ?_
    refine r_iconst (v := nI 1) dX0_redo_37 (by decide) ?_
    refine r_isub dX0_redo_38 ?_
    refine r_top (nI (nu - 1)) (pk_sub (by omega)) ?_
    refine r_putN fX0_120 (hlQ.k) (by decide) dX0_redo_39 ?_
    refine r_iconst (v := nI 1) dX0_redo_42 (by decide) ?_
    have kR : Fw (SC K) [10, 11] hQ (sI (sI hQ 64 10 (nI (na + 1))) 64 11 (nI (nu - 1))) := (Fw.sf 10 _ (by simp)).tr (Fw.sf 11 _ (by simp))
    have gR : Fr [64] [] hQ (sI (sI hQ 64 10 (nI (na + 1))) 64 11 (nI (nu - 1))) := (Fr.rf.sa 64 10 _ (by simp)).sa 64 11 _ (by simp)
    exact r_reti dX0_redo_43 rfl rfl (Nat.le_refl _) (Nat.le_refl _) (⟨if_p (by simp [n0]) rfl, kQ.tr kR, XM.pos (by simp [n0]) (hmQ.fw kR (fun _ z => z) (hTQ.fr gR (by simp) (by simp) (by simp)) hmQ.tw), XH.pos (by simp [n0]) (hHQ.nums gR rfl rfl (by omega))⟩)
  · --
    have n0 : nu = 0 := nI_z (by omega) c1
    refine r_iconst (v := nI 0) dX0_redo_7 (by decide) ?_
    exact r_reti dX0_redo_8 rfl rfl (Nat.le_refl _) (Nat.le_refl _) (⟨if_n (by rw [n0]; rfl) rfl, Fw.rf, XM.neg (by rw [n0]; rfl) hm, XH.neg (by rw [n0]; rfl) hH0⟩)

theorem x0_grind {G : ev_G} {b : Bk} {K : XK} {T : Nat → Int32} {h : ev_H} (hm : XM b K T h) {W : Nat → Int32} {na nu : Nat} (hH : XH b W na nu h) (p : Int32) : Called G mX0_grind 313 0 0 [vR 64, vI p] h (pI (fun y h1 => y = (if sakV b p then outV b T p.toNatClampNeg else (-1)) ∧ Fw (SC K) [10, 11] h h1 ∧ XM b K (if sakV b p then grT b T p.toNatClampNeg else T) h1 ∧ XH b (if sakV b p then kaW W na T else W) (if sakV b p then kaN na else na) (if sakV b p then 0 else nu) h1)) := by
  have hb := hm.xb
  have hT := hm.xt
  have hl := hm.lay
  have hw := hm.bw
  have hb1 := hw.p6
  have hb2 := hw.s5
  have hb3 := hw.t10
  have hw9 := hm.tw
  have hH0 := hH
  refine called_of rfl [some (vR 64), some (vI p)] rfl (Nat.le_of_ble_eq_true rfl) ?_
  refine r_aload_n dX0_grind_0 rfl ?_
  refine r_iload_n dX0_grind_1 rfl ?_
  refine r_callVx lX0_212 (x0_isSack hm _) (hl.k) rfl rfl rfl rfl dX0_grind_2 (Nat.le_refl _) (Nat.le_refl _) ?_
  refine r_ifB_ne (tgt := 10) dX0_grind_5 rfl (fun c1 => ?_) (fun c1 => ?_)
  · --
    obtain ⟨j, hj, rfl⟩ := sakV_ok hw c1
    refine r_aload_n dX0_grind_10 rfl ?_
    refine r_callVv lX0_234 (x0_act hm hH0) (hl.k) rfl rfl rfl rfl dX0_grind_11 (Nat.le_refl _) (Nat.le_refl _) (fun hP q9 => ?_)
    obtain ⟨kP, hHP⟩ := q9
    have hmP : XM b K T hP := hm.fw kP (fun a z => Or.inr (Or.inr z)) (hT.fw kP hl.k hl.were.1 (by unfold SW; omega) (by unfold SW; omega) (by unfold SW; omega)) hw9
    have hbP := hmP.xb
    have hTP := hmP.xt
    have hlP := hmP.lay
    have kP2 : Fw (SC K) [10, 11] h hP := kP.wk (fun a z => Or.inr (Or.inr z)) (fun _ z => z)
    refine r_aload_n dX0_grind_14 rfl ?_
    refine r_getRv fX0_53 (hlP.k) (v := 74) (hlP.r 5 (by decide) (by decide)) rfl dX0_grind_15 ?_
    refine r_aload_n dX0_grind_18 rfl ?_
    refine r_getRv fX0_42 (hlP.k) (v := kB K) (hmP.bk) rfl dX0_grind_19 ?_
    refine r_iload_n dX0_grind_22 rfl ?_
    refine r_callVi lX0_247 (x3_grind hbP hTP hw9 (s := j) hj) (hTP.k) rfl rfl rfl rfl dX0_grind_23 (Nat.le_refl _) (Nat.le_refl _) (fun y9 hQ q9 => ?_)
    obtain ⟨rfl, gQ, hTQ⟩ := q9
    have kQ : Fw (SC K) [10, 11] hP hQ := gQ.fw (fun a ha => gr_mem ha)
    exact r_reti dX0_grind_26 rfl rfl (Nat.le_refl _) (Nat.le_refl _) (⟨if_p c1 (by rw [nI_clamp (by omega)]), kP2.tr kQ, XM.pos c1 (by rw [nI_clamp (by omega)]; exact hmP.fw kQ (fun _ z => z) hTQ (hw9.gr hw hj)), XH.pos c1 (hHP.fr gQ (fun a ha => hmP.gr_no ha))⟩)
  · --
    refine r_iconst (v := (-1)) dX0_grind_8 (by decide) ?_
    exact r_reti dX0_grind_9 rfl rfl (Nat.le_refl _) (Nat.le_refl _) (⟨if_n c1 rfl, Fw.rf, XM.neg c1 hm, XH.neg c1 hH0⟩)
