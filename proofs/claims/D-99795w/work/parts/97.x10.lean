/-! ===== THE SYSTEM: acts (walks by program) ===== -/
set_option maxRecDepth 100000

theorem cpR_fw {h : ev_H} {a0 sp dp n : Nat} : Fw (fun _ => False) [] h (cpR h a0 sp 83 dp n) := ⟨rfl, rfl, rfl, fun a ha => (show u1 (hR h) 83 (va_cpy (hR h a0) (hR h 83) sp dp n) a = hR h a from if_neg ha), rfl, fun _ _ _ _ => rfl⟩
theorem sR_fw {h : ev_H} {k v : Nat} : Fw (fun _ => False) [] h (sR h 83 k v) := ⟨rfl, rfl, rfl, fun a ha => funext (fun j => u2_ne (fun z => ha z.1)), rfl, fun _ _ _ _ => rfl⟩
theorem rotA {h : ev_H} : ∀ j, j < 40 → hR (cpR h 83 1 83 0 39) 83 j = if j = 39 then hR h 83 39 else hR h 83 (j + 1) := fun j hj => by
  rw [cpR_at]
  by_cases e : j = 39
  · rw [pk_cpy_out (by omega), if_pos e, e]
  · rw [pk_cpy_in (by omega) (by omega), if_neg e, show 1 + (j - 0) = j + 1 by omega]
theorem rotB {h hA : ev_H} {v : Nat} (eA : ∀ j, j < 40 → hR hA 83 j = if j = 39 then hR h 83 39 else hR h 83 (j + 1)) (ev : hR h 83 0 = v) : ∀ j, j < 40 → hR (sR hA 83 39 v) 83 j = if j = 39 then hR h 83 0 else hR h 83 (j + 1) := fun j hj => by
  by_cases e : j = 39
  · subst e; rw [if_pos rfl, ev]; exact (show u2 (hR hA) 83 39 v 83 39 = v from u2_self)
  · rw [if_neg e]
    have h7 := eA j hj
    rw [if_neg e] at h7
    exact (u2_ne (fun z => e z.2)).trans h7
theorem sw_mem {f a : Nat} (hf : f < 40) (ha : a ∈ [135 + 3 * f, 135 + 3 * f + 1, 135 + 3 * f + 2]) : SW a := by
  have h7 : a = 135 + 3 * f ∨ a = 135 + 3 * f + 1 ∨ a = 135 + 3 * f + 2 := by simpa using ha
  unfold SW
  omega

theorem x0_act {G : ev_G} {b : Bk} {K : XK} {T : Nat → Int32} {h : ev_H} (hm : XM b K T h) {W : Nat → Int32} {na nu : Nat} (hH : XH b W na nu h) : Called G mX0_act 2 0 0 [vR 64] h (p0 (fun h1 => Fw SW [10, 11] h h1 ∧ XH b (kaW W na T) (kaN na) 0 h1)) := by
  have hb := hm.xb
  have hT := hm.xt
  have hl := hm.lay
  have hw := hm.bw
  have hb1 := hw.p6
  have hb2 := hw.s5
  have hb3 := hw.t10
  have hw9 := hm.tw
  have hH0 := hH
  obtain ⟨e10, e11, hle, f, hf1, hf2, hf3⟩ := hH
  refine called_of rfl [some (vR 64), none] rfl (Nat.le_of_ble_eq_true rfl) ?_
  refine r_aload_n dX0_act_0 rfl ?_
  refine r_getIv fX0_117 (hl.k) (v := nI na) (e10) rfl dX0_act_1 ?_
  refine r_bipush (v := nI 40) dX0_act_4 (by decide) ?_
  refine r_icmpN_ne (tgt := 49) dX0_act_6 rfl (by omega) (by omega) (fun c1 => ?_) (fun c1 => ?_)
  · --
    refine r_aload_n dX0_act_49 rfl ?_
    refine r_getRv fX0_63 (hl.k) (v := 83) (hl.r 9 (by decide) (by decide)) rfl dX0_act_50 ?_
    refine r_aload_n dX0_act_53 rfl ?_
    refine r_getIv fX0_117 (hl.k) (v := nI na) (e10) rfl dX0_act_54 ?_
    refine r_aaldv (t := 5) (hl.were.1) (by decide) (hl.were.2) (ix_n (by omega) (by decide)) (v := 135 + 3 * f na) ((hf1 na (by omega)).2) dX0_act_57 ?_
    refine r_aload_n dX0_act_58 rfl ?_
    refine r_getRv fX0_53 (hl.k) (v := 74) (hl.r 5 (by decide) (by decide)) rfl dX0_act_59 ?_
    refine r_callVr lX0_230 (x3_copy (hl.sw (hf1 na (by omega)).1).xt hT (by omega)) ((hl.sw (hf1 _ (by omega)).1).2.1) rfl rfl rfl rfl dX0_act_62 (Nat.le_refl _) (Nat.le_refl _) (fun y9 hY q9 => ?_)
    obtain ⟨rfl, gY, hqY⟩ := q9
    have hlY := hl.fr gY
    refine r_pop dX0_act_65 rfl ?_
    refine r_aload_n dX0_act_66 rfl ?_
    refine r_dup dX0_act_67 rfl ?_
    refine r_getIv fX0_117 (hlY.k) (v := nI na) ((gY.2.2.2.2.2 64 10 (by simp; omega) (fun _ => by simp)).trans e10) rfl dX0_act_68 ?_
    refine r_iconst (v := nI 1) dX0_act_71 (by decide) ?_
    refine r_iadd dX0_act_72 ?_
    refine r_top (nI (na + 1)) (nI_add _ _) ?_
    refine r_putN fX0_117 (hlY.k) (by decide) dX0_act_73 ?_
    refine r_aload_n dX0_act_76 rfl ?_
    refine r_iconst (v := nI 0) dX0_act_77 (by decide) ?_
    refine r_putN fX0_120 (hlY.k) (by decide) dX0_act_78 ?_
    refine r_retv dX0_act_81 rfl (Nat.le_refl _) (Nat.le_refl _) ⟨(Fw.rf : Fw SW [10, 11] h h).tr (((gY.fw (fun a ha => sw_mem (hf1 na (by omega)).1 ha)).tr (Fw.sf 10 _ (by simp))).tr (Fw.sf 11 _ (by simp))), ?_⟩
    rw [(ka_n (W := W) (T := T) c1).1, (ka_n (W := W) (T := T) c1).2]
    exact XH.add hw hw9 (by omega) hf1 hf2 (fun j hj => hf3 j (by omega)) gY hqY
  · --
    have na40 : na = 40 := c1
    refine r_aload_n dX0_act_9 rfl ?_
    refine r_getRv fX0_63 (hl.k) (v := 83) (hl.r 9 (by decide) (by decide)) rfl dX0_act_10 ?_
    refine r_iconst (v := nI 0) dX0_act_13 (by decide) ?_
    refine r_aaldv (t := 5) (hl.were.1) (by decide) (hl.were.2) (ix_n (by omega) (by decide)) (v := 135 + 3 * f 0) ((hf1 0 (by omega)).2) dX0_act_14 ?_
    refine r_astore_n dX0_act_15 (by decide) rfl ?_
    refine r_aload_n dX0_act_16 rfl ?_
    refine r_getRv fX0_63 (hl.k) (v := 83) (hl.r 9 (by decide) (by decide)) rfl dX0_act_17 ?_
    refine r_iconst (v := nI 1) dX0_act_20 (by decide) ?_
    refine r_aload_n dX0_act_21 rfl ?_
    refine r_getRv fX0_63 (hl.k) (v := 83) (hl.r 9 (by decide) (by decide)) rfl dX0_act_22 ?_
    refine r_iconst (v := nI 0) dX0_act_25 (by decide) ?_
    refine r_bipush (v := nI 39) dX0_act_26 (by decide) ?_
    refine r_copyR (t := 5) (E := "PepperTables$Table") q1295 (Or.inr ⟨rfl, rfl⟩) hl.were.1 hl.were.1 (by decide) (by decide) hl.were.2 hl.were.2 (by decide) (by decide) (by decide) (by decide) (fun i hi => Or.inr (elm_t (by rw [(hf1 _ (by omega)).2]; exact (hl.sw (hf1 _ (by omega)).1).2.1))) (by decide) (by decide) rfl dX0_act_28 ?_
    have kA : Fw (fun _ => False) [] h (cpR h 83 1 83 0 39) := cpR_fw
    have eA := rotA (h := h)
    have hlA := hl.fw kA
    generalize cpR h 83 1 83 0 39 = hA at kA eA hlA ⊢
    refine r_aload_n dX0_act_31 rfl ?_
    refine r_getRv fX0_63 (hlA.k) (v := 83) (hlA.r 9 (by decide) (by decide)) rfl dX0_act_32 ?_
    refine r_bipush (v := nI 39) dX0_act_35 (by decide) ?_
    refine r_aload_n dX0_act_37 rfl ?_
    refine r_aast (t := 5) (n := 39) (E := "PepperTables$Table") (Or.inr ⟨rfl, rfl⟩) hlA.were.1 (by decide) hlA.were.2 (ix_n (by omega) (by decide)) (Or.inr (elm_t (hlA.sw (hf1 0 (by omega)).1).2.1)) dX0_act_38 ?_
    have kB : Fw (fun _ => False) [] h (sR hA 83 39 (135 + 3 * f 0)) := kA.tr sR_fw
    have eB := rotB eA (hf1 0 (by omega)).2
    have hlB := hl.fw kB
    generalize sR hA 83 39 (135 + 3 * f 0) = hB at kB eB hlB ⊢
    refine r_aload_n dX0_act_39 rfl ?_
    refine r_dup dX0_act_40 rfl ?_
    refine r_getIv fX0_117 (hlB.k) (v := nI na) ((kB.fld 10 (fun z => z) (by decide)).trans e10) rfl dX0_act_41 ?_
    refine r_iconst (v := nI 1) dX0_act_44 (by decide) ?_
    refine r_isub dX0_act_45 ?_
    refine r_top (nI (na - 1)) (pk_sub (by omega)) ?_
    refine r_putN fX0_117 (hlB.k) (by decide) dX0_act_46 ?_
    have kC0 : Fw (fun _ => False) [10] h (sI hB 64 10 (nI (na - 1))) := (kB.wk (fun _ z => z) (by simp)).tr (Fw.sf 10 _ (by simp))
    have hHC : XH b (shW W) 39 0 (sI hB 64 10 (nI (na - 1))) := XH.rot hw (na40 ▸ hH0) kC0 (congrArg nI (by omega)) eB hl.k hl.were.1
    have kC : Fw SW [10, 11] h (sI hB 64 10 (nI (na - 1))) := kC0.wk (fun _ z => z.elim) (by simp)
    have hmC : XM b K T (sI hB 64 10 (nI (na - 1))) := hm.fw kC (fun a z => Or.inr (Or.inr z)) (hT.fw kC hl.k hl.were.1 (by unfold SW; omega) (by unfold SW; omega) (by unfold SW; omega)) hw9
    generalize sI hB 64 10 (nI (na - 1)) = hC at kC hHC hmC ⊢
    have hbC := hmC.xb
    have hTC := hmC.xt
    have hlC := hmC.lay
    obtain ⟨e10C, e11C, hleC, fC, hfC1, hfC2, hfC3⟩ := hHC
    refine r_aload_n dX0_act_49 rfl ?_
    refine r_getRv fX0_63 (hlC.k) (v := 83) (hlC.r 9 (by decide) (by decide)) rfl dX0_act_50 ?_
    refine r_aload_n dX0_act_53 rfl ?_
    refine r_getIv fX0_117 (hlC.k) (v := nI 39) (e10C) rfl dX0_act_54 ?_
    refine r_aaldv (t := 5) (hlC.were.1) (by decide) (hlC.were.2) (ix_n (by omega) (by decide)) (v := 135 + 3 * fC 39) ((hfC1 39 (by omega)).2) dX0_act_57 ?_
    refine r_aload_n dX0_act_58 rfl ?_
    refine r_getRv fX0_53 (hlC.k) (v := 74) (hlC.r 5 (by decide) (by decide)) rfl dX0_act_59 ?_
    refine r_callVr lX0_230 (x3_copy (hlC.sw (hfC1 39 (by omega)).1).xt hTC (by omega)) ((hlC.sw (hfC1 _ (by omega)).1).2.1) rfl rfl rfl rfl dX0_act_62 (Nat.le_refl _) (Nat.le_refl _) (fun y9 hYC q9 => ?_)
    obtain ⟨rfl, gYC, hqY⟩ := q9
    have hlYC := hlC.fr gYC
    refine r_pop dX0_act_65 rfl ?_
    refine r_aload_n dX0_act_66 rfl ?_
    refine r_dup dX0_act_67 rfl ?_
    refine r_getIv fX0_117 (hlYC.k) (v := nI 39) ((gYC.2.2.2.2.2 64 10 (by simp; omega) (fun _ => by simp)).trans e10C) rfl dX0_act_68 ?_
    refine r_iconst (v := nI 1) dX0_act_71 (by decide) ?_
    refine r_iadd dX0_act_72 ?_
    refine r_top (nI 40) (nI_add _ _) ?_
    refine r_putN fX0_117 (hlYC.k) (by decide) dX0_act_73 ?_
    refine r_aload_n dX0_act_76 rfl ?_
    refine r_iconst (v := nI 0) dX0_act_77 (by decide) ?_
    refine r_putN fX0_120 (hlYC.k) (by decide) dX0_act_78 ?_
    refine r_retv dX0_act_81 rfl (Nat.le_refl _) (Nat.le_refl _) ⟨kC.tr (((gYC.fw (fun a ha => sw_mem (hfC1 39 (by omega)).1 ha)).tr (Fw.sf 10 _ (by simp))).tr (Fw.sf 11 _ (by simp))), ?_⟩
    rw [(ka_40 (W := W) (T := T) na40).1, (ka_40 (W := W) (T := T) na40).2]
    exact XH.add hw hw9 (by omega) hfC1 hfC2 (fun j hj => hfC3 j (by omega)) gYC hqY
