/-! ===== THE READER: names (walks by program) ===== -/
set_option maxRecDepth 100000

def hsL : Nat → Int32 := fun i => match i with
  | 1 => -991716523
  | 2 => 113860
  | 3 => 3522358
  | 4 => 110331118
  | 5 => 3159
  | 6 => 3707
  | 7 => 103501
  | 8 => 3365
  | 9 => 3522537
  | 10 => -897917786
  | 11 => 3091780
  | 12 => -1234989669
  | 13 => -1237460601
  | 14 => 3198448
  | 15 => -1354571749
  | 16 => 96727
  | 17 => 3555
  | 18 => 109267
  | _ => 0
theorem hs_c : ∀ i : Fin 19, 1 ≤ i.val → hsF (cF i.val) (cW i.val).length = hsL i.val := by decide +kernel
theorem hsL_inj : ∀ i j : Fin 19, 1 ≤ i.val → 1 ≤ j.val → hsL i.val = hsL j.val → i = j := by decide +kernel
section NMS
variable {tx f : Nat → Int32} {n q m i r w : Nat} {h h1 hb : ev_H}
theorem nm_none (e : ∀ j, 1 ≤ j ∧ j < 19 → ¬ hsF f m = hsL j) : ∀ j, 1 ≤ j ∧ j < 19 → seqV f m (cF j) (cW j).length = false := fun j hj => by
  cases s : seqV f m (cF j) (cW j).length with
  | false => rfl
  | true => exact absurd ((sq_hs s).trans (hs_c ⟨j, hj.2⟩ hj.1)) (e j hj)
theorem nm_one (hi : 1 ≤ i ∧ i < 19) (e : hsF f m = hsL i) (s : seqV f m (cF i) (cW i).length = false) : ∀ j, 1 ≤ j ∧ j < 19 → seqV f m (cF j) (cW j).length = false := fun j hj => by
  cases s2 : seqV f m (cF j) (cW j).length with
  | false => rfl
  | true =>
    have q := (sq_hs s2).trans (hs_c ⟨j, hj.2⟩ hj.1)
    have z := hsL_inj ⟨i, hi.2⟩ ⟨j, hj.2⟩ hi.1 hj.1 (e.symm.trans q)
    have z : i = j := congrArg Fin.val z
    subst z
    rw [s] at s2
    cases s2
theorem nm_all (j : Nat) (hj : 1 ≤ j ∧ j < 19) (a : ¬ hsF f m = hsL 1 ∧ ¬ hsF f m = hsL 2 ∧ ¬ hsF f m = hsL 3 ∧ ¬ hsF f m = hsL 4 ∧ ¬ hsF f m = hsL 5 ∧ ¬ hsF f m = hsL 6 ∧ ¬ hsF f m = hsL 7 ∧ ¬ hsF f m = hsL 8 ∧ ¬ hsF f m = hsL 9 ∧ ¬ hsF f m = hsL 10 ∧ ¬ hsF f m = hsL 11 ∧ ¬ hsF f m = hsL 12 ∧ ¬ hsF f m = hsL 13 ∧ ¬ hsF f m = hsL 14 ∧ ¬ hsF f m = hsL 15 ∧ ¬ hsF f m = hsL 16 ∧ ¬ hsF f m = hsL 17 ∧ ¬ hsF f m = hsL 18) : ¬ hsF f m = hsL j := by
  obtain ⟨a1, a2, a3, a4, a5, a6, a7, a8, a9, a10, a11, a12, a13, a14, a15, a16, a17, a18⟩ := a
  rcases (show j = 1 ∨ j = 2 ∨ j = 3 ∨ j = 4 ∨ j = 5 ∨ j = 6 ∨ j = 7 ∨ j = 8 ∨ j = 9 ∨ j = 10 ∨ j = 11 ∨ j = 12 ∨ j = 13 ∨ j = 14 ∨ j = 15 ∨ j = 16 ∨ j = 17 ∨ j = 18 by omega) with z | z | z | z | z | z | z | z | z | z | z | z | z | z | z | z | z | z <;> subst z <;> assumption
theorem nm_ne (h23 : tkT tx n q = 2 ∨ tkT tx n q = 3) (hm : 1 ≤ m ∧ m ≤ 8) (hf : ∀ i, i < m → isLetV (f i) = true) (hv : pkF f m = tnT tx n q) (hi : 1 ≤ i ∧ i < 19) (s : seqV f m (cF i) (cW i).length = false) : tnT tx n q ≠ pkL i := fun z => by
  obtain ⟨c1, c2, c3, c4⟩ := cW_ok ⟨i, hi.2⟩ hi.1
  rw [sq_pk hm c1 hf (fun k hk => c2 ⟨k, by have := c1.2; omega⟩ hk), hv, c3, decide_eq_true z] at s
  cases s
theorem nm_no (hi : 1 ≤ i ∧ i < 19) (h23 : tkT tx n q = 2 ∨ tkT tx n q = 3) (hm : 1 ≤ m ∧ m ≤ 8) (hf : ∀ i, i < m → isLetV (f i) = true) (hv : pkF f m = tnT tx n q) (s : seqV f m (cF i) (cW i).length = true) : decide (tkT tx n q = 2) = false := by
  have := is_v (tx := tx) (n := n) (q := q) hi h23 hm hf hv s
  exact decide_eq_false (fun z => by have := wo_3 this; omega)
theorem nm_yes (h23 : tkT tx n q = 2 ∨ tkT tx n q = 3) (hm : 1 ≤ m ∧ m ≤ 8) (hf : ∀ i, i < m → isLetV (f i) = true) (hv : pkF f m = tnT tx n q) (a : ∀ j, 1 ≤ j ∧ j < 19 → seqV f m (cF j) (cW j).length = false) : decide (tkT tx n q = 2) = true := by
  have ne : ∀ j, 1 ≤ j ∧ j < 19 → ¬ lg_cmp (tnT tx n q) (pkL j) = 0 := fun j hj z => nm_ne h23 hm hf hv hj (a j hj) (cmp_0.mp z)
  have k : kepW (tnT tx n q) = false := by
    unfold kepW
    rw [decide_eq_false (show ¬ lg_cmp (tnT tx n q) 123581014175598 = 0 from ne 1 (by decide)), decide_eq_false (show ¬ lg_cmp (tnT tx n q) 7563385 = 0 from ne 2 (by decide)), decide_eq_false (show ¬ lg_cmp (tnT tx n q) 1935762283 = 0 from ne 3 (by decide)), decide_eq_false (show ¬ lg_cmp (tnT tx n q) 499967946343 = 0 from ne 4 (by decide)), decide_eq_false (show ¬ lg_cmp (tnT tx n q) 25209 = 0 from ne 5 (by decide)), decide_eq_false (show ¬ lg_cmp (tnT tx n q) 29807 = 0 from ne 6 (by decide)), decide_eq_false (show ¬ lg_cmp (tnT tx n q) 6844276 = 0 from ne 7 (by decide)), decide_eq_false (show ¬ lg_cmp (tnT tx n q) 26990 = 0 from ne 8 (by decide)), decide_eq_false (show ¬ lg_cmp (tnT tx n q) 1935763812 = 0 from ne 9 (by decide)), decide_eq_false (show ¬ lg_cmp (tnT tx n q) 126917984746085 = 0 from ne 10 (by decide)), decide_eq_false (show ¬ lg_cmp (tnT tx n q) 1685217655 = 0 from ne 11 (by decide)), decide_eq_false (show ¬ lg_cmp (tnT tx n q) 113753910899827 = 0 from ne 12 (by decide)), decide_eq_false (show ¬ lg_cmp (tnT tx n q) 113741193899620 = 0 from ne 13 (by decide)), decide_eq_false (show ¬ lg_cmp (tnT tx n q) 1751474548 = 0 from ne 14 (by decide)), decide_eq_false (show ¬ lg_cmp (tnT tx n q) 109330362954597 = 0 from ne 15 (by decide)), decide_eq_false (show ¬ lg_cmp (tnT tx n q) 28530 = 0 from ne 17 (by decide)), decide_eq_false (show ¬ lg_cmp (tnT tx n q) 6385252 = 0 from ne 16 (by decide)), decide_eq_false (show ¬ lg_cmp (tnT tx n q) 7237492 = 0 from ne 18 (by decide))]
    rfl
  have := tk_23 h23
  rw [k] at this
  exact decide_eq_true this
theorem gz_hash (g : Fr [w] [] h h1) (kw : hK h w = 23) (zw : hK hb w = 0) (iA : ∀ j, j < 2 → hI h1 w j = hI h w j) (hr : hK h r = 6) : GZ hb r h h1 := ⟨hr, by rw [g.1]; exact Nat.le_refl _, fun a ha => ⟨by rw [g.2.1], by rw [g.2.2.1], fun j _ => by rw [g.2.2.2.1], fun j _ z => by
  by_cases e : a = w
  · rw [e]; exact iA j (z (by rw [e]; exact ⟨zw, kw⟩))
  · exact g.2.2.2.2.2 a j (by simp; exact e) (fun _ => by simp), by rw [g.2.2.2.2.1]⟩⟩
theorem RS.hash (s : RS hb tx n r q h) (gz : GZ hb r h h1) (g : Fr [hR h r 8] [] h h1) (sw : SwAt (hR h r 8) f m h) (hm : 1 ≤ m ∧ m ≤ 8) (hf : ∀ i, i < m → isLetV (f i) = true) (hv : pkF f m = tnT tx n q) (st : StrAt (hR h r 8) f m h1) (hh : ∃ hv hz, StrH (hR h r 8) f m hv hz h1) (hr : hK h r = 6) (nr : hR h r 8 ≠ r) : RS hb tx n r q h1 := by
  have e : ∀ j, hI h1 r j = hI h r j := fun j => g.2.2.2.2.2 r j (by simp; exact fun z => nr z.symm) (fun _ => by simp)
  obtain ⟨t1, t2, t3, t4, t5⟩ := s.2.1
  refine s.gz gz ⟨(e 1).trans t1, (e 2).trans t2, fun z => (e 0).trans (t3 z), fun z => (e 3).trans (t4 z), fun z => ?_⟩ s.2.2.1
  rw [g.2.2.2.1]
  exact ⟨⟨f, m, ⟨st, sw.2.1, by rw [g.2.2.2.1]; exact sw.2.2.1, hh⟩, hm, hf, hv⟩, (t5 z).2⟩
end NMS

theorem x5_isName {G : ev_G} {h hb : ev_H} {r n q : Nat} {tx : Nat → Int32} (hs : RS hb tx n r q h) : Called G mX5_isName 4 0 0 [vR r] h (pI (fun y h1 => y = b2i (decide (tkT tx n q = 2)) ∧ RS hb tx n r q h1 ∧ GZ hb r h h1)) := by
  have hx := hs.1
  have ht := hs.2.1
  refine called_of rfl [some (vR r), none, none] rfl (Nat.le_of_ble_eq_true rfl) ?_
  refine r_aload_n dX5_isName_0 rfl ?_
  refine r_getIv fX5_46 (hx.1) (v := srT tx n q) (ht.1) rfl dX5_isName_1 ?_
  refine r_iconst (v := 1) dX5_isName_4 (by decide) ?_
  refine r_icmp_eq (tgt := 10) dX5_isName_5 rfl (fun c1 => ?_) (fun c1 => ?_)
  · --
    have h23 := (sr_1 hs.2.2.1).mp c1
    obtain ⟨⟨f, m, sw, hm, hf, hv9⟩, zw⟩ := ht.2.2.2.2 h23
    obtain ⟨hv8, hz8, hh9⟩ := sw.2.2.2
    have rw9 : hR h r 8 ≠ r := fun e => by have q9 := sw.1.1; rw [e, hx.1] at q9; cases q9
    refine r_aload_n dX5_isName_10 rfl ?_
    refine r_getRv fX5_17 (hx.1) (v := hR h r 8) (rfl) rfl dX5_isName_11 ?_
    refine r_astore_n dX5_isName_14 (by decide) rfl ?_
    refine r_iconst (v := (-1)) dX5_isName_15 (by decide) ?_
    refine r_istore_n dX5_isName_16 (by decide) rfl ?_
    refine r_aload_n dX5_isName_17 rfl ?_
    refine r_callVi lX5_107 (xJ7_hashCode sw.1 sw.2.1 sw.2.2.1 hh9) (sw.1.1) rfl rfl rfl rfl dX5_isName_18 (Nat.le_refl _) (Nat.le_refl _) (fun y9 hA q9 => ?_)
    obtain ⟨rfl, stA, gA, hhA, iA⟩ := q9
    have gZ : GZ hb r h hA := gz_hash gA sw.1.1 zw iA hx.1
    have sA : RS hb tx n r q hA := hs.hash gZ gA sw hm hf hv9 stA hhA hx.1 rw9
    by_cases e15 : hsF f m = (-1354571749)
    · refine r_lswC (tgt := 380) (off := 359) (-1354571749) dX5_isName_21 (by decide) e15 (by decide) rfl ?_
      refine r_aload_n dX5_isName_380 rfl ?_
      refine r_ldcS (i := 15) rfl rfl dX5_isName_381 ?_
      refine r_callVx lX5_80 (xJ7_equals stA (sA.2.2.2.1 15 (by decide)) sw.2.1) (stA.1) rfl rfl rfl rfl dX5_isName_383 (Nat.le_refl _) (Nat.le_refl _) ?_
      refine r_ifB_eq (tgt := 437) dX5_isName_386 rfl (fun c2 => ?_) (fun c2 => ?_)
      · --
        refine r_iload_n dX5_isName_437 rfl ?_
        refine r_tableOut (tgt := 526) dX5_isName_438 (Or.inl (by decide)) rfl ?_
        refine r_iconst (v := nI 1) dX5_isName_526 (by decide) ?_
        exact r_reti dX5_isName_527 rfl (b2i_n true) (Nat.le_refl _) (Nat.le_refl _) ⟨by rw [nm_yes h23 hm hf hv9 (nm_one (i := 15) (by decide) e15 c2)]; rfl, sA, gZ⟩
      · --
        refine r_bipush (v := nI 14) dX5_isName_389 (by decide) ?_
        refine r_istore_n dX5_isName_391 (by decide) rfl ?_
        refine r_goto (tgt := 437) dX5_isName_392 rfl ?_
        refine r_iload_n dX5_isName_437 rfl ?_
        refine r_tswC (tgt := 524) (off := 86) 14 dX5_isName_438 rfl (by decide) rfl ?_
        refine r_iconst (v := nI 0) dX5_isName_524 (by decide) ?_
        exact r_reti dX5_isName_525 rfl (b2i_n false) (Nat.le_refl _) (Nat.le_refl _) ⟨by rw [nm_no (i := 15) (by decide) h23 hm hf hv9 c2]; rfl, sA, gZ⟩
    by_cases e13 : hsF f m = (-1237460601)
    · refine r_lswC (tgt := 350) (off := 329) (-1237460601) dX5_isName_21 (by decide) e13 (by decide) rfl ?_
      refine r_aload_n dX5_isName_350 rfl ?_
      refine r_ldcS (i := 13) rfl rfl dX5_isName_351 ?_
      refine r_callVx lX5_80 (xJ7_equals stA (sA.2.2.2.1 13 (by decide)) sw.2.1) (stA.1) rfl rfl rfl rfl dX5_isName_353 (Nat.le_refl _) (Nat.le_refl _) ?_
      refine r_ifB_eq (tgt := 437) dX5_isName_356 rfl (fun c3 => ?_) (fun c3 => ?_)
      · --
        refine r_iload_n dX5_isName_437 rfl ?_
        refine r_tableOut (tgt := 526) dX5_isName_438 (Or.inl (by decide)) rfl ?_
        refine r_iconst (v := nI 1) dX5_isName_526 (by decide) ?_
        exact r_reti dX5_isName_527 rfl (b2i_n true) (Nat.le_refl _) (Nat.le_refl _) ⟨by rw [nm_yes h23 hm hf hv9 (nm_one (i := 13) (by decide) e13 c3)]; rfl, sA, gZ⟩
      · --
        refine r_bipush (v := nI 12) dX5_isName_359 (by decide) ?_
        refine r_istore_n dX5_isName_361 (by decide) rfl ?_
        refine r_goto (tgt := 437) dX5_isName_362 rfl ?_
        refine r_iload_n dX5_isName_437 rfl ?_
        refine r_tswC (tgt := 524) (off := 86) 12 dX5_isName_438 rfl (by decide) rfl ?_
        refine r_iconst (v := nI 0) dX5_isName_524 (by decide) ?_
        exact r_reti dX5_isName_525 rfl (b2i_n false) (Nat.le_refl _) (Nat.le_refl _) ⟨by rw [nm_no (i := 13) (by decide) h23 hm hf hv9 c3]; rfl, sA, gZ⟩
    by_cases e12 : hsF f m = (-1234989669)
    · refine r_lswC (tgt := 335) (off := 314) (-1234989669) dX5_isName_21 (by decide) e12 (by decide) rfl ?_
      refine r_aload_n dX5_isName_335 rfl ?_
      refine r_ldcS (i := 12) rfl rfl dX5_isName_336 ?_
      refine r_callVx lX5_80 (xJ7_equals stA (sA.2.2.2.1 12 (by decide)) sw.2.1) (stA.1) rfl rfl rfl rfl dX5_isName_338 (Nat.le_refl _) (Nat.le_refl _) ?_
      refine r_ifB_eq (tgt := 437) dX5_isName_341 rfl (fun c4 => ?_) (fun c4 => ?_)
      · --
        refine r_iload_n dX5_isName_437 rfl ?_
        refine r_tableOut (tgt := 526) dX5_isName_438 (Or.inl (by decide)) rfl ?_
        refine r_iconst (v := nI 1) dX5_isName_526 (by decide) ?_
        exact r_reti dX5_isName_527 rfl (b2i_n true) (Nat.le_refl _) (Nat.le_refl _) ⟨by rw [nm_yes h23 hm hf hv9 (nm_one (i := 12) (by decide) e12 c4)]; rfl, sA, gZ⟩
      · --
        refine r_bipush (v := nI 11) dX5_isName_344 (by decide) ?_
        refine r_istore_n dX5_isName_346 (by decide) rfl ?_
        refine r_goto (tgt := 437) dX5_isName_347 rfl ?_
        refine r_iload_n dX5_isName_437 rfl ?_
        refine r_tswC (tgt := 524) (off := 86) 11 dX5_isName_438 rfl (by decide) rfl ?_
        refine r_iconst (v := nI 0) dX5_isName_524 (by decide) ?_
        exact r_reti dX5_isName_525 rfl (b2i_n false) (Nat.le_refl _) (Nat.le_refl _) ⟨by rw [nm_no (i := 12) (by decide) h23 hm hf hv9 c4]; rfl, sA, gZ⟩
    by_cases e1 : hsF f m = (-991716523)
    · refine r_lswC (tgt := 176) (off := 155) (-991716523) dX5_isName_21 (by decide) e1 (by decide) rfl ?_
      refine r_aload_n dX5_isName_176 rfl ?_
      refine r_ldcS (i := 1) rfl rfl dX5_isName_177 ?_
      refine r_callVx lX5_80 (xJ7_equals stA (sA.2.2.2.1 1 (by decide)) sw.2.1) (stA.1) rfl rfl rfl rfl dX5_isName_179 (Nat.le_refl _) (Nat.le_refl _) ?_
      refine r_ifB_eq (tgt := 437) dX5_isName_182 rfl (fun c5 => ?_) (fun c5 => ?_)
      · --
        refine r_iload_n dX5_isName_437 rfl ?_
        refine r_tableOut (tgt := 526) dX5_isName_438 (Or.inl (by decide)) rfl ?_
        refine r_iconst (v := nI 1) dX5_isName_526 (by decide) ?_
        exact r_reti dX5_isName_527 rfl (b2i_n true) (Nat.le_refl _) (Nat.le_refl _) ⟨by rw [nm_yes h23 hm hf hv9 (nm_one (i := 1) (by decide) e1 c5)]; rfl, sA, gZ⟩
      · --
        refine r_iconst (v := nI 0) dX5_isName_185 (by decide) ?_
        refine r_istore_n dX5_isName_186 (by decide) rfl ?_
        refine r_goto (tgt := 437) dX5_isName_187 rfl ?_
        refine r_iload_n dX5_isName_437 rfl ?_
        refine r_tswC (tgt := 524) (off := 86) 0 dX5_isName_438 rfl (by decide) rfl ?_
        refine r_iconst (v := nI 0) dX5_isName_524 (by decide) ?_
        exact r_reti dX5_isName_525 rfl (b2i_n false) (Nat.le_refl _) (Nat.le_refl _) ⟨by rw [nm_no (i := 1) (by decide) h23 hm hf hv9 c5]; rfl, sA, gZ⟩
    by_cases e10 : hsF f m = (-897917786)
    · refine r_lswC (tgt := 305) (off := 284) (-897917786) dX5_isName_21 (by decide) e10 (by decide) rfl ?_
      refine r_aload_n dX5_isName_305 rfl ?_
      refine r_ldcS (i := 10) rfl rfl dX5_isName_306 ?_
      refine r_callVx lX5_80 (xJ7_equals stA (sA.2.2.2.1 10 (by decide)) sw.2.1) (stA.1) rfl rfl rfl rfl dX5_isName_308 (Nat.le_refl _) (Nat.le_refl _) ?_
      refine r_ifB_eq (tgt := 437) dX5_isName_311 rfl (fun c6 => ?_) (fun c6 => ?_)
      · --
        refine r_iload_n dX5_isName_437 rfl ?_
        refine r_tableOut (tgt := 526) dX5_isName_438 (Or.inl (by decide)) rfl ?_
        refine r_iconst (v := nI 1) dX5_isName_526 (by decide) ?_
        exact r_reti dX5_isName_527 rfl (b2i_n true) (Nat.le_refl _) (Nat.le_refl _) ⟨by rw [nm_yes h23 hm hf hv9 (nm_one (i := 10) (by decide) e10 c6)]; rfl, sA, gZ⟩
      · --
        refine r_bipush (v := nI 9) dX5_isName_314 (by decide) ?_
        refine r_istore_n dX5_isName_316 (by decide) rfl ?_
        refine r_goto (tgt := 437) dX5_isName_317 rfl ?_
        refine r_iload_n dX5_isName_437 rfl ?_
        refine r_tswC (tgt := 524) (off := 86) 9 dX5_isName_438 rfl (by decide) rfl ?_
        refine r_iconst (v := nI 0) dX5_isName_524 (by decide) ?_
        exact r_reti dX5_isName_525 rfl (b2i_n false) (Nat.le_refl _) (Nat.le_refl _) ⟨by rw [nm_no (i := 10) (by decide) h23 hm hf hv9 c6]; rfl, sA, gZ⟩
    by_cases e5 : hsF f m = 3159
    · refine r_lswC (tgt := 232) (off := 211) 3159 dX5_isName_21 (by decide) e5 (by decide) rfl ?_
      refine r_aload_n dX5_isName_232 rfl ?_
      refine r_ldcS (i := 5) rfl rfl dX5_isName_233 ?_
      refine r_callVx lX5_80 (xJ7_equals stA (sA.2.2.2.1 5 (by decide)) sw.2.1) (stA.1) rfl rfl rfl rfl dX5_isName_235 (Nat.le_refl _) (Nat.le_refl _) ?_
      refine r_ifB_eq (tgt := 437) dX5_isName_238 rfl (fun c7 => ?_) (fun c7 => ?_)
      · --
        refine r_iload_n dX5_isName_437 rfl ?_
        refine r_tableOut (tgt := 526) dX5_isName_438 (Or.inl (by decide)) rfl ?_
        refine r_iconst (v := nI 1) dX5_isName_526 (by decide) ?_
        exact r_reti dX5_isName_527 rfl (b2i_n true) (Nat.le_refl _) (Nat.le_refl _) ⟨by rw [nm_yes h23 hm hf hv9 (nm_one (i := 5) (by decide) e5 c7)]; rfl, sA, gZ⟩
      · --
        refine r_iconst (v := nI 4) dX5_isName_241 (by decide) ?_
        refine r_istore_n dX5_isName_242 (by decide) rfl ?_
        refine r_goto (tgt := 437) dX5_isName_243 rfl ?_
        refine r_iload_n dX5_isName_437 rfl ?_
        refine r_tswC (tgt := 524) (off := 86) 4 dX5_isName_438 rfl (by decide) rfl ?_
        refine r_iconst (v := nI 0) dX5_isName_524 (by decide) ?_
        exact r_reti dX5_isName_525 rfl (b2i_n false) (Nat.le_refl _) (Nat.le_refl _) ⟨by rw [nm_no (i := 5) (by decide) h23 hm hf hv9 c7]; rfl, sA, gZ⟩
    by_cases e8 : hsF f m = 3365
    · refine r_lswC (tgt := 275) (off := 254) 3365 dX5_isName_21 (by decide) e8 (by decide) rfl ?_
      refine r_aload_n dX5_isName_275 rfl ?_
      refine r_ldcS (i := 8) rfl rfl dX5_isName_276 ?_
      refine r_callVx lX5_80 (xJ7_equals stA (sA.2.2.2.1 8 (by decide)) sw.2.1) (stA.1) rfl rfl rfl rfl dX5_isName_278 (Nat.le_refl _) (Nat.le_refl _) ?_
      refine r_ifB_eq (tgt := 437) dX5_isName_281 rfl (fun c8 => ?_) (fun c8 => ?_)
      · --
        refine r_iload_n dX5_isName_437 rfl ?_
        refine r_tableOut (tgt := 526) dX5_isName_438 (Or.inl (by decide)) rfl ?_
        refine r_iconst (v := nI 1) dX5_isName_526 (by decide) ?_
        exact r_reti dX5_isName_527 rfl (b2i_n true) (Nat.le_refl _) (Nat.le_refl _) ⟨by rw [nm_yes h23 hm hf hv9 (nm_one (i := 8) (by decide) e8 c8)]; rfl, sA, gZ⟩
      · --
        refine r_bipush (v := nI 7) dX5_isName_284 (by decide) ?_
        refine r_istore_n dX5_isName_286 (by decide) rfl ?_
        refine r_goto (tgt := 437) dX5_isName_287 rfl ?_
        refine r_iload_n dX5_isName_437 rfl ?_
        refine r_tswC (tgt := 524) (off := 86) 7 dX5_isName_438 rfl (by decide) rfl ?_
        refine r_iconst (v := nI 0) dX5_isName_524 (by decide) ?_
        exact r_reti dX5_isName_525 rfl (b2i_n false) (Nat.le_refl _) (Nat.le_refl _) ⟨by rw [nm_no (i := 8) (by decide) h23 hm hf hv9 c8]; rfl, sA, gZ⟩
    by_cases e17 : hsF f m = 3555
    · refine r_lswC (tgt := 410) (off := 389) 3555 dX5_isName_21 (by decide) e17 (by decide) rfl ?_
      refine r_aload_n dX5_isName_410 rfl ?_
      refine r_ldcS (i := 17) rfl rfl dX5_isName_411 ?_
      refine r_callVx lX5_80 (xJ7_equals stA (sA.2.2.2.1 17 (by decide)) sw.2.1) (stA.1) rfl rfl rfl rfl dX5_isName_413 (Nat.le_refl _) (Nat.le_refl _) ?_
      refine r_ifB_eq (tgt := 437) dX5_isName_416 rfl (fun c9 => ?_) (fun c9 => ?_)
      · --
        refine r_iload_n dX5_isName_437 rfl ?_
        refine r_tableOut (tgt := 526) dX5_isName_438 (Or.inl (by decide)) rfl ?_
        refine r_iconst (v := nI 1) dX5_isName_526 (by decide) ?_
        exact r_reti dX5_isName_527 rfl (b2i_n true) (Nat.le_refl _) (Nat.le_refl _) ⟨by rw [nm_yes h23 hm hf hv9 (nm_one (i := 17) (by decide) e17 c9)]; rfl, sA, gZ⟩
      · --
        refine r_bipush (v := nI 16) dX5_isName_419 (by decide) ?_
        refine r_istore_n dX5_isName_421 (by decide) rfl ?_
        refine r_goto (tgt := 437) dX5_isName_422 rfl ?_
        refine r_iload_n dX5_isName_437 rfl ?_
        refine r_tswC (tgt := 524) (off := 86) 16 dX5_isName_438 rfl (by decide) rfl ?_
        refine r_iconst (v := nI 0) dX5_isName_524 (by decide) ?_
        exact r_reti dX5_isName_525 rfl (b2i_n false) (Nat.le_refl _) (Nat.le_refl _) ⟨by rw [nm_no (i := 17) (by decide) h23 hm hf hv9 c9]; rfl, sA, gZ⟩
    by_cases e6 : hsF f m = 3707
    · refine r_lswC (tgt := 246) (off := 225) 3707 dX5_isName_21 (by decide) e6 (by decide) rfl ?_
      refine r_aload_n dX5_isName_246 rfl ?_
      refine r_ldcS (i := 6) rfl rfl dX5_isName_247 ?_
      refine r_callVx lX5_80 (xJ7_equals stA (sA.2.2.2.1 6 (by decide)) sw.2.1) (stA.1) rfl rfl rfl rfl dX5_isName_249 (Nat.le_refl _) (Nat.le_refl _) ?_
      refine r_ifB_eq (tgt := 437) dX5_isName_252 rfl (fun c10 => ?_) (fun c10 => ?_)
      · --
        refine r_iload_n dX5_isName_437 rfl ?_
        refine r_tableOut (tgt := 526) dX5_isName_438 (Or.inl (by decide)) rfl ?_
        refine r_iconst (v := nI 1) dX5_isName_526 (by decide) ?_
        exact r_reti dX5_isName_527 rfl (b2i_n true) (Nat.le_refl _) (Nat.le_refl _) ⟨by rw [nm_yes h23 hm hf hv9 (nm_one (i := 6) (by decide) e6 c10)]; rfl, sA, gZ⟩
      · --
        refine r_iconst (v := nI 5) dX5_isName_255 (by decide) ?_
        refine r_istore_n dX5_isName_256 (by decide) rfl ?_
        refine r_goto (tgt := 437) dX5_isName_257 rfl ?_
        refine r_iload_n dX5_isName_437 rfl ?_
        refine r_tswC (tgt := 524) (off := 86) 5 dX5_isName_438 rfl (by decide) rfl ?_
        refine r_iconst (v := nI 0) dX5_isName_524 (by decide) ?_
        exact r_reti dX5_isName_525 rfl (b2i_n false) (Nat.le_refl _) (Nat.le_refl _) ⟨by rw [nm_no (i := 6) (by decide) h23 hm hf hv9 c10]; rfl, sA, gZ⟩
    by_cases e16 : hsF f m = 96727
    · refine r_lswC (tgt := 395) (off := 374) 96727 dX5_isName_21 (by decide) e16 (by decide) rfl ?_
      refine r_aload_n dX5_isName_395 rfl ?_
      refine r_ldcS (i := 16) rfl rfl dX5_isName_396 ?_
      refine r_callVx lX5_80 (xJ7_equals stA (sA.2.2.2.1 16 (by decide)) sw.2.1) (stA.1) rfl rfl rfl rfl dX5_isName_398 (Nat.le_refl _) (Nat.le_refl _) ?_
      refine r_ifB_eq (tgt := 437) dX5_isName_401 rfl (fun c11 => ?_) (fun c11 => ?_)
      · --
        refine r_iload_n dX5_isName_437 rfl ?_
        refine r_tableOut (tgt := 526) dX5_isName_438 (Or.inl (by decide)) rfl ?_
        refine r_iconst (v := nI 1) dX5_isName_526 (by decide) ?_
        exact r_reti dX5_isName_527 rfl (b2i_n true) (Nat.le_refl _) (Nat.le_refl _) ⟨by rw [nm_yes h23 hm hf hv9 (nm_one (i := 16) (by decide) e16 c11)]; rfl, sA, gZ⟩
      · --
        refine r_bipush (v := nI 15) dX5_isName_404 (by decide) ?_
        refine r_istore_n dX5_isName_406 (by decide) rfl ?_
        refine r_goto (tgt := 437) dX5_isName_407 rfl ?_
        refine r_iload_n dX5_isName_437 rfl ?_
        refine r_tswC (tgt := 524) (off := 86) 15 dX5_isName_438 rfl (by decide) rfl ?_
        refine r_iconst (v := nI 0) dX5_isName_524 (by decide) ?_
        exact r_reti dX5_isName_525 rfl (b2i_n false) (Nat.le_refl _) (Nat.le_refl _) ⟨by rw [nm_no (i := 16) (by decide) h23 hm hf hv9 c11]; rfl, sA, gZ⟩
    by_cases e7 : hsF f m = 103501
    · refine r_lswC (tgt := 260) (off := 239) 103501 dX5_isName_21 (by decide) e7 (by decide) rfl ?_
      refine r_aload_n dX5_isName_260 rfl ?_
      refine r_ldcS (i := 7) rfl rfl dX5_isName_261 ?_
      refine r_callVx lX5_80 (xJ7_equals stA (sA.2.2.2.1 7 (by decide)) sw.2.1) (stA.1) rfl rfl rfl rfl dX5_isName_263 (Nat.le_refl _) (Nat.le_refl _) ?_
      refine r_ifB_eq (tgt := 437) dX5_isName_266 rfl (fun c12 => ?_) (fun c12 => ?_)
      · --
        refine r_iload_n dX5_isName_437 rfl ?_
        refine r_tableOut (tgt := 526) dX5_isName_438 (Or.inl (by decide)) rfl ?_
        refine r_iconst (v := nI 1) dX5_isName_526 (by decide) ?_
        exact r_reti dX5_isName_527 rfl (b2i_n true) (Nat.le_refl _) (Nat.le_refl _) ⟨by rw [nm_yes h23 hm hf hv9 (nm_one (i := 7) (by decide) e7 c12)]; rfl, sA, gZ⟩
      · --
        refine r_bipush (v := nI 6) dX5_isName_269 (by decide) ?_
        refine r_istore_n dX5_isName_271 (by decide) rfl ?_
        refine r_goto (tgt := 437) dX5_isName_272 rfl ?_
        refine r_iload_n dX5_isName_437 rfl ?_
        refine r_tswC (tgt := 524) (off := 86) 6 dX5_isName_438 rfl (by decide) rfl ?_
        refine r_iconst (v := nI 0) dX5_isName_524 (by decide) ?_
        exact r_reti dX5_isName_525 rfl (b2i_n false) (Nat.le_refl _) (Nat.le_refl _) ⟨by rw [nm_no (i := 7) (by decide) h23 hm hf hv9 c12]; rfl, sA, gZ⟩
    by_cases e18 : hsF f m = 109267
    · refine r_lswC (tgt := 425) (off := 404) 109267 dX5_isName_21 (by decide) e18 (by decide) rfl ?_
      refine r_aload_n dX5_isName_425 rfl ?_
      refine r_ldcS (i := 18) rfl rfl dX5_isName_426 ?_
      refine r_callVx lX5_80 (xJ7_equals stA (sA.2.2.2.1 18 (by decide)) sw.2.1) (stA.1) rfl rfl rfl rfl dX5_isName_428 (Nat.le_refl _) (Nat.le_refl _) ?_
      refine r_ifB_eq (tgt := 437) dX5_isName_431 rfl (fun c13 => ?_) (fun c13 => ?_)
      · --
        refine r_iload_n dX5_isName_437 rfl ?_
        refine r_tableOut (tgt := 526) dX5_isName_438 (Or.inl (by decide)) rfl ?_
        refine r_iconst (v := nI 1) dX5_isName_526 (by decide) ?_
        exact r_reti dX5_isName_527 rfl (b2i_n true) (Nat.le_refl _) (Nat.le_refl _) ⟨by rw [nm_yes h23 hm hf hv9 (nm_one (i := 18) (by decide) e18 c13)]; rfl, sA, gZ⟩
      · --
        refine r_bipush (v := nI 17) dX5_isName_434 (by decide) ?_
        refine r_istore_n dX5_isName_436 (by decide) rfl ?_
        refine r_iload_n dX5_isName_437 rfl ?_
        refine r_tswC (tgt := 524) (off := 86) 17 dX5_isName_438 rfl (by decide) rfl ?_
        refine r_iconst (v := nI 0) dX5_isName_524 (by decide) ?_
        exact r_reti dX5_isName_525 rfl (b2i_n false) (Nat.le_refl _) (Nat.le_refl _) ⟨by rw [nm_no (i := 18) (by decide) h23 hm hf hv9 c13]; rfl, sA, gZ⟩
    by_cases e2 : hsF f m = 113860
    · refine r_lswC (tgt := 190) (off := 169) 113860 dX5_isName_21 (by decide) e2 (by decide) rfl ?_
      refine r_aload_n dX5_isName_190 rfl ?_
      refine r_ldcS (i := 2) rfl rfl dX5_isName_191 ?_
      refine r_callVx lX5_80 (xJ7_equals stA (sA.2.2.2.1 2 (by decide)) sw.2.1) (stA.1) rfl rfl rfl rfl dX5_isName_193 (Nat.le_refl _) (Nat.le_refl _) ?_
      refine r_ifB_eq (tgt := 437) dX5_isName_196 rfl (fun c14 => ?_) (fun c14 => ?_)
      · --
        refine r_iload_n dX5_isName_437 rfl ?_
        refine r_tableOut (tgt := 526) dX5_isName_438 (Or.inl (by decide)) rfl ?_
        refine r_iconst (v := nI 1) dX5_isName_526 (by decide) ?_
        exact r_reti dX5_isName_527 rfl (b2i_n true) (Nat.le_refl _) (Nat.le_refl _) ⟨by rw [nm_yes h23 hm hf hv9 (nm_one (i := 2) (by decide) e2 c14)]; rfl, sA, gZ⟩
      · --
        refine r_iconst (v := nI 1) dX5_isName_199 (by decide) ?_
        refine r_istore_n dX5_isName_200 (by decide) rfl ?_
        refine r_goto (tgt := 437) dX5_isName_201 rfl ?_
        refine r_iload_n dX5_isName_437 rfl ?_
        refine r_tswC (tgt := 524) (off := 86) 1 dX5_isName_438 rfl (by decide) rfl ?_
        refine r_iconst (v := nI 0) dX5_isName_524 (by decide) ?_
        exact r_reti dX5_isName_525 rfl (b2i_n false) (Nat.le_refl _) (Nat.le_refl _) ⟨by rw [nm_no (i := 2) (by decide) h23 hm hf hv9 c14]; rfl, sA, gZ⟩
    by_cases e11 : hsF f m = 3091780
    · refine r_lswC (tgt := 320) (off := 299) 3091780 dX5_isName_21 (by decide) e11 (by decide) rfl ?_
      refine r_aload_n dX5_isName_320 rfl ?_
      refine r_ldcS (i := 11) rfl rfl dX5_isName_321 ?_
      refine r_callVx lX5_80 (xJ7_equals stA (sA.2.2.2.1 11 (by decide)) sw.2.1) (stA.1) rfl rfl rfl rfl dX5_isName_323 (Nat.le_refl _) (Nat.le_refl _) ?_
      refine r_ifB_eq (tgt := 437) dX5_isName_326 rfl (fun c15 => ?_) (fun c15 => ?_)
      · --
        refine r_iload_n dX5_isName_437 rfl ?_
        refine r_tableOut (tgt := 526) dX5_isName_438 (Or.inl (by decide)) rfl ?_
        refine r_iconst (v := nI 1) dX5_isName_526 (by decide) ?_
        exact r_reti dX5_isName_527 rfl (b2i_n true) (Nat.le_refl _) (Nat.le_refl _) ⟨by rw [nm_yes h23 hm hf hv9 (nm_one (i := 11) (by decide) e11 c15)]; rfl, sA, gZ⟩
      · --
        refine r_bipush (v := nI 10) dX5_isName_329 (by decide) ?_
        refine r_istore_n dX5_isName_331 (by decide) rfl ?_
        refine r_goto (tgt := 437) dX5_isName_332 rfl ?_
        refine r_iload_n dX5_isName_437 rfl ?_
        refine r_tswC (tgt := 524) (off := 86) 10 dX5_isName_438 rfl (by decide) rfl ?_
        refine r_iconst (v := nI 0) dX5_isName_524 (by decide) ?_
        exact r_reti dX5_isName_525 rfl (b2i_n false) (Nat.le_refl _) (Nat.le_refl _) ⟨by rw [nm_no (i := 11) (by decide) h23 hm hf hv9 c15]; rfl, sA, gZ⟩
    by_cases e14 : hsF f m = 3198448
    · refine r_lswC (tgt := 365) (off := 344) 3198448 dX5_isName_21 (by decide) e14 (by decide) rfl ?_
      refine r_aload_n dX5_isName_365 rfl ?_
      refine r_ldcS (i := 14) rfl rfl dX5_isName_366 ?_
      refine r_callVx lX5_80 (xJ7_equals stA (sA.2.2.2.1 14 (by decide)) sw.2.1) (stA.1) rfl rfl rfl rfl dX5_isName_368 (Nat.le_refl _) (Nat.le_refl _) ?_
      refine r_ifB_eq (tgt := 437) dX5_isName_371 rfl (fun c16 => ?_) (fun c16 => ?_)
      · --
        refine r_iload_n dX5_isName_437 rfl ?_
        refine r_tableOut (tgt := 526) dX5_isName_438 (Or.inl (by decide)) rfl ?_
        refine r_iconst (v := nI 1) dX5_isName_526 (by decide) ?_
        exact r_reti dX5_isName_527 rfl (b2i_n true) (Nat.le_refl _) (Nat.le_refl _) ⟨by rw [nm_yes h23 hm hf hv9 (nm_one (i := 14) (by decide) e14 c16)]; rfl, sA, gZ⟩
      · --
        refine r_bipush (v := nI 13) dX5_isName_374 (by decide) ?_
        refine r_istore_n dX5_isName_376 (by decide) rfl ?_
        refine r_goto (tgt := 437) dX5_isName_377 rfl ?_
        refine r_iload_n dX5_isName_437 rfl ?_
        refine r_tswC (tgt := 524) (off := 86) 13 dX5_isName_438 rfl (by decide) rfl ?_
        refine r_iconst (v := nI 0) dX5_isName_524 (by decide) ?_
        exact r_reti dX5_isName_525 rfl (b2i_n false) (Nat.le_refl _) (Nat.le_refl _) ⟨by rw [nm_no (i := 14) (by decide) h23 hm hf hv9 c16]; rfl, sA, gZ⟩
    by_cases e3 : hsF f m = 3522358
    · refine r_lswC (tgt := 204) (off := 183) 3522358 dX5_isName_21 (by decide) e3 (by decide) rfl ?_
      refine r_aload_n dX5_isName_204 rfl ?_
      refine r_ldcS (i := 3) rfl rfl dX5_isName_205 ?_
      refine r_callVx lX5_80 (xJ7_equals stA (sA.2.2.2.1 3 (by decide)) sw.2.1) (stA.1) rfl rfl rfl rfl dX5_isName_207 (Nat.le_refl _) (Nat.le_refl _) ?_
      refine r_ifB_eq (tgt := 437) dX5_isName_210 rfl (fun c17 => ?_) (fun c17 => ?_)
      · --
        refine r_iload_n dX5_isName_437 rfl ?_
        refine r_tableOut (tgt := 526) dX5_isName_438 (Or.inl (by decide)) rfl ?_
        refine r_iconst (v := nI 1) dX5_isName_526 (by decide) ?_
        exact r_reti dX5_isName_527 rfl (b2i_n true) (Nat.le_refl _) (Nat.le_refl _) ⟨by rw [nm_yes h23 hm hf hv9 (nm_one (i := 3) (by decide) e3 c17)]; rfl, sA, gZ⟩
      · --
        refine r_iconst (v := nI 2) dX5_isName_213 (by decide) ?_
        refine r_istore_n dX5_isName_214 (by decide) rfl ?_
        refine r_goto (tgt := 437) dX5_isName_215 rfl ?_
        refine r_iload_n dX5_isName_437 rfl ?_
        refine r_tswC (tgt := 524) (off := 86) 2 dX5_isName_438 rfl (by decide) rfl ?_
        refine r_iconst (v := nI 0) dX5_isName_524 (by decide) ?_
        exact r_reti dX5_isName_525 rfl (b2i_n false) (Nat.le_refl _) (Nat.le_refl _) ⟨by rw [nm_no (i := 3) (by decide) h23 hm hf hv9 c17]; rfl, sA, gZ⟩
    by_cases e9 : hsF f m = 3522537
    · refine r_lswC (tgt := 290) (off := 269) 3522537 dX5_isName_21 (by decide) e9 (by decide) rfl ?_
      refine r_aload_n dX5_isName_290 rfl ?_
      refine r_ldcS (i := 9) rfl rfl dX5_isName_291 ?_
      refine r_callVx lX5_80 (xJ7_equals stA (sA.2.2.2.1 9 (by decide)) sw.2.1) (stA.1) rfl rfl rfl rfl dX5_isName_293 (Nat.le_refl _) (Nat.le_refl _) ?_
      refine r_ifB_eq (tgt := 437) dX5_isName_296 rfl (fun c18 => ?_) (fun c18 => ?_)
      · --
        refine r_iload_n dX5_isName_437 rfl ?_
        refine r_tableOut (tgt := 526) dX5_isName_438 (Or.inl (by decide)) rfl ?_
        refine r_iconst (v := nI 1) dX5_isName_526 (by decide) ?_
        exact r_reti dX5_isName_527 rfl (b2i_n true) (Nat.le_refl _) (Nat.le_refl _) ⟨by rw [nm_yes h23 hm hf hv9 (nm_one (i := 9) (by decide) e9 c18)]; rfl, sA, gZ⟩
      · --
        refine r_bipush (v := nI 8) dX5_isName_299 (by decide) ?_
        refine r_istore_n dX5_isName_301 (by decide) rfl ?_
        refine r_goto (tgt := 437) dX5_isName_302 rfl ?_
        refine r_iload_n dX5_isName_437 rfl ?_
        refine r_tswC (tgt := 524) (off := 86) 8 dX5_isName_438 rfl (by decide) rfl ?_
        refine r_iconst (v := nI 0) dX5_isName_524 (by decide) ?_
        exact r_reti dX5_isName_525 rfl (b2i_n false) (Nat.le_refl _) (Nat.le_refl _) ⟨by rw [nm_no (i := 9) (by decide) h23 hm hf hv9 c18]; rfl, sA, gZ⟩
    by_cases e4 : hsF f m = 110331118
    · refine r_lswC (tgt := 218) (off := 197) 110331118 dX5_isName_21 (by decide) e4 (by decide) rfl ?_
      refine r_aload_n dX5_isName_218 rfl ?_
      refine r_ldcS (i := 4) rfl rfl dX5_isName_219 ?_
      refine r_callVx lX5_80 (xJ7_equals stA (sA.2.2.2.1 4 (by decide)) sw.2.1) (stA.1) rfl rfl rfl rfl dX5_isName_221 (Nat.le_refl _) (Nat.le_refl _) ?_
      refine r_ifB_eq (tgt := 437) dX5_isName_224 rfl (fun c19 => ?_) (fun c19 => ?_)
      · --
        refine r_iload_n dX5_isName_437 rfl ?_
        refine r_tableOut (tgt := 526) dX5_isName_438 (Or.inl (by decide)) rfl ?_
        refine r_iconst (v := nI 1) dX5_isName_526 (by decide) ?_
        exact r_reti dX5_isName_527 rfl (b2i_n true) (Nat.le_refl _) (Nat.le_refl _) ⟨by rw [nm_yes h23 hm hf hv9 (nm_one (i := 4) (by decide) e4 c19)]; rfl, sA, gZ⟩
      · --
        refine r_iconst (v := nI 3) dX5_isName_227 (by decide) ?_
        refine r_istore_n dX5_isName_228 (by decide) rfl ?_
        refine r_goto (tgt := 437) dX5_isName_229 rfl ?_
        refine r_iload_n dX5_isName_437 rfl ?_
        refine r_tswC (tgt := 524) (off := 86) 3 dX5_isName_438 rfl (by decide) rfl ?_
        refine r_iconst (v := nI 0) dX5_isName_524 (by decide) ?_
        exact r_reti dX5_isName_525 rfl (b2i_n false) (Nat.le_refl _) (Nat.le_refl _) ⟨by rw [nm_no (i := 4) (by decide) h23 hm hf hv9 c19]; rfl, sA, gZ⟩
    refine r_lswD (tgt := 437) [-1354571749, -1237460601, -1234989669, -991716523, -897917786, 3159, 3365, 3555, 3707, 96727, 103501, 109267, 113860, 3091780, 3198448, 3522358, 3522537, 110331118] dX5_isName_21 (by decide) (by decide) (fun v hv => ?_) rfl ?_
    · simp only [List.mem_cons, List.not_mem_nil, or_false] at hv
      rcases hv with z | z | z | z | z | z | z | z | z | z | z | z | z | z | z | z | z | z <;> rw [z] <;> assumption
    refine r_iload_n dX5_isName_437 rfl ?_
    refine r_tableOut (tgt := 526) dX5_isName_438 (Or.inl (by decide)) rfl ?_
    refine r_iconst (v := nI 1) dX5_isName_526 (by decide) ?_
    exact r_reti dX5_isName_527 rfl (b2i_n true) (Nat.le_refl _) (Nat.le_refl _) ⟨by rw [nm_yes h23 hm hf hv9 (nm_none (fun j hj => nm_all j hj ⟨e1, e2, e3, e4, e5, e6, e7, e8, e9, e10, e11, e12, e13, e14, e15, e16, e17, e18⟩))]; rfl, sA, gZ⟩
  · --
    refine r_iconst (v := nI 0) dX5_isName_8 (by decide) ?_
    exact r_reti dX5_isName_9 rfl (b2i_n false) (Nat.le_refl _) (Nat.le_refl _) ⟨by rw [decide_eq_false (fun z => c1 ((sr_1 hs.2.2.1).mpr (Or.inl z)))]; rfl, hs, GZ.rf hx.1⟩
