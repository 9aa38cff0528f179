/-! ===== THE READER: names told (walks by program) ===== -/
set_option maxRecDepth 100000

/-- the name v -/
def NmAt (w : Nat) (v : Int64) (h : ev_H) : Prop := ev_c < w ∧ ∃ f m, StrAt w f m h ∧ (1 ≤ m ∧ m ≤ 8) ∧ (∀ i, i < m → isLetV (f i) = true) ∧ pkF f m = v
/-- a list of named things -/
def NL (kd l e c : Nat) (nm : Nat → Int64) (h : ev_H) : Prop := ALs l e c h ∧ ∀ i, i < c → hK h (hR h e i) = kd ∧ NmAt (hR h (hR h e i) 0) (nm i) h
def Dst (nm : Nat → Int64) (c : Nat) : Prop := ∀ i j, i < c → j < c → nm i = nm j → i = j
/-- the last one of that name -/
def laF (nm : Nat → Int64) (v : Int64) : Nat → Int32
  | 0 => -1
  | k + 1 => if nm k = v then nI k else laF nm v k
section NLS
variable {kd l e c k n q r w : Nat} {nm : Nat → Int64} {v : Int64} {tx : Nat → Int32} {h h1 hb : ev_H} {s : (Nat × Nat) × Nat} {o : Option Nat}
theorem laF_t (h : nm k = v) : laF nm v (k + 1) = nI k := if_pos h
theorem laF_f (h : ¬ nm k = v) : laF nm v (k + 1) = laF nm v k := if_neg h
theorem NmAt.gz (x : NmAt w v h) (g : GZ hb r h h1) : NmAt w v h1 := by
  obtain ⟨x1, f, m, x2, x3⟩ := x
  exact ⟨x1, f, m, x2.gz g, x3⟩
theorem ALs.gz (x : ALs l e c h) (g : GZ hb r h h1) : ALs l e c h1 := by
  obtain ⟨x1, x2, x3, x4, x5, x6⟩ := x
  have n1 : l ≠ r := fun z => by rw [z, g.1] at x1; cases x1
  obtain ⟨p1, p2, p3, p4, p5⟩ := g.2.2 l (by rw [x1]; decide)
  obtain ⟨s1, s2, s3, s4, s5⟩ := g.2.2 e (by rw [x4]; decide)
  exact ⟨p1.trans x1, (p3 1 (fun z => absurd z n1)).trans x2, (p4 2 (fun z => absurd z n1) (fun z => by rw [x1] at z; exact absurd z.2 (by decide))).trans x3, s1.trans x4, by rw [s2]; exact x5, by rw [s2]; exact x6⟩
theorem NL.gz (x : NL kd l e c nm h) (g : GZ hb r h h1) (h6 : kd = 7 ∨ kd = 8 ∨ kd = 10 := by decide) : NL kd l e c nm h1 := by
  obtain ⟨x1, x2⟩ := x
  have ne : e ≠ r := fun z => by have q := x1.2.2.2.1; rw [z, g.1] at q; cases q
  have er : ∀ i, hR h1 e i = hR h e i := fun i => (g.2.2 e (by rw [x1.2.2.2.1]; decide)).2.2.1 i (fun z => absurd z ne)
  refine ⟨x1.gz g, fun i hi => ?_⟩
  obtain ⟨y1, y2⟩ := x2 i hi
  have n2 : hR h e i ≠ r := fun z => by rw [z, g.1] at y1; omega
  obtain ⟨p1, p2, p3, p4, p5⟩ := g.2.2 (hR h e i) (by rw [y1]; omega)
  rw [er i, p3 0 (fun z => absurd z n2)]
  exact ⟨p1.trans y1, y2.gz g⟩
theorem la_opt (hd : Dst nm c) : ∀ k, k ≤ c → laF nm v k = optI (firstOf k (fun i => decide (nm i = v)))
  | 0, _ => rfl
  | k + 1, hk => by
    have ih := la_opt hd k (by omega)
    by_cases e : nm k = v
    · rw [laF_t e]
      have h0 : firstOf k (fun i => decide (nm i = v)) = none := first_none k (fun j hj => decide_eq_false (fun z => by have := hd j k (by omega) (by omega) (z.trans e.symm); omega))
      have := first_t h0 (show (fun i => decide (nm i = v)) k = true from decide_eq_true e) 0
      rw [Nat.add_zero] at this
      rw [this]
      rfl
    · rw [laF_f e, ih]
      cases h0 : firstOf k (fun i => decide (nm i = v)) with
      | none => rw [first_f h0 (decide_eq_false e)]
      | some j =>
        have : firstOf (k + 1) (fun i => decide (nm i = v)) = some j := by
          show (match firstOf k (fun i => decide (nm i = v)) with | some j => some j | none => _) = _
          rw [h0]
        rw [this]
theorem here_eq (ek : tkT tx n q = 2) : hereO tx n q nm c = firstOf c (fun i => decide (nm i = tnT tx n q)) := by
  unfold hereO
  congr 1
  funext i
  rw [decide_eq_true ek, Bool.true_and]
  exact decide_eq_decide.mpr cmp_0
theorem la_here (hd : Dst nm c) (ek : tkT tx n q = 2) : laF nm (tnT tx n q) c = optI (hereO tx n q nm c) := by rw [here_eq ek]; exact la_opt hd c (Nat.le_refl _)
theorem opt_some (h : ¬ optI o < 0) : o.isSome = true := by
  cases o with
  | none => exact absurd (show (-1 : Int32) < 0 by decide) h
  | some j => rfl
theorem opt_lt {m : Nat} {p : Nat → Bool} (hm : m ≤ 100) {j : Nat} (h : firstOf m p = some j) : j < m := by
  induction m with
  | zero => cases h
  | succ m ih =>
    have h : (match firstOf m p with | some j => some j | none => if p m then some m else none) = some j := h
    cases e : firstOf m p with
    | some i => rw [e] at h; cases h; exact Nat.lt_succ_of_lt (ih (by omega) e)
    | none =>
      rw [e] at h
      by_cases z : p m = true
      · have h : (if p m then some m else none) = some j := h
        rw [if_pos z] at h
        cases h
        omega
      · have h : (if p m then some m else none) = some j := h
        rw [if_neg z] at h
        cases h
theorem opt_none (h : optI o < 0) (hj : ∀ j, o = some j → j < 2 ^ 31 := by intro j hj; have := opt_lt (by omega) hj; omega) : o.isSome = false := by
  cases o with
  | none => rfl
  | some j => exact absurd h (nI_pos (hj j rfl))
theorem fresh_ge (hq : s.2 ≤ n) : s.2 ≤ (freshP tx n o s).2 := by
  unfold freshP
  split
  · split
    · split
      · exact Nat.le_refl _
      · exact te_ge' hq
    · exact Nat.le_refl _
  · exact Nat.le_refl _
theorem fresh_m (h0 : s.1.1 = 0) (ek : ¬ tkT tx n s.2 = 2) : freshP tx n o s = misP tx n s := by unfold freshP; rw [if_pos h0, if_neg ek]
theorem fresh_3 (h0 : s.1.1 = 0) (ek : tkT tx n s.2 = 2) (eo : o.isSome = true) : freshP tx n o s = ((3, taT tx n s.2), s.2) := by unfold freshP; rw [if_pos h0, if_pos ek, if_pos eo]
theorem fresh_g (h0 : s.1.1 = 0) (ek : tkT tx n s.2 = 2) (eo : o.isSome = false) : freshP tx n o s = goP tx n s := by unfold freshP; rw [if_pos h0, if_pos ek, if_neg (by rw [eo]; decide)]
end NLS

theorem x0_find7 {G : ev_G} {h : ev_H} {l e c w m : Nat} {nm : Nat → Int64} {f : Nat → Int32} {v : Int64} (hL9 : NL 7 l e c nm h) (hc9 : c ≤ 100) (hw : StrAt w f m h ∧ (1 ≤ m ∧ m ≤ 8) ∧ (∀ i, i < m → isLetV (f i) = true) ∧ pkF f m = v) : Called G mX0_find 4 0 0 [vR l, vR w] h (px (vI (laF nm v c)) h) := by
  obtain ⟨hA, hN9⟩ := hL9
  refine called_of rfl [some (vR l), some (vR w), none, none] rfl (Nat.le_of_ble_eq_true rfl) ?_
  refine r_iconst (v := (-1)) dX0_find_0 (by decide) ?_
  refine r_istore_n dX0_find_1 (by decide) rfl ?_
  refine r_iconst (v := nI 0) dX0_find_2 (by decide) ?_
  refine r_istore_n dX0_find_3 (by decide) rfl ?_
  refine (ev_for (P := fun k => Ev G mX0_find (ev_room 4 0 0) (ev_MQ G (px (vI (laF nm v c)) h) 0 0) 4 [some (vR l), some (vR w), some (vI (laF nm v k)), some (vI (nI k))] [] h 0 0) c (fun k hkk ihk => ?_)) 0 (Nat.zero_le _)
  refine r_iload_n dX0_find_4 rfl ?_
  refine r_aload_n dX0_find_5 rfl ?_
  refine r_callVx lX0_3 (xJ2_size hA) (hA.1) rfl rfl rfl rfl dX0_find_6 (Nat.le_refl _) (Nat.le_refl _) ?_
  refine r_icmpN_ge (tgt := 42) dX0_find_9 rfl (by omega) (by omega) (fun c1 => ?_) (fun c1 => ?_)
  · --
    refine r_iload_n dX0_find_42 rfl ?_
    exact r_retx dX0_find_43 rfl rfl (by rw [show k = c by omega])
  · --
    refine r_aload_n dX0_find_12 rfl ?_
    refine r_iload_n dX0_find_13 rfl ?_
    refine r_callVx lX0_9 (xJ2_get hA (i := k) (by omega) rfl) (hA.1) rfl rfl rfl rfl dX0_find_14 (Nat.le_refl _) (Nat.le_refl _) ?_
    refine r_cast (ci := 6) q868 ((hN9 k (by omega)).1) (by decide) rfl (Or.inl rfl) dX0_find_17 ?_
    refine r_getRv fX0_15 ((hN9 k (by omega)).1) (v := hR h (hR h e k) 0) rfl rfl dX0_find_20 ?_
    obtain ⟨cw9, f9, m9, st9, hm9, hf9, hv9⟩ := (hN9 k (by omega)).2
    refine r_aload_n dX0_find_23 rfl ?_
    refine r_callVx lX0_19 ((by have z9 := xJ7_equals (G := G) st9 hw.1 cw9; rw [sq_pk hm9 hw.2.1 hf9 hw.2.2.1, hv9, hw.2.2.2] at z9; exact z9)) (st9.1) rfl rfl rfl rfl dX0_find_24 (Nat.le_refl _) (Nat.le_refl _) ?_
    refine r_ifB_eq (tgt := 34) dX0_find_27 rfl (fun c2 => ?_) (fun c2 => ?_)
    · --
      refine r_iload_n dX0_find_34 rfl ?_
      refine r_istore_n dX0_find_35 (by decide) rfl ?_
      refine r_iincN (n := 1) dX0_find_36 rfl rfl (by decide) rfl ?_
      refine r_goto (tgt := 4) dX0_find_39 rfl ?_
      exact r_L (by rw [laF_f (of_decide_eq_false c2)]; rfl) (ihk (by omega))
    · --
      refine r_iload_n dX0_find_30 rfl ?_
      refine r_goto (tgt := 35) dX0_find_31 rfl ?_
      refine r_istore_n dX0_find_35 (by decide) rfl ?_
      refine r_iincN (n := 1) dX0_find_36 rfl rfl (by decide) rfl ?_
      refine r_goto (tgt := 4) dX0_find_39 rfl ?_
      exact r_L (by rw [laF_t (of_decide_eq_true c2)]; rfl) (ihk (by omega))

theorem x0_find8 {G : ev_G} {h : ev_H} {l e c w m : Nat} {nm : Nat → Int64} {f : Nat → Int32} {v : Int64} (hL9 : NL 8 l e c nm h) (hc9 : c ≤ 100) (hw : StrAt w f m h ∧ (1 ≤ m ∧ m ≤ 8) ∧ (∀ i, i < m → isLetV (f i) = true) ∧ pkF f m = v) : Called G mX0_find 4 0 0 [vR l, vR w] h (px (vI (laF nm v c)) h) := by
  obtain ⟨hA, hN9⟩ := hL9
  refine called_of rfl [some (vR l), some (vR w), none, none] rfl (Nat.le_of_ble_eq_true rfl) ?_
  refine r_iconst (v := (-1)) dX0_find_0 (by decide) ?_
  refine r_istore_n dX0_find_1 (by decide) rfl ?_
  refine r_iconst (v := nI 0) dX0_find_2 (by decide) ?_
  refine r_istore_n dX0_find_3 (by decide) rfl ?_
  refine (ev_for (P := fun k => Ev G mX0_find (ev_room 4 0 0) (ev_MQ G (px (vI (laF nm v c)) h) 0 0) 4 [some (vR l), some (vR w), some (vI (laF nm v k)), some (vI (nI k))] [] h 0 0) c (fun k hkk ihk => ?_)) 0 (Nat.zero_le _)
  refine r_iload_n dX0_find_4 rfl ?_
  refine r_aload_n dX0_find_5 rfl ?_
  refine r_callVx lX0_3 (xJ2_size hA) (hA.1) rfl rfl rfl rfl dX0_find_6 (Nat.le_refl _) (Nat.le_refl _) ?_
  refine r_icmpN_ge (tgt := 42) dX0_find_9 rfl (by omega) (by omega) (fun c1 => ?_) (fun c1 => ?_)
  · --
    refine r_iload_n dX0_find_42 rfl ?_
    exact r_retx dX0_find_43 rfl rfl (by rw [show k = c by omega])
  · --
    refine r_aload_n dX0_find_12 rfl ?_
    refine r_iload_n dX0_find_13 rfl ?_
    refine r_callVx lX0_9 (xJ2_get hA (i := k) (by omega) rfl) (hA.1) rfl rfl rfl rfl dX0_find_14 (Nat.le_refl _) (Nat.le_refl _) ?_
    refine r_cast (ci := 7) q868 ((hN9 k (by omega)).1) (by decide) rfl (Or.inr q2410) dX0_find_17 ?_
    refine r_getRv fX0_15_X7 ((hN9 k (by omega)).1) (v := hR h (hR h e k) 0) rfl rfl dX0_find_20 ?_
    obtain ⟨cw9, f9, m9, st9, hm9, hf9, hv9⟩ := (hN9 k (by omega)).2
    refine r_aload_n dX0_find_23 rfl ?_
    refine r_callVx lX0_19 ((by have z9 := xJ7_equals (G := G) st9 hw.1 cw9; rw [sq_pk hm9 hw.2.1 hf9 hw.2.2.1, hv9, hw.2.2.2] at z9; exact z9)) (st9.1) rfl rfl rfl rfl dX0_find_24 (Nat.le_refl _) (Nat.le_refl _) ?_
    refine r_ifB_eq (tgt := 34) dX0_find_27 rfl (fun c2 => ?_) (fun c2 => ?_)
    · --
      refine r_iload_n dX0_find_34 rfl ?_
      refine r_istore_n dX0_find_35 (by decide) rfl ?_
      refine r_iincN (n := 1) dX0_find_36 rfl rfl (by decide) rfl ?_
      refine r_goto (tgt := 4) dX0_find_39 rfl ?_
      exact r_L (by rw [laF_f (of_decide_eq_false c2)]; rfl) (ihk (by omega))
    · --
      refine r_iload_n dX0_find_30 rfl ?_
      refine r_goto (tgt := 35) dX0_find_31 rfl ?_
      refine r_istore_n dX0_find_35 (by decide) rfl ?_
      refine r_iincN (n := 1) dX0_find_36 rfl rfl (by decide) rfl ?_
      refine r_goto (tgt := 4) dX0_find_39 rfl ?_
      exact r_L (by rw [laF_t (of_decide_eq_true c2)]; rfl) (ihk (by omega))

theorem x0_find10 {G : ev_G} {h : ev_H} {l e c w m : Nat} {nm : Nat → Int64} {f : Nat → Int32} {v : Int64} (hL9 : NL 10 l e c nm h) (hc9 : c ≤ 100) (hw : StrAt w f m h ∧ (1 ≤ m ∧ m ≤ 8) ∧ (∀ i, i < m → isLetV (f i) = true) ∧ pkF f m = v) : Called G mX0_find 4 0 0 [vR l, vR w] h (px (vI (laF nm v c)) h) := by
  obtain ⟨hA, hN9⟩ := hL9
  refine called_of rfl [some (vR l), some (vR w), none, none] rfl (Nat.le_of_ble_eq_true rfl) ?_
  refine r_iconst (v := (-1)) dX0_find_0 (by decide) ?_
  refine r_istore_n dX0_find_1 (by decide) rfl ?_
  refine r_iconst (v := nI 0) dX0_find_2 (by decide) ?_
  refine r_istore_n dX0_find_3 (by decide) rfl ?_
  refine (ev_for (P := fun k => Ev G mX0_find (ev_room 4 0 0) (ev_MQ G (px (vI (laF nm v c)) h) 0 0) 4 [some (vR l), some (vR w), some (vI (laF nm v k)), some (vI (nI k))] [] h 0 0) c (fun k hkk ihk => ?_)) 0 (Nat.zero_le _)
  refine r_iload_n dX0_find_4 rfl ?_
  refine r_aload_n dX0_find_5 rfl ?_
  refine r_callVx lX0_3 (xJ2_size hA) (hA.1) rfl rfl rfl rfl dX0_find_6 (Nat.le_refl _) (Nat.le_refl _) ?_
  refine r_icmpN_ge (tgt := 42) dX0_find_9 rfl (by omega) (by omega) (fun c1 => ?_) (fun c1 => ?_)
  · --
    refine r_iload_n dX0_find_42 rfl ?_
    exact r_retx dX0_find_43 rfl rfl (by rw [show k = c by omega])
  · --
    refine r_aload_n dX0_find_12 rfl ?_
    refine r_iload_n dX0_find_13 rfl ?_
    refine r_callVx lX0_9 (xJ2_get hA (i := k) (by omega) rfl) (hA.1) rfl rfl rfl rfl dX0_find_14 (Nat.le_refl _) (Nat.le_refl _) ?_
    refine r_cast (ci := 9) q868 ((hN9 k (by omega)).1) (by decide) rfl (Or.inr q2411) dX0_find_17 ?_
    refine r_getRv fX0_15_X9 ((hN9 k (by omega)).1) (v := hR h (hR h e k) 0) rfl rfl dX0_find_20 ?_
    obtain ⟨cw9, f9, m9, st9, hm9, hf9, hv9⟩ := (hN9 k (by omega)).2
    refine r_aload_n dX0_find_23 rfl ?_
    refine r_callVx lX0_19 ((by have z9 := xJ7_equals (G := G) st9 hw.1 cw9; rw [sq_pk hm9 hw.2.1 hf9 hw.2.2.1, hv9, hw.2.2.2] at z9; exact z9)) (st9.1) rfl rfl rfl rfl dX0_find_24 (Nat.le_refl _) (Nat.le_refl _) ?_
    refine r_ifB_eq (tgt := 34) dX0_find_27 rfl (fun c2 => ?_) (fun c2 => ?_)
    · --
      refine r_iload_n dX0_find_34 rfl ?_
      refine r_istore_n dX0_find_35 (by decide) rfl ?_
      refine r_iincN (n := 1) dX0_find_36 rfl rfl (by decide) rfl ?_
      refine r_goto (tgt := 4) dX0_find_39 rfl ?_
      exact r_L (by rw [laF_f (of_decide_eq_false c2)]; rfl) (ihk (by omega))
    · --
      refine r_iload_n dX0_find_30 rfl ?_
      refine r_goto (tgt := 35) dX0_find_31 rfl ?_
      refine r_istore_n dX0_find_35 (by decide) rfl ?_
      refine r_iincN (n := 1) dX0_find_36 rfl rfl (by decide) rfl ?_
      refine r_goto (tgt := 4) dX0_find_39 rfl ?_
      exact r_L (by rw [laF_t (of_decide_eq_true c2)]; rfl) (ihk (by omega))

theorem x5_newName7 {G : ev_G} {h hb : ev_H} {r n : Nat} {s : (Nat × Nat) × Nat} {tx : Nat → Int32} (hs : RS hb tx n r s.2 h) (h0 : s.1.1 = 0) (nb : tkT tx n s.2 ≠ 1) (n0 : tkT tx n s.2 ≠ 0) {l e c : Nat} {nm : Nat → Int64} (hL9 : NL 7 l e c nm h) (hc9 : c ≤ 100) (hd9 : Dst nm c) {mc ms : Nat} (hmc : Cst (freshP tx n (hereO tx n (teT tx n s.2) nm c) (goP tx n s)) s.2 mc ms) : CalledX G mX5_newName 7 mc ms [vR r, vR l] h (pR (fun w h1 => NmAt w (tnT tx n (teT tx n s.2)) h1 ∧ hK hb w = 0 ∧ XOk hb tx n r (freshP tx n (hereO tx n (teT tx n s.2) nm c) (goP tx n s)) h h1)) (XEx hb (freshP tx n (hereO tx n (teT tx n s.2) nm c) (goP tx n s))) := by
  refine calledX_of rfl [some (vR r), some (vR l), none] rfl (Nat.le_of_ble_eq_true rfl) ?_
  refine r_aload_n dX5_newName_0 rfl ?_
  refine r_callVv lX5_90 (x5_goR hs nb) (hs.1.1) rfl rfl rfl rfl dX5_newName_1 (by show 0 + 4 ≤ mc; have := hmc.1; have := te_gt_ (tx := tx) hs.2.2.1 n0; have : teT tx n s.2 ≤ (freshP tx n (hereO tx n (teT tx n s.2) nm c) (goP tx n s)).2 := fresh_ge (s := goP tx n s) (teT_le hs.2.2.1); omega) (by show 0 + 24 ≤ ms; have := hmc.2.1; have := te_gt_ (tx := tx) hs.2.2.1 n0; have : teT tx n s.2 ≤ (freshP tx n (hereO tx n (teT tx n s.2) nm c) (goP tx n s)).2 := fresh_ge (s := goP tx n s) (teT_le hs.2.2.1); omega) (fun hA q9 => ?_)
  obtain ⟨sA, gA⟩ := q9
  have hte := te_gt_ (tx := tx) hs.2.2.1 n0
  have hgo : (goP tx n s).2 = teT tx n s.2 := rfl
  have hg1 : (goP tx n s).1.1 = 0 := h0
  have hmg : teT tx n s.2 ≤ (freshP tx n (hereO tx n (teT tx n s.2) nm c) (goP tx n s)).2 := fresh_ge (s := goP tx n s) sA.2.2.1
  refine r_aload_n dX5_newName_4 rfl ?_
  refine r_callVi lX5_147 (x5_isName sA) (sA.1.1) rfl rfl rfl rfl dX5_newName_5 (by show 0 + 4 + 0 ≤ mc; have := hmc.1; omega) (by show 0 + 24 + 0 ≤ ms; have := hmc.2.1; omega) (fun y9 hB q9 => ?_)
  obtain ⟨rfl, sB, gB⟩ := q9
  have hmc1 := hmc.1
  have hmc2 := hmc.2.1
  refine r_ifB_ne (tgt := 16) dX5_newName_8 rfl (fun c1 => ?_) (fun c1 => ?_)
  · --
    have ek := of_decide_eq_true c1
    obtain ⟨⟨f, m, sw, hm, hf, hv9⟩, zw⟩ := sB.2.1.2.2.2.2 (Or.inl ek)
    have lB := (hL9.gz gA).gz gB
    have eH : laF nm (tnT tx n (teT tx n s.2)) c = optI (hereO tx n (teT tx n s.2) nm c) := la_here hd9 ek
    refine r_aload_n dX5_newName_16 rfl ?_
    refine r_aload_n dX5_newName_17 rfl ?_
    refine r_getRv fX5_17 sB.1.1 (v := hR hB r 8) rfl rfl dX5_newName_18 ?_
    refine r_callNSx lX5_151 ((by have z9 := x0_find7 (G := G) lB hc9 ⟨sw.1, hm, hf, hv9⟩; rw [eH] at z9; exact z9)) rfl rfl rfl rfl dX5_newName_21 (by show 0 + 4 + 0 ≤ mc; omega) (by show 0 + 24 + 0 ≤ ms; omega) ?_
    refine r_if_lt (tgt := 40) dX5_newName_24 rfl (fun c2 => ?_) (fun c2 => ?_)
    · --
      have eo : (hereO tx n (teT tx n s.2) nm c).isSome = false := opt_none c2
      have eS := fresh_g (o := hereO tx n (teT tx n s.2) nm c) hg1 ek eo
      rw [eS] at hmc1 hmc2
      have hmc1 : 5 * (teT tx n (teT tx n s.2) - s.2) ≤ mc := hmc1
      have hmc2 : 40 * (teT tx n (teT tx n s.2) - s.2) ≤ ms := hmc2
      have hte2 := te_gt_ (tx := tx) sA.2.2.1 (by rw [ek]; decide)
      refine r_aload_n dX5_newName_40 rfl ?_
      refine r_getRv fX5_17 sB.1.1 (v := hR hB r 8) rfl rfl dX5_newName_41 ?_
      refine r_astore_n dX5_newName_44 (by decide) rfl ?_
      refine r_aload_n dX5_newName_45 rfl ?_
      refine r_callVv lX5_90 (x5_goR sB (by rw [ek]; decide)) (sB.1.1) rfl rfl rfl rfl dX5_newName_46 (by show 0 + 4 + 0 + 4 ≤ mc; omega) (by show 0 + 24 + 0 + 24 ≤ ms; omega) (fun hE q9 => ?_)
      obtain ⟨sE, gE⟩ := q9
      refine r_aload_n dX5_newName_49 rfl ?_
      exact rx_ret (r_retr dX5_newName_50 rfl (Or.inl ⟨_, rfl⟩) (by show 0 + 4 + 0 + 4 ≤ mc; omega) (by show 0 + 24 + 0 + 24 ≤ ms; omega) ⟨⟨sw.2.1, f, m, sw.1.gz gE, hm, hf, hv9⟩, zw, by rw [eS]; exact ⟨h0, sE, (gA.tr gB).tr gE⟩⟩)
    · --
      have eo : (hereO tx n (teT tx n s.2) nm c).isSome = true := opt_some c2
      have eS := fresh_3 (o := hereO tx n (teT tx n s.2) nm c) hg1 ek eo
      have hmx := hmc.2.2 (by rw [eS]; show 3 ≠ 0; decide)
      rw [eS] at hmx
      have hmx1 : 5 * (teT tx n s.2 - s.2) + 1 ≤ mc := hmx.1
      have hmx2 : 40 * (teT tx n s.2 - s.2) + 8 ≤ ms := hmx.2
      refine r_wf (fun wf9 => ?_)
      refine r_new nX5_75 dX5_newName_27 (by show 0 + 4 + 0 + 1 ≤ mc; omega) (by show 0 + 24 + 0 + 8 ≤ ms; omega) ?_
      have kA : hK (nO hB 9 0) (hN hB) = 9 := nO_Kn
      have gC : Fg noC [] noC hB (nO hB 9 0) := Fg.nO wf9
      have cA : ev_c < hN hB := wf9.1
      have zA : hK hB (hN hB) = 0 := wf_0 wf9
      generalize nO hB 9 0 = hC at kA gC ⊢
      generalize hN hB = w at kA cA zA ⊢
      have iA : ∀ j, hI hC r j = hI hB r j := fun j => gC.i sB.1.1 (by decide) (fun z => z) j (fun _ => by simp)
      have hxA : hK hC r = 6 := gC.k sB.1.1 (by decide)
      refine r_dup dX5_newName_30 rfl ?_
      refine r_iconst (v := nI 3) dX5_newName_31 (by decide) ?_
      refine r_aload_n dX5_newName_32 rfl ?_
      refine r_getIv fX5_43 hxA (v := nI (taT tx n (teT tx n s.2))) ((iA 2).trans sB.2.1.2.1) rfl dX5_newName_33 ?_
      refine r_callIv lX5_77 (x8_init kA cA (nI 3) (nI (taT tx n (teT tx n s.2)))) (nz_ kA (by decide)) rfl rfl rfl rfl dX5_newName_36 (by show 0 + 4 + 0 + 1 + 0 ≤ mc; omega) (by show 0 + 24 + 0 + 8 + 0 ≤ ms; omega) (fun hD q9 => ?_)
      obtain ⟨i6, i7, gD⟩ := q9
      exact rx_athrow (gD.k kA (by decide)) dX5_newName_39 (rx_out (by decide) (cA) (by show 0 + 4 + 0 + 1 + 0 ≤ mc; omega) (by show 0 + 24 + 0 + 8 + 0 ≤ ms; omega) (by rw [eS]; exact ⟨(show 3 ≠ 0 by decide), cA, i6, i7, sB.2.2.2.2.1.tr (fg_new gC gD zA)⟩))
  · --
    have ek := of_decide_eq_false c1
    have eS := fresh_m (o := hereO tx n (teT tx n s.2) nm c) hg1 ek
    have hmx := hmc.2.2 (by rw [eS]; exact misP_bad tx n (goP tx n s))
    rw [eS] at hmx
    have hmx1 : 5 * (teT tx n s.2 - s.2) + 1 ≤ mc := hmx.1
    have hmx2 : 40 * (teT tx n s.2 - s.2) + 8 ≤ ms := hmx.2
    refine r_aload_n dX5_newName_11 rfl ?_
    refine r_callVr lX5_96 (x5_wrong sB) (sB.1.1) rfl rfl rfl rfl dX5_newName_12 (by show 0 + 4 + 0 + 1 ≤ mc; omega) (by show 0 + 24 + 0 + 8 ≤ ms; omega) (fun w hD q9 => ?_)
    obtain ⟨zD, cD, kD, i6, i7, gD⟩ := q9
    exact rx_athrow (kD) dX5_newName_15 (rx_out (by decide) (cD) (by show 0 + 4 + 0 + 1 ≤ mc; omega) (by show 0 + 24 + 0 + 8 ≤ ms; omega) (by rw [eS]; exact mis_x hg1 cD i6 i7 (sB.2.2.2.2.1.tr gD)))

theorem x5_newName8 {G : ev_G} {h hb : ev_H} {r n : Nat} {s : (Nat × Nat) × Nat} {tx : Nat → Int32} (hs : RS hb tx n r s.2 h) (h0 : s.1.1 = 0) (nb : tkT tx n s.2 ≠ 1) (n0 : tkT tx n s.2 ≠ 0) {l e c : Nat} {nm : Nat → Int64} (hL9 : NL 8 l e c nm h) (hc9 : c ≤ 100) (hd9 : Dst nm c) {mc ms : Nat} (hmc : Cst (freshP tx n (hereO tx n (teT tx n s.2) nm c) (goP tx n s)) s.2 mc ms) : CalledX G mX5_newName 7 mc ms [vR r, vR l] h (pR (fun w h1 => NmAt w (tnT tx n (teT tx n s.2)) h1 ∧ hK hb w = 0 ∧ XOk hb tx n r (freshP tx n (hereO tx n (teT tx n s.2) nm c) (goP tx n s)) h h1)) (XEx hb (freshP tx n (hereO tx n (teT tx n s.2) nm c) (goP tx n s))) := by
  refine calledX_of rfl [some (vR r), some (vR l), none] rfl (Nat.le_of_ble_eq_true rfl) ?_
  refine r_aload_n dX5_newName_0 rfl ?_
  refine r_callVv lX5_90 (x5_goR hs nb) (hs.1.1) rfl rfl rfl rfl dX5_newName_1 (by show 0 + 4 ≤ mc; have := hmc.1; have := te_gt_ (tx := tx) hs.2.2.1 n0; have : teT tx n s.2 ≤ (freshP tx n (hereO tx n (teT tx n s.2) nm c) (goP tx n s)).2 := fresh_ge (s := goP tx n s) (teT_le hs.2.2.1); omega) (by show 0 + 24 ≤ ms; have := hmc.2.1; have := te_gt_ (tx := tx) hs.2.2.1 n0; have : teT tx n s.2 ≤ (freshP tx n (hereO tx n (teT tx n s.2) nm c) (goP tx n s)).2 := fresh_ge (s := goP tx n s) (teT_le hs.2.2.1); omega) (fun hA q9 => ?_)
  obtain ⟨sA, gA⟩ := q9
  have hte := te_gt_ (tx := tx) hs.2.2.1 n0
  have hgo : (goP tx n s).2 = teT tx n s.2 := rfl
  have hg1 : (goP tx n s).1.1 = 0 := h0
  have hmg : teT tx n s.2 ≤ (freshP tx n (hereO tx n (teT tx n s.2) nm c) (goP tx n s)).2 := fresh_ge (s := goP tx n s) sA.2.2.1
  refine r_aload_n dX5_newName_4 rfl ?_
  refine r_callVi lX5_147 (x5_isName sA) (sA.1.1) rfl rfl rfl rfl dX5_newName_5 (by show 0 + 4 + 0 ≤ mc; have := hmc.1; omega) (by show 0 + 24 + 0 ≤ ms; have := hmc.2.1; omega) (fun y9 hB q9 => ?_)
  obtain ⟨rfl, sB, gB⟩ := q9
  have hmc1 := hmc.1
  have hmc2 := hmc.2.1
  refine r_ifB_ne (tgt := 16) dX5_newName_8 rfl (fun c1 => ?_) (fun c1 => ?_)
  · --
    have ek := of_decide_eq_true c1
    obtain ⟨⟨f, m, sw, hm, hf, hv9⟩, zw⟩ := sB.2.1.2.2.2.2 (Or.inl ek)
    have lB := (hL9.gz gA).gz gB
    have eH : laF nm (tnT tx n (teT tx n s.2)) c = optI (hereO tx n (teT tx n s.2) nm c) := la_here hd9 ek
    refine r_aload_n dX5_newName_16 rfl ?_
    refine r_aload_n dX5_newName_17 rfl ?_
    refine r_getRv fX5_17 sB.1.1 (v := hR hB r 8) rfl rfl dX5_newName_18 ?_
    refine r_callNSx lX5_151 ((by have z9 := x0_find8 (G := G) lB hc9 ⟨sw.1, hm, hf, hv9⟩; rw [eH] at z9; exact z9)) rfl rfl rfl rfl dX5_newName_21 (by show 0 + 4 + 0 ≤ mc; omega) (by show 0 + 24 + 0 ≤ ms; omega) ?_
    refine r_if_lt (tgt := 40) dX5_newName_24 rfl (fun c2 => ?_) (fun c2 => ?_)
    · --
      have eo : (hereO tx n (teT tx n s.2) nm c).isSome = false := opt_none c2
      have eS := fresh_g (o := hereO tx n (teT tx n s.2) nm c) hg1 ek eo
      rw [eS] at hmc1 hmc2
      have hmc1 : 5 * (teT tx n (teT tx n s.2) - s.2) ≤ mc := hmc1
      have hmc2 : 40 * (teT tx n (teT tx n s.2) - s.2) ≤ ms := hmc2
      have hte2 := te_gt_ (tx := tx) sA.2.2.1 (by rw [ek]; decide)
      refine r_aload_n dX5_newName_40 rfl ?_
      refine r_getRv fX5_17 sB.1.1 (v := hR hB r 8) rfl rfl dX5_newName_41 ?_
      refine r_astore_n dX5_newName_44 (by decide) rfl ?_
      refine r_aload_n dX5_newName_45 rfl ?_
      refine r_callVv lX5_90 (x5_goR sB (by rw [ek]; decide)) (sB.1.1) rfl rfl rfl rfl dX5_newName_46 (by show 0 + 4 + 0 + 4 ≤ mc; omega) (by show 0 + 24 + 0 + 24 ≤ ms; omega) (fun hE q9 => ?_)
      obtain ⟨sE, gE⟩ := q9
      refine r_aload_n dX5_newName_49 rfl ?_
      exact rx_ret (r_retr dX5_newName_50 rfl (Or.inl ⟨_, rfl⟩) (by show 0 + 4 + 0 + 4 ≤ mc; omega) (by show 0 + 24 + 0 + 24 ≤ ms; omega) ⟨⟨sw.2.1, f, m, sw.1.gz gE, hm, hf, hv9⟩, zw, by rw [eS]; exact ⟨h0, sE, (gA.tr gB).tr gE⟩⟩)
    · --
      have eo : (hereO tx n (teT tx n s.2) nm c).isSome = true := opt_some c2
      have eS := fresh_3 (o := hereO tx n (teT tx n s.2) nm c) hg1 ek eo
      have hmx := hmc.2.2 (by rw [eS]; show 3 ≠ 0; decide)
      rw [eS] at hmx
      have hmx1 : 5 * (teT tx n s.2 - s.2) + 1 ≤ mc := hmx.1
      have hmx2 : 40 * (teT tx n s.2 - s.2) + 8 ≤ ms := hmx.2
      refine r_wf (fun wf9 => ?_)
      refine r_new nX5_75 dX5_newName_27 (by show 0 + 4 + 0 + 1 ≤ mc; omega) (by show 0 + 24 + 0 + 8 ≤ ms; omega) ?_
      have kA : hK (nO hB 9 0) (hN hB) = 9 := nO_Kn
      have gC : Fg noC [] noC hB (nO hB 9 0) := Fg.nO wf9
      have cA : ev_c < hN hB := wf9.1
      have zA : hK hB (hN hB) = 0 := wf_0 wf9
      generalize nO hB 9 0 = hC at kA gC ⊢
      generalize hN hB = w at kA cA zA ⊢
      have iA : ∀ j, hI hC r j = hI hB r j := fun j => gC.i sB.1.1 (by decide) (fun z => z) j (fun _ => by simp)
      have hxA : hK hC r = 6 := gC.k sB.1.1 (by decide)
      refine r_dup dX5_newName_30 rfl ?_
      refine r_iconst (v := nI 3) dX5_newName_31 (by decide) ?_
      refine r_aload_n dX5_newName_32 rfl ?_
      refine r_getIv fX5_43 hxA (v := nI (taT tx n (teT tx n s.2))) ((iA 2).trans sB.2.1.2.1) rfl dX5_newName_33 ?_
      refine r_callIv lX5_77 (x8_init kA cA (nI 3) (nI (taT tx n (teT tx n s.2)))) (nz_ kA (by decide)) rfl rfl rfl rfl dX5_newName_36 (by show 0 + 4 + 0 + 1 + 0 ≤ mc; omega) (by show 0 + 24 + 0 + 8 + 0 ≤ ms; omega) (fun hD q9 => ?_)
      obtain ⟨i6, i7, gD⟩ := q9
      exact rx_athrow (gD.k kA (by decide)) dX5_newName_39 (rx_out (by decide) (cA) (by show 0 + 4 + 0 + 1 + 0 ≤ mc; omega) (by show 0 + 24 + 0 + 8 + 0 ≤ ms; omega) (by rw [eS]; exact ⟨(show 3 ≠ 0 by decide), cA, i6, i7, sB.2.2.2.2.1.tr (fg_new gC gD zA)⟩))
  · --
    have ek := of_decide_eq_false c1
    have eS := fresh_m (o := hereO tx n (teT tx n s.2) nm c) hg1 ek
    have hmx := hmc.2.2 (by rw [eS]; exact misP_bad tx n (goP tx n s))
    rw [eS] at hmx
    have hmx1 : 5 * (teT tx n s.2 - s.2) + 1 ≤ mc := hmx.1
    have hmx2 : 40 * (teT tx n s.2 - s.2) + 8 ≤ ms := hmx.2
    refine r_aload_n dX5_newName_11 rfl ?_
    refine r_callVr lX5_96 (x5_wrong sB) (sB.1.1) rfl rfl rfl rfl dX5_newName_12 (by show 0 + 4 + 0 + 1 ≤ mc; omega) (by show 0 + 24 + 0 + 8 ≤ ms; omega) (fun w hD q9 => ?_)
    obtain ⟨zD, cD, kD, i6, i7, gD⟩ := q9
    exact rx_athrow (kD) dX5_newName_15 (rx_out (by decide) (cD) (by show 0 + 4 + 0 + 1 ≤ mc; omega) (by show 0 + 24 + 0 + 8 ≤ ms; omega) (by rw [eS]; exact mis_x hg1 cD i6 i7 (sB.2.2.2.2.1.tr gD)))

theorem x5_newName10 {G : ev_G} {h hb : ev_H} {r n : Nat} {s : (Nat × Nat) × Nat} {tx : Nat → Int32} (hs : RS hb tx n r s.2 h) (h0 : s.1.1 = 0) (nb : tkT tx n s.2 ≠ 1) (n0 : tkT tx n s.2 ≠ 0) {l e c : Nat} {nm : Nat → Int64} (hL9 : NL 10 l e c nm h) (hc9 : c ≤ 100) (hd9 : Dst nm c) {mc ms : Nat} (hmc : Cst (freshP tx n (hereO tx n (teT tx n s.2) nm c) (goP tx n s)) s.2 mc ms) : CalledX G mX5_newName 7 mc ms [vR r, vR l] h (pR (fun w h1 => NmAt w (tnT tx n (teT tx n s.2)) h1 ∧ hK hb w = 0 ∧ XOk hb tx n r (freshP tx n (hereO tx n (teT tx n s.2) nm c) (goP tx n s)) h h1)) (XEx hb (freshP tx n (hereO tx n (teT tx n s.2) nm c) (goP tx n s))) := by
  refine calledX_of rfl [some (vR r), some (vR l), none] rfl (Nat.le_of_ble_eq_true rfl) ?_
  refine r_aload_n dX5_newName_0 rfl ?_
  refine r_callVv lX5_90 (x5_goR hs nb) (hs.1.1) rfl rfl rfl rfl dX5_newName_1 (by show 0 + 4 ≤ mc; have := hmc.1; have := te_gt_ (tx := tx) hs.2.2.1 n0; have : teT tx n s.2 ≤ (freshP tx n (hereO tx n (teT tx n s.2) nm c) (goP tx n s)).2 := fresh_ge (s := goP tx n s) (teT_le hs.2.2.1); omega) (by show 0 + 24 ≤ ms; have := hmc.2.1; have := te_gt_ (tx := tx) hs.2.2.1 n0; have : teT tx n s.2 ≤ (freshP tx n (hereO tx n (teT tx n s.2) nm c) (goP tx n s)).2 := fresh_ge (s := goP tx n s) (teT_le hs.2.2.1); omega) (fun hA q9 => ?_)
  obtain ⟨sA, gA⟩ := q9
  have hte := te_gt_ (tx := tx) hs.2.2.1 n0
  have hgo : (goP tx n s).2 = teT tx n s.2 := rfl
  have hg1 : (goP tx n s).1.1 = 0 := h0
  have hmg : teT tx n s.2 ≤ (freshP tx n (hereO tx n (teT tx n s.2) nm c) (goP tx n s)).2 := fresh_ge (s := goP tx n s) sA.2.2.1
  refine r_aload_n dX5_newName_4 rfl ?_
  refine r_callVi lX5_147 (x5_isName sA) (sA.1.1) rfl rfl rfl rfl dX5_newName_5 (by show 0 + 4 + 0 ≤ mc; have := hmc.1; omega) (by show 0 + 24 + 0 ≤ ms; have := hmc.2.1; omega) (fun y9 hB q9 => ?_)
  obtain ⟨rfl, sB, gB⟩ := q9
  have hmc1 := hmc.1
  have hmc2 := hmc.2.1
  refine r_ifB_ne (tgt := 16) dX5_newName_8 rfl (fun c1 => ?_) (fun c1 => ?_)
  · --
    have ek := of_decide_eq_true c1
    obtain ⟨⟨f, m, sw, hm, hf, hv9⟩, zw⟩ := sB.2.1.2.2.2.2 (Or.inl ek)
    have lB := (hL9.gz gA).gz gB
    have eH : laF nm (tnT tx n (teT tx n s.2)) c = optI (hereO tx n (teT tx n s.2) nm c) := la_here hd9 ek
    refine r_aload_n dX5_newName_16 rfl ?_
    refine r_aload_n dX5_newName_17 rfl ?_
    refine r_getRv fX5_17 sB.1.1 (v := hR hB r 8) rfl rfl dX5_newName_18 ?_
    refine r_callNSx lX5_151 ((by have z9 := x0_find10 (G := G) lB hc9 ⟨sw.1, hm, hf, hv9⟩; rw [eH] at z9; exact z9)) rfl rfl rfl rfl dX5_newName_21 (by show 0 + 4 + 0 ≤ mc; omega) (by show 0 + 24 + 0 ≤ ms; omega) ?_
    refine r_if_lt (tgt := 40) dX5_newName_24 rfl (fun c2 => ?_) (fun c2 => ?_)
    · --
      have eo : (hereO tx n (teT tx n s.2) nm c).isSome = false := opt_none c2
      have eS := fresh_g (o := hereO tx n (teT tx n s.2) nm c) hg1 ek eo
      rw [eS] at hmc1 hmc2
      have hmc1 : 5 * (teT tx n (teT tx n s.2) - s.2) ≤ mc := hmc1
      have hmc2 : 40 * (teT tx n (teT tx n s.2) - s.2) ≤ ms := hmc2
      have hte2 := te_gt_ (tx := tx) sA.2.2.1 (by rw [ek]; decide)
      refine r_aload_n dX5_newName_40 rfl ?_
      refine r_getRv fX5_17 sB.1.1 (v := hR hB r 8) rfl rfl dX5_newName_41 ?_
      refine r_astore_n dX5_newName_44 (by decide) rfl ?_
      refine r_aload_n dX5_newName_45 rfl ?_
      refine r_callVv lX5_90 (x5_goR sB (by rw [ek]; decide)) (sB.1.1) rfl rfl rfl rfl dX5_newName_46 (by show 0 + 4 + 0 + 4 ≤ mc; omega) (by show 0 + 24 + 0 + 24 ≤ ms; omega) (fun hE q9 => ?_)
      obtain ⟨sE, gE⟩ := q9
      refine r_aload_n dX5_newName_49 rfl ?_
      exact rx_ret (r_retr dX5_newName_50 rfl (Or.inl ⟨_, rfl⟩) (by show 0 + 4 + 0 + 4 ≤ mc; omega) (by show 0 + 24 + 0 + 24 ≤ ms; omega) ⟨⟨sw.2.1, f, m, sw.1.gz gE, hm, hf, hv9⟩, zw, by rw [eS]; exact ⟨h0, sE, (gA.tr gB).tr gE⟩⟩)
    · --
      have eo : (hereO tx n (teT tx n s.2) nm c).isSome = true := opt_some c2
      have eS := fresh_3 (o := hereO tx n (teT tx n s.2) nm c) hg1 ek eo
      have hmx := hmc.2.2 (by rw [eS]; show 3 ≠ 0; decide)
      rw [eS] at hmx
      have hmx1 : 5 * (teT tx n s.2 - s.2) + 1 ≤ mc := hmx.1
      have hmx2 : 40 * (teT tx n s.2 - s.2) + 8 ≤ ms := hmx.2
      refine r_wf (fun wf9 => ?_)
      refine r_new nX5_75 dX5_newName_27 (by show 0 + 4 + 0 + 1 ≤ mc; omega) (by show 0 + 24 + 0 + 8 ≤ ms; omega) ?_
      have kA : hK (nO hB 9 0) (hN hB) = 9 := nO_Kn
      have gC : Fg noC [] noC hB (nO hB 9 0) := Fg.nO wf9
      have cA : ev_c < hN hB := wf9.1
      have zA : hK hB (hN hB) = 0 := wf_0 wf9
      generalize nO hB 9 0 = hC at kA gC ⊢
      generalize hN hB = w at kA cA zA ⊢
      have iA : ∀ j, hI hC r j = hI hB r j := fun j => gC.i sB.1.1 (by decide) (fun z => z) j (fun _ => by simp)
      have hxA : hK hC r = 6 := gC.k sB.1.1 (by decide)
      refine r_dup dX5_newName_30 rfl ?_
      refine r_iconst (v := nI 3) dX5_newName_31 (by decide) ?_
      refine r_aload_n dX5_newName_32 rfl ?_
      refine r_getIv fX5_43 hxA (v := nI (taT tx n (teT tx n s.2))) ((iA 2).trans sB.2.1.2.1) rfl dX5_newName_33 ?_
      refine r_callIv lX5_77 (x8_init kA cA (nI 3) (nI (taT tx n (teT tx n s.2)))) (nz_ kA (by decide)) rfl rfl rfl rfl dX5_newName_36 (by show 0 + 4 + 0 + 1 + 0 ≤ mc; omega) (by show 0 + 24 + 0 + 8 + 0 ≤ ms; omega) (fun hD q9 => ?_)
      obtain ⟨i6, i7, gD⟩ := q9
      exact rx_athrow (gD.k kA (by decide)) dX5_newName_39 (rx_out (by decide) (cA) (by show 0 + 4 + 0 + 1 + 0 ≤ mc; omega) (by show 0 + 24 + 0 + 8 + 0 ≤ ms; omega) (by rw [eS]; exact ⟨(show 3 ≠ 0 by decide), cA, i6, i7, sB.2.2.2.2.1.tr (fg_new gC gD zA)⟩))
  · --
    have ek := of_decide_eq_false c1
    have eS := fresh_m (o := hereO tx n (teT tx n s.2) nm c) hg1 ek
    have hmx := hmc.2.2 (by rw [eS]; exact misP_bad tx n (goP tx n s))
    rw [eS] at hmx
    have hmx1 : 5 * (teT tx n s.2 - s.2) + 1 ≤ mc := hmx.1
    have hmx2 : 40 * (teT tx n s.2 - s.2) + 8 ≤ ms := hmx.2
    refine r_aload_n dX5_newName_11 rfl ?_
    refine r_callVr lX5_96 (x5_wrong sB) (sB.1.1) rfl rfl rfl rfl dX5_newName_12 (by show 0 + 4 + 0 + 1 ≤ mc; omega) (by show 0 + 24 + 0 + 8 ≤ ms; omega) (fun w hD q9 => ?_)
    obtain ⟨zD, cD, kD, i6, i7, gD⟩ := q9
    exact rx_athrow (kD) dX5_newName_15 (rx_out (by decide) (cD) (by show 0 + 4 + 0 + 1 ≤ mc; omega) (by show 0 + 24 + 0 + 8 ≤ ms; omega) (by rw [eS]; exact mis_x hg1 cD i6 i7 (sB.2.2.2.2.1.tr gD)))
