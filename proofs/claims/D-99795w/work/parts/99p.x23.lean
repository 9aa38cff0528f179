/-! ===== THE SYSTEM: what is sure, what to ask (walks by program) ===== -/
set_option maxRecDepth 100000

def suF (p : Nat → Bool) (S w : Nat) : Nat → Int32
  | 0 => -3
  | n + 1 => if p n then chV S n w else suF p S w n
section SU
variable {p : Nat → Bool} {S w v n : Nat}
theorem suF_t (h : p v = true) : suF p S w (v + 1) = chV S v w := if_pos h
theorem suF_f (h : p v = false) : suF p S w (v + 1) = suF p S w v := if_neg (by rw [h]; decide)
theorem ch_n3 (S v w : Nat) (hv : v < 2 ^ 31) : chV S v w ≠ -3 := by
  unfold chV
  split
  · decide
  · have h1 := skI_le S v w
    intro e
    have := nI_pos (show skI S v w < 2 ^ 31 by omega)
    rw [e] at this
    exact this (by decide)
theorem su_0 (q : ∀ v', v' < v → p v' = true → chV S v' w = suF p S w v) (h : p v = false) : ∀ v', v' < v + 1 → p v' = true → chV S v' w = suF p S w (v + 1) := fun v' a c => by
  rw [suF_f h]
  by_cases e : v' = v
  · subst e; rw [h] at c; cases c
  · exact q v' (by omega) c
theorem su_b (q : ∀ v', v' < v → p v' = true → chV S v' w = suF p S w v) (h : p v = true) (e : suF p S w v = chV S v w) : ∀ v', v' < v + 1 → p v' = true → chV S v' w = suF p S w (v + 1) := fun v' a c => by
  rw [suF_t h, ← e]
  by_cases e2 : v' = v
  · subst e2; exact e.symm
  · exact q v' (by omega) c
theorem su_a (q : ∀ v', v' < v → p v' = true → chV S v' w = suF p S w v) (h : p v = true) (e : suF p S w v = -3) (hv : v < 2 ^ 31 := by omega) : ∀ v', v' < v + 1 → p v' = true → chV S v' w = suF p S w (v + 1) := fun v' a c => by
  rw [suF_t h]
  by_cases e2 : v' = v
  · subst e2; rfl
  · exact absurd ((q v' (by omega) c).trans e) (ch_n3 S v' w (by omega))
theorem su_l : ∀ v, suF p S w v ≠ -3 → ∃ v', v' < v ∧ p v' = true ∧ chV S v' w = suF p S w v
  | 0, h => absurd rfl h
  | v + 1, h => by
    cases e : p v with
    | true => exact ⟨v, by omega, e, (suF_t e).symm⟩
    | false =>
      rw [suF_f e] at h ⊢
      obtain ⟨v', a, c, d⟩ := su_l v h
      exact ⟨v', by omega, c, d⟩
theorem pt_le {i s : Nat} : ∀ n, ptN p S i s n ≤ rfN p n
  | 0 => Nat.le_refl _
  | n + 1 => by
    have := pt_le (i := i) (s := s) n
    unfold ptN rfN
    by_cases e : p n = true
    · rw [if_pos e]; split <;> omega
    · rw [if_neg e, if_neg (fun z => e z.1)]; exact this
theorem pt_lt {i s v : Nat} (hp : p v = true) (hs : skI S v i ≠ s) : ∀ n, v < n → ptN p S i s n < rfN p n
  | 0, h => absurd h (by omega)
  | n + 1, h => by
    unfold ptN rfN
    by_cases e2 : v = n
    · subst e2
      rw [if_pos hp, if_neg (fun z => hs z.2)]
      have := pt_le (p := p) (S := S) (i := i) (s := s) v
      omega
    · have := pt_lt hp hs n (by omega)
      by_cases e : p n = true
      · rw [if_pos e]; split <;> omega
      · rw [if_neg e, if_neg (fun z => e z.1)]; exact this
theorem pt_eq {i s : Nat} : ∀ n, (∀ v, v < n → p v = true → skI S v i = s) → ptN p S i s n = rfN p n
  | 0, _ => rfl
  | n + 1, h => by
    have ih := pt_eq (i := i) (s := s) n (fun v a c => h v (by omega) c)
    unfold ptN rfN
    by_cases e : p n = true
    · rw [if_pos e, if_pos ⟨e, h n (by omega) e⟩, ih]
    · rw [if_neg e, if_neg (fun z => e z.1), ih]
theorem first_none {q : Nat → Bool} : ∀ n, (∀ s, s < n → q s = false) → firstOf n q = none
  | 0, _ => rfl
  | n + 1, h => first_f (first_none n (fun s a => h s (by omega))) (h n (by omega))
theorem first_at {q : Nat → Bool} {n s : Nat} (hs : s < n) (h0 : ∀ s', s' < s → q s' = false) (h : q s = true) : firstOf n q = some s := by
  have := first_t (first_none s h0) h (n - (s + 1))
  rwa [show s + 1 + (n - (s + 1)) = n by omega] at this
theorem rf_ex : ∀ n, rfN p n ≠ 0 → ∃ v, v < n ∧ p v = true
  | 0, h => absurd rfl h
  | n + 1, h => by
    cases e : p n with
    | true => exact ⟨n, by omega, e⟩
    | false =>
      have : rfN p (n + 1) = rfN p n := if_neg (by rw [e]; decide)
      rw [this] at h
      obtain ⟨v, a, c⟩ := rf_ex n h
      exact ⟨v, by omega, c⟩
theorem ch_inj {v v' : Nat} (h1 : skI S v w ≤ S) (h2 : skI S v' w ≤ S) (hS : S < 2 ^ 31) (e : chV S v w = chV S v' w) : skI S v w = skI S v' w := by
  have neg : ∀ m, m < 2 ^ 31 → nI m ≠ -1 := fun m hm z => by
    have := nI_pos hm
    rw [z] at this
    exact this (by decide)
  unfold chV at e
  by_cases a : nI (skI S v w) = nI S
  · rw [if_pos a] at e
    by_cases c : nI (skI S v' w) = nI S
    · have a := (neq (by omega) (by omega)).mp a
      have c := (neq (by omega) (by omega)).mp c
      omega
    · rw [if_neg c] at e
      exact absurd e.symm (neg _ (by omega))
  · rw [if_neg a] at e
    by_cases c : nI (skI S v' w) = nI S
    · rw [if_pos c] at e
      exact absurd e (neg _ (by omega))
    · rw [if_neg c] at e
      exact (neq (by omega) (by omega)).mp e
end SU
section SV
variable {b : Bk} {R : HR} {nh j v : Nat} {k p wh : Int32}
theorem mm_hid (hb : BW b) : (if nI (nT b) - nI 1 < nI 1 then nI (nT b) - nI 1 else nI 1) = nI (hid b) - 1 := by
  have h10 := hb.t10
  unfold hid
  by_cases e0 : nT b = 0
  · rw [e0]; decide
  · rw [pk_sub (show 1 ≤ nT b by omega)]
    by_cases e : nT b < 2
    · rw [if_pos ((nlt (by omega) (by omega)).mpr (by omega)), if_pos e]
      exact (pk_sub (show 1 ≤ nT b by omega)).symm
    · rw [if_neg (fun z => by have := (nlt (by omega) (by omega)).mp z; omega), if_neg e]
      rfl
theorem sv_0 (c : isInV (nI j) 0 (nI (hid b) - 1) = true) (e : rfN (rfV b R nh k) (nRow b) = 0) : -3 = sureV b R nh (nI j) k := by
  unfold sureV
  rw [if_pos c, if_pos e]
theorem sv_g (c : isInV (nI j) 0 (nI (hid b) - 1) = true) (hj : j < 2 ^ 31) (e : rfN (rfV b R nh k) (nRow b) ≠ 0) (hv : v < nRow b) (hp : rfV b R nh k v = true) (n3 : ¬ suF (rfV b R nh k) (nS b) j v = -3) (nc : ¬ suF (rfV b R nh k) (nS b) j v = chV (nS b) v j) : -2 = sureV b R nh (nI j) k := by
  obtain ⟨v', a', c', d'⟩ := su_l v n3
  unfold sureV
  rw [if_pos c, if_neg e, nI_clamp hj, first_none]
  intro s hs
  refine decide_eq_false (fun z => ?_)
  by_cases q : skI (nS b) v j = s
  · have q' : skI (nS b) v' j ≠ s := fun q' => nc (by rw [← d']; unfold chV; rw [q, q'])
    have := pt_lt c' q' (nRow b) (by omega)
    omega
  · have := pt_lt hp q (nRow b) hv
    omega
theorem sv_e (c : isInV (nI j) 0 (nI (hid b) - 1) = true) (hj : j < hid b) (e : rfN (rfV b R nh k) (nRow b) ≠ 0) (q : ∀ v', v' < nRow b → rfV b R nh k v' = true → chV (nS b) v' j = suF (rfV b R nh k) (nS b) j (nRow b)) (hb : BW b) : suF (rfV b R nh k) (nS b) j (nRow b) = sureV b R nh (nI j) k := by
  obtain ⟨v, hv, hp⟩ := rf_ex _ e
  have hh := hid_2 b
  have h5 := hb.s5
  have h36 := nRow_36 hb
  have hle := nRow_le b
  have sk : ∀ v, v < nRow b → skI (nS b) v j ≤ nS b := fun v hv => sk_le (by omega) hj
  have all : ∀ v', v' < nRow b → rfV b R nh k v' = true → skI (nS b) v' j = skI (nS b) v j := fun v' a c => ch_inj (sk v' a) (sk v hv) (by omega) ((q v' a c).trans (q v hv hp).symm)
  unfold sureV
  rw [if_pos c, if_neg e, nI_clamp (by omega), first_at (s := skI (nS b) v j) (by have := sk v hv; omega) ?_ ?_, ← q v hv hp, ch_eq hb (by omega)]
  · intro s' hs'
    refine decide_eq_false (fun z => ?_)
    have := pt_lt hp (show skI (nS b) v j ≠ s' by omega) (nRow b) hv
    omega
  · exact decide_eq_true (pt_eq _ all)
theorem ra_0 (c : isInV wh 0 1 = true) (s0 : ¬ nI (nS b) = 0) (e : rfN (rfV b R nh k) (nRow b) = 0) : -1 = rowAsk b R nh wh k := by
  unfold rowAsk
  rw [if_pos (by rw [c, decide_eq_false s0]; rfl), if_pos e]
theorem ra_b (c : isInV wh 0 1 = true) (s0 : ¬ nI (nS b) = 0) (e : rfN (rfV b R nh k) (nRow b) ≠ 0) (w0 : wh = 0) : nI (abN (fun s => moN b (rfV b R nh k) s (nRow b)) (nS b)) = rowAsk b R nh wh k := by
  unfold rowAsk
  rw [if_pos (by rw [c, decide_eq_false s0]; rfl), if_neg e, if_pos w0]
theorem ra_w (c : isInV wh 0 1 = true) (s0 : ¬ nI (nS b) = 0) (e : rfN (rfV b R nh k) (nRow b) ≠ 0) (w0 : ¬ wh = 0) : nI (moN b (rfV b R nh k) (abN (fun s => moN b (rfV b R nh k) s (nRow b)) (nS b)) (nRow b)) = rowAsk b R nh wh k := by
  unfold rowAsk
  rw [if_pos (by rw [c, decide_eq_false s0]; rfl), if_neg e, if_neg w0]
theorem x0_leftByM {G : ev_G} {K : XK} {T : Nat → Int32} {h : ev_H} (hm : XM b K T h) {p : Nat → Bool} {s : Nat} (hs : s < nS b) (hF : ∀ v, v < nRow b → hI h 132 v = b2i (p v)) (hC : ∀ v s, v < nRow b → s < nS b → hI h (96 + v) s = nI (myN b v s)) : Called G mX0_leftBy 4 0 0 [vR 64, vI (nI s)] h (px (vI (nI (moN b p s (nRow b)))) h) := by
  have q := x0_leftBy (G := G) hm hs hF hC
  rw [mo_mx hm.bw (nRow b)] at q
  exact q
end SV

theorem x0_sure {G : ev_G} {b : Bk} {K : XK} {T : Nat → Int32} {h : ev_H} (hm : XM b K T h) {R : HR} {nh : Nat} (hS : XN R nh h) (hRs : ∀ n, n < nh → ∃ s, s < nS b ∧ R.s n = nI s) (hRi : ∀ n, n < nh → ∃ is, R.i n = b2i is) (p k9 : Int32) : Called G mX0_sure 315 0 0 [vR 64, vI p, vI k9] h (pI (fun y h1 => y = sureV b R nh p k9 ∧ (h1 = h ∨ Fw (S5 K) [] h h1))) := by
  have hb := hm.xb
  have hT := hm.xt
  have hl := hm.lay
  have hw := hm.bw
  have hb1 := hw.p6
  have hb2 := hw.s5
  have hb3 := hw.t10
  have hw9 := hm.tw
  have h36 := nRow_36 hw
  have hh2 := hid_2 b
  refine called_of rfl [some (vR 64), some (vI p), some (vI k9), none, none] rfl (Nat.le_of_ble_eq_true rfl) ?_
  refine r_iload_n dX0_sure_0 rfl ?_
  refine r_iconst (v := 0) dX0_sure_1 (by decide) ?_
  refine r_iconst (v := nI 1) dX0_sure_2 (by decide) ?_
  refine r_aload_n dX0_sure_3 rfl ?_
  refine r_callVx lX0_140 (x0_things hm) (hl.k) rfl rfl rfl rfl dX0_sure_4 (Nat.le_refl _) (Nat.le_refl _) ?_
  refine r_iconst (v := nI 1) dX0_sure_7 (by decide) ?_
  refine r_isub dX0_sure_8 ?_
  refine r_mmin q1615 (by decide) (by decide) rfl (Nat.zero_le _) (Nat.zero_le _) dX0_sure_9 ?_
  refine r_top ((nI (hid b)) - 1) (mm_hid hw) ?_
  refine r_callSx lX0_155 (x0_isIn _ _ _) rfl rfl rfl rfl dX0_sure_12 (Nat.le_refl _) (Nat.le_refl _) ?_
  refine r_ifB_eq (tgt := 26) dX0_sure_15 rfl (fun c1 => ?_) (fun c1 => ?_)
  · --
    refine r_bipush (v := (-3)) dX0_sure_26 (by decide) ?_
    exact r_reti dX0_sure_28 rfl rfl (Nat.le_refl _) (Nat.le_refl _) (⟨(if_neg (by rw [c1]; decide)).symm, Or.inl rfl⟩)
  · --
    obtain ⟨j, hj, rfl⟩ := (isIn_n (by omega) p).mp c1
    refine r_aload_n dX0_sure_18 rfl ?_
    refine r_iload_n dX0_sure_19 rfl ?_
    refine r_callVi lX0_365 (x0_layRows hm hS hRs hRi k9) (hl.k) rfl rfl rfl rfl dX0_sure_20 (Nat.le_refl _) (Nat.le_refl _) (fun y9 hA q9 => ?_)
    obtain ⟨rfl, kA, hC, hF⟩ := q9
    have hmA := hm.f5 kA
    have hle := rfN_le (rfV b R nh k9) (nRow b)
    have hbA := hmA.xb
    have hTA := hmA.xt
    have hlA := hmA.lay
    refine r_if_ne (tgt := 29) dX0_sure_23 rfl (fun c2 => ?_) (fun c2 => ?_)
    · --
      refine r_bipush (v := (-3)) dX0_sure_29 (by decide) ?_
      refine r_istore_n dX0_sure_31 (by decide) rfl ?_
      refine r_iconst (v := nI 0) dX0_sure_32 (by decide) ?_
      refine r_istore dX0_sure_33 (by decide) rfl ?_
      refine r_L (L2 := [some (vR 64), some (vI (nI j)), some (vI k9), some (vI (suF (rfV b R nh k9) (nS b) j 0)), some (vI (nI 0))]) rfl ?_
      refine (ev_for (P := fun v => (∀ v', v' < v → rfV b R nh k9 v' = true → chV (nS b) v' j = suF (rfV b R nh k9) (nS b) j v) → Ev G mX0_sure (ev_room 315 0 0) (ev_MQ G (pI (fun y h1 => y = sureV b R nh (nI j) k9 ∧ (h1 = h ∨ Fw (S5 K) [] h h1))) 0 0) 35 [some (vR 64), some (vI (nI j)), some (vI k9), some (vI (suF (rfV b R nh k9) (nS b) j v)), some (vI (nI v))] [] hA 0 0) (nRow b) (fun v hkv ihv qv => ?_)) 0 (Nat.zero_le _) (fun _ z => absurd z (by omega))
      refine r_iload dX0_sure_35 rfl ?_
      refine r_aload_n dX0_sure_37 rfl ?_
      refine r_callVx lX0_356 (x0_rowsInAll hmA) (hlA.k) rfl rfl rfl rfl dX0_sure_38 (Nat.le_refl _) (Nat.le_refl _) ?_
      refine r_icmpN_ge (tgt := 91) dX0_sure_41 rfl (by omega) (by omega) (fun c3 => ?_) (fun c3 => ?_)
      · --
        refine r_iload_n dX0_sure_91 rfl ?_
        have hv9 : v = nRow b := by omega
        subst hv9
        exact r_reti dX0_sure_92 rfl rfl (Nat.le_refl _) (Nat.le_refl _) (⟨sv_e c1 hj (fun e => c2 (by rw [e]; rfl)) qv hw, Or.inr kA⟩)
      · --
        refine r_aload_n dX0_sure_44 rfl ?_
        refine r_getRv fX0_95 (hlA.k) (v := 132) (hlA.r 21 (by decide) (by decide)) rfl dX0_sure_45 ?_
        refine r_iload dX0_sure_48 rfl ?_
        refine r_zaldv (hlA.fit.1) (hlA.fit.2) (ix_n (by omega) (by decide)) (v := b2i (rfV b R nh k9 v)) (hF v (by omega)) dX0_sure_50 ?_
        refine r_ifB_ne (tgt := 57) dX0_sure_51 rfl (fun c4 => ?_) (fun c4 => ?_)
        · --
          refine r_iload_n dX0_sure_57 rfl ?_
          refine r_bipush (v := (-3)) dX0_sure_58 (by decide) ?_
          refine r_icmp_eq (tgt := 77) dX0_sure_60 rfl (fun c5 => ?_) (fun c5 => ?_)
          · --
            refine r_aload_n dX0_sure_77 rfl ?_
            refine r_iload dX0_sure_78 rfl ?_
            refine r_iload_n dX0_sure_80 rfl ?_
            refine r_callVx lX0_359 (x0_choice hmA (v := v) (w := j) (by omega)) (hlA.k) rfl rfl rfl rfl dX0_sure_81 (Nat.le_refl _) (Nat.le_refl _) ?_
            refine r_istore_n dX0_sure_84 (by decide) rfl ?_
            refine r_iincN (n := 1) dX0_sure_85 rfl rfl (by decide) rfl ?_
            refine r_goto (tgt := 35) dX0_sure_88 rfl ?_
            exact r_L (by rw [suF_t (p := (rfV b R nh k9)) (S := nS b) (w := j) (v := v) c4]; rfl) (ihv (by omega) (su_a qv c4 c5))
          · --
            refine r_iload_n dX0_sure_63 rfl ?_
            refine r_aload_n dX0_sure_64 rfl ?_
            refine r_iload dX0_sure_65 rfl ?_
            refine r_iload_n dX0_sure_67 rfl ?_
            refine r_callVx lX0_359 (x0_choice hmA (v := v) (w := j) (by omega)) (hlA.k) rfl rfl rfl rfl dX0_sure_68 (Nat.le_refl _) (Nat.le_refl _) ?_
            refine r_icmp_eq (tgt := 77) dX0_sure_71 rfl (fun c6 => ?_) (fun c6 => ?_)
            · --
              refine r_aload_n dX0_sure_77 rfl ?_
              refine r_iload dX0_sure_78 rfl ?_
              refine r_iload_n dX0_sure_80 rfl ?_
              refine r_callVx lX0_359 (x0_choice hmA (v := v) (w := j) (by omega)) (hlA.k) rfl rfl rfl rfl dX0_sure_81 (Nat.le_refl _) (Nat.le_refl _) ?_
              refine r_istore_n dX0_sure_84 (by decide) rfl ?_
              refine r_iincN (n := 1) dX0_sure_85 rfl rfl (by decide) rfl ?_
              refine r_goto (tgt := 35) dX0_sure_88 rfl ?_
              exact r_L (by rw [suF_t (p := (rfV b R nh k9)) (S := nS b) (w := j) (v := v) c4]; rfl) (ihv (by omega) (su_b qv c4 c6))
            · --
              refine r_bipush (v := (-2)) dX0_sure_74 (by decide) ?_
              exact r_reti dX0_sure_76 rfl rfl (Nat.le_refl _) (Nat.le_refl _) (⟨sv_g c1 (by omega) (fun e => c2 (by rw [e]; rfl)) (show v < nRow b by omega) c4 c5 c6, Or.inr kA⟩)
        · --
          refine r_goto (tgt := 85) dX0_sure_54 rfl ?_
          refine r_iincN (n := 1) dX0_sure_85 rfl rfl (by decide) rfl ?_
          refine r_goto (tgt := 35) dX0_sure_88 rfl ?_
          exact r_L (by rw [suF_f (p := (rfV b R nh k9)) (S := nS b) (w := j) (v := v) c4]; rfl) (ihv (by omega) (su_0 qv c4))
    · --
      refine r_bipush (v := (-3)) dX0_sure_26 (by decide) ?_
      exact r_reti dX0_sure_28 rfl rfl (Nat.le_refl _) (Nat.le_refl _) (⟨sv_0 c1 (nI_z (by omega) c2), Or.inr kA⟩)

theorem x0_ask {G : ev_G} {b : Bk} {K : XK} {T : Nat → Int32} {h : ev_H} (hm : XM b K T h) {R : HR} {nh : Nat} (hS : XN R nh h) (hRs : ∀ n, n < nh → ∃ s, s < nS b ∧ R.s n = nI s) (hRi : ∀ n, n < nh → ∃ is, R.i n = b2i is) (wh k9 : Int32) : Called G mX0_ask 315 0 0 [vR 64, vI wh, vI k9] h (pI (fun y h1 => y = rowAsk b R nh wh k9 ∧ (h1 = h ∨ Fw (S5 K) [] h h1))) := by
  have hb := hm.xb
  have hT := hm.xt
  have hl := hm.lay
  have hw := hm.bw
  have hb1 := hw.p6
  have hb2 := hw.s5
  have hb3 := hw.t10
  have hw9 := hm.tw
  have h36 := nRow_36 hw
  refine called_of rfl [some (vR 64), some (vI wh), some (vI k9), none, none] rfl (Nat.le_of_ble_eq_true rfl) ?_
  refine r_iload_n dX0_ask_0 rfl ?_
  refine r_iconst (v := 0) dX0_ask_1 (by decide) ?_
  refine r_iconst (v := 1) dX0_ask_2 (by decide) ?_
  refine r_callSx lX0_155 (x0_isIn _ _ _) rfl rfl rfl rfl dX0_ask_3 (Nat.le_refl _) (Nat.le_refl _) ?_
  refine r_ifB_eq (tgt := 24) dX0_ask_6 rfl (fun c1 => ?_) (fun c1 => ?_)
  · --
    refine r_iconst (v := (-1)) dX0_ask_24 (by decide) ?_
    exact r_reti dX0_ask_25 rfl rfl (Nat.le_refl _) (Nat.le_refl _) (⟨(if_neg (by simp [c1])).symm, Or.inl rfl⟩)
  · --
    refine r_aload_n dX0_ask_9 rfl ?_
    refine r_callVx lX0_153 (x0_sacks hm) (hl.k) rfl rfl rfl rfl dX0_ask_10 (Nat.le_refl _) (Nat.le_refl _) ?_
    refine r_if_eq (tgt := 24) dX0_ask_13 rfl (fun c2 => ?_) (fun c2 => ?_)
    · --
      refine r_iconst (v := (-1)) dX0_ask_24 (by decide) ?_
      exact r_reti dX0_ask_25 rfl rfl (Nat.le_refl _) (Nat.le_refl _) (⟨(if_neg (by simp [c1, c2])).symm, Or.inl rfl⟩)
    · --
      refine r_aload_n dX0_ask_16 rfl ?_
      refine r_iload_n dX0_ask_17 rfl ?_
      refine r_callVi lX0_365 (x0_layRows hm hS hRs hRi k9) (hl.k) rfl rfl rfl rfl dX0_ask_18 (Nat.le_refl _) (Nat.le_refl _) (fun y9 hA q9 => ?_)
      obtain ⟨rfl, kA, hC, hF⟩ := q9
      have hmA := hm.f5 kA
      have hle := rfN_le (rfV b R nh k9) (nRow b)
      have hbA := hmA.xb
      have hTA := hmA.xt
      have hlA := hmA.lay
      refine r_if_ne (tgt := 26) dX0_ask_21 rfl (fun c3 => ?_) (fun c3 => ?_)
      · --
        have hs0 : 0 < nS b := Nat.pos_of_ne_zero (fun e => c2 (by rw [e]; rfl))
        refine r_iconst (v := nI 0) dX0_ask_26 (by decide) ?_
        refine r_istore_n dX0_ask_27 (by decide) rfl ?_
        refine r_iconst (v := nI 1) dX0_ask_28 (by decide) ?_
        refine r_istore dX0_ask_29 (by decide) rfl ?_
        refine r_L (L2 := [some (vR 64), some (vI wh), some (vI k9), some (vI (nI (abN (fun s => moN b (rfV b R nh k9) s (nRow b)) 1))), some (vI (nI 1))]) rfl ?_
        refine (ev_for (P := fun s => (1 ≤ s) → Ev G mX0_ask (ev_room 315 0 0) (ev_MQ G (pI (fun y h1 => y = rowAsk b R nh wh k9 ∧ (h1 = h ∨ Fw (S5 K) [] h h1))) 0 0) 31 [some (vR 64), some (vI wh), some (vI k9), some (vI (nI (abN (fun s => moN b (rfV b R nh k9) s (nRow b)) s))), some (vI (nI s))] [] hA 0 0) (nS b) (fun s hks ihs qs => ?_)) 1 (by omega) (Nat.le_refl _)
        have hab := abN_lt (fun s => moN b (rfV b R nh k9) s (nRow b)) (show 0 < s by omega)
        have hm1 := moN_le b (rfV b R nh k9) s (nRow b)
        have hm2 := moN_le b (rfV b R nh k9) (abN (fun s => moN b (rfV b R nh k9) s (nRow b)) s) (nRow b)
        refine r_iload dX0_ask_31 rfl ?_
        refine r_aload_n dX0_ask_33 rfl ?_
        refine r_callVx lX0_153 (x0_sacks hmA) (hlA.k) rfl rfl rfl rfl dX0_ask_34 (Nat.le_refl _) (Nat.le_refl _) ?_
        refine r_icmpN_ge (tgt := 67) dX0_ask_37 rfl (by omega) (by omega) (fun c4 => ?_) (fun c4 => ?_)
        · --
          refine r_iload_n dX0_ask_67 rfl ?_
          refine r_if_ne (tgt := 75) dX0_ask_68 rfl (fun c5 => ?_) (fun c5 => ?_)
          · --
            refine r_aload_n dX0_ask_75 rfl ?_
            refine r_iload_n dX0_ask_76 rfl ?_
            refine r_callVx lX0_376 (x0_leftByM hmA (s := (abN (fun s => moN b (rfV b R nh k9) s (nRow b)) s)) (by omega) hF hC) (hlA.k) rfl rfl rfl rfl dX0_ask_77 (Nat.le_refl _) (Nat.le_refl _) ?_
            have hs9 : s = nS b := by omega
            subst hs9
            exact r_reti dX0_ask_80 rfl rfl (Nat.le_refl _) (Nat.le_refl _) (⟨ra_w c1 c2 (fun e => c3 (by rw [e]; rfl)) c5, Or.inr kA⟩)
          · --
            refine r_iload_n dX0_ask_71 rfl ?_
            refine r_goto (tgt := 80) dX0_ask_72 rfl ?_
            have hs9 : s = nS b := by omega
            subst hs9
            exact r_reti dX0_ask_80 rfl rfl (Nat.le_refl _) (Nat.le_refl _) (⟨ra_b c1 c2 (fun e => c3 (by rw [e]; rfl)) c5, Or.inr kA⟩)
        · --
          refine r_aload_n dX0_ask_40 rfl ?_
          refine r_iload dX0_ask_41 rfl ?_
          refine r_callVx lX0_376 (x0_leftByM hmA (s := s) (by omega) hF hC) (hlA.k) rfl rfl rfl rfl dX0_ask_43 (Nat.le_refl _) (Nat.le_refl _) ?_
          refine r_aload_n dX0_ask_46 rfl ?_
          refine r_iload_n dX0_ask_47 rfl ?_
          refine r_callVx lX0_376 (x0_leftByM hmA (s := (abN (fun s => moN b (rfV b R nh k9) s (nRow b)) s)) (by omega) hF hC) (hlA.k) rfl rfl rfl rfl dX0_ask_48 (Nat.le_refl _) (Nat.le_refl _) ?_
          refine r_icmpN_ge (tgt := 59) dX0_ask_51 rfl (by omega) (by omega) (fun c6 => ?_) (fun c6 => ?_)
          · --
            refine r_iload_n dX0_ask_59 rfl ?_
            refine r_istore_n dX0_ask_60 (by decide) rfl ?_
            refine r_iincN (n := 1) dX0_ask_61 rfl rfl (by decide) rfl ?_
            refine r_goto (tgt := 31) dX0_ask_64 rfl ?_
            exact r_L (by rw [abN_f (f := (fun s => moN b (rfV b R nh k9) s (nRow b))) (n := s) c6]; rfl) (ihs (by omega) (by omega))
          · --
            refine r_iload dX0_ask_54 rfl ?_
            refine r_goto (tgt := 60) dX0_ask_56 rfl ?_
            refine r_istore_n dX0_ask_60 (by decide) rfl ?_
            refine r_iincN (n := 1) dX0_ask_61 rfl rfl (by decide) rfl ?_
            refine r_goto (tgt := 31) dX0_ask_64 rfl ?_
            exact r_L (by rw [abN_t (f := (fun s => moN b (rfV b R nh k9) s (nRow b))) (n := s) (by omega) c6]; rfl) (ihs (by omega) (by omega))
      · --
        refine r_iconst (v := (-1)) dX0_ask_24 (by decide) ?_
        exact r_reti dX0_ask_25 rfl rfl (Nat.le_refl _) (Nat.le_refl _) (⟨ra_0 c1 c2 (nI_z (by omega) c3), Or.inr kA⟩)
