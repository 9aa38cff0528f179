/-! ===== THE SYSTEM: lines (walks by program) ===== -/
set_option maxRecDepth 100000

def S6 (a : Nat) : Prop := a = 85 ∨ a = 86
def S7 (a : Nat) : Prop := a = 84 ∨ a = 85 ∨ a = 86
theorem ev_rok_l {d e k n mc ms : Nat} (hk : k + 1 ≤ e) (hn : n ≤ 21) : ev_rok (ev_room (d + e) mc ms) k n = true := by
  unfold ev_rok
  rw [Bool.and_eq_true]
  exact ⟨Nat.ble_eq_true_of_le (by show k + 1 ≤ d + e; omega), Nat.ble_eq_true_of_le (by show 8 + (n + 11) + 40 * k ≤ 40 * (d + e); omega)⟩
section LU
variable {b : Bk} {K : XK} {T : Nat → Int32} {h h1 : ev_H} {n v L B p : Nat} {R : Nat → Int32}
theorem s67 {F : List Nat} (q : Fw S6 [18] h h1) (hF : 18 ∈ F := by simp) : Fw S7 F h h1 := q.wk (fun a z => Or.inr z) (fun k hk => by rw [List.mem_singleton.mp hk]; exact hF)
theorem XM.f7 {F : List Nat} (x : XM b K T h) (p : Fw S7 F h h1) : XM b K T h1 := by
  have ok : ∀ a, S7 a → okX (hK h a) = true := fun a ha => by
    rcases ha with e | e | e
    · rw [e, x.lay.lies.1]; rfl
    · rw [e, x.lay.row.1]; rfl
    · rw [e, x.lay.best.1]; rfl
  exact ⟨x.lay.fw p, by rw [p.2.2.2.1 64 (by decide)]; exact x.bk, x.xb.fw p ok x.lay.k x.lay.were.1, x.xt.fw p x.lay.k x.lay.were.1 (fun z => by rcases z with z | z | z <;> omega) (fun z => by rcases z with z | z | z <;> omega) (fun z => by rcases z with z | z | z <;> omega), x.tw⟩
theorem XM.f6 (x : XM b K T h) (p : Fw S6 [18] h h1) : XM b K T h1 := x.f7 (F := [18]) (s67 p)
def LPost (b : Bk) (T : Nat → Int32) (n v L B : Nat) (h h1 : ev_H) : Prop := Fw S6 [18] h h1 ∧ (∀ k, k < n → hI h1 85 k = hI h 85 k) ∧ ∃ L2 B2, hI h1 64 18 = nI L2 ∧ L2 ≤ 6 ∧ (∀ k, k < L2 → hI h1 86 k = nI (dig (nP b) B2 L2 k)) ∧ Bst (Dl b T n v) L B L2 B2
def LnI (b : Bk) (T : Nat → Int32) (n v L B : Nat) (h : ev_H) (p : Nat) (h1 : ev_H) : Prop := Fw S6 [18] h h1 ∧ (∀ k, k < n → hI h1 85 k = nI (dig (nP b) v n k)) ∧ ∃ L2 B2, hI h1 64 18 = nI L2 ∧ L2 ≤ 6 ∧ (∀ k, k < L2 → hI h1 86 k = nI (dig (nP b) B2 L2 k)) ∧ Bst (Dp b T n v p) L B L2 B2
theorem cp_at {a c n : Nat} : ∀ k, hI (cpI h a 0 c 0 n) c k = if k < n then hI h a k else hI h c k := fun k => by
  rw [cpI_at]
  by_cases e : k < n
  · rw [if_pos e, pk_cpy_in (by omega) (by omega), show 0 + (k - 0) = k by omega]
  · rw [if_neg e, pk_cpy_out (by omega)]
theorem LnI.first (hrow : ∀ k, k < n → hI h 85 k = nI (dig (nP b) v n k)) (hL : L < n) (h6 : n ≤ 6) : LnI b T n v L B h 0 (cpI (sI h 64 18 (nI n)) 85 0 86 0 n) := by
  have g : Fr [86] [] (sI h 64 18 (nI n)) (cpI (sI h 64 18 (nI n)) 85 0 86 0 n) := Fr.rf.cp 85 0 86 0 n (by simp)
  refine ⟨(Fw.sf 18 (nI n) (by simp)).tr (g.fw (fun a ha => Or.inr (List.mem_singleton.mp ha))), fun k hk => ?_, n, v, ?_, h6, fun k hk => ?_, bst_t hL⟩
  · exact (g.2.2.2.2.2 85 k (by simp) (fun _ => by simp)).trans ((rdI_s (by decide)).trans (hrow k hk))
  · exact (g.2.2.2.2.2 64 18 (by simp) (fun _ => by simp)).trans fs_at
  · rw [cp_at, if_pos hk]
    exact (rdI_s (by decide)).trans (hrow k hk)
theorem ln_row (hr : ∀ k, k < n → hI h 85 k = nI (dig (nP b) v n k)) (hp : p < nP b) : ∀ k, k < n + 1 → hI (sI h 85 n (nI p)) 85 k = nI (dig (nP b) (v * nP b + p) (n + 1) k) := fun k hk => by
  by_cases e : k = n
  · subst e; rw [dg_n hp]; exact fs_at
  · rw [dg_s hp (by omega)]; exact (rdI_k e).trans (hr k (by omega))
theorem ln_no1 (hp : p < nP b) (e : tb (lset (nP b) v n n) p = true) : lnB b T (n + 1) (v * nP b + p) = false := by
  rw [ln_s hp, e]; simp
theorem ln_no2 (hp : p < nP b) (hn : 1 ≤ n) (e : dkV b T (nI (dig (nP b) v n (n - 1))) (nI p) = false) : lnB b T (n + 1) (v * nP b + p) = false := by
  rw [ln_s hp, e, decide_eq_false (show ¬ n = 0 by omega)]; simp
theorem ln_yes (hp : p < nP b) (hl : lnB b T n v = true) (e1 : tb (lset (nP b) v n n) p = false) (e : n = 0 ∨ dkV b T (nI (dig (nP b) v n (n - 1))) (nI p) = true) : lnB b T (n + 1) (v * nP b + p) = true := by
  rw [ln_s hp, hl, e1]
  rcases e with e | e
  · rw [decide_eq_true e]; rfl
  · rw [e]; simp
theorem ln_cp (hb : ∀ k, k < L → hI h 86 k = nI (dig (nP b) B L k)) (hR : ∀ k, k < 6 → hI h 84 k = R k) : ∀ k, k < 6 → hI (cpI h 86 0 84 0 L) 84 k = if k < L then nI (dig (nP b) B L k) else R k := fun k hk => by
  rw [cp_at]
  by_cases e : k < L
  · rw [if_pos e, if_pos e]; exact hb k e
  · rw [if_neg e, if_neg e]; exact hR k hk
theorem ln_N {o : Option (Nat × Nat)} (e : o = if L = 0 then none else some (L, B)) : nI L = nI (lineN o) := by
  rw [e]
  by_cases q : L = 0
  · rw [if_pos q, q]; rfl
  · rw [if_neg q]; rfl
theorem ln_R {o : Option (Nat × Nat)} {P : Nat} (e : o = if L = 0 then none else some (L, B)) (k : Nat) : (if k < L then nI (dig P B L k) else R k) = lineR P R o k := by
  rw [e]
  by_cases q : L = 0
  · rw [if_pos q, q, if_neg (by omega)]; rfl
  · rw [if_neg q]; rfl
end LU
theorem called_wk {G : ev_G} {M : ev_M} {d mc ms : Nat} {av : List ev_V} {h : ev_H} {p q : Option ev_V → ev_H → Prop} (c : Called G M d mc ms av h p) (e : ∀ r h1, p r h1 → q r h1) : Called G M d mc ms av h q := by
  intro P e9 ha hf hc s m args below z1 z2 z3 z4
  obtain ⟨n, o, a1, a2, a3, a4⟩ := c P e9 ha hf hc s m args below z1 z2 z3 z4
  obtain ⟨⟨⟨r, h1, b1, b2, b3⟩, b4⟩, b5⟩ := a4
  exact ⟨n, o, a1, a2, a3, ⟨⟨r, h1, b1, e r h1 b2, b3⟩, b4⟩, b5⟩
theorem called_p0 {G : ev_G} {M : ev_M} {d mc ms : Nat} {av : List ev_V} {h : ev_H} {p q : ev_H → Prop} (c : Called G M d mc ms av h (p0 p)) (e : ∀ h1, p h1 → q h1) : Called G M d mc ms av h (p0 q) := called_wk c (fun v h1 z => by obtain ⟨z1, z2⟩ := z; exact ⟨z1, e h1 z2⟩)

theorem x0_lineUp0 {G : ev_G} {b : Bk} {K : XK} {T : Nat → Int32} {h : ev_H} (hm : XM b K T h) (h0 : nP b = 0) (hlo : hI h 64 18 = nI 0) : Called G mX0_lineUp 12 0 0 [vR 64, vI (nI 0), vI 0] h (p0 (fun h1 => h1 = h)) := by
  have hb := hm.xb
  have hT := hm.xt
  have hl := hm.lay
  have hw := hm.bw
  have hb1 := hw.p6
  have hb2 := hw.s5
  have hb3 := hw.t10
  have hw9 := hm.tw
  refine called_of rfl [some (vR 64), some (vI (nI 0)), some (vI 0), none] rfl (Nat.le_of_ble_eq_true rfl) ?_
  refine r_iload_n dX0_lineUp_0 rfl ?_
  refine r_aload_n dX0_lineUp_1 rfl ?_
  refine r_getIv fX0_311 (hl.k) (v := nI 0) (hlo) rfl dX0_lineUp_2 ?_
  refine r_icmpN_le (tgt := 27) dX0_lineUp_5 rfl (by omega) (by omega) (fun c1 => ?_) (fun c1 => ?_)
  · --
    refine r_iconst (v := nI 0) dX0_lineUp_27 (by decide) ?_
    refine r_istore_n dX0_lineUp_28 (by decide) rfl ?_
    refine r_iload_n dX0_lineUp_29 rfl ?_
    refine r_aload_n dX0_lineUp_30 rfl ?_
    refine r_callVx lX0_151 (x0_people hm) (hl.k) rfl rfl rfl rfl dX0_lineUp_31 (Nat.le_refl _) (Nat.le_refl _) ?_
    refine r_icmpN_ge (tgt := 94) dX0_lineUp_34 rfl (by omega) (by omega) (fun c2 => ?_) (fun c2 => ?_)
    · --
      exact r_retv dX0_lineUp_94 rfl (Nat.le_refl _) (Nat.le_refl _) (rfl)
    · --
      exact absurd c2 (by omega)
  · --
    exact absurd c1 (by omega)

theorem x0_lineStep {G : ev_G} {b : Bk} {K : XK} {T : Nat → Int32} {h : ev_H} (hm : XM b K T h) {n v L B d : Nat} (h0 : 0 < nP b) (hd : nP b ≤ n + d) (hn6 : n ≤ nP b) (hln : lnB b T n v = true) (hrow : ∀ k, k < n → hI h 85 k = nI (dig (nP b) v n k)) (hlo : hI h 64 18 = nI L) (hL6 : L ≤ 6) (hbs : ∀ k, k < L → hI h 86 k = nI (dig (nP b) B L k)) (ih : ∀ (h' : ev_H) (v' L' B' : Nat), XM b K T h' → lnB b T (n + 1) v' = true → (∀ k, k < n + 1 → hI h' 85 k = nI (dig (nP b) v' (n + 1) k)) → hI h' 64 18 = nI L' → L' ≤ 6 → (∀ k, k < L' → hI h' 86 k = nI (dig (nP b) B' L' k)) → 0 < d → Called G mX0_lineUp (d + 5) 0 0 [vR 64, vI (nI (n + 1)), vI (lset (nP b) v' (n + 1) (n + 1))] h' (p0 (LPost b T (n + 1) v' L' B' h'))) : Called G mX0_lineUp (d + 6) 0 0 [vR 64, vI (nI n), vI (lset (nP b) v n n)] h (p0 (LPost b T n v L B h)) := by
  have hb := hm.xb
  have hT := hm.xt
  have hl := hm.lay
  have hw := hm.bw
  have hb1 := hw.p6
  have hb2 := hw.s5
  have hb3 := hw.t10
  have hw9 := hm.tw
  refine called_of rfl [some (vR 64), some (vI (nI n)), some (vI (lset (nP b) v n n)), none] rfl (Nat.le_of_ble_eq_true rfl) ?_
  refine r_iload_n dX0_lineUp_0 rfl ?_
  refine r_aload_n dX0_lineUp_1 rfl ?_
  refine r_getIv fX0_311 (hl.k) (v := nI L) (hlo) rfl dX0_lineUp_2 ?_
  refine r_icmpN_le (tgt := 27) dX0_lineUp_5 rfl (by omega) (by omega) (fun c1 => ?_) (fun c1 => ?_)
  · --
    refine r_iconst (v := nI 0) dX0_lineUp_27 (by decide) ?_
    refine r_istore_n dX0_lineUp_28 (by decide) rfl ?_
    refine (ev_for (P := fun p => ∀ hL : ev_H, (LnI b T n v L B h p hL) → Ev G mX0_lineUp (ev_room (d + 6) 0 0) (ev_MQ G (p0 (LPost b T n v L B h)) 0 0) 29 [some (vR 64), some (vI (nI n)), some (vI (lset (nP b) v n n)), some (vI (nI p))] [] hL 0 0) (nP b) (fun p hkp ihp hL qhL => ?_)) 0 (Nat.zero_le _) _ (⟨Fw.rf, hrow, L, B, hlo, hL6, hbs, bst_f (by omega)⟩)
    obtain ⟨kL, hrL, L2, B2, e18L, hL26, bsL, hBst⟩ := qhL
    have hmL := hm.f6 kL
    have hbL := hmL.xb
    have hTL := hmL.xt
    have hlL := hmL.lay
    refine r_iload_n dX0_lineUp_29 rfl ?_
    refine r_aload_n dX0_lineUp_30 rfl ?_
    refine r_callVx lX0_151 (x0_people hmL) (hlL.k) rfl rfl rfl (ev_rok_l (by decide) (by decide)) dX0_lineUp_31 (Nat.le_refl _) (Nat.le_refl _) ?_
    refine r_icmpN_ge (tgt := 94) dX0_lineUp_34 rfl (by omega) (by omega) (fun c2 => ?_) (fun c2 => ?_)
    · --
      have hp9 : p = nP b := by omega
      subst hp9
      exact r_retv dX0_lineUp_94 rfl (Nat.le_refl _) (Nat.le_refl _) ⟨kL, fun k hk => (hrL k hk).trans (hrow k hk).symm, L2, B2, e18L, hL26, bsL, bst_d h0 hln hBst⟩
    · --
      refine r_iload_n dX0_lineUp_37 rfl ?_
      refine r_iload_n dX0_lineUp_38 rfl ?_
      refine r_ishr dX0_lineUp_39 ?_
      refine r_iconst (v := 1) dX0_lineUp_40 (by decide) ?_
      refine r_iand dX0_lineUp_41 ?_
      refine r_iconst (v := 1) dX0_lineUp_42 (by decide) ?_
      refine r_icmp_eq (tgt := 88) dX0_lineUp_43 rfl (fun c3 => ?_) (fun c3 => ?_)
      · --
        refine r_iincN (n := 1) dX0_lineUp_88 rfl rfl (by decide) rfl ?_
        refine r_goto (tgt := 29) dX0_lineUp_91 rfl ?_
        exact ihp (by omega) _ (⟨kL, hrL, L2, B2, e18L, hL26, bsL, bst_no (by omega) hBst (ln_no1 (by omega) (decide_eq_true c3))⟩)
      · --
        have hfr : tb (lset (nP b) v n n) p = false := decide_eq_false c3
        refine r_iload_n dX0_lineUp_46 rfl ?_
        refine r_if_le (tgt := 69) dX0_lineUp_47 rfl (fun c4 => ?_) (fun c4 => ?_)
        · --
          have hok : lnB b T (n + 1) (v * nP b + p) = true := ln_yes (by omega) hln hfr (Or.inl (nI_le0 (by omega) c4))
          have hn9 := ln_len hb1 hok (by omega)
          refine r_aload_n dX0_lineUp_69 rfl ?_
          refine r_getRv fX0_71 (hlL.k) (v := 85) (hlL.r 13 (by decide) (by decide)) rfl dX0_lineUp_70 ?_
          refine r_iload_n dX0_lineUp_73 rfl ?_
          refine r_iload_n dX0_lineUp_74 rfl ?_
          refine r_iastv (hlL.row.1) (by decide) (hlL.row.2) (ix_n (by omega) (by decide)) dX0_lineUp_75 ?_
          have kZ : Fw S6 [18] hL (sI hL 85 n (nI p)) := (Fr.rf.sa (as := [85]) 85 n (nI p) (by simp)).fw (fun a ha => Or.inl (List.mem_singleton.mp ha))
          have hrZ : ∀ k, k < n + 1 → hI (sI hL 85 n (nI p)) 85 k = nI (dig (nP b) (v * nP b + p) (n + 1) k) := ln_row hrL (by omega)
          have e18Z : hI (sI hL 85 n (nI p)) 64 18 = nI L2 := (rdI_s (by decide)).trans e18L
          have bsZ : ∀ k, k < L2 → hI (sI hL 85 n (nI p)) 86 k = nI (dig (nP b) B2 L2 k) := fun k hk => (rdI_s (by decide)).trans (bsL k hk)
          generalize sI hL 85 n (nI p) = hZ at kZ hrZ e18Z bsZ ⊢
          have hmZ := hmL.f6 kZ
          have hbZ := hmZ.xb
          have hTZ := hmZ.xt
          have hlZ := hmZ.lay
          refine r_aload_n dX0_lineUp_76 rfl ?_
          refine r_iload_n dX0_lineUp_77 rfl ?_
          refine r_iconst (v := nI 1) dX0_lineUp_78 (by decide) ?_
          refine r_iadd dX0_lineUp_79 ?_
          refine r_top (nI (n + 1)) (nI_add _ _) ?_
          refine r_iload_n dX0_lineUp_80 rfl ?_
          refine r_iconst (v := nI 1) dX0_lineUp_81 (by decide) ?_
          refine r_iload_n dX0_lineUp_82 rfl ?_
          refine r_ishl dX0_lineUp_83 ?_
          refine r_top (one p) rfl ?_
          refine r_ior dX0_lineUp_84 ?_
          refine r_top (lset (nP b) (v * nP b + p) (n + 1) (n + 1)) ((ls_n (by omega)).symm) ?_
          refine r_callVv lX0_317 (ih hZ (v * nP b + p) L2 B2 hmZ hok hrZ e18Z hL26 bsZ (by omega)) (hlZ.k) rfl rfl rfl (ev_rok_s (d := d + 5) (by decide)) dX0_lineUp_85 (Nat.le_refl _) (Nat.le_refl _) (fun hW q9 => ?_)
          obtain ⟨kW, hrW, L3, B3, e18W, hL36, bsW, hBs3⟩ := q9
          refine r_iincN (n := 1) dX0_lineUp_88 rfl rfl (by decide) rfl ?_
          refine r_goto (tgt := 29) dX0_lineUp_91 rfl ?_
          exact ihp (by omega) _ (⟨(kL.tr kZ).tr kW, fun k hk => ((hrW k (by omega)).trans (hrZ k (by omega))).trans (by rw [dg_s (show p < nP b by omega) hk]), L3, B3, e18W, hL36, bsW, bst_s h0 hBst hBs3⟩)
        · --
          have hn1 : 1 ≤ n := Nat.pos_of_ne_zero (fun e => c4 (by rw [e]; decide))
          refine r_aload_n dX0_lineUp_50 rfl ?_
          refine r_aload_n dX0_lineUp_51 rfl ?_
          refine r_getRv fX0_71 (hlL.k) (v := 85) (hlL.r 13 (by decide) (by decide)) rfl dX0_lineUp_52 ?_
          refine r_iload_n dX0_lineUp_55 rfl ?_
          refine r_iconst (v := nI 1) dX0_lineUp_56 (by decide) ?_
          refine r_isub dX0_lineUp_57 ?_
          refine r_top (nI (n - 1)) (pk_sub (by omega)) ?_
          refine r_ialdv (hlL.row.1) (hlL.row.2) (ix_n (by omega) (by decide)) (v := nI (dig (nP b) v n (n - 1))) (hrL _ (by omega)) dX0_lineUp_58 ?_
          refine r_iload_n dX0_lineUp_59 rfl ?_
          refine r_callVx lX0_314 (x0_keepsFrom hmL _ _) (hlL.k) rfl rfl rfl (ev_rok_l (by decide) (by decide)) dX0_lineUp_60 (Nat.le_refl _) (Nat.le_refl _) ?_
          refine r_ifB_ne (tgt := 69) dX0_lineUp_63 rfl (fun c5 => ?_) (fun c5 => ?_)
          · --
            have hok : lnB b T (n + 1) (v * nP b + p) = true := ln_yes (by omega) hln hfr (Or.inr c5)
            have hn9 := ln_len hb1 hok (by omega)
            refine r_aload_n dX0_lineUp_69 rfl ?_
            refine r_getRv fX0_71 (hlL.k) (v := 85) (hlL.r 13 (by decide) (by decide)) rfl dX0_lineUp_70 ?_
            refine r_iload_n dX0_lineUp_73 rfl ?_
            refine r_iload_n dX0_lineUp_74 rfl ?_
            refine r_iastv (hlL.row.1) (by decide) (hlL.row.2) (ix_n (by omega) (by decide)) dX0_lineUp_75 ?_
            have kZ : Fw S6 [18] hL (sI hL 85 n (nI p)) := (Fr.rf.sa (as := [85]) 85 n (nI p) (by simp)).fw (fun a ha => Or.inl (List.mem_singleton.mp ha))
            have hrZ : ∀ k, k < n + 1 → hI (sI hL 85 n (nI p)) 85 k = nI (dig (nP b) (v * nP b + p) (n + 1) k) := ln_row hrL (by omega)
            have e18Z : hI (sI hL 85 n (nI p)) 64 18 = nI L2 := (rdI_s (by decide)).trans e18L
            have bsZ : ∀ k, k < L2 → hI (sI hL 85 n (nI p)) 86 k = nI (dig (nP b) B2 L2 k) := fun k hk => (rdI_s (by decide)).trans (bsL k hk)
            generalize sI hL 85 n (nI p) = hZ at kZ hrZ e18Z bsZ ⊢
            have hmZ := hmL.f6 kZ
            have hbZ := hmZ.xb
            have hTZ := hmZ.xt
            have hlZ := hmZ.lay
            refine r_aload_n dX0_lineUp_76 rfl ?_
            refine r_iload_n dX0_lineUp_77 rfl ?_
            refine r_iconst (v := nI 1) dX0_lineUp_78 (by decide) ?_
            refine r_iadd dX0_lineUp_79 ?_
            refine r_top (nI (n + 1)) (nI_add _ _) ?_
            refine r_iload_n dX0_lineUp_80 rfl ?_
            refine r_iconst (v := nI 1) dX0_lineUp_81 (by decide) ?_
            refine r_iload_n dX0_lineUp_82 rfl ?_
            refine r_ishl dX0_lineUp_83 ?_
            refine r_top (one p) rfl ?_
            refine r_ior dX0_lineUp_84 ?_
            refine r_top (lset (nP b) (v * nP b + p) (n + 1) (n + 1)) ((ls_n (by omega)).symm) ?_
            refine r_callVv lX0_317 (ih hZ (v * nP b + p) L2 B2 hmZ hok hrZ e18Z hL26 bsZ (by omega)) (hlZ.k) rfl rfl rfl (ev_rok_s (d := d + 5) (by decide)) dX0_lineUp_85 (Nat.le_refl _) (Nat.le_refl _) (fun hW q9 => ?_)
            obtain ⟨kW, hrW, L3, B3, e18W, hL36, bsW, hBs3⟩ := q9
            refine r_iincN (n := 1) dX0_lineUp_88 rfl rfl (by decide) rfl ?_
            refine r_goto (tgt := 29) dX0_lineUp_91 rfl ?_
            exact ihp (by omega) _ (⟨(kL.tr kZ).tr kW, fun k hk => ((hrW k (by omega)).trans (hrZ k (by omega))).trans (by rw [dg_s (show p < nP b by omega) hk]), L3, B3, e18W, hL36, bsW, bst_s h0 hBst hBs3⟩)
          · --
            refine r_goto (tgt := 88) dX0_lineUp_66 rfl ?_
            refine r_iincN (n := 1) dX0_lineUp_88 rfl rfl (by decide) rfl ?_
            refine r_goto (tgt := 29) dX0_lineUp_91 rfl ?_
            exact ihp (by omega) _ (⟨kL, hrL, L2, B2, e18L, hL26, bsL, bst_no (by omega) hBst (ln_no2 (by omega) (by omega) c5)⟩)
  · --
    refine r_aload_n dX0_lineUp_8 rfl ?_
    refine r_iload_n dX0_lineUp_9 rfl ?_
    refine r_putN fX0_311 (hl.k) (by decide) dX0_lineUp_10 ?_
    refine r_aload_n dX0_lineUp_13 rfl ?_
    refine r_getRv fX0_71 (hl.k) (v := 85) (hl.r 13 (by decide) (by decide)) rfl dX0_lineUp_14 ?_
    refine r_iconst (v := nI 0) dX0_lineUp_17 (by decide) ?_
    refine r_aload_n dX0_lineUp_18 rfl ?_
    refine r_getRv fX0_74 (hl.k) (v := 86) (hl.r 14 (by decide) (by decide)) rfl dX0_lineUp_19 ?_
    refine r_iconst (v := nI 0) dX0_lineUp_22 (by decide) ?_
    refine r_iload_n dX0_lineUp_23 rfl ?_
    refine r_copyI (t := 0) q1295 (by decide) hl.row.1 hl.best.1 (by decide) (by decide) hl.row.2 hl.best.2 (by omega) (by omega) (by decide) (by decide) (fun i hi => rfl) (by show 1 ≤ d + 6; omega) (by show 40 ≤ 40 * (d + 6); omega) rfl dX0_lineUp_24 ?_
    have qC : LnI b T n v L B h 0 (cpI (sI h 64 18 (nI n)) 85 0 86 0 n) := LnI.first hrow (by omega) (by omega)
    generalize cpI (sI h 64 18 (nI n)) 85 0 86 0 n = hC at qC ⊢
    refine r_iconst (v := nI 0) dX0_lineUp_27 (by decide) ?_
    refine r_istore_n dX0_lineUp_28 (by decide) rfl ?_
    refine (ev_for (P := fun p => ∀ hL : ev_H, (LnI b T n v L B h p hL) → Ev G mX0_lineUp (ev_room (d + 6) 0 0) (ev_MQ G (p0 (LPost b T n v L B h)) 0 0) 29 [some (vR 64), some (vI (nI n)), some (vI (lset (nP b) v n n)), some (vI (nI p))] [] hL 0 0) (nP b) (fun p hkp ihp hL qhL => ?_)) 0 (Nat.zero_le _) _ (qC)
    obtain ⟨kL, hrL, L2, B2, e18L, hL26, bsL, hBst⟩ := qhL
    have hmL := hm.f6 kL
    have hbL := hmL.xb
    have hTL := hmL.xt
    have hlL := hmL.lay
    refine r_iload_n dX0_lineUp_29 rfl ?_
    refine r_aload_n dX0_lineUp_30 rfl ?_
    refine r_callVx lX0_151 (x0_people hmL) (hlL.k) rfl rfl rfl (ev_rok_l (by decide) (by decide)) dX0_lineUp_31 (Nat.le_refl _) (Nat.le_refl _) ?_
    refine r_icmpN_ge (tgt := 94) dX0_lineUp_34 rfl (by omega) (by omega) (fun c6 => ?_) (fun c6 => ?_)
    · --
      have hp9 : p = nP b := by omega
      subst hp9
      exact r_retv dX0_lineUp_94 rfl (Nat.le_refl _) (Nat.le_refl _) ⟨kL, fun k hk => (hrL k hk).trans (hrow k hk).symm, L2, B2, e18L, hL26, bsL, bst_d h0 hln hBst⟩
    · --
      refine r_iload_n dX0_lineUp_37 rfl ?_
      refine r_iload_n dX0_lineUp_38 rfl ?_
      refine r_ishr dX0_lineUp_39 ?_
      refine r_iconst (v := 1) dX0_lineUp_40 (by decide) ?_
      refine r_iand dX0_lineUp_41 ?_
      refine r_iconst (v := 1) dX0_lineUp_42 (by decide) ?_
      refine r_icmp_eq (tgt := 88) dX0_lineUp_43 rfl (fun c7 => ?_) (fun c7 => ?_)
      · --
        refine r_iincN (n := 1) dX0_lineUp_88 rfl rfl (by decide) rfl ?_
        refine r_goto (tgt := 29) dX0_lineUp_91 rfl ?_
        exact ihp (by omega) _ (⟨kL, hrL, L2, B2, e18L, hL26, bsL, bst_no (by omega) hBst (ln_no1 (by omega) (decide_eq_true c7))⟩)
      · --
        have hfr : tb (lset (nP b) v n n) p = false := decide_eq_false c7
        refine r_iload_n dX0_lineUp_46 rfl ?_
        refine r_if_le (tgt := 69) dX0_lineUp_47 rfl (fun c8 => ?_) (fun c8 => ?_)
        · --
          have hok : lnB b T (n + 1) (v * nP b + p) = true := ln_yes (by omega) hln hfr (Or.inl (nI_le0 (by omega) c8))
          have hn9 := ln_len hb1 hok (by omega)
          refine r_aload_n dX0_lineUp_69 rfl ?_
          refine r_getRv fX0_71 (hlL.k) (v := 85) (hlL.r 13 (by decide) (by decide)) rfl dX0_lineUp_70 ?_
          refine r_iload_n dX0_lineUp_73 rfl ?_
          refine r_iload_n dX0_lineUp_74 rfl ?_
          refine r_iastv (hlL.row.1) (by decide) (hlL.row.2) (ix_n (by omega) (by decide)) dX0_lineUp_75 ?_
          have kZ : Fw S6 [18] hL (sI hL 85 n (nI p)) := (Fr.rf.sa (as := [85]) 85 n (nI p) (by simp)).fw (fun a ha => Or.inl (List.mem_singleton.mp ha))
          have hrZ : ∀ k, k < n + 1 → hI (sI hL 85 n (nI p)) 85 k = nI (dig (nP b) (v * nP b + p) (n + 1) k) := ln_row hrL (by omega)
          have e18Z : hI (sI hL 85 n (nI p)) 64 18 = nI L2 := (rdI_s (by decide)).trans e18L
          have bsZ : ∀ k, k < L2 → hI (sI hL 85 n (nI p)) 86 k = nI (dig (nP b) B2 L2 k) := fun k hk => (rdI_s (by decide)).trans (bsL k hk)
          generalize sI hL 85 n (nI p) = hZ at kZ hrZ e18Z bsZ ⊢
          have hmZ := hmL.f6 kZ
          have hbZ := hmZ.xb
          have hTZ := hmZ.xt
          have hlZ := hmZ.lay
          refine r_aload_n dX0_lineUp_76 rfl ?_
          refine r_iload_n dX0_lineUp_77 rfl ?_
          refine r_iconst (v := nI 1) dX0_lineUp_78 (by decide) ?_
          refine r_iadd dX0_lineUp_79 ?_
          refine r_top (nI (n + 1)) (nI_add _ _) ?_
          refine r_iload_n dX0_lineUp_80 rfl ?_
          refine r_iconst (v := nI 1) dX0_lineUp_81 (by decide) ?_
          refine r_iload_n dX0_lineUp_82 rfl ?_
          refine r_ishl dX0_lineUp_83 ?_
          refine r_top (one p) rfl ?_
          refine r_ior dX0_lineUp_84 ?_
          refine r_top (lset (nP b) (v * nP b + p) (n + 1) (n + 1)) ((ls_n (by omega)).symm) ?_
          refine r_callVv lX0_317 (ih hZ (v * nP b + p) L2 B2 hmZ hok hrZ e18Z hL26 bsZ (by omega)) (hlZ.k) rfl rfl rfl (ev_rok_s (d := d + 5) (by decide)) dX0_lineUp_85 (Nat.le_refl _) (Nat.le_refl _) (fun hW q9 => ?_)
          obtain ⟨kW, hrW, L3, B3, e18W, hL36, bsW, hBs3⟩ := q9
          refine r_iincN (n := 1) dX0_lineUp_88 rfl rfl (by decide) rfl ?_
          refine r_goto (tgt := 29) dX0_lineUp_91 rfl ?_
          exact ihp (by omega) _ (⟨(kL.tr kZ).tr kW, fun k hk => ((hrW k (by omega)).trans (hrZ k (by omega))).trans (by rw [dg_s (show p < nP b by omega) hk]), L3, B3, e18W, hL36, bsW, bst_s h0 hBst hBs3⟩)
        · --
          have hn1 : 1 ≤ n := Nat.pos_of_ne_zero (fun e => c8 (by rw [e]; decide))
          refine r_aload_n dX0_lineUp_50 rfl ?_
          refine r_aload_n dX0_lineUp_51 rfl ?_
          refine r_getRv fX0_71 (hlL.k) (v := 85) (hlL.r 13 (by decide) (by decide)) rfl dX0_lineUp_52 ?_
          refine r_iload_n dX0_lineUp_55 rfl ?_
          refine r_iconst (v := nI 1) dX0_lineUp_56 (by decide) ?_
          refine r_isub dX0_lineUp_57 ?_
          refine r_top (nI (n - 1)) (pk_sub (by omega)) ?_
          refine r_ialdv (hlL.row.1) (hlL.row.2) (ix_n (by omega) (by decide)) (v := nI (dig (nP b) v n (n - 1))) (hrL _ (by omega)) dX0_lineUp_58 ?_
          refine r_iload_n dX0_lineUp_59 rfl ?_
          refine r_callVx lX0_314 (x0_keepsFrom hmL _ _) (hlL.k) rfl rfl rfl (ev_rok_l (by decide) (by decide)) dX0_lineUp_60 (Nat.le_refl _) (Nat.le_refl _) ?_
          refine r_ifB_ne (tgt := 69) dX0_lineUp_63 rfl (fun c9 => ?_) (fun c9 => ?_)
          · --
            have hok : lnB b T (n + 1) (v * nP b + p) = true := ln_yes (by omega) hln hfr (Or.inr c9)
            have hn9 := ln_len hb1 hok (by omega)
            refine r_aload_n dX0_lineUp_69 rfl ?_
            refine r_getRv fX0_71 (hlL.k) (v := 85) (hlL.r 13 (by decide) (by decide)) rfl dX0_lineUp_70 ?_
            refine r_iload_n dX0_lineUp_73 rfl ?_
            refine r_iload_n dX0_lineUp_74 rfl ?_
            refine r_iastv (hlL.row.1) (by decide) (hlL.row.2) (ix_n (by omega) (by decide)) dX0_lineUp_75 ?_
            have kZ : Fw S6 [18] hL (sI hL 85 n (nI p)) := (Fr.rf.sa (as := [85]) 85 n (nI p) (by simp)).fw (fun a ha => Or.inl (List.mem_singleton.mp ha))
            have hrZ : ∀ k, k < n + 1 → hI (sI hL 85 n (nI p)) 85 k = nI (dig (nP b) (v * nP b + p) (n + 1) k) := ln_row hrL (by omega)
            have e18Z : hI (sI hL 85 n (nI p)) 64 18 = nI L2 := (rdI_s (by decide)).trans e18L
            have bsZ : ∀ k, k < L2 → hI (sI hL 85 n (nI p)) 86 k = nI (dig (nP b) B2 L2 k) := fun k hk => (rdI_s (by decide)).trans (bsL k hk)
            generalize sI hL 85 n (nI p) = hZ at kZ hrZ e18Z bsZ ⊢
            have hmZ := hmL.f6 kZ
            have hbZ := hmZ.xb
            have hTZ := hmZ.xt
            have hlZ := hmZ.lay
            refine r_aload_n dX0_lineUp_76 rfl ?_
            refine r_iload_n dX0_lineUp_77 rfl ?_
            refine r_iconst (v := nI 1) dX0_lineUp_78 (by decide) ?_
            refine r_iadd dX0_lineUp_79 ?_
            refine r_top (nI (n + 1)) (nI_add _ _) ?_
            refine r_iload_n dX0_lineUp_80 rfl ?_
            refine r_iconst (v := nI 1) dX0_lineUp_81 (by decide) ?_
            refine r_iload_n dX0_lineUp_82 rfl ?_
            refine r_ishl dX0_lineUp_83 ?_
            refine r_top (one p) rfl ?_
            refine r_ior dX0_lineUp_84 ?_
            refine r_top (lset (nP b) (v * nP b + p) (n + 1) (n + 1)) ((ls_n (by omega)).symm) ?_
            refine r_callVv lX0_317 (ih hZ (v * nP b + p) L2 B2 hmZ hok hrZ e18Z hL26 bsZ (by omega)) (hlZ.k) rfl rfl rfl (ev_rok_s (d := d + 5) (by decide)) dX0_lineUp_85 (Nat.le_refl _) (Nat.le_refl _) (fun hW q9 => ?_)
            obtain ⟨kW, hrW, L3, B3, e18W, hL36, bsW, hBs3⟩ := q9
            refine r_iincN (n := 1) dX0_lineUp_88 rfl rfl (by decide) rfl ?_
            refine r_goto (tgt := 29) dX0_lineUp_91 rfl ?_
            exact ihp (by omega) _ (⟨(kL.tr kZ).tr kW, fun k hk => ((hrW k (by omega)).trans (hrZ k (by omega))).trans (by rw [dg_s (show p < nP b by omega) hk]), L3, B3, e18W, hL36, bsW, bst_s h0 hBst hBs3⟩)
          · --
            refine r_goto (tgt := 88) dX0_lineUp_66 rfl ?_
            refine r_iincN (n := 1) dX0_lineUp_88 rfl rfl (by decide) rfl ?_
            refine r_goto (tgt := 29) dX0_lineUp_91 rfl ?_
            exact ihp (by omega) _ (⟨kL, hrL, L2, B2, e18L, hL26, bsL, bst_no (by omega) hBst (ln_no2 (by omega) (by omega) c9)⟩)

theorem x0_lineUp {G : ev_G} {b : Bk} {K : XK} {T : Nat → Int32} (h0 : 0 < nP b) : ∀ (d n v L B : Nat) (h : ev_H), XM b K T h → nP b ≤ n + d → n ≤ nP b → lnB b T n v = true → (∀ k, k < n → hI h 85 k = nI (dig (nP b) v n k)) → hI h 64 18 = nI L → L ≤ 6 → (∀ k, k < L → hI h 86 k = nI (dig (nP b) B L k)) → Called G mX0_lineUp (d + 6) 0 0 [vR 64, vI (nI n), vI (lset (nP b) v n n)] h (p0 (LPost b T n v L B h))
  | 0, n, v, L, B, h, hm, a1, a2, a3, a4, a5, a6, a7 => x0_lineStep hm h0 a1 a2 a3 a4 a5 a6 a7 (fun _ _ _ _ _ _ _ _ _ _ z => absurd z (by omega))
  | d + 1, n, v, L, B, h, hm, a1, a2, a3, a4, a5, a6, a7 => x0_lineStep hm h0 a1 a2 a3 a4 a5 a6 a7 (fun h' v' L' B' z1 z2 z3 z4 z5 z6 _ => x0_lineUp h0 d (n + 1) v' L' B' h' z1 (by omega) (ln_len z1.bw.p6 z2 (by omega)) z2 z3 z4 z5 z6)
theorem x0_lineUpT {G : ev_G} {b : Bk} {K : XK} {T : Nat → Int32} {h : ev_H} (hm : XM b K T h) (hlo : hI h 64 18 = nI 0) : Called G mX0_lineUp 12 0 0 [vR 64, vI (nI 0), vI 0] h (p0 (fun h1 => Fw S6 [18] h h1 ∧ ∃ L B, hI h1 64 18 = nI L ∧ L ≤ 6 ∧ (∀ k, k < L → hI h1 86 k = nI (dig (nP b) B L k)) ∧ lnA b T (nP b) = if L = 0 then none else some (L, B))) := by
  by_cases h0 : nP b = 0
  · exact called_p0 (x0_lineUp0 hm h0 hlo) (fun h1 e => by subst e; exact ⟨Fw.rf, 0, 0, hlo, by decide, fun k hk => absurd hk (by omega), by rw [h0]; rfl⟩)
  · have hp : 0 < nP b := Nat.pos_of_ne_zero h0
    refine called_p0 (x0_lineUp hp 6 0 0 0 0 h hm (by have := hm.bw.p6; omega) (Nat.zero_le _) rfl (fun k hk => absurd hk (by omega)) hlo (by decide) (fun k hk => absurd hk (by omega))) (fun h1 q => ?_)
    obtain ⟨k1, _, L, B, e1, e2, e3, e4⟩ := q
    exact ⟨k1, L, B, e1, e2, e3, ln_top hm.bw.p6 hp e4⟩

theorem x0_line {G : ev_G} {b : Bk} {K : XK} {T : Nat → Int32} {h : ev_H} (hm : XM b K T h) {R : Nat → Int32} (hR : ∀ k, k < 6 → hI h 84 k = R k) : Called G mX0_line 13 0 0 [vR 64] h (pI (fun y h1 => y = nI (lineN (lnA b T (nP b))) ∧ Fw S7 [15, 18] h h1 ∧ hI h1 64 15 = nI (lineN (lnA b T (nP b))) ∧ ∀ k, k < 6 → hI h1 84 k = lineR (nP b) R (lnA b T (nP b)) k)) := by
  have hb := hm.xb
  have hT := hm.xt
  have hl := hm.lay
  have hw := hm.bw
  have hb1 := hw.p6
  have hb2 := hw.s5
  have hb3 := hw.t10
  have hw9 := hm.tw
  refine called_of rfl [some (vR 64)] rfl (Nat.le_of_ble_eq_true rfl) ?_
  refine r_aload_n dX0_line_0 rfl ?_
  refine r_iconst (v := nI 0) dX0_line_1 (by decide) ?_
  refine r_putN fX0_311 (hl.k) (by decide) dX0_line_2 ?_
  have kA : Fw S7 [15, 18] h (sI h 64 18 (nI 0)) := Fw.sf 18 _ (by simp)
  have e18A : hI (sI h 64 18 (nI 0)) 64 18 = nI 0 := rfl
  have hRA : ∀ k, k < 6 → hI (sI h 64 18 (nI 0)) 84 k = R k := fun k hk => (rdI_s (by decide)).trans (hR k hk)
  generalize sI h 64 18 (nI 0) = hA at kA e18A hRA ⊢
  have hmA := hm.f7 kA
  have hbA := hmA.xb
  have hTA := hmA.xt
  have hlA := hmA.lay
  refine r_aload_n dX0_line_5 rfl ?_
  refine r_iconst (v := nI 0) dX0_line_6 (by decide) ?_
  refine r_iconst (v := 0) dX0_line_7 (by decide) ?_
  refine r_callVv lX0_317 (x0_lineUpT hmA e18A) (hlA.k) rfl rfl rfl rfl dX0_line_8 (Nat.le_refl _) (Nat.le_refl _) (fun hB q9 => ?_)
  obtain ⟨kB9, L, B, e18B, hL6, bsB, eL⟩ := q9
  have hmB := hmA.f6 kB9
  have kB' : Fw S7 [15, 18] h hB := kA.tr (s67 kB9)
  have hRB : ∀ k, k < 6 → hI hB 84 k = R k := fun k hk => (kB9.2.2.2.2.2 84 k (fun z => by rcases z with z | z <;> omega) (fun z => absurd z (by decide))).trans (hRA k hk)
  have hbB := hmB.xb
  have hTB := hmB.xt
  have hlB := hmB.lay
  refine r_aload_n dX0_line_11 rfl ?_
  refine r_getRv fX0_74 (hlB.k) (v := 86) (hlB.r 14 (by decide) (by decide)) rfl dX0_line_12 ?_
  refine r_iconst (v := nI 0) dX0_line_15 (by decide) ?_
  refine r_aload_n dX0_line_16 rfl ?_
  refine r_getRv fX0_67 (hlB.k) (v := 84) (hlB.r 12 (by decide) (by decide)) rfl dX0_line_17 ?_
  refine r_iconst (v := nI 0) dX0_line_20 (by decide) ?_
  refine r_aload_n dX0_line_21 rfl ?_
  refine r_getIv fX0_311 (hlB.k) (v := nI L) (e18B) rfl dX0_line_22 ?_
  refine r_copyI (t := 0) q1295 (by decide) hlB.best.1 hlB.lies.1 (by decide) (by decide) hlB.best.2 hlB.lies.2 (by omega) (by omega) (by decide) (by decide) (fun i hi => rfl) (by decide) (by decide) rfl dX0_line_25 ?_
  have gC : Fr [84] [] hB (cpI hB 86 0 84 0 L) := Fr.rf.cp 86 0 84 0 L (by simp)
  have kC : Fw S7 [15, 18] h (cpI hB 86 0 84 0 L) := kB'.tr (gC.fw (fun a ha => Or.inl (List.mem_singleton.mp ha)))
  have e18C := (gC.2.2.2.2.2 64 18 (by simp) (fun _ => by simp)).trans e18B
  have hRC : ∀ k, k < 6 → hI (cpI hB 86 0 84 0 L) 84 k = if k < L then nI (dig (nP b) B L k) else R k := fun k hk => ln_cp bsB hRB k hk
  generalize cpI hB 86 0 84 0 L = hC at gC kC e18C hRC ⊢
  have hmC := hm.f7 kC
  have hbC := hmC.xb
  have hTC := hmC.xt
  have hlC := hmC.lay
  refine r_aload_n dX0_line_28 rfl ?_
  refine r_aload_n dX0_line_29 rfl ?_
  refine r_getIv fX0_311 (hlC.k) (v := nI L) (e18C) rfl dX0_line_30 ?_
  refine r_putN fX0_123 (hlC.k) (by decide) dX0_line_33 ?_
  have kD : Fw S7 [15, 18] h (sI hC 64 15 (nI L)) := kC.tr (Fw.sf 15 _ (by simp))
  have e15D : hI (sI hC 64 15 (nI L)) 64 15 = nI L := fs_at
  have e18D : hI (sI hC 64 15 (nI L)) 64 18 = nI L := (rdI_k (by decide)).trans e18C
  have hRD : ∀ k, k < 6 → hI (sI hC 64 15 (nI L)) 84 k = if k < L then nI (dig (nP b) B L k) else R k := fun k hk => (rdI_s (by decide)).trans (hRC k hk)
  generalize sI hC 64 15 (nI L) = hD at kD e15D e18D hRD ⊢
  have hmD := hm.f7 kD
  have hbD := hmD.xb
  have hTD := hmD.xt
  have hlD := hmD.lay
  refine r_aload_n dX0_line_36 rfl ?_
  refine r_getIv fX0_311 (hlD.k) (v := nI L) (e18D) rfl dX0_line_37 ?_
  exact r_reti dX0_line_40 rfl rfl (Nat.le_refl _) (Nat.le_refl _) (⟨ln_N eL, kD, e15D.trans (ln_N eL), fun k hk => (hRD k hk).trans (ln_R eL k)⟩)
