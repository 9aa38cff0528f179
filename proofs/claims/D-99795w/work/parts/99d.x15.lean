/-! ===== THE SYSTEM: a round (walks by program) ===== -/
set_option maxRecDepth 100000

def S2 (K : XK) (a : Nat) : Prop := a ∈ Q1 K ∨ a = 84
section S2S
variable {b : Bk} {K : XK} {T : Nat → Int32} {h h1 : ev_H}
theorem XM.no84 (x : XM b K T h) : 84 ∉ Q1 K := fun z => by
  rcases List.mem_cons.mp z with e | e
  · have hk := x.xb.akk
    rw [← e, x.lay.lies.1] at hk
    cases hk
  · exact absurd e (by decide)
theorem XM.no64 (x : XM b K T h) : 64 ∉ Q1 K := fun z => by
  rcases List.mem_cons.mp z with e | e
  · have hk := x.xb.akk
    rw [← e, x.lay.k] at hk
    cases hk
  · exact absurd e (by decide)
theorem XM.f2 {F : List Nat} (x : XM b K T h) (p : Fw (S2 K) F h h1) : XM b K T h1 := by
  have ok : ∀ a, S2 K a → okX (hK h a) = true := fun a ha => by
    rcases ha with z | z
    · rcases q1_m z with z | z
      · exact x.okQ a z
      · rw [z, x.lay.row.1]; rfl
    · rw [z, x.lay.lies.1]; rfl
  have no : ∀ t, t ∉ QF K → t ≠ 85 → t ≠ 84 → ¬ S2 K t := fun t h1 h2 h3 z => z.elim (fun z => (q1_m z).elim h1 h2) h3
  exact ⟨x.lay.fw p, by rw [p.2.2.2.1 64 (by decide)]; exact x.bk, x.xb.fw p ok x.lay.k x.lay.were.1, x.xt.fw p x.lay.k x.lay.were.1 (no 74 x.neQ.1 (by decide) (by decide)) (no 75 x.neQ.2.1 (by decide) (by decide)) (no 76 x.neQ.2.2.1 (by decide) (by decide)), x.tw⟩
end S2S
theorem irr (x : Int32) : ¬ x < x := fun h => Int32.lt_irrefl h
def rdM (x : Int32) : Int32 := if x < 0 then -1 else x / nI 100
def rdH (x : Int32) : Int32 := if x < 0 then -1 else x - x / nI 100 * nI 100
theorem rdM_0 : rdM (-1) = -1 := if_pos (by decide)
theorem rdH_0 : rdH (-1) = -1 := if_pos (by decide)
theorem rdM_p {x : Int32} (h : ¬ x < 0) : rdM x = x / nI 100 := if_neg h
theorem rdH_p {x : Int32} (h : ¬ x < 0) : rdH x = x - x / nI 100 * nI 100 := if_neg h
theorem nlt {a c : Nat} (ha : a < 2 ^ 31) (hc : c < 2 ^ 31) : nI a < nI c ↔ a < c := by
  constructor
  · intro h
    by_cases e : a < c
    · exact e
    · rcases Nat.lt_or_ge c a with q | q
      · exact absurd h (Int32.lt_asymm (nI_lt q ha))
      · have : a = c := by omega
        subst this
        exact absurd h (irr _)
  · intro h
    exact nI_lt h hc
theorem neq {a c : Nat} (ha : a < 2 ^ 31) (hc : c < 2 ^ 31) : nI a = nI c ↔ a = c := by
  constructor
  · intro h
    rcases Nat.lt_trichotomy a c with q | q | q
    · have := (nlt ha hc).mpr q
      rw [h] at this
      exact absurd this (irr _)
    · exact q
    · have := (nlt hc ha).mpr q
      rw [h] at this
      exact absurd this (irr _)
  · intro h; rw [h]
section RDS
variable {b : Bk} {T : Nat → Int32} {n v : Nat}
theorem rd_lt (hb : BW b) : ∃ k, k < 2 ^ nT b ∧ (rdI b T v n n).2 = nI k := by
  have key : ∀ m, ∃ k, k < 2 ^ nT b ∧ (rdI b T v n m).2 = nI k := fun m => by
    induction m with
    | zero => exact ⟨0, Nat.two_pow_pos _, rfl⟩
    | succ m ih => exact nIor_lt ih (outV_lt hb _)
  exact key n
theorem sum_n {f : Nat → Int32} : ∀ {m : Nat}, (∀ t, t < m → ∃ e, e ≤ 9 ∧ f t = nI e) → ∃ e, e ≤ 9 * m ∧ sumOf m f = nI e
  | 0, _ => ⟨0, Nat.zero_le _, rfl⟩
  | m + 1, h => by
    obtain ⟨e1, h1, h2⟩ := sum_n (fun t ht => h t (Nat.lt_succ_of_lt ht))
    obtain ⟨e2, h3, h4⟩ := h m (Nat.lt_succ_self m)
    refine ⟨e1 + e2, by omega, ?_⟩
    show sumOf m f + f m = _
    rw [h2, h4, nI_add]
theorem heat_n (hb : BW b) (set : Int32) : ∃ e, e ≤ 90 ∧ heatV b set = nI e := by
  have h10 := hb.t10
  obtain ⟨e, h1, h2⟩ := sum_n (f := fun t => if tb set t then nI (bHo b t) else 0) (m := nT b) (fun t ht => by
    by_cases q : tb set t = true
    · exact ⟨bHo b t, (hb.2.2.2.1 t ht).2.2.2.2.1, if_pos q⟩
    · exact ⟨0, by omega, if_neg q⟩)
  exact ⟨e, by omega, h2⟩
theorem rd_n (hb : BW b) : ∃ m e, m ≤ 10 ∧ e ≤ 90 ∧ popc (rdI b T v n n).2 = nI m ∧ heatV b (rdI b T v n n).2 = nI e ∧ rdF b T n v = nI (100 * m + e) := by
  obtain ⟨k, h1, h2⟩ := lt1024 hb (rd_lt (T := T) (v := v) (n := n) hb)
  obtain ⟨e, h3, h4⟩ := heat_n hb (rdI b T v n n).2
  have hp := popc_k ⟨k, h1⟩
  refine ⟨pcf 32 (nI k).toBitVec.toNat, e, hp, h3, by rw [h2]; rfl, h4, ?_⟩
  unfold rdF
  rw [h4, h2, show popc (nI k) = nI (pcf 32 (nI k).toBitVec.toNat) from rfl, pk_mul, nI_add]
theorem rdM_n (hb : BW b) : rdM (v, rdF b T n v).2 = popc (rdI b T v n n).2 := by
  obtain ⟨m, e, h1, h2, h3, h4, h5⟩ := rd_n (T := T) (v := v) (n := n) hb
  show rdM (rdF b T n v) = _
  rw [h5, h3, rdM_p (nI_pos (by omega)), pk_div (by omega) (by omega) (by omega)]
  exact congrArg nI (by omega)
theorem rdH_n (hb : BW b) : rdH (v, rdF b T n v).2 = heatV b (rdI b T v n n).2 := by
  obtain ⟨m, e, h1, h2, h3, h4, h5⟩ := rd_n (T := T) (v := v) (n := n) hb
  show rdH (rdF b T n v) = _
  rw [h5, h4, rdH_p (nI_pos (by omega)), pk_rem (by omega) (by omega) (by omega)]
  exact congrArg nI (by omega)
theorem rdS_ok (hb : BW b) : ∀ v, ((rdS b T n v).2 = -1 ∧ v = 0) ∨ ∃ y, y ≤ 1090 ∧ (rdS b T n v).2 = nI y
  | 0 => Or.inl ⟨rfl, rfl⟩
  | v + 1 => by
    obtain ⟨m, e, h1, h2, h3, h4, h5⟩ := rd_n (T := T) (v := v) (n := n) hb
    by_cases q : (rdS b T n v).2 < rdF b T n v
    · rw [rdS_t q]; exact Or.inr ⟨100 * m + e, by omega, h5⟩
    · rw [rdS_f q]
      rcases rdS_ok hb v with z | z
      · refine absurd ?_ q
        rw [z.1, h5]
        exact Int32.lt_of_lt_of_le (show (-1 : Int32) < 0 by decide) (Int32.not_lt.mp (nI_pos (by omega)))
      · exact Or.inr z
theorem rdS_ge (hb : BW b) (_hw : TW b T) (h0 : 0 < v) : ¬ (rdS b T n v).2 < 0 := by
  rcases rdS_ok (T := T) (n := n) hb v with z | ⟨y, h1, h2⟩
  · omega
  · rw [h2]; exact nI_pos (by omega)
theorem m1_lt {y : Nat} (h : y < 2 ^ 31) : (-1 : Int32) < nI y := Int32.lt_of_lt_of_le (show (-1 : Int32) < 0 by decide) (Int32.not_lt.mp (nI_pos h))
theorem rd_v0 (hb : BW b) (h : ¬ (rdS b T n v).2 < rdF b T n v) : v ≠ 0 := fun e => by
  subst e
  obtain ⟨m, e, h1, h2, h3, h4, h5⟩ := rd_n (T := T) (v := 0) (n := n) hb
  exact h (by rw [h5]; exact m1_lt (by omega))
theorem rd_a (hb : BW b) (_hw : TW b T) (h : popc (rdI b T v n n).2 < rdM (rdS b T n v).2) : ¬ (rdS b T n v).2 < rdF b T n v := by
  obtain ⟨m, e, h1, h2, h3, h4, h5⟩ := rd_n (T := T) (v := v) (n := n) hb
  rw [h3] at h
  rcases rdS_ok (T := T) (n := n) hb v with z | ⟨y, hy, ey⟩
  · rw [z.1, rdM_0] at h; exact absurd (Int32.lt_trans h (m1_lt (y := m) (by omega))) (irr _)
  · rw [ey, rdM_p (nI_pos (by omega)), pk_div (by omega) (by omega) (by omega), nlt (by omega) (by omega)] at h
    rw [ey, h5, nlt (by omega) (by omega)]
    omega
theorem rd_b (hb : BW b) (_hw : TW b T) (h : ¬ popc (rdI b T v n n).2 < rdM (rdS b T n v).2) (hne : ¬ popc (rdI b T v n n).2 = rdM (rdS b T n v).2) : (rdS b T n v).2 < rdF b T n v := by
  obtain ⟨m, e, h1, h2, h3, h4, h5⟩ := rd_n (T := T) (v := v) (n := n) hb
  rw [h3] at h hne
  rcases rdS_ok (T := T) (n := n) hb v with z | ⟨y, hy, ey⟩
  · rw [z.1, h5]; exact m1_lt (by omega)
  · rw [ey, rdM_p (nI_pos (by omega)), pk_div (by omega) (by omega) (by omega), nlt (by omega) (by omega)] at h
    rw [ey, rdM_p (nI_pos (by omega)), pk_div (by omega) (by omega) (by omega), neq (by omega) (by omega)] at hne
    rw [ey, h5, nlt (by omega) (by omega)]
    omega
theorem rd_c (hb : BW b) (_hw : TW b T) (he : popc (rdI b T v n n).2 = rdM (rdS b T n v).2) (h : rdH (rdS b T n v).2 < heatV b (rdI b T v n n).2) : (rdS b T n v).2 < rdF b T n v := by
  obtain ⟨m, e, h1, h2, h3, h4, h5⟩ := rd_n (T := T) (v := v) (n := n) hb
  rw [h3] at he
  rw [h4] at h
  rcases rdS_ok (T := T) (n := n) hb v with z | ⟨y, hy, ey⟩
  · rw [z.1, h5]; exact m1_lt (by omega)
  · rw [ey, rdM_p (nI_pos (by omega)), pk_div (by omega) (by omega) (by omega), neq (by omega) (by omega)] at he
    rw [ey, rdH_p (nI_pos (by omega)), pk_rem (by omega) (by omega) (by omega), nlt (by omega) (by omega)] at h
    rw [ey, h5, nlt (by omega) (by omega)]
    omega
theorem rd_d (hb : BW b) (_hw : TW b T) (he : popc (rdI b T v n n).2 = rdM (rdS b T n v).2) (h : ¬ rdH (rdS b T n v).2 < heatV b (rdI b T v n n).2) : ¬ (rdS b T n v).2 < rdF b T n v := by
  obtain ⟨m, e, h1, h2, h3, h4, h5⟩ := rd_n (T := T) (v := v) (n := n) hb
  rw [h3] at he
  rw [h4] at h
  rcases rdS_ok (T := T) (n := n) hb v with z | ⟨y, hy, ey⟩
  · rw [z.1, rdM_0] at he; have h9 := m1_lt (y := m) (by omega); rw [he] at h9; exact absurd h9 (irr _)
  · rw [ey, rdM_p (nI_pos (by omega)), pk_div (by omega) (by omega) (by omega), neq (by omega) (by omega)] at he
    rw [ey, rdH_p (nI_pos (by omega)), pk_rem (by omega) (by omega) (by omega), nlt (by omega) (by omega)] at h
    rw [ey, h5, nlt (by omega) (by omega)]
    omega
end RDS
theorem rd_cp {h : ev_H} {n : Nat} : ∀ k, hI (cpI h 85 0 84 0 n) 84 k = if k < n then hI h 85 k else hI h 84 k := fun k => by
  rw [cpI_at]
  by_cases e : k < n
  · rw [if_pos e, pk_cpy_in (by omega) (by omega), show 0 + (k - 0) = k by omega]
  · rw [if_neg e, pk_cpy_out (by omega)]
theorem rd_old {v : Nat} {f R : Nat → Int32} {n : Nat} {h : ev_H} (hR : ∀ k, k < 6 → hI h 84 k = if v = 0 then R k else rowD f n R k) (h0 : v ≠ 0) : ∀ k, k < 6 → hI h 84 k = rowD f n R k := fun k hk => (hR k hk).trans (if_neg h0)
theorem rd_new {v : Nat} {f g R : Nat → Int32} {n : Nat} {h hS hC : ev_H} (hR : ∀ k, k < 6 → hI h 84 k = if v = 0 then R k else rowD f n R k) (eC : ∀ k, hI hC 84 k = if k < n then hI hS 85 k else hI hS 84 k) (hr : ∀ k, k < n → hI hS 85 k = g k) (hs : ∀ k, k < 6 → hI hS 84 k = hI h 84 k) : ∀ k, k < 6 → hI hC 84 k = rowD g n R k := fun k hk => by
  rw [eC k]
  unfold rowD
  by_cases e : k < n
  · rw [if_pos e, if_pos e, hr k e]
  · rw [if_neg e, if_neg e, hs k hk, hR k hk]
    unfold rowD
    rw [if_neg e]
    split <;> rfl

theorem x0_round {G : ev_G} {b : Bk} {K : XK} {T : Nat → Int32} {h : ev_H} (hm : XM b K T h) {R : Nat → Int32} (hR : ∀ k, k < 6 → hI h 84 k = R k) (n wh : Int32) : Called G mX0_round 314 0 0 [vR 64, vI n, vI wh] h (pI (fun y h1 => y = (if rdOk b n wh then rdV b T n wh else -1) ∧ Fw (S2 K) [15] h h1 ∧ hI h1 64 15 = (if rdOk b n wh then n else nI 0) ∧ ∀ k, k < 6 → hI h1 84 k = (if rdOk b n wh then rdR b T n R else R) k)) := by
  have hb := hm.xb
  have hT := hm.xt
  have hl := hm.lay
  have hw := hm.bw
  have hb1 := hw.p6
  have hb2 := hw.s5
  have hb3 := hw.t10
  have hw9 := hm.tw
  refine called_of rfl [some (vR 64), some (vI n), some (vI wh), none, none, none, none, none, none, none] rfl (Nat.le_of_ble_eq_true rfl) ?_
  refine r_aload_n dX0_round_0 rfl ?_
  refine r_iconst (v := nI 0) dX0_round_1 (by decide) ?_
  refine r_putN fX0_123 (hl.k) (by decide) dX0_round_2 ?_
  have gA : Fr [64] [] h (sI h 64 15 (nI 0)) := Fr.rf.sa 64 15 _ (by simp)
  have kA : Fw (S2 K) [15] h (sI h 64 15 (nI 0)) := Fw.sf 15 _ (by simp)
  have e15A : hI (sI h 64 15 (nI 0)) 64 15 = nI 0 := rfl
  have hmA : XM b K T (sI h 64 15 (nI 0)) := hm.f2 kA
  have hRA : ∀ k, k < 6 → hI (sI h 64 15 (nI 0)) 84 k = R k := fun k hk => (gA.2.2.2.2.2 84 k (by simp) (fun _ => by simp)).trans (hR k hk)
  generalize sI h 64 15 (nI 0) = hA at gA kA e15A hmA hRA ⊢
  have hbA := hmA.xb
  have hTA := hmA.xt
  have hlA := hmA.lay
  refine r_iload_n dX0_round_5 rfl ?_
  refine r_iconst (v := 0) dX0_round_6 (by decide) ?_
  refine r_iconst (v := nI 4) dX0_round_7 (by decide) ?_
  refine r_callSx lX0_155 (x0_isIn _ _ _) rfl rfl rfl rfl dX0_round_8 (Nat.le_refl _) (Nat.le_refl _) ?_
  refine r_ifB_eq (tgt := 30) dX0_round_11 rfl (fun c1 => ?_) (fun c1 => ?_)
  · --
    refine r_iconst (v := (-1)) dX0_round_30 (by decide) ?_
    exact r_reti dX0_round_31 rfl rfl (Nat.le_refl _) (Nat.le_refl _) (⟨if_n (by simp [rdOk, c1]) rfl, kA, if_n (by simp [rdOk, c1]) e15A, fun k hk => by rw [if_neg (by rw [show rdOk _ _ _ = false from (by simp [rdOk, c1])]; decide)]; exact hRA k hk⟩)
  · --
    obtain ⟨jn, hjn, rfl⟩ := isIn_m (by decide) c1
    refine r_iload_n dX0_round_14 rfl ?_
    refine r_iconst (v := 0) dX0_round_15 (by decide) ?_
    refine r_iconst (v := 1) dX0_round_16 (by decide) ?_
    refine r_callSx lX0_155 (x0_isIn _ _ _) rfl rfl rfl rfl dX0_round_17 (Nat.le_refl _) (Nat.le_refl _) ?_
    refine r_ifB_eq (tgt := 30) dX0_round_20 rfl (fun c2 => ?_) (fun c2 => ?_)
    · --
      refine r_iconst (v := (-1)) dX0_round_30 (by decide) ?_
      exact r_reti dX0_round_31 rfl rfl (Nat.le_refl _) (Nat.le_refl _) (⟨if_n (by simp [rdOk, c1, c2]) rfl, kA, if_n (by simp [rdOk, c1, c2]) e15A, fun k hk => by rw [if_neg (by rw [show rdOk _ _ _ = false from (by simp [rdOk, c1, c2])]; decide)]; exact hRA k hk⟩)
    · --
      refine r_aload_n dX0_round_23 rfl ?_
      refine r_callVx lX0_153 (x0_sacks hmA) (hlA.k) rfl rfl rfl rfl dX0_round_24 (Nat.le_refl _) (Nat.le_refl _) ?_
      refine r_if_ne (tgt := 32) dX0_round_27 rfl (fun c3 => ?_) (fun c3 => ?_)
      · --
        have hs0 : 0 < nS b := Nat.pos_of_ne_zero (fun e => c3 (by rw [e]; rfl))
        have hpw := pwS hb2 hjn
        have hpw1 : 0 < nS b ^ jn := Nat.pow_pos hs0
        refine r_iconst (v := nI 1) dX0_round_32 (by decide) ?_
        refine r_istore_n dX0_round_33 (by decide) rfl ?_
        refine r_iconst (v := (-1)) dX0_round_34 (by decide) ?_
        refine r_istore dX0_round_35 (by decide) rfl ?_
        refine r_iconst (v := (-1)) dX0_round_37 (by decide) ?_
        refine r_istore dX0_round_38 (by decide) rfl ?_
        refine r_iconst (v := nI 0) dX0_round_40 (by decide) ?_
        refine r_istore dX0_round_41 (by decide) rfl ?_
        refine (ev_for (P := fun i => Ev G mX0_round (ev_room 314 0 0) (ev_MQ G (pI (fun y h1 => y = (if rdOk b (nI jn) wh then rdV b T (nI jn) wh else -1) ∧ Fw (S2 K) [15] h h1 ∧ hI h1 64 15 = (if rdOk b (nI jn) wh then (nI jn) else nI 0) ∧ ∀ k, k < 6 → hI h1 84 k = (if rdOk b (nI jn) wh then rdR b T (nI jn) R else R) k)) 0 0) 43 [some (vR 64), some (vI (nI jn)), some (vI wh), some (vI (nI (nS b ^ i))), some (vI (-1)), some (vI (-1)), some (vI (nI i)), none, none, none] [] hA 0 0) jn (fun i hki ihi => ?_)) 0 (Nat.zero_le _)
        refine r_iload dX0_round_43 rfl ?_
        refine r_iload_n dX0_round_45 rfl ?_
        refine r_icmpN_ge (tgt := 62) dX0_round_46 rfl (by omega) (by omega) (fun c4 => ?_) (fun c4 => ?_)
        · --
          have hij : jn = i := by omega
          subst hij
          refine r_iconst (v := nI 0) dX0_round_62 (by decide) ?_
          refine r_istore dX0_round_63 (by decide) rfl ?_
          refine r_L (L2 := [some (vR 64), some (vI (nI jn)), some (vI wh), some (vI (nI (nS b ^ jn))), some (vI (rdM (rdS b T jn 0).2)), some (vI (rdH (rdS b T jn 0).2)), some (vI (nI 0)), none, none, none]) (by rw [show (rdS b T jn 0).2 = -1 from rfl, rdM_0, rdH_0]; rfl) ?_
          refine (ev_for (P := fun v => ∀ hL : ev_H, (Fw (S2 K) [15] h hL ∧ hI hL 64 15 = nI 0 ∧ ∀ k, k < 6 → hI hL 84 k = (if v = 0 then R k else rowD (fun q => nI (dig (nS b) (rdS b T jn v).1 jn q)) jn R k)) → Ev G mX0_round (ev_room 314 0 0) (ev_MQ G (pI (fun y h1 => y = (if rdOk b (nI jn) wh then rdV b T (nI jn) wh else -1) ∧ Fw (S2 K) [15] h h1 ∧ hI h1 64 15 = (if rdOk b (nI jn) wh then (nI jn) else nI 0) ∧ ∀ k, k < 6 → hI h1 84 k = (if rdOk b (nI jn) wh then rdR b T (nI jn) R else R) k)) 0 0) 65 [some (vR 64), some (vI (nI jn)), some (vI wh), some (vI (nI (nS b ^ jn))), some (vI (rdM (rdS b T jn v).2)), some (vI (rdH (rdS b T jn v).2)), some (vI (nI v)), none, none, none] [] hL 0 0) (nS b ^ jn) (fun v hkv ihv hL qhL => ?_)) 0 (Nat.zero_le _) _ (⟨kA, e15A, hRA⟩)
          obtain ⟨kL, e15L, hRL⟩ := qhL
          have hmL := hm.f2 kL
          have hbL := hmL.xb
          have hTL := hmL.xt
          have hlL := hmL.lay
          refine r_iload dX0_round_65 rfl ?_
          refine r_iload_n dX0_round_67 rfl ?_
          refine r_icmpN_ge (tgt := 150) dX0_round_68 rfl (by omega) (by omega) (fun c5 => ?_) (fun c5 => ?_)
          · --
            refine r_aload_n dX0_round_150 rfl ?_
            refine r_iload_n dX0_round_151 rfl ?_
            refine r_putN fX0_123 (hlL.k) (by decide) dX0_round_152 ?_
            refine r_iload_n dX0_round_155 rfl ?_
            refine r_if_ne (tgt := 164) dX0_round_156 rfl (fun c6 => ?_) (fun c6 => ?_)
            · --
              refine r_iload dX0_round_164 rfl ?_
              have hvj : v = nS b ^ jn := by omega
              have hge := rdS_ge hw hw9 (n := jn) (v := v) (by omega)
              exact r_reti dX0_round_166 rfl rfl (Nat.le_refl _) (Nat.le_refl _) (⟨if_p (by simp [rdOk, c1, c2, c3]) (by rw [rdV, if_neg c6, nI_clamp (by omega), rdB, ← hvj]; exact rdH_p hge), kL.tr (Fw.sf 15 _ (by simp)), if_p (by simp [rdOk, c1, c2, c3]) rfl, fun k hk => by rw [if_pos (by simp [rdOk, c1, c2, c3])]; refine (rdI_s (by decide)).trans ((hRL k hk).trans ?_); rw [if_neg (by omega), rdR, nI_clamp (by omega), rdB, hvj]⟩)
            · --
              refine r_iload dX0_round_159 rfl ?_
              refine r_goto (tgt := 166) dX0_round_161 rfl ?_
              have hvj : v = nS b ^ jn := by omega
              have hge := rdS_ge hw hw9 (n := jn) (v := v) (by omega)
              exact r_reti dX0_round_166 rfl rfl (Nat.le_refl _) (Nat.le_refl _) (⟨if_p (by simp [rdOk, c1, c2, c3]) (by rw [rdV, if_pos c6, nI_clamp (by omega), rdB, ← hvj]; exact rdM_p hge), kL.tr (Fw.sf 15 _ (by simp)), if_p (by simp [rdOk, c1, c2, c3]) rfl, fun k hk => by rw [if_pos (by simp [rdOk, c1, c2, c3])]; refine (rdI_s (by decide)).trans ((hRL k hk).trans ?_); rw [if_neg (by omega), rdR, nI_clamp (by omega), rdB, hvj]⟩)
          · --
            refine r_aload_n dX0_round_71 rfl ?_
            refine r_iload_n dX0_round_72 rfl ?_
            refine r_iload dX0_round_73 rfl ?_
            refine r_callVi lX0_286 (x0_saidBy hmL (n := jn) (v := v) hjn hs0 (by omega)) (hlL.k) rfl rfl rfl rfl dX0_round_75 (Nat.le_refl _) (Nat.le_refl _) (fun y9 hS q9 => ?_)
            obtain ⟨rfl, gS, hrS⟩ := q9
            have kS : Fw (S2 K) [15] h hS := kL.tr (gS.fw (fun a ha => Or.inl ha))
            have hmS := hm.f2 kS
            have e15S := (gS.2.2.2.2.2 64 15 hmL.no64 (fun _ => by simp)).trans e15L
            have hRS : ∀ k, k < 6 → hI hS 84 k = (if v = 0 then R k else rowD (fun q => nI (dig (nS b) (rdS b T jn v).1 jn q)) jn R k) := fun k hk => (gS.2.2.2.2.2 84 k hmL.no84 (fun _ => by simp)).trans (hRL k hk)
            have hbS := hmS.xb
            have hTS := hmS.xt
            have hlS := hmS.lay
            refine r_istore dX0_round_78 (by decide) rfl ?_
            refine r_iload dX0_round_80 rfl ?_
            refine r_callSx lX0_239 (xJ15_bc (lt1024 hw (rd_lt hw))) rfl rfl rfl rfl dX0_round_82 (Nat.le_refl _) (Nat.le_refl _) ?_
            refine r_istore dX0_round_85 (by decide) rfl ?_
            refine r_aload_n dX0_round_87 rfl ?_
            refine r_getRv fX0_42 (hlS.k) (v := kB K) (hmS.bk) rfl dX0_round_88 ?_
            refine r_iload dX0_round_91 rfl ?_
            refine r_callVx lX0_209 (x1_heat hbS _) (hbS.k) rfl rfl rfl rfl dX0_round_93 (Nat.le_refl _) (Nat.le_refl _) ?_
            refine r_istore dX0_round_96 (by decide) rfl ?_
            refine r_iload dX0_round_98 rfl ?_
            refine r_iload dX0_round_100 rfl ?_
            refine r_icmp_lt (tgt := 144) dX0_round_102 rfl (fun c7 => ?_) (fun c7 => ?_)
            · --
              refine r_iincN (n := 1) dX0_round_144 rfl rfl (by decide) rfl ?_
              refine r_goto (tgt := 65) dX0_round_147 rfl ?_
              refine r_sub [some (vR 64), some (vI (nI jn)), some (vI wh), some (vI (nI (nS b ^ jn))), some (vI (rdM (rdS b T jn v).2)), some (vI (rdH (rdS b T jn v).2)), some (vI (nI (v + 1))), none, none, none] (And.intro rfl (And.intro rfl (And.intro rfl (And.intro rfl (And.intro rfl (And.intro rfl (And.intro rfl trivial))))))) ?_
              exact r_L (by rw [rdS_f (rd_a hw hw9 c7)] <;> rfl) (ihv (by omega) _ (⟨kS, e15S, fun k hk => by rw [if_neg (by omega), rdS_f (rd_a hw hw9 c7)]; exact rd_old hRS (rd_v0 hw (rd_a hw hw9 c7)) k hk⟩))
            · --
              refine r_iload dX0_round_105 rfl ?_
              refine r_iload dX0_round_107 rfl ?_
              refine r_icmp_ne (tgt := 122) dX0_round_109 rfl (fun c8 => ?_) (fun c8 => ?_)
              · --
                refine r_iload dX0_round_122 rfl ?_
                refine r_istore dX0_round_124 (by decide) rfl ?_
                refine r_iload dX0_round_126 rfl ?_
                refine r_istore dX0_round_128 (by decide) rfl ?_
                refine r_aload_n dX0_round_130 rfl ?_
                refine r_getRv fX0_71 (hlS.k) (v := 85) (hlS.r 13 (by decide) (by decide)) rfl dX0_round_131 ?_
                refine r_iconst (v := nI 0) dX0_round_134 (by decide) ?_
                refine r_aload_n dX0_round_135 rfl ?_
                refine r_getRv fX0_67 (hlS.k) (v := 84) (hlS.r 12 (by decide) (by decide)) rfl dX0_round_136 ?_
                refine r_iconst (v := nI 0) dX0_round_139 (by decide) ?_
                refine r_iload_n dX0_round_140 rfl ?_
                refine r_copyI (t := 0) q1295 (by decide) hlS.row.1 hlS.lies.1 (by decide) (by decide) hlS.row.2 hlS.lies.2 (by omega) (by omega) (by decide) (by decide) (fun i hi => rfl) (by decide) (by decide) rfl dX0_round_141 ?_
                have gC : Fr [84] [] hS (cpI hS 85 0 84 0 jn) := Fr.rf.cp 85 0 84 0 jn (by simp)
                have kC : Fw (S2 K) [15] h (cpI hS 85 0 84 0 jn) := kS.tr (gC.fw (fun a ha => Or.inr (List.mem_singleton.mp ha)))
                have eC := rd_cp (h := hS) (n := jn)
                have e15C := (gC.2.2.2.2.2 64 15 (by simp) (fun _ => by simp)).trans e15S
                generalize cpI hS 85 0 84 0 jn = hC at gC kC eC e15C ⊢
                have hmC := hm.f2 kC
                have hbC := hmC.xb
                have hTC := hmC.xt
                have hlC := hmC.lay
                refine r_iincN (n := 1) dX0_round_144 rfl rfl (by decide) rfl ?_
                refine r_goto (tgt := 65) dX0_round_147 rfl ?_
                refine r_sub [some (vR 64), some (vI (nI jn)), some (vI wh), some (vI (nI (nS b ^ jn))), some (vI (popc ((rdI b T v jn jn).2))), some (vI (heatV b ((rdI b T v jn jn).2))), some (vI (nI (v + 1))), none, none, none] (And.intro rfl (And.intro rfl (And.intro rfl (And.intro rfl (And.intro rfl (And.intro rfl (And.intro rfl trivial))))))) ?_
                exact r_L (by rw [rdS_t (rd_b hw hw9 c7 c8), rdM_n hw, rdH_n hw] <;> rfl) (ihv (by omega) _ (⟨kC, e15C, fun k hk => by rw [if_neg (by omega), rdS_t (rd_b hw hw9 c7 c8)]; exact rd_new hRL eC hrS (fun k hk => (gS.2.2.2.2.2 84 k (hmL.no84) (fun _ => by simp))) k hk⟩))
              · --
                refine r_iload dX0_round_112 rfl ?_
                refine r_iload dX0_round_114 rfl ?_
                refine r_icmp_gt (tgt := 122) dX0_round_116 rfl (fun c9 => ?_) (fun c9 => ?_)
                · --
                  refine r_iload dX0_round_122 rfl ?_
                  refine r_istore dX0_round_124 (by decide) rfl ?_
                  refine r_iload dX0_round_126 rfl ?_
                  refine r_istore dX0_round_128 (by decide) rfl ?_
                  refine r_aload_n dX0_round_130 rfl ?_
                  refine r_getRv fX0_71 (hlS.k) (v := 85) (hlS.r 13 (by decide) (by decide)) rfl dX0_round_131 ?_
                  refine r_iconst (v := nI 0) dX0_round_134 (by decide) ?_
                  refine r_aload_n dX0_round_135 rfl ?_
                  refine r_getRv fX0_67 (hlS.k) (v := 84) (hlS.r 12 (by decide) (by decide)) rfl dX0_round_136 ?_
                  refine r_iconst (v := nI 0) dX0_round_139 (by decide) ?_
                  refine r_iload_n dX0_round_140 rfl ?_
                  refine r_copyI (t := 0) q1295 (by decide) hlS.row.1 hlS.lies.1 (by decide) (by decide) hlS.row.2 hlS.lies.2 (by omega) (by omega) (by decide) (by decide) (fun i hi => rfl) (by decide) (by decide) rfl dX0_round_141 ?_
                  have gC : Fr [84] [] hS (cpI hS 85 0 84 0 jn) := Fr.rf.cp 85 0 84 0 jn (by simp)
                  have kC : Fw (S2 K) [15] h (cpI hS 85 0 84 0 jn) := kS.tr (gC.fw (fun a ha => Or.inr (List.mem_singleton.mp ha)))
                  have eC := rd_cp (h := hS) (n := jn)
                  have e15C := (gC.2.2.2.2.2 64 15 (by simp) (fun _ => by simp)).trans e15S
                  generalize cpI hS 85 0 84 0 jn = hC at gC kC eC e15C ⊢
                  have hmC := hm.f2 kC
                  have hbC := hmC.xb
                  have hTC := hmC.xt
                  have hlC := hmC.lay
                  refine r_iincN (n := 1) dX0_round_144 rfl rfl (by decide) rfl ?_
                  refine r_goto (tgt := 65) dX0_round_147 rfl ?_
                  refine r_sub [some (vR 64), some (vI (nI jn)), some (vI wh), some (vI (nI (nS b ^ jn))), some (vI (popc ((rdI b T v jn jn).2))), some (vI (heatV b ((rdI b T v jn jn).2))), some (vI (nI (v + 1))), none, none, none] (And.intro rfl (And.intro rfl (And.intro rfl (And.intro rfl (And.intro rfl (And.intro rfl (And.intro rfl trivial))))))) ?_
                  exact r_L (by rw [rdS_t (rd_c hw hw9 c8 c9), rdM_n hw, rdH_n hw] <;> rfl) (ihv (by omega) _ (⟨kC, e15C, fun k hk => by rw [if_neg (by omega), rdS_t (rd_c hw hw9 c8 c9)]; exact rd_new hRL eC hrS (fun k hk => (gS.2.2.2.2.2 84 k (hmL.no84) (fun _ => by simp))) k hk⟩))
                · --
                  refine r_goto (tgt := 144) dX0_round_119 rfl ?_
                  refine r_iincN (n := 1) dX0_round_144 rfl rfl (by decide) rfl ?_
                  refine r_goto (tgt := 65) dX0_round_147 rfl ?_
                  refine r_sub [some (vR 64), some (vI (nI jn)), some (vI wh), some (vI (nI (nS b ^ jn))), some (vI (rdM (rdS b T jn v).2)), some (vI (rdH (rdS b T jn v).2)), some (vI (nI (v + 1))), none, none, none] (And.intro rfl (And.intro rfl (And.intro rfl (And.intro rfl (And.intro rfl (And.intro rfl (And.intro rfl trivial))))))) ?_
                  exact r_L (by rw [rdS_f (rd_d hw hw9 c8 c9)] <;> rfl) (ihv (by omega) _ (⟨kS, e15S, fun k hk => by rw [if_neg (by omega), rdS_f (rd_d hw hw9 c8 c9)]; exact rd_old hRS (rd_v0 hw (rd_d hw hw9 c8 c9)) k hk⟩))
        · --
          refine r_iload_n dX0_round_49 rfl ?_
          refine r_aload_n dX0_round_50 rfl ?_
          refine r_callVx lX0_153 (x0_sacks hmA) (hlA.k) rfl rfl rfl rfl dX0_round_51 (Nat.le_refl _) (Nat.le_refl _) ?_
          refine r_imul dX0_round_54 ?_
          refine r_top (nI ((nS b ^ i) * (nS b))) (pk_mul _ _) ?_
          refine r_istore_n dX0_round_55 (by decide) rfl ?_
          refine r_iincN (n := 1) dX0_round_56 rfl rfl (by decide) rfl ?_
          refine r_goto (tgt := 43) dX0_round_59 rfl ?_
          exact r_L (by rw [Nat.pow_succ]; rfl) (ihi (by omega))
      · --
        refine r_iconst (v := (-1)) dX0_round_30 (by decide) ?_
        exact r_reti dX0_round_31 rfl rfl (Nat.le_refl _) (Nat.le_refl _) (⟨if_n (by simp [rdOk, c1, c2, c3]) rfl, kA, if_n (by simp [rdOk, c1, c2, c3]) e15A, fun k hk => by rw [if_neg (by rw [show rdOk _ _ _ = false from (by simp [rdOk, c1, c2, c3])]; decide)]; exact hRA k hk⟩)
