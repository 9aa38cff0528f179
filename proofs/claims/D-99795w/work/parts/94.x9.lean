/-! ===== THE SYSTEM: exchange, rumour, odds (walks by program) ===== -/
set_option maxRecDepth 100000

def exA (n : Nat) (o : Option Nat) : Int32 := match o with
  | none => -1
  | some v => nI (v / n)
def exB (n : Nat) (o : Option Nat) : Int32 := match o with
  | none => -1
  | some v => nI (v % n)
theorem exA_s {n v i : Nat} {f : Int32} (h : v / n = i) : exA n (some v, f).1 = nI i := congrArg nI h
theorem exB_s {n v i : Nat} {f : Int32} (h : v % n = i) : exB n (some v, f).1 = nI i := congrArg nI h
theorem ex_d {n i c : Nat} (h : c < n) : (i * n + c) / n = i := by rw [Nat.add_comm, Nat.add_mul_div_right _ _ (by omega), Nat.div_eq_of_lt h, Nat.zero_add]
theorem ex_m {n i c : Nat} (h : c < n) : (i * n + c) % n = c := by rw [Nat.add_comm, Nat.add_mul_mod_self_right, Nat.mod_eq_of_lt h]
theorem ex_w0 {b : Bk} {T : Nat → Int32} : popc (saidW b T (T 0)) = (exS b T 0).2 := by
  unfold saidW
  rw [show u1 T 0 (T 0) = T from funext (fun k => u1_id)]
  rfl
theorem ex_t {b : Bk} {T : Nat → Int32} {i c : Nat} (hc : c < nT b) (h1 : i < c) (h2 : chgV T i c = true) (h3 : (exS b T (i * nT b + c)).2 < exF b T i c) : exS b T (i * nT b + (c + 1)) = (some (i * nT b + c), exF b T i c) := by
  have e := exS_t (b := b) (T := T) (v := i * nT b + c)
  rw [ex_d hc, ex_m hc] at e
  exact e h1 h2 h3
theorem ex_f {b : Bk} {T : Nat → Int32} {i c : Nat} (hc : c < nT b) (h : chgV T i c = false ∨ ¬ (exS b T (i * nT b + c)).2 < exF b T i c) : exS b T (i * nT b + (c + 1)) = exS b T (i * nT b + c) := by
  have e := exS_f (b := b) (T := T) (v := i * nT b + c)
  rw [ex_d hc, ex_m hc] at e
  exact e (Or.inr h)
theorem ex_skip' {b : Bk} {T : Nat → Int32} {i : Nat} : ∀ c, c ≤ i + 1 → c ≤ nT b → exS b T (i * nT b + c) = exS b T (i * nT b)
  | 0, _, _ => rfl
  | c + 1, h, hn => by
    have e := exS_f (b := b) (T := T) (v := i * nT b + c)
    rw [ex_d (by omega), ex_m (by omega)] at e
    exact (e (Or.inl (by omega))).trans (ex_skip' c (by omega) (by omega))
theorem ex_skip {b : Bk} {T : Nat → Int32} {i : Nat} (h : i < nT b) : exS b T (i * nT b + (i + 1)) = exS b T (i * nT b) := ex_skip' _ (Nat.le_refl _) (by omega)
section EXC
variable {T : Nat → Int32} {i c : Nat}
theorem ex_c1 (h1 : (stV T i && !decide (T (2 + i) < 0)) = true) (h2 : (stV T c && !decide (T (2 + c) < 0)) = true) (h3 : ¬ T (2 + i) = T (2 + c)) : chgV T i c = true := by
  rw [Bool.and_eq_true] at h1 h2
  unfold chgV
  rw [h1.1, h1.2, h2.1, h2.2, decide_eq_false h3]
  rfl
theorem ex_c2 (h1 : (stV T i && !decide (T (2 + i) < 0)) = false) : chgV T i c = false := by
  unfold chgV
  cases a : stV T i with
  | false => rfl
  | true => rw [a, Bool.true_and] at h1; rw [h1]; simp
theorem ex_c3 (h1 : (stV T c && !decide (T (2 + c) < 0)) = false) : chgV T i c = false := by
  unfold chgV
  cases a : stV T c with
  | false => simp
  | true => rw [a, Bool.true_and] at h1; rw [h1]; simp
theorem ex_c4 (h3 : T (2 + i) = T (2 + c)) : chgV T i c = false := by
  unfold chgV
  rw [decide_eq_true h3]
  simp
theorem ex_no {w : Int32} (h0 : ¬ w = 0) (h1 : ¬ w = nI 1) (h2 : ¬ w = nI 2) : ¬ isInV w 0 (nI 2) = true := fun h => by
  obtain ⟨j, hj, rfl⟩ := isIn_m (by decide) h
  match j, hj with
  | 0, _ => exact h0 rfl
  | 1, _ => exact h1 rfl
  | 2, _ => exact h2 rfl
end EXC
/-! rumour: a seventh round tells nothing new -/
def pcN (x : Int32) : Nat := pcf 32 x.toBitVec.toNat
theorem pcN_lt : ∀ S k : Fin 64, ¬ k.val = S.val → k.val ||| S.val = S.val → pcN (nI k.val) < pcN (nI S.val) := by decide +kernel
theorem pcN_le : ∀ S : Fin 64, pcN (nI S.val) ≤ 6 := by decide +kernel
theorem pcN_1 : ∀ j : Fin 6, 1 ≤ pcN (one j.val) := by decide +kernel
section RUM
variable {b : Bk} {T : Nat → Int32}
theorem ruI_ge (hb : BW b) {s : Nat} (hs : s < 2 ^ nP b) : ∀ t, t ≤ nT b → ∃ r, r < 2 ^ nP b ∧ ruI b T (nI s) t = nI r ∧ s ||| r = r
  | 0, _ => ⟨s, hs, rfl, Nat.or_self s⟩
  | t + 1, ht => by
    obtain ⟨r, h1, h2, h3⟩ := ruI_ge hb hs t (by omega)
    have h6 := hb.p6
    have hto := (hb.2.2.2.1 t (by omega)).2.1
    cases hc : (!stV T t && tb (nI s) (bBy b t)) with
    | false => exact ⟨r, h1, (ruI_f hc).symm.trans h2, h3⟩
    | true =>
      obtain ⟨q, q1, q2⟩ := one_lt (j := bTo b t) (m := nP b) hto (by omega)
      refine ⟨r ||| q, Nat.or_lt_two_pow h1 q1, ?_, by rw [← Nat.or_assoc, h3]⟩
      rw [← ruI_t hc, h2, q2, nI_or]
theorem rset_n (hb : BW b) {j : Nat} (hj : j < nP b) : ∀ n, ∃ s, s < 2 ^ nP b ∧ rset b T (nI j) n = nI s
  | 0 => one_lt hj (by have := hb.p6; omega)
  | n + 1 => by
    obtain ⟨s, h1, h2⟩ := rset_n hb hj n
    obtain ⟨r, r1, r2, _⟩ := ruI_ge (T := T) hb h1 (nT b) (Nat.le_refl _)
    exact ⟨r, r1, by show ruI b T (rset b T (nI j) n) (nT b) = _; rw [h2, r2]⟩
theorem rset_up (hb : BW b) {j : Nat} (hj : j < nP b) (h : ∀ n, n < 6 → ¬ rset b T (nI j) (n + 1) = rset b T (nI j) n) : ∀ n, n ≤ 6 → n + 1 ≤ pcN (rset b T (nI j) n)
  | 0, _ => pcN_1 ⟨j, by have := hb.p6; omega⟩
  | n + 1, hn => by
    have ih := rset_up hb hj h n (by omega)
    have hne := h n (by omega)
    have h64 := p2_6 hb.p6
    obtain ⟨s, h1, h2⟩ := rset_n (T := T) hb hj n
    obtain ⟨r, r1, r2, r3⟩ := ruI_ge (T := T) hb h1 (nT b) (Nat.le_refl _)
    have e : rset b T (nI j) (n + 1) = nI r := by show ruI b T (rset b T (nI j) n) (nT b) = _; rw [h2, r2]
    have := pcN_lt ⟨r, by omega⟩ ⟨s, by omega⟩ (fun z => hne (by rw [e, h2]; exact congrArg nI z.symm)) r3
    rw [e]
    rw [h2] at ih
    simp only at this
    omega
theorem rset_const {p : Int32} {n : Nat} (h : rset b T p (n + 1) = rset b T p n) : ∀ m, rset b T p (n + m) = rset b T p n
  | 0 => rfl
  | m + 1 => by
    show ruI b T (rset b T p (n + m)) (nT b) = _
    rw [rset_const h m]
    exact h
theorem rset_65 (hb : BW b) {j : Nat} (hj : j < nP b) : rset b T (nI j) 6 = rset b T (nI j) 5 := by
  by_cases h : ∀ n, n < 6 → ¬ rset b T (nI j) (n + 1) = rset b T (nI j) n
  · have h7 := rset_up hb hj h 6 (by omega)
    obtain ⟨s, h1, h2⟩ := rset_n (T := T) hb hj 6
    have h64 := p2_6 hb.p6
    have := pcN_le ⟨s, by omega⟩
    rw [h2] at h7
    simp only at this
    omega
  · have ⟨n, hn⟩ : ∃ n, n < 6 ∧ rset b T (nI j) (n + 1) = rset b T (nI j) n := Classical.byContradiction (fun z => h (fun n h1 h2 => z ⟨n, h1, h2⟩))
    have a := rset_const hn.2 (6 - n)
    have c := rset_const hn.2 (5 - n)
    rw [show n + (6 - n) = 6 by omega] at a
    rw [show n + (5 - n) = 5 by omega] at c
    rw [a, c]
theorem rum_76 (hb : BW b) {j : Nat} (hj : j < nP b) (o : Int32) : rumV b T 7 (nI j) o = rumV b T 6 (nI j) o := by
  unfold rumV
  refine congrArg (fun z => if perV b (nI j) && perV b o then optI z else -1) ?_
  cases e : firstOf 6 (fun n => tbI (rset b T (nI j) n) o) with
  | some k => exact first_keep e
  | none =>
    refine first_f e ?_
    have e5 : firstOf 5 (fun n => tbI (rset b T (nI j) n) o) = none := by
      cases q : firstOf 5 (fun n => tbI (rset b T (nI j) n) o) with
      | none => rfl
      | some k => rw [first_keep q] at e; cases e
    cases q : tbI (rset b T (nI j) 5) o with
    | true => rw [first_1 e5 q] at e; cases e
    | false => show tbI (rset b T (nI j) 6) o = false; rw [rset_65 hb hj, q]
theorem ru_t {set : Int32} {t : Nat} (h1 : tb (T 1) t = true) (h2 : (set >>> (nI (bBy b t) &&& 31)) &&& 1 = 1) : (!stV T t && tb set (bBy b t)) = true := by
  rw [show stV T t = false by unfold stV; rw [h1]; rfl, show tb set (bBy b t) = true from decide_eq_true h2]
  rfl
theorem ru_f0 {set : Int32} {t : Nat} (h1 : tb (T 1) t = false) : (!stV T t && tb set (bBy b t)) = false := by
  rw [show stV T t = true by unfold stV; rw [h1]; rfl]
  rfl
theorem ru_f1 {set : Int32} {t : Nat} (h2 : ¬ (set >>> (nI (bBy b t) &&& 31)) &&& 1 = 1) : (!stV T t && tb set (bBy b t)) = false := by
  rw [show tb set (bBy b t) = false from decide_eq_false h2]
  simp
end RUM

theorem x0_common {G : ev_G} {h : ev_H} {a c : Nat} (ha : a < 2 ^ 31) (hc : c < 2 ^ 31) : Called G mX0_common 0 0 0 [vI (nI a), vI (nI c)] h (px (vI (nI (Nat.gcd a c))) h) := by
  refine called_of rfl [some (vI (nI a)), some (vI (nI c)), none, none, none] rfl (Nat.le_of_ble_eq_true rfl) ?_
  refine r_iload_n dX0_common_0 rfl ?_
  refine r_istore_n dX0_common_1 (by decide) rfl ?_
  refine r_iload_n dX0_common_2 rfl ?_
  refine r_istore_n dX0_common_3 (by decide) rfl ?_
  refine (ev_loop (σ := Nat × Nat) (P := fun s9 => ∀ (x : Nat) (y : Nat), s9 = (x, y) → (x < 2 ^ 31 ∧ y < 2 ^ 31 ∧ Nat.gcd x y = Nat.gcd a c) → Ev G mX0_common (ev_room 0 0 0) (ev_MQ G (px (vI (nI (Nat.gcd a c))) h) 0 0) 4 [some (vI (nI a)), some (vI (nI c)), some (vI (nI x)), some (vI (nI y)), none] [] h 0 0) (fun s9 => s9.2) (fun s9 ih4 x y e9 q4 => ?_)) (a, c) a c rfl (⟨ha, hc, rfl⟩)
  subst e9
  refine r_iload_n dX0_common_4 rfl ?_
  refine r_if_eq (tgt := 21) dX0_common_5 rfl (fun c1 => ?_) (fun c1 => ?_)
  · --
    refine r_iload_n dX0_common_21 rfl ?_
    exact r_retx dX0_common_22 rfl rfl (by have h9 : y = 0 := nI_z (by omega) c1; subst h9; rw [← q4.2.2, Nat.gcd_zero_right])
  · --
    have hy0 : 0 < y := Nat.pos_of_ne_zero (fun e => c1 (by rw [e]; decide))
    refine r_iload_n dX0_common_8 rfl ?_
    refine r_iload_n dX0_common_9 rfl ?_
    refine r_irem dX0_common_10 (nI_ne0 (by omega) (by omega)) ?_
    refine r_top (nI (x % y)) (pk_rem (by omega) (by omega) (by omega)) ?_
    refine r_istore dX0_common_11 (by decide) rfl ?_
    refine r_iload_n dX0_common_13 rfl ?_
    refine r_istore_n dX0_common_14 (by decide) rfl ?_
    refine r_iload dX0_common_15 rfl ?_
    refine r_istore_n dX0_common_17 (by decide) rfl ?_
    refine r_goto (tgt := 4) dX0_common_18 rfl ?_
    refine r_sub [some (vI (nI a)), some (vI (nI c)), some (vI (nI y)), some (vI (nI (x % y))), none] (And.intro rfl (And.intro rfl (And.intro rfl (And.intro rfl trivial)))) ?_
    exact ih4 (y, x % y) (Nat.mod_lt _ hy0) y (x % y) rfl (⟨q4.2.1, Nat.lt_of_lt_of_le (Nat.mod_lt _ hy0) (Nat.le_of_lt q4.2.1), by rw [← q4.2.2, Nat.gcd_comm x y, Nat.gcd_rec y x, Nat.gcd_comm]⟩)

theorem x0_odds {G : ev_G} {b : Bk} {K : XK} {T : Nat → Int32} {h : ev_H} (hm : XM b K T h) (n wh : Int32) : Called G mX0_odds 1 0 0 [vR 64, vI n, vI wh] h (px (vI (oddsV b n wh)) h) := by
  have hb := hm.xb
  have hT := hm.xt
  have hl := hm.lay
  have hw := hm.bw
  have hb1 := hw.p6
  have hb2 := hw.s5
  have hb3 := hw.t10
  have hw9 := hm.tw
  have hsn := hw.2.2.2.2.2.1
  refine called_of rfl [some (vR 64), some (vI n), some (vI wh), none, none, none] rfl (Nat.le_of_ble_eq_true rfl) ?_
  refine r_iload_n dX0_odds_0 rfl ?_
  refine r_iconst (v := 0) dX0_odds_1 (by decide) ?_
  refine r_iconst (v := nI 4) dX0_odds_2 (by decide) ?_
  refine r_callSx lX0_155 (x0_isIn _ _ _) rfl rfl rfl rfl dX0_odds_3 (Nat.le_refl _) (Nat.le_refl _) ?_
  refine r_ifB_eq (tgt := 18) dX0_odds_6 rfl (fun c1 => ?_) (fun c1 => ?_)
  · --
    refine r_iconst (v := (-1)) dX0_odds_18 (by decide) ?_
    exact r_retx dX0_odds_19 rfl rfl (by rw [oddsV, if_neg (by simp [c1])])
  · --
    obtain ⟨j, hj, rfl⟩ := isIn_m (by decide) c1
    refine r_iload_n dX0_odds_9 rfl ?_
    refine r_iconst (v := 0) dX0_odds_10 (by decide) ?_
    refine r_iconst (v := 1) dX0_odds_11 (by decide) ?_
    refine r_callSx lX0_155 (x0_isIn _ _ _) rfl rfl rfl rfl dX0_odds_12 (Nat.le_refl _) (Nat.le_refl _) ?_
    refine r_ifB_ne (tgt := 20) dX0_odds_15 rfl (fun c2 => ?_) (fun c2 => ?_)
    · --
      refine r_iconst (v := nI 1) dX0_odds_20 (by decide) ?_
      refine r_istore_n dX0_odds_21 (by decide) rfl ?_
      refine r_iconst (v := nI 1) dX0_odds_22 (by decide) ?_
      refine r_istore dX0_odds_23 (by decide) rfl ?_
      refine r_iconst (v := nI 0) dX0_odds_25 (by decide) ?_
      refine r_istore dX0_odds_26 (by decide) rfl ?_
      refine (ev_for (P := fun i => Ev G mX0_odds (ev_room 1 0 0) (ev_MQ G (px (vI (oddsV b (nI j) wh)) h) 0 0) 28 [some (vR 64), some (vI (nI j)), some (vI wh), some (vI (nI ((100 - bSn b) ^ i))), some (vI (nI (100 ^ i))), some (vI (nI i))] [] h 0 0) j (fun i hki ihi => ?_)) 0 (Nat.zero_le _)
      refine r_iload dX0_odds_28 rfl ?_
      refine r_iload_n dX0_odds_30 rfl ?_
      refine r_icmpN_ge (tgt := 60) dX0_odds_31 rfl (by omega) (by omega) (fun c3 => ?_) (fun c3 => ?_)
      · --
        have hij : i = j := by omega
        subst hij
        have hj1 : 100 ^ i ≤ 100 ^ 4 := Nat.pow_le_pow_right (by decide) hj
        have hj2 : (100 - bSn b) ^ i ≤ 100 ^ i := Nat.pow_le_pow_left (by omega) i
        have hj3 : 0 < 100 ^ i := Nat.pow_pos (by decide)
        have hg0 : Nat.gcd (100 ^ i) ((100 - bSn b) ^ i) ≠ 0 := fun e => by have := Nat.eq_zero_of_gcd_eq_zero_left e; omega
        have hg1 : Nat.gcd (100 ^ i) ((100 - bSn b) ^ i) ≤ 100 ^ i := Nat.gcd_le_left _ hj3
        rw [show (100 : Nat) ^ 4 = 100000000 by decide] at hj1
        refine r_iload_n dX0_odds_60 rfl ?_
        refine r_if_ne (tgt := 68) dX0_odds_61 rfl (fun c4 => ?_) (fun c4 => ?_)
        · --
          refine r_iload dX0_odds_68 rfl ?_
          refine r_iload dX0_odds_70 rfl ?_
          refine r_iload_n dX0_odds_72 rfl ?_
          refine r_callSx lX0_334 (x0_common (by omega) (by omega)) rfl rfl rfl rfl dX0_odds_73 (Nat.le_refl _) (Nat.le_refl _) ?_
          refine r_idiv dX0_odds_76 (fun e => hg0 (nI_z (by omega) e)) ?_
          exact r_retx dX0_odds_77 rfl rfl (by rw [oddsV, if_pos (by simp [c1, c2]), nI_clamp (by omega), if_neg c4])
        · --
          refine r_iload_n dX0_odds_64 rfl ?_
          refine r_goto (tgt := 70) dX0_odds_65 rfl ?_
          refine r_iload dX0_odds_70 rfl ?_
          refine r_iload_n dX0_odds_72 rfl ?_
          refine r_callSx lX0_334 (x0_common (by omega) (by omega)) rfl rfl rfl rfl dX0_odds_73 (Nat.le_refl _) (Nat.le_refl _) ?_
          refine r_idiv dX0_odds_76 (fun e => hg0 (nI_z (by omega) e)) ?_
          exact r_retx dX0_odds_77 rfl rfl (by rw [oddsV, if_pos (by simp [c1, c2]), nI_clamp (by omega), if_pos c4])
      · --
        refine r_iload_n dX0_odds_34 rfl ?_
        refine r_bipush (v := nI 100) dX0_odds_35 (by decide) ?_
        refine r_aload_n dX0_odds_37 rfl ?_
        refine r_getRv fX0_42 (hl.k) (v := kB K) (hm.bk) rfl dX0_odds_38 ?_
        refine r_getIv fX0_331 (hb.k) (v := nI (bSn b)) (hb.sn) rfl dX0_odds_41 ?_
        refine r_isub dX0_odds_44 ?_
        refine r_top (nI (100 - (bSn b))) (pk_sub (by omega)) ?_
        refine r_imul dX0_odds_45 ?_
        refine r_top (nI (((100 - bSn b) ^ i) * (100 - (bSn b)))) (pk_mul _ _) ?_
        refine r_istore_n dX0_odds_46 (by decide) rfl ?_
        refine r_iload dX0_odds_47 rfl ?_
        refine r_bipush (v := nI 100) dX0_odds_49 (by decide) ?_
        refine r_imul dX0_odds_51 ?_
        refine r_top (nI ((100 ^ i) * 100)) (pk_mul _ _) ?_
        refine r_istore dX0_odds_52 (by decide) rfl ?_
        refine r_iincN (n := 1) dX0_odds_54 rfl rfl (by decide) rfl ?_
        refine r_goto (tgt := 28) dX0_odds_57 rfl ?_
        exact r_L (by rw [Nat.pow_succ, Nat.pow_succ]; rfl) (ihi (by omega))
    · --
      refine r_iconst (v := (-1)) dX0_odds_18 (by decide) ?_
      exact r_retx dX0_odds_19 rfl rfl (by rw [oddsV, if_neg (by simp [c1, c2])])

theorem x0_rumour {G : ev_G} {b : Bk} {K : XK} {T : Nat → Int32} {h : ev_H} (hm : XM b K T h) (p o : Int32) : Called G mX0_rumour 5 0 0 [vR 64, vI p, vI o] h (px (vI (rumV b T 6 p o)) h) := by
  have hb := hm.xb
  have hT := hm.xt
  have hl := hm.lay
  have hw := hm.bw
  have hb1 := hw.p6
  have hb2 := hw.s5
  have hb3 := hw.t10
  have hw9 := hm.tw
  refine called_of rfl [some (vR 64), some (vI p), some (vI o), none, none, none, none] rfl (Nat.le_of_ble_eq_true rfl) ?_
  refine r_aload_n dX0_rumour_0 rfl ?_
  refine r_iload_n dX0_rumour_1 rfl ?_
  refine r_callVx lX0_165 (x0_isPerson hm _) (hl.k) rfl rfl rfl rfl dX0_rumour_2 (Nat.le_refl _) (Nat.le_refl _) ?_
  refine r_ifB_eq (tgt := 16) dX0_rumour_5 rfl (fun c1 => ?_) (fun c1 => ?_)
  · --
    refine r_iconst (v := (-1)) dX0_rumour_16 (by decide) ?_
    exact r_retx dX0_rumour_17 rfl rfl (rumV_o (by simp [c1]))
  · --
    obtain ⟨j, hj, rfl⟩ := perV_ok hw c1
    refine r_aload_n dX0_rumour_8 rfl ?_
    refine r_iload_n dX0_rumour_9 rfl ?_
    refine r_callVx lX0_165 (x0_isPerson hm _) (hl.k) rfl rfl rfl rfl dX0_rumour_10 (Nat.le_refl _) (Nat.le_refl _) ?_
    refine r_ifB_ne (tgt := 18) dX0_rumour_13 rfl (fun c2 => ?_) (fun c2 => ?_)
    · --
      obtain ⟨jo, hjo, rfl⟩ := perV_ok hw c2
      refine r_iconst (v := nI 1) dX0_rumour_18 (by decide) ?_
      refine r_iload_n dX0_rumour_19 rfl ?_
      refine r_ishl dX0_rumour_20 ?_
      refine r_top (one j) rfl ?_
      refine r_istore_n dX0_rumour_21 (by decide) rfl ?_
      refine r_iconst (v := nI 0) dX0_rumour_22 (by decide) ?_
      refine r_istore dX0_rumour_23 (by decide) rfl ?_
      refine (ev_for (P := fun i => (firstOf i (fun n => tbI (rset b T (nI j) n) (nI jo)) = none) → Ev G mX0_rumour (ev_room 5 0 0) (ev_MQ G (px (vI (rumV b T 6 (nI j) (nI jo))) h) 0 0) 25 [some (vR 64), some (vI (nI j)), some (vI (nI jo)), some (vI (rset b T (nI j) i)), some (vI (nI i)), none, none] [] h 0 0) 7 (fun i hki ihi qi => ?_)) 0 (Nat.zero_le _) (rfl)
      refine r_iload dX0_rumour_25 rfl ?_
      refine r_bipush (v := nI 6) dX0_rumour_27 (by decide) ?_
      refine r_icmpN_gt (tgt := 119) dX0_rumour_29 rfl (by omega) (by omega) (fun c3 => ?_) (fun c3 => ?_)
      · --
        refine r_iconst (v := (-1)) dX0_rumour_119 (by decide) ?_
        exact r_retx dX0_rumour_120 rfl rfl ((rumV_n c1 c2 (by rw [← show i = 7 by omega]; exact qi)).trans (rum_76 hw (by omega) _))
      · --
        refine r_iload_n dX0_rumour_32 rfl ?_
        refine r_iload_n dX0_rumour_33 rfl ?_
        refine r_ishr dX0_rumour_34 ?_
        refine r_iconst (v := 1) dX0_rumour_35 (by decide) ?_
        refine r_iand dX0_rumour_36 ?_
        refine r_iconst (v := 1) dX0_rumour_37 (by decide) ?_
        refine r_icmp_ne (tgt := 44) dX0_rumour_38 rfl (fun c4 => ?_) (fun c4 => ?_)
        · --
          refine r_iload_n dX0_rumour_44 rfl ?_
          refine r_istore dX0_rumour_45 (by decide) rfl ?_
          refine r_iconst (v := nI 0) dX0_rumour_47 (by decide) ?_
          refine r_istore dX0_rumour_48 (by decide) rfl ?_
          refine (ev_for (P := fun u => Ev G mX0_rumour (ev_room 5 0 0) (ev_MQ G (px (vI (rumV b T 6 (nI j) (nI jo))) h) 0 0) 50 [some (vR 64), some (vI (nI j)), some (vI (nI jo)), some (vI (rset b T (nI j) i)), some (vI (nI i)), some (vI (ruI b T (rset b T (nI j) i) u)), some (vI (nI u))] [] h 0 0) (nT b) (fun u hku ihu => ?_)) 0 (Nat.zero_le _)
          refine r_iload dX0_rumour_50 rfl ?_
          refine r_aload_n dX0_rumour_52 rfl ?_
          refine r_callVx lX0_140 (x0_things hm) (hl.k) rfl rfl rfl rfl dX0_rumour_53 (Nat.le_refl _) (Nat.le_refl _) ?_
          refine r_icmpN_ge (tgt := 110) dX0_rumour_56 rfl (by omega) (by omega) (fun c5 => ?_) (fun c5 => ?_)
          · --
            refine r_iload dX0_rumour_110 rfl ?_
            refine r_istore_n dX0_rumour_112 (by decide) rfl ?_
            refine r_iincN (n := 1) dX0_rumour_113 rfl rfl (by decide) rfl ?_
            refine r_goto (tgt := 25) dX0_rumour_116 rfl ?_
            refine r_sub [some (vR 64), some (vI (nI j)), some (vI (nI jo)), some (vI (ruI b T (rset b T (nI j) i) u)), some (vI (nI (i + 1))), none, none] (And.intro rfl (And.intro rfl (And.intro rfl (And.intro rfl (And.intro rfl trivial))))) ?_
            exact r_L (by rw [show u = nT b by omega]; rfl) (ihi (by omega) (first_f qi (decide_eq_false c4)))
          · --
            refine r_aload_n dX0_rumour_59 rfl ?_
            refine r_getRv fX0_53 (hl.k) (v := 74) (hl.r 5 (by decide) (by decide)) rfl dX0_rumour_60 ?_
            refine r_iload dX0_rumour_63 rfl ?_
            refine r_callVx lX0_202 (x3_isSaidN hT u) (hT.k) rfl rfl rfl rfl dX0_rumour_65 (Nat.le_refl _) (Nat.le_refl _) ?_
            refine r_ifB_eq (tgt := 104) dX0_rumour_68 rfl (fun c6 => ?_) (fun c6 => ?_)
            · --
              refine r_iincN (n := 1) dX0_rumour_104 rfl rfl (by decide) rfl ?_
              refine r_goto (tgt := 50) dX0_rumour_107 rfl ?_
              exact r_L (by rw [← ruI_f (ru_f0 c6)]; rfl) (ihu (by omega))
            · --
              refine r_iload_n dX0_rumour_71 rfl ?_
              refine r_aload_n dX0_rumour_72 rfl ?_
              refine r_getRv fX0_42 (hl.k) (v := kB K) (hm.bk) rfl dX0_rumour_73 ?_
              refine r_iload dX0_rumour_76 rfl ?_
              refine r_callVx lX0_190 (x1_by hb (t := u) (by omega)) (hb.k) rfl rfl rfl rfl dX0_rumour_78 (Nat.le_refl _) (Nat.le_refl _) ?_
              refine r_ishr dX0_rumour_81 ?_
              refine r_iconst (v := 1) dX0_rumour_82 (by decide) ?_
              refine r_iand dX0_rumour_83 ?_
              refine r_iconst (v := 1) dX0_rumour_84 (by decide) ?_
              refine r_icmp_ne (tgt := 104) dX0_rumour_85 rfl (fun c7 => ?_) (fun c7 => ?_)
              · --
                refine r_iincN (n := 1) dX0_rumour_104 rfl rfl (by decide) rfl ?_
                refine r_goto (tgt := 50) dX0_rumour_107 rfl ?_
                exact r_L (by rw [← ruI_f (ru_f1 c7)]; rfl) (ihu (by omega))
              · --
                refine r_iload dX0_rumour_88 rfl ?_
                refine r_iconst (v := nI 1) dX0_rumour_90 (by decide) ?_
                refine r_aload_n dX0_rumour_91 rfl ?_
                refine r_getRv fX0_42 (hl.k) (v := kB K) (hm.bk) rfl dX0_rumour_92 ?_
                refine r_iload dX0_rumour_95 rfl ?_
                refine r_callVx lX0_193 (x1_to hb (t := u) (by omega)) (hb.k) rfl rfl rfl rfl dX0_rumour_97 (Nat.le_refl _) (Nat.le_refl _) ?_
                refine r_ishl dX0_rumour_100 ?_
                refine r_top (one (bTo b u)) rfl ?_
                refine r_ior dX0_rumour_101 ?_
                refine r_istore dX0_rumour_102 (by decide) rfl ?_
                refine r_iincN (n := 1) dX0_rumour_104 rfl rfl (by decide) rfl ?_
                refine r_goto (tgt := 50) dX0_rumour_107 rfl ?_
                exact r_L (by rw [← ruI_t (ru_t c6 c7)]; rfl) (ihu (by omega))
        · --
          refine r_iload dX0_rumour_41 rfl ?_
          exact r_retx dX0_rumour_43 rfl rfl ((rumV_s (i := i) (N := 7) c1 c2 (by omega) qi (decide_eq_true c4)).trans (rum_76 hw (by omega) _))
    · --
      refine r_iconst (v := (-1)) dX0_rumour_16 (by decide) ?_
      exact r_retx dX0_rumour_17 rfl rfl (rumV_o (by simp [c1, c2]))

theorem x0_exchange {G : ev_G} {b : Bk} {K : XK} {T : Nat → Int32} {h : ev_H} (hm : XM b K T h) (wh : Int32) : Called G mX0_exchange 314 0 0 [vR 64, vI wh] h (pI (fun y h1 => y = exV b T wh ∧ Fr (QF K) [] h h1)) := by
  have hb := hm.xb
  have hT := hm.xt
  have hl := hm.lay
  have hw := hm.bw
  have hb1 := hw.p6
  have hb2 := hw.s5
  have hb3 := hw.t10
  have hw9 := hm.tw
  have f : Fr (QF K) [] h h := Fr.rf
  have h100 : nT b * nT b ≤ 10 * 10 := Nat.mul_le_mul hb3 hb3
  refine called_of rfl [some (vR 64), some (vI wh), none, none, none, none, none, none] rfl (Nat.le_of_ble_eq_true rfl) ?_
  refine r_iconst (v := (-1)) dX0_exchange_0 (by decide) ?_
  refine r_istore_n dX0_exchange_1 (by decide) rfl ?_
  refine r_iconst (v := (-1)) dX0_exchange_2 (by decide) ?_
  refine r_istore_n dX0_exchange_3 (by decide) rfl ?_
  refine r_aload_n dX0_exchange_4 rfl ?_
  refine r_aload_n dX0_exchange_5 rfl ?_
  refine r_getRv fX0_53 (hl.k) (v := 74) (hl.r 5 (by decide) (by decide)) rfl dX0_exchange_6 ?_
  refine r_getIv fX0_237 (hT.k) (v := T 0) (hT.si) rfl dX0_exchange_9 ?_
  refine r_callVi lX0_293 (x0_allSaidAt hm (v := (T 0)) (hw9.1)) (hl.k) rfl rfl rfl rfl dX0_exchange_12 (Nat.le_refl _) (Nat.le_refl _) (fun y9 hZ1 q9 => ?_)
  obtain ⟨rfl, gZ1⟩ := q9
  have kZ1 : Fr (QF K) [] h hZ1 := gZ1
  have hmZ1 := hm.fq kZ1
  have fZ1 : Fr (QF K) [] h hZ1 := f.tr kZ1
  have hbZ1 := hmZ1.xb
  have hTZ1 := hmZ1.xt
  have hlZ1 := hmZ1.lay
  refine r_istore dX0_exchange_15 (by decide) rfl ?_
  refine r_iconst (v := nI 0) dX0_exchange_17 (by decide) ?_
  refine r_istore dX0_exchange_18 (by decide) rfl ?_
  refine r_L (L2 := [some (vR 64), some (vI wh), some (vI (exA (nT b) (exS b T (0 * nT b)).1)), some (vI (exB (nT b) (exS b T (0 * nT b)).1)), some (vI ((exS b T (0 * nT b)).2)), some (vI (nI 0)), none, none]) (by rw [Nat.zero_mul, ex_w0]; rfl) ?_
  refine (ev_for (P := fun i => ∀ hL : ev_H, (Fr (QF K) [] h hL) → Ev G mX0_exchange (ev_room 314 0 0) (ev_MQ G (pI (fun y h1 => y = exV b T wh ∧ Fr (QF K) [] h h1)) 0 0) 20 [some (vR 64), some (vI wh), some (vI (exA (nT b) (exS b T (i * nT b)).1)), some (vI (exB (nT b) (exS b T (i * nT b)).1)), some (vI ((exS b T (i * nT b)).2)), some (vI (nI i)), none, none] [] hL 0 0) (nT b) (fun i hki ihi hL qhL => ?_)) 0 (Nat.zero_le _) _ (fZ1)
  have fL := qhL
  have hmL := hm.fq fL
  have hbL := hmL.xb
  have hTL := hmL.xt
  have hlL := hmL.lay
  refine r_iload dX0_exchange_20 rfl ?_
  refine r_aload_n dX0_exchange_22 rfl ?_
  refine r_callVx lX0_140 (x0_things hmL) (hlL.k) rfl rfl rfl rfl dX0_exchange_23 (Nat.le_refl _) (Nat.le_refl _) ?_
  refine r_icmpN_ge (tgt := 187) dX0_exchange_26 rfl (by omega) (by omega) (fun c1 => ?_) (fun c1 => ?_)
  · --
    have hi9 : i = nT b := by omega
    subst hi9
    cases hbo : (exS b T (nT b * nT b)).1 with
    | none =>
      refine r_L (L2 := [some (vR 64), some (vI wh), some (vI (-1)), some (vI (-1)), some (vI ((exS b T (nT b * nT b)).2)), some (vI (nI (nT b))), none, none]) rfl ?_
      refine r_iload_n dX0_exchange_187 rfl ?_
      refine r_if_ge (tgt := 195) dX0_exchange_188 rfl (fun c2 => ?_) (fun c2 => ?_)
      · --
        exact absurd c2 (show ¬ (0 : Int32) ≤ (-1) by decide)
      · --
        refine r_iconst (v := (-1)) dX0_exchange_191 (by decide) ?_
        refine r_goto (tgt := 223) dX0_exchange_192 rfl ?_
        exact r_reti dX0_exchange_223 rfl rfl (Nat.le_refl _) (Nat.le_refl _) ⟨by unfold exV; rw [hbo]; split <;> rfl, fL⟩
    | some v =>
      have hv9 := exS_lt hbo
      have hd1 : v / nT b ≤ v := Nat.div_le_self _ _
      refine r_L (L2 := [some (vR 64), some (vI wh), some (vI (nI (v / nT b))), some (vI (nI (v % nT b))), some (vI ((exS b T (nT b * nT b)).2)), some (vI (nI (nT b))), none, none]) rfl ?_
      refine r_iload_n dX0_exchange_187 rfl ?_
      refine r_if_ge (tgt := 195) dX0_exchange_188 rfl (fun c3 => ?_) (fun c3 => ?_)
      · --
        refine r_iload_n dX0_exchange_195 rfl ?_
        refine r_if_ne (tgt := 203) dX0_exchange_196 rfl (fun c4 => ?_) (fun c4 => ?_)
        · --
          refine r_iload_n dX0_exchange_203 rfl ?_
          refine r_iconst (v := nI 1) dX0_exchange_204 (by decide) ?_
          refine r_icmp_ne (tgt := 212) dX0_exchange_205 rfl (fun c5 => ?_) (fun c5 => ?_)
          · --
            refine r_iload_n dX0_exchange_212 rfl ?_
            refine r_iconst (v := nI 2) dX0_exchange_213 (by decide) ?_
            refine r_icmp_ne (tgt := 222) dX0_exchange_214 rfl (fun c6 => ?_) (fun c6 => ?_)
            · --
              refine r_iconst (v := (-1)) dX0_exchange_222 (by decide) ?_
              exact r_reti dX0_exchange_223 rfl rfl (Nat.le_refl _) (Nat.le_refl _) ⟨by rw [exV, if_neg (ex_no c4 c5 c6)], fL⟩
            · --
              refine r_iload dX0_exchange_217 rfl ?_
              refine r_goto (tgt := 223) dX0_exchange_219 rfl ?_
              exact r_reti dX0_exchange_223 rfl rfl (Nat.le_refl _) (Nat.le_refl _) ⟨by rw [exV, if_pos (by rw [c6]; decide), hbo]; show _ = ite _ _ _; rw [if_neg c4, if_neg c5], fL⟩
          · --
            refine r_iload_n dX0_exchange_208 rfl ?_
            refine r_goto (tgt := 223) dX0_exchange_209 rfl ?_
            exact r_reti dX0_exchange_223 rfl rfl (Nat.le_refl _) (Nat.le_refl _) ⟨by rw [exV, if_pos (by rw [c5]; decide), hbo]; show _ = ite _ _ _; rw [if_neg c4, if_pos c5], fL⟩
        · --
          refine r_iload_n dX0_exchange_199 rfl ?_
          refine r_goto (tgt := 223) dX0_exchange_200 rfl ?_
          exact r_reti dX0_exchange_223 rfl rfl (Nat.le_refl _) (Nat.le_refl _) ⟨by rw [exV, if_pos (by rw [c4]; decide), hbo]; exact (if_pos c4).symm, fL⟩
      · --
        exact absurd (nI_pos' (by omega)) c3
  · --
    refine r_iload dX0_exchange_29 rfl ?_
    refine r_iconst (v := nI 1) dX0_exchange_31 (by decide) ?_
    refine r_iadd dX0_exchange_32 ?_
    refine r_top (nI (i + 1)) (nI_add _ _) ?_
    refine r_istore dX0_exchange_33 (by decide) rfl ?_
    refine r_L (L2 := [some (vR 64), some (vI wh), some (vI (exA (nT b) (exS b T (i * nT b + (i + 1))).1)), some (vI (exB (nT b) (exS b T (i * nT b + (i + 1))).1)), some (vI ((exS b T (i * nT b + (i + 1))).2)), some (vI (nI i)), some (vI (nI (i + 1))), none]) (by rw [ex_skip (by omega)]; rfl) ?_
    refine (ev_for (P := fun jj9 => ∀ hN : ev_H, (Fr (QF K) [] h hN ∧ i < jj9) → Ev G mX0_exchange (ev_room 314 0 0) (ev_MQ G (pI (fun y h1 => y = exV b T wh ∧ Fr (QF K) [] h h1)) 0 0) 35 [some (vR 64), some (vI wh), some (vI (exA (nT b) (exS b T (i * nT b + jj9)).1)), some (vI (exB (nT b) (exS b T (i * nT b + jj9)).1)), some (vI ((exS b T (i * nT b + jj9)).2)), some (vI (nI i)), some (vI (nI (jj9))), none] [] hN 0 0) (nT b) (fun jj9 hkjj9 ihjj9 hN qhN => ?_)) (i + 1) (by omega) _ (⟨fL, by omega⟩)
    obtain ⟨fN, hij⟩ := qhN
    have hmN := hm.fq fN
    have hbN := hmN.xb
    have hTN := hmN.xt
    have hlN := hmN.lay
    refine r_iload dX0_exchange_35 rfl ?_
    refine r_aload_n dX0_exchange_37 rfl ?_
    refine r_callVx lX0_140 (x0_things hmN) (hlN.k) rfl rfl rfl rfl dX0_exchange_38 (Nat.le_refl _) (Nat.le_refl _) ?_
    refine r_icmpN_ge (tgt := 181) dX0_exchange_41 rfl (by omega) (by omega) (fun c7 => ?_) (fun c7 => ?_)
    · --
      refine r_iincN (n := 1) dX0_exchange_181 rfl rfl (by decide) rfl ?_
      refine r_goto (tgt := 20) dX0_exchange_184 rfl ?_
      refine r_sub [some (vR 64), some (vI wh), some (vI (exA (nT b) (exS b T (i * nT b + jj9)).1)), some (vI (exB (nT b) (exS b T (i * nT b + jj9)).1)), some (vI ((exS b T (i * nT b + jj9)).2)), some (vI (nI (i + 1))), none, none] (And.intro rfl (And.intro rfl (And.intro rfl (And.intro rfl (And.intro rfl (And.intro rfl trivial)))))) ?_
      exact r_L (by rw [show (i + 1) * nT b = i * nT b + jj9 by rw [show jj9 = nT b by omega, Nat.succ_mul]] <;> rfl) (ihi (by omega) _ (fN))
    · --
      refine r_aload_n dX0_exchange_44 rfl ?_
      refine r_iload dX0_exchange_45 rfl ?_
      refine r_callVx lX0_296 (x0_isInSack hmN (t := i) (by omega)) (hlN.k) rfl rfl rfl rfl dX0_exchange_47 (Nat.le_refl _) (Nat.le_refl _) ?_
      refine r_ifB_eq (tgt := 175) dX0_exchange_50 rfl (fun c8 => ?_) (fun c8 => ?_)
      · --
        refine r_iincN (n := 1) dX0_exchange_175 rfl rfl (by decide) rfl ?_
        refine r_goto (tgt := 35) dX0_exchange_178 rfl ?_
        exact r_L (by rw [ex_f (by omega) (Or.inl (ex_c2 c8))] <;> rfl) (ihjj9 (by omega) _ (⟨fN, by omega⟩))
      · --
        refine r_aload_n dX0_exchange_53 rfl ?_
        refine r_iload dX0_exchange_54 rfl ?_
        refine r_callVx lX0_296 (x0_isInSack hmN (t := jj9) (by omega)) (hlN.k) rfl rfl rfl rfl dX0_exchange_56 (Nat.le_refl _) (Nat.le_refl _) ?_
        refine r_ifB_eq (tgt := 175) dX0_exchange_59 rfl (fun c9 => ?_) (fun c9 => ?_)
        · --
          refine r_iincN (n := 1) dX0_exchange_175 rfl rfl (by decide) rfl ?_
          refine r_goto (tgt := 35) dX0_exchange_178 rfl ?_
          exact r_L (by rw [ex_f (by omega) (Or.inl (ex_c3 c9))] <;> rfl) (ihjj9 (by omega) _ (⟨fN, by omega⟩))
        · --
          refine r_aload_n dX0_exchange_62 rfl ?_
          refine r_getRv fX0_53 (hlN.k) (v := 74) (hlN.r 5 (by decide) (by decide)) rfl dX0_exchange_63 ?_
          refine r_getRv fX0_199 (hTN.k) (v := 75) (hTN.rin) rfl dX0_exchange_66 ?_
          refine r_iload dX0_exchange_69 rfl ?_
          refine r_ialdv (hTN.kin) (hTN.lin) (ix_n (by omega) (by decide)) (v := T (2 + i)) (hTN.in_ (by omega)) dX0_exchange_71 ?_
          refine r_aload_n dX0_exchange_72 rfl ?_
          refine r_getRv fX0_53 (hlN.k) (v := 74) (hlN.r 5 (by decide) (by decide)) rfl dX0_exchange_73 ?_
          refine r_getRv fX0_199 (hTN.k) (v := 75) (hTN.rin) rfl dX0_exchange_76 ?_
          refine r_iload dX0_exchange_79 rfl ?_
          refine r_ialdv (hTN.kin) (hTN.lin) (ix_n (by omega) (by decide)) (v := T (2 + jj9)) (hTN.in_ (by omega)) dX0_exchange_81 ?_
          refine r_icmp_ne (tgt := 88) dX0_exchange_82 rfl (fun c10 => ?_) (fun c10 => ?_)
          · --
            refine r_aload_n dX0_exchange_88 rfl ?_
            refine r_getRv fX0_60 (hlN.k) (v := 80) (hlN.r 7 (by decide) (by decide)) rfl dX0_exchange_89 ?_
            refine r_aload_n dX0_exchange_92 rfl ?_
            refine r_getRv fX0_53 (hlN.k) (v := 74) (hlN.r 5 (by decide) (by decide)) rfl dX0_exchange_93 ?_
            refine r_callVr lX0_230 (xq_copy hmN) (hlN.s80.2.1) rfl rfl rfl rfl dX0_exchange_96 (Nat.le_refl _) (Nat.le_refl _) (fun y9 hZ2 q9 => ?_)
            obtain ⟨rfl, gZ2, hqZ2⟩ := q9
            have kZ2 : Fr (QF K) [] hN hZ2 := frq_t gZ2
            have hmZ2 := hmN.fq kZ2
            have fZ2 : Fr (QF K) [] h hZ2 := fN.tr kZ2
            have hbZ2 := hmZ2.xb
            have hTZ2 := hmZ2.xt
            have hlZ2 := hmZ2.lay
            refine r_getRv fX0_199 (hlZ2.s80.2.1) (v := 81) (hqZ2.rin) rfl dX0_exchange_99 ?_
            refine r_iload dX0_exchange_102 rfl ?_
            refine r_aload_n dX0_exchange_104 rfl ?_
            refine r_getRv fX0_53 (hlZ2.k) (v := 74) (hlZ2.r 5 (by decide) (by decide)) rfl dX0_exchange_105 ?_
            refine r_getRv fX0_199 (hTZ2.k) (v := 75) (hTZ2.rin) rfl dX0_exchange_108 ?_
            refine r_iload dX0_exchange_111 rfl ?_
            refine r_ialdv (hTZ2.kin) (hTZ2.lin) (ix_n (by omega) (by decide)) (v := T (2 + jj9)) (hTZ2.in_ (by omega)) dX0_exchange_113 ?_
            refine r_iastv (hqZ2.kin) (by decide) (hqZ2.lin) (ix_n (by omega) (by decide)) dX0_exchange_114 ?_
            have kZ3 : Fr (QF K) [] hZ2 (sI hZ2 81 i (T (2 + jj9))) := Fr.rf.sa 81 i (T (2 + jj9)) (by simp)
            have hmZ3 : XM b K T (sI hZ2 81 i (T (2 + jj9))) := hmZ2.fq kZ3
            have fZ3 : Fr (QF K) [] h (sI hZ2 81 i (T (2 + jj9))) := fZ2.tr kZ3
            have hqZ3 : XT 80 (u1 T (2 + i) (T (2 + jj9))) (-1) (sI hZ2 81 i (T (2 + jj9))) := hqZ2.win (by omega) (T (2 + jj9))
            generalize sI hZ2 81 i (T (2 + jj9)) = hZ3 at kZ3 hmZ3 fZ3 hqZ3 ⊢
            have hbZ3 := hmZ3.xb
            have hTZ3 := hmZ3.xt
            have hlZ3 := hmZ3.lay
            refine r_aload_n dX0_exchange_115 rfl ?_
            refine r_getRv fX0_60 (hlZ3.k) (v := 80) (hlZ3.r 7 (by decide) (by decide)) rfl dX0_exchange_116 ?_
            refine r_getRv fX0_199 (hlZ3.s80.2.1) (v := 81) (hqZ3.rin) rfl dX0_exchange_119 ?_
            refine r_iload dX0_exchange_122 rfl ?_
            refine r_aload_n dX0_exchange_124 rfl ?_
            refine r_getRv fX0_53 (hlZ3.k) (v := 74) (hlZ3.r 5 (by decide) (by decide)) rfl dX0_exchange_125 ?_
            refine r_getRv fX0_199 (hTZ3.k) (v := 75) (hTZ3.rin) rfl dX0_exchange_128 ?_
            refine r_iload dX0_exchange_131 rfl ?_
            refine r_ialdv (hTZ3.kin) (hTZ3.lin) (ix_n (by omega) (by decide)) (v := T (2 + i)) (hTZ3.in_ (by omega)) dX0_exchange_133 ?_
            refine r_iastv (hqZ3.kin) (by decide) (hqZ3.lin) (ix_n (by omega) (by decide)) dX0_exchange_134 ?_
            have kZ4 : Fr (QF K) [] hZ3 (sI hZ3 81 jj9 (T (2 + i))) := Fr.rf.sa 81 jj9 (T (2 + i)) (by simp)
            have hmZ4 : XM b K T (sI hZ3 81 jj9 (T (2 + i))) := hmZ3.fq kZ4
            have fZ4 : Fr (QF K) [] h (sI hZ3 81 jj9 (T (2 + i))) := fZ3.tr kZ4
            have hqZ4 : XT 80 (u1 (u1 T (2 + i) (T (2 + jj9))) (2 + jj9) (T (2 + i))) (-1) (sI hZ3 81 jj9 (T (2 + i))) := hqZ3.win (by omega) (T (2 + i))
            generalize sI hZ3 81 jj9 (T (2 + i)) = hZ4 at kZ4 hmZ4 fZ4 hqZ4 ⊢
            have hbZ4 := hmZ4.xb
            have hTZ4 := hmZ4.xt
            have hlZ4 := hmZ4.lay
            refine r_aload_n dX0_exchange_135 rfl ?_
            refine r_getRv fX0_60 (hlZ4.k) (v := 80) (hlZ4.r 7 (by decide) (by decide)) rfl dX0_exchange_136 ?_
            refine r_aload_n dX0_exchange_139 rfl ?_
            refine r_getRv fX0_42 (hlZ4.k) (v := kB K) (hmZ4.bk) rfl dX0_exchange_140 ?_
            refine r_aload_n dX0_exchange_143 rfl ?_
            refine r_callVx lX0_280 (x0_allSacks hmZ4) (hlZ4.k) rfl rfl rfl rfl dX0_exchange_144 (Nat.le_refl _) (Nat.le_refl _) ?_
            refine r_callVi lX0_289 (x3_grindSome hbZ4 hqZ4 ((hw9.inn (by omega) (hw9.2.2.1 _ (by omega))).inn (by omega) (hw9.2.2.1 _ (by omega))) (allV (nS b))) (hlZ4.s80.2.1) rfl rfl rfl rfl dX0_exchange_147 (Nat.le_refl _) (Nat.le_refl _) (fun y9 hZ5 q9 => ?_)
            obtain ⟨e9, gZ5, hqZ5⟩ := q9
            rw [gsV_said ((hw9.inn (by omega) (hw9.2.2.1 _ (by omega))).inn (by omega) (hw9.2.2.1 _ (by omega))) hw] at e9; subst e9
            have kZ5 : Fr (QF K) [] hZ4 hZ5 := frq_g gZ5
            have hmZ5 := hmZ4.fq kZ5
            have fZ5 : Fr (QF K) [] h hZ5 := fZ4.tr kZ5
            have hbZ5 := hmZ5.xb
            have hTZ5 := hmZ5.xt
            have hlZ5 := hmZ5.lay
            refine r_callSx lX0_239 (xJ15_bc (lt1024 hw (said_lt hw _))) rfl rfl rfl rfl dX0_exchange_150 (Nat.le_refl _) (Nat.le_refl _) ?_
            refine r_istore dX0_exchange_153 (by decide) rfl ?_
            refine r_iload dX0_exchange_155 rfl ?_
            refine r_iload dX0_exchange_157 rfl ?_
            refine r_icmp_gt (tgt := 165) dX0_exchange_159 rfl (fun c11 => ?_) (fun c11 => ?_)
            · --
              refine r_iload dX0_exchange_165 rfl ?_
              refine r_istore_n dX0_exchange_167 (by decide) rfl ?_
              refine r_iload dX0_exchange_168 rfl ?_
              refine r_istore_n dX0_exchange_170 (by decide) rfl ?_
              refine r_iload dX0_exchange_171 rfl ?_
              refine r_istore dX0_exchange_173 (by decide) rfl ?_
              refine r_iincN (n := 1) dX0_exchange_175 rfl rfl (by decide) rfl ?_
              refine r_goto (tgt := 35) dX0_exchange_178 rfl ?_
              refine r_sub [some (vR 64), some (vI wh), some (vI (nI i)), some (vI (nI (jj9))), some (vI (popc (saidV b (u1 (u1 T (2 + i) (T (2 + jj9))) (2 + jj9) (T (2 + i))) (allV (nS b))))), some (vI (nI i)), some (vI (nI (jj9 + 1))), none] (And.intro rfl (And.intro rfl (And.intro rfl (And.intro rfl (And.intro rfl (And.intro rfl (And.intro rfl trivial))))))) ?_
              exact r_L (by rw [ex_t (by omega) (by omega) (ex_c1 c8 c9 c10) c11, exA_s (ex_d (by omega)), exB_s (ex_m (by omega))] <;> rfl) (ihjj9 (by omega) _ (⟨fZ5, by omega⟩))
            · --
              refine r_goto (tgt := 175) dX0_exchange_162 rfl ?_
              refine r_iincN (n := 1) dX0_exchange_175 rfl rfl (by decide) rfl ?_
              refine r_goto (tgt := 35) dX0_exchange_178 rfl ?_
              refine r_sub [some (vR 64), some (vI wh), some (vI (exA (nT b) (exS b T (i * nT b + jj9)).1)), some (vI (exB (nT b) (exS b T (i * nT b + jj9)).1)), some (vI ((exS b T (i * nT b + jj9)).2)), some (vI (nI i)), some (vI (nI (jj9 + 1))), none] (And.intro rfl (And.intro rfl (And.intro rfl (And.intro rfl (And.intro rfl (And.intro rfl (And.intro rfl trivial))))))) ?_
              exact r_L (by rw [ex_f (by omega) (Or.inr c11)] <;> rfl) (ihjj9 (by omega) _ (⟨fZ5, by omega⟩))
          · --
            refine r_goto (tgt := 175) dX0_exchange_85 rfl ?_
            refine r_iincN (n := 1) dX0_exchange_175 rfl rfl (by decide) rfl ?_
            refine r_goto (tgt := 35) dX0_exchange_178 rfl ?_
            exact r_L (by rw [ex_f (by omega) (Or.inl (ex_c4 c10))] <;> rfl) (ihjj9 (by omega) _ (⟨fN, by omega⟩))
