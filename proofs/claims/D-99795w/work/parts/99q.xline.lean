/-! ===== PURE: lines ===== -/
set_option maxRecDepth 100000
section LN
variable {b : Bk} {T : Nat → Int32} {n m v w p k P : Nat}
theorem dg_s (hp : p < P) (hk : k < n) : dig P (v * P + p) (n + 1) k = dig P v n k := by
  unfold dig
  rw [show n + 1 - 1 - k = (n - 1 - k) + 1 by omega, Nat.pow_succ, Nat.mul_comm (P ^ (n - 1 - k)) P, ← Nat.div_div_eq_div_mul]
  rw [show v * P + p = p + P * v by rw [Nat.mul_comm, Nat.add_comm], Nat.add_mul_div_left p v (by omega), Nat.div_eq_of_lt hp, Nat.zero_add]
theorem dg_n (hp : p < P) : dig P (v * P + p) (n + 1) n = p := by
  unfold dig
  rw [show n + 1 - 1 - n = 0 by omega, Nat.pow_zero, Nat.div_one, Nat.mul_comm, Nat.mul_add_mod, Nat.mod_eq_of_lt hp]
theorem ls_s (hp : p < P) : ∀ k, k ≤ n → lset P (v * P + p) (n + 1) k = lset P v n k
  | 0, _ => rfl
  | k + 1, h => by
    show lset P (v * P + p) (n + 1) k ||| one (dig P (v * P + p) (n + 1) k) = _
    rw [ls_s hp k (by omega), dg_s hp (by omega)]
    rfl
theorem ls_n (hp : p < P) : lset P (v * P + p) (n + 1) (n + 1) = lset P v n n ||| one p := by
  show lset P (v * P + p) (n + 1) n ||| one (dig P (v * P + p) (n + 1) n) = _
  rw [ls_s hp n (Nat.le_refl _), dg_n hp]
theorem aB_eq {f g : Nat → Bool} : ∀ n : Nat, (∀ i, i < n → f i = g i) → allB n f = allB n g
  | 0, _ => rfl
  | n + 1, h => by
    show (allB n f && f n) = (allB n g && g n)
    rw [aB_eq n (fun i hi => h i (by omega)), h n (by omega)]
/-- one more in line -/
theorem ln_s (hp : p < nP b) : lnB b T (n + 1) (v * nP b + p) = (lnB b T n v && (!tb (lset (nP b) v n n) p && (decide (n = 0) || dkV b T (nI (dig (nP b) v n (n - 1))) (nI p)))) := by
  show (allB n (lnP b T (v * nP b + p) (n + 1)) && lnP b T (v * nP b + p) (n + 1) n) = (allB n (lnP b T v n) && _)
  have e1 : allB n (lnP b T (v * nP b + p) (n + 1)) = allB n (lnP b T v n) := aB_eq n (fun i hi => by
    unfold lnP
    rw [ls_s hp i (by omega), dg_s hp hi, dg_s hp (show i - 1 < n by omega)])
  rw [e1]
  congr 1
  unfold lnP
  rw [ls_s hp n (Nat.le_refl _), dg_n hp]
  by_cases e : n = 0
  · rw [decide_eq_true e]; rfl
  · rw [dg_s hp (show n - 1 < n by omega)]
/-- lines that begin as the line v of length n does -/
def Dl (b : Bk) (T : Nat → Int32) (n v m w : Nat) : Prop := n ≤ m ∧ w / nP b ^ (m - n) = v ∧ lnB b T m w = true
def Dp (b : Bk) (T : Nat → Int32) (n v p m w : Nat) : Prop := (m = n ∧ w = v) ∨ ∃ c, c < p ∧ Dl b T (n + 1) (v * nP b + c) m w
theorem ln_pre (h0 : 0 < nP b) : ∀ d w, lnB b T (n + d) w = true → lnB b T n (w / nP b ^ d) = true
  | 0, w, h => by rw [Nat.pow_zero, Nat.div_one]; exact h
  | d + 1, w, h => by
    have e : w = w / nP b * nP b + w % nP b := by rw [Nat.mul_comm]; exact (Nat.div_add_mod w (nP b)).symm
    rw [show n + (d + 1) = n + d + 1 by omega, e, ln_s (Nat.mod_lt _ h0)] at h
    have h2 := ln_pre h0 d (w / nP b) (by simp at h; exact h.1)
    rw [Nat.pow_succ, Nat.mul_comm (nP b ^ d), ← Nat.div_div_eq_div_mul]
    exact h2
theorem rf_set {f g : Nat → Bool} (hp : f p = false) : ∀ n, p < n → (∀ q, q < n → g q = (f q || decide (q = p))) → rfN g n = rfN f n + 1
  | 0, h, _ => absurd h (by omega)
  | n + 1, h, e => by
    have en := e n (by omega)
    unfold rfN
    by_cases q : p = n
    · have e2 : ∀ k, k ≤ n → rfN g k = rfN f k := fun k => by
        induction k with
        | zero => intro _; rfl
        | succ k ih =>
          intro hk
          have := e k (by omega)
          rw [decide_eq_false (show ¬ k = p by omega), Bool.or_false] at this
          unfold rfN
          rw [this, ih (by omega)]
      rw [e2 n (Nat.le_refl _), en, ← q, hp]
      simp
    · rw [rf_set hp n (by omega) (fun q h => e q (by omega)), en, decide_eq_false (show ¬ n = p by omega), Bool.or_false]
      split <;> rfl
theorem tb_one_ {q : Nat} (hp : p < 31) (hq : q < 31) : tb (one p) q = decide (q = p) := by
  have h2 : 2 ^ p < 2 ^ 31 := Nat.pow_lt_pow_right (by decide) hp
  rw [one_n hp, tb_n h2 (by omega), Nat.testBit_two_pow]
  exact decide_eq_decide.mpr ⟨fun e => e.symm, fun e => e.symm⟩
theorem ls_lt (h6 : P ≤ 6) (h0 : 0 < P) : ∀ k, ∃ x, x < 2 ^ P ∧ lset P v n k = nI x
  | 0 => ⟨0, Nat.two_pow_pos _, rfl⟩
  | k + 1 => nIor_lt (ls_lt h6 h0 k) (one_lt (Nat.mod_lt _ h0) (by omega))
theorem ln_cnt (h6 : nP b ≤ 6) (h0 : 0 < nP b) : ∀ n v, lnB b T n v = true → rfN (fun q => tb (lset (nP b) v n n) q) (nP b) = n
  | 0, v, _ => by
    have : ∀ k, rfN (fun q => tb (0 : Int32) q) k = 0 := fun k => by
      induction k with
      | zero => rfl
      | succ k ih => 
        unfold rfN
        rw [ih]
        have : tb (0 : Int32) k = false := by unfold tb tbI; simp
        rw [this]; rfl
    exact this _
  | n + 1, v, h => by
    have hm := Nat.mod_lt v h0
    have e : v = v / nP b * nP b + v % nP b := by rw [Nat.mul_comm]; exact (Nat.div_add_mod v (nP b)).symm
    rw [e, ln_s hm] at h
    simp at h
    have ih := ln_cnt h6 h0 n (v / nP b) h.1
    rw [e, ls_n hm]
    refine (rf_set (f := fun q => tb (lset (nP b) (v / nP b) n n) q) h.2.1 (nP b) hm fun q hq => ?_).trans (by rw [ih])
    rw [tb_or (m := nP b) (by omega) (by omega) (ls_lt h6 h0 n) (one_lt hm (by omega)), tb_one_ (by omega) (by omega)]
theorem ln_len (h6 : nP b ≤ 6) (h : lnB b T n v = true) (hv : nP b = 0 → n = 0) : n ≤ nP b := by
  by_cases h0 : nP b = 0
  · rw [hv h0]; exact Nat.zero_le _
  · rw [← ln_cnt h6 (Nat.pos_of_ne_zero h0) n v h]
    exact rfN_le _ _
theorem dl_p (h0 : 0 < nP b) (h : Dl b T n v m w) : Dp b T n v (nP b) m w := by
  obtain ⟨h1, h2, h3⟩ := h
  by_cases e : m = n
  · subst e
    rw [Nat.sub_self, Nat.pow_zero, Nat.div_one] at h2
    exact Or.inl ⟨rfl, h2⟩
  · refine Or.inr ⟨w / nP b ^ (m - (n + 1)) % nP b, Nat.mod_lt _ h0, by omega, ?_, h3⟩
    rw [← h2, show m - n = (m - (n + 1)) + 1 by omega, Nat.pow_succ, ← Nat.div_div_eq_div_mul, Nat.mul_comm]
    exact (Nat.div_add_mod _ _).symm
theorem p_dl (hl : lnB b T n v = true) (hp : p ≤ nP b) (h : Dp b T n v p m w) : Dl b T n v m w := by
  rcases h with ⟨h1, h2⟩ | ⟨c, hc, h1, h2, h3⟩
  · subst h1; subst h2
    exact ⟨Nat.le_refl _, by rw [Nat.sub_self, Nat.pow_zero, Nat.div_one], hl⟩
  · refine ⟨by omega, ?_, h3⟩
    rw [show m - n = (m - (n + 1)) + 1 by omega, Nat.pow_succ, ← Nat.div_div_eq_div_mul, h2, show v * nP b + c = c + nP b * v by rw [Nat.mul_comm, Nat.add_comm], Nat.add_mul_div_left c v (by omega), Nat.div_eq_of_lt (by omega), Nat.zero_add]
/-- the longest of them, and of these the first, if it is longer than the one that was -/
def Bst (E : Nat → Nat → Prop) (L B L2 B2 : Nat) : Prop := ((L2 = L ∧ B2 = B) ∧ ∀ m w, E m w → m ≤ L) ∨ (L < L2 ∧ E L2 B2 ∧ ∀ m w, E m w → m ≤ L2 ∧ (m = L2 → B2 ≤ w))
theorem Bst.eq {E F : Nat → Nat → Prop} {L B L2 B2 : Nat} (x : Bst E L B L2 B2) (h1 : ∀ m w, E m w → F m w) (h2 : ∀ m w, F m w → E m w) : Bst F L B L2 B2 := by
  rcases x with ⟨x1, x2⟩ | ⟨x1, x2, x3⟩
  · exact Or.inl ⟨x1, fun m w h => x2 m w (h2 m w h)⟩
  · exact Or.inr ⟨x1, h1 _ _ x2, fun m w h => x3 m w (h2 m w h)⟩
theorem bst_t {L B : Nat} (h : L < n) : Bst (Dp b T n v 0) L B n v := Or.inr ⟨h, Or.inl ⟨rfl, rfl⟩, fun m w z => by
  rcases z with ⟨z1, z2⟩ | ⟨c, hc, _⟩
  · exact ⟨by omega, fun _ => by omega⟩
  · omega⟩
theorem bst_f {L B : Nat} (h : ¬ L < n) : Bst (Dp b T n v 0) L B L B := Or.inl ⟨⟨rfl, rfl⟩, fun m w z => by
  rcases z with ⟨z1, z2⟩ | ⟨c, hc, _⟩
  · omega
  · omega⟩
theorem bst_no {L B L2 B2 : Nat} (hp : p < nP b) (x : Bst (Dp b T n v p) L B L2 B2) (h : lnB b T (n + 1) (v * nP b + p) = false) : Bst (Dp b T n v (p + 1)) L B L2 B2 := x.eq (fun m w z => by
  rcases z with z | ⟨c, hc, z⟩
  · exact Or.inl z
  · exact Or.inr ⟨c, by omega, z⟩) (fun m w z => by
  rcases z with z | ⟨c, hc, z⟩
  · exact Or.inl z
  · by_cases e : c = p
    · subst e
      obtain ⟨z1, z2, z3⟩ := z
      have h7 := ln_pre (n := n + 1) (show 0 < nP b by omega) (m - (n + 1)) w (by rw [show n + 1 + (m - (n + 1)) = m by omega]; exact z3)
      rw [z2, h] at h7
      cases h7
    · exact Or.inr ⟨c, by omega, z⟩)
theorem bst_s {L B L1 B1 L2 B2 : Nat} (h0 : 0 < nP b) (x : Bst (Dp b T n v p) L B L1 B1) (y : Bst (Dl b T (n + 1) (v * nP b + p)) L1 B1 L2 B2) : Bst (Dp b T n v (p + 1)) L B L2 B2 := by
  have hle : L ≤ L1 := by rcases x with ⟨⟨x1, _⟩, _⟩ | ⟨x1, _⟩ <;> omega
  have hall : ∀ m w, Dp b T n v p m w → m ≤ L1 := fun m w z => by
    rcases x with ⟨⟨x1, _⟩, x2⟩ | ⟨x1, _, x2⟩
    · rw [x1]; exact x2 m w z
    · exact (x2 m w z).1
  rcases y with ⟨⟨y1, y2⟩, y3⟩ | ⟨y1, y2, y3⟩
  · rw [y1, y2]
    rcases x with ⟨⟨x1, x2⟩, x3⟩ | ⟨x1, x2, x3⟩
    · refine Or.inl ⟨⟨x1, x2⟩, fun m w z => ?_⟩
      rcases z with z | ⟨c, hc, z⟩
      · exact x3 m w (Or.inl z)
      · by_cases e : c = p
        · rw [e] at z; have := y3 m w z; omega
        · exact x3 m w (Or.inr ⟨c, by omega, z⟩)
    · refine Or.inr ⟨x1, ?_, fun m w z => ?_⟩
      · rcases x2 with q | ⟨c, hc, q⟩
        · exact Or.inl q
        · exact Or.inr ⟨c, by omega, q⟩
      · rcases z with z | ⟨c, hc, z⟩
        · exact x3 m w (Or.inl z)
        · by_cases e : c = p
          · rw [e] at z
            refine ⟨y3 m w z, fun em => ?_⟩
            rcases x2 with ⟨q1, q2⟩ | ⟨c2, hc2, q1, q2, q3⟩
            · have := z.1; omega
            · have hz := z.2.1
              rw [em] at hz
              rcases Nat.lt_or_ge w B1 with hlt | hge
              · have h7 : w / nP b ^ (L1 - (n + 1)) ≤ B1 / nP b ^ (L1 - (n + 1)) := Nat.div_le_div_right (Nat.le_of_lt hlt)
                rw [hz, q2] at h7
                omega
              · exact hge
          · exact x3 m w (Or.inr ⟨c, by omega, z⟩)
  · refine Or.inr ⟨by omega, Or.inr ⟨p, by omega, y2⟩, fun m w z => ?_⟩
    rcases z with z | ⟨c, hc, z⟩
    · have := hall m w (Or.inl z); exact ⟨by omega, fun e => by omega⟩
    · by_cases e : c = p
      · rw [e] at z; exact y3 m w z
      · have := hall m w (Or.inr ⟨c, by omega, z⟩); exact ⟨by omega, fun e => by omega⟩
theorem bst_d {L B L2 B2 : Nat} (h0 : 0 < nP b) (hl : lnB b T n v = true) (x : Bst (Dp b T n v (nP b)) L B L2 B2) : Bst (Dl b T n v) L B L2 B2 := x.eq (fun m w z => p_dl hl (Nat.le_refl _) z) (fun m w z => dl_p h0 z)
/-- what the system finds is what the reference finds -/
theorem ln_top (h6 : nP b ≤ 6) (h0 : 0 < nP b) {L B : Nat} (x : Bst (Dl b T 0 0) 0 0 L B) : lnA b T (nP b) = if L = 0 then none else some (L, B) := by
  have dl : ∀ m w, w < nP b ^ m → lnB b T m w = true → Dl b T 0 0 m w := fun m w h1 h2 => ⟨Nat.zero_le _, Nat.div_eq_of_lt h1, h2⟩
  have hx : (∀ m w, w < nP b ^ m → lnB b T m w = true → m ≤ L ∧ (m = L → 0 < L → B ≤ w)) := fun m w h1 h2 => by
    rcases x with ⟨⟨x1, x2⟩, x3⟩ | ⟨x1, x2, x3⟩
    · have := x3 m w (dl m w h1 h2); exact ⟨by omega, fun _ h => by omega⟩
    · have := x3 m w (dl m w h1 h2); exact ⟨this.1, fun e _ => this.2 e⟩
  have hL : L ≤ nP b := by
    rcases x with ⟨⟨x1, x2⟩, x3⟩ | ⟨x1, ⟨_, _, x2⟩, x3⟩
    · omega
    · exact ln_len h6 x2 (by omega)
  have up : ∀ d, lnA b T (L + d) = lnA b T L := fun d => by
    induction d with
    | zero => rfl
    | succ d ih =>
      rw [lnA_n (by omega) (first_none _ (fun s hs => ?_)), show L + (d + 1) - 1 = L + d by omega, ih]
      cases e : lnB b T (L + (d + 1)) s with
      | false => rfl
      | true => have := (hx _ s hs e).1; omega
  have e1 := up (nP b - L)
  rw [show L + (nP b - L) = nP b by omega] at e1
  rw [e1]
  by_cases e : L = 0
  · rw [if_pos e, e]; rfl
  · rw [if_neg e]
    rcases x with ⟨⟨x1, x2⟩, x3⟩ | ⟨x1, ⟨_, x4, x2⟩, x3⟩
    · omega
    · refine lnA_s (by omega) (first_at ?_ (fun s hs => ?_) x2)
      · rw [Nat.sub_zero] at x4
        rcases (Nat.div_eq_zero_iff).mp x4 with z | z
        · exact absurd z (Nat.ne_of_gt (Nat.pow_pos h0))
        · exact z
      · cases e2 : lnB b T L s with
        | false => rfl
        | true =>
          have hB : B < nP b ^ L := by
            rw [Nat.sub_zero] at x4
            rcases (Nat.div_eq_zero_iff).mp x4 with z | z
            · exact absurd z (Nat.ne_of_gt (Nat.pow_pos h0))
            · exact z
          have := (hx L s (by omega) e2).2 rfl (by omega)
          omega
end LN
