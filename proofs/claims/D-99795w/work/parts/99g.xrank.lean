/-! ===== PURE: ranks by selection and by insertion are the same ===== -/
set_option maxRecDepth 100000
def prc (f : Nat → Int32) (a c : Nat) : Prop := f c < f a ∨ (f a = f c ∧ a < c)
def Srt (f : Nat → Int32) (A : Nat → Nat) (n : Nat) : Prop := (∀ i, i < n → A i < n) ∧ (∀ i j, i < j → j < n → prc f (A i) (A j)) ∧ ∀ p, p < n → ∃ i, i < n ∧ A i = p
theorem prc_le {f : Nat → Int32} {a c : Nat} (h : prc f a c) : ¬ f a < f c := fun z => by
  rcases h with q | q
  · exact irr _ (Int32.lt_trans q z)
  · rw [q.1] at z; exact irr _ z
theorem insK_sp {f : Nat → Int32} {A : Nat → Nat} {p : Nat} (hs : ∀ i j, i < j → j < p → ¬ f (A i) < f (A j)) : ∀ k, k ≤ p → (∀ i, k ≤ i → i < p → f (A i) < f p) → insK f A p k ≤ p ∧ (∀ i, i < insK f A p k → ¬ f (A i) < f p) ∧ ∀ i, insK f A p k ≤ i → i < p → f (A i) < f p
  | 0, _, h => ⟨Nat.zero_le _, fun i hi => absurd hi (Nat.not_lt_zero _), h⟩
  | k + 1, hk, h => by
    by_cases c : f (A k) < f p
    · have e : insK f A p (k + 1) = insK f A p k := insK_t (k := k + 1) (by omega) c
      rw [e]
      refine insK_sp hs k (by omega) (fun i h1 h2 => ?_)
      by_cases ei : i = k
      · rw [ei]; exact c
      · exact h i (by omega) h2
    · have e : insK f A p (k + 1) = k + 1 := by rw [insK]; exact if_neg c
      rw [e]
      refine ⟨hk, fun i hi z => ?_, h⟩
      by_cases ei : i = k
      · rw [ei] at z; exact c z
      · exact hs i k (by omega) (by omega) (Int32.lt_of_lt_of_le z (Int32.not_lt.mp c))
theorem Srt.ins {f : Nat → Int32} {A : Nat → Nat} {p : Nat} (h : Srt f A p) : Srt f (insA A p (insK f A p p)) (p + 1) := by
  obtain ⟨h1, h2, h3⟩ := h
  obtain ⟨k1, k2, k3⟩ := insK_sp (f := f) (A := A) (p := p) (fun i j a c => prc_le (h2 i j a c)) p (Nat.le_refl _) (fun i a c => absurd c (by omega))
  generalize insK f A p p = k at k1 k2 k3
  have v1 : ∀ q, q < k → insA A p k q = A q := fun q hq => by unfold insA; first | (rw [if_pos hq]) | (simp [hq]; done) | (simp; omega)
  have v2 : insA A p k k = p := by unfold insA; simp
  have v3 : ∀ q, k < q → insA A p k q = A (q - 1) := fun q hq => by unfold insA; first | (rw [if_neg (by omega), if_neg (by omega)]) | (simp; omega)
  refine ⟨fun i hi => ?_, fun i j hij hj => ?_, fun q hq => ?_⟩
  · rcases Nat.lt_trichotomy i k with c | c | c
    · rw [v1 i c]; have := h1 i (by omega); omega
    · rw [c, v2]; omega
    · rw [v3 i c]; have := h1 (i - 1) (by omega); omega
  · rcases Nat.lt_trichotomy j k with c | c | c
    · rw [v1 i (by omega), v1 j c]; exact h2 i j hij (by omega)
    · rw [c, v2, v1 i (by omega)]
      by_cases z : f p < f (A i)
      · exact Or.inl z
      · refine Or.inr ⟨Int32.le_antisymm (Int32.not_lt.mp z) (Int32.not_lt.mp (k2 i (by omega))), h1 i (by omega)⟩
    · rw [v3 j c]
      rcases Nat.lt_trichotomy i k with d | d | d
      · rw [v1 i d]; exact h2 i (j - 1) (by omega) (by omega)
      · rw [d, v2]; exact Or.inl (k3 (j - 1) (by omega) (by omega))
      · rw [v3 i d]; exact h2 (i - 1) (j - 1) (by omega) (by omega)
  · by_cases e : q = p
    · exact ⟨k, by omega, by rw [v2, e]⟩
    · obtain ⟨i, a1, a2⟩ := h3 q (by omega)
      rcases Nat.lt_or_ge i k with c | c
      · exact ⟨i, by omega, by rw [v1 i c, a2]⟩
      · exact ⟨i + 1, by omega, by rw [v3 (i + 1) (by omega)]; exact a2⟩
theorem rkA_srt (b : Bk) (T : Nat → Int32) : ∀ n, Srt (rkF b T) (rkA b T n) n
  | 0 => ⟨fun i hi => absurd hi (Nat.not_lt_zero _), fun i j _ hj => absurd hj (Nat.not_lt_zero _), fun p hp => absurd hp (Nat.not_lt_zero _)⟩
  | n + 1 => (rkA_srt b T n).ins
theorem best_p {p : Nat → Bool} {f : Nat → Int32} : ∀ {n j : Nat}, bestOf n p f = some j → p j = true
  | 0, _, h => by cases h
  | n + 1, j, h => by
    unfold bestOf at h
    cases e : bestOf n p f with
    | none =>
      rw [e] at h
      simp only at h
      split at h
      · next c => cases h; exact c
      · cases h
    | some i =>
      rw [e] at h
      simp only at h
      split at h
      · next c => cases h; rw [Bool.and_eq_true] at c; exact c.1
      · cases h; exact best_p e
theorem best_ch {p : Nat → Bool} {f : Nat → Int32} : ∀ {n j : Nat}, j < n → p j = true → (∀ k, k < n → p k = true → k ≠ j → prc f j k) → bestOf n p f = some j
  | 0, _, h, _, _ => absurd h (Nat.not_lt_zero _)
  | n + 1, j, hj, hp, h => by
    by_cases e : j = n
    · subst e
      cases q : bestOf j p f with
      | none => exact bestOf_n1 q hp
      | some i =>
        have hi := bestOf_lt q
        refine bestOf_s1 q hp ?_
        rcases h i (by omega) (best_p q) (by omega) with z | z
        · exact z
        · omega
    · have ih := best_ch (n := n) (j := j) (by omega) hp (fun k hk => h k (by omega))
      cases q : p n with
      | false => exact bestOf_s0 ih (Or.inl q)
      | true => exact bestOf_s0 ih (Or.inr (Int32.not_lt.mp (prc_le (h n (by omega) q (by omega)))))
section RK
variable {b : Bk} {T : Nat → Int32}
theorem rk_h0 (hb : BW b) {p : Nat} (hp : p < nP b) : ¬ tb (rkH b T 0) p = true := fun z => by
  have h6 := hb.p6
  rw [show rkH b T 0 = nI 0 from rfl, tb_n (by omega) (by omega), Nat.zero_testBit] at z
  cases z
theorem rk_eq (hb : BW b) : ∀ q, q ≤ nP b → (∃ s, s < 2 ^ nP b ∧ rkH b T q = nI s) ∧ (∀ p, p < nP b → (tb (rkH b T q) p = true ↔ ∃ i, i < q ∧ rkA b T (nP b) i = p)) ∧ ∀ i, i < q → rkO b T (rkH b T i) (nP b) = some (rkA b T (nP b) i)
  | 0, _ => ⟨⟨0, Nat.two_pow_pos _, rfl⟩, fun p hp => ⟨fun z => absurd z (rk_h0 hb hp), fun z => absurd z (fun ⟨i, h1, _⟩ => Nat.not_lt_zero i h1)⟩, fun i hi => absurd hi (Nat.not_lt_zero _)⟩
  | q + 1, hq => by
    have h6 := hb.p6
    obtain ⟨a1, a2, a3⟩ := rk_eq hb q (by omega)
    obtain ⟨s1, s2, s3⟩ := rkA_srt b T (nP b)
    have key : rkO b T (rkH b T q) (nP b) = some (rkA b T (nP b) q) := by
      refine best_ch (s1 q (by omega)) ?_ (fun k hk hp hne => ?_)
      · cases c : tb (rkH b T q) (rkA b T (nP b) q) with
        | false => rfl
        | true =>
          obtain ⟨i, i1, i2⟩ := (a2 _ (s1 q (by omega))).mp c
          have := s2 i q i1 (by omega)
          rw [i2] at this
          rcases this with z | z
          · exact absurd z (irr _)
          · omega
      · obtain ⟨i, i1, i2⟩ := s3 k hk
        have hni : ¬ i < q := fun z => by
          have := (a2 k hk).mpr ⟨i, z, i2⟩
          simp only [this] at hp
          cases hp
        have hiq : i ≠ q := fun z => hne (by rw [← i2, z])
        rw [← i2]
        exact s2 q i (by omega) i1
    have e : rkH b T (q + 1) = rkH b T q ||| one (rkA b T (nP b) q) := by
      show rkH b T q ||| (1 : Int32) <<< (optI (rkO b T (rkH b T q) (nP b)) &&& 31) = _
      rw [key]
      rfl
    have o1 := one_lt (j := rkA b T (nP b) q) (m := nP b) (s1 q (by omega)) (by omega)
    refine ⟨by rw [e]; exact nIor_lt a1 o1, fun p hp => ?_, fun i hi => ?_⟩
    · rw [e, tb_or (m := nP b) (by omega) (by omega) a1 o1, Bool.or_eq_true, a2 p hp]
      have hone : tb (one (rkA b T (nP b) q)) p = true ↔ rkA b T (nP b) q = p := by
        have := s1 q (by omega)
        have h2 : 2 ^ rkA b T (nP b) q < 2 ^ 31 := Nat.pow_lt_pow_right (by decide) (by omega)
        rw [one_n (by omega), tb_n h2 (by omega), Nat.testBit_two_pow]
        exact decide_eq_true_iff
      rw [hone]
      constructor
      · rintro (⟨i, i1, i2⟩ | z)
        · exact ⟨i, by omega, i2⟩
        · exact ⟨q, by omega, z⟩
      · rintro ⟨i, i1, i2⟩
        by_cases z : i = q
        · exact Or.inr (by rw [← z]; exact i2)
        · exact Or.inl ⟨i, by omega, i2⟩
    · by_cases z : i = q
      · rw [z]; exact key
      · exact a3 i (by omega)
/-- the row that selection lays is the row that insertion lays -/
theorem rk_row (hb : BW b) {q : Nat} (hq : q < nP b) : optI (rkO b T (rkH b T q) (nP b)) = nI (rkA b T (nP b) q) := by
  rw [(rk_eq hb (nP b) (Nat.le_refl _)).2.2 q hq]
  rfl
end RK
