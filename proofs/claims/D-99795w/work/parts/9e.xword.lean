/-! ===== PURE: words and their numbers ===== -/
set_option maxRecDepth 100000
theorem allB_at {p : Nat → Bool} : ∀ {n : Nat}, allB n p = true → ∀ i, i < n → p i = true
  | 0, _, i, hi => absurd hi (by omega)
  | n + 1, h, i, hi => by
    have h : (allB n p && p n) = true := h
    rw [Bool.and_eq_true] at h
    by_cases e : i = n
    · rw [e]; exact h.2
    · exact allB_at h.1 i (by omega)
/-- a word's letters as one number -/
def pkN (d : Nat → Nat) : Nat → Nat
  | 0 => 0
  | k + 1 => pkN d k * 256 + d k
theorem pkN_lt {d : Nat → Nat} : ∀ {m : Nat}, (∀ i, i < m → d i < 256) → pkN d m < 256 ^ m
  | 0, _ => Nat.one_pos
  | m + 1, h => by
    have h1 := pkN_lt (m := m) (fun i hi => h i (by omega))
    have h2 := h m (by omega)
    show pkN d m * 256 + d m < 256 ^ (m + 1)
    rw [Nat.pow_succ]
    omega
theorem pkN_ge {d : Nat → Nat} : ∀ {m : Nat}, 0 < d 0 → 256 ^ m ≤ pkN d (m + 1)
  | 0, h => by show 1 ≤ 0 * 256 + d 0; omega
  | m + 1, h => by
    have h1 := pkN_ge (m := m) h
    show 256 ^ (m + 1) ≤ pkN d (m + 1) * 256 + d (m + 1)
    rw [Nat.pow_succ]
    omega
theorem pkN_inj {d e : Nat → Nat} : ∀ {m : Nat}, (∀ i, i < m → d i < 256 ∧ e i < 256) → pkN d m = pkN e m → ∀ i, i < m → d i = e i
  | 0, _, _, i, hi => absurd hi (by omega)
  | m + 1, h, q, i, hi => by
    have hm := h m (by omega)
    have q : pkN d m * 256 + d m = pkN e m * 256 + e m := q
    have ih := pkN_inj (m := m) (fun j hj => h j (by omega)) (by omega)
    by_cases ei : i = m
    · rw [ei]; omega
    · exact ih i (by omega)
theorem pk_bv {f : Nat → Int32} {d : Nat → Nat} : ∀ {m : Nat}, m ≤ 8 → (∀ i, i < m → d i < 128 ∧ f i = nI (d i)) → (pkF f m).toBitVec = BitVec.ofNat 64 (pkN d m)
  | 0, _, _ => rfl
  | m + 1, h8, h => by
    have ih := pk_bv (m := m) (by omega) (fun i hi => h i (by omega))
    obtain ⟨h1, h2⟩ := h m (by omega)
    have hl := pkN_lt (d := d) (m := m) (fun i hi => Nat.lt_trans (h i (by omega)).1 (by decide))
    have hp : 256 ^ m ≤ 256 ^ 7 := Nat.pow_le_pow_right (by decide) (by omega)
    show ((pkF f m <<< ((nI 8).toInt64 &&& 63)) ||| (f m).toInt64).toBitVec = BitVec.ofNat 64 (pkN d m * 256 + d m)
    rw [h2, Int64.toBitVec_or]
    have e1 : (nI (d m)).toInt64.toBitVec = BitVec.ofNat 64 (d m) := by
      have key : ∀ x : Fin 128, (nI x.val).toInt64.toBitVec = BitVec.ofNat 64 x.val := by decide +kernel
      exact key ⟨d m, h1⟩
    have e2 : (pkF f m <<< ((nI 8).toInt64 &&& 63)).toBitVec = (pkF f m).toBitVec <<< 8 := by
      rw [Int64.toBitVec_shiftLeft]
      rfl
    rw [e1, e2, ih]
    apply BitVec.eq_of_toNat_eq
    rw [BitVec.toNat_or, BitVec.toNat_shiftLeft, BitVec.toNat_ofNat, BitVec.toNat_ofNat, BitVec.toNat_ofNat]
    have h64 : (256 : Nat) ^ 7 * 256 = 2 ^ 64 := by decide
    rw [Nat.mod_eq_of_lt (show pkN d m < 2 ^ 64 by omega), Nat.mod_eq_of_lt (show d m < 2 ^ 64 by omega), Nat.mod_eq_of_lt (show pkN d m * 256 + d m < 2 ^ 64 by omega)]
    rw [Nat.shiftLeft_eq, Nat.mod_eq_of_lt (show pkN d m * 2 ^ 8 < 2 ^ 64 by omega)]
    have := Nat.shiftLeft_add_eq_or_of_lt (show d m < 2 ^ 8 by omega) (pkN d m)
    rw [Nat.shiftLeft_eq] at this
    rw [← this]
/-- two words are the same if their numbers are -/
theorem sq_pk {f g : Nat → Int32} {m l : Nat} (hm : 1 ≤ m ∧ m ≤ 8) (hl : 1 ≤ l ∧ l ≤ 8) (hf : ∀ i, i < m → isLetV (f i) = true) (hg : ∀ i, i < l → isLetV (g i) = true) : seqV f m g l = decide (pkF f m = pkF g l) := by
  have ex : ∀ (f : Nat → Int32) (m : Nat), (∀ i, i < m → isLetV (f i) = true) → ∃ d : Nat → Nat, ∀ i, i < m → (0 < d i ∧ d i < 128) ∧ f i = nI (d i) := fun f m hf => by
    refine ⟨fun i => (f i).toNatClampNeg, fun i hi => ?_⟩
    obtain ⟨x, hx, e⟩ := let_m (hf i hi)
    have h0 : 0 < x := by
      rcases Nat.eq_zero_or_pos x with z | z
      · have := hf i hi
        rw [e, z] at this
        exact absurd this (by decide)
      · exact z
    have e2 : (f i).toNatClampNeg = x := by
      rw [e]
      have key : ∀ x : Fin 128, (nI x.val).toNatClampNeg = x.val := by decide +kernel
      exact key ⟨x, hx⟩
    simp only [e2]
    exact ⟨⟨h0, hx⟩, e⟩
  obtain ⟨d, hd⟩ := ex f m hf
  obtain ⟨e, he⟩ := ex g l hg
  have b1 := pk_bv (f := f) (d := d) hm.2 (fun i hi => ⟨(hd i hi).1.2, (hd i hi).2⟩)
  have b2 := pk_bv (f := g) (d := e) hl.2 (fun i hi => ⟨(he i hi).1.2, (he i hi).2⟩)
  have l1 := pkN_lt (d := d) (m := m) (fun i hi => Nat.lt_trans (hd i hi).1.2 (by decide))
  have l2 := pkN_lt (d := e) (m := l) (fun i hi => Nat.lt_trans (he i hi).1.2 (by decide))
  have p8 : (256 : Nat) ^ 8 = 2 ^ 64 := by decide
  have pm : 256 ^ m ≤ 256 ^ 8 := Nat.pow_le_pow_right (by decide) hm.2
  have pl : 256 ^ l ≤ 256 ^ 8 := Nat.pow_le_pow_right (by decide) hl.2
  by_cases q : pkF f m = pkF g l
  · rw [decide_eq_true q]
    have q2 : pkN d m = pkN e l := by
      have z : BitVec.ofNat 64 (pkN d m) = BitVec.ofNat 64 (pkN e l) := by rw [← b1, ← b2, q]
      have z2 := congrArg BitVec.toNat z
      rw [BitVec.toNat_ofNat, BitVec.toNat_ofNat, Nat.mod_eq_of_lt (by omega), Nat.mod_eq_of_lt (by omega)] at z2
      exact z2
    have g1 := pkN_ge (d := d) (m := m - 1) (hd 0 (by omega)).1.1
    have g2 := pkN_ge (d := e) (m := l - 1) (he 0 (by omega)).1.1
    rw [show m - 1 + 1 = m by omega] at g1
    rw [show l - 1 + 1 = l by omega] at g2
    have ml : m = l := by
      rcases Nat.lt_trichotomy m l with z | z | z
      · have : 256 ^ m ≤ 256 ^ (l - 1) := Nat.pow_le_pow_right (by decide) (by omega)
        omega
      · exact z
      · have : 256 ^ l ≤ 256 ^ (m - 1) := Nat.pow_le_pow_right (by decide) (by omega)
        omega
    subst ml
    unfold seqV
    rw [decide_eq_true rfl, sq_all (fun i hi => decide_eq_true (by rw [(hd i hi).2, (he i hi).2, pkN_inj (fun j hj => ⟨Nat.lt_trans (hd j hj).1.2 (by decide), Nat.lt_trans (he j hj).1.2 (by decide)⟩) q2 i hi]))]
    rfl
  · rw [decide_eq_false q]
    cases s : seqV f m g l with
    | false => rfl
    | true =>
      exfalso
      unfold seqV at s
      rw [Bool.and_eq_true] at s
      have ml := of_decide_eq_true s.1
      subst ml
      apply q
      have key : ∀ k, k ≤ m → pkF f k = pkF g k := fun k => by
        induction k with
        | zero => intro _; rfl
        | succ k ih =>
          intro hk
          show (pkF f k <<< _) ||| _ = (pkF g k <<< _) ||| _
          rw [ih (by omega), of_decide_eq_true (allB_at s.2 k (by omega))]
      exact key m (Nat.le_refl _)
/-- same words have the same hash -/
theorem sq_hs {f g : Nat → Int32} {m l : Nat} (s : seqV f m g l = true) : hsF f m = hsF g l := by
  unfold seqV at s
  rw [Bool.and_eq_true] at s
  have ml := of_decide_eq_true s.1
  subst ml
  have key : ∀ k, k ≤ m → hsF f k = hsF g k := fun k => by
    induction k with
    | zero => intro _; rfl
    | succ k ih =>
      intro hk
      show 31 * hsF f k + (f k &&& 255) = 31 * hsF g k + (g k &&& 255)
      rw [ih (by omega), of_decide_eq_true (allB_at s.2 k (by omega))]
  exact key m (Nat.le_refl _)
