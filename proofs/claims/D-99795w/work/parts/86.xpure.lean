/-! ===== tables stay within bounds; some sacks ground in a row ===== -/
set_option maxRecDepth 100000
theorem sm5 : ∀ k : Fin 32, ((nI k.val &&& 31).toBitVec.smod 32).toNat = k.val := by decide +kernel
theorem tb_n {n k : Nat} (hn : n < 2 ^ 31) (hk : k < 32) : tb (nI n) k = n.testBit k := by
  unfold tb tbI
  rw [pk_shrN hn _ k (sm5 ⟨k, hk⟩), pk_andN (Nat.lt_of_le_of_lt (Nat.div_le_self _ _) (by omega)) 1 (by decide), Nat.testBit_eq_decide_div_mod_eq]
  by_cases h : n / 2 ^ k % 2 = 1
  · have e : n / 2 ^ k % 2 ^ 1 = 1 := h
    rw [e]
    rfl
  · have e : n / 2 ^ k % 2 ^ 1 = 0 := by show n / 2 ^ k % 2 = 0; omega
    rw [e]
    rfl
theorem setOf_bits (p : Nat → Bool) : ∀ m : Nat, m ≤ 30 → ∃ n, n < 2 ^ m ∧ setOf m p = nI n ∧ ∀ t, t < m → n.testBit t = p t
  | 0, _ => ⟨0, by decide, rfl, fun t ht => absurd ht (Nat.not_lt_zero _)⟩
  | m + 1, hm => by
    obtain ⟨n, hn, e, ht⟩ := setOf_bits p m (by omega)
    show ∃ n, n < 2 ^ (m + 1) ∧ (if p m then setOf m p ||| one m else setOf m p) = nI n ∧ _
    have hpw : 2 ^ (m + 1) = 2 ^ m + 2 ^ m := by rw [Nat.pow_succ]; omega
    have hm0 : n.testBit m = false := Nat.testBit_lt_two_pow hn
    cases hp : p m with
    | true =>
      rw [if_pos rfl]
      refine ⟨n ||| 2 ^ m, Nat.or_lt_two_pow (by omega) (by have := Nat.two_pow_pos m; omega), by rw [e, one_n (by omega), nI_or], fun t h => ?_⟩
      rw [Nat.testBit_or, Nat.testBit_two_pow]
      by_cases q : t = m
      · rw [q, hm0, hp]; simp
      · rw [ht t (by omega), decide_eq_false (fun z => q z.symm), Bool.or_false]
    | false =>
      rw [if_neg (by decide)]
      refine ⟨n, by omega, e, fun t h => ?_⟩
      by_cases q : t = m
      · rw [q, hm0, hp]
      · exact ht t (by omega)
theorem tb_setOf (p : Nat → Bool) {m t : Nat} (hm : m ≤ 30) (ht : t < m) : tb (setOf m p) t = p t := by
  obtain ⟨n, hn, e, h⟩ := setOf_bits p m hm
  have : 2 ^ m ≤ 2 ^ 30 := Nat.pow_le_pow_right (by decide) hm
  rw [e, tb_n (by omega) (by omega)]
  exact h t ht
theorem setOf_ext {p q : Nat → Bool} : ∀ {m : Nat}, (∀ t, t < m → p t = q t) → setOf m p = setOf m q
  | 0, _ => rfl
  | m + 1, h => by
    show (if p m then setOf m p ||| one m else setOf m p) = (if q m then setOf m q ||| one m else setOf m q)
    rw [h m (by omega), setOf_ext (fun t ht => h t (by omega))]
theorem tb_or {x y : Int32} {m k : Nat} (hm : m ≤ 30) (hk : k < 32) (hx : ∃ n, n < 2 ^ m ∧ x = nI n) (hy : ∃ n, n < 2 ^ m ∧ y = nI n) : tb (x ||| y) k = (tb x k || tb y k) := by
  obtain ⟨a, ha, rfl⟩ := hx
  obtain ⟨c, hc, rfl⟩ := hy
  have : 2 ^ m ≤ 2 ^ 30 := Nat.pow_le_pow_right (by decide) hm
  have hac : a ||| c < 2 ^ m := Nat.or_lt_two_pow ha hc
  rw [nI_or, tb_n (by omega) hk, tb_n (by omega) hk, tb_n (by omega) hk, Nat.testBit_or]
section TWS
variable {b : Bk} {T : Nat → Int32}
theorem nIor_lt {x y : Int32} {m : Nat} (hx : ∃ n, n < 2 ^ m ∧ x = nI n) (hy : ∃ n, n < 2 ^ m ∧ y = nI n) : ∃ n, n < 2 ^ m ∧ x ||| y = nI n := by
  obtain ⟨n, hn, rfl⟩ := hx
  obtain ⟨k, hk, rfl⟩ := hy
  exact ⟨n ||| k, Nat.or_lt_two_pow hn hk, nI_or n k⟩
theorem outV_lt (hb : BW b) (s : Nat) : ∃ n, n < 2 ^ nT b ∧ outV b T s = nI n := setOf_lt _ _ (by have := hb.t10; omega)
theorem outS_lt (hb : BW b) (sh : Int32) (s : Nat) : ∃ n, n < 2 ^ nT b ∧ outS b T sh s = nI n := setOf_lt _ _ (by have := hb.t10; omega)
theorem p2_10 {n : Nat} (h : n ≤ 10) : 2 ^ n ≤ 1024 := by
  have := Nat.pow_le_pow_right (show 0 < 2 by decide) h
  exact this
theorem lt1024 {x : Int32} (hb : BW b) (h : ∃ n, n < 2 ^ nT b ∧ x = nI n) : ∃ n, n < 1024 ∧ x = nI n := by
  obtain ⟨n, hn, e⟩ := h
  exact ⟨n, Nat.lt_of_lt_of_le hn (p2_10 hb.t10), e⟩
/-- one number of a table is put otherwise -/
theorem TW.up {e : Nat} {v : Int32} (hw : TW b T) (h0 : e = 0 → ∃ n, n < 2 ^ nP b ∧ v = nI n) (h1 : e = 1 → ∃ n, n < 2 ^ nT b ∧ v = nI n) (h2 : ∀ t, t < nT b → e = 2 + t → v = -1 ∨ ∃ s, s < nS b ∧ v = nI s) (h3 : ∀ s, s < nS b → e = 12 + s → ∃ g, g ≤ 99 ∧ v = nI g) (h4 : e = 17 → ∃ c, c ≤ 999 ∧ v = nI c) (h5 : e = 18 → ∃ c, c ≤ 999 ∧ v = nI c) : TW b (u1 T e v) := by
  obtain ⟨w0, w1, w2, w3, w4, w5⟩ := hw
  have hne : ∀ k, k ≠ e → u1 T e v k = T k := fun k hk => if_neg hk
  have heq : u1 T e v e = v := if_pos rfl
  refine ⟨?_, ?_, fun t ht => ?_, fun s hs => ?_, ?_, ?_⟩
  · by_cases q : e = 0
    · rw [← q, heq]; exact h0 q
    · rw [hne 0 (fun z => q z.symm)]; exact w0
  · by_cases q : e = 1
    · rw [← q, heq]; exact h1 q
    · rw [hne 1 (fun z => q z.symm)]; exact w1
  · by_cases q : e = 2 + t
    · rw [← q, heq]; exact h2 t ht q
    · rw [hne _ (fun z => q z.symm)]; exact w2 t ht
  · by_cases q : e = 12 + s
    · rw [← q, heq]; exact h3 s hs q
    · rw [hne _ (fun z => q z.symm)]; exact w3 s hs
  · by_cases q : e = 17
    · rw [← q, heq]; exact h4 q
    · rw [hne 17 (fun z => q z.symm)]; exact w4
  · by_cases q : e = 18
    · rw [← q, heq]; exact h5 q
    · rw [hne 18 (fun z => q z.symm)]; exact w5
theorem TW.sits {v : Int32} (hw : TW b T) (hv : ∃ n, n < 2 ^ nP b ∧ v = nI n) : TW b (u1 T 0 v) := hw.up (fun _ => hv) (by omega) (by omega) (by omega) (by omega) (by omega)
theorem gr_min {x : Int32} (h : ∃ g, g ≤ 99 ∧ x = nI g) : (if x + nI 1 < nI 99 then x + nI 1 else nI 99) = (if x < nI 99 then x + nI 1 else x) := by
  obtain ⟨g, hg, rfl⟩ := h
  rw [nI_add]
  by_cases h1 : g + 1 < 99
  · rw [if_pos ((nI_ltI (by omega) (by decide)).mpr h1), if_pos ((nI_ltI (by omega) (by decide)).mpr (by omega))]
  · rw [if_neg (fun z => h1 ((nI_ltI (by omega) (by decide)).mp z))]
    by_cases h2 : g < 99
    · rw [if_pos ((nI_ltI (by omega) (by decide)).mpr h2), show g + 1 = 99 by omega]
    · rw [if_neg (fun z => h2 ((nI_ltI (by omega) (by decide)).mp z)), show g = 99 by omega]
theorem TW.gr (hw : TW b T) (hb : BW b) {s : Nat} (hs : s < nS b) : TW b (grT b T s) := by
  have hs5 := hb.s5
  refine TW.up (e := 12 + s) (hw.up (e := 1) (by omega) (fun _ => nIor_lt hw.2.1 (outV_lt hb s)) (by omega) (by omega) (by omega) (by omega)) (by omega) (by omega) (by have := hb.t10; omega) (fun s2 _ e => ?_) (by omega) (by omega)
  obtain ⟨g, hg, e2⟩ := hw.2.2.2.1 s hs
  rw [e2]
  by_cases h1 : g < 99
  · rw [if_pos ((nI_ltI (by omega) (by decide)).mpr h1), nI_add]
    exact ⟨g + 1, by omega, rfl⟩
  · rw [if_neg (fun z => h1 ((nI_ltI (by omega) (by decide)).mp z))]
    exact ⟨g, hg, rfl⟩
theorem TW.lay (hb : BW b) : TW b (layT b) := by
  refine ⟨⟨0, Nat.two_pow_pos _, rfl⟩, ⟨0, Nat.two_pow_pos _, rfl⟩, fun t ht => ?_, fun s hs => ⟨0, by decide, ?_⟩, ⟨0, by decide, rfl⟩, ⟨bDr b, hb.2.2.2.2.2.2.1, rfl⟩⟩
  · have := hb.t10
    have e : layT b (2 + t) = bIn b t := by
      show (if 2 ≤ 2 + t ∧ 2 + t < 12 then (if 2 + t - 2 < nT b then bIn b (2 + t - 2) else -1) else _) = _
      rw [if_pos (by omega), show 2 + t - 2 = t by omega, if_pos ht]
    rw [e]
    exact (hb.2.2.2.1 t ht).2.2.2.2.2
  · have := hb.s5
    show (if 2 ≤ 12 + s ∧ 12 + s < 12 then _ else if 12 + s = 18 then _ else 0) = nI 0
    rw [if_neg (by omega), if_neg (by omega)]
    rfl
end TWS
/-- the first n sacks, those of some: the table behind, what was said -/
def gsT (b : Bk) (T : Nat → Int32) (some : Int32) : Nat → (Nat → Int32)
  | 0 => T
  | n + 1 => if tb some n then grT b (gsT b T some n) n else gsT b T some n
def gsV (b : Bk) (T : Nat → Int32) (some : Int32) : Nat → Int32
  | 0 => 0
  | n + 1 => if tb some n then gsV b T some n ||| outV b (gsT b T some n) n else gsV b T some n
section GSS
variable {b : Bk} {T : Nat → Int32} {some : Int32} {n : Nat}
theorem gsT_t (h : tb some n = true) : gsT b T some (n + 1) = grT b (gsT b T some n) n := if_pos h
theorem gsT_f (h : tb some n = false) : gsT b T some (n + 1) = gsT b T some n := if_neg (by rw [h]; decide)
theorem gsV_t (h : tb some n = true) : gsV b T some (n + 1) = gsV b T some n ||| outV b (gsT b T some n) n := if_pos h
theorem gsV_f (h : tb some n = false) : gsV b T some (n + 1) = gsV b T some n := if_neg (by rw [h]; decide)
end GSS
theorem TW.gs {b : Bk} {T : Nat → Int32} {some : Int32} (hw : TW b T) (hb : BW b) : ∀ n, n ≤ nS b → TW b (gsT b T some n)
  | 0, _ => hw
  | n + 1, hn => by
    have ih := TW.gs (some := some) hw hb n (by omega)
    cases h : tb some n with
    | true => rw [gsT_t h]; exact ih.gr hb (by omega)
    | false => rw [gsT_f h]; exact ih
theorem gsV_lt {b : Bk} {T : Nat → Int32} {some : Int32} (hb : BW b) : ∀ n, ∃ k, k < 2 ^ nT b ∧ gsV b T some n = nI k
  | 0 => ⟨0, Nat.two_pow_pos _, rfl⟩
  | n + 1 => by
    cases h : tb some n with
    | true => rw [gsV_t h]; exact nIor_lt (gsV_lt hb n) (outV_lt hb n)
    | false => rw [gsV_f h]; exact gsV_lt hb n
/-- what is out of one sack is not out of another: what is said does not hang on the others' being ground -/
theorem gr_other {b : Bk} {T : Nat → Int32} (hw : TW b T) (hb : BW b) {s n : Nat} (hs : s < nS b) (hn : n < nS b) (hne : s ≠ n) : inV b (grT b T n) (nI s) = inV b T (nI s) := by
  have hs5 := hb.s5
  have e1 : ∀ t, t < nT b → (stV (grT b T n) t && decide (grT b T n (2 + t) = nI s)) = (stV T t && decide (T (2 + t) = nI s)) := by
    intro t ht
    have ht10 := hb.t10
    have e2 : grT b T n (2 + t) = T (2 + t) := (u1_ne (by omega)).trans (u1_ne (by omega))
    have e3 : grT b T n 1 = T 1 ||| outV b T n := (u1_ne (by omega)).trans u1_self
    rw [e2]
    by_cases h : T (2 + t) = nI s
    · rw [decide_eq_true h, Bool.and_true, Bool.and_true]
      unfold stV
      rw [e3]
      congr 1
      have hout : tb (outV b T n) t = false := by
        unfold outV
        rw [tb_setOf _ (by omega) ht]
        unfold inV
        rw [tb_setOf _ (by omega) ht, h, decide_eq_false (fun z => hne ((nI_eq (by omega) (by omega)).mp z))]
        simp
      rw [tb_or (m := nT b) (by omega) (by omega) hw.2.1 (outV_lt hb n), hout, Bool.or_false]
    · rw [decide_eq_false h, Bool.and_false, Bool.and_false]
  unfold inV
  exact setOf_ext e1
