/-! ===== rows: sure, ask ===== -/
set_option maxRecDepth 100000
theorem nx_or (a b : Nat) : nI a ||| nI b = nI (a ||| b) := by
  apply Int32.toBitVec_inj.mp
  simp [nI]
theorem pcf_bd : ∀ (n f m : Nat), m < 2 ^ n → pcf f m ≤ n
  | 0, f, m, h => by rw [show m = 0 by simp at h; exact h, pcf_0]; exact Nat.le_refl _
  | n + 1, 0, m, h => Nat.zero_le _
  | n + 1, f + 1, m, h => by
    show m % 2 + pcf f (m / 2) ≤ n + 1
    have := pcf_bd n f (m / 2) (by rw [Nat.pow_succ] at h; omega)
    omega
theorem setOf_n {p : Nat → Bool} : ∀ {n : Nat}, n < 31 → ∃ m, m < 2 ^ n ∧ setOf n p = nI m
  | 0, _ => ⟨0, by decide, rfl⟩
  | n + 1, h => by
    obtain ⟨m, hm, e⟩ := setOf_n (p := p) (n := n) (by omega)
    by_cases hp : p n = true
    · refine ⟨m ||| 2 ^ n, Nat.or_lt_two_pow (by rw [Nat.pow_succ]; omega) (Nat.pow_lt_pow_right (by decide) (by omega)), ?_⟩
      show (if p n = true then setOf n p ||| one n else setOf n p) = _
      rw [if_pos hp, e, one_n (by omega), nx_or]
    · refine ⟨m, by rw [Nat.pow_succ]; omega, ?_⟩
      show (if p n = true then setOf n p ||| one n else setOf n p) = _
      rw [if_neg hp, e]
theorem outV_n {b : Bk} (hb : BW b) (T : Nat → Int32) (s : Nat) : ∃ m, m < 2 ^ nT b ∧ outV b T s = nI m := setOf_n (by have := hb.t10; omega)
def myN (b : Bk) (v s : Nat) : Nat := (myV b v s).toNatClampNeg
theorem myV_n {b : Bk} (hb : BW b) (v s : Nat) : myV b v s = nI (myN b v s) ∧ myN b v s ≤ 10 := by
  obtain ⟨m, hm, e⟩ := outV_n hb (rowT b v) s
  have h10 := hb.t10
  have h2 : 2 ^ nT b ≤ 2 ^ 10 := Nat.pow_le_pow_right (by decide) h10
  have h3 := pcf_bd (nT b) 32 m hm
  unfold myN myV
  rw [e, popc_n (by omega), nI_clamp (by omega)]
  exact ⟨rfl, by omega⟩
/-- how many rows below n fit and say j at sack s -/
def byN (b : Bk) (p : Nat → Bool) (s j : Nat) : Nat → Nat
  | 0 => 0
  | n + 1 => if p n ∧ myN b n s = j then byN b p s j n + 1 else byN b p s j n
theorem byN_le (b : Bk) (p : Nat → Bool) (s j : Nat) : ∀ n, byN b p s j n ≤ n
  | 0 => Nat.le_refl _
  | n + 1 => by unfold byN; have := byN_le b p s j n; split <;> omega
def moN (b : Bk) (p : Nat → Bool) (s : Nat) : Nat → Nat
  | 0 => 0
  | n + 1 => if p n ∧ moN b p s n < byN b p s (myN b n s) n + 1 then byN b p s (myN b n s) n + 1 else moN b p s n
theorem moN_le (b : Bk) (p : Nat → Bool) (s : Nat) : ∀ n, moN b p s n ≤ n
  | 0 => Nat.le_refl _
  | n + 1 => by
    unfold moN
    have h1 := moN_le b p s n
    have h2 := byN_le b p s (myN b n s) n
    split <;> omega
def MBY (b : Bk) (p : Nat → Bool) (s v : Nat) (h : ev_H) : Prop := ∀ j, j < 11 → hI h aByMany j = nI (byN b p s j v)
theorem MBY.skip {b : Bk} {p : Nat → Bool} {s v : Nat} {h : ev_H} (hM : MBY b p s v h) (hp : p v = false) : MBY b p s (v + 1) h := fun j hj => (hM j hj).trans (congrArg nI (if_neg (fun z => by rw [hp] at z; exact absurd z.1 (by decide))).symm)
theorem byN_t {b : Bk} {p : Nat → Bool} {s v m : Nat} (hp : p v = true) (em : myN b v s = m) : byN b p s m (v + 1) = byN b p s m v + 1 := by rw [byN, if_pos ⟨hp, em⟩]
theorem byN_f {b : Bk} {p : Nat → Bool} {s v m : Nat} (em : myN b v s ≠ m) : byN b p s m (v + 1) = byN b p s m v := by rw [byN, if_neg (fun z => em z.2)]
theorem MBY.step {b : Bk} {p : Nat → Bool} {s v m : Nat} {h : ev_H} (hM : MBY b p s v h) (hp : p v = true) (em : myN b v s = m) : MBY b p s (v + 1) (sI h aByMany m (nI (byN b p s m v + 1))) := by
  intro j hj
  by_cases e : j = m
  · rw [e, byN_t hp em]
    exact u2_self
  · rw [byN_f (fun z => e (z.symm.trans em)), ← hM j hj]
    exact u2_ne (fun z => e z.2)
theorem mo_f {b : Bk} {p : Nat → Bool} {s v : Nat} (hp : p v = false) : nI (moN b p s v) = nI (moN b p s (v + 1)) := by
  rw [moN, if_neg (fun z => by rw [hp] at z; exact absurd z.1 (by decide))]
theorem mo_n {b : Bk} {p : Nat → Bool} {s v m : Nat} (em : myN b v s = m) (h : byN b p s m v + 1 ≤ moN b p s v) : nI (moN b p s v) = nI (moN b p s (v + 1)) := by
  rw [moN, em, if_neg (fun z => by omega)]
theorem mo_t {b : Bk} {p : Nat → Bool} {s v m : Nat} (em : myN b v s = m) (hp : p v = true) (h : moN b p s v < byN b p s m v + 1) : nI (byN b p s m v + 1) = nI (moN b p s (v + 1)) := by
  rw [moN, em, if_pos ⟨hp, h⟩]
/-- the first sack below n whose greatest part is least -/
def abN (f : Nat → Nat) : Nat → Nat
  | 0 => 0
  | n + 1 => if 0 < n ∧ f n < f (abN f n) then n else abN f n
theorem abN_le (f : Nat → Nat) : ∀ n, abN f (n + 1) ≤ n
  | 0 => by rw [abN, if_neg (fun z => Nat.lt_irrefl 0 z.1)]; exact Nat.le_refl _
  | n + 1 => by
    have := abN_le f n
    rw [abN]
    split <;> omega
def sureV (b : Bk) (R : HR) (nh : Nat) (p k : Int32) : Int32 := if isInV p 0 (nI (hid b) - 1) then (if rfN (rfV b R nh k) (nRow b) = 0 then -3 else match firstOf (nS b + 1) (fun s => decide (ptN (rfV b R nh k) (nS b) p.toNatClampNeg s (nRow b) = rfN (rfV b R nh k) (nRow b))) with
  | none => -2
  | some s => if s = nS b then -1 else nI s) else -3
def rowAsk (b : Bk) (R : HR) (nh : Nat) (w k : Int32) : Int32 := if isInV w 0 1 && !decide (nI (nS b) = 0) then (if rfN (rfV b R nh k) (nRow b) = 0 then -1 else if w = 0 then nI (abN (fun s => moN b (rfV b R nh k) s (nRow b)) (nS b)) else nI (moN b (rfV b R nh k) (abN (fun s => moN b (rfV b R nh k) s (nRow b)) (nS b)) (nRow b))) else -1
theorem abN_t {f : Nat → Nat} {n : Nat} (h0 : 0 < n) (h : f n < f (abN f n)) : nI n = nI (abN f (n + 1)) := by rw [abN, if_pos ⟨h0, h⟩]
theorem abN_f {f : Nat → Nat} {n : Nat} (h : f (abN f n) ≤ f n) : nI (abN f n) = nI (abN f (n + 1)) := by rw [abN, if_neg (fun z => by omega)]
theorem abN_lt (f : Nat → Nat) {n : Nat} (h : 0 < n) : abN f n < n := by
  obtain ⟨m, rfl⟩ : ∃ m, n = m + 1 := ⟨n - 1, by omega⟩
  have := abN_le f m
  omega
