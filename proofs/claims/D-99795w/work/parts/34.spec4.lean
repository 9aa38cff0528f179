/-! ===== fewest, least, last ===== -/
set_option maxRecDepth 100000
/-- what a table's numbers are -/
def TW (b : Bk) (T : Nat → Int32) : Prop := (∃ S, S < 2 ^ nP b ∧ T 0 = nI S) ∧ (∃ d, d < 2 ^ nT b ∧ T 1 = nI d) ∧ (∀ t, t < nT b → T (2 + t) = -1 ∨ ∃ s, s < nS b ∧ T (2 + t) = nI s) ∧ (∀ s, s < nS b → ∃ g, g ≤ 99 ∧ T (12 + s) = nI g) ∧ (∃ c, c ≤ 999 ∧ T 17 = nI c) ∧ (∃ v, v ≤ 999 ∧ T 18 = nI v)
theorem fewOf_n1 {n : Nat} {p : Nat → Bool} (hb : fewOf n p = none) (h : p n = true) : fewOf (n + 1) p = some n := by unfold fewOf; rw [hb]; exact if_pos h
theorem fewOf_n0 {n : Nat} {p : Nat → Bool} (hb : fewOf n p = none) (h : p n = false) : fewOf (n + 1) p = none := by unfold fewOf; rw [hb]; exact if_neg (by rw [h]; decide)
theorem fewOf_s1 {n j : Nat} {p : Nat → Bool} (hb : fewOf n p = some j) (h : p n = true) (hf : popc (nI n) < popc (nI j)) : fewOf (n + 1) p = some n := by unfold fewOf; rw [hb]; exact if_pos (by simp [h, hf])
theorem fewOf_s0 {n j : Nat} {p : Nat → Bool} (hb : fewOf n p = some j) (h : p n = false ∨ popc (nI j) ≤ popc (nI n)) : fewOf (n + 1) p = some j := by
  unfold fewOf; rw [hb]
  refine if_neg ?_
  rcases h with h | h
  · simp [h]
  · simp [Int32.not_lt.mpr h]
/-- the same from a first one on -/
def fewB (p : Nat → Bool) (j0 : Nat) : Nat → Nat
  | 0 => j0
  | n + 1 => if decide (popc (nI n) < popc (nI (fewB p j0 n))) && p n then n else fewB p j0 n
theorem fewB_1 {n j0 : Nat} {p : Nat → Bool} (h : p n = true) (hf : popc (nI n) < popc (nI (fewB p j0 n))) : fewB p j0 (n + 1) = n := by unfold fewB; exact if_pos (by simp [h, hf])
theorem fewB_0 {n j0 : Nat} {p : Nat → Bool} (h : p n = false ∨ popc (nI (fewB p j0 n)) ≤ popc (nI n)) : fewB p j0 (n + 1) = fewB p j0 n := by
  show (if _ then _ else _) = _
  refine if_neg ?_
  rcases h with h | h
  · simp [h]
  · simp [Int32.not_lt.mpr h]
theorem fewB_le {j0 : Nat} {p : Nat → Bool} : ∀ n : Nat, fewB p j0 n ≤ max j0 n
  | 0 => by unfold fewB; omega
  | n + 1 => by
    have := fewB_le (j0 := j0) (p := p) n
    show (if _ then _ else _) ≤ _
    split <;> omega
/-- the first of the least below n, among those that p says -/
def leastOf : Nat → (Nat → Bool) → (Nat → Int32) → Option Nat
  | 0, _, _ => none
  | n + 1, p, f => match leastOf n p f with
    | none => if p n then some n else none
    | some j => if p n && decide (f n < f j) then some n else some j
theorem leastOf_lt {p : Nat → Bool} {f : Nat → Int32} : ∀ {n j : Nat}, leastOf n p f = some j → j < n
  | 0, j, h => by cases h
  | n + 1, j, h => by
    unfold leastOf at h
    cases hb : leastOf n p f with
    | none =>
      rw [hb] at h
      dsimp only at h
      split at h
      · cases h; omega
      · cases h
    | some i =>
      rw [hb] at h
      dsimp only at h
      have := leastOf_lt hb
      split at h
      · cases h; omega
      · cases h; omega
theorem leastOf_n1 {n : Nat} {p : Nat → Bool} {f : Nat → Int32} (hb : leastOf n p f = none) (h : p n = true) : leastOf (n + 1) p f = some n := by unfold leastOf; rw [hb]; exact if_pos h
theorem leastOf_n0 {n : Nat} {p : Nat → Bool} {f : Nat → Int32} (hb : leastOf n p f = none) (h : p n = false) : leastOf (n + 1) p f = none := by unfold leastOf; rw [hb]; exact if_neg (by rw [h]; decide)
theorem leastOf_s1 {n j : Nat} {p : Nat → Bool} {f : Nat → Int32} (hb : leastOf n p f = some j) (h : p n = true) (hf : f n < f j) : leastOf (n + 1) p f = some n := by unfold leastOf; rw [hb]; exact if_pos (by simp [h, hf])
theorem leastOf_s0 {n j : Nat} {p : Nat → Bool} {f : Nat → Int32} (hb : leastOf n p f = some j) (h : p n = false ∨ f j ≤ f n) : leastOf (n + 1) p f = some j := by
  unfold leastOf; rw [hb]
  refine if_neg ?_
  rcases h with h | h
  · simp [h]
  · simp [Int32.not_lt.mpr h]
def atI (o : Option Nat) (d : Int32) (f : Nat → Int32) : Int32 := match o with
  | none => d
  | some j => f j
def lastOf : Nat → (Nat → Bool) → Int32
  | 0, _ => -1
  | n + 1, p => if p n then nI n else lastOf n p
theorem lastOf_t {n : Nat} {p : Nat → Bool} (h : p n = true) : lastOf (n + 1) p = nI n := if_pos h
theorem lastOf_f {n : Nat} {p : Nat → Bool} (h : p n = false) : lastOf (n + 1) p = lastOf n p := if_neg (by rw [h]; decide)
theorem andOf_t {n : Nat} {p : Nat → Bool} (h : p n = true) : andOf n p &&& nI n = andOf (n + 1) p := (if_pos h).symm
theorem andOf_f {n : Nat} {p : Nat → Bool} (h : p n = false) : andOf n p = andOf (n + 1) p := (if_neg (by rw [h]; decide)).symm
theorem popc_ge (y : Int32) : ¬ popc y < 0 := by unfold popc; exact nI_pos (by have := pcf_le 32 y.toBitVec.toNat; omega)
theorem popc_lt (y : Int32) : popc y < nI 100 := by unfold popc; exact nI_lt (by have := pcf_le 32 y.toBitVec.toNat; omega) (by decide)
theorem popc_m1 (y : Int32) : ¬ popc y ≤ -1 := fun h => popc_ge y (by
  have e : (-1 : Int32) < 0 := by decide
  exact Int32.lt_of_le_of_lt h e)
def inviF (b : Bk) (T : Nat → Int32) (p : Nat) : Int32 := popc (saidW b T (T 0 ||| one p))
def inviO (b : Bk) (T : Nat → Int32) (n : Nat) : Option Nat := bestOf n (fun p => !tb (T 0) p) (inviF b T)
def inviteV (b : Bk) (T : Nat → Int32) (w : Int32) : Int32 := if isInV w 0 1 then (if w = 0 then optI (inviO b T (nP b)) else atI (inviO b T (nP b)) (-1) (inviF b T)) else -1
def fewestO (b : Bk) (T : Nat → Int32) (n : Nat) : Option Nat := fewOf n (fun set => decide (saidV b T (nI set) = saidV b T (allV (nS b))))
def fewestV (b : Bk) (T : Nat → Int32) (w : Int32) : Int32 := if isInV w 0 2 then (if w = 0 then popc (optI (fewestO b T (2 ^ nS b))) else if w = 1 then optI (fewestO b T (2 ^ nS b)) else saidV b T (allV (nS b))) else -1
/-- what grinding the sack s would say if the thing t lay there -/
def hideF (b : Bk) (T : Nat → Int32) (t s : Nat) : Int32 := outV b (u1 T (2 + t) (nI s)) s
def hideO (b : Bk) (T : Nat → Int32) (t n : Nat) : Option Nat := leastOf n (fun s => !tb (hideF b T t s) t) (fun s => popc (hideF b T t s))
def hideV (b : Bk) (T : Nat → Int32) (p w : Int32) : Int32 := if thiV b p && stV T p.toNatClampNeg && isInV w 0 1 then (match hideO b T p.toNatClampNeg (nS b) with
  | none => -1
  | some j => if w = 0 then nI j else popc (hideF b T p.toNatClampNeg j)) else -1
def shyestV (b : Bk) (T : Nat → Int32) (p : Int32) : Int32 := if thiV b p && stV T p.toNatClampNeg && !decide (T (2 + p.toNatClampNeg) < 0) then lastOf 10 (fun v => letS b T (nI v) (T (2 + p.toNatClampNeg)).toNatClampNeg p.toNatClampNeg) else -1
theorem allV_n {n : Nat} (h : n < 31) : allV n = nI (2 ^ n - 1) := by
  unfold allV
  rw [one_n h]
  exact pk_sub (Nat.one_le_two_pow)
