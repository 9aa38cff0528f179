/-! ===== rounds, lines, ranks ===== -/
set_option maxRecDepth 100000
def rowD (f : Nat → Int32) (n : Nat) (R : Nat → Int32) : Nat → Int32 := fun q => if q < n then f q else R q
theorem rowD_0 {f R : Nat → Int32} : rowD f 0 R = R := funext fun q => if_neg (Nat.not_lt_zero _)
theorem rowD_step {a N n : Nat} {f R : Nat → Int32} {v : Int32} {h : ev_H} (hA : Ar a N (rowD f n R) h) (hv : v = f n) : Ar a N (rowD f (n + 1) R) (sI h a n v) := by
  refine (hA.up n v).eq fun q _ => ?_
  unfold rowD
  by_cases e : q = n
  · rw [e, u1_self, if_pos (by omega), hv]
  · rw [u1_ne e]
    by_cases h2 : q < n
    · rw [if_pos h2, if_pos (by omega)]
    · rw [if_neg h2, if_neg (by omega)]
/-- a round's grindings: the table and all that was said, behind k of them -/
def rdI (b : Bk) (T : Nat → Int32) (v n : Nat) : Nat → (Nat → Int32) × Int32
  | 0 => (T, 0)
  | k + 1 => (grT b (rdI b T v n k).1 (dig (nS b) v n k), (rdI b T v n k).2 ||| outV b (rdI b T v n k).1 (dig (nS b) v n k))
def rdF (b : Bk) (T : Nat → Int32) (n v : Nat) : Int32 := nI 100 * popc (rdI b T v n n).2 + heatV b (rdI b T v n n).2
def rdS (b : Bk) (T : Nat → Int32) (n : Nat) : Nat → Nat × Int32
  | 0 => (0, -1)
  | v + 1 => if (rdS b T n v).2 < rdF b T n v then (v, rdF b T n v) else rdS b T n v
theorem rdS_t {b : Bk} {T : Nat → Int32} {n v : Nat} (h : (rdS b T n v).2 < rdF b T n v) : rdS b T n (v + 1) = (v, rdF b T n v) := by rw [rdS, if_pos h]
theorem rdS_f {b : Bk} {T : Nat → Int32} {n v : Nat} (h : ¬ (rdS b T n v).2 < rdF b T n v) : rdS b T n (v + 1) = rdS b T n v := by rw [rdS, if_neg h]
theorem rdS_le {b : Bk} {T : Nat → Int32} {n : Nat} : ∀ v, (rdS b T n v).1 ≤ v
  | 0 => Nat.le_refl _
  | v + 1 => by
    have := rdS_le (b := b) (T := T) (n := n) v
    rw [rdS]
    split
    · exact Nat.le_succ v
    · omega
theorem pwS {b : Bk} (h : nS b ≤ 5) {e : Nat} (he : e ≤ 4) : nS b ^ e ≤ 625 := Nat.le_trans (Nat.pow_le_pow_left h e) (Nat.pow_le_pow_right (n := 5) (by decide) he)
theorem pwP {b : Bk} (h : nP b ≤ 6) {e : Nat} (he : e ≤ 6) : nP b ^ e ≤ 46656 := Nat.le_trans (Nat.pow_le_pow_left h e) (Nat.pow_le_pow_right (n := 6) (by decide) he)
def rdOk (b : Bk) (n w : Int32) : Bool := isInV n 0 (nI 4) && isInV w 0 1 && !decide (nI (nS b) = 0)
def rdB (b : Bk) (T : Nat → Int32) (n : Nat) : Nat × Int32 := rdS b T n (nS b ^ n)
def rdV (b : Bk) (T : Nat → Int32) (n w : Int32) : Int32 := if w = 0 then (rdB b T n.toNatClampNeg).2 / nI 100 else (rdB b T n.toNatClampNeg).2 - (rdB b T n.toNatClampNeg).2 / nI 100 * nI 100
def rdR (b : Bk) (T : Nat → Int32) (n : Int32) (R : Nat → Int32) : Nat → Int32 := rowD (fun q => nI (dig (nS b) (rdB b T n.toNatClampNeg).1 n.toNatClampNeg q)) n.toNatClampNeg R
def lset (P v n : Nat) : Nat → Int32
  | 0 => 0
  | k + 1 => lset P v n k ||| one (dig P v n k)
def lnP (b : Bk) (T : Nat → Int32) (v n k : Nat) : Bool := !tb (lset (nP b) v n k) (dig (nP b) v n k) && (decide (k = 0) || dkV b T (nI (dig (nP b) v n (k - 1))) (nI (dig (nP b) v n k)))
def lnB (b : Bk) (T : Nat → Int32) (n v : Nat) : Bool := allB n (lnP b T v n)
def lnA (b : Bk) (T : Nat → Int32) : Nat → Option (Nat × Nat)
  | 0 => none
  | n + 1 => match firstOf (nP b ^ (n + 1)) (lnB b T (n + 1)) with
    | some v => some (n + 1, v)
    | none => lnA b T n
theorem lnA_s {b : Bk} {T : Nat → Int32} {n v : Nat} (h0 : 0 < n) (h : firstOf (nP b ^ n) (lnB b T n) = some v) : lnA b T n = some (n, v) := by
  obtain ⟨m, rfl⟩ : ∃ m, n = m + 1 := ⟨n - 1, by omega⟩
  rw [lnA, h]
theorem lnA_n {b : Bk} {T : Nat → Int32} {n : Nat} (h0 : 0 < n) (h : firstOf (nP b ^ n) (lnB b T n) = none) : lnA b T n = lnA b T (n - 1) := by
  obtain ⟨m, rfl⟩ : ∃ m, n = m + 1 := ⟨n - 1, by omega⟩
  rw [lnA, h]; rfl
def lineN : Option (Nat × Nat) → Nat
  | none => 0
  | some x => x.1
def lineR (P : Nat) (R : Nat → Int32) : Option (Nat × Nat) → Nat → Int32
  | none => R
  | some x => rowD (fun q => nI (dig P x.2 x.1 q)) x.1 R
def rkF (b : Bk) (T : Nat → Int32) (q : Nat) : Int32 := heatV b (byV b (nI q) &&& keptV b T)
def insK (f : Nat → Int32) (A : Nat → Nat) (p : Nat) : Nat → Nat
  | 0 => 0
  | k + 1 => if f (A k) < f p then insK f A p k else k + 1
def insA (A : Nat → Nat) (p K : Nat) : Nat → Nat := fun q => if q < K then A q else if q = K then p else A (q - 1)
def rkA (b : Bk) (T : Nat → Int32) : Nat → Nat → Nat
  | 0 => fun _ => 0
  | p + 1 => insA (rkA b T p) p (insK (rkF b T) (rkA b T p) p p)
theorem insK_t {f : Nat → Int32} {A : Nat → Nat} {p k : Nat} (h0 : 0 < k) (h : f (A (k - 1)) < f p) : insK f A p k = insK f A p (k - 1) := by
  obtain ⟨m, rfl⟩ : ∃ m, k = m + 1 := ⟨k - 1, by omega⟩
  rw [insK]; exact if_pos h
theorem insK_f {f : Nat → Int32} {A : Nat → Nat} {p k : Nat} (h0 : 0 < k) (h : ¬ f (A (k - 1)) < f p) : insK f A p k = k := by
  obtain ⟨m, rfl⟩ : ∃ m, k = m + 1 := ⟨k - 1, by omega⟩
  rw [insK]; exact if_neg h
def MRk (A : Nat → Nat) (p k : Nat) (h : ev_H) : Prop := (∀ q, q < k → hI h aLaidRow q = nI (A q)) ∧ ∀ q, k < q → q ≤ p → hI h aLaidRow q = nI (A (q - 1))
theorem MRk.step {A : Nat → Nat} {p k : Nat} {h : ev_H} (hM : MRk A p k h) (h0 : 0 < k) (hk : k ≤ p) : MRk A p (k - 1) (sI h aLaidRow k (nI (A (k - 1)))) := by
  refine ⟨fun q hq => (u2_ne (fun z => by have := z.2; omega)).trans (hM.1 q (by omega)), fun q h1 h2 => ?_⟩
  by_cases e : q = k
  · rw [e]; exact u2_self
  · exact (u2_ne (fun z => e z.2)).trans (hM.2 q (by omega) h2)
theorem MRk.done {A : Nat → Nat} {p k : Nat} {h : ev_H} (hM : MRk A p k h) (hk : k ≤ p) : ∀ q, q < p + 1 → hI (sI h aLaidRow k (nI p)) aLaidRow q = nI (insA A p k q) := by
  intro q hq
  unfold insA
  by_cases e : q = k
  · rw [e, if_neg (by omega), if_pos rfl]; exact u2_self
  · refine (u2_ne (fun z => e z.2)).trans ?_
    by_cases h1 : q < k
    · rw [if_pos h1]; exact hM.1 q h1
    · rw [if_neg h1, if_neg e]; exact hM.2 q (by omega) (by omega)
