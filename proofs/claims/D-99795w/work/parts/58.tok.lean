/-! ===== tokens of a text ===== -/
set_option maxRecDepth 100000
/-- the first place from p on, at most f further, where c does not hold -/
def runT (c : Nat → Bool) : Nat → Nat → Nat
  | 0, p => p
  | f + 1, p => if c p then runT c f (p + 1) else p
theorem runT_t {c : Nat → Bool} {f p : Nat} (h : c p = true) : runT c (f + 1) p = runT c f (p + 1) := if_pos h
theorem runT_f {c : Nat → Bool} {f p : Nat} (h : c p = false) : runT c f p = p := by
  cases f with
  | zero => rfl
  | succ f => exact if_neg (by rw [h]; decide)
theorem runT_ge {c : Nat → Bool} : ∀ f p : Nat, p ≤ runT c f p
  | 0, p => Nat.le_refl _
  | f + 1, p => by
    unfold runT
    split
    · exact Nat.le_trans (Nat.le_succ p) (runT_ge f (p + 1))
    · exact Nat.le_refl _
theorem runT_le {c : Nat → Bool} : ∀ f p : Nat, runT c f p ≤ p + f
  | 0, p => Nat.le_refl _
  | f + 1, p => by
    unfold runT
    split
    · have := runT_le (c := c) f (p + 1); omega
    · omega
/-- a text's sign at k: tx its bytes (0..255), n its size -/
def sgT (tx : Nat → Int32) (n k : Nat) : Int32 := if k < n then tx k else 0
def wsT (tx : Nat → Int32) (n k : Nat) : Bool := decide (k < n) && (decide (sgT tx n k = nI 32) || decide (sgT tx n k = nI 10))
/-- where the token begins that is sought from p on -/
def taT (tx : Nat → Int32) (n p : Nat) : Nat := runT (wsT tx n) (n - p) p
def leT (tx : Nat → Int32) (n k : Nat) : Bool := isLetV (sgT tx n k)
def diT (tx : Nat → Int32) (n k : Nat) : Bool := isDigV (sgT tx n k)
def nmT (tx : Nat → Int32) (n a : Nat) : Nat → Int64
  | 0 => 0
  | k + 1 => (nmT tx n a k <<< ((nI 8).toInt64 &&& 63)) ||| (sgT tx n (a + k)).toInt64
def nuT (tx : Nat → Int32) (n a : Nat) : Nat → Int32
  | 0 => 0
  | k + 1 => if k < 4 then nI 10 * nuT tx n a k + sgT tx n (a + k) - nI 48 else nuT tx n a k
/-- its end -/
def teT (tx : Nat → Int32) (n p : Nat) : Nat := if n ≤ taT tx n p then n else if leT tx n (taT tx n p) then runT (leT tx n) (n - taT tx n p) (taT tx n p) else if diT tx n (taT tx n p) then runT (diT tx n) (n - taT tx n p) (taT tx n p) else taT tx n p + 1
def tnT (tx : Nat → Int32) (n p : Nat) : Int64 := nmT tx n (taT tx n p) (min 8 (teT tx n p - taT tx n p))
def tvT (tx : Nat → Int32) (n p : Nat) : Int32 := nuT tx n (taT tx n p) (teT tx n p - taT tx n p)
/-- the reference's text -/
def MX (tx : Nat → Int32) (n : Nat) (h : ev_H) : Prop := hI h aM 3 = nI n ∧ n ≤ 1600 ∧ ∀ k, k < n → hI h aText k &&& nI 255 = tx k
