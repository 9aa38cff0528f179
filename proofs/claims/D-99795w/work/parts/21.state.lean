/-! ===== BOOK AND TABLE AS NUMBERS ===== -/
set_option maxRecDepth 100000
def isInV (v a c : Int32) : Bool := !decide (v < a) && !decide (c < v)
def isLetV (c : Int32) : Bool := !decide (c < nI 97) && !decide (nI 122 < c)
def isDigV (c : Int32) : Bool := !decide (c < nI 48) && !decide (nI 57 < c)
def isSgV (c : Int32) : Bool := decide (c = nI 59) || decide (c = nI 40) || decide (c = nI 41) || decide (c = nI 60) || decide (c = nI 62) || decide (c = nI 61) || decide (c = nI 43) || decide (c = nI 45) || decide (c = nI 42) || decide (c = nI 47) || decide (c = nI 37)
def pcf : Nat → Nat → Nat
  | 0, _ => 0
  | f + 1, n => n % 2 + pcf f (n / 2)
/-- how many bits are set -/
def popc (x : Int32) : Int32 := nI (pcf 32 x.toBitVec.toNat)
/-- what two signs make of two numbers -/
def twoV (c a d : Int32) : Int32 := if c = nI 43 then a + d else if c = nI 45 then a - d else if c = nI 42 then a * d else if c = nI 47 then (if d = 0 then 0 else a / d) else if c = nI 37 then (if d = 0 then 0 else a - a / d * d) else if c = nI 60 then b2i (decide (a < d)) else if c = nI 62 then b2i (decide (d < a)) else if c = nI 61 then b2i (decide (a = d)) else if c = nI 38 then b2i (!decide (a = 0) && !decide (d = 0)) else b2i (!decide (a = 0) || !decide (d = 0))
/-- what a rule's sign asks: hot, shy, guests, ground, heat, course -/
def askV (q : Nat → Int32) (c n : Int32) : Int32 := if c = nI 104 then q 0 else if c = nI 115 then q 1 else if c = nI 103 then q 2 else if c = nI 114 then q 3 else if c = nI 116 then q 4 else if c = nI 99 then q 5 else n
/-- one sign of a rule, on a pile (its top first) -/
def rpn1 (q : Nat → Int32) (c : Int32 × Int32) (st : List Int32) : List Int32 := if c.1 = nI 126 then (match st with
  | y :: r => (if y = 0 then 1 else 0) :: r
  | [] => []) else if isLetV c.1 then askV q c.1 c.2 :: st else (match st with
  | y :: z :: r => twoV c.1 z y :: r
  | r => r)
def rpn (q : Nat → Int32) : List (Int32 × Int32) → List Int32 → List Int32
  | [], st => st
  | c :: r, st => rpn q r (rpn1 q c st)
/-- how high the pile is: none, if a sign wants more than there is or it grows over 60 -/
def rpnH : List (Int32 × Int32) → Nat → Option Nat
  | [], n => some n
  | c :: r, n => if c.1 = nI 126 then (if n = 0 then none else rpnH r n) else if isLetV c.1 then (if n < 60 then rpnH r (n + 1) else none) else (if n < 2 then none else rpnH r (n - 1))
/-- a book: how many people, sacks, things; numbers (0 shy, 1 by, 2 to, 3 hot, 4: 0 sneeze 1 seed 2 units); in which sack; the rule as a row of signs behind their numbers -/
abbrev Bk : Type := Nat × Nat × Nat × (Nat → Nat → Nat) × (Nat → Int32) × Option (List (Int32 × Int32))
def nP (b : Bk) : Nat := b.1
def nS (b : Bk) : Nat := b.2.1
def nT (b : Bk) : Nat := b.2.2.1
def bSh (b : Bk) (p : Nat) : Nat := b.2.2.2.1 0 p
def bBy (b : Bk) (t : Nat) : Nat := b.2.2.2.1 1 t
def bTo (b : Bk) (t : Nat) : Nat := b.2.2.2.1 2 t
def bHo (b : Bk) (t : Nat) : Nat := b.2.2.2.1 3 t
def bSn (b : Bk) : Nat := b.2.2.2.1 4 0
def bDr (b : Bk) : Nat := b.2.2.2.1 4 1
def bUn (b : Bk) : Nat := b.2.2.2.1 4 2
def bIn (b : Bk) (t : Nat) : Int32 := b.2.2.2.2.1 t
def bRu (b : Bk) : Option (List (Int32 × Int32)) := b.2.2.2.2.2
/-- what a book's numbers are at the most -/
def BW (b : Bk) : Prop := nP b ≤ 6 ∧ nS b ≤ 5 ∧ nT b ≤ 10 ∧ (∀ t, t < nT b → bBy b t < nP b ∧ bTo b t < nP b ∧ bBy b t ≠ bTo b t ∧ 1 ≤ bHo b t ∧ bHo b t ≤ 9 ∧ (bIn b t = -1 ∨ ∃ s, s < nS b ∧ bIn b t = nI s)) ∧ (∀ p, p < nP b → bSh b p ≤ 9) ∧ bSn b ≤ 100 ∧ bDr b ≤ 999 ∧ bUn b ≤ 60 ∧ ∀ c, bRu b = some c → rpnH c 0 = some 1
/-! a table is a row T of 19 numbers: 0 who sits, 1 what is said, 2.. where things lie, 12.. how often sacks were ground, 17 course, 18 seed -/
def tbI (x k : Int32) : Bool := decide ((x >>> (k &&& 31)) &&& 1 = 1)
def tb (x : Int32) (k : Nat) : Bool := tbI x (nI k)
def one (k : Nat) : Int32 := (1 : Int32) <<< (nI k &&& 31)
/-- the set of those below n that p says -/
def setOf : Nat → (Nat → Bool) → Int32
  | 0, _ => 0
  | n + 1, p => if p n then setOf n p ||| one n else setOf n p
def sumOf : Nat → (Nat → Int32) → Int32
  | 0, _ => 0
  | n + 1, f => sumOf n f + f n
def stV (T : Nat → Int32) (t : Nat) : Bool := !tb (T 1) t
def inV (b : Bk) (T : Nat → Int32) (s : Int32) : Int32 := setOf (nT b) (fun t => stV T t && decide (T (2 + t) = s))
def heatV (b : Bk) (set : Int32) : Int32 := sumOf (nT b) (fun t => if tb set t then nI (bHo b t) else 0)
def allV (n : Nat) : Int32 := one n - 1
def keptV (b : Bk) (T : Nat → Int32) : Int32 := allV (nT b) &&& (T 1 ^^^ (-1))
def byV (b : Bk) (p : Int32) : Int32 := setOf (nT b) (fun t => decide (nI (bBy b t) = p))
def toV (b : Bk) (p : Int32) : Int32 := setOf (nT b) (fun t => decide (nI (bTo b t) = p))
def nearV (b : Bk) (T : Nat → Int32) (t : Nat) : Bool := tb (T 0) (bBy b t) && tb (T 0) (bTo b t)
/-! ===== the reference's book and table ===== -/
/-- the reference holds the book b in its bank k -/
def MB (b : Bk) (k : Nat) (h : ev_H) : Prop := MLay h ∧ BW b ∧ k < 2 ∧ hI h aM 33 = nI k ∧ (hI h aPeople k = nI (nP b) ∧ hI h aSacks k = nI (nS b) ∧ hI h aThings k = nI (nT b)) ∧ (hI h aUnits k = nI (bUn b) ∧ hI h aSneeze k = nI (bSn b) ∧ hI h aDraw k = nI (bDr b)) ∧
  (∀ p, p < nP b → hI h aShy (6 * k + p) = nI (bSh b p)) ∧ (∀ t, t < nT b → hI h aFrom (10 * k + t) = nI (bBy b t) ∧ hI h aWhom (10 * k + t) = nI (bTo b t) ∧ hI h aHot (10 * k + t) = nI (bHo b t) ∧ hI h aInSack (10 * k + t) = bIn b t) ∧
  tb (hI h aTold k) 0 = (bRu b).isSome ∧ ∀ c, bRu b = some c → ∃ r0, hI h aRuleFrom k = nI r0 ∧ hI h aRuleTo k = nI (r0 + c.length) ∧ (560 * k ≤ r0 ∧ r0 + c.length ≤ 560 * k + 560) ∧ ∀ i q, c[i]? = some q → hI h aCode (r0 + i) = q.1 ∧ hI h aCodeNumber (r0 + i) = q.2
def MT (T : Nat → Int32) (h : ev_H) : Prop := ∀ k, k < 19 → hI h aAll k = T k
