/-! ===== what was heard, sacks and people in rows ===== -/
set_option maxRecDepth 100000
/-- what was heard: sack, how many, whether, when told, when taken back -/
def HR : Type := (Nat → Int32) × (Nat → Int32) × (Nat → Int32) × (Nat → Int32) × (Nat → Int32)
def HR.s (R : HR) : Nat → Int32 := R.1
def HR.m (R : HR) : Nat → Int32 := R.2.1
def HR.i (R : HR) : Nat → Int32 := R.2.2.1
def HR.t (R : HR) : Nat → Int32 := R.2.2.2.1
def HR.u (R : HR) : Nat → Int32 := R.2.2.2.2
def MS (R : HR) (h : ev_H) : Prop := Ar aSSack 30 R.s h ∧ Ar aSMany 30 R.m h ∧ Ar aSIs 30 R.i h ∧ Ar aSTold 30 R.t h ∧ Ar aSUntold 30 R.u h
theorem MS.fr {R : HR} {as fs : List Nat} {h h1 : ev_H} (hA : MS R h) (p : Fr as fs h h1) (o : (as.all fun a => a != aSSack && a != aSMany && a != aSIs && a != aSTold && a != aSUntold) = true) : MS R h1 := by
  have o1 : ∀ a ∈ as, a ≠ aSSack ∧ a ≠ aSMany ∧ a ≠ aSIs ∧ a ≠ aSTold ∧ a ≠ aSUntold := by
    intro a ha
    have := List.all_eq_true.mp o a ha
    simp only [Bool.and_eq_true, bne_iff_ne, ne_eq] at this
    exact ⟨this.1.1.1.1, this.1.1.1.2, this.1.1.2, this.1.2, this.2⟩
  exact ⟨hA.1.fr p (fun z => (o1 _ z).1 rfl) (by decide), hA.2.1.fr p (fun z => (o1 _ z).2.1 rfl) (by decide), hA.2.2.1.fr p (fun z => (o1 _ z).2.2.1 rfl) (by decide), hA.2.2.2.1.fr p (fun z => (o1 _ z).2.2.2.1 rfl) (by decide), hA.2.2.2.2.fr p (fun z => (o1 _ z).2.2.2.2 rfl) (by decide)⟩
def hrAdd (R : HR) (n : Nat) (s m i t : Int32) : HR := ⟨u1 R.s n s, u1 R.m n m, u1 R.i n i, u1 R.t n t, u1 R.u n (-1)⟩
theorem MS.add {R : HR} {h : ev_H} (hA : MS R h) (n : Nat) (s m i t : Int32) : MS (hrAdd R n s m i t) (sI (sI (sI (sI (sI h aSSack n s) aSMany n m) aSIs n i) aSTold n t) aSUntold n (-1)) := by
  have f1 : ∀ {h : ev_H} (a k : Nat) (v : Int32), Fr [a] [] h (sI h a k v) := fun a k v => Fr.rf.sa a k v (by simp)
  refine ⟨?_, ?_, ?_, ?_, ?_⟩
  · exact ((((hA.1.up n s).fr (f1 aSMany n m) (by decide) (by decide)).fr (f1 aSIs n i) (by decide) (by decide)).fr (f1 aSTold n t) (by decide) (by decide)).fr (f1 aSUntold n (-1)) (by decide) (by decide)
  · exact ((((hA.2.1.fr (f1 aSSack n s) (by decide) (by decide)).up n m).fr (f1 aSIs n i) (by decide) (by decide)).fr (f1 aSTold n t) (by decide) (by decide)).fr (f1 aSUntold n (-1)) (by decide) (by decide)
  · exact ((((hA.2.2.1.fr (f1 aSSack n s) (by decide) (by decide)).fr (f1 aSMany n m) (by decide) (by decide)).up n i).fr (f1 aSTold n t) (by decide) (by decide)).fr (f1 aSUntold n (-1)) (by decide) (by decide)
  · exact ((((hA.2.2.2.1.fr (f1 aSSack n s) (by decide) (by decide)).fr (f1 aSMany n m) (by decide) (by decide)).fr (f1 aSIs n i) (by decide) (by decide)).up n t).fr (f1 aSUntold n (-1)) (by decide) (by decide)
  · exact ((((hA.2.2.2.2.fr (f1 aSSack n s) (by decide) (by decide)).fr (f1 aSMany n m) (by decide) (by decide)).fr (f1 aSIs n i) (by decide) (by decide)).fr (f1 aSTold n t) (by decide) (by decide)).up n (-1)
theorem MS.pos {ok : Bool} {R S : HR} {h : ev_H} (e : ok = true) (hA : MS R h) : MS (if ok then R else S) h := by rw [if_pos e]; exact hA
theorem MS.neg {ok : Bool} {R S : HR} {h : ev_H} (e : ok = false) (hA : MS S h) : MS (if ok then R else S) h := by rw [if_neg (by rw [e]; decide)]; exact hA
def hdOk (b : Bk) (nh : Nat) (s n : Int32) : Bool := sakV b s && isInV n 0 (nI 10) && !decide (nh = 30) && !decide (nI (nT b) = 0)
def dkV (b : Bk) (T : Nat → Int32) (p o : Int32) : Bool := !decide (byV b p &&& toV b o &&& keptV b T = 0)
def hid (b : Bk) : Nat := if nT b < 2 then nT b else 2
theorem hid_2 (b : Bk) : hid b ≤ 2 := by unfold hid; split <;> omega
theorem hid_t (b : Bk) : hid b ≤ nT b := by unfold hid; split <;> omega
/-- the k-th digit of n digits -/
def dig (B v n k : Nat) : Nat := v / B ^ (n - 1 - k) % B
/-- in which sack one of both lies in a row -/
def skI (S v w : Nat) : Nat := if nI w = 0 then v % (S + 1) else v / (S + 1)
def nRow (b : Bk) : Nat := if nT b = 0 then 0 else (nS b + 1) ^ hid b
/-- the greatest shyness below n with which it comes -/
def shyI (b : Bk) (T : Nat → Int32) (s t : Nat) : Nat → Int32
  | 0 => -1
  | n + 1 => if letS b T (nI n) s t then nI n else shyI b T s t n
def shyV (b : Bk) (T : Nat → Int32) (t : Int32) : Int32 := if thiV b t && stV T t.toNatClampNeg && !decide (T (2 + t.toNatClampNeg) < 0) then shyI b T (T (2 + t.toNatClampNeg)).toNatClampNeg t.toNatClampNeg 10 else -1
