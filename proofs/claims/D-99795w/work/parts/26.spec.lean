/-! ===== who, which, what: as both sides say it ===== -/
set_option maxRecDepth 100000
theorem sumOf_e {n : Nat} {f : Nat → Int32} {y : Int32} (h : f n = y) : sumOf n f + y = sumOf (n + 1) f := by
  show _ = sumOf n f + f n
  rw [h]
def perV (b : Bk) (p : Int32) : Bool := isInV p 0 (nI (nP b) - 1)
def sakV (b : Bk) (p : Int32) : Bool := isInV p 0 (nI (nS b) - 1)
def thiV (b : Bk) (p : Int32) : Bool := isInV p 0 (nI (nT b) - 1)
theorem isIn_n {n : Nat} (hn : n < 2 ^ 30) (p : Int32) : isInV p 0 (nI n - 1) = true ↔ ∃ j, j < n ∧ p = nI j := by
  have e1 : (nI n - 1).toInt = (n : Int) - 1 := by
    have := pk_sub_toInt (a := n) (b := 1) hn (by decide)
    exact this
  constructor
  · intro h
    unfold isInV at h
    simp only [Bool.and_eq_true, Bool.not_eq_true', decide_eq_false_iff_not] at h
    obtain ⟨j, hj, rfl⟩ := nI_of h.1
    refine ⟨j, ?_, rfl⟩
    have h2 := h.2
    rw [Int32.lt_iff_toInt_lt, e1, nI_toInt hj] at h2
    omega
  · rintro ⟨j, hj, rfl⟩
    unfold isInV
    simp only [Bool.and_eq_true, Bool.not_eq_true', decide_eq_false_iff_not]
    refine ⟨nI_pos (by omega), ?_⟩
    rw [Int32.lt_iff_toInt_lt, e1, nI_toInt (by omega)]
    omega
theorem perV_ok {b : Bk} (hb : BW b) {p : Int32} (h : perV b p = true) : ∃ j, j < nP b ∧ p = nI j := (isIn_n (by have := hb.p6; omega) p).mp h
theorem sakV_ok {b : Bk} (hb : BW b) {p : Int32} (h : sakV b p = true) : ∃ j, j < nS b ∧ p = nI j := (isIn_n (by have := hb.s5; omega) p).mp h
theorem thiV_ok {b : Bk} (hb : BW b) {p : Int32} (h : thiV b p = true) : ∃ j, j < nT b ∧ p = nI j := (isIn_n (by have := hb.t10; omega) p).mp h
/-- the rule's word on a thing -/
def ruleV (q : Nat → Int32) (c : List (Int32 × Int32)) : Int32 := (rpn q c []).headD 0
/-- what a rule may ask: hot, shy, guests, ground, heat, course -/
def qV (b : Bk) (T : Nat → Int32) (sh : Int32) (s t : Nat) : Nat → Int32 := fun k => match k with
  | 0 => nI (bHo b t)
  | 1 => sh
  | 2 => popc (T 0)
  | 3 => T (12 + s)
  | 4 => heatV b (inV b T (nI s))
  | _ => T 17
/-- whether grinding the sack s lets out the thing t, whose owner is so shy -/
def letS (b : Bk) (T : Nat → Int32) (sh : Int32) (s : Nat) (t : Nat) : Bool := nearV b T t && (match bRu b with
  | none => decide (sh < nI (bHo b t))
  | some c => !decide (ruleV (qV b T sh s t) c = 0))
def letV (b : Bk) (T : Nat → Int32) (s : Nat) (t : Nat) : Bool := letS b T (nI (bSh b (bBy b t))) s t
/-- what grinding the sack s would say -/
def outV (b : Bk) (T : Nat → Int32) (s : Nat) : Int32 := setOf (nT b) (fun t => tb (inV b T (nI s)) t && letV b T s t)
