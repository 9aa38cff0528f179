/-! ===== what would be, if it were otherwise ===== -/
set_option maxRecDepth 100000
theorem MT.eq {T T2 : Nat → Int32} {h : ev_H} (hT : MT T h) (e : ∀ k, k < 19 → T k = T2 k) : MT T2 h := fun k hk => (hT k hk).trans (e k hk)
/-- a number that was put otherwise is put back -/
theorem MT.back {T : Nat → Int32} {h : ev_H} {e : Nat} {v w : Int32} (hT : MT (u1 (u1 T e v) e w) h) (hw : w = T e) : MT T h := hT.eq fun k _ => by
  by_cases hk : k = e
  · subst hk
    rw [u1_self, hw]
  · rw [u1_ne hk, u1_ne hk]
theorem u1_u1 {α : Type} {T : Nat → α} {e : Nat} {v w : α} : u1 (u1 T e v) e w = u1 T e w := by
  funext k
  unfold u1
  split <;> rfl
theorem MT.same {T : Nat → Int32} {h : ev_H} {e : Nat} {w : Int32} (hT : MT (u1 T e w) h) (hw : w = T e) : MT T h := hT.eq fun k _ => by
  by_cases hk : k = e
  · subst hk
    rw [u1_self, hw]
  · rw [u1_ne hk]
def lawV (b : Bk) (T : Nat → Int32) (p n : Int32) : Int32 := if sakV b p && isInV n 0 99 then popc (outV b (u1 T (12 + p.toNatClampNeg) n) p.toNatClampNeg) else -1
def tellV (b : Bk) (T : Nat → Int32) (p q : Nat) : Bool := !decide (byV b (nI p) &&& toV b (nI q) &&& T 1 = 0)
def pairsV (b : Bk) (T : Nat → Int32) : Int32 := sumOf (nP b) (fun p => sumOf p (fun q => b2i (tellV b T p q && tellV b T q p)))
/-- the fewest of the sets below n that p says, the first of them: none, or its number -/
def fewOf : Nat → (Nat → Bool) → Option Nat
  | 0, _ => none
  | n + 1, p => match fewOf n p with
    | none => if p n then some n else none
    | some j => if decide (popc (nI n) < popc (nI j)) && p n then some n else some j
theorem fewOf_lt {p : Nat → Bool} : ∀ {n j : Nat}, fewOf n p = some j → j < n ∧ p j = true
  | 0, j, h => by cases h
  | n + 1, j, h => by
    unfold fewOf at h
    cases hb : fewOf n p with
    | none =>
      rw [hb] at h
      dsimp only at h
      split at h
      · cases h; exact ⟨by omega, by assumption⟩
      · cases h
    | some i =>
      rw [hb] at h
      dsimp only at h
      have := fewOf_lt hb
      split at h
      · rename_i hc
        cases h
        rw [Bool.and_eq_true] at hc
        exact ⟨by omega, hc.2⟩
      · cases h; exact ⟨by omega, this.2⟩
/-- what grinding the sack s says if just the set who sits -/
def outW (b : Bk) (T : Nat → Int32) (who : Int32) (s : Nat) : Int32 := outV b (u1 T 0 who) s
def saidW (b : Bk) (T : Nat → Int32) (who : Int32) : Int32 := saidV b (u1 T 0 who) (allV (nS b))
def tableV (b : Bk) (T : Nat → Int32) (set p w : Int32) : Int32 := if isInV set 0 (allV (nT b)) && sakV b p && isInV w 0 1 then (match fewOf (2 ^ nP b) (fun who => decide (outW b T (nI who) p.toNatClampNeg = set)) with
  | none => -1
  | some j => if w = 0 then popc (nI j) else nI j) else -1
def andNot : Nat → (Nat → Int32) → Int32 → Int32
  | 0, _, x => x
  | n + 1, f, x => andNot n f x &&& (f n ^^^ (-1))
def muteV (b : Bk) (T : Nat → Int32) : Int32 := andNot (2 ^ nP b) (fun who => saidW b T (nI who)) (keptV b T)
theorem gr_a {T : Nat → Int32} {s : Nat} {v : Int32} (c : nI 99 ≤ u1 T 1 v (12 + s)) : ∀ k, k < 19 → u1 T 1 v k = u1 (u1 T 1 v) (12 + s) (if T (12 + s) < nI 99 then T (12 + s) + nI 1 else T (12 + s)) k := by
  intro k _
  rw [u1_ne (by omega)] at c
  by_cases hk : k = 12 + s
  · subst hk
    rw [u1_self, if_neg (Int32.not_lt.mpr c), u1_ne (by omega)]
  · rw [u1_ne hk]
theorem gr_b {T : Nat → Int32} {s : Nat} {v : Int32} (c : ¬ nI 99 ≤ u1 T 1 v (12 + s)) : ∀ k, k < 19 → u1 (u1 T 1 v) (12 + s) (u1 T 1 v (12 + s) + nI 1) k = u1 (u1 T 1 v) (12 + s) (if T (12 + s) < nI 99 then T (12 + s) + nI 1 else T (12 + s)) k := by
  intro k _
  rw [show u1 T 1 v (12 + s) = T (12 + s) from u1_ne (by omega)] at c ⊢
  rw [if_pos (Int32.not_le.mp c)]
def sendV (b : Bk) (T : Nat → Int32) (p w : Int32) : Int32 := if sakV b p && isInV w 0 1 then (match fewOf (T 0).toNatClampNeg (fun set => decide (nI set &&& (T 0 ^^^ (-1)) = 0) && decide (outW b T (T 0 &&& (nI set ^^^ (-1))) p.toNatClampNeg = 0)) with
  | none => if w = 0 then popc (T 0) else T 0
  | some j => if w = 0 then popc (nI j) else nI j) else -1
def MK (K : Nat → Int32) (h : ev_H) : Prop := ∀ k, k < 19 → hI h aKept k = K k
theorem cp_step {h : ev_H} {a i : Nat} {f : Nat → Int32} {v : Int32} (hq : ∀ j, j < i → hI h a j = f j) (e : v = f i) : ∀ j, j < i + 1 → hI (sI h a i v) a j = f j := by
  intro j hj
  by_cases hji : j = i
  · subst hji
    rw [← e]
    exact u2_self
  · rw [show hI (sI h a i v) a j = hI h a j from u2_ne (fun z => hji z.2)]
    exact hq j (by omega)
theorem MK.fr {K : Nat → Int32} {as fs : List Nat} {h h1 : ev_H} (hK : MK K h) (p : Fr as fs h h1) (ok : aKept ∉ as) : MK K h1 := fun k hk => by
  rw [p.ar aKept ok (by decide)]
  exact hK k hk
def gainV (b : Bk) (T : Nat → Int32) (p : Int32) : Int32 := if perV b p then heatV b (saidW b T (T 0 ||| (1 : Int32) <<< (p &&& 31)) &&& toV b p) else -1
def worthV (b : Bk) (p set : Int32) : Int32 := heatV b (set &&& toV b p) - heatV b (set &&& byV b p)
/-- what all of the sets below n that p says have in common -/
def andOf : Nat → (Nat → Bool) → Int32
  | 0, _ => -1
  | n + 1, p => if p n then andOf n p &&& nI n else andOf n p
def spineV (b : Bk) (T : Nat → Int32) (p : Int32) : Int32 := if sakV b p then andOf (2 ^ nP b) (fun who => !decide (outW b T (nI who) p.toNatClampNeg = 0)) else -1
theorem one_n {k : Nat} (hk : k < 31) : one k = nI (2 ^ k) := by
  have : ∀ k : Fin 31, one k.val = nI (2 ^ k.val) := by decide
  exact this ⟨k, hk⟩
def chgV (T : Nat → Int32) (t o : Nat) : Bool := stV T t && stV T o && !decide (T (2 + t) < 0) && !decide (T (2 + o) < 0) && !decide (T (2 + t) = T (2 + o))
theorem p2_6 {n : Nat} (h : n ≤ 6) : 2 ^ n ≤ 64 := Nat.pow_le_pow_right (by decide) h
theorem p2_5 {n : Nat} (h : n ≤ 5) : 2 ^ n ≤ 32 := Nat.pow_le_pow_right (by decide) h
theorem sum2 {A y : Int32} {n : Nat} {f : Nat → Int32} (h : f n = y) : A + sumOf n f + y = A + sumOf (n + 1) f := by
  rw [Int32.add_assoc, sumOf_e h]
