/-! ===== more of what both sides say ===== -/
set_option maxRecDepth 100000
/-- some of those below n, their sets together -/
def orIf : Nat → (Nat → Bool) → (Nat → Int32) → Int32
  | 0, _, _ => 0
  | n + 1, p, f => if p n then orIf n p f ||| f n else orIf n p f
theorem orIf_t {n : Nat} {p : Nat → Bool} {f : Nat → Int32} (h : p n = true) : orIf n p f ||| f n = orIf (n + 1) p f := by
  show _ = (if p n then _ else _)
  rw [if_pos h]
theorem orIf_f {n : Nat} {p : Nat → Bool} {f : Nat → Int32} (h : p n = false) : orIf n p f = orIf (n + 1) p f := by
  show _ = (if p n then _ else _)
  rw [if_neg (by rw [h]; decide)]
def saidV (b : Bk) (T : Nat → Int32) (set : Int32) : Int32 := orIf (nS b) (fun s => tb set s) (fun s => outV b T s)
/-- the first of the greatest below n, among those that p says -/
def bestOf : Nat → (Nat → Bool) → (Nat → Int32) → Option Nat
  | 0, _, _ => none
  | n + 1, p, f => match bestOf n p f with
    | none => if p n then some n else none
    | some j => if p n && decide (f j < f n) then some n else some j
theorem bestOf_lt {p : Nat → Bool} {f : Nat → Int32} : ∀ {n j : Nat}, bestOf n p f = some j → j < n
  | 0, j, h => by cases h
  | n + 1, j, h => by
    unfold bestOf at h
    cases hb : bestOf n p f with
    | none =>
      rw [hb] at h
      dsimp only at h
      split at h
      · cases h; omega
      · cases h
    | some i =>
      rw [hb] at h
      dsimp only at h
      have := bestOf_lt hb
      split at h
      · cases h; omega
      · cases h; omega
def optI (o : Option Nat) : Int32 := match o with
  | none => -1
  | some j => nI j
theorem bestOf_n1 {n : Nat} {p : Nat → Bool} {f : Nat → Int32} (hb : bestOf n p f = none) (h : p n = true) : bestOf (n + 1) p f = some n := by unfold bestOf; rw [hb]; exact if_pos h
theorem bestOf_n0 {n : Nat} {p : Nat → Bool} {f : Nat → Int32} (hb : bestOf n p f = none) (h : p n = false) : bestOf (n + 1) p f = none := by unfold bestOf; rw [hb]; exact if_neg (by rw [h]; decide)
theorem bestOf_s1 {n j : Nat} {p : Nat → Bool} {f : Nat → Int32} (hb : bestOf n p f = some j) (h : p n = true) (hf : f j < f n) : bestOf (n + 1) p f = some n := by unfold bestOf; rw [hb]; exact if_pos (by simp [h, hf])
theorem bestOf_s0 {n j : Nat} {p : Nat → Bool} {f : Nat → Int32} (hb : bestOf n p f = some j) (h : p n = false ∨ f n ≤ f j) : bestOf (n + 1) p f = some j := by
  unfold bestOf; rw [hb]
  refine if_neg ?_
  rcases h with h | h
  · simp [h]
  · simp [Int32.not_lt.mpr h]
/-- what a sneeze says -/
def sneV (b : Bk) (T : Nat → Int32) : Option Nat := bestOf (nT b) (fun t => stV T t && tb (T 0) (bBy b t)) (fun t => nI (bHo b t))
def personV (b : Bk) (T : Nat → Int32) (p w : Int32) : Int32 := if perV b p then (if w = nI 0 then nI (bSh b p.toNatClampNeg) else if w = nI 1 then (T 0 >>> (p &&& 31)) &&& 1 else if w = nI 2 then byV b p &&& keptV b T else if w = nI 3 then toV b p &&& keptV b T else if w = nI 4 then toV b p &&& T 1 else -2) else -2
def thingV (b : Bk) (T : Nat → Int32) (p w : Int32) : Int32 := if thiV b p then (if w = nI 0 then nI (bBy b p.toNatClampNeg) else if w = nI 1 then nI (bTo b p.toNatClampNeg) else if w = nI 2 then nI (bHo b p.toNatClampNeg) else if w = nI 3 then T (2 + p.toNatClampNeg) else if w = nI 4 then (T 1 >>> (p &&& 31)) &&& 1 else -2) else -2
def sackV (b : Bk) (T : Nat → Int32) (p w : Int32) : Int32 := if sakV b p then (if w = nI 0 then heatV b (inV b T p) else if w = nI 1 then inV b T p else if w = nI 2 then T (12 + p.toNatClampNeg) else -1) else -1
def wouldV (b : Bk) (T : Nat → Int32) (p : Int32) : Int32 := if sakV b p then outV b T p.toNatClampNeg else -1
def keepsV (b : Bk) (T : Nat → Int32) (p o : Int32) : Int32 := if perV b p && perV b o then heatV b (byV b p &&& toV b o &&& keptV b T) else -1
def dupeV (b : Bk) (T : Nat → Int32) : Int32 := optI (bestOf (nP b) (fun _ => true) (fun p => heatV b (toV b (nI p) &&& keptV b T)))
def closestV (b : Bk) (T : Nat → Int32) : Int32 := optI (bestOf (nP b) (fun _ => true) (fun p => popc (byV b (nI p) &&& keptV b T)))
def hottestV (b : Bk) (T : Nat → Int32) : Int32 := optI (bestOf (nS b) (fun _ => true) (fun s => heatV b (inV b T (nI s))))
def idleV (b : Bk) (T : Nat → Int32) : Int32 := setOf (nS b) (fun s => decide (outV b T s = 0))
def nearsV (b : Bk) (T : Nat → Int32) : Int32 := setOf (nT b) (fun t => stV T t && nearV b T t)
/-- a table with one number put otherwise -/
theorem MT.up {T : Nat → Int32} {h : ev_H} (hT : MT T h) (e : Nat) (v : Int32) : MT (u1 T e v) (sI h aAll e v) := by
  intro k hk
  show u2 (hI h) aAll e v aAll k = if k = e then v else T k
  unfold u2
  by_cases hke : k = e
  · rw [if_pos ⟨rfl, hke⟩, if_pos hke]
  · rw [if_neg (fun z => hke z.2), if_neg hke]
    exact hT k hk
theorem u1_ne {α : Type} {f : Nat → α} {a b : Nat} {v : α} (h : b ≠ a) : u1 f a v b = f b := if_neg h
theorem u1_self {α : Type} {f : Nat → α} {a : Nat} {v : α} : u1 f a v a = v := if_pos rfl
/-- the sack s is ground -/
def grT (b : Bk) (T : Nat → Int32) (s : Nat) : Nat → Int32 := u1 (u1 T 1 (T 1 ||| outV b T s)) (12 + s) (if T (12 + s) < nI 99 then T (12 + s) + nI 1 else T (12 + s))
