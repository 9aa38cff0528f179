/-! ===== hiding, sending, sparks, how often ===== -/
set_option maxRecDepth 100000
theorem TW.ins {b : Bk} {T : Nat → Int32} (hw : TW b T) {t : Nat} (ht : t < nT b) (h0 : ¬ T (2 + t) < 0) : ∃ s, s < nS b ∧ T (2 + t) = nI s := by
  rcases hw.2.2.1 t ht with e | e
  · rw [e] at h0
    exact absurd (by decide) h0
  · exact e
theorem TW.sit {b : Bk} {T : Nat → Int32} (hw : TW b T) (hb : BW b) : ∃ S, S < 64 ∧ T 0 = nI S := by
  obtain ⟨S, h1, h2⟩ := hw.1
  have := p2_6 hb.p6
  exact ⟨S, by omega, h2⟩
/-- the sack s ground n times -/
def giT (b : Bk) (T : Nat → Int32) (s : Nat) : Nat → Nat → Int32
  | 0 => T
  | n + 1 => grT b (giT b T s n) s
def aftN (b : Bk) (T : Nat → Int32) (s t : Nat) : Nat → Nat → Option Nat
  | 0, n => if stV (giT b T s n) t then none else some n
  | f + 1, n => if stV (giT b T s n) t then aftN b T s t f (n + 1) else some n
theorem aft_t {b : Bk} {T : Nat → Int32} {s t n : Nat} (h : n < 9) (e : stV (giT b T s n) t = true) : aftN b T s t (9 - n) n = aftN b T s t (9 - (n + 1)) (n + 1) := by
  rw [show 9 - n = (9 - (n + 1)) + 1 by omega]
  exact if_pos e
theorem aft_f {b : Bk} {T : Nat → Int32} {s t n : Nat} (e : stV (giT b T s n) t = false) : ∀ f, aftN b T s t f n = some n
  | 0 => if_neg (by rw [e]; decide)
  | f + 1 => if_neg (by rw [e]; decide)
theorem aft_9 {b : Bk} {T : Nat → Int32} {s t : Nat} (e : stV (giT b T s 9) t = true) : aftN b T s t 0 9 = none := if_pos e
def afterV (b : Bk) (T : Nat → Int32) (p : Int32) : Int32 := if thiV b p && stV T p.toNatClampNeg && !decide (T (2 + p.toNatClampNeg) < 0) then optI (aftN b T (T (2 + p.toNatClampNeg)).toNatClampNeg p.toNatClampNeg 9 0) else -1
def sendP (b : Bk) (T : Nat → Int32) (j : Nat) (set : Nat) : Bool := decide (nI set &&& (T 0 ^^^ (-1)) = 0) && decide (outW b T (T 0 &&& (nI set ^^^ (-1))) j = 0)
def sendV2 (b : Bk) (T : Nat → Int32) (p w : Int32) : Int32 := if sakV b p && isInV w 0 1 then (if w = 0 then popc (nI (fewB (sendP b T p.toNatClampNeg) (T 0).toNatClampNeg ((T 0).toNatClampNeg + 1))) else nI (fewB (sendP b T p.toNatClampNeg) (T 0).toNatClampNeg ((T 0).toNatClampNeg + 1))) else -1
def sparkP (b : Bk) (T : Nat → Int32) (j : Nat) (who : Nat) : Bool := decide (T 0 &&& (nI who ^^^ (-1)) = 0) && !decide (outW b T (nI who) j = 0)
def sparkF (T : Nat → Int32) (who : Nat) : Int32 := popc (nI who &&& (T 0 ^^^ (-1)))
def sparkV (b : Bk) (T : Nat → Int32) (p : Int32) : Int32 := if sakV b p then atI (leastOf (2 ^ nP b) (sparkP b T p.toNatClampNeg) (sparkF T)) (-1) (sparkF T) else -1
/-- the things of the sack o lie in the sack s, as far as the first n go -/
def blT (T : Nat → Int32) (o s : Int32) (n : Nat) : Nat → Int32 := fun k => if 2 ≤ k ∧ k < 2 + n ∧ stV T (k - 2) = true ∧ T k = o then s else T k
def blendV (b : Bk) (T : Nat → Int32) (p o : Int32) : Int32 := if sakV b p && sakV b o && !decide (p = o) then popc (outV b (blT T o p (nT b)) p.toNatClampNeg) else -1
theorem blT_st {T : Nat → Int32} {o s : Int32} {n t : Nat} : stV (blT T o s n) t = stV T t := by
  unfold stV blT
  rw [if_neg (by omega)]
theorem blT_at {T : Nat → Int32} {o s : Int32} {n : Nat} : blT T o s n (2 + n) = T (2 + n) := by
  unfold blT
  rw [if_neg (by omega)]
theorem blT_0 {T : Nat → Int32} {o s : Int32} : blT T o s 0 = T := by
  funext k
  unfold blT
  rw [if_neg (by omega)]
theorem blT_t {T : Nat → Int32} {o s : Int32} {n : Nat} (h1 : stV T n = true) (h2 : T (2 + n) = o) : u1 (blT T o s n) (2 + n) s = blT T o s (n + 1) := by
  funext k
  by_cases hk : k = 2 + n
  · subst hk
    rw [u1_self]
    unfold blT
    rw [if_pos ⟨by omega, by omega, by rw [show 2 + n - 2 = n by omega]; exact h1, h2⟩]
  · rw [u1_ne hk]
    unfold blT
    by_cases hc : 2 ≤ k ∧ k < 2 + n ∧ stV T (k - 2) = true ∧ T k = o
    · rw [if_pos hc, if_pos ⟨hc.1, by omega, hc.2.2⟩]
    · rw [if_neg hc, if_neg (fun z => hc ⟨z.1, by omega, z.2.2⟩)]
theorem blT_f {T : Nat → Int32} {o s : Int32} {n : Nat} (h : stV T n = false ∨ ¬ T (2 + n) = o) : blT T o s n = blT T o s (n + 1) := by
  funext k
  unfold blT
  by_cases hc : 2 ≤ k ∧ k < 2 + n ∧ stV T (k - 2) = true ∧ T k = o
  · rw [if_pos hc, if_pos ⟨hc.1, by omega, hc.2.2⟩]
  · rw [if_neg hc, if_neg (fun z => ?_)]
    by_cases hk : k = 2 + n
    · subst hk
      rw [show 2 + n - 2 = n by omega] at z
      rcases h with h | h
      · rw [h] at z
        exact absurd z.2.2.1 (by decide)
      · exact h z.2.2.2
    · exact hc ⟨z.1, by omega, z.2.2⟩
