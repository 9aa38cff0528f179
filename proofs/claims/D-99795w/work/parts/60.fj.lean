/-! ===== frames that let longs change ===== -/
set_option maxRecDepth 100000
def Fj (as fs ja : List Nat) (h h1 : ev_H) : Prop := hN h1 = hN h ∧ hK h1 = hK h ∧ hL h1 = hL h ∧ hR h1 = hR h ∧ (∀ a k, a ∉ ja → hJ h1 a k = hJ h a k) ∧ ∀ a k, a ∉ as → (a = aM → k ∉ fs) → hI h1 a k = hI h a k
section FJ
variable {as fs ja as2 fs2 ja2 : List Nat} {h h1 h2 : ev_H}
theorem Fj.rf : Fj as fs ja h h := ⟨rfl, rfl, rfl, rfl, fun _ _ _ => rfl, fun _ _ _ _ => rfl⟩
theorem Fj.tr (p : Fj as fs ja h h1) (q : Fj as fs ja h1 h2) : Fj as fs ja h h2 := ⟨q.1.trans p.1, q.2.1.trans p.2.1, q.2.2.1.trans p.2.2.1, q.2.2.2.1.trans p.2.2.2.1, fun a k x => (q.2.2.2.2.1 a k x).trans (p.2.2.2.2.1 a k x), fun a k x y => (q.2.2.2.2.2 a k x y).trans (p.2.2.2.2.2 a k x y)⟩
theorem Fj.wk (p : Fj as fs ja h h1) (ha : ∀ a ∈ as, a ∈ as2) (hf : ∀ a ∈ fs, a ∈ fs2) (hj : ∀ a ∈ ja, a ∈ ja2) : Fj as2 fs2 ja2 h h1 := ⟨p.1, p.2.1, p.2.2.1, p.2.2.2.1, fun a k x => p.2.2.2.2.1 a k (fun z => x (hj a z)), fun a k x y => p.2.2.2.2.2 a k (fun z => x (ha a z)) (fun e z => y e (hf k z))⟩
theorem Fj.of (p : Fr as fs h h1) : Fj as fs ja h h1 := ⟨p.1, p.2.1, p.2.2.1, p.2.2.2.1, fun a k _ => by rw [p.2.2.2.2.1], p.2.2.2.2.2⟩
theorem Fj.sa (p : Fj as fs ja h h1) (a k : Nat) (v : Int32) (hin : a ∈ as) : Fj as fs ja h (sI h1 a k v) := p.tr (Fj.of (Fr.rf.sa a k v hin))
theorem Fj.sf (p : Fj as fs ja h h1) (k : Nat) (v : Int32) (hin : k ∈ fs) : Fj as fs ja h (sI h1 aM k v) := p.tr (Fj.of (Fr.rf.sf k v hin))
theorem Fj.sj (p : Fj as fs ja h h1) (a k : Nat) (v : Int64) (hin : a ∈ ja) : Fj as fs ja h (sJ h1 a k v) := ⟨p.1, p.2.1, p.2.2.1, p.2.2.2.1, fun b j x => by
  have e : hJ (sJ h1 a k v) b j = hJ h1 b j := u2_ne (fun z => x (by rw [z.1]; exact hin))
  exact e.trans (p.2.2.2.2.1 b j x), fun b j x y => p.2.2.2.2.2 b j x y⟩
theorem Fj.fld (p : Fj as fs ja h h1) (k : Nat) (ha : aM ∉ as) (hf : k ∉ fs) : hI h1 aM k = hI h aM k := p.2.2.2.2.2 aM k ha (fun _ => hf)
theorem Fj.ar (p : Fj as fs ja h h1) (a : Nat) (ha : a ∉ as) (hne : a ≠ aM) (k : Nat) : hI h1 a k = hI h a k := p.2.2.2.2.2 a k ha (fun e => absurd e hne)
theorem Fj.jr (p : Fj as fs ja h h1) (a : Nat) (ha : a ∉ ja) (k : Nat) : hJ h1 a k = hJ h a k := p.2.2.2.2.1 a k ha
theorem Fj.lay (p : Fj as fs ja h h1) (hl : MLay h) : MLay h1 := by
  unfold MLay
  rw [p.2.1, p.2.2.1, p.2.2.2.1]
  exact hl
theorem MX.fj {tx : Nat → Int32} {n : Nat} (hx : MX tx n h) (p : Fj as fs ja h h1) (o1 : aText ∉ as) (o2 : aM ∉ as) (o3 : 3 ∉ fs) : MX tx n h1 := ⟨(p.fld 3 o2 o3).trans hx.1, hx.2.1, fun k hk => by rw [p.ar aText o1 (by decide)]; exact hx.2.2 k hk⟩
end FJ
/-- a token's kind -/
def tkT (tx : Nat → Int32) (n p : Nat) : Nat := if n ≤ taT tx n p then 0 else if leT tx n (taT tx n p) then (if 8 < teT tx n p - taT tx n p then 1 else if kepW (tnT tx n p) then 3 else 2) else if diT tx n (taT tx n p) then (if 4 < teT tx n p - taT tx n p ∨ leT tx n (teT tx n p) = true then 1 else 4) else if isSgV (sgT tx n (taT tx n p)) then 5 else 1
/-- the reference holds the token that is sought from p on -/
def MTk (tx : Nat → Int32) (n p : Nat) (h : ev_H) : Prop := hI h aM 6 = nI (taT tx n p) ∧ hI h aM 7 = nI (teT tx n p) ∧ hI h aM 8 = nI (tkT tx n p) ∧ (leT tx n (taT tx n p) = true → hJ h aM 10 = tnT tx n p) ∧ (diT tx n (taT tx n p) = true → hI h aM 9 = tvT tx n p)
theorem taT_le {tx : Nat → Int32} {n p : Nat} (hp : p ≤ n) : taT tx n p ≤ n := by have := runT_le (c := wsT tx n) (n - p) p; unfold taT; omega
theorem leT_n {tx : Nat → Int32} {n k : Nat} (h : leT tx n k = true) : k < n := by
  rcases Nat.lt_or_ge k n with q | q
  · exact q
  · unfold leT sgT at h
    rw [if_neg (by omega)] at h
    exact absurd h (by decide)
theorem diT_n {tx : Nat → Int32} {n k : Nat} (h : diT tx n k = true) : k < n := by
  rcases Nat.lt_or_ge k n with q | q
  · exact q
  · unfold diT sgT at h
    rw [if_neg (by omega)] at h
    exact absurd h (by decide)
section MTKS
variable {tx : Nat → Int32} {n p a e : Nat} {h : ev_H}
theorem MTk.over (hta : taT tx n p = a) (h1 : n ≤ a) (h2 : a ≤ n) (e6 : hI h aM 6 = nI n) (e7 : hI h aM 7 = nI n) (e8 : hI h aM 8 = nI 0) : MTk tx n p h := by
  have ea : a = n := by omega
  unfold MTk tkT teT
  rw [hta, ea, if_pos (Nat.le_refl _), if_pos (Nat.le_refl _)]
  refine ⟨e6, e7, e8, fun z => absurd (leT_n z) (Nat.lt_irrefl _), fun z => absurd (diT_n z) (Nat.lt_irrefl _)⟩
theorem let_di {c : Int32} (h : isLetV c = true) : isDigV c = false := by
  unfold isLetV at h
  unfold isDigV
  simp only [Bool.and_eq_true, Bool.not_eq_true', decide_eq_false_iff_not] at h
  have h2 : nI 57 < c := Int32.lt_of_lt_of_le (by decide) (Int32.not_lt.mp h.1)
  rw [decide_eq_true h2]
  simp
theorem MTk.word {k : Int32} (hta : taT tx n p = a) (h1 : a < n) (hle : leT tx n a = true) (hte : runT (leT tx n) (n - a) a = e) (e6 : hI h aM 6 = nI a) (e7 : hI h aM 7 = nI e) (e8 : hI h aM 8 = k) (hk : k = nI (if 8 < e - a then 1 else if kepW (nmT tx n a (min 8 (e - a))) then 3 else 2)) (e10 : hJ h aM 10 = nmT tx n a (min 8 (e - a))) : MTk tx n p h := by
  have ht : teT tx n p = e := by unfold teT; rw [hta, if_neg (by omega), if_pos hle, hte]
  unfold MTk tkT tnT
  rw [ht, hta, if_neg (by omega), if_pos hle]
  exact ⟨e6, e7, e8.trans hk, fun _ => e10, fun z => absurd (z.symm.trans (let_di hle)) (by decide)⟩
theorem MTk.num {k : Int32} (hta : taT tx n p = a) (h1 : a < n) (hle : leT tx n a = false) (hdi : diT tx n a = true) (hte : runT (diT tx n) (n - a) a = e) (e6 : hI h aM 6 = nI a) (e7 : hI h aM 7 = nI e) (e8 : hI h aM 8 = k) (hk : k = nI (if 4 < e - a ∨ leT tx n e = true then 1 else 4)) (e9 : hI h aM 9 = nuT tx n a (e - a)) : MTk tx n p h := by
  have ht : teT tx n p = e := by unfold teT; rw [hta, if_neg (by omega), if_neg (by rw [hle]; decide), if_pos hdi, hte]
  unfold MTk tkT tvT
  rw [ht, hta, if_neg (by omega), if_neg (by rw [hle]; decide), if_pos hdi]
  exact ⟨e6, e7, e8.trans hk, fun z => absurd (z.symm.trans hle) (by decide), fun _ => e9⟩
theorem MTk.sign {k : Int32} (hta : taT tx n p = a) (h1 : a < n) (hle : leT tx n a = false) (hdi : diT tx n a = false) (e6 : hI h aM 6 = nI a) (e7 : hI h aM 7 = nI (a + 1)) (e8 : hI h aM 8 = k) (hk : k = nI (if isSgV (sgT tx n a) then 5 else 1)) : MTk tx n p h := by
  have ht : teT tx n p = a + 1 := by unfold teT; rw [hta, if_neg (by omega), if_neg (by rw [hle]; decide), if_neg (by rw [hdi]; decide)]
  unfold MTk tkT
  rw [ht, hta, if_neg (by omega), if_neg (by rw [hle]; decide), if_neg (by rw [hdi]; decide)]
  exact ⟨e6, e7, e8.trans hk, fun z => absurd (z.symm.trans hle) (by decide), fun z => absurd (z.symm.trans hdi) (by decide)⟩
end MTKS
