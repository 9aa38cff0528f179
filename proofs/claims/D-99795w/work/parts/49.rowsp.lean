/-! ===== rows: where the last two lay ===== -/
set_option maxRecDepth 100000
theorem skI_le (S v w : Nat) : skI S v w ≤ v := by
  unfold skI
  split
  · exact Nat.mod_le _ _
  · exact Nat.div_le_self _ _
def rowI (b : Bk) (v : Nat) : Nat → Nat → Int32
  | 0 => u1 (layT b) 0 (one (nP b) - nI 1)
  | k + 1 => u1 (rowI b v k) (2 + nT b - 1 - k) (if skI (nS b) v k = nS b then -1 else nI (skI (nS b) v k))
def rowT (b : Bk) (v : Nat) : Nat → Int32 := rowI b v (hid b)
theorem rowI_t {b : Bk} {v k : Nat} {h : ev_H} (c : skI (nS b) v k = nS b) (hT : MT (u1 (rowI b v k) (2 + nT b - 1 - k) (-1)) h) : MT (rowI b v (k + 1)) h := by
  show MT (u1 (rowI b v k) (2 + nT b - 1 - k) (if skI (nS b) v k = nS b then -1 else nI (skI (nS b) v k))) h
  rw [if_pos c]; exact hT
theorem rowI_f {b : Bk} {v k : Nat} {h : ev_H} (c : ¬ skI (nS b) v k = nS b) (hT : MT (u1 (rowI b v k) (2 + nT b - 1 - k) (nI (skI (nS b) v k))) h) : MT (rowI b v (k + 1)) h := by
  show MT (u1 (rowI b v k) (2 + nT b - 1 - k) (if skI (nS b) v k = nS b then -1 else nI (skI (nS b) v k))) h
  rw [if_neg c]; exact hT
/-- how many a sack's grinding says, in a row -/
def myV (b : Bk) (v s : Nat) : Int32 := popc (outV b (rowT b v) s)
def pw2 (b : Bk) : Nat := (nS b + 1) ^ hid b
theorem pw2_36 {b : Bk} (h : nS b ≤ 5) : pw2 b ≤ 36 := by
  have h1 : (nS b + 1) ^ hid b ≤ 6 ^ hid b := Nat.pow_le_pow_left (by omega) _
  have h2 : 6 ^ hid b ≤ 6 ^ 2 := Nat.pow_le_pow_right (by decide) (hid_2 b)
  exact Nat.le_trans h1 h2
def MRP (b : Bk) (v s : Nat) (h : ev_H) : Prop := (∀ v9 s9, v9 < v → s9 < nS b → hI h aManyBy (5 * v9 + s9) = myV b v9 s9) ∧ ∀ q, q < s → hI h aManyBy (5 * v + q) = myV b v q
theorem MRP.fr {b : Bk} {v s : Nat} {as fs : List Nat} {h h1 : ev_H} (hM : MRP b v s h) (p : Fr as fs h h1) (o : aManyBy ∉ as) : MRP b v s h1 := ⟨fun v9 s9 a c => (p.ar aManyBy o (by decide) _).trans (hM.1 v9 s9 a c), fun q a => (p.ar aManyBy o (by decide) _).trans (hM.2 q a)⟩
theorem MRP.step {b : Bk} {v s : Nat} {h : ev_H} {y : Int32} (hM : MRP b v s h) (h5 : nS b ≤ 5) (hs : s < nS b) (hy : y = myV b v s) : MRP b v (s + 1) (sI h aManyBy (5 * v + s) y) := by
  refine ⟨fun v9 s9 a c => (u2_ne (fun z => by have := z.2; omega)).trans (hM.1 v9 s9 a c), fun q a => ?_⟩
  by_cases hq : q = s
  · subst hq
    exact u2_self.trans hy
  · exact (u2_ne (fun z => by have := z.2; omega)).trans (hM.2 q (by omega))
theorem MRP.next {b : Bk} {v : Nat} {h : ev_H} (hM : MRP b v (nS b) h) : MRP b (v + 1) 0 h := by
  refine ⟨fun v9 s9 a c => ?_, fun q a => absurd a (Nat.not_lt_zero _)⟩
  by_cases hv : v9 = v
  · subst hv
    exact hM.2 s9 c
  · exact hM.1 v9 s9 (by omega) c
theorem MRP.zero {b : Bk} {h : ev_H} : MRP b 0 0 h := ⟨fun _ _ a _ => absurd a (Nat.not_lt_zero _), fun _ a => absurd a (Nat.not_lt_zero _)⟩
theorem allB_eq {p q : Nat → Bool} : ∀ n : Nat, (∀ i, i < n → p i = q i) → allB n p = allB n q
  | 0, _ => rfl
  | n + 1, h => by
    show (allB n p && p n) = (allB n q && q n)
    rw [allB_eq n (fun i hi => h i (by omega)), h n (by omega)]
theorem fit_eq {R : HR} {nh S : Nat} {my my2 : Nat → Int32} {k : Int32} (hR : ∀ n, n < nh → ∃ s, s < S ∧ R.s n = nI s) (hS : S ≤ 5) (h : ∀ s, s < S → my s = my2 s) : fitV R nh my k = fitV R nh my2 k := by
  refine allB_eq nh fun n hn => ?_
  obtain ⟨s, hs, es⟩ := hR n hn
  unfold hdV
  rw [es, nI_clamp (by omega), h s hs]
/-- whether a row fits all that was heard -/
def rfV (b : Bk) (R : HR) (nh : Nat) (k : Int32) (v : Nat) : Bool := fitV R nh (myV b v) k
/-- how many rows below n fit -/
def rfN (p : Nat → Bool) : Nat → Nat
  | 0 => 0
  | n + 1 => if p n then rfN p n + 1 else rfN p n
theorem rfN_le (p : Nat → Bool) : ∀ n, rfN p n ≤ n
  | 0 => Nat.le_refl _
  | n + 1 => by unfold rfN; have := rfN_le p n; split <;> omega
def MY (b : Bk) (h : ev_H) : Prop := ∀ v9 s9, v9 < pw2 b → s9 < nS b → hI h aManyBy (5 * v9 + s9) = myV b v9 s9
theorem MY.fr {b : Bk} {as fs : List Nat} {h h1 : ev_H} (hM : MY b h) (p : Fr as fs h h1) (o : aManyBy ∉ as) : MY b h1 := fun v9 s9 a c => (p.ar aManyBy o (by decide) _).trans (hM v9 s9 a c)
theorem nRow_le (b : Bk) : nRow b ≤ pw2 b := by unfold nRow pw2; split <;> omega
theorem sk_le {b : Bk} {v u : Nat} (hv : v < pw2 b) (hu : u < hid b) : skI (nS b) v u ≤ nS b := by
  unfold skI
  split
  · exact Nat.le_of_lt_succ (Nat.mod_lt _ (Nat.succ_pos _))
  · rename_i hw
    have h2 := hid_2 b
    have hu1 : u = 1 := by
      rcases Nat.eq_zero_or_pos u with q | q
      · subst q; exact absurd rfl hw
      · omega
    have hh : hid b = 2 := by omega
    unfold pw2 at hv
    rw [hh, Nat.pow_two] at hv
    exact Nat.le_of_lt_succ (Nat.div_lt_of_lt_mul hv)
/-- how many rows below n fit and have the i-th of both in sack s -/
def ptN (p : Nat → Bool) (S i s : Nat) : Nat → Nat
  | 0 => 0
  | n + 1 => if p n ∧ skI S n i = s then ptN p S i s n + 1 else ptN p S i s n
theorem ptN_le (p : Nat → Bool) (S i s : Nat) : ∀ n, ptN p S i s n ≤ n
  | 0 => Nat.le_refl _
  | n + 1 => by unfold ptN; have := ptN_le p S i s n; split <;> omega
def MPT (b : Bk) (p : Nat → Bool) (v u : Nat) (h : ev_H) : Prop := ∀ i s, i < hid b → s ≤ nS b → hI h aParts (6 * i + s) = nI (ptN p (nS b) i s (if i < u then v + 1 else v))
theorem MPT.fr {b : Bk} {p : Nat → Bool} {v u : Nat} {as fs : List Nat} {h h1 : ev_H} (hM : MPT b p v u h) (q : Fr as fs h h1) (o : aParts ∉ as) : MPT b p v u h1 := fun i s a c => (q.ar aParts o (by decide) _).trans (hM i s a c)
theorem MPT.step {b : Bk} {p : Nat → Bool} {v u : Nat} {h : ev_H} (hM : MPT b p v u h) (h5 : nS b ≤ 5) (hp : p v = true) (hv : v < pw2 b) (hu : u < hid b) : MPT b p v (u + 1) (sI h aParts (6 * u + skI (nS b) v u) (nI (ptN p (nS b) u (skI (nS b) v u) v + 1))) := by
  intro i s hi hs
  have hsk := sk_le hv hu
  by_cases hiu : i = u
  · subst hiu
    rw [if_pos (by omega)]
    by_cases e : s = skI (nS b) v i
    · subst e
      refine u2_self.trans ?_
      exact congrArg nI (if_pos ⟨hp, rfl⟩).symm
    · refine (u2_ne (fun z => e (by have := z.2; omega))).trans ((hM i s hi hs).trans ?_)
      rw [if_neg (by omega)]
      exact congrArg nI (if_neg (fun z => e z.2.symm)).symm
  · refine (u2_ne (fun z => hiu (by have := z.2; omega))).trans ((hM i s hi hs).trans ?_)
    by_cases q : i < u
    · rw [if_pos q, if_pos (by omega)]
    · rw [if_neg q, if_neg (by omega)]
theorem MPT.next {b : Bk} {p : Nat → Bool} {v : Nat} {h : ev_H} (hM : MPT b p v (hid b) h) : MPT b p (v + 1) 0 h := fun i s hi hs => (hM i s hi hs).trans (by rw [if_pos hi, if_neg (Nat.not_lt_zero _)])
theorem MPT.skip {b : Bk} {p : Nat → Bool} {v : Nat} {h : ev_H} (hM : MPT b p v 0 h) (hp : p v = false) : MPT b p (v + 1) 0 h := fun i s hi hs => (hM i s hi hs).trans (by
  rw [if_neg (Nat.not_lt_zero _)]
  exact congrArg nI (if_neg (fun z => by rw [hp] at z; exact absurd z.1 (by decide))).symm)
theorem MPT.zero {b : Bk} {p : Nat → Bool} {h : ev_H} (h5 : nS b ≤ 5) (h0 : ∀ j, j < 12 → hI h aParts j = nI 0) : MPT b p 0 0 h := fun i s hi hs => h0 _ (by have := hid_2 b; omega)
theorem rfN_t {p : Nat → Bool} {n : Nat} (h : p n = true) : nI (rfN p n + 1) = nI (rfN p (n + 1)) := congrArg nI (if_pos h).symm
theorem rfN_f {p : Nat → Bool} {n : Nat} (h : p n = false) : nI (rfN p n) = nI (rfN p (n + 1)) := congrArg nI (if_neg (by rw [h]; decide)).symm
theorem c_doesFit2 {G : ev_G} {b : Bk} {k : Nat} {h : ev_H} (hm : MB b k h) {R : HR} {nh v : Nat} (hnh : hI h aM 60 = nI nh) (hn30 : nh ≤ 30) (hS : MS R h) (hR : ∀ n, n < nh → ∃ s, s < nS b ∧ R.s n = nI s) (hM : MY b h) (hv : v < pw2 b) (k9 : Int32) : Called G mX4_doesFit 0 0 0 [vR aM, vI (nI v), vI k9] h (px (vI (b2i (rfV b R nh k9 v))) h) := by
  have h36 := pw2_36 hm.bw.s5
  have h9 := c_doesFit (G := G) (v := v) hm.lay hnh hn30 hS hR hm.bw.s5 (MY := fun i => hI h aManyBy i) (fun _ _ => rfl) (by omega) k9
  rw [fit_eq hR hm.bw.s5 (my2 := myV b v) (fun s hs => hM v s hv hs)] at h9
  exact h9
