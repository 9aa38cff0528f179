/-! ===== the reader's state: a fault (kind, place), the token in hand ===== -/
set_option maxRecDepth 100000
def MF (f : Nat × Nat) (h : ev_H) : Prop := hI h aM 4 = nI f.1 ∧ (f.1 ≠ 0 → hI h aM 5 = nI f.2) ∧ f.1 < 8
/-- text, token, fault -/
def MP (tx : Nat → Int32) (n : Nat) (s : (Nat × Nat) × Nat) (h : ev_H) : Prop := MLay h ∧ MX tx n h ∧ s.2 ≤ n ∧ MTk tx n s.2 h ∧ MF s.1 h
def sgH (tx : Nat → Int32) (n q : Nat) (c : Int32) : Bool := decide (tkT tx n q = 5) && decide (sgT tx n (taT tx n q) = c)
def woH (tx : Nat → Int32) (n q : Nat) (w : Int64) : Bool := decide (tkT tx n q = 3) && decide (lg_cmp (tnT tx n q) w = 0)
def failP (f : Nat × Nat) (k pl : Nat) : Nat × Nat := if f.1 = 0 then (k, pl) else f
def misP (tx : Nat → Int32) (n : Nat) (s : (Nat × Nat) × Nat) : (Nat × Nat) × Nat := (failP s.1 (if tkT tx n s.2 = 1 then 1 else 2) (taT tx n s.2), s.2)
def mustP (tx : Nat → Int32) (n : Nat) (c : Bool) (s : (Nat × Nat) × Nat) : (Nat × Nat) × Nat := if s.1.1 = 0 then (if c then (s.1, teT tx n s.2) else misP tx n s) else s
theorem tkT_lt (tx : Nat → Int32) (n q : Nat) : tkT tx n q < 6 := by
  unfold tkT
  repeat' split
  all_goals omega
theorem tkT_le {tx : Nat → Int32} {n q : Nat} (h : tkT tx n q = 3 ∨ tkT tx n q = 2) : leT tx n (taT tx n q) = true := by
  unfold tkT at h
  split at h
  · omega
  · split at h
    · assumption
    · repeat' split at h
      all_goals omega
theorem teT_le {tx : Nat → Int32} {n q : Nat} (hq : q ≤ n) : teT tx n q ≤ n := by
  have h1 := taT_le (tx := tx) hq
  unfold teT
  split
  · exact Nat.le_refl _
  · split
    · have := runT_le (c := leT tx n) (n - taT tx n q) (taT tx n q); omega
    · split
      · have := runT_le (c := diT tx n) (n - taT tx n q) (taT tx n q); omega
      · omega
theorem MP.setF {tx : Nat → Int32} {n : Nat} {s : (Nat × Nat) × Nat} {h : ev_H} {k pl : Nat} (hq : MP tx n s h) (hk : k < 8) : MP tx n ((k, pl), s.2) (sI (sI h aM 4 (nI k)) aM 5 (nI pl)) := ⟨hq.1, hq.2.1, hq.2.2.1, hq.2.2.2.1, ⟨rfl, fun _ => rfl, hk⟩⟩
theorem MF.fj {f : Nat × Nat} {as fs ja : List Nat} {h h1 : ev_H} (hf : MF f h) (p : Fj as fs ja h h1) (o1 : aM ∉ as) (o2 : 4 ∉ fs) (o3 : 5 ∉ fs) : MF f h1 := ⟨(p.fld 4 o1 o2).trans hf.1, fun z => (p.fld 5 o1 o3).trans (hf.2.1 z), hf.2.2⟩
theorem failP_g {f : Nat × Nat} {k pl : Nat} (h : f.1 = 0) : failP f k pl = (k, pl) := if_pos h
theorem failP_b {f : Nat × Nat} {k pl : Nat} (h : f.1 ≠ 0) : failP f k pl = f := if_neg h
def goP (tx : Nat → Int32) (n : Nat) (s : (Nat × Nat) × Nat) : (Nat × Nat) × Nat := (s.1, teT tx n s.2)
/-- a number between lo and hi -/
def numP (tx : Nat → Int32) (n lo hi : Nat) (s : (Nat × Nat) × Nat) : (Nat × Nat) × Nat := if s.1.1 = 0 then (if tkT tx n s.2 = 4 then (if tvT tx n s.2 < nI lo ∨ nI hi < tvT tx n s.2 then ((4, taT tx n s.2), s.2) else goP tx n s) else misP tx n s) else s
def numV (tx : Nat → Int32) (n lo hi : Nat) (s : (Nat × Nat) × Nat) : Int32 := if s.1.1 = 0 ∧ tkT tx n s.2 = 4 ∧ ¬ (tvT tx n s.2 < nI lo ∨ nI hi < tvT tx n s.2) then tvT tx n s.2 else nI lo
theorem MP.go {tx : Nat → Int32} {n : Nat} {s : (Nat × Nat) × Nat} {h h1 : ev_H} (hq : MP tx n s h) (p : Fj [] [6, 7, 8, 9] [aM] h h1) (ht : MTk tx n (teT tx n s.2) h1) : MP tx n (goP tx n s) h1 := ⟨p.lay hq.1, hq.2.1.fj p (by decide) (by decide) (by decide), teT_le hq.2.2.1, ht, hq.2.2.2.2.fj p (by decide) (by decide) (by decide)⟩
theorem mustP_b {tx : Nat → Int32} {n : Nat} {c : Bool} {s : (Nat × Nat) × Nat} (h : s.1.1 ≠ 0) : mustP tx n c s = s := if_neg h
theorem mustP_t {tx : Nat → Int32} {n : Nat} {c : Bool} {s : (Nat × Nat) × Nat} (h : s.1.1 = 0) (hc : c = true) : mustP tx n c s = goP tx n s := by rw [mustP, if_pos h, if_pos hc]; rfl
theorem mustP_f {tx : Nat → Int32} {n : Nat} {c : Bool} {s : (Nat × Nat) × Nat} (h : s.1.1 = 0) (hc : c = false) : mustP tx n c s = misP tx n s := by rw [mustP, if_pos h, if_neg (by rw [hc]; decide)]
theorem misP_bad (tx : Nat → Int32) (n : Nat) (s : (Nat × Nat) × Nat) : (misP tx n s).1.1 ≠ 0 := by
  unfold misP failP
  show (if s.1.1 = 0 then ((if tkT tx n s.2 = 1 then 1 else 2), taT tx n s.2) else s.1).1 ≠ 0
  split
  · show (if tkT tx n s.2 = 1 then 1 else 2) ≠ 0
    split <;> decide
  · assumption
theorem bad_d {k : Nat} (h : k ≠ 0) (h8 : k < 8) : decide (nI k = 0) = false := decide_eq_false (fun e => h (nI_z (by omega) e))
theorem good_d {k : Nat} (h : k = 0) : decide (nI k = 0) = true := by rw [h]; rfl
theorem tkT_di {tx : Nat → Int32} {n q : Nat} (h : tkT tx n q = 4) : diT tx n (taT tx n q) = true := by
  unfold tkT at h
  split at h
  · omega
  · split at h
    · repeat' split at h
      all_goals omega
    · split at h
      · assumption
      · repeat' split at h
        all_goals omega
section NUMP
variable {tx : Nat → Int32} {n lo hi : Nat} {s : (Nat × Nat) × Nat}
theorem numP_b (h : s.1.1 ≠ 0) : numP tx n lo hi s = s ∧ numV tx n lo hi s = nI lo := ⟨if_neg h, if_neg (fun z => h z.1)⟩
theorem numP_m (h : s.1.1 = 0) (ht : tkT tx n s.2 ≠ 4) : numP tx n lo hi s = misP tx n s ∧ numV tx n lo hi s = nI lo := ⟨by rw [numP, if_pos h, if_neg ht], if_neg (fun z => ht z.2.1)⟩
theorem numP_4 (h : s.1.1 = 0) (ht : tkT tx n s.2 = 4) (hv : tvT tx n s.2 < nI lo ∨ nI hi < tvT tx n s.2) : numP tx n lo hi s = ((4, taT tx n s.2), s.2) ∧ numV tx n lo hi s = nI lo := ⟨by rw [numP, if_pos h, if_pos ht, if_pos hv], if_neg (fun z => z.2.2 hv)⟩
theorem numP_g (h : s.1.1 = 0) (ht : tkT tx n s.2 = 4) (hv : ¬ (tvT tx n s.2 < nI lo ∨ nI hi < tvT tx n s.2)) : numP tx n lo hi s = goP tx n s ∧ numV tx n lo hi s = tvT tx n s.2 := ⟨by rw [numP, if_pos h, if_pos ht, if_neg hv], if_pos ⟨h, ht, hv⟩⟩
end NUMP
