/-! ===== feasts, exchanges, rounds ===== -/
set_option maxRecDepth 100000
theorem nx_xor (a b : Nat) : nI a ^^^ nI b = nI (a ^^^ b) := by
  apply Int32.toBitVec_inj.mp
  simp [nI]
theorem xor_4 {v c : Nat} (hv : v < 4) (hc : c < 4) : v ^^^ c < 4 := Nat.xor_lt_two_pow (n := 2) hv hc
def fsW (T : Nat → Int32) (p o : Int32) (v : Nat) : Int32 := (((T 0) &&& (((1 : Int32) <<< (p &&& 31)) ^^^ (-1))) &&& (((1 : Int32) <<< (o &&& 31)) ^^^ (-1))) ||| ((nI (v / 2)) <<< (p &&& 31)) ||| ((nI (v % 2)) <<< (o &&& 31))
/-- what a feast is worth to q, if p and o come as v says -/
def fsF (b : Bk) (T : Nat → Int32) (p o q : Int32) (v : Nat) : Int32 := worthV b q (saidV b (u1 T 0 (fsW T p o v)) (allV (nS b)))
def fsG (b : Bk) (T : Nat → Int32) (p o : Int32) (v : Nat) : Bool := !decide (fsF b T p o p v < fsF b T p o p (v ^^^ 2)) && decide (fsF b T p o o (v ^^^ 1) ≤ fsF b T p o o v)
def fsR (R : Nat → Int32) : Option Nat → Nat → Int32
  | none => R
  | some q => u1 (u1 R 0 (nI (q / 2))) 1 (nI (q % 2))
def fsN : Option Nat → Nat
  | none => 0
  | some _ => 2
def fsOk (b : Bk) (p o : Int32) : Bool := perV b p && perV b o && !decide (p = o)
theorem rf_none {p : Nat → Bool} : ∀ {n : Nat}, rfN p n = 0 → firstOf n p = none
  | 0, _ => rfl
  | n + 1, h => by
    cases hp : p n with
    | true => rw [rfN, if_pos hp] at h; exact absurd h (Nat.succ_ne_zero _)
    | false => rw [rfN, if_neg (by rw [hp]; decide)] at h; exact first_f (rf_none h) hp
theorem rf_some {p : Nat → Bool} : ∀ {n : Nat}, rfN p n ≠ 0 → ∃ j, firstOf n p = some j
  | 0, h => absurd rfl h
  | n + 1, h => by
    rcases Nat.eq_zero_or_pos (rfN p n) with q | q
    · cases hp : p n with
      | true => exact ⟨n, by have := first_t (rf_none q) hp 0; exact this⟩
      | false => rw [rfN, if_neg (by rw [hp]; decide)] at h; exact absurd q h
    · obtain ⟨j, hj⟩ := rf_some (Nat.pos_iff_ne_zero.mp q)
      exact ⟨j, by show (match firstOf n p with | some j => some j | none => _) = _; rw [hj]⟩
theorem first_keep {p : Nat → Bool} {n j : Nat} (h : firstOf n p = some j) : firstOf (n + 1) p = some j := by show (match firstOf n p with | some j => some j | none => _) = _; rw [h]
theorem first_1 {p : Nat → Bool} {n : Nat} (h : firstOf n p = none) (hp : p n = true) : firstOf (n + 1) p = some n := first_t h hp 0
theorem first_same {p : Nat → Bool} {n : Nat} (h : rfN p n ≠ 0) : firstOf (n + 1) p = firstOf n p := by
  obtain ⟨j, hj⟩ := rf_some h
  rw [first_keep hj, hj]
theorem first_skip {p : Nat → Bool} {n : Nat} (h : p n = false) : firstOf (n + 1) p = firstOf n p := by
  cases e : firstOf n p with
  | none => exact first_f e h
  | some j => exact first_keep e
def MFS (b : Bk) (T : Nat → Int32) (p o : Int32) (n : Nat) (h : ev_H) : Prop := ∀ v, v < n → hI h aFeasts v = fsF b T p o p v ∧ hI h aFeasts (4 + v) = fsF b T p o o v
theorem MFS.fr {b : Bk} {T : Nat → Int32} {p o : Int32} {n : Nat} {as fs : List Nat} {h h1 : ev_H} (hM : MFS b T p o n h) (q : Fr as fs h h1) (ok : aFeasts ∉ as) : MFS b T p o n h1 := fun v hv => ⟨(q.ar aFeasts ok (by decide) _).trans (hM v hv).1, (q.ar aFeasts ok (by decide) _).trans (hM v hv).2⟩
theorem MFS.s1 {b : Bk} {T : Nat → Int32} {p o : Int32} {n : Nat} {h : ev_H} {x : Int32} (hM : MFS b T p o n h) (hn : n < 4) : MFS b T p o n (sI h aFeasts n x) ∧ hI (sI h aFeasts n x) aFeasts n = x := ⟨fun v hv => ⟨(u2_ne (fun z => by have := z.2; omega)).trans (hM v hv).1, (u2_ne (fun z => by have := z.2; omega)).trans (hM v hv).2⟩, u2_self⟩
theorem MFS.s2 {b : Bk} {T : Nat → Int32} {p o : Int32} {n : Nat} {h : ev_H} {y : Int32} (hM : MFS b T p o n h) (hn : n < 4) (hx : hI h aFeasts n = fsF b T p o p n) (hy : y = fsF b T p o o n) : MFS b T p o (n + 1) (sI h aFeasts (4 + n) y) := by
  intro v hv
  by_cases e : v = n
  · rw [e]
    exact ⟨(u2_ne (fun z => by have := z.2; omega)).trans hx, u2_self.trans hy⟩
  · exact ⟨(u2_ne (fun z => by have := z.2; omega)).trans (hM v (by omega)).1, (u2_ne (fun z => by have := z.2; omega)).trans (hM v (by omega)).2⟩
def exT (T : Nat → Int32) (t o : Nat) : Nat → Int32 := u1 (u1 T (2 + t) (T (2 + o))) (2 + o) (T (2 + t))
/-- how many are said if the things of the pair v change their sacks -/
def exF (b : Bk) (T : Nat → Int32) (t o : Nat) : Int32 := popc (saidV b (exT T t o) (allV (nS b)))
def exS (b : Bk) (T : Nat → Int32) : Nat → Option Nat × Int32
  | 0 => (none, popc (saidV b T (allV (nS b))))
  | v + 1 => if v / nT b < v % nT b ∧ chgV T (v / nT b) (v % nT b) = true ∧ (exS b T v).2 < exF b T (v / nT b) (v % nT b) then (some v, exF b T (v / nT b) (v % nT b)) else exS b T v
theorem exS_t {b : Bk} {T : Nat → Int32} {v : Nat} (h1 : v / nT b < v % nT b) (h2 : chgV T (v / nT b) (v % nT b) = true) (h3 : (exS b T v).2 < exF b T (v / nT b) (v % nT b)) : exS b T (v + 1) = (some v, exF b T (v / nT b) (v % nT b)) := by rw [exS, if_pos ⟨h1, h2, h3⟩]
theorem exS_f {b : Bk} {T : Nat → Int32} {v : Nat} (h : v % nT b ≤ v / nT b ∨ chgV T (v / nT b) (v % nT b) = false ∨ ¬ (exS b T v).2 < exF b T (v / nT b) (v % nT b)) : exS b T (v + 1) = exS b T v := by
  rw [exS, if_neg]
  rintro ⟨h1, h2, h3⟩
  rcases h with h | h | h
  · omega
  · rw [h2] at h; exact absurd h (by decide)
  · exact h h3
theorem exS_lt {b : Bk} {T : Nat → Int32} {j : Nat} : ∀ {n : Nat}, (exS b T n).1 = some j → j < n
  | 0, h => by simp [exS] at h
  | n + 1, h => by
    rw [exS] at h
    split at h
    · simp at h; omega
    · exact Nat.lt_succ_of_lt (exS_lt h)
def exV (b : Bk) (T : Nat → Int32) (w : Int32) : Int32 := if isInV w 0 (nI 2) then (match (exS b T (nT b * nT b)).1 with
  | none => -1
  | some v => if w = 0 then nI (v / nT b) else if w = nI 1 then nI (v % nT b) else (exS b T (nT b * nT b)).2) else -1
