/-! ===== PURE: the greatest part, by parts and by rows ===== -/
set_option maxRecDepth 100000
theorem mx_ge {f : Nat → Nat} : ∀ {n j : Nat}, j < n → f j ≤ mxN f n
  | 0, _, h => absurd h (Nat.not_lt_zero _)
  | n + 1, j, h => by
    show f j ≤ if mxN f n < f n then f n else mxN f n
    by_cases e : j = n
    · subst e; split <;> omega
    · have := mx_ge (f := f) (n := n) (j := j) (by omega)
      split <;> omega
theorem mx_at {f : Nat → Nat} : ∀ n, mxN f n = 0 ∨ ∃ j, j < n ∧ mxN f n = f j
  | 0 => Or.inl rfl
  | n + 1 => by
    by_cases e : mxN f n < f n
    · exact Or.inr ⟨n, by omega, if_pos e⟩
    · have h7 : mxN f (n + 1) = mxN f n := if_neg e
      rcases mx_at (f := f) n with z | ⟨j, h1, h2⟩
      · exact Or.inl (h7.trans z)
      · exact Or.inr ⟨j, by omega, h7.trans h2⟩
section MO
variable {b : Bk} {p : Nat → Bool} {s : Nat}
theorem byN_e (j n : Nat) : byN b p s j (n + 1) = byN b p s j n ∨ (p n = true ∧ myN b n s = j ∧ byN b p s j (n + 1) = byN b p s j n + 1) := by
  by_cases c : p n = true ∧ myN b n s = j
  · exact Or.inr ⟨c.1, c.2, by rw [byN, if_pos c]⟩
  · exact Or.inl (by rw [byN, if_neg c])
theorem mo_ge : ∀ n j, byN b p s j n ≤ moN b p s n
  | 0, _ => Nat.le_refl _
  | n + 1, j => by
    have h1 := mo_ge n j
    have h2 : moN b p s n ≤ moN b p s (n + 1) := by
      rw [moN]
      split
      · next c => omega
      · exact Nat.le_refl _
    rcases byN_e (b := b) (p := p) (s := s) j n with e | ⟨e1, e2, e3⟩
    · omega
    · rw [e3, moN, e2]
      split
      · exact Nat.le_refl _
      · next c =>
        have : ¬ moN b p s n < byN b p s j n + 1 := fun z => c ⟨e1, z⟩
        omega
theorem mo_at (hb : BW b) : ∀ n, moN b p s n = 0 ∨ ∃ j, j < 11 ∧ moN b p s n = byN b p s j n
  | 0 => Or.inl rfl
  | n + 1 => by
    have hm := (myV_n hb n s).2
    by_cases c : p n = true ∧ moN b p s n < byN b p s (myN b n s) n + 1
    · refine Or.inr ⟨myN b n s, by omega, ?_⟩
      rw [moN, if_pos c, byN_t c.1 rfl]
    · have h7 : moN b p s (n + 1) = moN b p s n := by rw [moN, if_neg c]
      rcases mo_at hb n with z | ⟨j, h1, h2⟩
      · exact Or.inl (h7.trans z)
      · refine Or.inr ⟨j, h1, h7.trans ?_⟩
        rcases byN_e (b := b) (p := p) (s := s) j n with e | ⟨e1, e2, e3⟩
        · rw [e]; exact h2
        · exact absurd ⟨e1, by rw [e2]; omega⟩ c
theorem mo_mx (hb : BW b) (n : Nat) : mxN (fun j => byN b p s j n) 11 = moN b p s n := by
  refine Nat.le_antisymm ?_ ?_
  · rcases mx_at (f := fun j => byN b p s j n) 11 with z | ⟨j, h1, h2⟩
    · rw [z]; exact Nat.zero_le _
    · rw [h2]; exact mo_ge n j
  · rcases mo_at (p := p) (s := s) hb n with z | ⟨j, h1, h2⟩
    · rw [z]; exact Nat.zero_le _
    · rw [h2]; exact mx_ge (f := fun j => byN b p s j n) h1
end MO
