/-! ===== PURE: a row's table as the system lays it ===== -/
set_option maxRecDepth 100000
section ROW
variable {b : Bk} {v w : Nat}
theorem ch_eq (hb : BW b) (hv : v < 2 ^ 31) : chV (nS b) v w = if skI (nS b) v w = nS b then -1 else nI (skI (nS b) v w) := by
  have h1 := skI_le (nS b) v w
  have h5 := hb.s5
  unfold chV
  by_cases e : skI (nS b) v w = nS b
  · rw [if_pos e, if_pos (congrArg nI e)]
  · rw [if_neg e, if_neg (fun z => e ((neq (by omega) (by omega)).mp z))]
theorem row_0 (hb : BW b) : u1 (layT b) 0 (nI (2 ^ nP b - 1)) = rowI b v 0 := by
  have h6 := hb.p6
  show _ = u1 (layT b) 0 (one (nP b) - nI 1)
  rw [← allV_n (by omega)]
  rfl
theorem row_1 (hb : BW b) (hv : v < 2 ^ 31) (h1 : 1 ≤ nT b) : u1 (u1 (layT b) 0 (nI (2 ^ nP b - 1))) (2 + (nT b - 1)) (chV (nS b) v 0) = rowI b v 1 := by
  rw [row_0 (v := v) hb, ch_eq hb hv]
  show _ = u1 (rowI b v 0) (2 + nT b - 1 - 0) _
  rw [show 2 + nT b - 1 - 0 = 2 + (nT b - 1) by omega]
theorem row_2 (hb : BW b) (hv : v < 2 ^ 31) (h2 : 2 ≤ nT b) : u1 (u1 (u1 (layT b) 0 (nI (2 ^ nP b - 1))) (2 + (nT b - 1)) (chV (nS b) v 0)) (2 + (nT b - 2)) (chV (nS b) v 1) = rowI b v 2 := by
  rw [row_1 hb hv (by omega), ch_eq hb hv]
  show _ = u1 (rowI b v 1) (2 + nT b - 1 - 1) _
  rw [show 2 + nT b - 1 - 1 = 2 + (nT b - 2) by omega]
theorem row_t1 (h : nT b = 1) : rowI b v 1 = rowT b v := by
  unfold rowT hid
  rw [if_pos (by omega), h]
theorem row_t2 (h : 2 ≤ nT b) : rowI b v 2 = rowT b v := by
  unfold rowT hid
  rw [if_neg (by omega)]
theorem ch_ok (hb : BW b) (hv : v < nRow b) (hw : w = 0 ∨ w = 1 ∧ 2 ≤ nT b) : chV (nS b) v w = -1 ∨ ∃ s, s < nS b ∧ chV (nS b) v w = nI s := by
  have h36 := nRow_36 hb
  rw [ch_eq hb (by omega)]
  by_cases e : skI (nS b) v w = nS b
  · exact Or.inl (if_pos e)
  · refine Or.inr ⟨skI (nS b) v w, ?_, if_neg e⟩
    have hle : skI (nS b) v w ≤ nS b := by
      rcases hw with q | ⟨q, q2⟩
      · subst q
        unfold skI
        rw [if_pos (show nI 0 = (0 : Int32) from rfl)]
        exact Nat.le_of_lt_succ (Nat.mod_lt _ (by omega))
      · subst q
        unfold skI
        rw [if_neg (by decide)]
        have hn : nRow b = (nS b + 1) * (nS b + 1) := by
          unfold nRow hid
          rw [if_neg (by omega), if_neg (by omega), Nat.pow_two]
        rw [hn] at hv
        exact Nat.le_of_lt_succ (Nat.div_lt_of_lt_mul hv)
    omega
theorem all_lt : ∃ n, n < 2 ^ nP b ∧ nI (2 ^ nP b - 1) = nI n := ⟨2 ^ nP b - 1, by have := Nat.two_pow_pos (nP b); omega, rfl⟩
end ROW
