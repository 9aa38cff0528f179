/-! ===== counting bits, powers, divisors ===== -/
set_option maxRecDepth 100000
theorem pcf_drop : ∀ (f n : Nat), n < 2 ^ f → n ≠ 0 → pcf f (n &&& (n - 1)) + 1 = pcf f n
  | 0, n, h, h0 => by simp at h; omega
  | f + 1, n, h, h0 => by
    have e1 : (n &&& (n - 1)) / 2 = n / 2 &&& (n - 1) / 2 := Nat.and_div_two
    have e2 : (n &&& (n - 1)) % 2 = 0 := by
      have := @Nat.and_mod_two_eq_one n (n - 1)
      omega
    show (n &&& (n - 1)) % 2 + pcf f ((n &&& (n - 1)) / 2) + 1 = n % 2 + pcf f (n / 2)
    rw [e1, e2]
    by_cases hr : n % 2 = 1
    · rw [show (n - 1) / 2 = n / 2 by omega, Nat.and_self]
      omega
    · have hm : n / 2 ≠ 0 := by omega
      have ih := pcf_drop f (n / 2) (by rw [Nat.pow_succ] at h; omega) hm
      rw [show (n - 1) / 2 = n / 2 - 1 by omega]
      omega
theorem pcf_0 : ∀ f : Nat, pcf f 0 = 0
  | 0 => rfl
  | f + 1 => by
    show 0 % 2 + pcf f (0 / 2) = 0
    rw [Nat.zero_div, pcf_0 f]
theorem pcf_le : ∀ f n : Nat, pcf f n ≤ f
  | 0, _ => Nat.le_refl _
  | f + 1, n => by
    have := pcf_le f (n / 2)
    show n % 2 + pcf f (n / 2) ≤ f + 1
    omega
theorem nx_and (a b : Nat) : nI a &&& nI b = nI (a &&& b) := by
  apply Int32.toBitVec_inj.mp
  simp [nI, BitVec.ofNat_and]
theorem nI_wb (x : Int32) : ∃ n, n < 2 ^ 32 ∧ x = nI n ∧ x.toBitVec.toNat = n := ⟨x.toBitVec.toNat, x.toBitVec.isLt, by apply Int32.toBitVec_inj.mp; simp [nI], rfl⟩
theorem popc_n {n : Nat} (h : n < 2 ^ 32) : popc (nI n) = nI (pcf 32 n) := by
  unfold popc
  rw [pk_tn h]
theorem nI_z {n : Nat} (h : n < 2 ^ 32) (e : nI n = 0) : n = 0 := by
  have := congrArg (fun x : Int32 => x.toBitVec.toNat) e
  rw [← nI_0] at this
  simp only [pk_tn h, pk_tn (show (0 : Nat) < 2 ^ 32 by decide)] at this
  exact this
def ipow (a : Int32) : Nat → Int32
  | 0 => 1
  | n + 1 => ipow a n * a
theorem ipow_n (a : Nat) : ∀ n : Nat, ipow (nI a) n = nI (a ^ n)
  | 0 => rfl
  | n + 1 => by
    show ipow (nI a) n * nI a = _
    rw [ipow_n a n, pk_mul, Nat.pow_succ]
theorem nI_le0 {n : Nat} (h : n < 2 ^ 31) (c : nI n ≤ 0) : n = 0 := by
  rw [← nI_0] at c
  have := (nI_leI h (by decide)).mp c
  omega
