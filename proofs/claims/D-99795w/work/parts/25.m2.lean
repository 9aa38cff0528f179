/-! ===== THE REFERENCE: static methods (walks by program) ===== -/
set_option maxRecDepth 100000

theorem c_isIn {G : ev_G} {h : ev_H} (v a c : Int32) : Called G mX4_isIn 0 0 0 [vI v, vI a, vI c] h (px (vI (b2i (isInV v a c))) h) := by
  refine called_of rfl [some (vI v), some (vI a), some (vI c)] rfl (Nat.le_of_ble_eq_true rfl) ?_
  refine r_iload_n dX4_isIn_0 rfl ?_
  refine r_iload_n dX4_isIn_1 rfl ?_
  refine r_icmp_lt (tgt := 14) dX4_isIn_2 rfl (fun c1 => ?_) (fun c1 => ?_)
  · --
    refine r_iconst (v := nI 0) dX4_isIn_14 (by decide) ?_
    exact r_ret0 dX4_isIn_15 rfl (by simp [isInV, *])
  · --
    refine r_iload_n dX4_isIn_5 rfl ?_
    refine r_iload_n dX4_isIn_6 rfl ?_
    refine r_icmp_gt (tgt := 14) dX4_isIn_7 rfl (fun c2 => ?_) (fun c2 => ?_)
    · --
      refine r_iconst (v := nI 0) dX4_isIn_14 (by decide) ?_
      exact r_ret0 dX4_isIn_15 rfl (by simp [isInV, *])
    · --
      refine r_iconst (v := nI 1) dX4_isIn_10 (by decide) ?_
      refine r_goto (tgt := 15) dX4_isIn_11 rfl ?_
      exact r_ret1 dX4_isIn_15 rfl (by simp [isInV, *])

theorem c_isLetter {G : ev_G} {h : ev_H} (c : Int32) : Called G mX4_isLetter 0 0 0 [vI c] h (px (vI (b2i (isLetV c))) h) := by
  refine called_of rfl [some (vI c)] rfl (Nat.le_of_ble_eq_true rfl) ?_
  refine r_iload_n dX4_isLetter_0 rfl ?_
  refine r_bipush (v := nI 97) dX4_isLetter_1 (by decide) ?_
  refine r_icmp_lt (tgt := 16) dX4_isLetter_3 rfl (fun c1 => ?_) (fun c1 => ?_)
  · --
    refine r_iconst (v := nI 0) dX4_isLetter_16 (by decide) ?_
    exact r_ret0 dX4_isLetter_17 rfl (by simp [isLetV, *])
  · --
    refine r_iload_n dX4_isLetter_6 rfl ?_
    refine r_bipush (v := nI 122) dX4_isLetter_7 (by decide) ?_
    refine r_icmp_gt (tgt := 16) dX4_isLetter_9 rfl (fun c2 => ?_) (fun c2 => ?_)
    · --
      refine r_iconst (v := nI 0) dX4_isLetter_16 (by decide) ?_
      exact r_ret0 dX4_isLetter_17 rfl (by simp [isLetV, *])
    · --
      refine r_iconst (v := nI 1) dX4_isLetter_12 (by decide) ?_
      refine r_goto (tgt := 17) dX4_isLetter_13 rfl ?_
      exact r_ret1 dX4_isLetter_17 rfl (by simp [isLetV, *])

theorem c_isDigit {G : ev_G} {h : ev_H} (c : Int32) : Called G mX4_isDigit 0 0 0 [vI c] h (px (vI (b2i (isDigV c))) h) := by
  refine called_of rfl [some (vI c)] rfl (Nat.le_of_ble_eq_true rfl) ?_
  refine r_iload_n dX4_isDigit_0 rfl ?_
  refine r_bipush (v := nI 48) dX4_isDigit_1 (by decide) ?_
  refine r_icmp_lt (tgt := 16) dX4_isDigit_3 rfl (fun c1 => ?_) (fun c1 => ?_)
  · --
    refine r_iconst (v := nI 0) dX4_isDigit_16 (by decide) ?_
    exact r_ret0 dX4_isDigit_17 rfl (by simp [isDigV, *])
  · --
    refine r_iload_n dX4_isDigit_6 rfl ?_
    refine r_bipush (v := nI 57) dX4_isDigit_7 (by decide) ?_
    refine r_icmp_gt (tgt := 16) dX4_isDigit_9 rfl (fun c2 => ?_) (fun c2 => ?_)
    · --
      refine r_iconst (v := nI 0) dX4_isDigit_16 (by decide) ?_
      exact r_ret0 dX4_isDigit_17 rfl (by simp [isDigV, *])
    · --
      refine r_iconst (v := nI 1) dX4_isDigit_12 (by decide) ?_
      refine r_goto (tgt := 17) dX4_isDigit_13 rfl ?_
      exact r_ret1 dX4_isDigit_17 rfl (by simp [isDigV, *])

theorem c_isSign {G : ev_G} {h : ev_H} (c : Int32) : Called G mX4_isSign 0 0 0 [vI c] h (px (vI (b2i (isSgV c))) h) := by
  refine called_of rfl [some (vI c)] rfl (Nat.le_of_ble_eq_true rfl) ?_
  refine r_iload_n dX4_isSign_0 rfl ?_
  refine r_bipush (v := nI 59) dX4_isSign_1 (by decide) ?_
  refine r_icmp_eq (tgt := 66) dX4_isSign_3 rfl (fun c1 => ?_) (fun c1 => ?_)
  · --
    refine r_iconst (v := nI 1) dX4_isSign_66 (by decide) ?_
    refine r_goto (tgt := 71) dX4_isSign_67 rfl ?_
    exact r_ret1 dX4_isSign_71 rfl (by simp [isSgV, *])
  · --
    refine r_iload_n dX4_isSign_6 rfl ?_
    refine r_bipush (v := nI 40) dX4_isSign_7 (by decide) ?_
    refine r_icmp_eq (tgt := 66) dX4_isSign_9 rfl (fun c2 => ?_) (fun c2 => ?_)
    · --
      refine r_iconst (v := nI 1) dX4_isSign_66 (by decide) ?_
      refine r_goto (tgt := 71) dX4_isSign_67 rfl ?_
      exact r_ret1 dX4_isSign_71 rfl (by simp [isSgV, *])
    · --
      refine r_iload_n dX4_isSign_12 rfl ?_
      refine r_bipush (v := nI 41) dX4_isSign_13 (by decide) ?_
      refine r_icmp_eq (tgt := 66) dX4_isSign_15 rfl (fun c3 => ?_) (fun c3 => ?_)
      · --
        refine r_iconst (v := nI 1) dX4_isSign_66 (by decide) ?_
        refine r_goto (tgt := 71) dX4_isSign_67 rfl ?_
        exact r_ret1 dX4_isSign_71 rfl (by simp [isSgV, *])
      · --
        refine r_iload_n dX4_isSign_18 rfl ?_
        refine r_bipush (v := nI 60) dX4_isSign_19 (by decide) ?_
        refine r_icmp_eq (tgt := 66) dX4_isSign_21 rfl (fun c4 => ?_) (fun c4 => ?_)
        · --
          refine r_iconst (v := nI 1) dX4_isSign_66 (by decide) ?_
          refine r_goto (tgt := 71) dX4_isSign_67 rfl ?_
          exact r_ret1 dX4_isSign_71 rfl (by simp [isSgV, *])
        · --
          refine r_iload_n dX4_isSign_24 rfl ?_
          refine r_bipush (v := nI 62) dX4_isSign_25 (by decide) ?_
          refine r_icmp_eq (tgt := 66) dX4_isSign_27 rfl (fun c5 => ?_) (fun c5 => ?_)
          · --
            refine r_iconst (v := nI 1) dX4_isSign_66 (by decide) ?_
            refine r_goto (tgt := 71) dX4_isSign_67 rfl ?_
            exact r_ret1 dX4_isSign_71 rfl (by simp [isSgV, *])
          · --
            refine r_iload_n dX4_isSign_30 rfl ?_
            refine r_bipush (v := nI 61) dX4_isSign_31 (by decide) ?_
            refine r_icmp_eq (tgt := 66) dX4_isSign_33 rfl (fun c6 => ?_) (fun c6 => ?_)
            · --
              refine r_iconst (v := nI 1) dX4_isSign_66 (by decide) ?_
              refine r_goto (tgt := 71) dX4_isSign_67 rfl ?_
              exact r_ret1 dX4_isSign_71 rfl (by simp [isSgV, *])
            · --
              refine r_iload_n dX4_isSign_36 rfl ?_
              refine r_bipush (v := nI 43) dX4_isSign_37 (by decide) ?_
              refine r_icmp_eq (tgt := 66) dX4_isSign_39 rfl (fun c7 => ?_) (fun c7 => ?_)
              · --
                refine r_iconst (v := nI 1) dX4_isSign_66 (by decide) ?_
                refine r_goto (tgt := 71) dX4_isSign_67 rfl ?_
                exact r_ret1 dX4_isSign_71 rfl (by simp [isSgV, *])
              · --
                refine r_iload_n dX4_isSign_42 rfl ?_
                refine r_bipush (v := nI 45) dX4_isSign_43 (by decide) ?_
                refine r_icmp_eq (tgt := 66) dX4_isSign_45 rfl (fun c8 => ?_) (fun c8 => ?_)
                · --
                  refine r_iconst (v := nI 1) dX4_isSign_66 (by decide) ?_
                  refine r_goto (tgt := 71) dX4_isSign_67 rfl ?_
                  exact r_ret1 dX4_isSign_71 rfl (by simp [isSgV, *])
                · --
                  refine r_iload_n dX4_isSign_48 rfl ?_
                  refine r_bipush (v := nI 42) dX4_isSign_49 (by decide) ?_
                  refine r_icmp_eq (tgt := 66) dX4_isSign_51 rfl (fun c9 => ?_) (fun c9 => ?_)
                  · --
                    refine r_iconst (v := nI 1) dX4_isSign_66 (by decide) ?_
                    refine r_goto (tgt := 71) dX4_isSign_67 rfl ?_
                    exact r_ret1 dX4_isSign_71 rfl (by simp [isSgV, *])
                  · --
                    refine r_iload_n dX4_isSign_54 rfl ?_
                    refine r_bipush (v := nI 47) dX4_isSign_55 (by decide) ?_
                    refine r_icmp_eq (tgt := 66) dX4_isSign_57 rfl (fun c10 => ?_) (fun c10 => ?_)
                    · --
                      refine r_iconst (v := nI 1) dX4_isSign_66 (by decide) ?_
                      refine r_goto (tgt := 71) dX4_isSign_67 rfl ?_
                      exact r_ret1 dX4_isSign_71 rfl (by simp [isSgV, *])
                    · --
                      refine r_iload_n dX4_isSign_60 rfl ?_
                      refine r_bipush (v := nI 37) dX4_isSign_61 (by decide) ?_
                      refine r_icmp_ne (tgt := 70) dX4_isSign_63 rfl (fun c11 => ?_) (fun c11 => ?_)
                      · --
                        refine r_iconst (v := nI 0) dX4_isSign_70 (by decide) ?_
                        exact r_ret0 dX4_isSign_71 rfl (by simp [isSgV, *])
                      · --
                        refine r_iconst (v := nI 1) dX4_isSign_66 (by decide) ?_
                        refine r_goto (tgt := 71) dX4_isSign_67 rfl ?_
                        exact r_ret1 dX4_isSign_71 rfl (by simp [isSgV, *])

theorem c_bitsOf {G : ev_G} {h : ev_H} (x9 : Int32) : Called G mX4_bitsOf 0 0 0 [vI x9] h (px (vI (popc x9)) h) := by
  obtain ⟨z, hz, rfl, -⟩ := nI_wb x9
  rw [popc_n hz]
  refine called_of rfl [some (vI (nI z)), none, none] rfl (Nat.le_of_ble_eq_true rfl) ?_
  refine r_iconst (v := nI 0) dX4_bitsOf_0 (by decide) ?_
  refine r_istore_n dX4_bitsOf_1 (by decide) rfl ?_
  refine r_iload_n dX4_bitsOf_2 rfl ?_
  refine r_istore_n dX4_bitsOf_3 (by decide) rfl ?_
  refine (ev_loop (σ := Nat × Nat) (P := fun s9 => ∀ (y : Nat) (n : Nat), s9 = (y, n) → (y < 2 ^ 32 ∧ pcf 32 y + n = pcf 32 z) → Ev G mX4_bitsOf (ev_room 0 0 0) (ev_MQ G (px (vI (nI (pcf 32 z))) h) 0 0) 4 [some (vI (nI z)), some (vI (nI n)), some (vI (nI y))] [] h 0 0) (fun s9 => s9.1) (fun s9 ih4 y n e9 q4 => ?_)) (z, 0) z 0 rfl (⟨hz, Nat.add_zero _⟩)
  subst e9
  refine r_iload_n dX4_bitsOf_4 rfl ?_
  refine r_if_eq (tgt := 20) dX4_bitsOf_5 rfl (fun c1 => ?_) (fun c1 => ?_)
  · --
    refine r_iload_n dX4_bitsOf_20 rfl ?_
    exact r_retx dX4_bitsOf_21 rfl rfl (by have h9 := nI_z q4.1 c1; subst h9; have h8 := q4.2; rw [pcf_0] at h8; rw [← h8, Nat.zero_add])
  · --
    refine r_iincN (n := 1) dX4_bitsOf_8 rfl rfl (by decide) rfl ?_
    refine r_iload_n dX4_bitsOf_11 rfl ?_
    refine r_iload_n dX4_bitsOf_12 rfl ?_
    refine r_iconst (v := nI 1) dX4_bitsOf_13 (by decide) ?_
    have hy0 : y ≠ 0 := fun e => c1 (by rw [e]; rfl)
    refine r_isub dX4_bitsOf_14 ?_
    refine r_top (nI (y - 1)) (pk_sub (by omega)) ?_
    refine r_iand dX4_bitsOf_15 ?_
    refine r_top (nI (y &&& (y - 1))) (nx_and _ _) ?_
    refine r_istore_n dX4_bitsOf_16 (by decide) rfl ?_
    refine r_goto (tgt := 4) dX4_bitsOf_17 rfl ?_
    exact ih4 (y &&& (y - 1), n + 1) (by have h9 : y &&& (y - 1) ≤ y - 1 := Nat.and_le_right; show y &&& (y - 1) < y; omega) (y &&& (y - 1)) (n + 1) rfl (⟨Nat.lt_of_le_of_lt Nat.and_le_left q4.1, by have h9 := pcf_drop 32 y q4.1 hy0; omega⟩)

theorem c_power {G : ev_G} {h : ev_H} (a : Int32) {n : Nat} (hn : n < 2 ^ 31) : Called G mX4_power 0 0 0 [vI a, vI (nI n)] h (px (vI (ipow a n)) h) := by
  refine called_of rfl [some (vI a), some (vI (nI n)), none, none] rfl (Nat.le_of_ble_eq_true rfl) ?_
  refine r_iconst (v := nI 1) dX4_power_0 (by decide) ?_
  refine r_istore_n dX4_power_1 (by decide) rfl ?_
  refine r_iconst (v := nI 0) dX4_power_2 (by decide) ?_
  refine r_istore_n dX4_power_3 (by decide) rfl ?_
  refine (ev_for (P := fun i => Ev G mX4_power (ev_room 0 0 0) (ev_MQ G (px (vI (ipow a n)) h) 0 0) 4 [some (vI a), some (vI (nI n)), some (vI (ipow a i)), some (vI (nI i))] [] h 0 0) n (fun i hki ihi => ?_)) 0 (Nat.zero_le _)
  refine r_iload_n dX4_power_4 rfl ?_
  refine r_iload_n dX4_power_5 rfl ?_
  refine r_icmpN_ge (tgt := 19) dX4_power_6 rfl (by omega) (by omega) (fun c1 => ?_) (fun c1 => ?_)
  · --
    refine r_iload_n dX4_power_19 rfl ?_
    exact r_retx dX4_power_20 rfl rfl (congrArg (ipow a) (by omega))
  · --
    refine r_iload_n dX4_power_9 rfl ?_
    refine r_iload_n dX4_power_10 rfl ?_
    refine r_imul dX4_power_11 ?_
    refine r_istore_n dX4_power_12 (by decide) rfl ?_
    refine r_iincN (n := 1) dX4_power_13 rfl rfl (by decide) rfl ?_
    refine r_goto (tgt := 4) dX4_power_16 rfl ?_
    exact ihi (by omega)

theorem c_divisor {G : ev_G} {h : ev_H} {a c : Nat} (ha : a < 2 ^ 31) (hc : c < 2 ^ 31) : Called G mX4_divisor 0 0 0 [vI (nI a), vI (nI c)] h (px (vI (nI (Nat.gcd a c))) h) := by
  refine called_of rfl [some (vI (nI a)), some (vI (nI c)), none, none, none] rfl (Nat.le_of_ble_eq_true rfl) ?_
  refine r_iload_n dX4_divisor_0 rfl ?_
  refine r_istore_n dX4_divisor_1 (by decide) rfl ?_
  refine r_iload_n dX4_divisor_2 rfl ?_
  refine r_istore_n dX4_divisor_3 (by decide) rfl ?_
  refine (ev_loop (σ := Nat × Nat) (P := fun s9 => ∀ (x : Nat) (y : Nat), s9 = (x, y) → (x < 2 ^ 31 ∧ y < 2 ^ 31 ∧ Nat.gcd x y = Nat.gcd a c) → Ev G mX4_divisor (ev_room 0 0 0) (ev_MQ G (px (vI (nI (Nat.gcd a c))) h) 0 0) 4 [some (vI (nI a)), some (vI (nI c)), some (vI (nI x)), some (vI (nI y)), none] [] h 0 0) (fun s9 => s9.2) (fun s9 ih4 x y e9 q4 => ?_)) (a, c) a c rfl (⟨ha, hc, rfl⟩)
  subst e9
  refine r_iload_n dX4_divisor_4 rfl ?_
  refine r_if_le (tgt := 21) dX4_divisor_5 rfl (fun c1 => ?_) (fun c1 => ?_)
  · --
    refine r_iload_n dX4_divisor_21 rfl ?_
    exact r_retx dX4_divisor_22 rfl rfl (by have h9 := nI_le0 q4.2.1 c1; subst h9; rw [← q4.2.2, Nat.gcd_zero_right])
  · --
    refine r_iload_n dX4_divisor_8 rfl ?_
    refine r_iload_n dX4_divisor_9 rfl ?_
    have hy0 : y ≠ 0 := fun e => c1 (by rw [e]; decide)
    refine r_irem dX4_divisor_10 (fun e => hy0 (nI_z (by omega) e)) ?_
    refine r_top (nI (x % y)) (pk_rem q4.1 (by omega) q4.2.1) ?_
    refine r_istore dX4_divisor_11 (by decide) rfl ?_
    refine r_iload_n dX4_divisor_13 rfl ?_
    refine r_istore_n dX4_divisor_14 (by decide) rfl ?_
    refine r_iload dX4_divisor_15 rfl ?_
    refine r_istore_n dX4_divisor_17 (by decide) rfl ?_
    refine r_goto (tgt := 4) dX4_divisor_18 rfl ?_
    refine r_sub [some (vI (nI a)), some (vI (nI c)), some (vI (nI y)), some (vI (nI (x % y))), none] (And.intro rfl (And.intro rfl (And.intro rfl (And.intro rfl trivial)))) ?_
    exact ih4 (y, x % y) (Nat.mod_lt _ (by omega)) y (x % y) rfl (⟨q4.2.1, Nat.lt_of_lt_of_le (Nat.mod_lt _ (by omega)) (Nat.le_of_lt q4.2.1), by rw [← q4.2.2, Nat.gcd_comm x y, Nat.gcd_rec y x, Nat.gcd_comm]⟩)
