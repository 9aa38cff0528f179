/-! ===== PURE: where the system goes another way than the reference: mute, send, spark, shyest, after, blend ===== -/
set_option maxRecDepth 100000
theorem mu_s (x a c : Int32) : x &&& (a ^^^ (-1)) &&& (c ^^^ (-1)) = x &&& ((a ||| c) ^^^ (-1)) := by
  apply Int32.toBitVec_inj.mp
  apply BitVec.eq_of_getLsbD_eq
  intro i hi
  have h1 : ((-1 : Int32).toBitVec).getLsbD i = true := by
    have e : (-1 : Int32).toBitVec = BitVec.allOnes 32 := by decide
    rw [e, BitVec.getLsbD_allOnes]
    exact decide_eq_true hi
  simp only [Int32.toBitVec_and, Int32.toBitVec_xor, Int32.toBitVec_or, BitVec.getLsbD_and, BitVec.getLsbD_xor, BitVec.getLsbD_or, h1]
  cases x.toBitVec.getLsbD i <;> cases a.toBitVec.getLsbD i <;> cases c.toBitVec.getLsbD i <;> rfl
theorem mu_0 (x : Int32) : x &&& ((0 : Int32) ^^^ (-1)) = x := by
  rw [show (0 : Int32) ^^^ (-1) = -1 by decide]
  exact Int32.and_neg_one
theorem orIf_ext {p q : Nat → Bool} {f : Nat → Int32} : ∀ {n : Nat}, (∀ t, t < n → p t = q t) → orIf n p f = orIf n q f
  | 0, _ => rfl
  | n + 1, h => by
    unfold orIf
    rw [orIf_ext (fun t ht => h t (by omega)), h n (by omega)]
theorem tb_all {n s : Nat} (hn : n ≤ 30) (hs : s < n) : tb (allV n) s = true := by
  have hp : 2 ^ n ≤ 2 ^ 30 := Nat.pow_le_pow_right (by decide) hn
  rw [allV_n (by omega), tb_n (by omega) (by omega), Nat.testBit_two_pow_sub_one]
  exact decide_eq_true hs
theorem mu_e {b : Bk} {T : Nat → Int32} {v : Int32} {n : Nat} (hs : nS b ≤ 5) (e : n = nS b) : orIf n (fun _ => true) (fun s => outW b T v s) = saidW b T v := by
  subst e
  exact orIf_ext (fun t ht => (tb_all (by omega) ht).symm)
/-! send -/
theorem few_B {p : Nat → Bool} {S : Nat} (h1 : ∀ k, k < S → p k = true → popc (nI k) < popc (nI S)) : ∀ n, n ≤ S → (fewOf n p = none ∧ fewB p S n = S) ∨ ∃ j, fewOf n p = some j ∧ fewB p S n = j ∧ popc (nI j) < popc (nI S)
  | 0, _ => Or.inl ⟨rfl, rfl⟩
  | n + 1, hn => by
    rcases few_B h1 n (by omega) with ⟨e1, e2⟩ | ⟨j, e1, e2, e3⟩
    · cases ep : p n with
      | true => exact Or.inr ⟨n, fewOf_n1 e1 ep, fewB_1 ep (by rw [e2]; exact h1 n (by omega) ep), h1 n (by omega) ep⟩
      | false => exact Or.inl ⟨fewOf_n0 e1 ep, (fewB_0 (Or.inl ep)).trans e2⟩
    · cases ep : p n with
      | true =>
        by_cases hl : popc (nI n) < popc (nI j)
        · exact Or.inr ⟨n, fewOf_s1 e1 ep hl, fewB_1 ep (by rw [e2]; exact hl), h1 n (by omega) ep⟩
        · exact Or.inr ⟨j, fewOf_s0 e1 (Or.inr (Int32.not_lt.mp hl)), (fewB_0 (Or.inr (by rw [e2]; exact Int32.not_lt.mp hl))).trans e2, e3⟩
      | false => exact Or.inr ⟨j, fewOf_s0 e1 (Or.inl ep), (fewB_0 (Or.inl ep)).trans e2, e3⟩
theorem few_S {p : Nat → Bool} {S : Nat} (h0 : p S = true) (h1 : ∀ k, k < S → p k = true → popc (nI k) < popc (nI S)) : fewOf (S + 1) p = some (fewB p S (S + 1)) := by
  rcases few_B h1 S (Nat.le_refl _) with ⟨e1, e2⟩ | ⟨j, e1, e2, e3⟩
  · rw [fewOf_n1 e1 h0, fewB_0 (Or.inr (by rw [e2]; exact Int32.le_refl _)), e2]
  · have hge := Int32.le_of_lt e3
    rw [fewOf_s0 e1 (Or.inr hge), fewB_0 (Or.inr (by rw [e2]; exact hge)), e2]
theorem sub_popc : ∀ S k : Fin 64, k.val < S.val → nI k.val &&& (nI S.val ^^^ (-1)) = 0 → popc (nI k.val) < popc (nI S.val) := by decide +kernel
theorem self_not : ∀ S : Fin 64, nI S.val &&& (nI S.val ^^^ (-1)) = 0 := by decide +kernel
theorem setOf_no {p : Nat → Bool} : ∀ {n : Nat}, (∀ t, t < n → p t = false) → setOf n p = 0
  | 0, _ => rfl
  | n + 1, h => by
    rw [← setOf_f (h n (by omega))]
    exact setOf_no (fun t ht => h t (by omega))
theorem out_none {b : Bk} {T : Nat → Int32} {s : Nat} (hb : BW b) : outW b T 0 s = 0 := by
  unfold outW outV
  refine setOf_no (fun t ht => ?_)
  have e : nearV b (u1 T 0 0) t = false := by
    unfold nearV
    have hby := (hb.2.2.2.1 t ht).1
    have h6 := hb.p6
    rw [show u1 T 0 (0 : Int32) 0 = nI 0 from rfl, tb_n (by omega) (by omega), Nat.zero_testBit]
    rfl
  unfold letV letS
  rw [e]
  simp
theorem send_few {b : Bk} {T : Nat → Int32} {j S : Nat} (hb : BW b) (hS : S < 64) (e0 : T 0 = nI S) : fewOf (S + 1) (sendP b T j) = some (fewB (sendP b T j) S (S + 1)) := by
  refine few_S ?_ (fun k hk hp => ?_)
  · unfold sendP
    rw [e0, self_not ⟨S, hS⟩, out_none hb]
    rfl
  · unfold sendP at hp
    rw [e0] at hp
    exact sub_popc ⟨S, hS⟩ ⟨k, by omega⟩ hk (of_decide_eq_true (Bool.and_eq_true _ _ ▸ hp).1)
/-! spark -/
def spkP (b : Bk) (T : Nat → Int32) (j set : Nat) : Bool := decide (nI set &&& T 0 = 0) && !decide (outW b T (T 0 ||| nI set) j = 0)
theorem few_all {p : Nat → Bool} : ∀ {n j : Nat}, fewOf n p = some j → ∀ k, k < n → p k = true → popc (nI j) ≤ popc (nI k)
  | 0, _, h, _, _, _ => by cases h
  | n + 1, j, h, k, hk, hp => by
    unfold fewOf at h
    cases e : fewOf n p with
    | none =>
      rw [e] at h
      simp only at h
      have hn := few_none e
      rcases Nat.lt_or_ge k n with q | q
      · rw [hn k q] at hp; cases hp
      · have : k = n := by omega
        subst this
        rw [hp] at h
        cases h
        exact Int32.le_refl _
    | some i =>
      rw [e] at h
      simp only at h
      have ih := few_all e
      split at h
      · next hc =>
        cases h
        rw [Bool.and_eq_true] at hc
        rcases Nat.lt_or_ge k n with q | q
        · exact Int32.le_of_lt (Int32.lt_of_lt_of_le (of_decide_eq_true hc.1) (ih k q hp))
        · rw [show k = n by omega]; exact Int32.le_refl _
      · next hc =>
        cases h
        rcases Nat.lt_or_ge k n with q | q
        · exact ih k q hp
        · have : k = n := by omega
          subst this
          exact Int32.not_lt.mp (fun z => hc (by rw [hp, decide_eq_true z]; rfl))
theorem least_none {p : Nat → Bool} {f : Nat → Int32} : ∀ {n : Nat}, leastOf n p f = none → ∀ k, k < n → p k = false
  | 0, _, k, hk => absurd hk (by omega)
  | n + 1, h, k, hk => by
    unfold leastOf at h
    cases e : leastOf n p f with
    | some j => rw [e] at h; simp only at h; split at h <;> cases h
    | none =>
      rw [e] at h
      simp only at h
      cases ep : p n with
      | true => rw [ep] at h; cases h
      | false =>
        rcases Nat.lt_or_ge k n with q | q
        · exact least_none e k q
        · rw [show k = n by omega]; exact ep
theorem least_all {p : Nat → Bool} {f : Nat → Int32} : ∀ {n j : Nat}, leastOf n p f = some j → p j = true ∧ ∀ k, k < n → p k = true → f j ≤ f k
  | 0, _, h => by cases h
  | n + 1, j, h => by
    unfold leastOf at h
    cases e : leastOf n p f with
    | none =>
      rw [e] at h
      simp only at h
      have hn := least_none e
      split at h
      · next hc =>
        cases h
        refine ⟨hc, fun k hk hp => ?_⟩
        rcases Nat.lt_or_ge k n with q | q
        · rw [hn k q] at hp; cases hp
        · rw [show k = n by omega]; exact Int32.le_refl _
      · cases h
    | some i =>
      rw [e] at h
      simp only at h
      have ih := least_all e
      split at h
      · next hc =>
        cases h
        rw [Bool.and_eq_true] at hc
        refine ⟨hc.1, fun k hk hp => ?_⟩
        rcases Nat.lt_or_ge k n with q | q
        · exact Int32.le_of_lt (Int32.lt_of_lt_of_le (of_decide_eq_true hc.2) (ih.2 k q hp))
        · rw [show k = n by omega]; exact Int32.le_refl _
      · next hc =>
        cases h
        refine ⟨ih.1, fun k hk hp => ?_⟩
        rcases Nat.lt_or_ge k n with q | q
        · exact ih.2 k q hp
        · have : k = n := by omega
          subst this
          exact Int32.not_lt.mp (fun z => hc (by rw [hp, decide_eq_true z]; rfl))
theorem spk_1 : ∀ S k : Fin 64, nI k.val &&& nI S.val = 0 → nI S.val &&& (nI (S.val ||| k.val) ^^^ (-1)) = 0 ∧ nI (S.val ||| k.val) &&& (nI S.val ^^^ (-1)) = nI k.val := by decide +kernel
theorem spk_2 : ∀ S k : Fin 64, nI S.val &&& (nI k.val ^^^ (-1)) = 0 → nI (k.val ^^^ S.val) &&& nI S.val = 0 ∧ nI S.val ||| nI (k.val ^^^ S.val) = nI k.val ∧ nI k.val &&& (nI S.val ^^^ (-1)) = nI (k.val ^^^ S.val) := by decide +kernel
section SPK
variable {b : Bk} {T : Nat → Int32} {j S : Nat}
theorem spk_a (h6 : 2 ^ nP b ≤ 64) (hS : S < 2 ^ nP b) (e0 : T 0 = nI S) {k : Nat} (hk : k < 2 ^ nP b) (h : spkP b T j k = true) : S ||| k < 2 ^ nP b ∧ sparkP b T j (S ||| k) = true ∧ sparkF T (S ||| k) = popc (nI k) := by
  unfold spkP at h
  rw [e0, Bool.and_eq_true, nI_or] at h
  obtain ⟨a1, a2⟩ := spk_1 ⟨S, by omega⟩ ⟨k, by omega⟩ (of_decide_eq_true h.1)
  refine ⟨Nat.or_lt_two_pow hS hk, ?_, ?_⟩
  · unfold sparkP
    rw [e0, decide_eq_true a1, h.2]
    rfl
  · unfold sparkF
    rw [e0]
    exact congrArg popc a2
theorem spk_b (h6 : 2 ^ nP b ≤ 64) (hS : S < 2 ^ nP b) (e0 : T 0 = nI S) {k : Nat} (hk : k < 2 ^ nP b) (h : sparkP b T j k = true) : k ^^^ S < 2 ^ nP b ∧ spkP b T j (k ^^^ S) = true ∧ sparkF T k = popc (nI (k ^^^ S)) := by
  unfold sparkP at h
  rw [e0, Bool.and_eq_true] at h
  obtain ⟨a1, a2, a3⟩ := spk_2 ⟨S, by omega⟩ ⟨k, by omega⟩ (of_decide_eq_true h.1)
  refine ⟨Nat.xor_lt_two_pow hk hS, ?_, ?_⟩
  · unfold spkP
    rw [e0]
    simp only at a1 a2
    rw [a2, decide_eq_true a1, h.2]
    rfl
  · unfold sparkF
    rw [e0]
    exact congrArg popc a3
theorem spark_n (h6 : 2 ^ nP b ≤ 64) (hS : S < 2 ^ nP b) (e0 : T 0 = nI S) (h : fewOf (2 ^ nP b) (spkP b T j) = none) : atI (leastOf (2 ^ nP b) (sparkP b T j) (sparkF T)) (-1) (sparkF T) = -1 := by
  cases e : leastOf (2 ^ nP b) (sparkP b T j) (sparkF T) with
  | none => rfl
  | some w =>
    have a := spk_b h6 hS e0 (leastOf_lt e) (least_all e).1
    have c := few_none h _ a.1
    rw [a.2.1] at c
    cases c
theorem spark_s (h6 : 2 ^ nP b ≤ 64) (hS : S < 2 ^ nP b) (e0 : T 0 = nI S) {jb : Nat} (h : fewOf (2 ^ nP b) (spkP b T j) = some jb) : atI (leastOf (2 ^ nP b) (sparkP b T j) (sparkF T)) (-1) (sparkF T) = popc (nI jb) := by
  have f := fewOf_lt h
  have a := spk_a h6 hS e0 f.1 f.2
  cases e : leastOf (2 ^ nP b) (sparkP b T j) (sparkF T) with
  | none =>
    have c := least_none e _ a.1
    rw [a.2.1] at c
    cases c
  | some w =>
    have l := least_all e
    have d := spk_b h6 hS e0 (leastOf_lt e) l.1
    show sparkF T w = _
    refine Int32.le_antisymm ?_ ?_
    · rw [← a.2.2]; exact l.2 _ a.1 a.2.1
    · rw [d.2.2]; exact few_all h _ d.1 d.2.1
end SPK
/-! one thing's word -/
theorem outS_bit {b : Bk} {T : Nat → Int32} {s t : Nat} {sh : Int32} (hb : BW b) (ht : t < nT b) (h1 : stV T t = true) (h2 : T (2 + t) = nI s) : tb (outS b T sh s) t = letS b T (if sh < 0 then nI (bSh b (bBy b t)) else sh) s t := by
  have h10 := hb.t10
  unfold outS
  rw [tb_setOf _ (by omega) ht]
  unfold inV
  rw [tb_setOf _ (by omega) ht, h1, decide_eq_true h2]
  rfl
theorem shy_b {b : Bk} {T : Nat → Int32} {s t i : Nat} (hb : BW b) (ht : t < nT b) (h1 : stV T t = true) (h2 : T (2 + t) = nI s) (hi : i < 2 ^ 31) : tb (outS b T (nI i) s) t = letS b T (nI i) s t := by
  rw [outS_bit hb ht h1 h2, if_neg (nI_pos hi)]
theorem st_gr {b : Bk} {U : Nat → Int32} {s t : Nat} (hb : BW b) (hw : TW b U) (ht : t < nT b) : stV (grT b U s) t = (stV U t && !tb (outV b U s) t) := by
  have h10 := hb.t10
  unfold stV
  have e : grT b U s 1 = U 1 ||| outV b U s := by
    unfold grT
    rw [u1_ne (by omega), u1_self]
  rw [e, tb_or (m := nT b) (by omega) (by omega) hw.2.1 (outV_lt hb s)]
  cases tb (U 1) t <;> cases tb (outV b U s) t <;> rfl
theorem TW.gi {b : Bk} {T : Nat → Int32} {s : Nat} (hw : TW b T) (hb : BW b) (hs : s < nS b) : ∀ n, TW b (giT b T s n)
  | 0 => hw
  | n + 1 => (TW.gi hw hb hs n).gr hb hs
/-! blend -/
def blX (T : Nat → Int32) (o s : Int32) (n : Nat) : Nat → Int32 := fun k => if 2 ≤ k ∧ k < 2 + n ∧ T k = o then s else T k
theorem blX_at {T : Nat → Int32} {o s : Int32} {n : Nat} : blX T o s n (2 + n) = T (2 + n) := if_neg (by omega)
theorem blX_0 {T : Nat → Int32} {o s : Int32} (k : Nat) : T k = blX T o s 0 k := (if_neg (by omega)).symm
theorem blX_s {T : Nat → Int32} {o s v : Int32} {n : Nat} (hv : (if T (2 + n) = o then s else T (2 + n)) = v) (k : Nat) : u1 (blX T o s n) (2 + n) v k = blX T o s (n + 1) k := by
  by_cases hk : k = 2 + n
  · subst hk
    rw [u1_self, ← hv]
    unfold blX
    by_cases e : T (2 + n) = o
    · rw [if_pos e, if_pos ⟨by omega, by omega, e⟩]
    · rw [if_neg e, if_neg (fun z => e z.2.2)]
  · rw [u1_ne hk]
    unfold blX
    by_cases hc : 2 ≤ k ∧ k < 2 + n ∧ T k = o
    · rw [if_pos hc, if_pos ⟨hc.1, by omega, hc.2.2⟩]
    · rw [if_neg hc, if_neg (fun z => hc ⟨z.1, by omega, z.2.2⟩)]
theorem TW.blx {b : Bk} {T : Nat → Int32} (hw : TW b T) {o : Int32} {j n : Nat} (hj : j < nS b) (hn : n ≤ 10) : TW b (blX T o (nI j) n) := by
  obtain ⟨a0, a1, a2, a3, a4, a5⟩ := hw
  have e : ∀ k, (k < 2 ∨ 12 ≤ k) → blX T o (nI j) n k = T k := fun k hk => if_neg (by omega)
  refine ⟨by rw [e 0 (by omega)]; exact a0, by rw [e 1 (by omega)]; exact a1, fun t ht => ?_, fun s hs => by rw [e _ (by omega)]; exact a3 s hs, by rw [e 17 (by omega)]; exact a4, by rw [e 18 (by omega)]; exact a5⟩
  unfold blX
  split
  · exact Or.inr ⟨j, hj, rfl⟩
  · exact a2 t ht
theorem bl_out {b : Bk} {T : Nat → Int32} {o s : Int32} {n j : Nat} (hn : n ≤ 10) : outV b (blX T o s n) j = outV b (blT T o s n) j := by
  have e : ∀ k, (k < 2 ∨ 12 ≤ k) → blX T o s n k = blT T o s n k := fun k hk => by
    unfold blX blT
    rw [if_neg (by omega), if_neg (by omega)]
  refine outV_congr ?_ (e 0 (by omega)) (e _ (by omega)) (e 17 (by omega))
  unfold inV
  refine setOf_ext (fun t ht => ?_)
  have e1 : stV (blX T o s n) t = stV T t := by unfold stV; rw [show blX T o s n 1 = T 1 from if_neg (by omega)]
  rw [blT_st, e1]
  cases hst : stV T t with
  | false => rfl
  | true =>
    have e2 : blX T o s n (2 + t) = blT T o s n (2 + t) := by
      unfold blX blT
      rw [show 2 + t - 2 = t by omega, hst]
      by_cases hc : 2 ≤ 2 + t ∧ 2 + t < 2 + n ∧ T (2 + t) = o
      · rw [if_pos hc, if_pos ⟨hc.1, hc.2.1, rfl, hc.2.2⟩]
      · rw [if_neg hc, if_neg (fun z => hc ⟨z.1, z.2.1, z.2.2.2⟩)]
    rw [e2]
