/-! ===== THE JDK: strings (walks by program) ===== -/
set_option maxRecDepth 100000

/-- two rows of bytes are the same -/
def seqV (f : Nat → Int32) (n : Nat) (g : Nat → Int32) (m : Nat) : Bool := decide (n = m) && allB n (fun j => decide (f j = g j))
/-- the string w has n bytes f -/
def StrAt (w : Nat) (f : Nat → Int32) (n : Nat) (h : ev_H) : Prop := hK h w = 23 ∧ hI h w 1 = 0 ∧ hK h (hR h w 0) = 101 ∧ hL h (hR h w 0) = n ∧ n < 2 ^ 30 ∧ ∀ i, i < n → hI h (hR h w 0) i = f i
def hsF (f : Nat → Int32) : Nat → Int32
  | 0 => 0
  | n + 1 => 31 * hsF f n + (f n &&& 255)
/-- what is kept of its hash -/
def StrH (w : Nat) (f : Nat → Int32) (n : Nat) (hv : Int32) (hz : Bool) (h : ev_H) : Prop := hI h w 2 = hv ∧ hI h w 3 = b2i hz ∧ (hv = 0 ∨ hv = hsF f n) ∧ (hz = true → hsF f n = 0)
section SQ
variable {f g : Nat → Int32} {n m w w2 : Nat} {h h1 : ev_H} {hv : Int32} {hz : Bool}
theorem sq_n (e : n ≠ m) : seqV f n g m = false := by unfold seqV; rw [decide_eq_false e]; rfl
theorem sq_f {i : Nat} (hi : i < n) (e : ¬ f i = g i) : seqV f n g m = false := by
  unfold seqV
  rw [allB_f (i := i) hi (decide_eq_false e)]
  simp
theorem sq_t (e : n = m) (q : allB n (fun j => decide (f j = g j)) = true) : seqV f n g m = true := by
  unfold seqV; rw [decide_eq_true e, q]; rfl
theorem sq_all {p : Nat → Bool} : ∀ {n : Nat}, (∀ i, i < n → p i = true) → allB n p = true
  | 0, _ => rfl
  | n + 1, h => allB_s (sq_all (fun i hi => h i (by omega))) (h n (by omega))
theorem sq_same (a : StrAt w f n h) (c : StrAt w g m h) : seqV f n g m = true := by
  have e : n = m := a.2.2.2.1.symm.trans c.2.2.2.1
  subst e
  exact sq_t rfl (sq_all (fun i hi => decide_eq_true ((a.2.2.2.2.2 i hi).symm.trans (c.2.2.2.2.2 i hi))))
theorem hs_1 {f : Nat → Int32} : f 0 &&& 255 = hsF f 1 := by
  show _ = 31 * (0 : Int32) + (f 0 &&& 255)
  simp
theorem StrAt.fr {as : List Nat} (x : StrAt w f n h) (p : Fr as [] h h1) (o1 : w ∉ as) (o2 : hR h w 0 ∉ as) : StrAt w f n h1 := by
  obtain ⟨x1, x2, x3, x4, x5, x6⟩ := x
  unfold StrAt
  rw [p.2.1, p.2.2.1, p.2.2.2.1]
  exact ⟨x1, (p.2.2.2.2.2 w 1 o1 (fun _ => by simp)).trans x2, x3, x4, x5, fun i hi => (p.2.2.2.2.2 _ i o2 (fun _ => by simp)).trans (x6 i hi)⟩
theorem StrAt.sh {k : Nat} {v : Int32} (x : StrAt w f n h) (hk : 1 ≠ k) : StrAt w f n (sI h w k v) := by
  obtain ⟨x1, x2, x3, x4, x5, x6⟩ := x
  exact ⟨x1, (rdI_k hk).trans x2, x3, x4, x5, fun i hi => (rdI_s (fun e => by rw [show hR h w 0 = w from e, x1] at x3; cases x3)).trans (x6 i hi)⟩
theorem StrH.next (x : StrH w f n hv hz h) : ∃ hv hz, StrH w f n hv hz h := ⟨hv, hz, x⟩
theorem sh_1 (x : StrH w f n hv hz h) (c : ¬ hv = 0) : hv = hsF f n := x.2.2.1.elim (fun z => absurd z c) (fun z => z)
theorem sh_2 (x : StrH w f n hv hz h) (c : hv = 0) (d : hz = true) : hv = hsF f n := c.trans (x.2.2.2 d).symm
theorem sh_z (x : StrH w f n hv hz h) (c : hsF f n = 0) : ∃ hv hz, StrH w f n hv hz (sI h w 3 (b2i true)) := ⟨hv, true, (rdI_k (by decide)).trans x.1, fs_at, x.2.2.1, fun _ => c⟩
theorem sh_s (x : StrH w f n hv hz h) : ∃ hv hz, StrH w f n hv hz (sI h w 2 (hsF f n)) := ⟨hsF f n, hz, fs_at, (rdI_k (by decide)).trans x.2.1, Or.inr rfl, x.2.2.2⟩
end SQ
section ACM
variable {G : ev_G} {M : ev_M} {R : Room} {Qf : List Frame → Array Value → State → State → Prop} {pc uc us : Nat} {L : List (Option ev_V)} {st : List ev_V} {h : ev_H}
theorem r_acmp_ne3 {x y : Nat} {off : Int} {tgt : Nat} (hd : decode M.2.1 pc = .ok (.if_acmp .ne off, 3)) (ht : (pc : Int) + off = (tgt : Int)) (hx : hK h x ≠ 0) (hy : hK h y ≠ 0) (hc : ev_c < x) (kt : ¬ x = y → Ev G M R Qf tgt L st h uc us) (kf : x = y → Ev G M R Qf (pc + 3) L st h uc us) : Ev G M R Qf pc L (vR y :: vR x :: st) h uc us := fun p e s m args below meth c H locs ls X hr hS hl => by
  refine r_acmp_ne2 hd ht kt (fun z => kf ?_) p e s m args below meth c H locs ls X hr hS hl
  have px := hr.1.2.1 x hx
  have py := hr.1.2.1 y hy
  unfold go at z
  rw [if_neg (by omega), if_neg (by omega)] at z
  have z := Option.some.inj z
  rcases Nat.lt_or_ge ev_c y with q | q
  · unfold ga at z
    rw [if_neg (by omega), if_neg (by omega)] at z
    omega
  · have := (hr.2.2.2 y q hy).1
    rw [← z] at this
    unfold ga at this
    rw [if_neg (by omega)] at this
    omega
end ACM

theorem xJ12_equals {G : ev_G} {h : ev_H} {a c n m : Nat} {f g : Nat → Int32} (ka : hK h a = 101) (la : hL h a = n) (fa : ∀ i, i < n → hI h a i = f i) (kc : hK h c = 101) (lc : hL h c = m) (fc : ∀ i, i < m → hI h c i = g i) (hn : n < 2 ^ 30) (hm : m < 2 ^ 30) : Called G mJ12_equals 0 0 0 [vR a, vR c] h (px (vI (b2i (seqV f n g m))) h) := by
  refine called_of rfl [some (vR a), some (vR c), none] rfl (Nat.le_of_ble_eq_true rfl) ?_
  refine r_aload_n dJ12_equals_0 rfl ?_
  refine r_alen (t := 1) (ka) dJ12_equals_1 ?_
  refine r_top (nI n) (congrArg nI (la)) ?_
  refine r_aload_n dJ12_equals_2 rfl ?_
  refine r_alen (t := 1) (kc) dJ12_equals_3 ?_
  refine r_top (nI m) (congrArg nI (lc)) ?_
  refine r_icmpN_ne (tgt := 34) dJ12_equals_4 rfl (by omega) (by omega) (fun c1 => ?_) (fun c1 => ?_)
  · --
    refine r_iconst (v := nI 0) dJ12_equals_34 (by decide) ?_
    exact r_ret0 dJ12_equals_35 rfl (sq_n c1)
  · --
    refine r_iconst (v := nI 0) dJ12_equals_7 (by decide) ?_
    refine r_istore_n dJ12_equals_8 (by decide) rfl ?_
    refine (ev_for (P := fun i => (allB i (fun j => decide (f j = g j)) = true) → Ev G mJ12_equals (ev_room 0 0 0) (ev_MQ G (px (vI (b2i (seqV f n g m))) h) 0 0) 9 [some (vR a), some (vR c), some (vI (nI i))] [] h 0 0) n (fun i hki ihi qi => ?_)) 0 (Nat.zero_le _) (rfl)
    refine r_iload_n dJ12_equals_9 rfl ?_
    refine r_aload_n dJ12_equals_10 rfl ?_
    refine r_alen (t := 1) (ka) dJ12_equals_11 ?_
    refine r_top (nI n) (congrArg nI (la)) ?_
    refine r_icmpN_ge (tgt := 32) dJ12_equals_12 rfl (by omega) (by omega) (fun c2 => ?_) (fun c2 => ?_)
    · --
      refine r_iconst (v := nI 1) dJ12_equals_32 (by decide) ?_
      exact r_ret1 dJ12_equals_33 rfl (sq_t (by omega) (by rw [← show i = n by omega]; exact qi))
    · --
      refine r_aload_n dJ12_equals_15 rfl ?_
      refine r_iload_n dJ12_equals_16 rfl ?_
      refine r_baldv (ka) (la) (ix_n (by omega) (by omega)) (v := f i) (fa i (by omega)) dJ12_equals_17 ?_
      refine r_aload_n dJ12_equals_18 rfl ?_
      refine r_iload_n dJ12_equals_19 rfl ?_
      refine r_baldv (kc) (lc) (ix_n (by omega) (by omega)) (v := g i) (fc i (by omega)) dJ12_equals_20 ?_
      refine r_icmp_eq (tgt := 26) dJ12_equals_21 rfl (fun c3 => ?_) (fun c3 => ?_)
      · --
        refine r_iincN (n := 1) dJ12_equals_26 rfl rfl (by decide) rfl ?_
        refine r_goto (tgt := 9) dJ12_equals_29 rfl ?_
        exact ihi (by omega) (allB_s qi (decide_eq_true c3))
      · --
        refine r_iconst (v := nI 0) dJ12_equals_24 (by decide) ?_
        exact r_ret0 dJ12_equals_25 rfl (sq_f (i := i) (by omega) c3)

theorem xJ7_equals {G : ev_G} {h : ev_H} {w n : Nat} {f : Nat → Int32} (hw : StrAt w f n h) {w2 m : Nat} {g : Nat → Int32} (hv : StrAt w2 g m h) (hc : ev_c < w) : Called G mJ7_equals 1 0 0 [vR w, vR w2] h (px (vI (b2i (seqV f n g m))) h) := by
  refine called_of rfl [some (vR w), some (vR w2), none] rfl (Nat.le_of_ble_eq_true rfl) ?_
  refine r_aload_n dJ7_equals_0 rfl ?_
  refine r_aload_n dJ7_equals_1 rfl ?_
  refine r_acmp_ne3 (tgt := 7) dJ7_equals_2 rfl (nz_ hw.1 (by decide)) (nz_ hv.1 (by decide)) (hc) (fun c1 => ?_) (fun c1 => ?_)
  · --
    refine r_aload_n dJ7_equals_7 rfl ?_
    refine r_inst (ci := 22) rfl q703 (hv.1) (by decide) dJ7_equals_8 ?_
    refine r_if_eq (tgt := 54) dJ7_equals_11 rfl (fun c2 => ?_) (fun c2 => ?_)
    · --
      exact absurd c2 (by decide)
    · --
      refine r_aload_n dJ7_equals_14 rfl ?_
      refine r_cast (ci := 22) q703 (hv.1) (by decide) rfl (Or.inl rfl) dJ7_equals_15 ?_
      refine r_astore_n dJ7_equals_18 (by decide) rfl ?_
      refine r_gets (q := ("java/lang/String", "COMPACT_STRINGS", "Z", vI 1)) List.mem_cons_self q656 dJ7_equals_19 ?_
      refine r_if_eq (tgt := 36) dJ7_equals_22 rfl (fun c3 => ?_) (fun c3 => ?_)
      · --
        exact absurd c3 (by decide)
      · --
        refine r_aload_n dJ7_equals_25 rfl ?_
        refine r_getIv fJ7_15 (hw.1) (v := 0) (hw.2.1) rfl dJ7_equals_26 ?_
        refine r_aload_n dJ7_equals_29 rfl ?_
        refine r_getIv fJ7_15 (hv.1) (v := 0) (hv.2.1) rfl dJ7_equals_30 ?_
        refine r_icmp_ne (tgt := 54) dJ7_equals_33 rfl (fun c4 => ?_) (fun c4 => ?_)
        · --
          exact absurd rfl c4
        · --
          refine r_aload_n dJ7_equals_36 rfl ?_
          refine r_getR fJ7_9 (hw.1) rfl dJ7_equals_37 ?_
          refine r_aload_n dJ7_equals_40 rfl ?_
          refine r_getR fJ7_9 (hv.1) rfl dJ7_equals_41 ?_
          refine r_callSx lJ7_541 (xJ12_equals hw.2.2.1 hw.2.2.2.1 hw.2.2.2.2.2 hv.2.2.1 hv.2.2.2.1 hv.2.2.2.2.2 hw.2.2.2.2.1 hv.2.2.2.2.1) rfl rfl rfl rfl dJ7_equals_44 (Nat.le_refl _) (Nat.le_refl _) ?_
          refine r_ifB_eq (tgt := 54) dJ7_equals_47 rfl (fun c5 => ?_) (fun c5 => ?_)
          · --
            refine r_iconst (v := nI 0) dJ7_equals_54 (by decide) ?_
            exact r_ret0 dJ7_equals_55 rfl (c5)
          · --
            refine r_iconst (v := nI 1) dJ7_equals_50 (by decide) ?_
            refine r_goto (tgt := 55) dJ7_equals_51 rfl ?_
            exact r_ret1 dJ7_equals_55 rfl (c5)
  · --
    refine r_iconst (v := nI 1) dJ7_equals_5 (by decide) ?_
    exact r_ret1 dJ7_equals_6 rfl (sq_same hw (by rw [c1]; exact hv))

theorem xJ9_signedHashCode {G : ev_G} {h : ev_H} {a n : Nat} {f : Nat → Int32} (ka : hK h a = 101) (la : hL h a = n) (fa : ∀ i, i < n → hI h a i = f i) (hn : n < 2 ^ 30) : Called G mJ9_signedHashCode 0 0 0 [vI 0, vR a, vI (nI 0), vI (nI n)] h (px (vI (hsF f n)) h) := by
  refine called_of rfl [some (vI 0), some (vR a), some (vI (nI 0)), some (vI (nI n)), none, none] rfl (Nat.le_of_ble_eq_true rfl) ?_
  refine r_iload_n dJ9_signedHashCode_0 rfl ?_
  refine r_iload_n dJ9_signedHashCode_1 rfl ?_
  refine r_iadd dJ9_signedHashCode_2 ?_
  refine r_top (nI (0 + n)) (nI_add _ _) ?_
  refine r_istore dJ9_signedHashCode_3 (by decide) rfl ?_
  refine r_iload_n dJ9_signedHashCode_5 rfl ?_
  refine r_istore dJ9_signedHashCode_6 (by decide) rfl ?_
  refine r_L (L2 := [some (vI (hsF f 0)), some (vR a), some (vI (nI 0)), some (vI (nI n)), some (vI (nI n)), some (vI (nI 0))]) (by rw [Nat.zero_add]; rfl) ?_
  refine (ev_for (P := fun i => Ev G mJ9_signedHashCode (ev_room 0 0 0) (ev_MQ G (px (vI (hsF f n)) h) 0 0) 8 [some (vI (hsF f i)), some (vR a), some (vI (nI 0)), some (vI (nI n)), some (vI (nI n)), some (vI (nI i))] [] h 0 0) n (fun i hki ihi => ?_)) 0 (Nat.zero_le _)
  refine r_iload dJ9_signedHashCode_8 rfl ?_
  refine r_iload dJ9_signedHashCode_10 rfl ?_
  refine r_icmpN_ge (tgt := 35) dJ9_signedHashCode_12 rfl (by omega) (by omega) (fun c1 => ?_) (fun c1 => ?_)
  · --
    refine r_iload_n dJ9_signedHashCode_35 rfl ?_
    exact r_retx dJ9_signedHashCode_36 rfl rfl (by rw [show i = n by omega])
  · --
    refine r_bipush (v := 31) dJ9_signedHashCode_15 (by decide) ?_
    refine r_iload_n dJ9_signedHashCode_17 rfl ?_
    refine r_imul dJ9_signedHashCode_18 ?_
    refine r_aload_n dJ9_signedHashCode_19 rfl ?_
    refine r_iload dJ9_signedHashCode_20 rfl ?_
    refine r_baldv (ka) (la) (ix_n (by omega) (by omega)) (v := f i) (fa i (by omega)) dJ9_signedHashCode_22 ?_
    refine r_sipush (v := 255) dJ9_signedHashCode_23 (by decide) ?_
    refine r_iand dJ9_signedHashCode_26 ?_
    refine r_iadd dJ9_signedHashCode_27 ?_
    refine r_istore_n dJ9_signedHashCode_28 (by decide) rfl ?_
    refine r_iincN (n := 1) dJ9_signedHashCode_29 rfl rfl (by decide) rfl ?_
    refine r_goto (tgt := 8) dJ9_signedHashCode_32 rfl ?_
    exact r_L (rfl) (ihi (by omega))

theorem xJ9_vectorizedHashCode {G : ev_G} {h : ev_H} {a n : Nat} {f : Nat → Int32} (ka : hK h a = 101) (hc : ev_c < a) (la : hL h a = n) (fa : ∀ i, i < n → hI h a i = f i) (hn : n < 2 ^ 30) : Called G mJ9_vectorizedHashCode 1 0 0 [vR a, vI (nI 0), vI (nI n), vI 0, vI (nI 4)] h (px (vI (hsF f n)) h) := by
  refine called_of rfl [some (vR a), some (vI (nI 0)), some (vI (nI n)), some (vI 0), some (vI (nI 4))] rfl (Nat.le_of_ble_eq_true rfl) ?_
  refine r_iload dJ9_vectorizedHashCode_0 rfl ?_
  refine r_tswC (tgt := 44) (off := 42) 4 dJ9_vectorizedHashCode_2 rfl (by decide) rfl ?_
  refine r_iload_n dJ9_vectorizedHashCode_44 rfl ?_
  refine r_aload_n dJ9_vectorizedHashCode_45 rfl ?_
  refine r_castA (t := 1) (by decide) rfl q736 ka hc dJ9_vectorizedHashCode_46 ?_
  refine r_iload_n dJ9_vectorizedHashCode_49 rfl ?_
  refine r_iload_n dJ9_vectorizedHashCode_50 rfl ?_
  refine r_callSx lJ9_62 (xJ9_signedHashCode ka la fa hn) rfl rfl rfl rfl dJ9_vectorizedHashCode_51 (Nat.le_refl _) (Nat.le_refl _) ?_
  refine r_goto (tgt := 157) dJ9_vectorizedHashCode_54 rfl ?_
  exact r_retx dJ9_vectorizedHashCode_157 rfl rfl (rfl)

theorem xJ12_hashCode {G : ev_G} {h : ev_H} {a n : Nat} {f : Nat → Int32} (ka : hK h a = 101) (hc : ev_c < a) (la : hL h a = n) (fa : ∀ i, i < n → hI h a i = f i) (hn : n < 2 ^ 30) : Called G mJ12_hashCode 2 0 0 [vR a] h (px (vI (hsF f n)) h) := by
  refine called_of rfl [some (vR a)] rfl (Nat.le_of_ble_eq_true rfl) ?_
  refine r_aload_n dJ12_hashCode_0 rfl ?_
  refine r_alen (t := 1) (ka) dJ12_hashCode_1 ?_
  refine r_top (nI n) (congrArg nI (la)) ?_
  by_cases e0 : n = 0
  · refine r_lswC (tgt := 28) (off := 26) 0 dJ12_hashCode_2 (by decide) (by rw [e0]; rfl) (by decide) rfl ?_
    refine r_iconst (v := nI 0) dJ12_hashCode_28 (by decide) ?_
    refine r_goto (tgt := 51) dJ12_hashCode_29 rfl ?_
    exact r_retx dJ12_hashCode_51 rfl rfl (by rw [e0]; rfl)
  by_cases e1 : n = 1
  · refine r_lswC (tgt := 32) (off := 30) 1 dJ12_hashCode_2 (by decide) (by rw [e1]; rfl) (by decide) rfl ?_
    refine r_aload_n dJ12_hashCode_32 rfl ?_
    refine r_iconst (v := nI 0) dJ12_hashCode_33 (by decide) ?_
    refine r_baldv (ka) (la) (ix_n (by omega) (by omega)) (v := f 0) (fa 0 (by omega)) dJ12_hashCode_34 ?_
    refine r_sipush (v := 255) dJ12_hashCode_35 (by decide) ?_
    refine r_iand dJ12_hashCode_38 ?_
    refine r_goto (tgt := 51) dJ12_hashCode_39 rfl ?_
    exact r_retx dJ12_hashCode_51 rfl rfl (by rw [e1]; exact hs_1)
  refine r_lswD (tgt := 42) [0, 1] dJ12_hashCode_2 (by decide) (by decide) (fun v hv => ?_) rfl ?_
  · rcases List.mem_cons.mp hv with z | z
    · rw [z]; exact fun q => e0 (nI_z (by omega) q)
    · rw [List.mem_singleton.mp z]; exact fun q => e1 ((neq (by omega) (by decide)).mp q)
  refine r_aload_n dJ12_hashCode_42 rfl ?_
  refine r_iconst (v := nI 0) dJ12_hashCode_43 (by decide) ?_
  refine r_aload_n dJ12_hashCode_44 rfl ?_
  refine r_alen (t := 1) (ka) dJ12_hashCode_45 ?_
  refine r_top (nI n) (congrArg nI (la)) ?_
  refine r_iconst (v := 0) dJ12_hashCode_46 (by decide) ?_
  refine r_iconst (v := nI 4) dJ12_hashCode_47 (by decide) ?_
  refine r_callSx lJ12_84 (xJ9_vectorizedHashCode ka hc la fa hn) rfl rfl rfl rfl dJ12_hashCode_48 (Nat.le_refl _) (Nat.le_refl _) ?_
  exact r_retx dJ12_hashCode_51 rfl rfl (rfl)

theorem xJ7_isLatin1 {G : ev_G} {h : ev_H} {w n : Nat} {f : Nat → Int32} (hw : StrAt w f n h) : Called G mJ7_isLatin1 0 0 0 [vR w] h (px (vI (b2i true)) h) := by
  refine called_of rfl [some (vR w)] rfl (Nat.le_of_ble_eq_true rfl) ?_
  refine r_gets (q := ("java/lang/String", "COMPACT_STRINGS", "Z", vI 1)) List.mem_cons_self q656 dJ7_isLatin1_0 ?_
  refine r_if_eq (tgt := 17) dJ7_isLatin1_3 rfl (fun c1 => ?_) (fun c1 => ?_)
  · --
    exact absurd c1 (by decide)
  · --
    refine r_aload_n dJ7_isLatin1_6 rfl ?_
    refine r_getIv fJ7_15 (hw.1) (v := 0) (hw.2.1) rfl dJ7_isLatin1_7 ?_
    refine r_if_ne (tgt := 17) dJ7_isLatin1_10 rfl (fun c2 => ?_) (fun c2 => ?_)
    · --
      exact absurd rfl c2
    · --
      refine r_iconst (v := nI 1) dJ7_isLatin1_13 (by decide) ?_
      refine r_goto (tgt := 18) dJ7_isLatin1_14 rfl ?_
      exact r_ret1 dJ7_isLatin1_18 rfl (rfl)

theorem xJ7_hashCode {G : ev_G} {h : ev_H} {w n : Nat} {f : Nat → Int32} (hw : StrAt w f n h) (hc : ev_c < w) (hcv : ev_c < hR h w 0) {hv : Int32} {hz : Bool} (hh : StrH w f n hv hz h) : Called G mJ7_hashCode 3 0 0 [vR w] h (pI (fun y h1 => y = hsF f n ∧ StrAt w f n h1 ∧ Fr [w] [] h h1 ∧ (∃ hv hz, StrH w f n hv hz h1) ∧ ∀ j, j < 2 → hI h1 w j = hI h w j)) := by
  refine called_of rfl [some (vR w), none] rfl (Nat.le_of_ble_eq_true rfl) ?_
  refine r_aload_n dJ7_hashCode_0 rfl ?_
  refine r_getIv fJ7_19 (hw.1) (v := hv) (hh.1) rfl dJ7_hashCode_1 ?_
  refine r_istore_n dJ7_hashCode_4 (by decide) rfl ?_
  refine r_iload_n dJ7_hashCode_5 rfl ?_
  refine r_if_ne (tgt := 58) dJ7_hashCode_6 rfl (fun c1 => ?_) (fun c1 => ?_)
  · --
    refine r_iload_n dJ7_hashCode_58 rfl ?_
    exact r_reti dJ7_hashCode_59 rfl rfl (Nat.le_refl _) (Nat.le_refl _) ⟨sh_1 hh c1, hw, Fr.rf, hh.next, fun _ _ => rfl⟩
  · --
    refine r_aload_n dJ7_hashCode_9 rfl ?_
    refine r_getIv fJ7_23 (hw.1) (v := b2i hz) (hh.2.1) rfl dJ7_hashCode_10 ?_
    refine r_ifB_ne (tgt := 58) dJ7_hashCode_13 rfl (fun c2 => ?_) (fun c2 => ?_)
    · --
      refine r_iload_n dJ7_hashCode_58 rfl ?_
      exact r_reti dJ7_hashCode_59 rfl rfl (Nat.le_refl _) (Nat.le_refl _) ⟨sh_2 hh c1 c2, hw, Fr.rf, hh.next, fun _ _ => rfl⟩
    · --
      refine r_aload_n dJ7_hashCode_16 rfl ?_
      refine r_callVx lJ7_492 (xJ7_isLatin1 hw) (hw.1) rfl rfl rfl rfl dJ7_hashCode_17 (Nat.le_refl _) (Nat.le_refl _) ?_
      refine r_ifB_eq (tgt := 33) dJ7_hashCode_20 rfl (fun c3 => ?_) (fun c3 => ?_)
      · --
        exact absurd c3 (by decide)
      · --
        refine r_aload_n dJ7_hashCode_23 rfl ?_
        refine r_getRv fJ7_9 (hw.1) (v := hR h w 0) (rfl) rfl dJ7_hashCode_24 ?_
        refine r_callSx lJ7_628 (xJ12_hashCode hw.2.2.1 hcv hw.2.2.2.1 hw.2.2.2.2.2 hw.2.2.2.2.1) rfl rfl rfl rfl dJ7_hashCode_27 (Nat.le_refl _) (Nat.le_refl _) ?_
        refine r_goto (tgt := 40) dJ7_hashCode_30 rfl ?_
        refine r_istore_n dJ7_hashCode_40 (by decide) rfl ?_
        refine r_iload_n dJ7_hashCode_41 rfl ?_
        refine r_if_ne (tgt := 53) dJ7_hashCode_42 rfl (fun c4 => ?_) (fun c4 => ?_)
        · --
          refine r_aload_n dJ7_hashCode_53 rfl ?_
          refine r_iload_n dJ7_hashCode_54 rfl ?_
          refine r_putN fJ7_19 (hw.1) (hc) dJ7_hashCode_55 ?_
          refine r_iload_n dJ7_hashCode_58 rfl ?_
          exact r_reti dJ7_hashCode_59 rfl rfl (Nat.le_refl _) (Nat.le_refl _) ⟨rfl, hw.sh (by decide), Fr.rf.sa w 2 _ (by simp), sh_s hh, fun j hj => rdI_k (by omega)⟩
        · --
          refine r_aload_n dJ7_hashCode_45 rfl ?_
          refine r_iconst (v := nI 1) dJ7_hashCode_46 (by decide) ?_
          refine r_putB (p := true) fJ7_23 (hw.1) (hc) dJ7_hashCode_47 ?_
          refine r_goto (tgt := 58) dJ7_hashCode_50 rfl ?_
          refine r_iload_n dJ7_hashCode_58 rfl ?_
          exact r_reti dJ7_hashCode_59 rfl rfl (Nat.le_refl _) (Nat.le_refl _) ⟨rfl, hw.sh (by decide), Fr.rf.sa w 3 _ (by simp), sh_z hh c4, fun j hj => rdI_k (by omega)⟩
