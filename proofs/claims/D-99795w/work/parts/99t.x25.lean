/-! ===== THE SYSTEM: feed (walks by program) ===== -/
set_option maxRecDepth 100000

theorem wf_0 {h : ev_H} (w : ev_wf h) : hK h (hN h) = 0 := by
  by_cases e : hK h (hN h) = 0
  · exact e
  · have := (w.2.1 _ e).2; omega
section GR
variable {h h1 : ev_H} {S Q : Nat → Prop} {F : List Nat} {a k : Nat} {v : Int32}
theorem fg_si (p : Fg S F Q h h1) (e : S a ∨ hK h a = 0 ∨ (a = 64 ∧ k ∈ F)) : Fg S F Q h (sI h1 a k v) := ⟨p.1, fun c hc => by
  obtain ⟨p1, p2, p3, p4, p5⟩ := p.2 c hc
  refine ⟨p1, p2, p3, fun j x y => ?_, p5⟩
  refine Eq.trans (show u2 (hI h1) a k v c j = hI h1 c j from u2_ne (fun z => ?_)) (p4 j x y)
  rcases e with e | e | e
  · exact x (z.1 ▸ e)
  · exact hc (z.1 ▸ e)
  · exact y (z.1.trans e.1) (z.2 ▸ e.2)⟩
theorem fg_sr {v : Nat} (p : Fg S F Q h h1) (e : Q a ∨ hK h a = 0) : Fg S F Q h (sR h1 a k v) := ⟨p.1, fun c hc => by
  obtain ⟨p1, p2, p3, p4, p5⟩ := p.2 c hc
  refine ⟨p1, p2, fun z => Eq.trans (funext fun j => (show u2 (hR h1) a k v c j = hR h1 c j from u2_ne (fun y => ?_))) (p3 z), p4, p5⟩
  rcases e with e | e
  · exact z (y.1 ▸ e)
  · exact hc (y.1 ▸ e)⟩
theorem fg_no {c n : Nat} (p : Fg S F Q h h1) (w : ev_wf h1) : Fg S F Q h (nO h1 c n) := p.tr (Fg.nO w)
end GR
def fkJ (j : Nat) : Int32 := nI 24 - nI (8 * j)
theorem fk_lt : ∀ {j : Nat}, j ≤ 4 → (fkJ j < 0 ↔ j = 4)
  | 0, _ => by decide
  | 1, _ => by decide
  | 2, _ => by decide
  | 3, _ => by decide
  | 4, _ => by decide
theorem fk_s : ∀ {j : Nat}, j < 4 → fkJ j + Int32.ofInt (-8) = fkJ (j + 1)
  | 0, _ => by decide
  | 1, _ => by decide
  | 2, _ => by decide
  | 3, _ => by decide
theorem fk_n : ∀ {j : Nat}, j < 4 → fkJ j = nI (24 - 8 * j)
  | 0, _ => by decide
  | 1, _ => by decide
  | 2, _ => by decide
  | 3, _ => by decide
section FDS
variable {tp : Nat → Int32} {nt x n i j : Nat} {a c d e f y : Int32} {h h1 : ev_H}
theorem fd_b (hi : i < 5) (hj : j < 4) : ((feedW a c d e f (4 * i)) >>> ((fkJ j) &&& 31)).toInt8.toInt32 = feedB a c d e f (4 * i + j) := by
  unfold feedB
  rw [fk_n hj, show (4 * i + j) % 4 = j by omega]
  have : feedW a c d e f (4 * i + j) = feedW a c d e f (4 * i) := by
    unfold feedW
    rcases (show i = 0 ∨ i = 1 ∨ i = 2 ∨ i = 3 ∨ i = 4 by omega) with q | q | q | q | q <;> subst q
    · rw [if_pos (by omega), if_pos (by omega)]
    · rw [if_neg (by omega), if_pos (by omega), if_neg (by omega), if_pos (by omega)]
    · rw [if_neg (by omega), if_neg (by omega), if_pos (by omega), if_neg (by omega), if_neg (by omega), if_pos (by omega)]
    · rw [if_neg (by omega), if_neg (by omega), if_neg (by omega), if_pos (by omega), if_neg (by omega), if_neg (by omega), if_neg (by omega), if_pos (by omega)]
    · rw [if_neg (by omega), if_neg (by omega), if_neg (by omega), if_neg (by omega), if_neg (by omega), if_neg (by omega), if_neg (by omega), if_neg (by omega)]
  rw [this]
def FD (tp : Nat → Int32) (nt : Nat) (a c d e f : Int32) (x : Nat) (h : ev_H) (n : Nat) (h1 : ev_H) : Prop := Fg (fun a => a = 65) [1] noC h h1 ∧ (hK h1 x = 100 ∧ hL h1 x = 5 ∧ ∀ i, i < 5 → hI h1 x i = feedW a c d e f (4 * i)) ∧ hI h1 64 1 = nI (nt + n) ∧ ∀ k, k < 1600 → hI h1 65 k = feedT tp nt n a c d e f k
theorem FD.first (hl : XLay h) (hnt : hI h 64 1 = nI nt) (hA : ∀ k, k < 1600 → hI h 65 k = tp k) (g : Fg (fun a => a = 65) [1] noC h h1) (z : hK h x = 0) (k1 : hK h1 x = 100) (l1 : hL h1 x = 5) (h65 : ∀ k, hI h1 65 k = hI h 65 k := by assumption) (h64 : hI h1 64 1 = hI h 64 1 := by assumption) : FD tp nt a c d e f x h 0 (sI (sI (sI (sI (sI h1 x 0 a) x 1 c) x 2 d) x 3 e) x 4 f) := by
  have n65 : x ≠ 65 := fun q => by rw [q, hl.tape.1] at z; cases z
  have n64 : x ≠ 64 := fun q => by rw [q, hl.k] at z; cases z
  refine ⟨fg_si (fg_si (fg_si (fg_si (fg_si g (Or.inr (Or.inl z))) (Or.inr (Or.inl z))) (Or.inr (Or.inl z))) (Or.inr (Or.inl z))) (Or.inr (Or.inl z)), ⟨k1, l1, fun i hi => ?_⟩, ?_, fun k hk => ?_⟩
  · unfold feedW
    rcases (show i = 0 ∨ i = 1 ∨ i = 2 ∨ i = 3 ∨ i = 4 by omega) with q | q | q | q | q <;> subst q
    · rw [if_pos (by omega)]; exact (rdI_k (by omega)).trans ((rdI_k (by omega)).trans ((rdI_k (by omega)).trans ((rdI_k (by omega)).trans fs_at)))
    · rw [if_neg (by omega), if_pos (by omega)]; exact (rdI_k (by omega)).trans ((rdI_k (by omega)).trans ((rdI_k (by omega)).trans fs_at))
    · rw [if_neg (by omega), if_neg (by omega), if_pos (by omega)]; exact (rdI_k (by omega)).trans ((rdI_k (by omega)).trans fs_at)
    · rw [if_neg (by omega), if_neg (by omega), if_neg (by omega), if_pos (by omega)]; exact (rdI_k (by omega)).trans fs_at
    · rw [if_neg (by omega), if_neg (by omega), if_neg (by omega), if_neg (by omega)]; exact fs_at
  · exact (rdI_s (by omega)).trans ((rdI_s (by omega)).trans ((rdI_s (by omega)).trans ((rdI_s (by omega)).trans ((rdI_s (by omega)).trans (h64.trans hnt)))))
  · refine (rdI_s (by omega)).trans ((rdI_s (by omega)).trans ((rdI_s (by omega)).trans ((rdI_s (by omega)).trans ((rdI_s (by omega)).trans ((h65 k).trans ((hA k hk).trans ?_))))))
    unfold feedT
    rw [if_neg (by omega)]
theorem FD.step (q : FD tp nt a c d e f x h n h1) (hl : XLay h1) (hn : nt + n < 1600) (hy : y = feedB a c d e f n) : FD tp nt a c d e f x h (n + 1) (sI (sI h1 65 (nt + n) y) 64 1 (nI (nt + n + 1))) := by
  obtain ⟨q1, ⟨q2, q3, q4⟩, q5, q6⟩ := q
  have n65 : x ≠ 65 := fun z => by rw [z, hl.tape.1] at q2; cases q2
  have n64 : x ≠ 64 := fun z => by rw [z, hl.k] at q2; cases q2
  refine ⟨fg_si (fg_si q1 (Or.inl rfl)) (Or.inr (Or.inr ⟨rfl, List.mem_cons_self⟩)), ⟨q2, q3, fun i hi => (rdI_s (by omega)).trans ((rdI_s (by omega)).trans (q4 i hi))⟩, fs_at, fun k hk => (rdI_s (by decide)).trans ?_⟩
  unfold feedT
  by_cases hk2 : k = nt + n
  · subst hk2
    rw [if_pos ⟨by omega, by omega⟩, show nt + n - nt = n by omega, ← hy]
    exact fs_at
  · refine (rdI_k hk2).trans ((q6 k hk).trans ?_)
    unfold feedT
    by_cases h2 : nt ≤ k ∧ k < nt + n
    · rw [if_pos h2, if_pos ⟨h2.1, by omega⟩]
    · rw [if_neg h2, if_neg (fun z => h2 ⟨z.1, by omega⟩)]
end FDS

theorem x0_feed {G : ev_G} {h : ev_H} (hl : XLay h) {nt : Nat} {tp : Nat → Int32} (hnt : hI h 64 1 = nI nt) (hn : nt ≤ 1600) (hA0 : ∀ k, k < 1600 → hI h 65 k = tp k) (a c d e f : Int32) : Called G mX0_feed 0 1 5 [vR 64, vI a, vI c, vI d, vI e, vI f] h (pI (fun y h1 => y = (if fdOk nt then nI (nt + 20) else -1) ∧ Fg (fun a => a = 65) [1] noC h h1 ∧ hI h1 64 1 = (if fdOk nt then nI (nt + 20) else nI nt) ∧ ∀ k, k < 1600 → hI h1 65 k = (if fdOk nt then feedT tp nt 20 a c d e f else tp) k)) := by
  refine called_of rfl [some (vR 64), some (vI a), some (vI c), some (vI d), some (vI e), some (vI f), none, none, none, none, none, none] rfl (Nat.le_of_ble_eq_true rfl) ?_
  refine r_aload_n dX0_feed_0 rfl ?_
  refine r_getIv fX0_105 (hl.k) (v := nI nt) (hnt) rfl dX0_feed_1 ?_
  refine r_bipush (v := nI 20) dX0_feed_4 (by decide) ?_
  refine r_iadd dX0_feed_6 ?_
  refine r_top (nI (nt + 20)) (nI_add _ _) ?_
  refine r_sipush (v := nI 1600) dX0_feed_7 (by decide) ?_
  refine r_icmpN_le (tgt := 15) dX0_feed_10 rfl (by omega) (by omega) (fun c1 => ?_) (fun c1 => ?_)
  · --
    refine r_iconst (v := nI 5) dX0_feed_15 (by decide) ?_
    refine r_wf (fun wf9 => ?_)
    refine r_newa (atype := .int) (t := 0) (n := 5) (by decide) rfl q317 (by decide) dX0_feed_16 (by decide) (by decide) ?_
    have kA : hK (nO h 100 5) (hN h) = 100 := nO_Kn
    have lA : hL (nO h 100 5) (hN h) = 5 := nO_Ln
    have gA : Fg (fun a => a = 65) [1] noC h (nO h 100 5) := Fg.nO wf9
    have cA : ev_c < hN h := wf9.1
    have zA : hK h (hN h) = 0 := wf_0 wf9
    have h65 : ∀ k, hI (nO h 100 5) 65 k = hI h 65 k := fun k => by rw [nO_I (fun e => by rw [← e, hl.tape.1] at zA; cases zA)]
    have h64 : hI (nO h 100 5) 64 1 = hI h 64 1 := by rw [nO_I (fun e => by rw [← e, hl.k] at zA; cases zA)]
    generalize nO h 100 5 = hA at kA lA gA h65 h64 ⊢
    generalize hN h = x at kA lA cA zA ⊢
    refine r_dup dX0_feed_18 rfl ?_
    refine r_iconst (v := nI 0) dX0_feed_19 (by decide) ?_
    refine r_iload_n dX0_feed_20 rfl ?_
    refine r_iastv (kA) (cA) (lA) (ix_n (by omega) (by decide)) dX0_feed_21 ?_
    refine r_dup dX0_feed_22 rfl ?_
    refine r_iconst (v := nI 1) dX0_feed_23 (by decide) ?_
    refine r_iload_n dX0_feed_24 rfl ?_
    refine r_iastv (kA) (cA) (lA) (ix_n (by omega) (by decide)) dX0_feed_25 ?_
    refine r_dup dX0_feed_26 rfl ?_
    refine r_iconst (v := nI 2) dX0_feed_27 (by decide) ?_
    refine r_iload_n dX0_feed_28 rfl ?_
    refine r_iastv (kA) (cA) (lA) (ix_n (by omega) (by decide)) dX0_feed_29 ?_
    refine r_dup dX0_feed_30 rfl ?_
    refine r_iconst (v := nI 3) dX0_feed_31 (by decide) ?_
    refine r_iload dX0_feed_32 rfl ?_
    refine r_iastv (kA) (cA) (lA) (ix_n (by omega) (by decide)) dX0_feed_34 ?_
    refine r_dup dX0_feed_35 rfl ?_
    refine r_iconst (v := nI 4) dX0_feed_36 (by decide) ?_
    refine r_iload dX0_feed_37 rfl ?_
    refine r_iastv (kA) (cA) (lA) (ix_n (by omega) (by decide)) dX0_feed_39 ?_
    have qE : FD tp nt a c d e f x h (0) (sI (sI (sI (sI (sI hA x 0 a) x 1 c) x 2 d) x 3 e) x 4 f) := FD.first hl hnt hA0 gA zA kA lA
    generalize sI (sI (sI (sI (sI hA x 0 a) x 1 c) x 2 d) x 3 e) x 4 f = hE at qE ⊢
    refine r_astore dX0_feed_40 (by decide) rfl ?_
    refine r_aload dX0_feed_42 rfl ?_
    refine r_astore dX0_feed_44 (by decide) rfl ?_
    refine r_aload dX0_feed_46 rfl ?_
    refine r_alen (t := 0) (qE.2.1.1) dX0_feed_48 ?_
    refine r_top (nI 5) (congrArg nI (qE.2.1.2.1)) ?_
    refine r_istore dX0_feed_49 (by decide) rfl ?_
    refine r_iconst (v := nI 0) dX0_feed_51 (by decide) ?_
    refine r_istore dX0_feed_52 (by decide) rfl ?_
    refine (ev_for (P := fun i => ∀ hL : ev_H, (FD tp nt a c d e f x h (4 * i) hL) → Ev G mX0_feed (ev_room 0 1 5) (ev_MQ G (pI (fun y h1 => y = (if fdOk nt then nI (nt + 20) else -1) ∧ Fg (fun a => a = 65) [1] noC h h1 ∧ hI h1 64 1 = (if fdOk nt then nI (nt + 20) else nI nt) ∧ ∀ k, k < 1600 → hI h1 65 k = (if fdOk nt then feedT tp nt 20 a c d e f else tp) k)) 1 5) 54 [some (vR 64), some (vI a), some (vI c), some (vI d), some (vI e), some (vI f), some (vR x), some (vR x), some (vI (nI 5)), some (vI (nI i)), none, none] [] hL (0 + 1) (0 + 5)) 5 (fun i hki ihi hL qhL => ?_)) 0 (Nat.zero_le _) _ (qE)
    have hlL := hl.fg (K := fun _ _ => 0) qhL.1 (fun _ z => z.elim)
    refine r_iload dX0_feed_54 rfl ?_
    refine r_iload dX0_feed_56 rfl ?_
    refine r_icmpN_ge (tgt := 114) dX0_feed_58 rfl (by omega) (by omega) (fun c2 => ?_) (fun c2 => ?_)
    · --
      refine r_aload_n dX0_feed_114 rfl ?_
      refine r_getIv fX0_105 (hlL.k) (v := nI (nt + 4 * i)) (qhL.2.2.1) rfl dX0_feed_115 ?_
      have hi5 : i = 5 := by omega
      subst hi5
      exact r_reti dX0_feed_118 rfl rfl (Nat.le_refl _) (Nat.le_refl _) ⟨if_p (by simp [fdOk]; omega) rfl, qhL.1, if_p (by simp [fdOk]; omega) qhL.2.2.1, fun k hk => by rw [if_pos (show fdOk nt = true from (by simp [fdOk]; omega))]; exact qhL.2.2.2 k hk⟩
    · --
      refine r_aload dX0_feed_61 rfl ?_
      refine r_iload dX0_feed_63 rfl ?_
      refine r_ialdv (qhL.2.1.1) (qhL.2.1.2.1) (ix_n (by omega) (by decide)) (v := feedW a c d e f (4 * i)) (qhL.2.1.2.2 i (by omega)) dX0_feed_65 ?_
      refine r_istore dX0_feed_66 (by decide) rfl ?_
      refine r_bipush (v := nI 24) dX0_feed_68 (by decide) ?_
      refine r_istore dX0_feed_70 (by decide) rfl ?_
      refine r_L (L2 := [some (vR 64), some (vI a), some (vI c), some (vI d), some (vI e), some (vI f), some (vR x), some (vR x), some (vI (nI 5)), some (vI (nI i)), some (vI (feedW a c d e f (4 * i))), some (vI (fkJ 0))]) rfl ?_
      refine (ev_for (P := fun j => ∀ hN : ev_H, (FD tp nt a c d e f x h (4 * i + j) hN) → Ev G mX0_feed (ev_room 0 1 5) (ev_MQ G (pI (fun y h1 => y = (if fdOk nt then nI (nt + 20) else -1) ∧ Fg (fun a => a = 65) [1] noC h h1 ∧ hI h1 64 1 = (if fdOk nt then nI (nt + 20) else nI nt) ∧ ∀ k, k < 1600 → hI h1 65 k = (if fdOk nt then feedT tp nt 20 a c d e f else tp) k)) 1 5) 72 [some (vR 64), some (vI a), some (vI c), some (vI d), some (vI e), some (vI f), some (vR x), some (vR x), some (vI (nI 5)), some (vI (nI i)), some (vI (feedW a c d e f (4 * i))), some (vI (fkJ j))] [] hN (0 + 1) (0 + 5)) 4 (fun j hkj ihj hN qhN => ?_)) 0 (Nat.zero_le _) _ (qhL)
      have hlN := hl.fg (K := fun _ _ => 0) qhN.1 (fun _ z => z.elim)
      refine r_iload dX0_feed_72 rfl ?_
      refine r_if_lt (tgt := 108) dX0_feed_74 rfl (fun c3 => ?_) (fun c3 => ?_)
      · --
        refine r_iincN (n := 1) dX0_feed_108 rfl rfl (by decide) rfl ?_
        refine r_goto (tgt := 54) dX0_feed_111 rfl ?_
        refine r_sub [some (vR 64), some (vI a), some (vI c), some (vI d), some (vI e), some (vI f), some (vR x), some (vR x), some (vI (nI 5)), some (vI (nI (i + 1))), none, none] (And.intro rfl (And.intro rfl (And.intro rfl (And.intro rfl (And.intro rfl (And.intro rfl (And.intro rfl (And.intro rfl (And.intro rfl (And.intro rfl trivial)))))))))) ?_
        exact ihi (by omega) _ (by rw [show 4 * (i + 1) = 4 * i + j by have := (fk_lt (j := j) (by omega)).mp c3; omega]; exact qhN)
      · --
        have hj4 : j < 4 := by have := mt (fk_lt (j := j) (by omega)).mpr c3; omega
        refine r_aload_n dX0_feed_77 rfl ?_
        refine r_getRv fX0_31 (hlN.k) (v := 65) (hlN.r 0 (by decide) (by decide)) rfl dX0_feed_78 ?_
        refine r_aload_n dX0_feed_81 rfl ?_
        refine r_getIv fX0_105 (hlN.k) (v := nI (nt + (4 * i + j))) (qhN.2.2.1) rfl dX0_feed_82 ?_
        refine r_iload dX0_feed_85 rfl ?_
        refine r_iload dX0_feed_87 rfl ?_
        refine r_ishr dX0_feed_89 ?_
        refine r_i2b dX0_feed_90 rfl ?_
        refine r_bastv (hlN.tape.1) (by decide) (hlN.tape.2) (ix_n (by omega) (by decide)) (v := ((feedW a c d e f (4 * i)) >>> ((fkJ j) &&& 31)).toInt8.toInt32) (pk_nb _) dX0_feed_91 ?_
        refine r_aload_n dX0_feed_92 rfl ?_
        refine r_dup dX0_feed_93 rfl ?_
        refine r_getIv fX0_105 (hlN.k) (v := nI (nt + (4 * i + j))) ((rdI_s (by decide)).trans qhN.2.2.1) rfl dX0_feed_94 ?_
        refine r_iconst (v := nI 1) dX0_feed_97 (by decide) ?_
        refine r_iadd dX0_feed_98 ?_
        refine r_top (nI (nt + (4 * i + j) + 1)) (nI_add _ _) ?_
        refine r_putN fX0_105 (hlN.k) (by decide) dX0_feed_99 ?_
        have fV : FD tp nt a c d e f x h (4 * i + j + 1) (sI (sI hN 65 (nt + (4 * i + j)) (((feedW a c d e f (4 * i)) >>> ((fkJ j) &&& 31)).toInt8.toInt32)) 64 1 (nI (nt + (4 * i + j) + 1))) := qhN.step hlN (by omega) (fd_b (by omega) (by omega))
        generalize sI (sI hN 65 (nt + (4 * i + j)) (((feedW a c d e f (4 * i)) >>> ((fkJ j) &&& 31)).toInt8.toInt32)) 64 1 (nI (nt + (4 * i + j) + 1)) = hV at fV ⊢
        refine r_iinc dX0_feed_102 rfl rfl (by decide) rfl ?_
        refine r_goto (tgt := 72) dX0_feed_105 rfl ?_
        exact r_L (by rw [fk_s (show j < 4 by omega)]; rfl) (ihj (by have := mt (fk_lt (j := j) (by omega)).mpr c3; omega) _ (fV))
  · --
    refine r_iconst (v := (-1)) dX0_feed_13 (by decide) ?_
    exact r_reti dX0_feed_14 rfl rfl (Nat.zero_le _) (Nat.zero_le _) ⟨if_n (by simp [fdOk]; omega) rfl, Fg.rf, if_n (by simp [fdOk]; omega) hnt, fun k hk => by rw [if_neg (by rw [show fdOk nt = false from (by simp [fdOk]; omega)]; decide)]; exact hA0 k hk⟩
