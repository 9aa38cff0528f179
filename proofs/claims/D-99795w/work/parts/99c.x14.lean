/-! ===== THE SYSTEM: back, rows of grindings (walks by program) ===== -/
set_option maxRecDepth 100000

section SB
variable {b : Bk} {K : XK} {T W : Nat → Int32} {na nu : Nat} {h h1 : ev_H}
theorem XH.zero (x : XH b W na nu h) (er : hR h1 = hR h) (e10 : hI h1 64 10 = nI 0) (e11 : hI h1 64 11 = nI 0) : XH b W 0 0 h1 := by
  obtain ⟨x1, x2, x3, f, x4, x5, x6⟩ := x
  exact ⟨e10, e11, by omega, f, fun j hj => ⟨(x4 j hj).1, by rw [er]; exact (x4 j hj).2⟩, x5, fun j hj => absurd hj (by omega)⟩
theorem XH.posz {ok : Bool} (e : ok = true) (x : XH b W 0 0 h) : XH b W (if ok then 0 else na) (if ok then 0 else nu) h := by rw [if_pos e, if_pos e]; exact x
theorem XH.negz {ok : Bool} (e : ok = false) (x : XH b W na nu h) : XH b W (if ok then 0 else na) (if ok then 0 else nu) h := by rw [if_neg (by rw [e]; decide), if_neg (by rw [e]; decide)]; exact x
abbrev Q1 (K : XK) : List Nat := [kAk K, 80, 81, 82, 85]
theorem q1_m {a : Nat} (ha : a ∈ Q1 K) : a ∈ QF K ∨ a = 85 := by
  have h7 : a = kAk K ∨ a = 80 ∨ a = 81 ∨ a = 82 ∨ a = 85 := by simpa using ha
  rcases h7 with e | e | e | e | e
  · exact Or.inl (by rw [e]; simp)
  · exact Or.inl (by rw [e]; simp)
  · exact Or.inl (by rw [e]; simp)
  · exact Or.inl (by rw [e]; simp)
  · exact Or.inr e
theorem q1_85 {a : Nat} (ha : a ∈ [85]) : a ∈ Q1 K := by rw [List.mem_singleton.mp ha]; simp
theorem q1_q (p : Fr (QF K) [] h h1) : Fr (Q1 K) [] h h1 := p.wk (fun a ha => by
  have h7 : a = kAk K ∨ a = 80 ∨ a = 81 ∨ a = 82 := by simpa using ha
  simp
  omega) (fun _ z => z)
theorem XM.f1 {as : List Nat} (x : XM b K T h) (p : Fr as [] h h1) (e : ∀ a ∈ as, a ∈ QF K ∨ a = 85) : XM b K T h1 := by
  have ok : ∀ a ∈ as, okX (hK h a) = true := fun a ha => by
    rcases e a ha with z | z
    · exact x.okQ a z
    · rw [z, x.lay.row.1]; rfl
  have no : ∀ t, t ∉ QF K → t ≠ 85 → t ∉ as := fun t h1 h2 z => (e t z).elim h1 h2
  exact ⟨x.lay.fr p, by rw [p.2.2.2.1]; exact x.bk, x.xb.fr p ok, x.xt.fr p (no 74 x.neQ.1 (by decide)) (no 75 x.neQ.2.1 (by decide)) (no 76 x.neQ.2.2.1 (by decide)), x.tw⟩
theorem XM.no85 (x : XM b K T h) : 85 ∉ QF K := fun z => by
  rcases List.mem_cons.mp z with e | e
  · have hk := x.xb.akk
    rw [← e, x.lay.row.1] at hk
    cases hk
  · exact absurd e (by decide)
theorem TW.rd {v n : Nat} (hw : TW b T) (hb : BW b) (h0 : 0 < nS b) : ∀ k, TW b (rdI b T v n k).1
  | 0 => hw
  | k + 1 => (TW.rd hw hb h0 k).gr hb (Nat.mod_lt _ h0)
end SB
theorem ii_m1 (x : Int32) : x + Int32.ofInt (-1) = x - nI 1 := by
  rw [Int32.sub_eq_add_neg]
  rfl
theorem sb_0 {i : Nat} (hi : i < 2 ^ 31) (h : nI i - nI 1 < 0) : i = 0 := by
  by_cases e : i = 0
  · exact e
  · rw [pk_sub (show 1 ≤ i by omega)] at h
    exact absurd h (nI_pos (by omega))
theorem sb_q {S v n i : Nat} (h0 : 0 < i) (hi : i ≤ n) : v / S ^ (n - i) / S = v / S ^ (n - (i - 1)) := by
  rw [Nat.div_div_eq_div_mul, ← Nat.pow_succ, show (n - i).succ = n - (i - 1) by omega]
theorem sb_st {S v n i : Nat} {h : ev_H} {w : Int32} (h0 : 0 < i) (hi : i ≤ n) (hr : ∀ k, i ≤ k → k < n → hI h 85 k = nI (dig S v n k)) (hw : w = nI (v / S ^ (n - i) % S)) : ∀ k, i - 1 ≤ k → k < n → hI (sI h 85 (i - 1) w) 85 k = nI (dig S v n k) := fun k h1 h2 => by
  by_cases e : k = i - 1
  · subst e
    refine (show u2 (hI h) 85 (i - 1) w 85 (i - 1) = w from u2_self).trans ?_
    rw [hw]
    unfold dig
    rw [show n - 1 - (i - 1) = n - i by omega]
  · exact (rdI_k e).trans (hr k (by omega) h2)
theorem sb_d {α : Type} {x : α} : x = x := rfl

theorem x0_back {G : ev_G} {b : Bk} {K : XK} {T : Nat → Int32} {h : ev_H} (hm : XM b K T h) {W : Nat → Int32} {na nu : Nat} (hH : XH b W na nu h) {B Q : Nat → Int32} (hB : XBx b B Q h) (p : Int32) : Called G mX0_back 2 0 0 [vR 64, vI p] h (pI (fun y h1 => y = (if backOk Q p then B (19 * p.toNatClampNeg + 17) else -1) ∧ Fw (SC K) [10, 11] h h1 ∧ XM b K (if backOk Q p then undT B p.toNatClampNeg else T) h1 ∧ XH b W (if backOk Q p then 0 else na) (if backOk Q p then 0 else nu) h1)) := by
  have hb := hm.xb
  have hT := hm.xt
  have hl := hm.lay
  have hw := hm.bw
  have hb1 := hw.p6
  have hb2 := hw.s5
  have hb3 := hw.t10
  have hw9 := hm.tw
  refine called_of rfl [some (vR 64), some (vI p)] rfl (Nat.le_of_ble_eq_true rfl) ?_
  refine r_iload_n dX0_back_0 rfl ?_
  refine r_callSx lX0_379 (x0_isBox _) rfl rfl rfl rfl dX0_back_1 (Nat.le_refl _) (Nat.le_refl _) ?_
  refine r_ifB_eq (tgt := 16) dX0_back_4 rfl (fun c1 => ?_) (fun c1 => ?_)
  · --
    refine r_iconst (v := (-1)) dX0_back_16 (by decide) ?_
    exact r_reti dX0_back_17 rfl rfl (Nat.le_refl _) (Nat.le_refl _) (⟨if_n (by unfold backOk; rw [c1]; rfl) rfl, Fw.rf, XM.neg (by unfold backOk; rw [c1]; rfl) hm, XH.negz (by unfold backOk; rw [c1]; rfl) hH⟩)
  · --
    obtain ⟨j, hj, rfl⟩ := isIn_m (by decide) c1
    refine r_aload_n dX0_back_7 rfl ?_
    refine r_getRv fX0_102 (hl.k) (v := 134) (hl.r 23 (by decide) (by decide)) rfl dX0_back_8 ?_
    refine r_iload_n dX0_back_11 rfl ?_
    refine r_zaldv (hl.there.1) (hl.there.2) (ix_n (by omega) (by decide)) (v := Q j) (hB.1 _ (by omega)) dX0_back_12 ?_
    refine r_if_ne (tgt := 18) dX0_back_13 rfl (fun c2 => ?_) (fun c2 => ?_)
    · --
      refine r_aload_n dX0_back_18 rfl ?_
      refine r_getRv fX0_53 (hl.k) (v := 74) (hl.r 5 (by decide) (by decide)) rfl dX0_back_19 ?_
      refine r_aload_n dX0_back_22 rfl ?_
      refine r_getRv fX0_99 (hl.k) (v := 133) (hl.r 22 (by decide) (by decide)) rfl dX0_back_23 ?_
      refine r_iload_n dX0_back_26 rfl ?_
      refine r_aaldv (t := 5) (hl.boxes.1) (by decide) (hl.boxes.2) (ix_n (by omega) (by decide)) (v := 255 + 3 * j) ((hl.sb (j := j) (by omega)).1) dX0_back_27 ?_
      refine r_callVr lX0_230 (x3_copy hT (hB.2 j (by omega) c2).1 (by omega)) (hT.k) rfl rfl rfl rfl dX0_back_28 (Nat.le_refl _) (Nat.le_refl _) (fun y9 hA q9 => ?_)
      obtain ⟨-, gA, hTA⟩ := q9
      have hlA := hl.fr gA
      refine r_pop dX0_back_31 rfl ?_
      refine r_aload_n dX0_back_32 rfl ?_
      refine r_iconst (v := nI 0) dX0_back_33 (by decide) ?_
      refine r_putN fX0_117 (hlA.k) (by decide) dX0_back_34 ?_
      refine r_aload_n dX0_back_37 rfl ?_
      refine r_iconst (v := nI 0) dX0_back_38 (by decide) ?_
      refine r_putN fX0_120 (hlA.k) (by decide) dX0_back_39 ?_
      refine r_aload_n dX0_back_42 rfl ?_
      refine r_getRv fX0_53 (hlA.k) (v := 74) (hlA.r 5 (by decide) (by decide)) rfl dX0_back_43 ?_
      refine r_getIv fX0_250 (hTA.k) (v := B (19 * j + 17)) (hTA.co) rfl dX0_back_46 ?_
      have gB : Fr [64] [] hA (sI (sI hA 64 10 (nI 0)) 64 11 (nI 0)) := (Fr.rf.sa 64 10 _ (by simp)).sa 64 11 _ (by simp)
      have kA : Fw (SC K) [10, 11] h hA := gA.fw (fun a ha => gr_mem (List.mem_cons_of_mem _ ha))
      have kB : Fw (SC K) [10, 11] h (sI (sI hA 64 10 (nI 0)) 64 11 (nI 0)) := (kA.tr (Fw.sf 10 _ (by simp))).tr (Fw.sf 11 _ (by simp))
      have hHB : XH b W 0 0 (sI (sI hA 64 10 (nI 0)) 64 11 (nI 0)) := hH.zero (by show hR hA = hR h; exact gA.2.2.2.1) rfl rfl
      exact r_reti dX0_back_49 rfl rfl (Nat.le_refl _) (Nat.le_refl _) (⟨if_p (by unfold backOk; rw [nI_clamp (by omega), c1, decide_eq_false c2]; rfl) (by rw [nI_clamp (by omega)]), kB, XM.pos (by unfold backOk; rw [nI_clamp (by omega), c1, decide_eq_false c2]; rfl) (by rw [nI_clamp (by omega)]; exact hm.fw kB (fun _ z => z) (hTA.fr gB (by simp) (by simp) (by simp)) (hB.2 j (by omega) c2).2), XH.posz (by unfold backOk; rw [nI_clamp (by omega), c1, decide_eq_false c2]; rfl) hHB⟩)
    · --
      refine r_iconst (v := (-1)) dX0_back_16 (by decide) ?_
      exact r_reti dX0_back_17 rfl rfl (Nat.le_refl _) (Nat.le_refl _) (⟨if_n (by unfold backOk; rw [nI_clamp (by omega), c1, decide_eq_true c2]; rfl) rfl, Fw.rf, XM.neg (by unfold backOk; rw [nI_clamp (by omega), c1, decide_eq_true c2]; rfl) hm, XH.negz (by unfold backOk; rw [nI_clamp (by omega), c1, decide_eq_true c2]; rfl) hH⟩)

theorem x0_saidBy {G : ev_G} {b : Bk} {K : XK} {T : Nat → Int32} {h : ev_H} (hm : XM b K T h) {n v : Nat} (hn : n ≤ 4) (h0 : 0 < nS b) (hv : v < 2 ^ 31) : Called G mX0_saidBy 312 0 0 [vR 64, vI (nI n), vI (nI v)] h (pI (fun y h1 => y = (rdI b T v n n).2 ∧ Fr (Q1 K) [] h h1 ∧ ∀ k, k < n → hI h1 85 k = nI (dig (nS b) v n k))) := by
  have hb := hm.xb
  have hT := hm.xt
  have hl := hm.lay
  have hw := hm.bw
  have hb1 := hw.p6
  have hb2 := hw.s5
  have hb3 := hw.t10
  have hw9 := hm.tw
  refine called_of rfl [some (vR 64), some (vI (nI n)), some (vI (nI v)), none, none, none] rfl (Nat.le_of_ble_eq_true rfl) ?_
  refine r_iload_n dX0_saidBy_0 rfl ?_
  refine r_istore_n dX0_saidBy_1 (by decide) rfl ?_
  refine r_iconst (v := nI 0) dX0_saidBy_2 (by decide) ?_
  refine r_istore dX0_saidBy_3 (by decide) rfl ?_
  refine r_iload_n dX0_saidBy_5 rfl ?_
  refine r_iconst (v := nI 1) dX0_saidBy_6 (by decide) ?_
  refine r_isub dX0_saidBy_7 ?_
  refine r_L (L2 := [some (vR 64), some (vI (nI n)), some (vI (nI v)), some (vI (nI (v / nS b ^ (n - n)))), some (vI (nI 0)), none]) (by rw [Nat.sub_self, Nat.pow_zero, Nat.div_one]; rfl) ?_
  refine r_istore dX0_saidBy_8 (by decide) rfl ?_
  refine (ev_loop (σ := Nat × ev_H) (P := fun s9 => ∀ (i : Nat) (hL : ev_H), s9 = (i, hL) → (i ≤ n ∧ Fr [85] [] h hL ∧ ∀ k, i ≤ k → k < n → hI hL 85 k = nI (dig (nS b) v n k)) → Ev G mX0_saidBy (ev_room 312 0 0) (ev_MQ G (pI (fun y h1 => y = (rdI b T v n n).2 ∧ Fr (Q1 K) [] h h1 ∧ ∀ k, k < n → hI h1 85 k = nI (dig (nS b) v n k))) 0 0) 10 [some (vR 64), some (vI (nI n)), some (vI (nI v)), some (vI (nI (v / nS b ^ (n - i)))), some (vI (nI 0)), some (vI ((nI i) - (nI 1)))] [] hL 0 0) (fun s9 => s9.1) (fun s9 ih1 i hL e9 q1 => ?_)) (n, h) n h rfl (⟨Nat.le_refl _, Fr.rf, fun k h1 h2 => absurd h2 (by omega)⟩)
  subst e9
  obtain ⟨hiv, fL, hrL⟩ := q1
  have hmL := hm.f1 fL (fun a ha => Or.inr (List.mem_singleton.mp ha))
  have hbL := hmL.xb
  have hTL := hmL.xt
  have hlL := hmL.lay
  refine r_iload dX0_saidBy_10 rfl ?_
  refine r_if_lt (tgt := 41) dX0_saidBy_12 rfl (fun c1 => ?_) (fun c1 => ?_)
  · --
    have hi0 : i = 0 := sb_0 (by omega) c1
    subst hi0
    refine r_aload_n dX0_saidBy_41 rfl ?_
    refine r_getRv fX0_60 (hlL.k) (v := 80) (hlL.r 7 (by decide) (by decide)) rfl dX0_saidBy_42 ?_
    refine r_aload_n dX0_saidBy_45 rfl ?_
    refine r_getRv fX0_53 (hlL.k) (v := 74) (hlL.r 5 (by decide) (by decide)) rfl dX0_saidBy_46 ?_
    refine r_callVr lX0_230 (xq_copy hmL) (hlL.s80.2.1) rfl rfl rfl rfl dX0_saidBy_49 (Nat.le_refl _) (Nat.le_refl _) (fun y9 hZ1 q9 => ?_)
    obtain ⟨rfl, gZ1, hqZ1⟩ := q9
    have kZ1 : Fr (Q1 K) [] hL hZ1 := q1_q (frq_t gZ1)
    have hmZ1 := hmL.f1 kZ1 (fun a ha => q1_m ha)
    have fZ1 : Fr (Q1 K) [] h hZ1 := (fL.wk (fun a ha => q1_85 ha) (fun _ z => z)).tr kZ1
    have hrZ1 : ∀ k, 0 ≤ k → k < n → hI hZ1 85 k = nI (dig (nS b) v n k) := fun k h1 h2 => ((frq_t gZ1).2.2.2.2.2 85 k (hmL.no85) (fun _ => by simp)).trans (hrL k h1 h2)
    have hbZ1 := hmZ1.xb
    have hTZ1 := hmZ1.xt
    have hlZ1 := hmZ1.lay
    refine r_pop dX0_saidBy_52 rfl ?_
    refine r_iconst (v := nI 0) dX0_saidBy_53 (by decide) ?_
    refine r_istore dX0_saidBy_54 (by decide) rfl ?_
    refine r_sub [some (vR 64), some (vI (nI n)), some (vI (nI v)), none, some (vI (nI 0)), some (vI (nI 0))] (And.intro rfl (And.intro rfl (And.intro rfl (And.intro rfl (And.intro rfl trivial))))) ?_
    refine (ev_for (P := fun u => ∀ hN : ev_H, (Fr (Q1 K) [] h hN ∧ XT 80 (rdI b T v n u).1 (-1) hN ∧ ∀ k, 0 ≤ k → k < n → hI hN 85 k = nI (dig (nS b) v n k)) → Ev G mX0_saidBy (ev_room 312 0 0) (ev_MQ G (pI (fun y h1 => y = (rdI b T v n n).2 ∧ Fr (Q1 K) [] h h1 ∧ ∀ k, k < n → hI h1 85 k = nI (dig (nS b) v n k))) 0 0) 56 [some (vR 64), some (vI (nI n)), some (vI (nI v)), none, some (vI ((rdI b T v n u).2)), some (vI (nI u))] [] hN 0 0) n (fun u hku ihu hN qhN => ?_)) 0 (Nat.zero_le _) _ (⟨fZ1, hqZ1, hrZ1⟩)
    obtain ⟨fN, hqN, hrN⟩ := qhN
    have hmN := hm.f1 fN (fun a ha => q1_m ha)
    have hbN := hmN.xb
    have hTN := hmN.xt
    have hlN := hmN.lay
    have hdg : dig (nS b) v n u < nS b := Nat.mod_lt _ h0
    refine r_iload dX0_saidBy_56 rfl ?_
    refine r_iload_n dX0_saidBy_58 rfl ?_
    refine r_icmpN_ge (tgt := 91) dX0_saidBy_59 rfl (by omega) (by omega) (fun c2 => ?_) (fun c2 => ?_)
    · --
      refine r_iload dX0_saidBy_91 rfl ?_
      exact r_reti dX0_saidBy_93 rfl rfl (Nat.le_refl _) (Nat.le_refl _) (⟨congrArg (fun z => (rdI b T v n z).2) (by omega), fN, fun k hk => hrN k (Nat.zero_le _) hk⟩)
    · --
      refine r_iload dX0_saidBy_62 rfl ?_
      refine r_aload_n dX0_saidBy_64 rfl ?_
      refine r_getRv fX0_60 (hlN.k) (v := 80) (hlN.r 7 (by decide) (by decide)) rfl dX0_saidBy_65 ?_
      refine r_aload_n dX0_saidBy_68 rfl ?_
      refine r_getRv fX0_42 (hlN.k) (v := kB K) (hmN.bk) rfl dX0_saidBy_69 ?_
      refine r_aload_n dX0_saidBy_72 rfl ?_
      refine r_getRv fX0_71 (hlN.k) (v := 85) (hlN.r 13 (by decide) (by decide)) rfl dX0_saidBy_73 ?_
      refine r_iload dX0_saidBy_76 rfl ?_
      refine r_ialdv (hlN.row.1) (hlN.row.2) (ix_n (by omega) (by decide)) (v := nI (dig (nS b) v n u)) (hrN u (Nat.zero_le _) (by omega)) dX0_saidBy_78 ?_
      refine r_callVi lX0_247 (x3_grind hbN hqN (hw9.rd hw h0 u) (s := (dig (nS b) v n u)) (by omega)) (hlN.s80.2.1) rfl rfl rfl rfl dX0_saidBy_79 (Nat.le_refl _) (Nat.le_refl _) (fun y9 hZ2 q9 => ?_)
      obtain ⟨rfl, gZ2, hqZ2⟩ := q9
      have kZ2 : Fr (Q1 K) [] hN hZ2 := q1_q (frq_g gZ2)
      have hmZ2 := hmN.f1 kZ2 (fun a ha => q1_m ha)
      have fZ2 : Fr (Q1 K) [] h hZ2 := fN.tr kZ2
      have hrZ2 : ∀ k, 0 ≤ k → k < n → hI hZ2 85 k = nI (dig (nS b) v n k) := fun k h1 h2 => ((frq_g gZ2).2.2.2.2.2 85 k (hmN.no85) (fun _ => by simp)).trans (hrN k h1 h2)
      have hbZ2 := hmZ2.xb
      have hTZ2 := hmZ2.xt
      have hlZ2 := hmZ2.lay
      refine r_ior dX0_saidBy_82 ?_
      refine r_istore dX0_saidBy_83 (by decide) rfl ?_
      refine r_iincN (n := 1) dX0_saidBy_85 rfl rfl (by decide) rfl ?_
      refine r_goto (tgt := 56) dX0_saidBy_88 rfl ?_
      exact ihu (by omega) _ (⟨fZ2, hqZ2, hrZ2⟩)
  · --
    have hi0 : 0 < i := Nat.pos_of_ne_zero (fun e => c1 (by rw [e]; decide))
    refine r_L (L2 := [some (vR 64), some (vI (nI n)), some (vI (nI v)), some (vI (nI (v / nS b ^ (n - i)))), some (vI (nI 0)), some (vI (nI (i - 1)))]) (by rw [pk_sub (show 1 ≤ i by omega)] <;> rfl) ?_
    refine r_aload_n dX0_saidBy_15 rfl ?_
    refine r_getRv fX0_71 (hlL.k) (v := 85) (hlL.r 13 (by decide) (by decide)) rfl dX0_saidBy_16 ?_
    refine r_iload dX0_saidBy_19 rfl ?_
    refine r_iload_n dX0_saidBy_21 rfl ?_
    refine r_aload_n dX0_saidBy_22 rfl ?_
    refine r_callVx lX0_153 (x0_sacks hmL) (hlL.k) rfl rfl rfl rfl dX0_saidBy_23 (Nat.le_refl _) (Nat.le_refl _) ?_
    refine r_irem dX0_saidBy_26 (nI_ne0 (h0) (by omega)) ?_
    refine r_top (nI ((v / nS b ^ (n - i)) % (nS b))) (pk_rem (Nat.lt_of_le_of_lt (Nat.div_le_self _ _) hv) (h0) (by omega)) ?_
    refine r_iastv (hlL.row.1) (by decide) (hlL.row.2) (ix_n (by omega) (by decide)) dX0_saidBy_27 ?_
    have gW : Fr [85] [] hL (sI hL 85 (i - 1) (nI ((v / nS b ^ (n - i)) % (nS b)))) := Fr.rf.sa 85 (i - 1) _ (by simp)
    have hrW : ∀ k, i - 1 ≤ k → k < n → hI (sI hL 85 (i - 1) (nI ((v / nS b ^ (n - i)) % (nS b)))) 85 k = nI (dig (nS b) v n k) := sb_st hi0 hiv hrL rfl
    have fW : Fr [85] [] h (sI hL 85 (i - 1) (nI ((v / nS b ^ (n - i)) % (nS b)))) := fL.sa 85 (i - 1) _ (by simp)
    have hmW := hmL.f1 gW (fun a ha => Or.inr (List.mem_singleton.mp ha))
    generalize sI hL 85 (i - 1) (nI ((v / nS b ^ (n - i)) % (nS b))) = hW at gW hrW fW hmW ⊢
    have hbW := hmW.xb
    have hTW := hmW.xt
    have hlW := hmW.lay
    refine r_iload_n dX0_saidBy_28 rfl ?_
    refine r_aload_n dX0_saidBy_29 rfl ?_
    refine r_callVx lX0_153 (x0_sacks hmW) (hlW.k) rfl rfl rfl rfl dX0_saidBy_30 (Nat.le_refl _) (Nat.le_refl _) ?_
    refine r_idiv dX0_saidBy_33 (nI_ne0 (h0) (by omega)) ?_
    refine r_top (nI ((v / nS b ^ (n - i)) / (nS b))) (pk_div (Nat.lt_of_le_of_lt (Nat.div_le_self _ _) hv) (h0) (by omega)) ?_
    refine r_istore_n dX0_saidBy_34 (by decide) rfl ?_
    refine r_iinc dX0_saidBy_35 rfl rfl (by decide) rfl ?_
    refine r_goto (tgt := 10) dX0_saidBy_38 rfl ?_
    exact r_L (by rw [ii_m1, sb_q hi0 hiv] <;> rfl) (ih1 (i - 1, hW) (by show i - 1 < i; omega) (i - 1) hW rfl (⟨by omega, fW, hrW⟩))
