/-! ===== THE SYSTEM: a feast (walks by program) ===== -/
set_option maxRecDepth 100000

section FS
variable {b : Bk} {K : XK} {T : Nat → Int32} {h h1 : ev_H}
theorem XLay.k87 (x : XLay h) : hK h 87 = 106 ∧ hL h 87 = 2 := ⟨x.2.2.2.1.1.1, x.2.2.2.1.1.2.1⟩
theorem XLay.k90 (x : XLay h) : hK h 90 = 106 ∧ hL h 90 = 2 := ⟨x.2.2.2.1.2.1.1, x.2.2.2.1.2.1.2.1⟩
theorem XLay.ones (x : XLay h) {j : Nat} (hj : j < 2) : hR h 87 j = 88 + j ∧ hK h (88 + j) = 100 ∧ hL h (88 + j) = 2 := x.2.2.2.1.1.2.2 j hj
theorem XLay.othe (x : XLay h) {j : Nat} (hj : j < 2) : hR h 90 j = 91 + j ∧ hK h (91 + j) = 100 ∧ hL h (91 + j) = 2 := x.2.2.2.1.2.1.2.2 j hj
abbrev Q3 (K : XK) : List Nat := [kAk K, 80, 81, 82, 88, 89, 91, 92]
def S3 (K : XK) (a : Nat) : Prop := a ∈ Q3 K ∨ a = 84
theorem q3_q (p : Fr (QF K) [] h h1) : Fr (Q3 K) [] h h1 := p.wk (fun a ha => by
  have h7 : a = kAk K ∨ a = 80 ∨ a = 81 ∨ a = 82 := by simpa using ha
  simp
  omega) (fun _ z => z)
theorem q3_c {a : Nat} (ha : a ∈ Q3 K) : a ∈ QF K ∨ a = 88 ∨ a = 89 ∨ a = 91 ∨ a = 92 := by
  have h7 : a = kAk K ∨ a = 80 ∨ a = 81 ∨ a = 82 ∨ a = 88 ∨ a = 89 ∨ a = 91 ∨ a = 92 := by simpa using ha
  simp
  omega
theorem q3_m {a : Nat} (h : a = 88 ∨ a = 89 ∨ a = 91 ∨ a = 92) : a ∈ Q3 K := by
  simp
  omega
theorem XM.ok3 (x : XM b K T h) : ∀ a, S3 K a → okX (hK h a) = true := fun a ha => by
  rcases ha with z | z
  · rcases q3_c z with z | z | z | z | z
    · exact x.okQ a z
    · rw [z]; have := (x.lay.ones (j := 0) (by decide)).2.1; rw [this]; rfl
    · rw [z]; have := (x.lay.ones (j := 1) (by decide)).2.1; rw [this]; rfl
    · rw [z]; have := (x.lay.othe (j := 0) (by decide)).2.1; rw [this]; rfl
    · rw [z]; have := (x.lay.othe (j := 1) (by decide)).2.1; rw [this]; rfl
  · rw [z, x.lay.lies.1]; rfl
theorem XM.f4 {F : List Nat} (x : XM b K T h) (p : Fw (S3 K) F h h1) : XM b K T h1 := by
  have no : ∀ t, t ∉ QF K → (t = 74 ∨ t = 75 ∨ t = 76) → ¬ S3 K t := fun t h1 h2 z => z.elim (fun z => (q3_c z).elim h1 (by omega)) (by omega)
  exact ⟨x.lay.fw p, by rw [p.2.2.2.1 64 (by decide)]; exact x.bk, x.xb.fw p x.ok3 x.lay.k x.lay.were.1, x.xt.fw p x.lay.k x.lay.were.1 (no 74 x.neQ.1 (by omega)) (no 75 x.neQ.2.1 (by omega)) (no 76 x.neQ.2.2.1 (by omega)), x.tw⟩
theorem XM.f3 (x : XM b K T h) (p : Fr (Q3 K) [] h h1) : XM b K T h1 := x.f4 (F := []) (p.fw (fun a ha => Or.inl ha))
theorem XM.no3 (x : XM b K T h) : ∀ c, (c = 88 ∨ c = 89 ∨ c = 91 ∨ c = 92) → c ∉ QF K := fun c hc z => by
  rcases List.mem_cons.mp z with e | e
  · have hk := x.xb.akk
    have h100 : hK h c = 100 := by
      rcases hc with q | q | q | q
      · rw [q]; exact (x.lay.ones (j := 0) (by decide)).2.1
      · rw [q]; exact (x.lay.ones (j := 1) (by decide)).2.1
      · rw [q]; exact (x.lay.othe (j := 0) (by decide)).2.1
      · rw [q]; exact (x.lay.othe (j := 1) (by decide)).2.1
    rw [← e, h100] at hk
    cases hk
  · have h7 : c = 80 ∨ c = 81 ∨ c = 82 := by simpa using e
    omega
theorem XM.no3b (x : XM b K T h) : 64 ∉ Q3 K ∧ 84 ∉ Q3 K := by
  refine ⟨fun z => ?_, fun z => ?_⟩
  · rcases q3_c z with e | e
    · exact x.neQ.2.2.2 e
    · omega
  · rcases q3_c z with e | e
    · have h7 : 84 = kAk K ∨ 84 = 80 ∨ 84 = 81 ∨ 84 = 82 := by simpa using e
      rcases h7 with e | e
      · have hk := x.xb.akk
        rw [← e, x.lay.lies.1] at hk
        cases hk
      · omega
    · omega
theorem fs_fr {F E : Nat → Int32} {n : Nat} (hF : ∀ x y, x < 2 → y < 2 → 2 * x + y < n → hI h (88 + x) y = F (2 * x + y) ∧ hI h (91 + x) y = E (2 * x + y)) (p : Fr (QF K) [] h h1) (no : ∀ c, (c = 88 ∨ c = 89 ∨ c = 91 ∨ c = 92) → c ∉ QF K) : ∀ x y, x < 2 → y < 2 → 2 * x + y < n → hI h1 (88 + x) y = F (2 * x + y) ∧ hI h1 (91 + x) y = E (2 * x + y) := fun x y a c d =>
  ⟨(p.2.2.2.2.2 _ y (no _ (by omega)) (fun _ => by simp)).trans (hF x y a c d).1, (p.2.2.2.2.2 _ y (no _ (by omega)) (fun _ => by simp)).trans (hF x y a c d).2⟩
theorem fs_at {a k : Nat} {v : Int32} : hI (sI h a k v) a k = v := (show u2 (hI h) a k v a k = v from u2_self)
theorem fs_w1 {F E : Nat → Int32} {u w : Nat} {v : Int32} (hu : u < 2) (hF : ∀ x y, x < 2 → y < 2 → 2 * x + y < 2 * u + w → hI h (88 + x) y = F (2 * x + y) ∧ hI h (91 + x) y = E (2 * x + y)) : ∀ x y, x < 2 → y < 2 → 2 * x + y < 2 * u + w → hI (sI h (88 + u) w v) (88 + x) y = F (2 * x + y) ∧ hI (sI h (88 + u) w v) (91 + x) y = E (2 * x + y) := fun x y a c d => by
  obtain ⟨q1, q2⟩ := hF x y a c d
  exact ⟨(show u2 (hI h) (88 + u) w v (88 + x) y = _ from (u2_ne (fun z => by have := z.1; have := z.2; omega)).trans q1), (show u2 (hI h) (88 + u) w v (91 + x) y = _ from by
    by_cases e : 91 + x = 88 + u ∧ y = w
    · omega
    · exact (u2_ne e).trans q2)⟩
theorem fs_w2 {F E : Nat → Int32} {u w : Nat} {v : Int32} (hu : u < 2) (hF : ∀ x y, x < 2 → y < 2 → 2 * x + y < 2 * u + w → hI h (88 + x) y = F (2 * x + y) ∧ hI h (91 + x) y = E (2 * x + y)) (hx : hI h (88 + u) w = F (2 * u + w)) (hv : v = E (2 * u + w)) (hw : w < 2 := by omega) : ∀ x y, x < 2 → y < 2 → 2 * x + y < 2 * u + w + 1 → hI (sI h (91 + u) w v) (88 + x) y = F (2 * x + y) ∧ hI (sI h (91 + u) w v) (91 + x) y = E (2 * x + y) := fun x y a c d => by
  have e1 : hI (sI h (91 + u) w v) (88 + x) y = hI h (88 + x) y := rdI_s (by omega)
  by_cases e : 2 * x + y < 2 * u + w
  · obtain ⟨q1, q2⟩ := hF x y a c e
    refine ⟨e1.trans q1, (show u2 (hI h) (91 + u) w v (91 + x) y = _ from (u2_ne (fun z => by have := z.1; have := z.2; omega)).trans q2)⟩
  · have ex : x = u := by omega
    have ey : y = w := by omega
    subst ex
    subst ey
    exact ⟨e1.trans hx, fs_at.trans hv⟩
theorem fs_l {F E : Nat → Int32} (p : Fr [84] [] h h1) (hF : ∀ x y, x < 2 → y < 2 → hI h (88 + x) y = F (2 * x + y) ∧ hI h (91 + x) y = E (2 * x + y)) : ∀ x y, x < 2 → y < 2 → hI h1 (88 + x) y = F (2 * x + y) ∧ hI h1 (91 + x) y = E (2 * x + y) := fun x y a c =>
  ⟨(p.2.2.2.2.2 _ y (by simp; omega) (fun _ => by simp)).trans (hF x y a c).1, (p.2.2.2.2.2 _ y (by simp; omega) (fun _ => by simp)).trans (hF x y a c).2⟩
theorem fs_p0 {R : Nat → Int32} {c d : Int32} (hR : ∀ k, k < 6 → hI h 84 k = R k) : ∀ k, k < 6 → hI (sI (sI h 84 0 c) 84 1 d) 84 k = u1 (u1 R 0 c) 1 d k := fun k hk => by
  by_cases e1 : k = 1
  · subst e1; rw [u1_self]; exact fs_at
  · rw [u1_ne e1]
    refine (rdI_k e1).trans ?_
    by_cases e0 : k = 0
    · subst e0; rw [u1_self]; exact fs_at
    · rw [u1_ne e0]; exact (rdI_k e0).trans (hR k hk)
theorem fs_p1 {R : Nat → Int32} {c d c0 d0 : Int32} (hR : ∀ k, k < 6 → hI h 84 k = u1 (u1 R 0 c0) 1 d0 k) : ∀ k, k < 6 → hI (sI (sI h 84 0 c) 84 1 d) 84 k = u1 (u1 R 0 c) 1 d k := fun k hk => by
  refine (fs_p0 hR k hk).trans ?_
  by_cases e1 : k = 1
  · subst e1; rw [u1_self, u1_self]
  · rw [u1_ne e1, u1_ne e1]
    by_cases e0 : k = 0
    · subst e0; rw [u1_self, u1_self]
    · rw [u1_ne e0, u1_ne e0, u1_ne e1, u1_ne e0]
theorem fx2 : ∀ x y : Nat, x < 2 → y < 2 → (2 * x + y) ^^^ 2 = 2 * (1 - x) + y
  | 0, 0, _, _ => rfl
  | 0, 1, _, _ => rfl
  | 1, 0, _, _ => rfl
  | 1, 1, _, _ => rfl
theorem fx1 : ∀ x y : Nat, x < 2 → y < 2 → (2 * x + y) ^^^ 1 = 2 * x + (1 - y)
  | 0, 0, _, _ => rfl
  | 0, 1, _, _ => rfl
  | 1, 0, _, _ => rfl
  | 1, 1, _, _ => rfl
theorem fs_0 {F E : Nat → Int32} {x y : Nat} (hx : x < 2) (hy : y < 2) (c : F (2 * x + y) < F (2 * (1 - x) + y)) : (!decide (F (2 * x + y) < F ((2 * x + y) ^^^ 2)) && decide (E ((2 * x + y) ^^^ 1) ≤ E (2 * x + y))) = false := by
  rw [fx2 x y hx hy, decide_eq_true c]
  rfl
theorem fs_1 {F E : Nat → Int32} {x y : Nat} (hx : x < 2) (hy : y < 2) (c : ¬ F (2 * x + y) < F (2 * (1 - x) + y)) (d : ¬ E (2 * x + y) < E (2 * x + (1 - y))) : (!decide (F (2 * x + y) < F ((2 * x + y) ^^^ 2)) && decide (E ((2 * x + y) ^^^ 1) ≤ E (2 * x + y))) = true := by
  rw [fx2 x y hx hy, fx1 x y hx hy, decide_eq_false c, decide_eq_true (Int32.not_lt.mp d)]
  rfl
theorem fs_2 {F E : Nat → Int32} {x y : Nat} (hx : x < 2) (hy : y < 2) (d : E (2 * x + y) < E (2 * x + (1 - y))) : (!decide (F (2 * x + y) < F ((2 * x + y) ^^^ 2)) && decide (E ((2 * x + y) ^^^ 1) ≤ E (2 * x + y))) = false := by
  rw [fx1 x y hx hy, decide_eq_false (Int32.not_le.mpr d)]
  simp
theorem shl_lt {j m : Nat} : ∀ x : Nat, x < 2 → j < m → m ≤ 30 → ∃ n, n < 2 ^ m ∧ nI x <<< (nI j &&& 31) = nI n
  | 0, _, _, _ => ⟨0, Nat.two_pow_pos _, by apply Int32.toBitVec_inj.mp; simp [nI]⟩
  | 1, _, hj, hm => one_lt hj hm
theorem fs_seat {j jo xx yy : Nat} (hb : BW b) (hw : TW b T) (hj : j < nP b) (hjo : jo < nP b) (hx : xx < 2) (hy : yy < 2) : ∃ n, n < 2 ^ nP b ∧ (((T 0) &&& (((one j) ||| (one jo)) ^^^ (-1))) ||| ((nI xx) <<< ((nI j) &&& 31))) ||| ((nI yy) <<< ((nI jo) &&& 31)) = nI n := by
  have h6 := hb.p6
  exact nIor_lt (nIor_lt (and_lt _ hw.1 (by omega)) (shl_lt xx hx hj (by omega))) (shl_lt yy hy hjo (by omega))
theorem fs_v {j jo xx yy : Nat} {q : Int32} (hx : xx < 2) (hy : yy < 2) : worthV b q (saidV b (u1 T 0 ((((T 0) &&& (((one j) ||| (one jo)) ^^^ (-1))) ||| ((nI xx) <<< ((nI j) &&& 31))) ||| ((nI yy) <<< ((nI jo) &&& 31)))) (allV (nS b))) = fsF b T (nI j) (nI jo) q (2 * xx + yy) := by
  unfold fsF fsW
  rw [show (2 * xx + yy) / 2 = xx by omega, show (2 * xx + yy) % 2 = yy by omega, mu_s]
  rfl
end FS
/-- how many of the last d of four, and which is the least of them -/
def cN (G : Nat → Bool) : Nat → Nat
  | 0 => 0
  | d + 1 => if G (3 - d) then cN G d + 1 else cN G d
def lo (G : Nat → Bool) : Nat → Option Nat
  | 0 => none
  | d + 1 => if G (3 - d) then some (3 - d) else lo G d
section CN
variable {G : Nat → Bool} {v w : Nat}
theorem cN_t (hv : v < 4) (hw : w = v + 1) (h : G v = true) : cN G (4 - v) = cN G (4 - w) + 1 := by
  rw [show 4 - v = (4 - w) + 1 by omega, cN, show 3 - (4 - w) = v by omega, if_pos h]
theorem cN_f (hv : v < 4) (hw : w = v + 1) (h : G v = false) : cN G (4 - v) = cN G (4 - w) := by
  rw [show 4 - v = (4 - w) + 1 by omega, cN, show 3 - (4 - w) = v by omega, if_neg (by rw [h]; decide)]
theorem lo_t (hv : v < 4) (h : G v = true) : lo G (4 - v) = some v := by
  rw [show 4 - v = (3 - v) + 1 by omega, lo, show 3 - (3 - v) = v by omega, if_pos h]
theorem lo_f (hv : v < 4) (hw : w = v + 1) (h : G v = false) : lo G (4 - v) = lo G (4 - w) := by
  rw [show 4 - v = (4 - w) + 1 by omega, lo, show 3 - (4 - w) = v by omega, if_neg (by rw [h]; decide)]
theorem cN_4 (G : Nat → Bool) : cN G 4 = rfN G 4 ∧ lo G 4 = firstOf 4 G := by
  cases a0 : G 0 <;> cases a1 : G 1 <;> cases a2 : G 2 <;> cases a3 : G 3 <;> simp [cN, rfN, lo, firstOf, a0, a1, a2, a3]
theorem cN_le (G : Nat → Bool) : cN G 4 ≤ 4 := by rw [(cN_4 G).1]; exact rfN_le G 4
theorem fs_n0 (h : cN G 4 = 0) : nI 0 = nI (fsN (firstOf 4 G)) := by rw [rf_none ((cN_4 G).1 ▸ h)]; rfl
theorem fs_n2 (h : ¬ cN G 4 = 0) : nI 2 = nI (fsN (firstOf 4 G)) := by
  obtain ⟨q, e⟩ := rf_some (p := G) (n := 4) ((cN_4 G).1 ▸ h)
  rw [e]; rfl
theorem fs_pv {h : ev_H} {R : Nat → Int32} {o : Option Nat} {x y : Nat} (hx : x < 2) (hy : y < 2) (hR : ∀ k, k < 6 → hI h 84 k = fsR R o k) : ∀ k, k < 6 → hI (sI (sI h 84 0 (nI x)) 84 1 (nI y)) 84 k = fsR R (some (2 * x + y)) k := fun k hk => by
  show _ = u1 (u1 R 0 (nI ((2 * x + y) / 2))) 1 (nI ((2 * x + y) % 2)) k
  rw [show (2 * x + y) / 2 = x by omega, show (2 * x + y) % 2 = y by omega]
  cases o with
  | none => exact fs_p0 hR k hk
  | some q => exact fs_p1 hR k hk
end CN

theorem x0_rests {G : ev_G} {h : ev_H} (hl : XLay h) {F E : Nat → Int32} (hF : ∀ x y, x < 2 → y < 2 → hI h (88 + x) y = F (2 * x + y) ∧ hI h (91 + x) y = E (2 * x + y)) {x y : Nat} (hx : x < 2) (hy : y < 2) : Called G mX0_rests 0 0 0 [vR 64, vI (nI x), vI (nI y)] h (px (vI (b2i (!decide (F (2 * x + y) < F ((2 * x + y) ^^^ 2)) && decide (E ((2 * x + y) ^^^ 1) ≤ E (2 * x + y))))) h) := by
  refine called_of rfl [some (vR 64), some (vI (nI x)), some (vI (nI y))] rfl (Nat.le_of_ble_eq_true rfl) ?_
  refine r_aload_n dX0_rests_0 rfl ?_
  refine r_getRv fX0_79 (hl.k) (v := 87) (hl.r 16 (by decide) (by decide)) rfl dX0_rests_1 ?_
  refine r_iconst (v := nI 1) dX0_rests_4 (by decide) ?_
  refine r_iload_n dX0_rests_5 rfl ?_
  refine r_isub dX0_rests_6 ?_
  refine r_top (nI (1 - x)) (pk_sub (by omega)) ?_
  refine r_aaldv (t := 6) (hl.k87.1) (by decide) (hl.k87.2) (ix_n (by omega) (by decide)) (v := 88 + (1 - x)) ((hl.ones (j := 1 - x) (by omega)).1) dX0_rests_7 ?_
  refine r_iload_n dX0_rests_8 rfl ?_
  refine r_ialdv ((hl.ones (j := (1 - x)) (by omega)).2.1) ((hl.ones (j := (1 - x)) (by omega)).2.2) (ix_n (by omega) (by decide)) (v := F (2 * (1 - x) + (y))) ((hF (1 - x) (y) (by omega) (by omega)).1) dX0_rests_9 ?_
  refine r_aload_n dX0_rests_10 rfl ?_
  refine r_getRv fX0_79 (hl.k) (v := 87) (hl.r 16 (by decide) (by decide)) rfl dX0_rests_11 ?_
  refine r_iload_n dX0_rests_14 rfl ?_
  refine r_aaldv (t := 6) (hl.k87.1) (by decide) (hl.k87.2) (ix_n (by omega) (by decide)) (v := 88 + x) ((hl.ones (j := x) (by omega)).1) dX0_rests_15 ?_
  refine r_iload_n dX0_rests_16 rfl ?_
  refine r_ialdv ((hl.ones (j := x) (by omega)).2.1) ((hl.ones (j := x) (by omega)).2.2) (ix_n (by omega) (by decide)) (v := F (2 * (x) + (y))) ((hF (x) (y) (by omega) (by omega)).1) dX0_rests_17 ?_
  refine r_icmp_gt (tgt := 46) dX0_rests_18 rfl (fun c1 => ?_) (fun c1 => ?_)
  · --
    refine r_iconst (v := nI 0) dX0_rests_46 (by decide) ?_
    exact r_ret0 dX0_rests_47 rfl (fs_0 hx hy c1)
  · --
    refine r_aload_n dX0_rests_21 rfl ?_
    refine r_getRv fX0_82 (hl.k) (v := 90) (hl.r 17 (by decide) (by decide)) rfl dX0_rests_22 ?_
    refine r_iload_n dX0_rests_25 rfl ?_
    refine r_aaldv (t := 6) (hl.k90.1) (by decide) (hl.k90.2) (ix_n (by omega) (by decide)) (v := 91 + x) ((hl.othe (j := x) (by omega)).1) dX0_rests_26 ?_
    refine r_iconst (v := nI 1) dX0_rests_27 (by decide) ?_
    refine r_iload_n dX0_rests_28 rfl ?_
    refine r_isub dX0_rests_29 ?_
    refine r_top (nI (1 - y)) (pk_sub (by omega)) ?_
    refine r_ialdv ((hl.othe (j := x) (by omega)).2.1) ((hl.othe (j := x) (by omega)).2.2) (ix_n (by omega) (by decide)) (v := E (2 * (x) + (1 - y))) ((hF (x) (1 - y) (by omega) (by omega)).2) dX0_rests_30 ?_
    refine r_aload_n dX0_rests_31 rfl ?_
    refine r_getRv fX0_82 (hl.k) (v := 90) (hl.r 17 (by decide) (by decide)) rfl dX0_rests_32 ?_
    refine r_iload_n dX0_rests_35 rfl ?_
    refine r_aaldv (t := 6) (hl.k90.1) (by decide) (hl.k90.2) (ix_n (by omega) (by decide)) (v := 91 + x) ((hl.othe (j := x) (by omega)).1) dX0_rests_36 ?_
    refine r_iload_n dX0_rests_37 rfl ?_
    refine r_ialdv ((hl.othe (j := x) (by omega)).2.1) ((hl.othe (j := x) (by omega)).2.2) (ix_n (by omega) (by decide)) (v := E (2 * (x) + (y))) ((hF (x) (y) (by omega) (by omega)).2) dX0_rests_38 ?_
    refine r_icmp_gt (tgt := 46) dX0_rests_39 rfl (fun c2 => ?_) (fun c2 => ?_)
    · --
      refine r_iconst (v := nI 0) dX0_rests_46 (by decide) ?_
      exact r_ret0 dX0_rests_47 rfl (fs_2 hx hy c2)
    · --
      refine r_iconst (v := nI 1) dX0_rests_42 (by decide) ?_
      refine r_goto (tgt := 47) dX0_rests_43 rfl ?_
      exact r_ret1 dX0_rests_47 rfl (fs_1 hx hy c1 c2)

theorem x0_feast {G : ev_G} {b : Bk} {K : XK} {T : Nat → Int32} {h : ev_H} (hm : XM b K T h) {R : Nat → Int32} (hR : ∀ k, k < 6 → hI h 84 k = R k) (p o : Int32) : Called G mX0_feast 314 0 0 [vR 64, vI p, vI o] h (pI (fun y h1 => y = (if fsOk b p o then nI (rfN (fsG b T p o) 4) else -1) ∧ Fw (S3 K) [15] h h1 ∧ hI h1 64 15 = (if fsOk b p o then nI (fsN (firstOf 4 (fsG b T p o))) else nI 0) ∧ ∀ k, k < 6 → hI h1 84 k = (if fsOk b p o then fsR R (firstOf 4 (fsG b T p o)) else R) k)) := by
  have hb := hm.xb
  have hT := hm.xt
  have hl := hm.lay
  have hw := hm.bw
  have hb1 := hw.p6
  have hb2 := hw.s5
  have hb3 := hw.t10
  have hw9 := hm.tw
  refine called_of rfl [some (vR 64), some (vI p), some (vI o), none, none, none, none] rfl (Nat.le_of_ble_eq_true rfl) ?_
  refine r_aload_n dX0_feast_0 rfl ?_
  refine r_iconst (v := nI 0) dX0_feast_1 (by decide) ?_
  refine r_putN fX0_123 (hl.k) (by decide) dX0_feast_2 ?_
  have gA : Fr [64] [] h (sI h 64 15 (nI 0)) := Fr.rf.sa 64 15 _ (by simp)
  have kA : Fw (S3 K) [15] h (sI h 64 15 (nI 0)) := Fw.sf 15 _ (by simp)
  have e15A : hI (sI h 64 15 (nI 0)) 64 15 = nI 0 := rfl
  have hmA : XM b K T (sI h 64 15 (nI 0)) := hm.f4 kA
  have hRA : ∀ k, k < 6 → hI (sI h 64 15 (nI 0)) 84 k = R k := fun k hk => (gA.2.2.2.2.2 84 k (by simp) (fun _ => by simp)).trans (hR k hk)
  generalize sI h 64 15 (nI 0) = hA at gA kA e15A hmA hRA ⊢
  have hbA := hmA.xb
  have hTA := hmA.xt
  have hlA := hmA.lay
  refine r_aload_n dX0_feast_5 rfl ?_
  refine r_iload_n dX0_feast_6 rfl ?_
  refine r_callVx lX0_165 (x0_isPerson hmA _) (hlA.k) rfl rfl rfl rfl dX0_feast_7 (Nat.le_refl _) (Nat.le_refl _) ?_
  refine r_ifB_eq (tgt := 26) dX0_feast_10 rfl (fun c1 => ?_) (fun c1 => ?_)
  · --
    refine r_iconst (v := (-1)) dX0_feast_26 (by decide) ?_
    exact r_reti dX0_feast_27 rfl rfl (Nat.le_refl _) (Nat.le_refl _) (⟨if_n (by simp [fsOk, c1]) rfl, kA, if_n (by simp [fsOk, c1]) e15A, fun k hk => by rw [if_neg (by rw [show fsOk _ _ _ = false from (by simp [fsOk, c1])]; decide)]; exact hRA k hk⟩)
  · --
    obtain ⟨j, hj, rfl⟩ := perV_ok hw c1
    refine r_aload_n dX0_feast_13 rfl ?_
    refine r_iload_n dX0_feast_14 rfl ?_
    refine r_callVx lX0_165 (x0_isPerson hmA _) (hlA.k) rfl rfl rfl rfl dX0_feast_15 (Nat.le_refl _) (Nat.le_refl _) ?_
    refine r_ifB_eq (tgt := 26) dX0_feast_18 rfl (fun c2 => ?_) (fun c2 => ?_)
    · --
      refine r_iconst (v := (-1)) dX0_feast_26 (by decide) ?_
      exact r_reti dX0_feast_27 rfl rfl (Nat.le_refl _) (Nat.le_refl _) (⟨if_n (by simp [fsOk, c1, c2]) rfl, kA, if_n (by simp [fsOk, c1, c2]) e15A, fun k hk => by rw [if_neg (by rw [show fsOk _ _ _ = false from (by simp [fsOk, c1, c2])]; decide)]; exact hRA k hk⟩)
    · --
      obtain ⟨jo, hjo, rfl⟩ := perV_ok hw c2
      refine r_iload_n dX0_feast_21 rfl ?_
      refine r_iload_n dX0_feast_22 rfl ?_
      refine r_icmp_ne (tgt := 28) dX0_feast_23 rfl (fun c3 => ?_) (fun c3 => ?_)
      · --
        refine r_aload_n dX0_feast_28 rfl ?_
        refine r_getRv fX0_53 (hlA.k) (v := 74) (hlA.r 5 (by decide) (by decide)) rfl dX0_feast_29 ?_
        refine r_getIv fX0_237 (hTA.k) (v := T 0) (hTA.si) rfl dX0_feast_32 ?_
        refine r_iconst (v := nI 1) dX0_feast_35 (by decide) ?_
        refine r_iload_n dX0_feast_36 rfl ?_
        refine r_ishl dX0_feast_37 ?_
        refine r_top (one j) rfl ?_
        refine r_iconst (v := nI 1) dX0_feast_38 (by decide) ?_
        refine r_iload_n dX0_feast_39 rfl ?_
        refine r_ishl dX0_feast_40 ?_
        refine r_top (one jo) rfl ?_
        refine r_ior dX0_feast_41 ?_
        refine r_iconst (v := (-1)) dX0_feast_42 (by decide) ?_
        refine r_ixor dX0_feast_43 ?_
        refine r_iand dX0_feast_44 ?_
        refine r_istore_n dX0_feast_45 (by decide) rfl ?_
        refine r_iconst (v := nI 0) dX0_feast_46 (by decide) ?_
        refine r_istore dX0_feast_47 (by decide) rfl ?_
        refine (ev_for (P := fun xx => ∀ hL : ev_H, (Fr (Q3 K) [] hA hL ∧ (∀ x' y', x' < 2 → y' < 2 → 2 * x' + y' < 2 * xx → hI hL (88 + x') y' = fsF b T (nI j) (nI jo) (nI j) (2 * x' + y') ∧ hI hL (91 + x') y' = fsF b T (nI j) (nI jo) (nI jo) (2 * x' + y'))) → Ev G mX0_feast (ev_room 314 0 0) (ev_MQ G (pI (fun y h1 => y = (if fsOk b (nI j) (nI jo) then nI (rfN (fsG b T (nI j) (nI jo)) 4) else -1) ∧ Fw (S3 K) [15] h h1 ∧ hI h1 64 15 = (if fsOk b (nI j) (nI jo) then nI (fsN (firstOf 4 (fsG b T (nI j) (nI jo)))) else nI 0) ∧ ∀ k, k < 6 → hI h1 84 k = (if fsOk b (nI j) (nI jo) then fsR R (firstOf 4 (fsG b T (nI j) (nI jo))) else R) k)) 0 0) 49 [some (vR 64), some (vI (nI j)), some (vI (nI jo)), some (vI ((T 0) &&& (((one j) ||| (one jo)) ^^^ (-1)))), some (vI (nI xx)), none, none] [] hL 0 0) 2 (fun xx hkxx ihxx hL qhL => ?_)) 0 (Nat.zero_le _) _ (⟨Fr.rf, fun x' y' _ _ h3 => absurd h3 (by omega)⟩)
        obtain ⟨fL, hFL⟩ := qhL
        have hmL := hmA.f3 fL
        have hbL := hmL.xb
        have hTL := hmL.xt
        have hlL := hmL.lay
        refine r_iload dX0_feast_49 rfl ?_
        refine r_iconst (v := nI 2) dX0_feast_51 (by decide) ?_
        refine r_icmpN_ge (tgt := 148) dX0_feast_52 rfl (by omega) (by omega) (fun c4 => ?_) (fun c4 => ?_)
        · --
          have hF4 : ∀ x y, x < 2 → y < 2 → hI hL (88 + x) y = fsF b T (nI j) (nI jo) (nI j) (2 * x + y) ∧ hI hL (91 + x) y = fsF b T (nI j) (nI jo) (nI jo) (2 * x + y) := fun x y h1 h2 => hFL x y h1 h2 (by omega)
          have kL : Fw (S3 K) [15] h hL := kA.tr (fL.fw (fun a ha => Or.inl ha))
          have e15L := (fL.2.2.2.2.2 64 15 hmA.no3b.1 (fun _ => by simp)).trans e15A
          have hRL : ∀ k, k < 6 → hI hL 84 k = R k := fun k hk => (fL.2.2.2.2.2 84 k hmA.no3b.2 (fun _ => by simp)).trans (hRA k hk)
          refine r_iconst (v := nI 0) dX0_feast_148 (by decide) ?_
          refine r_istore dX0_feast_149 (by decide) rfl ?_
          refine r_iconst (v := nI 1) dX0_feast_151 (by decide) ?_
          refine r_top (nI 2 - nI 1) (by decide) ?_
          refine r_istore dX0_feast_152 (by decide) rfl ?_
          refine (ev_loop (σ := Nat × ev_H) (P := fun s9 => ∀ (i : Nat) (hX : ev_H), s9 = (i, hX) → (i ≤ 2 ∧ Fr [84] [] hL hX ∧ ∀ k, k < 6 → hI hX 84 k = fsR R (lo (fsG b T (nI j) (nI jo)) (4 - 2 * i)) k) → Ev G mX0_feast (ev_room 314 0 0) (ev_MQ G (pI (fun y h1 => y = (if fsOk b (nI j) (nI jo) then nI (rfN (fsG b T (nI j) (nI jo)) 4) else -1) ∧ Fw (S3 K) [15] h h1 ∧ hI h1 64 15 = (if fsOk b (nI j) (nI jo) then nI (fsN (firstOf 4 (fsG b T (nI j) (nI jo)))) else nI 0) ∧ ∀ k, k < 6 → hI h1 84 k = (if fsOk b (nI j) (nI jo) then fsR R (firstOf 4 (fsG b T (nI j) (nI jo))) else R) k)) 0 0) 154 [some (vR 64), some (vI (nI j)), some (vI (nI jo)), some (vI ((T 0) &&& (((one j) ||| (one jo)) ^^^ (-1)))), some (vI (nI (cN (fsG b T (nI j) (nI jo)) (4 - 2 * i)))), some (vI ((nI i) - (nI 1))), none] [] hX 0 0) (fun s9 => s9.1) (fun s9 ih1 i hX e9 q1 => ?_)) (2, hL) 2 hL rfl (⟨Nat.le_refl _, Fr.rf, hRL⟩)
          subst e9
          obtain ⟨hi2, gX, hRX⟩ := q1
          have hlX := hlL.fr gX
          refine r_iload dX0_feast_154 rfl ?_
          refine r_if_lt (tgt := 212) dX0_feast_156 rfl (fun c5 => ?_) (fun c5 => ?_)
          · --
            have hi0 : i = 0 := sb_0 (by omega) c5
            subst hi0
            refine r_aload_n dX0_feast_212 rfl ?_
            refine r_iload dX0_feast_213 rfl ?_
            refine r_if_ne (tgt := 222) dX0_feast_215 rfl (fun c6 => ?_) (fun c6 => ?_)
            · --
              refine r_iconst (v := nI 2) dX0_feast_222 (by decide) ?_
              refine r_putN fX0_123 (hlX.k) (by decide) dX0_feast_223 ?_
              refine r_iload dX0_feast_226 rfl ?_
              have e4 := cN_4 (fsG b T (nI j) (nI jo))
              exact r_reti dX0_feast_228 rfl rfl (Nat.le_refl _) (Nat.le_refl _) (⟨if_p (by simp [fsOk, c1, c2, c3]) (congrArg nI e4.1), (kL.tr (gX.fw (fun a ha => Or.inr (List.mem_singleton.mp ha)))).tr (Fw.sf 15 _ (by simp)), if_p (by simp [fsOk, c1, c2, c3]) (fs_n2 (fun e => c6 (by rw [e]; rfl))), fun k hk => by rw [if_pos (by simp [fsOk, c1, c2, c3]), ← e4.2]; exact (rdI_s (by decide)).trans (hRX k hk)⟩)
            · --
              refine r_iconst (v := nI 0) dX0_feast_218 (by decide) ?_
              refine r_goto (tgt := 223) dX0_feast_219 rfl ?_
              refine r_putN fX0_123 (hlX.k) (by decide) dX0_feast_223 ?_
              refine r_iload dX0_feast_226 rfl ?_
              have e4 := cN_4 (fsG b T (nI j) (nI jo))
              exact r_reti dX0_feast_228 rfl rfl (Nat.le_refl _) (Nat.le_refl _) (⟨if_p (by simp [fsOk, c1, c2, c3]) (congrArg nI e4.1), (kL.tr (gX.fw (fun a ha => Or.inr (List.mem_singleton.mp ha)))).tr (Fw.sf 15 _ (by simp)), if_p (by simp [fsOk, c1, c2, c3]) (fs_n0 (nI_z (by have := cN_le (fsG b T (nI j) (nI jo)); omega) c6)), fun k hk => by rw [if_pos (by simp [fsOk, c1, c2, c3]), ← e4.2]; exact (rdI_s (by decide)).trans (hRX k hk)⟩)
          · --
            have hi0 : 0 < i := Nat.pos_of_ne_zero (fun e => c5 (by rw [e]; decide))
            refine r_L (L2 := [some (vR 64), some (vI (nI j)), some (vI (nI jo)), some (vI ((T 0) &&& (((one j) ||| (one jo)) ^^^ (-1)))), some (vI (nI (cN (fsG b T (nI j) (nI jo)) (4 - (2 * (i - 1) + 2))))), some (vI (nI (i - 1))), none]) (by rw [pk_sub (show 1 ≤ i by omega), show 2 * (i - 1) + 2 = 2 * i by omega] <;> rfl) ?_
            refine r_iconst (v := nI 1) dX0_feast_159 (by decide) ?_
            refine r_top (nI 2 - nI 1) (by decide) ?_
            refine r_istore dX0_feast_160 (by decide) rfl ?_
            refine (ev_loop (σ := Nat × ev_H) (P := fun s9 => ∀ (u : Nat) (hY : ev_H), s9 = (u, hY) → (u ≤ 2 ∧ Fr [84] [] hL hY ∧ ∀ k, k < 6 → hI hY 84 k = fsR R (lo (fsG b T (nI j) (nI jo)) (4 - (2 * (i - 1) + u))) k) → Ev G mX0_feast (ev_room 314 0 0) (ev_MQ G (pI (fun y h1 => y = (if fsOk b (nI j) (nI jo) then nI (rfN (fsG b T (nI j) (nI jo)) 4) else -1) ∧ Fw (S3 K) [15] h h1 ∧ hI h1 64 15 = (if fsOk b (nI j) (nI jo) then nI (fsN (firstOf 4 (fsG b T (nI j) (nI jo)))) else nI 0) ∧ ∀ k, k < 6 → hI h1 84 k = (if fsOk b (nI j) (nI jo) then fsR R (firstOf 4 (fsG b T (nI j) (nI jo))) else R) k)) 0 0) 162 [some (vR 64), some (vI (nI j)), some (vI (nI jo)), some (vI ((T 0) &&& (((one j) ||| (one jo)) ^^^ (-1)))), some (vI (nI (cN (fsG b T (nI j) (nI jo)) (4 - (2 * (i - 1) + u))))), some (vI (nI (i - 1))), some (vI ((nI u) - (nI 1)))] [] hY 0 0) (fun s9 => s9.1) (fun s9 ih2 u hY e9 q2 => ?_)) (2, hX) 2 hX rfl (⟨Nat.le_refl _, gX, by rw [show 2 * (i - 1) + 2 = 2 * i by omega]; exact hRX⟩)
            subst e9
            obtain ⟨hu2, gY, hRY⟩ := q2
            have hlY := hlL.fr gY
            refine r_iload dX0_feast_162 rfl ?_
            refine r_if_lt (tgt := 206) dX0_feast_164 rfl (fun c7 => ?_) (fun c7 => ?_)
            · --
              have hu0 : u = 0 := sb_0 (by omega) c7
              refine r_iinc dX0_feast_206 rfl rfl (by decide) rfl ?_
              refine r_goto (tgt := 154) dX0_feast_209 rfl ?_
              refine r_sub [some (vR 64), some (vI (nI j)), some (vI (nI jo)), some (vI ((T 0) &&& (((one j) ||| (one jo)) ^^^ (-1)))), some (vI (nI (cN (fsG b T (nI j) (nI jo)) (4 - (2 * (i - 1) + u))))), some (vI ((nI (i - 1)) + Int32.ofInt (-1))), none] (And.intro rfl (And.intro rfl (And.intro rfl (And.intro rfl (And.intro rfl (And.intro rfl trivial)))))) ?_
              exact r_L (by rw [ii_m1, hu0] <;> rfl) (ih1 (i - 1, hY) (by show i - 1 < i; omega) (i - 1) hY rfl (⟨by omega, gY, by rw [hu0] at hRY; exact hRY⟩))
            · --
              have hu0 : 0 < u := Nat.pos_of_ne_zero (fun e => c7 (by rw [e]; decide))
              refine r_L (L2 := [some (vR 64), some (vI (nI j)), some (vI (nI jo)), some (vI ((T 0) &&& (((one j) ||| (one jo)) ^^^ (-1)))), some (vI (nI (cN (fsG b T (nI j) (nI jo)) (4 - (2 * (i - 1) + u))))), some (vI (nI (i - 1))), some (vI (nI (u - 1)))]) (by rw [pk_sub (show 1 ≤ u by omega)] <;> rfl) ?_
              refine r_aload_n dX0_feast_167 rfl ?_
              refine r_iload dX0_feast_168 rfl ?_
              refine r_iload dX0_feast_170 rfl ?_
              refine r_callVx lX0_308 (x0_rests (h := hY) hlY (fs_l gY hF4) (x := i - 1) (y := u - 1) (by omega) (by omega)) (hlY.k) rfl rfl rfl rfl dX0_feast_172 (Nat.le_refl _) (Nat.le_refl _) ?_
              refine r_ifB_ne (tgt := 181) dX0_feast_175 rfl (fun c8 => ?_) (fun c8 => ?_)
              · --
                refine r_iincN (n := 1) dX0_feast_181 rfl rfl (by decide) rfl ?_
                refine r_aload_n dX0_feast_184 rfl ?_
                refine r_getRv fX0_67 (hlY.k) (v := 84) (hlY.r 12 (by decide) (by decide)) rfl dX0_feast_185 ?_
                refine r_iconst (v := nI 0) dX0_feast_188 (by decide) ?_
                refine r_iload dX0_feast_189 rfl ?_
                refine r_iastv (hlY.lies.1) (by decide) (hlY.lies.2) (ix_n (by omega) (by decide)) dX0_feast_191 ?_
                refine r_aload_n dX0_feast_192 rfl ?_
                refine r_getRv fX0_67 (hlY.k) (v := 84) (hlY.r 12 (by decide) (by decide)) rfl dX0_feast_193 ?_
                refine r_iconst (v := nI 1) dX0_feast_196 (by decide) ?_
                refine r_iload dX0_feast_197 rfl ?_
                refine r_iastv (hlY.lies.1) (by decide) (hlY.lies.2) (ix_n (by omega) (by decide)) dX0_feast_199 ?_
                have gW : Fr [84] [] hL (sI (sI hY 84 0 (nI (i - 1))) 84 1 (nI (u - 1))) := (gY.sa 84 0 _ (by simp)).sa 84 1 _ (by simp)
                have hRW : ∀ k, k < 6 → hI (sI (sI hY 84 0 (nI (i - 1))) 84 1 (nI (u - 1))) 84 k = fsR R (lo (fsG b T (nI j) (nI jo)) (4 - (2 * (i - 1) + (u - 1)))) k := by rw [lo_t (G := fsG b T (nI j) (nI jo)) (v := 2 * (i - 1) + (u - 1)) (by omega) c8]; exact fs_pv (by omega) (by omega) hRY
                generalize sI (sI hY 84 0 (nI (i - 1))) 84 1 (nI (u - 1)) = hW at gW hRW ⊢
                have hlW := hlL.fr gW
                refine r_iinc dX0_feast_200 rfl rfl (by decide) rfl ?_
                refine r_goto (tgt := 162) dX0_feast_203 rfl ?_
                exact r_L (by rw [ii_m1, cN_t (G := fsG b T (nI j) (nI jo)) (v := 2 * (i - 1) + (u - 1)) (w := 2 * (i - 1) + u) (by omega) (by omega) c8] <;> rfl) (ih2 (u - 1, hW) (by show u - 1 < u; omega) (u - 1) hW rfl (⟨by omega, gW, hRW⟩))
              · --
                refine r_goto (tgt := 200) dX0_feast_178 rfl ?_
                refine r_iinc dX0_feast_200 rfl rfl (by decide) rfl ?_
                refine r_goto (tgt := 162) dX0_feast_203 rfl ?_
                exact r_L (by rw [ii_m1, cN_f (G := fsG b T (nI j) (nI jo)) (v := 2 * (i - 1) + (u - 1)) (w := 2 * (i - 1) + u) (by omega) (by omega) c8] <;> rfl) (ih2 (u - 1, hY) (by show u - 1 < u; omega) (u - 1) hY rfl (⟨by omega, gY, by rw [lo_f (G := fsG b T (nI j) (nI jo)) (v := 2 * (i - 1) + (u - 1)) (w := 2 * (i - 1) + u) (by omega) (by omega) c8]; exact hRY⟩))
        · --
          refine r_iconst (v := nI 0) dX0_feast_55 (by decide) ?_
          refine r_istore dX0_feast_56 (by decide) rfl ?_
          refine (ev_for (P := fun yy => ∀ hN : ev_H, (Fr (Q3 K) [] hA hN ∧ (∀ x' y', x' < 2 → y' < 2 → 2 * x' + y' < 2 * xx + yy → hI hN (88 + x') y' = fsF b T (nI j) (nI jo) (nI j) (2 * x' + y') ∧ hI hN (91 + x') y' = fsF b T (nI j) (nI jo) (nI jo) (2 * x' + y'))) → Ev G mX0_feast (ev_room 314 0 0) (ev_MQ G (pI (fun y h1 => y = (if fsOk b (nI j) (nI jo) then nI (rfN (fsG b T (nI j) (nI jo)) 4) else -1) ∧ Fw (S3 K) [15] h h1 ∧ hI h1 64 15 = (if fsOk b (nI j) (nI jo) then nI (fsN (firstOf 4 (fsG b T (nI j) (nI jo)))) else nI 0) ∧ ∀ k, k < 6 → hI h1 84 k = (if fsOk b (nI j) (nI jo) then fsR R (firstOf 4 (fsG b T (nI j) (nI jo))) else R) k)) 0 0) 58 [some (vR 64), some (vI (nI j)), some (vI (nI jo)), some (vI ((T 0) &&& (((one j) ||| (one jo)) ^^^ (-1)))), some (vI (nI xx)), some (vI (nI yy)), none] [] hN 0 0) 2 (fun yy hkyy ihyy hN qhN => ?_)) 0 (Nat.zero_le _) _ (⟨fL, hFL⟩)
          obtain ⟨fN, hFN⟩ := qhN
          have hmN := hmA.f3 fN
          have hbN := hmN.xb
          have hTN := hmN.xt
          have hlN := hmN.lay
          refine r_iload dX0_feast_58 rfl ?_
          refine r_iconst (v := nI 2) dX0_feast_60 (by decide) ?_
          refine r_icmpN_ge (tgt := 142) dX0_feast_61 rfl (by omega) (by omega) (fun c9 => ?_) (fun c9 => ?_)
          · --
            refine r_iincN (n := 1) dX0_feast_142 rfl rfl (by decide) rfl ?_
            refine r_goto (tgt := 49) dX0_feast_145 rfl ?_
            refine r_sub [some (vR 64), some (vI (nI j)), some (vI (nI jo)), some (vI ((T 0) &&& (((one j) ||| (one jo)) ^^^ (-1)))), some (vI (nI (xx + 1))), none, none] (And.intro rfl (And.intro rfl (And.intro rfl (And.intro rfl (And.intro rfl trivial))))) ?_
            exact ihxx (by omega) _ (⟨fN, fun x' y' h1 h2 h3 => hFN x' y' h1 h2 (by omega)⟩)
          · --
            refine r_aload_n dX0_feast_64 rfl ?_
            refine r_getRv fX0_60 (hlN.k) (v := 80) (hlN.r 7 (by decide) (by decide)) rfl dX0_feast_65 ?_
            refine r_aload_n dX0_feast_68 rfl ?_
            refine r_getRv fX0_53 (hlN.k) (v := 74) (hlN.r 5 (by decide) (by decide)) rfl dX0_feast_69 ?_
            refine r_callVr lX0_230 (xq_copy hmN) (hlN.s80.2.1) rfl rfl rfl rfl dX0_feast_72 (Nat.le_refl _) (Nat.le_refl _) (fun y9 hZ1 q9 => ?_)
            obtain ⟨rfl, gZ1, hqZ1⟩ := q9
            have kZ1 : Fr (QF K) [] hN hZ1 := frq_t gZ1
            have hmZ1 := hmN.fq kZ1
            have fZ1 : Fr (Q3 K) [] hA hZ1 := fN.tr (q3_q kZ1)
            have hFZ1 := fs_fr hFN kZ1 hmN.no3
            have hbZ1 := hmZ1.xb
            have hTZ1 := hmZ1.xt
            have hlZ1 := hmZ1.lay
            refine r_iload_n dX0_feast_75 rfl ?_
            refine r_iload dX0_feast_76 rfl ?_
            refine r_iload_n dX0_feast_78 rfl ?_
            refine r_ishl dX0_feast_79 ?_
            refine r_ior dX0_feast_80 ?_
            refine r_iload dX0_feast_81 rfl ?_
            refine r_iload_n dX0_feast_83 rfl ?_
            refine r_ishl dX0_feast_84 ?_
            refine r_ior dX0_feast_85 ?_
            refine r_callVr lX0_265 (x3_seat hqZ1 ((((T 0) &&& (((one j) ||| (one jo)) ^^^ (-1))) ||| ((nI xx) <<< ((nI j) &&& 31))) ||| ((nI yy) <<< ((nI jo) &&& 31)))) (hlZ1.s80.2.1) rfl rfl rfl rfl dX0_feast_86 (Nat.le_refl _) (Nat.le_refl _) (fun y9 hZ2 q9 => ?_)
            obtain ⟨rfl, gZ2, hqZ2⟩ := q9
            have kZ2 : Fr (QF K) [] hZ1 hZ2 := frq_t gZ2
            have hmZ2 := hmZ1.fq kZ2
            have fZ2 : Fr (Q3 K) [] hA hZ2 := fZ1.tr (q3_q kZ2)
            have hFZ2 := fs_fr hFZ1 kZ2 hmZ1.no3
            have hbZ2 := hmZ2.xb
            have hTZ2 := hmZ2.xt
            have hlZ2 := hmZ2.lay
            refine r_aload_n dX0_feast_89 rfl ?_
            refine r_getRv fX0_42 (hlZ2.k) (v := kB K) (hmZ2.bk) rfl dX0_feast_90 ?_
            refine r_aload_n dX0_feast_93 rfl ?_
            refine r_callVx lX0_280 (x0_allSacks hmZ2) (hlZ2.k) rfl rfl rfl rfl dX0_feast_94 (Nat.le_refl _) (Nat.le_refl _) ?_
            refine r_callVi lX0_289 (x3_grindSome hbZ2 hqZ2 (hw9.sits (fs_seat hw hw9 hj hjo (by omega) (by omega))) (allV (nS b))) (hlZ2.s80.2.1) rfl rfl rfl rfl dX0_feast_97 (Nat.le_refl _) (Nat.le_refl _) (fun y9 hZ3 q9 => ?_)
            obtain ⟨e9, gZ3, hqZ3⟩ := q9
            rw [gsV_said (hw9.sits (fs_seat hw hw9 hj hjo (by omega) (by omega))) hw] at e9; subst e9
            have kZ3 : Fr (QF K) [] hZ2 hZ3 := frq_g gZ3
            have hmZ3 := hmZ2.fq kZ3
            have fZ3 : Fr (Q3 K) [] hA hZ3 := fZ2.tr (q3_q kZ3)
            have hFZ3 := fs_fr hFZ2 kZ3 hmZ2.no3
            have hbZ3 := hmZ3.xb
            have hTZ3 := hmZ3.xt
            have hlZ3 := hmZ3.lay
            refine r_istore dX0_feast_100 (by decide) rfl ?_
            refine r_aload_n dX0_feast_102 rfl ?_
            refine r_getRv fX0_79 (hlZ3.k) (v := 87) (hlZ3.r 16 (by decide) (by decide)) rfl dX0_feast_103 ?_
            refine r_iload dX0_feast_106 rfl ?_
            refine r_aaldv (t := 6) (hlZ3.k87.1) (by decide) (hlZ3.k87.2) (ix_n (by omega) (by decide)) (v := 88 + xx) ((hlZ3.ones (j := xx) (by omega)).1) dX0_feast_108 ?_
            refine r_iload dX0_feast_109 rfl ?_
            refine r_aload_n dX0_feast_111 rfl ?_
            refine r_iload_n dX0_feast_112 rfl ?_
            refine r_iload dX0_feast_113 rfl ?_
            refine r_callVx lX0_305 (x0_has hmZ3 _ _) (hlZ3.k) rfl rfl rfl rfl dX0_feast_115 (Nat.le_refl _) (Nat.le_refl _) ?_
            refine r_iastv ((hlZ3.ones (j := xx) (by omega)).2.1) (Nat.lt_of_lt_of_le (show ev_c < 88 by decide) (by omega)) ((hlZ3.ones (j := xx) (by omega)).2.2) (ix_n (by omega) (by decide)) dX0_feast_118 ?_
            have gZ4 : Fr (Q3 K) [] hZ3 (sI hZ3 (88 + xx) yy (worthV b (nI j) (saidV b (u1 T 0 ((((T 0) &&& (((one j) ||| (one jo)) ^^^ (-1))) ||| ((nI xx) <<< ((nI j) &&& 31))) ||| ((nI yy) <<< ((nI jo) &&& 31)))) (allV (nS b))))) := Fr.rf.sa (88 + xx) yy _ (q3_m (by omega))
            have hmZ4 := hmZ3.f3 gZ4
            have hxZ4 : hI (sI hZ3 (88 + xx) yy (worthV b (nI j) (saidV b (u1 T 0 ((((T 0) &&& (((one j) ||| (one jo)) ^^^ (-1))) ||| ((nI xx) <<< ((nI j) &&& 31))) ||| ((nI yy) <<< ((nI jo) &&& 31)))) (allV (nS b))))) (88 + xx) yy = fsF b T (nI j) (nI jo) (nI j) (2 * xx + yy) := (fs_at).trans (fs_v (by omega) (by omega))
            have hFZ4 : (∀ x' y', x' < 2 → y' < 2 → 2 * x' + y' < 2 * xx + yy → hI (sI hZ3 (88 + xx) yy (worthV b (nI j) (saidV b (u1 T 0 ((((T 0) &&& (((one j) ||| (one jo)) ^^^ (-1))) ||| ((nI xx) <<< ((nI j) &&& 31))) ||| ((nI yy) <<< ((nI jo) &&& 31)))) (allV (nS b))))) (88 + x') y' = fsF b T (nI j) (nI jo) (nI j) (2 * x' + y') ∧ hI (sI hZ3 (88 + xx) yy (worthV b (nI j) (saidV b (u1 T 0 ((((T 0) &&& (((one j) ||| (one jo)) ^^^ (-1))) ||| ((nI xx) <<< ((nI j) &&& 31))) ||| ((nI yy) <<< ((nI jo) &&& 31)))) (allV (nS b))))) (91 + x') y' = fsF b T (nI j) (nI jo) (nI jo) (2 * x' + y')) := fs_w1 (by omega) hFZ3
            have fZ4 : Fr (Q3 K) [] hA (sI hZ3 (88 + xx) yy (worthV b (nI j) (saidV b (u1 T 0 ((((T 0) &&& (((one j) ||| (one jo)) ^^^ (-1))) ||| ((nI xx) <<< ((nI j) &&& 31))) ||| ((nI yy) <<< ((nI jo) &&& 31)))) (allV (nS b))))) := fZ3.tr gZ4
            generalize sI hZ3 (88 + xx) yy (worthV b (nI j) (saidV b (u1 T 0 ((((T 0) &&& (((one j) ||| (one jo)) ^^^ (-1))) ||| ((nI xx) <<< ((nI j) &&& 31))) ||| ((nI yy) <<< ((nI jo) &&& 31)))) (allV (nS b)))) = hZ4 at gZ4 hmZ4 hxZ4 hFZ4 fZ4 ⊢
            have hbZ4 := hmZ4.xb
            have hTZ4 := hmZ4.xt
            have hlZ4 := hmZ4.lay
            refine r_aload_n dX0_feast_119 rfl ?_
            refine r_getRv fX0_82 (hlZ4.k) (v := 90) (hlZ4.r 17 (by decide) (by decide)) rfl dX0_feast_120 ?_
            refine r_iload dX0_feast_123 rfl ?_
            refine r_aaldv (t := 6) (hlZ4.k90.1) (by decide) (hlZ4.k90.2) (ix_n (by omega) (by decide)) (v := 91 + xx) ((hlZ4.othe (j := xx) (by omega)).1) dX0_feast_125 ?_
            refine r_iload dX0_feast_126 rfl ?_
            refine r_aload_n dX0_feast_128 rfl ?_
            refine r_iload_n dX0_feast_129 rfl ?_
            refine r_iload dX0_feast_130 rfl ?_
            refine r_callVx lX0_305 (x0_has hmZ4 _ _) (hlZ4.k) rfl rfl rfl rfl dX0_feast_132 (Nat.le_refl _) (Nat.le_refl _) ?_
            refine r_iastv ((hlZ4.othe (j := xx) (by omega)).2.1) (Nat.lt_of_lt_of_le (show ev_c < 88 by decide) (by omega)) ((hlZ4.othe (j := xx) (by omega)).2.2) (ix_n (by omega) (by decide)) dX0_feast_135 ?_
            have gZ5 : Fr (Q3 K) [] hZ4 (sI hZ4 (91 + xx) yy (worthV b (nI jo) (saidV b (u1 T 0 ((((T 0) &&& (((one j) ||| (one jo)) ^^^ (-1))) ||| ((nI xx) <<< ((nI j) &&& 31))) ||| ((nI yy) <<< ((nI jo) &&& 31)))) (allV (nS b))))) := Fr.rf.sa (91 + xx) yy _ (q3_m (by omega))
            have hmZ5 := hmZ4.f3 gZ5
            have hFZ5 : (∀ x' y', x' < 2 → y' < 2 → 2 * x' + y' < 2 * xx + yy + 1 → hI (sI hZ4 (91 + xx) yy (worthV b (nI jo) (saidV b (u1 T 0 ((((T 0) &&& (((one j) ||| (one jo)) ^^^ (-1))) ||| ((nI xx) <<< ((nI j) &&& 31))) ||| ((nI yy) <<< ((nI jo) &&& 31)))) (allV (nS b))))) (88 + x') y' = fsF b T (nI j) (nI jo) (nI j) (2 * x' + y') ∧ hI (sI hZ4 (91 + xx) yy (worthV b (nI jo) (saidV b (u1 T 0 ((((T 0) &&& (((one j) ||| (one jo)) ^^^ (-1))) ||| ((nI xx) <<< ((nI j) &&& 31))) ||| ((nI yy) <<< ((nI jo) &&& 31)))) (allV (nS b))))) (91 + x') y' = fsF b T (nI j) (nI jo) (nI jo) (2 * x' + y')) := fs_w2 (by omega) hFZ4 hxZ4 (fs_v (by omega) (by omega))
            have fZ5 : Fr (Q3 K) [] hA (sI hZ4 (91 + xx) yy (worthV b (nI jo) (saidV b (u1 T 0 ((((T 0) &&& (((one j) ||| (one jo)) ^^^ (-1))) ||| ((nI xx) <<< ((nI j) &&& 31))) ||| ((nI yy) <<< ((nI jo) &&& 31)))) (allV (nS b))))) := fZ4.tr gZ5
            generalize sI hZ4 (91 + xx) yy (worthV b (nI jo) (saidV b (u1 T 0 ((((T 0) &&& (((one j) ||| (one jo)) ^^^ (-1))) ||| ((nI xx) <<< ((nI j) &&& 31))) ||| ((nI yy) <<< ((nI jo) &&& 31)))) (allV (nS b)))) = hZ5 at gZ5 hmZ5 hFZ5 fZ5 ⊢
            have hbZ5 := hmZ5.xb
            have hTZ5 := hmZ5.xt
            have hlZ5 := hmZ5.lay
            refine r_iincN (n := 1) dX0_feast_136 rfl rfl (by decide) rfl ?_
            refine r_goto (tgt := 58) dX0_feast_139 rfl ?_
            refine r_sub [some (vR 64), some (vI (nI j)), some (vI (nI jo)), some (vI ((T 0) &&& (((one j) ||| (one jo)) ^^^ (-1)))), some (vI (nI xx)), some (vI (nI (yy + 1))), none] (And.intro rfl (And.intro rfl (And.intro rfl (And.intro rfl (And.intro rfl (And.intro rfl trivial)))))) ?_
            exact ihyy (by omega) _ (⟨fZ5, hFZ5⟩)
      · --
        refine r_iconst (v := (-1)) dX0_feast_26 (by decide) ?_
        exact r_reti dX0_feast_27 rfl rfl (Nat.le_refl _) (Nat.le_refl _) (⟨if_n (by simp [fsOk, c1, c2, c3]) rfl, kA, if_n (by simp [fsOk, c1, c2, c3]) e15A, fun k hk => by rw [if_neg (by rw [show fsOk _ _ _ = false from (by simp [fsOk, c1, c2, c3])]; decide)]; exact hRA k hk⟩)
