/-! ===== THE READER: the next token (walks by program) ===== -/
set_option maxRecDepth 100000

def GF (r : Nat) (h h1 : ev_H) : Prop := hK h r = 6 ∧ Fg (fun a => a = r) [] (fun a => a = r) h h1 ∧ (∀ j, 4 ≤ j → hI h1 r j = hI h r j) ∧ ∀ j, j ≠ 8 → hR h1 r j = hR h r j
def GI (r : Nat) (v0 v1 v2 v3 : Int32) (h0 h : ev_H) : Prop := GF r h0 h ∧ hI h r 0 = v0 ∧ hI h r 1 = v1 ∧ hI h r 2 = v2 ∧ hI h r 3 = v3
def pkF (f : Nat → Int32) : Nat → Int64
  | 0 => 0
  | k + 1 => (pkF f k <<< ((nI 8).toInt64 &&& 63)) ||| (f k).toInt64
/-- a string that may be asked for its hash -/
def SwAt (w : Nat) (f : Nat → Int32) (m : Nat) (h : ev_H) : Prop := StrAt w f m h ∧ ev_c < w ∧ ev_c < hR h w 0 ∧ ∃ hv hz, StrH w f m hv hz h
/-- a word, told by its letters' number -/
def WdAt (w : Nat) (v : Int64) (h : ev_H) : Prop := ∃ f m, SwAt w f m h ∧ (1 ≤ m ∧ m ≤ 8) ∧ (∀ i, i < m → isLetV (f i) = true) ∧ pkF f m = v
def srT (tx : Nat → Int32) (n p : Nat) : Int32 := if tkT tx n p = 0 then nI 0 else if tkT tx n p = 1 then nI 3 else if tkT tx n p = 2 ∨ tkT tx n p = 3 then nI 1 else if tkT tx n p = 4 then nI 2 else sgT tx n (taT tx n p)
/-- the reader's token is the one sought from p on -/
def XTk (hb : ev_H) (tx : Nat → Int32) (n p r : Nat) (h : ev_H) : Prop := hI h r 1 = srT tx n p ∧ hI h r 2 = nI (taT tx n p) ∧ (tkT tx n p ≠ 1 → hI h r 0 = nI (teT tx n p)) ∧ (tkT tx n p = 4 → hI h r 3 = tvT tx n p) ∧ (tkT tx n p = 2 ∨ tkT tx n p = 3 → WdAt (hR h r 8) (tnT tx n p) h ∧ hK hb (hR h r 8) = 0)
section GFS
variable {r n x v k w m : Nat} {tx f : Nat → Int32} {h h0 h1 h2 : ev_H} {v0 v1 v2 v3 y : Int32}
theorem GF.rf (hk : hK h r = 6) : GF r h h := ⟨hk, Fg.rf, fun _ _ => rfl, fun _ _ => rfl⟩
theorem GF.tr (p : GF r h h1) (q : GF r h1 h2) : GF r h h2 := ⟨p.1, p.2.1.tr q.2.1, fun j hj => (q.2.2.1 j hj).trans (p.2.2.1 j hj), fun j hj => (q.2.2.2 j hj).trans (p.2.2.2 j hj)⟩
theorem GF.kr (p : GF r h h1) : hK h1 r = 6 := p.2.1.k p.1 (by decide)
theorem GF.fg0 (p : GF r h h1) {a : Nat} (z : hK h1 a = 0) : hK h a = 0 := fg_0 p.2.1 z
theorem GI.fg0 (q : GI r v0 v1 v2 v3 h0 h) {a : Nat} (z : hK h a = 0) : hK h0 a = 0 := q.1.fg0 z
theorem RTx.go (x : RTx r tx n h) (g : GF r h h1) : RTx r tx n h1 := by
  obtain ⟨x1, x2, x3, x4, x5, x6, x7⟩ := x
  have n64 : 64 ≠ r := fun e => by rw [← e, x4.k] at x1; cases x1
  have n65 : 65 ≠ r := fun e => by rw [← e, x4.tape.1] at x1; cases x1
  refine ⟨g.kr, x2, (g.2.2.2 10 (by decide)).trans x3, x4.fg (K := fun _ _ => 0) g.2.1 (fun a ha => by rw [ha]; exact Or.inr (Or.inl (by rw [x1]; rfl))), (g.2.1.i x4.k (by decide) n64 1 (fun _ => by simp)).trans x5, x6, fun k hk => ?_⟩
  rw [g.2.1.i x4.tape.1 (by decide) n65 k (fun _ => by simp)]
  exact x7 k hk
theorem gf_si {j : Nat} (q : GF r h0 h) (hj : j < 4) : GF r h0 (sI h r j y) := ⟨q.1, fg_si q.2.1 (Or.inl rfl), fun i hi => (rdI_k (by omega)).trans (q.2.2.1 i hi), q.2.2.2⟩
theorem GI.w0 (q : GI r v0 v1 v2 v3 h0 h) : GI r y v1 v2 v3 h0 (sI h r 0 y) := ⟨gf_si q.1 (by decide), fs_at, (rdI_k (by decide)).trans q.2.2.1, (rdI_k (by decide)).trans q.2.2.2.1, (rdI_k (by decide)).trans q.2.2.2.2⟩
theorem GI.w1 (q : GI r v0 v1 v2 v3 h0 h) : GI r v0 y v2 v3 h0 (sI h r 1 y) := ⟨gf_si q.1 (by decide), (rdI_k (by decide)).trans q.2.1, fs_at, (rdI_k (by decide)).trans q.2.2.2.1, (rdI_k (by decide)).trans q.2.2.2.2⟩
theorem GI.w2 (q : GI r v0 v1 v2 v3 h0 h) : GI r v0 v1 y v3 h0 (sI h r 2 y) := ⟨gf_si q.1 (by decide), (rdI_k (by decide)).trans q.2.1, (rdI_k (by decide)).trans q.2.2.1, fs_at, (rdI_k (by decide)).trans q.2.2.2.2⟩
theorem GI.w3 (q : GI r v0 v1 v2 v3 h0 h) : GI r v0 v1 v2 y h0 (sI h r 3 y) := ⟨gf_si q.1 (by decide), (rdI_k (by decide)).trans q.2.1, (rdI_k (by decide)).trans q.2.2.1, (rdI_k (by decide)).trans q.2.2.2.1, fs_at⟩
theorem GI.wr {z : Nat} (q : GI r v0 v1 v2 v3 h0 h) : GI r v0 v1 v2 v3 h0 (sR h r 8 z) := ⟨⟨q.1.1, fg_sr q.1.2.1 (Or.inl rfl), q.1.2.2.1, fun j hj => (show u2 (hR h) r 8 z r j = _ from u2_ne (fun e => hj e.2)).trans (q.1.2.2.2 j hj)⟩, q.2⟩
theorem GI.gr (q : GI r v0 v1 v2 v3 h0 h) (g : Fg noC [] noC h h1) : GI r v0 v1 v2 v3 h0 h1 := by
  have kr := q.1.kr
  have e : ∀ j, hI h1 r j = hI h r j := fun j => g.i kr (by decide) (fun z => z) j (fun _ => by simp)
  have er := g.r kr (by decide) (fun z => z)
  exact ⟨⟨q.1.1, q.1.2.1.tr (g.wk (fun _ z => z.elim) (fun _ z => z) (fun _ z => z.elim)), fun j hj => (e j).trans (q.1.2.2.1 j hj), fun j hj => by rw [er]; exact q.1.2.2.2 j hj⟩, (e 0).trans q.2.1, (e 1).trans q.2.2.1, (e 2).trans q.2.2.2.1, (e 3).trans q.2.2.2.2⟩
theorem GI.fr (q : GI r v0 v1 v2 v3 h0 h) (g : Fr [x, v] [] h h1) (n1 : x ≠ r) (n2 : v ≠ r) (zx : hK h0 x = 0) (zv : hK h0 v = 0) : GI r v0 v1 v2 v3 h0 h1 := by
  have e : ∀ c j, c ≠ x → c ≠ v → hI h1 c j = hI h c j := fun c j a b => g.2.2.2.2.2 c j (by simp; exact ⟨a, b⟩) (fun _ => by simp)
  have er : ∀ j, hI h1 r j = hI h r j := fun j => e r j (fun z => n1 z.symm) (fun z => n2 z.symm)
  refine ⟨⟨q.1.1, ⟨by rw [g.1]; exact q.1.2.1.1, fun c hc => ?_⟩, fun j hj => (er j).trans (q.1.2.2.1 j hj), fun j hj => by rw [g.2.2.2.1]; exact q.1.2.2.2 j hj⟩, (er 0).trans q.2.1, (er 1).trans q.2.2.1, (er 2).trans q.2.2.2.1, (er 3).trans q.2.2.2.2⟩
  obtain ⟨p1, p2, p3, p4, p5⟩ := q.1.2.1.2 c hc
  exact ⟨by rw [g.2.1]; exact p1, by rw [g.2.2.1]; exact p2, fun z => by rw [g.2.2.2.1]; exact p3 z, fun j a b => (e c j (fun z => hc (by rw [z]; exact zx)) (fun z => hc (by rw [z]; exact zv))).trans (p4 j a b), by rw [g.2.2.2.2.1]; exact p5⟩
theorem SwAt.sr {z : Nat} (s : SwAt w f m h) (n1 : r ≠ w) : SwAt w f m (sR h r 8 z) := by
  have e : hR (sR h r 8 z) w = hR h w := funext fun j => gr_sR (fun q => n1 q.symm) j
  obtain ⟨⟨a1, a2, a3, a4, a5, a6⟩, b1, b2, hv, hz, c⟩ := s
  unfold SwAt StrAt
  rw [e]
  exact ⟨⟨a1, a2, a3, a4, a5, a6⟩, b1, b2, hv, hz, c⟩
theorem SwAt.si {j : Nat} (s : SwAt w f m h) (n1 : r ≠ w) (n2 : r ≠ hR h w 0) : SwAt w f m (sI h r j y) := by
  obtain ⟨⟨a1, a2, a3, a4, a5, a6⟩, b1, b2, hv, hz, c1, c2, c3⟩ := s
  exact ⟨⟨a1, (rdI_s n1.symm).trans a2, a3, a4, a5, fun i hi => (rdI_s (fun z => n2 z.symm)).trans (a6 i hi)⟩, b1, b2, hv, hz, (rdI_s n1.symm).trans c1, (rdI_s n1.symm).trans c2, c3⟩
end GFS
section TKS
variable {tx : Nat → Int32} {n k m a i r p x v w9 : Nat} {h h0 h1 hb : ev_H} {nu : Int32}
theorem and255 (y : Int32) : ∃ m, m < 256 ∧ y &&& nI 255 = nI m := by
  obtain ⟨m, hm, e⟩ := and_lt (m := 8) y ⟨255, by decide, rfl⟩ (by decide)
  exact ⟨m, hm, by rw [Int32.and_comm]; exact e⟩
theorem hr_neg (hx : RTx r tx n h) (c : ¬ 0 ≤ hrV tx n a) : n ≤ a := by
  rcases Nat.lt_or_ge a n with e | e
  · obtain ⟨m, hm, q⟩ := and255 (hI h 65 a)
    unfold hrV at c
    rw [if_pos e, ← hx.2.2.2.2.2.2 a e, q] at c
    exact absurd (Int32.not_lt.mp (nI_pos (show m < 2 ^ 31 by omega))) c
  · exact e
theorem hr_pos (c : 0 ≤ hrV tx n a) : a < n := by
  rcases Nat.lt_or_ge a n with e | e
  · exact e
  · unfold hrV at c
    rw [if_neg (by omega)] at c
    exact absurd c (by decide)
theorem hr_sg (e : a < n) : hrV tx n a = sgT tx n a := by unfold hrV sgT; rw [if_pos e, if_pos e]
theorem ws_lt (h : wsT tx n a = true) : a < n := by
  unfold wsT at h
  rw [Bool.and_eq_true] at h
  exact of_decide_eq_true h.1
theorem ws_t (c : hrV tx n a = nI 32 ∨ hrV tx n a = nI 10) : wsT tx n a = true := by
  have e : a < n := by
    rcases Nat.lt_or_ge a n with e | e
    · exact e
    · unfold hrV at c
      rw [if_neg (by omega)] at c
      rcases c with c | c <;> exact absurd c (by decide)
  unfold wsT
  rw [decide_eq_true e, ← hr_sg e]
  rcases c with c | c
  · rw [decide_eq_true c]; rfl
  · rw [decide_eq_true c]; simp
theorem ws_f (c1 : ¬ hrV tx n a = nI 32) (c2 : ¬ hrV tx n a = nI 10) : wsT tx n a = false := by
  unfold wsT
  rcases Nat.lt_or_ge a n with e | e
  · rw [← hr_sg e, decide_eq_false c1, decide_eq_false c2]; simp
  · rw [decide_eq_false (show ¬ a < n by omega)]; rfl
theorem ta_s (h : wsT tx n a = true) : taT tx n a = taT tx n (a + 1) := by
  have := ws_lt h
  unfold taT
  rw [show n - a = (n - (a + 1)) + 1 by omega, runT_t h]
theorem run_at {c : Nat → Bool} : ∀ {i f a : Nat}, (∀ j, j < i → c (a + j) = true) → c (a + i) = false → i ≤ f → runT c f a = a + i
  | 0, f, a, _, h, _ => runT_f h
  | i + 1, 0, a, _, _, h => absurd h (by omega)
  | i + 1, f + 1, a, h, h1, h2 => by
    have h9 := h 0 (by omega)
    rw [Nat.add_zero] at h9
    rw [runT_t h9, run_at (i := i) (f := f) (a := a + 1) (fun j hj => by have := h (j + 1) (by omega); rwa [show a + 1 + j = a + (j + 1) by omega]) (by rwa [show a + 1 + i = a + (i + 1) by omega]) (by omega)]
    omega
theorem le_step {c : Nat → Bool} (h : ∀ j, j < i → c (a + j) = true) (h1 : c (a + i) = true) : ∀ j, j < i + 1 → c (a + j) = true := fun j hj => by
  by_cases e : j = i
  · rw [e]; exact h1
  · exact h j (by omega)
theorem let_m {y : Int32} (h : isLetV y = true) : ∃ m, m < 128 ∧ y = nI m := by
  unfold isLetV at h
  rw [Bool.and_eq_true] at h
  have h1 : ¬ y < nI 97 := by simpa using h.1
  have h2 : ¬ nI 122 < y := by simpa using h.2
  have h0 : ¬ y < 0 := fun z => h1 (Int32.lt_trans z (show (0 : Int32) < nI 97 by decide))
  obtain ⟨j, hj, e⟩ := isIn_m (m := 122) (by decide) (p := y) (by unfold isInV; rw [decide_eq_false h0, decide_eq_false h2]; rfl)
  exact ⟨j, by omega, e⟩
theorem le_lt (h : leT tx n k = true) : k < n := by
  rcases Nat.lt_or_ge k n with e | e
  · exact e
  · unfold leT sgT at h
    rw [if_neg (by omega)] at h
    exact absurd h (by decide)
theorem di_lt (h : diT tx n k = true) : k < n := by
  rcases Nat.lt_or_ge k n with e | e
  · exact e
  · unfold diT sgT at h
    rw [if_neg (by omega)] at h
    exact absurd h (by decide)
theorem le_m (h : leT tx n k = true) : ∃ m, m < 128 ∧ hrV tx n k = nI m ∧ sgT tx n k = nI m ∧ k < n := by
  have e := le_lt h
  obtain ⟨m, hm, q⟩ := let_m h
  exact ⟨m, hm, (hr_sg e).trans q, q, e⟩
theorem di_m (h : diT tx n k = true) : hrV tx n k = sgT tx n k ∧ k < n := ⟨hr_sg (di_lt h), di_lt h⟩
theorem i2c_m_ : ∀ m : Fin 128, ((nI m.val).toUInt32 % 65536).toInt32 = nI m.val := by decide +kernel
theorem i2c_m (h : m < 128) : ((nI m).toUInt32 % 65536).toInt32 = nI m := i2c_m_ ⟨m, h⟩
theorem le_bytes (h : ∀ j, j < i → leT tx n (a + j) = true) : ∀ j, j < i → ∃ m, m < 128 ∧ sgT tx n (a + j) = nI m := fun j hj => let_m (h j hj)
theorem SBAt.eqF {f g : Nat → Int32} (s : SBAt x v k f h) (e : ∀ i, i < k → f i = g i) : SBAt x v k g h := ⟨s.1, s.2.1, s.2.2.1, s.2.2.2.1, s.2.2.2.2.1, s.2.2.2.2.2.1, fun i hi => (s.2.2.2.2.2.2.1 i hi).trans (e i hi), s.2.2.2.2.2.2.2⟩
theorem sb_step {f : Nat → Int32} (hi : i < 8) (s : SBAt x v (min i 8 + 1) (u1 f (min i 8) (f i)) h) : SBAt x v (min (i + 1) 8) f h := by
  rw [show min i 8 = i by omega] at s
  rw [show min (i + 1) 8 = i + 1 by omega]
  refine s.eqF fun j hj => ?_
  by_cases e : j = i
  · subst e; rw [u1_self]
  · rw [u1_ne e]
theorem sb_skip {f : Nat → Int32} (hi : 8 ≤ i) (s : SBAt x v (min i 8) f h) : SBAt x v (min (i + 1) 8) f h := by
  rw [show min i 8 = 8 by omega] at s
  rw [show min (i + 1) 8 = 8 by omega]
  exact s
theorem sb_8 {f : Nat → Int32} (hi : i ≤ 8) (s : SBAt x v (min i 8) f h) : SBAt x v i f h := by
  rwa [show min i 8 = i by omega] at s
theorem nu_t (h : i < 4) : nuT tx n a (i + 1) = nI 10 * nuT tx n a i + sgT tx n (a + i) - nI 48 := if_pos h
theorem nu_f (h : ¬ i < 4) : nuT tx n a (i + 1) = nuT tx n a i := if_neg h
theorem nm_pk : ∀ m, nmT tx n a m = pkF (fun i => sgT tx n (a + i)) m
  | 0 => rfl
  | m + 1 => by show (nmT tx n a m <<< _) ||| _ = (pkF _ m <<< _) ||| _; rw [nm_pk m]
theorem tk_over (hta : taT tx n p = a) (ha : a ≤ n) (hn : n ≤ a) (q : GI r (nI (a + 0)) (nI 0) (nI a) nu h0 h) : XTk hb tx n p r h := by
  have k0 : tkT tx n p = 0 := by unfold tkT; rw [hta, if_pos hn]
  have e : teT tx n p = a := by unfold teT; rw [hta, if_pos hn]; omega
  unfold XTk srT
  rw [k0, if_pos rfl, hta, e]
  exact ⟨q.2.2.1, q.2.2.2.1, fun _ => q.2.1, fun z => absurd z (by decide), fun z => absurd z (by decide)⟩
theorem tk_b1 (hta : taT tx n p = a) (k1 : tkT tx n p = 1) {y : Int32} (q : GI r y (nI 3) (nI a) nu h0 h) : XTk hb tx n p r h := by
  unfold XTk srT
  rw [k1, if_neg (by decide), if_pos rfl, hta]
  exact ⟨q.2.2.1, q.2.2.2.1, fun z => absurd rfl z, fun z => absurd z (by decide), fun z => absurd z (by decide)⟩
theorem te_le (hta : taT tx n p = a) (hl : leT tx n a = true) (hr : runT (leT tx n) (n - a) a = a + i) : teT tx n p = a + i := by
  have := le_lt hl
  unfold teT; rw [hta, if_neg (by omega), if_pos hl, hr]
theorem te_di (hta : taT tx n p = a) (hl : leT tx n a = false) (hd : diT tx n a = true) (hr : runT (diT tx n) (n - a) a = a + i) : teT tx n p = a + i := by
  have := di_lt hd
  unfold teT; rw [hta, if_neg (by omega), if_neg (by rw [hl]; decide), if_pos hd, hr]
theorem tk_long (hta : taT tx n p = a) (ha : a < n) (hl : leT tx n a = true) (hr : runT (leT tx n) (n - a) a = a + i) (hi : 8 < i) {y : Int32} (q : GI r y (nI 3) (nI a) nu h0 h) : XTk hb tx n p r h := by
  refine tk_b1 hta ?_ q
  have e := te_le hta hl hr
  unfold tkT; rw [e, hta, if_neg (by omega), if_pos hl, if_pos (by omega)]
theorem tk_word (hta : taT tx n p = a) (hl : leT tx n a = true) (hr : runT (leT tx n) (n - a) a = a + i) (hi : i ≤ 8) (hi1 : a + i ≤ n) (hle : ∀ j, j < i → leT tx n (a + j) = true) (q : GI r (nI (a + i)) (nI 1) (nI a) nu h0 h) (wd : hR h r 8 = w9) (sw : SwAt w9 (fun i => sgT tx n (a + i)) i h) (zw : hK hb w9 = 0) : XTk hb tx n p r h := by
  have ha := le_lt hl
  have e := te_le hta hl hr
  have hk : tkT tx n p = 2 ∨ tkT tx n p = 3 := by
    unfold tkT; rw [e, hta, if_neg (by omega), if_pos hl, if_neg (by omega)]
    split
    · exact Or.inr rfl
    · exact Or.inl rfl
  have i1 : 1 ≤ i := by
    rcases Nat.eq_zero_or_pos i with z | z
    · subst z
      have := runT_t (c := leT tx n) (f := n - a - 1) hl
      rw [show n - a - 1 + 1 = n - a by omega, hr] at this
      have h2 := runT_ge (c := leT tx n) (n - a - 1) (a + 1)
      omega
    · exact z
  have hs : srT tx n p = nI 1 := by
    unfold srT
    rw [if_neg (by omega), if_neg (by omega), if_pos hk]
  unfold XTk
  rw [hs, hta, e, wd]
  refine ⟨q.2.2.1, q.2.2.2.1, fun _ => q.2.1, fun z => by omega, fun _ => ⟨⟨_, i, sw, ⟨i1, hi⟩, hle, ?_⟩, zw⟩⟩
  unfold tnT
  rw [hta, e, show a + i - a = i by omega, show min 8 i = i by omega, nm_pk]
theorem tk_bad4 (hta : taT tx n p = a) (hl : leT tx n a = false) (hd : diT tx n a = true) (hr : runT (diT tx n) (n - a) a = a + i) (hbd : 4 < i ∨ leT tx n (a + i) = true) {y : Int32} (q : GI r y (nI 3) (nI a) nu h0 h) : XTk hb tx n p r h := by
  refine tk_b1 hta ?_ q
  have ha := di_lt hd
  have e := te_di hta hl hd hr
  unfold tkT; rw [e, hta, if_neg (by omega), if_neg (by rw [hl]; decide), if_pos hd, if_pos (by rcases hbd with z | z; exact Or.inl (by omega); exact Or.inr z)]
theorem tk_num (hta : taT tx n p = a) (hl : leT tx n a = false) (hd : diT tx n a = true) (hr : runT (diT tx n) (n - a) a = a + i) (hi : i ≤ 4) (hbd : leT tx n (a + i) = false) (q : GI r (nI (a + i)) (nI 2) (nI a) (nuT tx n a i) h0 h) : XTk hb tx n p r h := by
  have ha := di_lt hd
  have e := te_di hta hl hd hr
  have k4 : tkT tx n p = 4 := by
    unfold tkT; rw [e, hta, if_neg (by omega), if_neg (by rw [hl]; decide), if_pos hd, if_neg (fun z => by rcases z with z | z; omega; rw [hbd] at z; cases z)]
  have tv : tvT tx n p = nuT tx n a i := by unfold tvT; rw [hta, e, show a + i - a = i by omega]
  unfold XTk srT
  rw [k4, if_neg (by decide), if_neg (by decide), if_neg (by decide), if_pos rfl, hta, e, tv]
  exact ⟨q.2.2.1, q.2.2.2.1, fun _ => q.2.1, fun _ => q.2.2.2.2, fun z => absurd z (by decide)⟩
theorem te_sg (hta : taT tx n p = a) (ha : a < n) (hl : leT tx n a = false) (hd : diT tx n a = false) : teT tx n p = a + 1 := by
  unfold teT; rw [hta, if_neg (by omega), if_neg (by rw [hl]; decide), if_neg (by rw [hd]; decide)]
theorem tk_sign (hta : taT tx n p = a) (ha : a < n) (hl : leT tx n a = false) (hd : diT tx n a = false) (hs : isSgV (hrV tx n a) = true) (q : GI r (nI (a + 1)) (hrV tx n a) (nI a) nu h0 h) : XTk hb tx n p r h := by
  have e := te_sg hta ha hl hd
  rw [hr_sg ha] at hs q
  have k5 : tkT tx n p = 5 := by
    unfold tkT; rw [hta, if_neg (by omega), if_neg (by rw [hl]; decide), if_neg (by rw [hd]; decide), if_pos hs]
  unfold XTk srT
  rw [k5, if_neg (by decide), if_neg (by decide), if_neg (by decide), if_neg (by decide), hta, e]
  exact ⟨q.2.2.1, q.2.2.2.1, fun _ => q.2.1, fun z => absurd z (by decide), fun z => absurd z (by decide)⟩
theorem tk_sign0 (hta : taT tx n p = a) (ha : a < n) (hl : leT tx n a = false) (hd : diT tx n a = false) (hs : isSgV (hrV tx n a) = false) {y : Int32} (q : GI r y (nI 3) (nI a) nu h0 h) : XTk hb tx n p r h := by
  refine tk_b1 hta ?_ q
  rw [hr_sg ha] at hs
  unfold tkT; rw [hta, if_neg (by omega), if_neg (by rw [hl]; decide), if_neg (by rw [hd]; decide), if_neg (by rw [hs]; decide)]
end TKS

theorem x5_go {G : ev_G} {h : ev_H} {r n : Nat} {tx : Nat → Int32} (hx : RTx r tx n h) {hb : ev_H} (g0 : Fg noC [] noC hb h) {p : Nat} (hp : p ≤ n) (hp0 : hI h r 0 = nI p) : Called G mX5_go 6 4 24 [vR r] h (p0 (fun h1 => XTk hb tx n p r h1 ∧ GF r h h1)) := by
  have hn1 := hx.2.2.2.2.2.1
  have q0 : GI r (nI p) (hI h r 1) (hI h r 2) (hI h r 3) h h := ⟨GF.rf hx.1, hp0, rfl, rfl, rfl⟩
  refine called_of rfl [some (vR r), none, none, none] rfl (Nat.le_of_ble_eq_true rfl) ?_
  refine (ev_loop (σ := Nat × ev_H) (P := fun s9 => ∀ (a : Nat) (hL : ev_H), s9 = (a, hL) → (a ≤ n ∧ taT tx n p = taT tx n a ∧ GI r (nI a) (hI h r 1) (hI h r 2) (hI h r 3) h hL) → Ev G mX5_go (ev_room 6 4 24) (ev_MQ G (p0 (fun h1 => XTk hb tx n p r h1 ∧ GF r h h1)) 4 24) 0 [some (vR r), none, none, none] [] hL 0 0) (fun s9 => n - s9.1) (fun s9 ih7 a hL e9 q7 => ?_)) (p, h) p h rfl (⟨hp, rfl, q0⟩)
  subst e9
  obtain ⟨ha, hta, qL⟩ := q7
  have hxL := hx.go qL.1
  refine r_aload_n dX5_go_0 rfl ?_
  refine r_iconst (v := nI 0) dX5_go_1 (by decide) ?_
  refine r_callVx lX5_39 (x5_here hxL qL.2.1 (j := 0) (by omega)) ((hxL).1) rfl rfl rfl rfl dX5_go_2 (by decide) (by decide) ?_
  refine r_bipush (v := nI 32) dX5_go_5 (by decide) ?_
  refine r_icmp_eq (tgt := 20) dX5_go_7 rfl (fun c1 => ?_) (fun c1 => ?_)
  · --
    refine r_aload_n dX5_go_20 rfl ?_
    refine r_dup dX5_go_21 rfl ?_
    refine r_getIv fX5_28 ((hxL).1) (v := nI a) (qL.2.1) rfl dX5_go_22 ?_
    refine r_iconst (v := nI 1) dX5_go_25 (by decide) ?_
    refine r_iadd dX5_go_26 ?_
    refine r_top (nI (a + 1)) (nI_add _ _) ?_
    refine r_putN fX5_28 ((hxL).1) (hxL.2.1) dX5_go_27 ?_
    have qZ1 : GI r (nI (a + 1)) (hI h r 1) (hI h r 2) (hI h r 3) h (sI hL r 0 (nI (a + 1))) := qL.w0
    generalize sI hL r 0 (nI (a + 1)) = hZ1 at qZ1 ⊢
    have hxZ1 := hx.go qZ1.1
    refine r_goto (tgt := 0) dX5_go_30 rfl ?_
    exact ih7 (a + 1, hZ1) (by show n - (a + 1) < n - a; have := ws_lt (ws_t (Or.inl c1)); omega) (a + 1) hZ1 rfl (⟨by have := ws_lt (ws_t (Or.inl c1)); omega, hta.trans (ta_s (ws_t (Or.inl c1))), qZ1⟩)
  · --
    refine r_aload_n dX5_go_10 rfl ?_
    refine r_iconst (v := nI 0) dX5_go_11 (by decide) ?_
    refine r_callVx lX5_39 (x5_here hxL qL.2.1 (j := 0) (by omega)) ((hxL).1) rfl rfl rfl rfl dX5_go_12 (by decide) (by decide) ?_
    refine r_bipush (v := nI 10) dX5_go_15 (by decide) ?_
    refine r_icmp_ne (tgt := 33) dX5_go_17 rfl (fun c2 => ?_) (fun c2 => ?_)
    · --
      have hta9 : taT tx n p = a := hta.trans (runT_f (ws_f c1 c2))
      refine r_aload_n dX5_go_33 rfl ?_
      refine r_aload_n dX5_go_34 rfl ?_
      refine r_getIv fX5_28 ((hxL).1) (v := nI a) (qL.2.1) rfl dX5_go_35 ?_
      refine r_putN fX5_43 ((hxL).1) (hxL.2.1) dX5_go_38 ?_
      have qZ2 : GI r (nI a) (hI h r 1) (nI a) (hI h r 3) h (sI hL r 2 (nI a)) := qL.w2
      generalize sI hL r 2 (nI a) = hZ2 at qZ2 ⊢
      have hxZ2 := hx.go qZ2.1
      refine r_aload_n dX5_go_41 rfl ?_
      refine r_iconst (v := nI 0) dX5_go_42 (by decide) ?_
      refine r_callVx lX5_39 (x5_here hxZ2 qZ2.2.1 (j := 0) (by omega)) ((hxZ2).1) rfl rfl rfl rfl dX5_go_43 (by decide) (by decide) ?_
      refine r_istore_n dX5_go_46 (by decide) rfl ?_
      refine r_iconst (v := nI 0) dX5_go_47 (by decide) ?_
      refine r_istore_n dX5_go_48 (by decide) rfl ?_
      refine r_aload_n dX5_go_49 rfl ?_
      refine r_iconst (v := nI 3) dX5_go_50 (by decide) ?_
      refine r_putN fX5_46 ((hxZ2).1) (hxZ2.2.1) dX5_go_51 ?_
      have qZ3 : GI r (nI a) (nI 3) (nI a) (hI h r 3) h (sI hZ2 r 1 (nI 3)) := qZ2.w1
      generalize sI hZ2 r 1 (nI 3) = hZ3 at qZ3 ⊢
      have hxZ3 := hx.go qZ3.1
      refine r_iload_n dX5_go_54 rfl ?_
      refine r_if_ge (tgt := 66) dX5_go_55 rfl (fun c3 => ?_) (fun c3 => ?_)
      · --
        refine r_aload_n dX5_go_66 rfl ?_
        refine r_iconst (v := nI 0) dX5_go_67 (by decide) ?_
        refine r_callVx lX5_49 (x5_isLetter hxZ3 qZ3.2.1 (j := 0) (by omega)) ((hxZ3).1) rfl rfl rfl rfl dX5_go_68 (by decide) (by decide) ?_
        refine r_ifB_eq (tgt := 138) dX5_go_71 rfl (fun c4 => ?_) (fun c4 => ?_)
        · --
          refine r_aload_n dX5_go_138 rfl ?_
          refine r_iconst (v := nI 0) dX5_go_139 (by decide) ?_
          refine r_callVx lX5_66 (x5_isDigit hxZ3 qZ3.2.1 (j := 0) (by omega)) ((hxZ3).1) rfl rfl rfl rfl dX5_go_140 (by decide) (by decide) ?_
          refine r_ifB_eq (tgt := 212) dX5_go_143 rfl (fun c5 => ?_) (fun c5 => ?_)
          · --
            refine r_iload_n dX5_go_212 rfl ?_
            refine r_callSx lX5_72 (x5_isSign _) rfl rfl rfl rfl dX5_go_213 (by decide) (by decide) ?_
            refine r_ifB_eq (tgt := 226) dX5_go_216 rfl (fun c6 => ?_) (fun c6 => ?_)
            · --
              refine r_aload_n dX5_go_226 rfl ?_
              refine r_dup dX5_go_227 rfl ?_
              refine r_getIv fX5_28 ((hxZ3).1) (v := nI a) (qZ3.2.1) rfl dX5_go_228 ?_
              refine r_iload_n dX5_go_231 rfl ?_
              refine r_iadd dX5_go_232 ?_
              refine r_top (nI (a + 0)) (nI_add _ _) ?_
              refine r_putN fX5_28 ((hxZ3).1) (hxZ3.2.1) dX5_go_233 ?_
              have qZ4 : GI r (nI (a + 0)) (nI 3) (nI a) (hI h r 3) h (sI hZ3 r 0 (nI (a + 0))) := qZ3.w0
              generalize sI hZ3 r 0 (nI (a + 0)) = hZ4 at qZ4 ⊢
              have hxZ4 := hx.go qZ4.1
              exact r_retv dX5_go_236 rfl (by decide) (by decide) ⟨tk_sign0 hta9 (hr_pos c3) c4 c5 c6 qZ4, qZ4.1⟩
            · --
              refine r_aload_n dX5_go_219 rfl ?_
              refine r_iload_n dX5_go_220 rfl ?_
              refine r_putN fX5_46 ((hxZ3).1) (hxZ3.2.1) dX5_go_221 ?_
              have qZ5 : GI r (nI a) (hrV tx n a) (nI a) (hI h r 3) h (sI hZ3 r 1 (hrV tx n a)) := qZ3.w1
              generalize sI hZ3 r 1 (hrV tx n a) = hZ5 at qZ5 ⊢
              have hxZ5 := hx.go qZ5.1
              refine r_iconst (v := nI 1) dX5_go_224 (by decide) ?_
              refine r_istore_n dX5_go_225 (by decide) rfl ?_
              refine r_aload_n dX5_go_226 rfl ?_
              refine r_dup dX5_go_227 rfl ?_
              refine r_getIv fX5_28 ((hxZ5).1) (v := nI a) (qZ5.2.1) rfl dX5_go_228 ?_
              refine r_iload_n dX5_go_231 rfl ?_
              refine r_iadd dX5_go_232 ?_
              refine r_top (nI (a + 1)) (nI_add _ _) ?_
              refine r_putN fX5_28 ((hxZ5).1) (hxZ5.2.1) dX5_go_233 ?_
              have qZ6 : GI r (nI (a + 1)) (hrV tx n a) (nI a) (hI h r 3) h (sI hZ5 r 0 (nI (a + 1))) := qZ5.w0
              generalize sI hZ5 r 0 (nI (a + 1)) = hZ6 at qZ6 ⊢
              have hxZ6 := hx.go qZ6.1
              exact r_retv dX5_go_236 rfl (by decide) (by decide) ⟨tk_sign hta9 (hr_pos c3) c4 c5 c6 qZ6, qZ6.1⟩
          · --
            refine r_aload_n dX5_go_146 rfl ?_
            refine r_iconst (v := nI 0) dX5_go_147 (by decide) ?_
            refine r_putN fX5_69 ((hxZ3).1) (hxZ3.2.1) dX5_go_148 ?_
            have qZ7 : GI r (nI a) (nI 3) (nI a) (nI 0) h (sI hZ3 r 3 (nI 0)) := qZ3.w3
            generalize sI hZ3 r 3 (nI 0) = hZ7 at qZ7 ⊢
            have hxZ7 := hx.go qZ7.1
            refine (ev_loop (σ := Nat × ev_H) (P := fun s9 => ∀ (i : Nat) (hD : ev_H), s9 = (i, hD) → (a + i ≤ n ∧ (∀ j, j < i → diT tx n (a + j) = true) ∧ GI r (nI a) (nI 3) (nI a) (nuT tx n a i) h hD) → Ev G mX5_go (ev_room 6 4 24) (ev_MQ G (p0 (fun h1 => XTk hb tx n p r h1 ∧ GF r h h1)) 4 24) 151 [some (vR r), some (vI (hrV tx n a)), some (vI (nI i)), none] [] hD 0 0) (fun s9 => n - (a + s9.1)) (fun s9 ih151 i hD e9 q151 => ?_)) (0, hZ7) 0 hZ7 rfl (⟨by omega, fun j hj => absurd hj (by omega), qZ7⟩)
            subst e9
            obtain ⟨hi9, hdi9, qD⟩ := q151
            have hxD := hx.go qD.1
            refine r_aload_n dX5_go_151 rfl ?_
            refine r_iload_n dX5_go_152 rfl ?_
            refine r_callVx lX5_66 (x5_isDigit hxD qD.2.1 (j := i) (by omega)) ((hxD).1) rfl rfl rfl rfl dX5_go_153 (by decide) (by decide) ?_
            refine r_ifB_eq (tgt := 190) dX5_go_156 rfl (fun c7 => ?_) (fun c7 => ?_)
            · --
              have hru := run_at (c := diT tx n) (f := n - a) hdi9 c7 (by omega)
              refine r_iload_n dX5_go_190 rfl ?_
              refine r_iconst (v := nI 4) dX5_go_191 (by decide) ?_
              refine r_icmpN_gt (tgt := 203) dX5_go_192 rfl (by omega) (by omega) (fun c8 => ?_) (fun c8 => ?_)
              · --
                exact r_retv dX5_go_203 rfl (by decide) (by decide) ⟨tk_bad4 hta9 c4 c5 hru (Or.inl (by omega)) qD, qD.1⟩
              · --
                refine r_aload_n dX5_go_195 rfl ?_
                refine r_iload_n dX5_go_196 rfl ?_
                refine r_callVx lX5_49 (x5_isLetter hxD qD.2.1 (j := i) (by omega)) ((hxD).1) rfl rfl rfl rfl dX5_go_197 (by decide) (by decide) ?_
                refine r_ifB_eq (tgt := 204) dX5_go_200 rfl (fun c9 => ?_) (fun c9 => ?_)
                · --
                  refine r_aload_n dX5_go_204 rfl ?_
                  refine r_iconst (v := nI 2) dX5_go_205 (by decide) ?_
                  refine r_putN fX5_46 ((hxD).1) (hxD.2.1) dX5_go_206 ?_
                  have qZ8 : GI r (nI a) (nI 2) (nI a) (nuT tx n a i) h (sI hD r 1 (nI 2)) := qD.w1
                  generalize sI hD r 1 (nI 2) = hZ8 at qZ8 ⊢
                  have hxZ8 := hx.go qZ8.1
                  refine r_goto (tgt := 226) dX5_go_209 rfl ?_
                  refine r_aload_n dX5_go_226 rfl ?_
                  refine r_dup dX5_go_227 rfl ?_
                  refine r_getIv fX5_28 ((hxZ8).1) (v := nI a) (qZ8.2.1) rfl dX5_go_228 ?_
                  refine r_iload_n dX5_go_231 rfl ?_
                  refine r_iadd dX5_go_232 ?_
                  refine r_top (nI (a + i)) (nI_add _ _) ?_
                  refine r_putN fX5_28 ((hxZ8).1) (hxZ8.2.1) dX5_go_233 ?_
                  have qZ9 : GI r (nI (a + i)) (nI 2) (nI a) (nuT tx n a i) h (sI hZ8 r 0 (nI (a + i))) := qZ8.w0
                  generalize sI hZ8 r 0 (nI (a + i)) = hZ9 at qZ9 ⊢
                  have hxZ9 := hx.go qZ9.1
                  exact r_retv dX5_go_236 rfl (by decide) (by decide) ⟨tk_num hta9 c4 c5 hru (by omega) c9 qZ9, qZ9.1⟩
                · --
                  exact r_retv dX5_go_203 rfl (by decide) (by decide) ⟨tk_bad4 hta9 c4 c5 hru (Or.inr c9) qD, qD.1⟩
            · --
              refine r_iload_n dX5_go_159 rfl ?_
              refine r_iconst (v := nI 4) dX5_go_160 (by decide) ?_
              refine r_icmpN_ge (tgt := 184) dX5_go_161 rfl (by omega) (by omega) (fun c10 => ?_) (fun c10 => ?_)
              · --
                refine r_iincN (n := 1) dX5_go_184 rfl rfl (by decide) rfl ?_
                refine r_goto (tgt := 151) dX5_go_187 rfl ?_
                exact ih151 (i + 1, hD) (by show n - (a + (i + 1)) < n - (a + i); have := (di_m c7).2; omega) (i + 1) hD rfl (⟨by have := (di_m c7).2; omega, le_step hdi9 c7, by rw [nu_f (by omega)]; exact qD⟩)
              · --
                have ed9 := (di_m c7).1
                refine r_aload_n dX5_go_164 rfl ?_
                refine r_bipush (v := nI 10) dX5_go_165 (by decide) ?_
                refine r_aload_n dX5_go_167 rfl ?_
                refine r_getIv fX5_69 ((hxD).1) (v := nuT tx n a i) (qD.2.2.2.2) rfl dX5_go_168 ?_
                refine r_imul dX5_go_171 ?_
                refine r_aload_n dX5_go_172 rfl ?_
                refine r_iload_n dX5_go_173 rfl ?_
                refine r_callVx lX5_39 ((by have z9 := x5_here (G := G) hxD qD.2.1 (j := i) (by omega); rw [ed9] at z9; exact z9)) ((hxD).1) rfl rfl rfl rfl dX5_go_174 (by decide) (by decide) ?_
                refine r_iadd dX5_go_177 ?_
                refine r_bipush (v := nI 48) dX5_go_178 (by decide) ?_
                refine r_isub dX5_go_180 ?_
                refine r_putN fX5_69 ((hxD).1) (hxD.2.1) dX5_go_181 ?_
                have qZ10 : GI r (nI a) (nI 3) (nI a) ((((nI 10) * (nuT tx n a i)) + (sgT tx n (a + i))) - (nI 48)) h (sI hD r 3 ((((nI 10) * (nuT tx n a i)) + (sgT tx n (a + i))) - (nI 48))) := qD.w3
                generalize sI hD r 3 ((((nI 10) * (nuT tx n a i)) + (sgT tx n (a + i))) - (nI 48)) = hZ10 at qZ10 ⊢
                have hxZ10 := hx.go qZ10.1
                refine r_iincN (n := 1) dX5_go_184 rfl rfl (by decide) rfl ?_
                refine r_goto (tgt := 151) dX5_go_187 rfl ?_
                exact ih151 (i + 1, hZ10) (by show n - (a + (i + 1)) < n - (a + i); have := (di_m c7).2; omega) (i + 1) hZ10 rfl (⟨by have := (di_m c7).2; omega, le_step hdi9 c7, by rw [nu_t (by omega)]; exact qZ10⟩)
        · --
          refine r_wf (fun wf9 => ?_)
          refine r_new nX5_53 dX5_go_74 (by decide) (by decide) ?_
          have kA : hK (nO hZ3 22 0) (hN hZ3) = 22 := nO_Kn
          have gA : Fg noC [] noC hZ3 (nO hZ3 22 0) := Fg.nO wf9
          have cA : ev_c < hN hZ3 := wf9.1
          have zA : hK hZ3 (hN hZ3) = 0 := wf_0 wf9
          have iA : hI (nO hZ3 22 0) (hN hZ3) 3 = 0 := nO_I0 3
          generalize nO hZ3 22 0 = hA at kA gA iA ⊢
          generalize hN hZ3 = x at kA cA zA iA ⊢
          refine r_dup dX5_go_77 rfl ?_
          refine r_bipush (v := nI 8) dX5_go_78 (by decide) ?_
          refine r_callIv lX5_55 (xJ6_init kA cA iA (fun i => sgT tx n (a + i))) (nz_ kA (by decide)) rfl rfl rfl rfl dX5_go_80 (by decide) (by decide) (fun hB q9 => ?_)
          obtain ⟨v, zB, sB, gB⟩ := q9
          have gAB : Fg noC [] noC hZ3 hB := fg_new gA gB zA
          have qB := qZ3.gr gAB
          have hxB := hx.go qB.1
          have zx := qZ3.fg0 zA
          have zv := qZ3.fg0 (fg_0 gA zB)
          refine r_astore_n dX5_go_83 (by decide) rfl ?_
          refine (ev_loop (σ := Nat × ev_H) (P := fun s9 => ∀ (i : Nat) (hW : ev_H), s9 = (i, hW) → (a + i ≤ n ∧ (∀ j, j < i → leT tx n (a + j) = true) ∧ SBAt x v (min i 8) (fun i => sgT tx n (a + i)) hW ∧ GI r (nI a) (nI 3) (nI a) (hI h r 3) h hW) → Ev G mX5_go (ev_room 6 4 24) (ev_MQ G (p0 (fun h1 => XTk hb tx n p r h1 ∧ GF r h h1)) 4 24) 84 [some (vR r), some (vI (hrV tx n a)), some (vI (nI i)), some (vR x)] [] hW (0 + 1 + 1) (0 + 4 + 8)) (fun s9 => n - (a + s9.1)) (fun s9 ih84 i hW e9 q84 => ?_)) (0, hB) 0 hB rfl (⟨by omega, fun j hj => absurd hj (by omega), (by rw [show min 0 8 = 0 from rfl]; exact sB), qB⟩)
          subst e9
          obtain ⟨hi9, hle9, sW, qW⟩ := q84
          have hxW := hx.go qW.1
          refine r_aload_n dX5_go_84 rfl ?_
          refine r_iload_n dX5_go_85 rfl ?_
          refine r_callVx lX5_49 (x5_isLetter hxW qW.2.1 (j := i) (by omega)) ((hxW).1) rfl rfl rfl rfl dX5_go_86 (by decide) (by decide) ?_
          refine r_ifB_eq (tgt := 115) dX5_go_89 rfl (fun c11 => ?_) (fun c11 => ?_)
          · --
            have hru := run_at (c := leT tx n) (f := n - a) hle9 c11 (by omega)
            refine r_iload_n dX5_go_115 rfl ?_
            refine r_bipush (v := nI 8) dX5_go_116 (by decide) ?_
            refine r_icmpN_le (tgt := 122) dX5_go_118 rfl (by omega) (by omega) (fun c12 => ?_) (fun c12 => ?_)
            · --
              refine r_aload_n dX5_go_122 rfl ?_
              refine r_aload_n dX5_go_123 rfl ?_
              refine r_callVr lX5_62 (xJ6_toString (sb_8 (by omega) sW) (by omega) (le_bytes hle9)) (sW.1) rfl rfl rfl rfl dX5_go_124 (by decide) (by decide) (fun w9 hT q9 => ?_)
              obtain ⟨zT, cT, sT, cT2, zT2, hT9, gT⟩ := q9
              have qT := qW.gr gT
              have hxT := hx.go qT.1
              have swT : SwAt w9 (fun i => sgT tx n (a + i)) i hT := ⟨sT, cT, cT2, _, _, hT9⟩
              refine r_putR fX5_17 ((hxT).1) (hxT.2.1) rfl dX5_go_127 ?_
              have qZ11 : GI r (nI a) (nI 3) (nI a) (hI h r 3) h (sR hT r 8 w9) := qT.wr
              have wdZ11 : hR (sR hT r 8 w9) r 8 = w9 := fs_atR
              have swZ11 : SwAt w9 (fun i => sgT tx n (a + i)) i (sR hT r 8 w9) := swT.sr (fun z => by have q := swT.1.1; rw [← z, hxT.1] at q; cases q)
              generalize sR hT r 8 w9 = hZ11 at qZ11 wdZ11 swZ11 ⊢
              have hxZ11 := hx.go qZ11.1
              refine r_aload_n dX5_go_130 rfl ?_
              refine r_iconst (v := nI 1) dX5_go_131 (by decide) ?_
              refine r_putN fX5_46 ((hxZ11).1) (hxZ11.2.1) dX5_go_132 ?_
              have qZ12 : GI r (nI a) (nI 1) (nI a) (hI h r 3) h (sI hZ11 r 1 (nI 1)) := qZ11.w1
              have wdZ12 : hR (sI hZ11 r 1 (nI 1)) r 8 = w9 := wdZ11
              have swZ12 : SwAt w9 (fun i => sgT tx n (a + i)) i (sI hZ11 r 1 (nI 1)) := swZ11.si (fun z => by have q := swZ11.1.1; rw [← z, hxZ11.1] at q; cases q) (fun z => by have q := swZ11.1.2.2.1; rw [← z, hxZ11.1] at q; cases q)
              generalize sI hZ11 r 1 (nI 1) = hZ12 at qZ12 wdZ12 swZ12 ⊢
              have hxZ12 := hx.go qZ12.1
              refine r_goto (tgt := 226) dX5_go_135 rfl ?_
              refine r_aload_n dX5_go_226 rfl ?_
              refine r_dup dX5_go_227 rfl ?_
              refine r_getIv fX5_28 ((hxZ12).1) (v := nI a) (qZ12.2.1) rfl dX5_go_228 ?_
              refine r_iload_n dX5_go_231 rfl ?_
              refine r_iadd dX5_go_232 ?_
              refine r_top (nI (a + i)) (nI_add _ _) ?_
              refine r_putN fX5_28 ((hxZ12).1) (hxZ12.2.1) dX5_go_233 ?_
              have qZ13 : GI r (nI (a + i)) (nI 1) (nI a) (hI h r 3) h (sI hZ12 r 0 (nI (a + i))) := qZ12.w0
              have wdZ13 : hR (sI hZ12 r 0 (nI (a + i))) r 8 = w9 := wdZ12
              have swZ13 : SwAt w9 (fun i => sgT tx n (a + i)) i (sI hZ12 r 0 (nI (a + i))) := swZ12.si (fun z => by have q := swZ12.1.1; rw [← z, hxZ12.1] at q; cases q) (fun z => by have q := swZ12.1.2.2.1; rw [← z, hxZ12.1] at q; cases q)
              generalize sI hZ12 r 0 (nI (a + i)) = hZ13 at qZ13 wdZ13 swZ13 ⊢
              have hxZ13 := hx.go qZ13.1
              exact r_retv dX5_go_236 rfl (by decide) (by decide) ⟨tk_word hta9 c4 hru (by omega) (by omega) hle9 qZ13 wdZ13 swZ13 (fg_0 g0 (qW.fg0 zT)), qZ13.1⟩
            · --
              exact r_retv dX5_go_121 rfl (by decide) (by decide) ⟨tk_long hta9 (le_lt c4) c4 hru (by omega) qW, qW.1⟩
          · --
            obtain ⟨m9, hm9, em9, es9, hlt9⟩ := le_m c11
            refine r_iload_n dX5_go_92 rfl ?_
            refine r_bipush (v := nI 8) dX5_go_93 (by decide) ?_
            refine r_icmpN_ge (tgt := 109) dX5_go_95 rfl (by omega) (by omega) (fun c13 => ?_) (fun c13 => ?_)
            · --
              refine r_iincN (n := 1) dX5_go_109 rfl rfl (by decide) rfl ?_
              refine r_goto (tgt := 84) dX5_go_112 rfl ?_
              exact ih84 (i + 1, hW) (by show n - (a + (i + 1)) < n - (a + i); omega) (i + 1) hW rfl (⟨by omega, le_step hle9 c11, sb_skip (by omega) sW, qW⟩)
            · --
              refine r_aload_n dX5_go_98 rfl ?_
              refine r_aload_n dX5_go_99 rfl ?_
              refine r_iload_n dX5_go_100 rfl ?_
              refine r_callVx lX5_39 ((by have z9 := x5_here (G := G) hxW qW.2.1 (j := i) (by omega); rw [em9] at z9; exact z9)) ((hxW).1) rfl rfl rfl rfl dX5_go_101 (by decide) (by decide) ?_
              refine r_i2c dX5_go_104 rfl ?_
              refine r_top (nI m9) (i2c_m hm9) ?_
              refine r_callVr lX5_58 (xJ6_append sW (by omega) hm9) (sW.1) rfl rfl rfl rfl dX5_go_105 (by decide) (by decide) (fun y9 hY q9 => ?_)
              obtain ⟨rfl, sY, gY⟩ := q9
              rw [← es9] at sY
              have qY := qW.fr gY (fun z => by have q := sW.1; rw [z, hxW.1] at q; cases q) (fun z => by have q := sW.2.2.2.2.1; rw [z, hxW.1] at q; cases q) zx zv
              refine r_pop dX5_go_108 rfl ?_
              refine r_iincN (n := 1) dX5_go_109 rfl rfl (by decide) rfl ?_
              refine r_goto (tgt := 84) dX5_go_112 rfl ?_
              exact ih84 (i + 1, hY) (by show n - (a + (i + 1)) < n - (a + i); omega) (i + 1) hY rfl (⟨by omega, le_step hle9 c11, sb_step (by omega) sY, qY⟩)
      · --
        refine r_aload_n dX5_go_58 rfl ?_
        refine r_iconst (v := nI 0) dX5_go_59 (by decide) ?_
        refine r_putN fX5_46 ((hxZ3).1) (hxZ3.2.1) dX5_go_60 ?_
        have qZ14 : GI r (nI a) (nI 0) (nI a) (hI h r 3) h (sI hZ3 r 1 (nI 0)) := qZ3.w1
        generalize sI hZ3 r 1 (nI 0) = hZ14 at qZ14 ⊢
        have hxZ14 := hx.go qZ14.1
        refine r_goto (tgt := 226) dX5_go_63 rfl ?_
        refine r_aload_n dX5_go_226 rfl ?_
        refine r_dup dX5_go_227 rfl ?_
        refine r_getIv fX5_28 ((hxZ14).1) (v := nI a) (qZ14.2.1) rfl dX5_go_228 ?_
        refine r_iload_n dX5_go_231 rfl ?_
        refine r_iadd dX5_go_232 ?_
        refine r_top (nI (a + 0)) (nI_add _ _) ?_
        refine r_putN fX5_28 ((hxZ14).1) (hxZ14.2.1) dX5_go_233 ?_
        have qZ15 : GI r (nI (a + 0)) (nI 0) (nI a) (hI h r 3) h (sI hZ14 r 0 (nI (a + 0))) := qZ14.w0
        generalize sI hZ14 r 0 (nI (a + 0)) = hZ15 at qZ15 ⊢
        have hxZ15 := hx.go qZ15.1
        exact r_retv dX5_go_236 rfl (by decide) (by decide) ⟨tk_over hta9 ha (hr_neg hx c3) qZ15, qZ15.1⟩
    · --
      refine r_aload_n dX5_go_20 rfl ?_
      refine r_dup dX5_go_21 rfl ?_
      refine r_getIv fX5_28 ((hxL).1) (v := nI a) (qL.2.1) rfl dX5_go_22 ?_
      refine r_iconst (v := nI 1) dX5_go_25 (by decide) ?_
      refine r_iadd dX5_go_26 ?_
      refine r_top (nI (a + 1)) (nI_add _ _) ?_
      refine r_putN fX5_28 ((hxL).1) (hxL.2.1) dX5_go_27 ?_
      have qZ16 : GI r (nI (a + 1)) (hI h r 1) (hI h r 2) (hI h r 3) h (sI hL r 0 (nI (a + 1))) := qL.w0
      generalize sI hL r 0 (nI (a + 1)) = hZ16 at qZ16 ⊢
      have hxZ16 := hx.go qZ16.1
      refine r_goto (tgt := 0) dX5_go_30 rfl ?_
      exact ih7 (a + 1, hZ16) (by show n - (a + 1) < n - a; have := ws_lt (ws_t (Or.inr c2)); omega) (a + 1) hZ16 rfl (⟨by have := ws_lt (ws_t (Or.inr c2)); omega, hta.trans (ta_s (ws_t (Or.inr c2))), qZ16⟩)
