/-! ===== A HEAP THAT GROWS ===== -/
set_option maxRecDepth 100000
theorem r_wf {G : ev_G} {M : ev_M} {R : Room} {Qf : List Frame → Array Value → State → State → Prop} {pc uc us : Nat} {L : List (Option ev_V)} {st : List ev_V} {h : ev_H} (k : ev_wf h → Ev G M R Qf pc L st h uc us) : Ev G M R Qf pc L st h uc us := fun p e s m args below meth c H locs ls hC hr hS hL => k hr.1 p e s m args below meth c H locs ls hC hr hS hL
/-- cells that were there keep kind and length; ints change in S alone (of 64: in the fields F), references in Q alone -/
def Fg (S : Nat → Prop) (F : List Nat) (Q : Nat → Prop) (h h1 : ev_H) : Prop := hN h ≤ hN h1 ∧ ∀ a, hK h a ≠ 0 → hK h1 a = hK h a ∧ hL h1 a = hL h a ∧ (¬ Q a → hR h1 a = hR h a) ∧ (∀ k, ¬ S a → (a = 64 → k ∉ F) → hI h1 a k = hI h a k) ∧ hJ h1 a = hJ h a
abbrev noC (_ : Nat) : Prop := False
section FG
variable {b : Bk} {K : XK} {T W B D : Nat → Int32} {sh : Int32} {h h1 h2 : ev_H} {S S2 Q Q2 : Nat → Prop} {F F2 : List Nat} {na nu nh : Nat} {R : HR}
theorem Fg.rf : Fg S F Q h h := ⟨Nat.le_refl _, fun _ _ => ⟨rfl, rfl, fun _ => rfl, fun _ _ _ => rfl, rfl⟩⟩
theorem Fg.tr (p : Fg S F Q h h1) (q : Fg S F Q h1 h2) : Fg S F Q h h2 := ⟨Nat.le_trans p.1 q.1, fun a ha => by
  obtain ⟨p1, p2, p3, p4, p5⟩ := p.2 a ha
  obtain ⟨q1, q2, q3, q4, q5⟩ := q.2 a (by rw [p1]; exact ha)
  exact ⟨q1.trans p1, q2.trans p2, fun z => (q3 z).trans (p3 z), fun k x y => (q4 k x y).trans (p4 k x y), q5.trans p5⟩⟩
theorem Fg.wk (p : Fg S F Q h h1) (e1 : ∀ a, S a → S2 a) (e2 : ∀ k, k ∈ F → k ∈ F2) (e3 : ∀ a, Q a → Q2 a) : Fg S2 F2 Q2 h h1 := ⟨p.1, fun a ha => by
  obtain ⟨p1, p2, p3, p4, p5⟩ := p.2 a ha
  exact ⟨p1, p2, fun z => p3 (fun y => z (e3 a y)), fun k x y => p4 k (fun z => x (e1 a z)) (fun e z => y e (e2 k z)), p5⟩⟩
theorem Fw.fg (p : Fw S F h h1) : Fg S F (fun a => a = 83) h h1 := ⟨by rw [p.1]; exact Nat.le_refl _, fun a _ => ⟨by rw [p.2.1], by rw [p.2.2.1], fun z => p.2.2.2.1 a z, fun k x y => p.2.2.2.2.2 a k x y, by rw [p.2.2.2.2.1]⟩⟩
theorem Fr.fg {as : List Nat} (p : Fr as [] h h1) (e : ∀ a, a ∈ as → S a) : Fg S F Q h h1 := ⟨by rw [p.1]; exact Nat.le_refl _, fun a _ => ⟨by rw [p.2.1], by rw [p.2.2.1], fun _ => by rw [p.2.2.2.1], fun k x _ => p.2.2.2.2.2 a k (fun z => x (e a z)) (fun _ => by simp), by rw [p.2.2.2.2.1]⟩⟩
theorem Fg.nO {c n : Nat} (w : ev_wf h) : Fg S F Q h (nO h c n) := ⟨by rw [nO_N]; omega, fun a ha => by
  have hn : a ≠ hN h := fun e => by have := (w.2.1 a ha).2; omega
  exact ⟨by rw [nO_K, if_neg hn], by rw [nO_L, if_neg hn], fun _ => nO_R hn, fun k _ _ => by rw [nO_I hn], nO_J hn⟩⟩
theorem Fg.sI {a k : Nat} {v : Int32} (e : S a ∨ hK h a = 0 ∨ (a = 64 ∧ k ∈ F)) : Fg S F Q h (sI h a k v) := ⟨Nat.le_refl _, fun c hc => ⟨rfl, rfl, fun _ => rfl, fun j x y => (show u2 (hI h) a k v c j = hI h c j from u2_ne (fun z => by
  rcases e with e | e | e
  · exact x (z.1 ▸ e)
  · exact hc (z.1 ▸ e)
  · exact y (z.1.trans e.1) (z.2 ▸ e.2))), rfl⟩⟩
theorem Fg.sR {a k : Nat} {v : Nat} (e : Q a ∨ hK h a = 0) : Fg S F Q h (sR h a k v) := ⟨Nat.le_refl _, fun c hc => ⟨rfl, rfl, fun z => funext (fun j => (show u2 (hR h) a k v c j = hR h c j from u2_ne (fun y => by
  rcases e with e | e
  · exact z (y.1 ▸ e)
  · exact hc (y.1 ▸ e)))), fun _ _ _ => rfl, rfl⟩⟩
theorem Fg.k (p : Fg S F Q h h1) {a c : Nat} (hk : hK h a = c) (hc : c ≠ 0) : hK h1 a = c := by rw [(p.2 a (by rw [hk]; exact hc)).1]; exact hk
theorem Fg.l (p : Fg S F Q h h1) {a c : Nat} (hk : hK h a = c) (hc : c ≠ 0) : hL h1 a = hL h a := (p.2 a (by rw [hk]; exact hc)).2.1
theorem Fg.r (p : Fg S F Q h h1) {a c : Nat} (hk : hK h a = c) (hc : c ≠ 0) (hq : ¬ Q a) : hR h1 a = hR h a := (p.2 a (by rw [hk]; exact hc)).2.2.1 hq
theorem Fg.i (p : Fg S F Q h h1) {a c : Nat} (hk : hK h a = c) (hc : c ≠ 0) (hs : ¬ S a) (k : Nat) (hf : a = 64 → k ∉ F) : hI h1 a k = hI h a k := (p.2 a (by rw [hk]; exact hc)).2.2.2.1 k hs hf
/-- kinds of cells in which no reference is read that stands -/
def okQ (k : Nat) : Bool := !([1, 2, 4, 11, 13, 14, 21, 104, 105, 106].contains k)
/-- what a growing step may write without touching the book K -/
def GS (K : XK) (S : Nat → Prop) (h : ev_H) : Prop := ∀ a, S a → okX (hK h a) = true ∨ (hK h a = 21 ∧ a ≠ kPl K ∧ a ≠ kSl K ∧ a ≠ kTl K)
def GQ (K : XK) (Q : Nat → Prop) (h : ev_H) : Prop := ∀ a, Q a → a = 83 ∨ okQ (hK h a) = true ∨ (hK h a = 21 ∧ a ≠ kPl K ∧ a ≠ kSl K ∧ a ≠ kTl K) ∨ (hK h a = 104 ∧ a ≠ kPe K ∧ a ≠ kSe K ∧ a ≠ kTe K)
theorem GS.no (g : GS K S h) {a c : Nat} (hk : hK h a = c) (hc : okX c = false) (h21 : c ≠ 21) : ¬ S a := fun z => by
  rcases g a z with e | e
  · rw [hk, hc] at e; cases e
  · exact h21 (hk.symm.trans e.1)
theorem GQ.no (g : GQ K Q h) (k83 : hK h 83 = 105) {a c : Nat} (hk : hK h a = c) (hc : okQ c = false) (h21 : c ≠ 21) (h104 : c ≠ 104) (h105 : c = 105 → a ≠ 83) : ¬ Q a := fun z => by
  rcases g a z with e | e | e | e
  · exact h105 (by rw [← hk, e, k83]) e
  · rw [hk, hc] at e; cases e
  · exact h21 (hk.symm.trans e.1)
  · exact h104 (hk.symm.trans e.1)
theorem ALs.fg {l e n : Nat} (p : Fg S F Q h h1) (s : ¬ S l) (n64 : l ≠ 64) (q : ¬ Q l) (x : ALs l e n h) : ALs l e n h1 := by
  obtain ⟨x1, x2, x3, x4, x5, x6⟩ := x
  exact ⟨p.k x1 (by decide), by rw [p.r x1 (by decide) q]; exact x2, by rw [p.i x1 (by decide) s 2 (fun z => absurd z n64)]; exact x3, p.k x4 (by decide), by rw [p.l x4 (by decide)]; exact x5, by rw [p.l x4 (by decide)]; exact x6⟩
theorem NodeAt.fg (p : Fg S F Q h h1) (g : GS K S h) (gq : GQ K Q h) (k64 : hK h 64 = 1) (k83 : hK h 83 = 105) : ∀ (d x : Nat) (c : List (Int32 × Int32)), NodeAt d h x c → NodeAt d h1 x c
  | 0, _, _, n => n
  | d + 1, x, c, n => by
    have n64 : ∀ {c}, hK h x = c → c ≠ 1 → x ≠ 64 := fun hk hc e => hc (by rw [← hk, e, k64])
    unfold NodeAt at n ⊢
    rcases n with ⟨n1, n2⟩ | ⟨i, n1, n2, n3, n4⟩ | ⟨n1, c1, n2, n3⟩ | ⟨n1, n4, n5, c1, c2, n2, n3, n6⟩
    · exact Or.inl ⟨p.k n1 (by decide), by rw [p.i n1 (by decide) (g.no n1 rfl (by decide)) 0 (fun z => absurd z (n64 n1 (by decide)))]; exact n2⟩
    · exact Or.inr (Or.inl ⟨i, n1, n2, p.k n3 (by omega), n4⟩)
    · exact Or.inr (Or.inr (Or.inl ⟨p.k n1 (by decide), c1, by rw [p.r n1 (by decide) (gq.no k83 n1 rfl (by decide) (by decide) (by omega))]; exact NodeAt.fg p g gq k64 k83 d _ _ n2, n3⟩))
    · have er := p.r n1 (by decide) (gq.no k83 n1 rfl (by decide) (by decide) (by omega))
      have ei := p.i n1 (by decide) (g.no n1 rfl (by decide)) 2 (fun z => absurd z (n64 n1 (by decide)))
      exact Or.inr (Or.inr (Or.inr ⟨p.k n1 (by decide), by rw [ei]; exact n4, by rw [ei]; exact n5, c1, c2, by rw [er]; exact NodeAt.fg p g gq k64 k83 d _ _ n2, by rw [er]; exact NodeAt.fg p g gq k64 k83 d _ _ n3, by rw [ei]; exact n6⟩))
theorem XB.fg (x : XB b K h) (p : Fg S F Q h h1) (g : GS K S h) (gq : GQ K Q h) (k64 : hK h 64 = 1) (k83 : hK h 83 = 105) : XB b K h1 := by
  have sl : ∀ l, hK h l = 21 → (l = kPl K ∨ l = kSl K ∨ l = kTl K) → ¬ S l := fun l hk e z => by
    rcases g l z with y | y
    · rw [hk] at y; cases y
    · omega
  have ql : ∀ l, hK h l = 21 → (l = kPl K ∨ l = kSl K ∨ l = kTl K) → ¬ Q l := fun l hk e z => by
    rcases gq l z with y | y | y | y
    · rw [y, k83] at hk; cases hk
    · rw [hk] at y; cases y
    · omega
    · rw [hk] at y; exact absurd y.1 (by decide)
  have qe : ∀ l, hK h l = 104 → (l = kPe K ∨ l = kSe K ∨ l = kTe K) → ¬ Q l := fun l hk e z => by
    rcases gq l z with y | y | y | y
    · rw [y, k83] at hk; cases hk
    · rw [hk] at y; cases y
    · rw [hk] at y; exact absurd y.1 (by decide)
    · omega
  have n64 : ∀ {a c}, hK h a = c → c ≠ 1 → a ≠ 64 := fun hk hc e => hc (by rw [← hk, e, k64])
  have eP := p.r x.aP.2.2.2.1 (by decide) (qe _ x.aP.2.2.2.1 (Or.inl rfl))
  have eT := p.r x.aT.2.2.2.1 (by decide) (qe _ x.aT.2.2.2.1 (Or.inr (Or.inr rfl)))
  have ki : ∀ {a c : Nat}, hK h a = c → okX c = false → c ≠ 21 → c ≠ 1 → c ≠ 0 → ∀ k, hI h1 a k = hI h a k := fun hk hc h21 hc1 hc0 k => p.i hk hc0 (g.no hk hc h21) k (fun z => absurd z (n64 hk hc1))
  obtain ⟨x1, x2, x3, ⟨x4, x5, x6⟩, ⟨x7, x8, x9⟩, x10, x11, x12, x13, x14⟩ := x
  refine ⟨x1, p.k x2 (by decide), by rw [p.r x2 (by decide) (gq.no k83 x2 rfl (by decide) (by decide) (by omega))]; exact x3, ⟨by rw [ki x2 rfl (by decide) (by decide) (by decide)]; exact x4, by rw [ki x2 rfl (by decide) (by decide) (by decide)]; exact x5, by rw [ki x2 rfl (by decide) (by decide) (by decide)]; exact x6⟩,
    ⟨x7.fg p (sl _ x7.1 (Or.inl rfl)) (n64 x7.1 (by decide)) (ql _ x7.1 (Or.inl rfl)), x8.fg p (sl _ x8.1 (Or.inr (Or.inl rfl))) (n64 x8.1 (by decide)) (ql _ x8.1 (Or.inr (Or.inl rfl))), x9.fg p (sl _ x9.1 (Or.inr (Or.inr rfl))) (n64 x9.1 (by decide)) (ql _ x9.1 (Or.inr (Or.inr rfl)))⟩, ⟨p.k x10.1 (by decide), x10.2⟩, fun q hq => ?_, fun q hq => ?_, x13, fun c hc => ⟨(x14 c hc).1, NodeAt.fg p g gq k64 k83 _ _ _ (x14 c hc).2⟩⟩
  · obtain ⟨a1, a2, a3⟩ := x11 q hq
    exact ⟨by rw [eP]; exact a1, p.k a2 (by decide), by rw [ki a2 rfl (by decide) (by decide) (by decide)]; exact a3⟩
  · obtain ⟨a1, a2, a3, a4, a5, a6⟩ := x12 q hq
    have e := ki a2 rfl (by decide) (by decide) (by decide)
    exact ⟨by rw [eT]; exact a1, p.k a2 (by decide), by rw [e]; exact a3, by rw [e]; exact a4, by rw [e]; exact a5, by rw [e]; exact a6⟩
theorem XT.fg {t : Nat} (x : XT t T sh h) (p : Fg S F Q h h1) (gq : GQ K Q h) (k64 : hK h 64 = 1) (k83 : hK h 83 = 105) (o1 : ¬ S t) (o2 : ¬ S (t + 1)) (o3 : ¬ S (t + 2)) : XT t T sh h1 := by
  obtain ⟨x0, x1, x2, x3, x4, ⟨x5, x6, x7, x8, x9⟩, x10, x11⟩ := x
  have e1 : ∀ k, hI h1 t k = hI h t k := fun k => p.i x1 (by decide) o1 k (fun e => by rw [e, k64] at x1; cases x1)
  have e2 : ∀ k, hI h1 (t + 1) k = hI h (t + 1) k := fun k => p.i x3.1 (by decide) o2 k (fun e => by rw [e, k64] at x3; cases x3.1)
  have e3 : ∀ k, hI h1 (t + 2) k = hI h (t + 2) k := fun k => p.i x4.1 (by decide) o3 k (fun e => by rw [e, k64] at x4; cases x4.1)
  have er := p.r x1 (by decide) (gq.no k83 x1 rfl (by decide) (by decide) (by omega))
  exact ⟨x0, p.k x1 (by decide), by rw [er]; exact x2, ⟨p.k x3.1 (by decide), by rw [p.l x3.1 (by decide)]; exact x3.2⟩, ⟨p.k x4.1 (by decide), by rw [p.l x4.1 (by decide)]; exact x4.2⟩, ⟨by rw [e1]; exact x5, by rw [e1]; exact x6, by rw [e1]; exact x7, by rw [e1]; exact x8, by rw [e1]; exact x9⟩, fun k hk => by rw [e2]; exact x10 k hk, fun k hk => by rw [e3]; exact x11 k hk⟩
theorem XS.fg {t : Nat} (x : XS t h) (p : Fg S F Q h h1) (gq : GQ K Q h) (k83 : hK h 83 = 105) : XS t h1 := by
  obtain ⟨x0, x1, x2, x3, x4⟩ := x
  exact ⟨x0, p.k x1 (by decide), by rw [p.r x1 (by decide) (gq.no k83 x1 rfl (by decide) (by decide) (by omega))]; exact x2, ⟨p.k x3.1 (by decide), by rw [p.l x3.1 (by decide)]; exact x3.2⟩, ⟨p.k x4.1 (by decide), by rw [p.l x4.1 (by decide)]; exact x4.2⟩⟩
theorem XLay.fg (x : XLay h) (p : Fg S F Q h h1) (gq : GQ K Q h) : XLay h1 := by
  have k83 := x.were.1
  have kl : ∀ {a c n : Nat}, c ≠ 0 → (hK h a = c ∧ hL h a = n) → (hK h1 a = c ∧ hL h1 a = n) := fun hc q => ⟨p.k q.1 hc, by rw [p.l q.1 hc]; exact q.2⟩
  have rr : ∀ {a c : Nat}, hK h a = c → c = 106 → hR h1 a = hR h a := fun hk hc => by
    subst hc; exact p.r hk (by decide) (gq.no k83 hk rfl (by decide) (by decide) (by omega))
  obtain ⟨x0, x1, ⟨y1, y2, y3, y4, y5, y6, y7, y8⟩, ⟨⟨u1, u2, u3⟩, ⟨v1, v2, v3⟩, ⟨w1, w2, w3⟩⟩, x4, x5, x6, x7, x8⟩ := x
  refine ⟨p.k x0 (by decide), fun k hk h0 => by rw [p.r x0 (by decide) (gq.no k83 x0 rfl (by decide) (by decide) (by omega))]; exact x1 k hk h0, ⟨kl (by decide) y1, kl (by decide) y2, kl (by decide) y3, kl (by decide) y4, kl (by decide) y5, kl (by decide) y6, kl (by decide) y7, kl (by decide) y8⟩, ⟨⟨p.k u1 (by decide), by rw [p.l u1 (by decide)]; exact u2, fun j hj => ?_⟩, ⟨p.k v1 (by decide), by rw [p.l v1 (by decide)]; exact v2, fun j hj => ?_⟩, ⟨p.k w1 (by decide), by rw [p.l w1 (by decide)]; exact w2, fun j hj => ?_⟩⟩, x4.fg p gq k83, x5.fg p gq k83, x6.fg p gq k83, fun j hj => (x7 j hj).fg p gq k83, fun j hj => ⟨by rw [p.r y7.1 (by decide) (gq.no k83 y7.1 rfl (by decide) (by decide) (by omega))]; exact (x8 j hj).1, (x8 j hj).2.fg p gq k83⟩⟩
  · rw [rr u1 rfl]; exact ⟨(u3 j hj).1, kl (by decide) (u3 j hj).2⟩
  · rw [rr v1 rfl]; exact ⟨(v3 j hj).1, kl (by decide) (v3 j hj).2⟩
  · rw [rr w1 rfl]; exact ⟨(w3 j hj).1, kl (by decide) (w3 j hj).2⟩
theorem XM.fg (x : XM b K T h) (p : Fg S F Q h h1) (g : GS K S h) (gq : GQ K Q h) (o : ∀ a, 74 ≤ a → a < 77 → ¬ S a) : XM b K T h1 :=
  ⟨x.lay.fg p gq, by rw [p.r x.lay.k (by decide) (gq.no x.lay.were.1 x.lay.k rfl (by decide) (by decide) (by omega))]; exact x.bk, x.xb.fg p g gq x.lay.k x.lay.were.1, x.xt.fg p gq x.lay.k x.lay.were.1 (o _ (by decide) (by decide)) (o _ (by decide) (by decide)) (o _ (by decide) (by decide)), x.tw⟩
theorem XN.fg (y : XN R nh h) (p : Fg S F Q h h1) (s93 : ¬ S 93) (q93 : ¬ Q 93) (s14 : ∀ a, S a → hK h a ≠ 14) (q14 : ∀ a, Q a → hK h a ≠ 14 ∧ hK h a ≠ 104) (k64 : hK h 64 = 1) : XN R nh h1 := by
  obtain ⟨en, N, hn, hn30, hN, hNi⟩ := y
  refine ⟨en, N, hn.fg p s93 (by decide) q93, hn30, fun i hi => ?_, hNi⟩
  obtain ⟨n1, n2, n3, ⟨m0, m1, m2, m3, m4⟩, n5⟩ := hN i hi
  have e : ∀ k, hI h1 (N i) k = hI h (N i) k := fun k => p.i n2 (by decide) (fun z => s14 _ z n2) k (fun z => by rw [z, k64] at n2; cases n2)
  exact ⟨by rw [p.r hn.2.2.2.1 (by decide) (fun z => (q14 _ z).2 hn.2.2.2.1)]; exact n1, p.k n2 (by decide), n3, ⟨(e 0).trans m0, (e 1).trans m1, (e 2).trans m2, (e 3).trans m3, (e 4).trans m4⟩, by rw [p.r n2 (by decide) (fun z => (q14 _ z).1 n2)]; exact n5⟩
theorem XH.fg (x : XH b W na nu h) (p : Fg S F Q h h1) (gq : GQ K Q h) (hl : XLay h) (q83 : ¬ Q 83) (s64 : ¬ S 64) (f10 : 10 ∉ F) (f11 : 11 ∉ F) (o : ∀ a, SW a → ¬ S a) : XH b W na nu h1 := by
  obtain ⟨x1, x2, x3, f, x4, x5, x6⟩ := x
  refine ⟨by rw [p.i hl.k (by decide) s64 10 (fun _ => f10)]; exact x1, by rw [p.i hl.k (by decide) s64 11 (fun _ => f11)]; exact x2, x3, f, fun j hj => ⟨(x4 j hj).1, by rw [p.r hl.were.1 (by decide) q83]; exact (x4 j hj).2⟩, x5, fun j hj => ⟨?_, (x6 j hj).2⟩⟩
  have hf := (x4 j (by omega)).1
  exact (x6 j hj).1.fg p gq hl.k hl.were.1 (o _ ⟨by omega, by omega⟩) (o _ ⟨by omega, by omega⟩) (o _ ⟨by omega, by omega⟩)
theorem XBx.fg (x : XBx b B D h) (p : Fg S F Q h h1) (gq : GQ K Q h) (hl : XLay h) (s134 : ¬ S 134) (o : ∀ a, 255 ≤ a → a < 264 → ¬ S a) : XBx b B D h1 := by
  obtain ⟨x1, x2⟩ := x
  refine ⟨fun j hj => by rw [p.i hl.there.1 (by decide) s134 j (fun z => absurd z (by decide))]; exact x1 j hj, fun j hj hq => ⟨?_, (x2 j hj hq).2⟩⟩
  exact (x2 j hj hq).1.fg p gq hl.k hl.were.1 (o _ (by omega) (by omega)) (o _ (by omega) (by omega)) (o _ (by omega) (by omega))
end FG
