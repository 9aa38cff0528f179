/-! ===== THE BOOK IN THE MAKING ===== -/
set_option maxRecDepth 100000
/-- kinds of cells that a book in the making is of -/
def okM (k : Nat) : Bool := [2, 7, 8, 10, 11, 12, 13, 21, 104].contains k
def FrK (hb : ev_H) (K : XK) : Prop := hK hb (kB K) = 0 ∧ (hK hb (kPl K) = 0 ∧ hK hb (kSl K) = 0 ∧ hK hb (kTl K) = 0) ∧ (hK hb (kPe K) = 0 ∧ hK hb (kSe K) = 0 ∧ hK hb (kTe K) = 0) ∧ hK hb (kAk K) = 0
def XMk (hb : ev_H) (b : Bk) (nm : Nat → Nat → Int64) (K : XK) (r : Nat) (fs fd : Bool) (h : ev_H) : Prop := XB b K h ∧ XL K h ∧ (hR h r 9 = kB K ∧ hI h r 6 = b2i fs ∧ hI h r 7 = b2i fd) ∧ (NL 8 (kPl K) (kPe K) (nP b) (nm 0) h ∧ NL 7 (kSl K) (kSe K) (nS b) (nm 1) h ∧ NL 10 (kTl K) (kTe K) (nT b) (nm 2) h) ∧ (Dst (nm 0) (nP b) ∧ Dst (nm 1) (nS b) ∧ Dst (nm 2) (nT b)) ∧ FrK hb K
section XMKS
variable {hb h h1 h2 : ev_H} {r n q x k v c : Nat} {tx : Nat → Int32} {b : Bk} {nm : Nat → Nat → Int64} {K : XK} {fs fd : Bool} {S Q : Nat → Prop} {F : List Nat}
theorem GZ.of (g : Fg noC [] noC h h1) (hr : hK h r = 6) : GZ hb r h h1 := ⟨hr, g.1, fun a ha => by
  obtain ⟨p1, p2, p3, p4, p5⟩ := g.2 a ha
  exact ⟨p1, p2, fun j _ => by rw [p3 (fun z => z)], fun j _ _ => p4 j (fun z => z) (fun _ => by simp), p5⟩⟩
theorem gz_sr (g : GZ hb r h h1) (z : hK h x = 0) : GZ hb r h (sR h1 x k v) := ⟨g.1, g.2.1, fun a ha => by
  obtain ⟨p1, p2, p3, p4, p5⟩ := g.2.2 a ha
  exact ⟨p1, p2, fun j y => (gr_sR (fun e => ha (by rw [e]; exact z)) j).trans (p3 j y), p4, p5⟩⟩
theorem gz_si {y : Int32} (g : GZ hb r h h1) (z : hK h x = 0) : GZ hb r h (sI h1 x k y) := ⟨g.1, g.2.1, fun a ha => by
  obtain ⟨p1, p2, p3, p4, p5⟩ := g.2.2 a ha
  exact ⟨p1, p2, p3, fun j y w => (rdI_s (fun e => ha (by rw [e]; exact z))).trans (p4 j y w), p5⟩⟩
theorem XTk.g0 (t : XTk hb tx n q r h) (g : Fg noC [] noC h h1) (hr : hK h r = 6) : XTk hb tx n q r h1 := by
  have e : ∀ j, hI h1 r j = hI h r j := fun j => g.i hr (by decide) (fun z => z) j (fun _ => by simp)
  have er := g.r hr (by decide) (fun z => z)
  obtain ⟨t1, t2, t3, t4, t5⟩ := t
  refine ⟨(e 1).trans t1, (e 2).trans t2, fun z => (e 0).trans (t3 z), fun z => (e 3).trans (t4 z), fun z => ?_⟩
  rw [er]
  obtain ⟨⟨f, m, ⟨s1, s2, s3, hv, hz, s4, s5, s6⟩, w2⟩, zw⟩ := t5 z
  have ew := g.r s1.1 (by decide) (fun z => z)
  have ei := fun j => g.i s1.1 (by decide) (fun z => z) j (fun _ => by simp)
  exact ⟨⟨f, m, ⟨s1.gz (GZ.of (hb := hb) g hr), s2, by rw [ew]; exact s3, hv, hz, (ei 2).trans s4, (ei 3).trans s5, s6⟩, w2⟩, zw⟩
theorem RS.g0 (s : RS hb tx n r q h) (g : Fg noC [] noC h h1) : RS hb tx n r q h1 := s.gz (GZ.of g s.1.1) (s.2.1.g0 g s.1.1) s.2.2.1
/-- what is written into the book in the making leaves the reader alone -/
theorem RS.oq (s : RS hb tx n r q h) (g : Fg S [] Q h h1) (o : ∀ a, S a ∨ Q a → okM (hK h a) = true ∧ hK hb a = 0) : RS hb tx n r q h1 := by
  obtain ⟨⟨x1, x2, x3, x4, x5, x6, x7⟩, ⟨t1, t2, t3, t4, t5⟩, hq, hc, hg, z⟩ := s
  have no : ∀ {a c : Nat}, hK h a = c → okM c = false → ¬ S a ∧ ¬ Q a := fun hk hc => ⟨fun y => (by have := (o _ (Or.inl y)).1; rw [hk, hc] at this; cases this), fun y => (by have := (o _ (Or.inr y)).1; rw [hk, hc] at this; cases this)⟩
  have ki : ∀ {a c : Nat}, hK h a = c → okM c = false → c ≠ 0 → ∀ j, hI h1 a j = hI h a j := fun hk hc h0 j => g.i hk h0 (no hk hc).1 j (fun _ => by simp)
  have kr : ∀ {a c : Nat}, hK h a = c → okM c = false → c ≠ 0 → hR h1 a = hR h a := fun hk hc h0 => g.r hk h0 (no hk hc).2
  have sg : ∀ {w m : Nat} {f : Nat → Int32}, StrAt w f m h → StrAt w f m h1 := fun s => by
    obtain ⟨s1, s2, s3, s4, s5, s6⟩ := s
    have ew := kr s1 rfl (by decide)
    unfold StrAt
    rw [ew]
    exact ⟨g.k s1 (by decide), (ki s1 rfl (by decide) 1).trans s2, g.k s3 (by decide), by rw [g.l s3 (by decide)]; exact s4, s5, fun i hi => (ki s3 rfl (by decide) i).trans (s6 i hi)⟩
  have lay : XLay h1 := by
    have kl : ∀ {a c n : Nat}, c ≠ 0 → (hK h a = c ∧ hL h a = n) → (hK h1 a = c ∧ hL h1 a = n) := fun hc q => ⟨g.k q.1 hc, by rw [g.l q.1 hc]; exact q.2⟩
    have xs : ∀ {t : Nat}, XS t h → XS t h1 := fun y => by
      obtain ⟨y0, y1, y2, y3, y4⟩ := y
      exact ⟨y0, g.k y1 (by decide), by rw [kr y1 rfl (by decide)]; exact y2, kl (by decide) y3, kl (by decide) y4⟩
    obtain ⟨w0, w1, ⟨y1, y2, y3, y4, y5, y6, y7, y8⟩, ⟨⟨u1, u2, u3⟩, ⟨v1, v2, v3⟩, ⟨w3, w4, w5⟩⟩, z4, z5, z6, z7, z8⟩ := x4
    refine ⟨g.k w0 (by decide), fun k hk h0 => by rw [kr w0 rfl (by decide)]; exact w1 k hk h0, ⟨kl (by decide) y1, kl (by decide) y2, kl (by decide) y3, kl (by decide) y4, kl (by decide) y5, kl (by decide) y6, kl (by decide) y7, kl (by decide) y8⟩, ⟨⟨g.k u1 (by decide), by rw [g.l u1 (by decide)]; exact u2, fun j hj => ?_⟩, ⟨g.k v1 (by decide), by rw [g.l v1 (by decide)]; exact v2, fun j hj => ?_⟩, ⟨g.k w3 (by decide), by rw [g.l w3 (by decide)]; exact w4, fun j hj => ?_⟩⟩, xs z4, xs z5, xs z6, fun j hj => xs (z7 j hj), fun j hj => ⟨by rw [kr y7.1 rfl (by decide)]; exact (z8 j hj).1, xs (z8 j hj).2⟩⟩
    · rw [kr u1 rfl (by decide)]; exact ⟨(u3 j hj).1, kl (by decide) (u3 j hj).2⟩
    · rw [kr v1 rfl (by decide)]; exact ⟨(v3 j hj).1, kl (by decide) (v3 j hj).2⟩
    · rw [kr w3 rfl (by decide)]; exact ⟨(w5 j hj).1, kl (by decide) (w5 j hj).2⟩
  have er := kr x1 rfl (by decide)
  refine ⟨⟨g.k x1 (by decide), x2, by rw [er]; exact x3, lay, (ki x4.k rfl (by decide) 1).trans x5, x6, fun k hk => by rw [ki x4.tape.1 rfl (by decide) k]; exact x7 k hk⟩, ⟨(ki x1 rfl (by decide) 1).trans t1, (ki x1 rfl (by decide) 2).trans t2, fun y => (ki x1 rfl (by decide) 0).trans (t3 y), fun y => (ki x1 rfl (by decide) 3).trans (t4 y), fun y => ?_⟩, hq, fun i hi => sg (hc i hi), ⟨Nat.le_trans hg.1 g.1, fun a ha => ?_⟩, z⟩
  · rw [er]
    obtain ⟨⟨f, m, ⟨s1, s2, s3, hv, hz, s4, s5, s6⟩, w2⟩, zw⟩ := t5 y
    exact ⟨⟨f, m, ⟨sg s1, s2, by rw [kr s1.1 rfl (by decide)]; exact s3, hv, hz, (ki s1.1 rfl (by decide) 2).trans s4, (ki s1.1 rfl (by decide) 3).trans s5, s6⟩, w2⟩, zw⟩
  · obtain ⟨b1, b2, b3, b4, b5⟩ := hg.2 a ha
    obtain ⟨p1, p2, p3, p4, p5⟩ := g.2 a (by rw [b1]; exact ha)
    have nS : ¬ S a := fun y => ha (o a (Or.inl y)).2
    have nQ : ¬ Q a := fun y => ha (o a (Or.inr y)).2
    exact ⟨p1.trans b1, p2.trans b2, fun _ => (p3 nQ).trans (b3 (fun z => z)), fun j _ _ => (p4 j nS (fun _ => by simp)).trans (b4 j (fun z => z) (fun _ => by simp)), p5.trans b5⟩
theorem XB.gz (x : XB b K h) (g : GZ hb r h h1) (hl : XLay h) : XB b K h1 := x.fg g.fg (fun a ha => Or.inl (by rcases ha with e | e; rw [e, g.1]; rfl; rw [e]; rfl)) (fun a ha => Or.inr (Or.inl (by rw [ha, g.1]; rfl))) hl.k hl.were.1
theorem XL.gz (x : XL K h) (y : XB b K h) (g : GZ hb r h h1) : XL K h1 := by
  refine ⟨x.1, ⟨?_, ?_, ?_⟩, x.2.2⟩
  · rw [(g.2.2 _ (by rw [y.aP.2.2.2.1]; decide)).2.1]; exact x.2.1.1
  · rw [(g.2.2 _ (by rw [y.aS.2.2.2.1]; decide)).2.1]; exact x.2.1.2.1
  · rw [(g.2.2 _ (by rw [y.aT.2.2.2.1]; decide)).2.1]; exact x.2.1.2.2
theorem XMk.gz (x : XMk hb b nm K r fs fd h) (g : GZ hb r h h1) (hl : XLay h) : XMk hb b nm K r fs fd h1 := by
  obtain ⟨x1, x2, ⟨x3, x4, x5⟩, ⟨x6, x7, x8⟩, x9, x10⟩ := x
  obtain ⟨p1, p2, p3, p4, p5⟩ := g.2.2 r (by rw [g.1]; decide)
  exact ⟨x1.gz g hl, x2.gz x1 g, ⟨(p3 9 (fun _ => by decide)).trans x3, (p4 6 (fun _ => by decide) (fun z => by rw [g.1] at z; exact absurd z.2 (by decide))).trans x4, (p4 7 (fun _ => by decide) (fun z => by rw [g.1] at z; exact absurd z.2 (by decide))).trans x5⟩, ⟨x6.gz g, x7.gz g, x8.gz g⟩, x9, x10⟩
end XMKS
