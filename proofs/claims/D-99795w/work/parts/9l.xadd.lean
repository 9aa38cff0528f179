/-! ===== THE BOOK IN THE MAKING: one more ===== -/
set_option maxRecDepth 100000
/-- a list l (row e) took in x: its row is now e2 -/
def Add (l e e2 c x : Nat) (h h1 : ev_H) : Prop := ALs l e2 (c + 1) h1 ∧ ev_c < e2 ∧ 0 < hL h1 e2 ∧ (∀ i, i < c → hR h1 e2 i = hR h e i) ∧ hR h1 e2 c = x ∧ (e2 = e ∨ hK h e2 = 0) ∧ Fg (fun a => a = l) [] (fun a => a = l ∨ a = e) h h1
section ADDS
variable {hb h h1 : ev_H} {r n q x l e e2 c w kd l2 f2 k v : Nat} {nm : Nat → Int64} {nv : Int64} {b : Bk} {nn : Nat → Nat → Int64} {K : XK} {fs fd : Bool} {S Q : Nat → Prop}
theorem StrAt.oq {m : Nat} {f : Nat → Int32} (s : StrAt w f m h) (g : Fg S [] Q h h1) (o : ∀ a, S a ∨ Q a → okM (hK h a) = true) : StrAt w f m h1 := by
  obtain ⟨s1, s2, s3, s4, s5, s6⟩ := s
  have n1 : ¬ S w ∧ ¬ Q w := ⟨fun y => (by have := o _ (Or.inl y); rw [s1] at this; cases this), fun y => (by have := o _ (Or.inr y); rw [s1] at this; cases this)⟩
  have n2 : ¬ S (hR h w 0) := fun y => by have := o _ (Or.inl y); rw [s3] at this; cases this
  have ew := g.r s1 (by decide) n1.2
  unfold StrAt
  rw [ew]
  exact ⟨g.k s1 (by decide), (g.i s1 (by decide) n1.1 1 (fun _ => by simp)).trans s2, g.k s3 (by decide), by rw [g.l s3 (by decide)]; exact s4, s5, fun i hi => (g.i s3 (by decide) n2 i (fun _ => by simp)).trans (s6 i hi)⟩
theorem NmAt.oq {v : Int64} (s : NmAt w v h) (g : Fg S [] Q h h1) (o : ∀ a, S a ∨ Q a → okM (hK h a) = true) : NmAt w v h1 := by
  obtain ⟨x1, f, m, x2, x3⟩ := s
  exact ⟨x1, f, m, x2.oq g o, x3⟩
theorem add_o (a : Add l e e2 c x h h1) (kl : hK h l = 21) (ke : hK h e = 104) : ∀ a, a = l ∨ (a = l ∨ a = e) → okM (hK h a) = true := fun a z => by
  rcases z with z | z | z
  · rw [z, kl]; rfl
  · rw [z, kl]; rfl
  · rw [z, ke]; rfl
theorem NL.ox (y : NL kd l2 f2 k nm h) (a : Add l e e2 c x h h1) (kl : hK h l = 21) (ke : hK h e = 104) (n1 : l2 ≠ l) (n2 : f2 ≠ e) (h6 : kd = 7 ∨ kd = 8 ∨ kd = 10 := by decide) : NL kd l2 f2 k nm h1 := by
  obtain ⟨y1, y2⟩ := y
  have g := a.2.2.2.2.2.2
  have nl : f2 ≠ l := fun z => by have q := y1.2.2.2.1; rw [z, kl] at q; cases q
  have le : l2 ≠ e := fun z => by have q := y1.1; rw [z, ke] at q; cases q
  have er := g.r y1.2.2.2.1 (by decide) (fun z => by rcases z with z | z; exact nl z; exact n2 z)
  refine ⟨y1.g0 g n1 (fun z => by rcases z with z | z; exact n1 z; exact le z), fun i hi => ?_⟩
  obtain ⟨z1, z2⟩ := y2 i hi
  have m1 : hR h f2 i ≠ l := fun z => by rw [z, kl] at z1; omega
  have m2 : hR h f2 i ≠ e := fun z => by rw [z, ke] at z1; omega
  rw [er, g.r z1 (by omega) (fun z => by rcases z with z | z; exact m1 z; exact m2 z)]
  exact ⟨g.k z1 (by omega), z2.oq g (add_o a kl ke)⟩
theorem NL.more (y : NL kd l e c nm h) (a : Add l e e2 c x h h1) (kx : hK h x = kd) (nx : NmAt (hR h x 0) nv h) (h6 : kd = 7 ∨ kd = 8 ∨ kd = 10 := by decide) : NL kd l e2 (c + 1) (fun i => if i = c then nv else nm i) h1 := by
  obtain ⟨y1, y2⟩ := y
  have kl := y1.1
  have ke := y1.2.2.2.1
  have g := a.2.2.2.2.2.2
  refine ⟨a.1, fun i hi => ?_⟩
  have key : ∀ z, hK h z = kd → hR h1 z = hR h z := fun z hz => g.r hz (by omega) (fun y => by
    rcases y with y | y
    · rw [y, kl] at hz; omega
    · rw [y, ke] at hz; omega)
  by_cases ei : i = c
  · subst ei
    show hK h1 (hR h1 e2 i) = kd ∧ NmAt (hR h1 (hR h1 e2 i) 0) (if i = i then nv else nm i) h1
    rw [a.2.2.2.2.1, if_pos rfl, key x kx]
    exact ⟨g.k kx (by omega), nx.oq g (add_o a kl ke)⟩
  · obtain ⟨z1, z2⟩ := y2 i (by omega)
    show hK h1 (hR h1 e2 i) = kd ∧ NmAt (hR h1 (hR h1 e2 i) 0) (if i = c then nv else nm i) h1
    rw [a.2.2.2.1 i (by omega), if_neg ei, key _ z1]
    exact ⟨g.k z1 (by omega), z2.oq g (add_o a kl ke)⟩
theorem Dst.more (d : Dst nm c) (h : ∀ i, i < c → nm i ≠ nv) : Dst (fun i => if i = c then nv else nm i) (c + 1) := fun i j hi hj e => by
  simp only at e
  by_cases e1 : i = c
  · by_cases e2 : j = c
    · omega
    · rw [if_pos e1, if_neg e2] at e
      exact absurd e.symm (h j (by omega))
  · by_cases e2 : j = c
    · rw [if_neg e1, if_pos e2] at e
      exact absurd e (h i (by omega))
    · rw [if_neg e1, if_neg e2] at e
      exact d i j (by omega) (by omega) e
/-- the cells of the book with one more in list m (1 people, 2 sacks, 3 things) -/
def kM (K : XK) (m e2 n x : Nat) : XK := fun i j => if i = 0 ∧ j = 2 * m then e2 else if i = m ∧ j = n then x else K i j
theorem Add.nx (a : Add l e e2 c x h h1) (kl : hK h l = 21) (ke : hK h e = 104) {z d : Nat} (hz : hK h z = d) (h1 : d ≠ 21) (h2 : d ≠ 104) : z ≠ l ∧ z ≠ e := ⟨fun y => by rw [y, kl] at hz; exact h1 hz.symm, fun y => by rw [y, ke] at hz; exact h2 hz.symm⟩
theorem Add.node (a : Add l e e2 c x h h1) (kl : hK h l = 21) (ke : hK h e = 104) (cl : ev_c < l) (ce : ev_c < e) (k64 : hK h 64 = 1) (k83 : hK h 83 = 105) {d y : Nat} {cd : List (Int32 × Int32)} (nd : NodeAt d h y cd) : NodeAt d h1 y cd :=
  NodeAt.fg (K := fun _ _ => 0) a.2.2.2.2.2.2 (fun z hz => Or.inr (by rw [hz]; exact ⟨kl, by show l ≠ 0; omega, by show l ≠ 0; omega, by show l ≠ 0; omega⟩)) (fun z hz => by
    rcases hz with hz | hz
    · rw [hz]; exact Or.inr (Or.inr (Or.inl ⟨kl, by show l ≠ 0; omega, by show l ≠ 0; omega, by show l ≠ 0; omega⟩))
    · rw [hz]; exact Or.inr (Or.inr (Or.inr ⟨ke, by show e ≠ 0; omega, by show e ≠ 0; omega, by show e ≠ 0; omega⟩))) k64 k83 d y cd nd

theorem XMk.adP (m : XMk hb b nn K r fs fd h) (a : Add (kPl K) (kPe K) e2 (nP b) x h h1) (hl : XLay h) (hr : hK h r = 6) (h6 : nP b < 6) (hv : v ≤ 9) (kx : hK h x = 8) (ix : hI h x 1 = nI v) (nx : NmAt (hR h x 0) nv h) (fr : ∀ i, i < nP b → nn 0 i ≠ nv) (z2 : hK hb e2 = 0) : XMk hb (addP b v) (adNm nn 0 (nP b) nv) (kM K 1 e2 (nP b) x) r fs fd h1 := by
  obtain ⟨x1, x2, ⟨x3, x4, x5⟩, ⟨x6, x7, x8⟩, ⟨x9, x10, x11⟩, ⟨f1, ⟨f2, f3, f4⟩, ⟨f5, f6, f7⟩, f8⟩⟩ := m
  obtain ⟨⟨c0, c1, c2, c3, c4, c5, c6⟩, ⟨l1, l2, l3⟩, ⟨d1, d2, d3⟩, ⟨e1, e2', e3⟩⟩ := x2
  have kl := x1.aP.1
  have ke := x1.aP.2.2.2.1
  have g := a.2.2.2.2.2.2
  have ki : ∀ {z d : Nat}, hK h z = d → d ≠ 21 → d ≠ 104 → d ≠ 0 → ∀ j, hI h1 z j = hI h z j := fun hz q1 q2 q0 j => g.i hz q0 (a.nx kl ke hz q1 q2).1 j (fun _ => by simp)
  have kr : ∀ {z d : Nat}, hK h z = d → d ≠ 21 → d ≠ 104 → d ≠ 0 → hR h1 z = hR h z := fun hz q1 q2 q0 => g.r hz q0 (fun y => by rcases y with y | y; exact (a.nx kl ke hz q1 q2).1 y; exact (a.nx kl ke hz q1 q2).2 y)
  have aS := x1.aS.g0 g (fun y => d1 y.symm) (fun y => by rcases y with y | y; exact (fun y => d1 y.symm) y; exact (by have q := x1.aS.1; rw [y, ke] at q; cases q))
  have rS : hR h1 (kSe K) = hR h (kSe K) := g.r x1.aS.2.2.2.1 (by decide) (fun y => by rcases y with y | y; exact (by have q := x1.aS.2.2.2.1; rw [y, kl] at q; cases q); exact (fun y => e1 y.symm) y)
  have lS' : hL h1 (kSe K) = hL h (kSe K) := g.l x1.aS.2.2.2.1 (by decide)
  have aT := x1.aT.g0 g (fun y => d2 y.symm) (fun y => by rcases y with y | y; exact (fun y => d2 y.symm) y; exact (by have q := x1.aT.1; rw [y, ke] at q; cases q))
  have rT : hR h1 (kTe K) = hR h (kTe K) := g.r x1.aT.2.2.2.1 (by decide) (fun y => by rcases y with y | y; exact (by have q := x1.aT.2.2.2.1; rw [y, kl] at q; cases q); exact (fun y => e2' y.symm) y)
  have lT' : hL h1 (kTe K) = hL h (kTe K) := g.l x1.aT.2.2.2.1 (by decide)
  have eb := kr x1.k (by decide) (by decide) (by decide)
  have ib := ki x1.k (by decide) (by decide) (by decide)
  have nm0 : (adNm nn 0 (nP b) nv) 0 = fun i => if i = nP b then nv else nn 0 i := funext fun i => by
    unfold adNm
    by_cases q : i = nP b
    · rw [if_pos ⟨rfl, q⟩, if_pos q]
    · rw [if_neg (fun z => q z.2), if_neg q]
  have nm2 : (adNm nn 0 (nP b) nv) 1 = nn 1 := funext fun i => if_neg (fun z => by omega)
  have nm3 : (adNm nn 0 (nP b) nv) 2 = nn 2 := funext fun i => if_neg (fun z => by omega)
  refine ⟨⟨x1.bw.adP h6 hv, g.k x1.k (by decide), ⟨by rw [show kB (kM K 1 e2 (nP b) x) = kB K from rfl, eb]; exact x1.pl, by rw [show kB (kM K 1 e2 (nP b) x) = kB K from rfl, eb]; exact x1.sl, by rw [show kB (kM K 1 e2 (nP b) x) = kB K from rfl, eb]; exact x1.tl, by rw [show kB (kM K 1 e2 (nP b) x) = kB K from rfl, eb]; exact x1.ak, by rw [show kB (kM K 1 e2 (nP b) x) = kB K from rfl, eb]; exact x1.sd⟩, ⟨(ib 5).trans x1.sn, (ib 6).trans x1.dr, (ib 7).trans x1.un⟩, ⟨a.1, aS, aT⟩, ⟨g.k x1.akk (by decide), x1.akc⟩, fun p hp => ?_, fun t ht => ?_, x1.r0, fun cd hc => ⟨(x1.r1 hc).1, a.node kl ke c1 c4 hl.k hl.were.1 (x1.r1 hc).2⟩⟩, ⟨⟨c0, c1, c2, c3, a.2.1, c5, c6⟩, ⟨a.2.2.1, by rw [show kSe (kM K 1 e2 (nP b) x) = kSe K from rfl, lS']; exact l2, by rw [show kTe (kM K 1 e2 (nP b) x) = kTe K from rfl, lT']; exact l3⟩, ⟨d1, d2, d3⟩, ⟨?_, ?_, e3⟩⟩, ⟨by rw [kr hr (by decide) (by decide) (by decide)]; exact x3, (ki hr (by decide) (by decide) (by decide) 6).trans x4, (ki hr (by decide) (by decide) (by decide) 7).trans x5⟩, ⟨(by rw [nm0]; exact x6.more a kx nx), (by rw [nm2]; exact x7.ox a kl ke (fun y => d1 y.symm) (fun y => e1 y.symm)), (by rw [nm3]; exact x8.ox a kl ke (fun y => d2 y.symm) (fun y => e2' y.symm))⟩, ⟨(by rw [nm0]; exact x9.more fr), (by rw [nm2]; exact x10), (by rw [nm3]; exact x11)⟩, ⟨f1, ⟨f2, f3, f4⟩, ⟨z2, f6, f7⟩, f8⟩⟩
  · have hp : p < nP b + 1 := hp
    show hR h1 e2 p = kM K 1 e2 (nP b) x 1 p ∧ hK h1 (kM K 1 e2 (nP b) x 1 p) = 8 ∧ hI h1 (kM K 1 e2 (nP b) x 1 p) 1 = nI (if 0 = 0 ∧ p = nP b then v else bSh b p)
    by_cases q : p = nP b
    · rw [show kM K 1 e2 (nP b) x 1 p = x from (if_neg (fun z => by omega)).trans (if_pos ⟨rfl, q⟩), if_pos ⟨rfl, q⟩, q]
      exact ⟨a.2.2.2.2.1, g.k kx (by decide), (ki kx (by decide) (by decide) (by decide) 1).trans ix⟩
    · obtain ⟨a1, a2, a3⟩ := x1.pe (p := p) (by omega)
      rw [show kM K 1 e2 (nP b) x 1 p = K 1 p from (if_neg (fun z => by omega)).trans (if_neg (fun z => q z.2)), if_neg (fun z => q z.2)]
      exact ⟨(a.2.2.2.1 p (by omega)).trans a1, g.k a2 (by decide), (ki a2 (by decide) (by decide) (by decide) 1).trans a3⟩
  · have ht : t < nT b := ht
    obtain ⟨a1, a2, a3, a4, a5, a6⟩ := x1.te ht
    have it := ki a2 (by decide) (by decide) (by decide)
    show hR h1 (kTe K) t = kM K 1 e2 (nP b) x 3 t ∧ _
    rw [show kM K 1 e2 (nP b) x 3 t = K 3 t from (if_neg (fun z => by omega)).trans (if_neg (fun z => by omega)), rT]
    exact ⟨a1, g.k a2 (by decide), (it 1).trans a3, (it 2).trans a4, (it 3).trans a5, (it 4).trans a6⟩
  · rcases a.2.2.2.2.2.1 with y | y
    · show e2 ≠ kSe K; rw [y]; exact e1
    · show e2 ≠ kSe K; intro z; rw [z, x1.aS.2.2.2.1] at y; cases y
  · rcases a.2.2.2.2.2.1 with y | y
    · show e2 ≠ kTe K; rw [y]; exact e2'
    · show e2 ≠ kTe K; intro z; rw [z, x1.aT.2.2.2.1] at y; cases y

theorem XMk.adS (m : XMk hb b nn K r fs fd h) (a : Add (kSl K) (kSe K) e2 (nS b) x h h1) (hl : XLay h) (hr : hK h r = 6) (h6 : nS b < 5) (kx : hK h x = 7) (nx : NmAt (hR h x 0) nv h) (fr : ∀ i, i < nS b → nn 1 i ≠ nv) (z2 : hK hb e2 = 0) : XMk hb (addS b) (adNm nn 1 (nS b) nv) (kM K 2 e2 (nS b) x) r fs fd h1 := by
  obtain ⟨x1, x2, ⟨x3, x4, x5⟩, ⟨x6, x7, x8⟩, ⟨x9, x10, x11⟩, ⟨f1, ⟨f2, f3, f4⟩, ⟨f5, f6, f7⟩, f8⟩⟩ := m
  obtain ⟨⟨c0, c1, c2, c3, c4, c5, c6⟩, ⟨l1, l2, l3⟩, ⟨d1, d2, d3⟩, ⟨e1, e2', e3⟩⟩ := x2
  have kl := x1.aS.1
  have ke := x1.aS.2.2.2.1
  have g := a.2.2.2.2.2.2
  have ki : ∀ {z d : Nat}, hK h z = d → d ≠ 21 → d ≠ 104 → d ≠ 0 → ∀ j, hI h1 z j = hI h z j := fun hz q1 q2 q0 j => g.i hz q0 (a.nx kl ke hz q1 q2).1 j (fun _ => by simp)
  have kr : ∀ {z d : Nat}, hK h z = d → d ≠ 21 → d ≠ 104 → d ≠ 0 → hR h1 z = hR h z := fun hz q1 q2 q0 => g.r hz q0 (fun y => by rcases y with y | y; exact (a.nx kl ke hz q1 q2).1 y; exact (a.nx kl ke hz q1 q2).2 y)
  have aP := x1.aP.g0 g d1 (fun y => by rcases y with y | y; exact d1 y; exact (by have q := x1.aP.1; rw [y, ke] at q; cases q))
  have rP : hR h1 (kPe K) = hR h (kPe K) := g.r x1.aP.2.2.2.1 (by decide) (fun y => by rcases y with y | y; exact (by have q := x1.aP.2.2.2.1; rw [y, kl] at q; cases q); exact e1 y)
  have lP' : hL h1 (kPe K) = hL h (kPe K) := g.l x1.aP.2.2.2.1 (by decide)
  have aT := x1.aT.g0 g (fun y => d3 y.symm) (fun y => by rcases y with y | y; exact (fun y => d3 y.symm) y; exact (by have q := x1.aT.1; rw [y, ke] at q; cases q))
  have rT : hR h1 (kTe K) = hR h (kTe K) := g.r x1.aT.2.2.2.1 (by decide) (fun y => by rcases y with y | y; exact (by have q := x1.aT.2.2.2.1; rw [y, kl] at q; cases q); exact (fun y => e3 y.symm) y)
  have lT' : hL h1 (kTe K) = hL h (kTe K) := g.l x1.aT.2.2.2.1 (by decide)
  have eb := kr x1.k (by decide) (by decide) (by decide)
  have ib := ki x1.k (by decide) (by decide) (by decide)
  have nm0 : (adNm nn 1 (nS b) nv) 1 = fun i => if i = nS b then nv else nn 1 i := funext fun i => by
    unfold adNm
    by_cases q : i = nS b
    · rw [if_pos ⟨rfl, q⟩, if_pos q]
    · rw [if_neg (fun z => q z.2), if_neg q]
  have nm1 : (adNm nn 1 (nS b) nv) 0 = nn 0 := funext fun i => if_neg (fun z => by omega)
  have nm3 : (adNm nn 1 (nS b) nv) 2 = nn 2 := funext fun i => if_neg (fun z => by omega)
  refine ⟨⟨x1.bw.adS h6, g.k x1.k (by decide), ⟨by rw [show kB (kM K 2 e2 (nS b) x) = kB K from rfl, eb]; exact x1.pl, by rw [show kB (kM K 2 e2 (nS b) x) = kB K from rfl, eb]; exact x1.sl, by rw [show kB (kM K 2 e2 (nS b) x) = kB K from rfl, eb]; exact x1.tl, by rw [show kB (kM K 2 e2 (nS b) x) = kB K from rfl, eb]; exact x1.ak, by rw [show kB (kM K 2 e2 (nS b) x) = kB K from rfl, eb]; exact x1.sd⟩, ⟨(ib 5).trans x1.sn, (ib 6).trans x1.dr, (ib 7).trans x1.un⟩, ⟨aP, a.1, aT⟩, ⟨g.k x1.akk (by decide), x1.akc⟩, fun p hp => ?_, fun t ht => ?_, x1.r0, fun cd hc => ⟨(x1.r1 hc).1, a.node kl ke c2 c5 hl.k hl.were.1 (x1.r1 hc).2⟩⟩, ⟨⟨c0, c1, c2, c3, c4, a.2.1, c6⟩, ⟨by rw [show kPe (kM K 2 e2 (nS b) x) = kPe K from rfl, lP']; exact l1, a.2.2.1, by rw [show kTe (kM K 2 e2 (nS b) x) = kTe K from rfl, lT']; exact l3⟩, ⟨d1, d2, d3⟩, ⟨?_, e2', ?_⟩⟩, ⟨by rw [kr hr (by decide) (by decide) (by decide)]; exact x3, (ki hr (by decide) (by decide) (by decide) 6).trans x4, (ki hr (by decide) (by decide) (by decide) 7).trans x5⟩, ⟨(by rw [nm1]; exact x6.ox a kl ke d1 e1), (by rw [nm0]; exact x7.more a kx nx), (by rw [nm3]; exact x8.ox a kl ke (fun y => d3 y.symm) (fun y => e3 y.symm))⟩, ⟨(by rw [nm1]; exact x9), (by rw [nm0]; exact x10.more fr), (by rw [nm3]; exact x11)⟩, ⟨f1, ⟨f2, f3, f4⟩, ⟨f5, z2, f7⟩, f8⟩⟩
  · have hp : p < nP b := hp
    obtain ⟨a1, a2, a3⟩ := x1.pe hp
    show hR h1 (kPe K) p = kM K 2 e2 (nS b) x 1 p ∧ hK h1 (kM K 2 e2 (nS b) x 1 p) = 8 ∧ hI h1 (kM K 2 e2 (nS b) x 1 p) 1 = nI (bSh (addS b) p)
    rw [show kM K 2 e2 (nS b) x 1 p = K 1 p from (if_neg (fun z => by omega)).trans (if_neg (fun z => by omega)), rP]
    refine ⟨a1, g.k a2 (by decide), (ki a2 (by decide) (by decide) (by decide) 1).trans (a3.trans ?_)⟩
    rfl
  · have ht : t < nT b := ht
    obtain ⟨a1, a2, a3, a4, a5, a6⟩ := x1.te ht
    have it := ki a2 (by decide) (by decide) (by decide)
    show hR h1 (kTe K) t = kM K 2 e2 (nS b) x 3 t ∧ _
    rw [show kM K 2 e2 (nS b) x 3 t = K 3 t from (if_neg (fun z => by omega)).trans (if_neg (fun z => by omega)), rT]
    exact ⟨a1, g.k a2 (by decide), (it 1).trans a3, (it 2).trans a4, (it 3).trans a5, (it 4).trans a6⟩
  · rcases a.2.2.2.2.2.1 with y | y
    · show kPe K ≠ e2; rw [y]; exact e1
    · show kPe K ≠ e2; intro z; rw [← z, x1.aP.2.2.2.1] at y; cases y
  · rcases a.2.2.2.2.2.1 with y | y
    · show e2 ≠ kTe K; rw [y]; exact e3
    · show e2 ≠ kTe K; intro z; rw [z, x1.aT.2.2.2.1] at y; cases y

theorem XMk.adT (m : XMk hb b nn K r fs fd h) (a : Add (kTl K) (kTe K) e2 (nT b) x h h1) (hl : XLay h) (hr : hK h r = 6) {f w ho : Nat} {iv : Int32} (h6 : nT b < 10) (hf : f < nP b) (hw : w < nP b) (hfw : f ≠ w) (h1o : 1 ≤ ho) (h9o : ho ≤ 9) (hiv : iv = -1 ∨ ∃ s, s < nS b ∧ iv = nI s) (kx : hK h x = 10) (ix : hI h x 1 = nI f ∧ hI h x 2 = nI w ∧ hI h x 3 = nI ho ∧ hI h x 4 = iv) (nx : NmAt (hR h x 0) nv h) (fr : ∀ i, i < nT b → nn 2 i ≠ nv) (z2 : hK hb e2 = 0) : XMk hb (addT b f w ho iv) (adNm nn 2 (nT b) nv) (kM K 3 e2 (nT b) x) r fs fd h1 := by
  obtain ⟨x1, x2, ⟨x3, x4, x5⟩, ⟨x6, x7, x8⟩, ⟨x9, x10, x11⟩, ⟨f1, ⟨f2, f3, f4⟩, ⟨f5, f6, f7⟩, f8⟩⟩ := m
  obtain ⟨⟨c0, c1, c2, c3, c4, c5, c6⟩, ⟨l1, l2, l3⟩, ⟨d1, d2, d3⟩, ⟨e1, e2', e3⟩⟩ := x2
  have kl := x1.aT.1
  have ke := x1.aT.2.2.2.1
  have g := a.2.2.2.2.2.2
  have ki : ∀ {z d : Nat}, hK h z = d → d ≠ 21 → d ≠ 104 → d ≠ 0 → ∀ j, hI h1 z j = hI h z j := fun hz q1 q2 q0 j => g.i hz q0 (a.nx kl ke hz q1 q2).1 j (fun _ => by simp)
  have kr : ∀ {z d : Nat}, hK h z = d → d ≠ 21 → d ≠ 104 → d ≠ 0 → hR h1 z = hR h z := fun hz q1 q2 q0 => g.r hz q0 (fun y => by rcases y with y | y; exact (a.nx kl ke hz q1 q2).1 y; exact (a.nx kl ke hz q1 q2).2 y)
  have aP := x1.aP.g0 g d2 (fun y => by rcases y with y | y; exact d2 y; exact (by have q := x1.aP.1; rw [y, ke] at q; cases q))
  have rP : hR h1 (kPe K) = hR h (kPe K) := g.r x1.aP.2.2.2.1 (by decide) (fun y => by rcases y with y | y; exact (by have q := x1.aP.2.2.2.1; rw [y, kl] at q; cases q); exact e2' y)
  have lP' : hL h1 (kPe K) = hL h (kPe K) := g.l x1.aP.2.2.2.1 (by decide)
  have aS := x1.aS.g0 g d3 (fun y => by rcases y with y | y; exact d3 y; exact (by have q := x1.aS.1; rw [y, ke] at q; cases q))
  have rS : hR h1 (kSe K) = hR h (kSe K) := g.r x1.aS.2.2.2.1 (by decide) (fun y => by rcases y with y | y; exact (by have q := x1.aS.2.2.2.1; rw [y, kl] at q; cases q); exact e3 y)
  have lS' : hL h1 (kSe K) = hL h (kSe K) := g.l x1.aS.2.2.2.1 (by decide)
  have eb := kr x1.k (by decide) (by decide) (by decide)
  have ib := ki x1.k (by decide) (by decide) (by decide)
  have nm0 : (adNm nn 2 (nT b) nv) 2 = fun i => if i = nT b then nv else nn 2 i := funext fun i => by
    unfold adNm
    by_cases q : i = nT b
    · rw [if_pos ⟨rfl, q⟩, if_pos q]
    · rw [if_neg (fun z => q z.2), if_neg q]
  have nm1 : (adNm nn 2 (nT b) nv) 0 = nn 0 := funext fun i => if_neg (fun z => by omega)
  have nm2 : (adNm nn 2 (nT b) nv) 1 = nn 1 := funext fun i => if_neg (fun z => by omega)
  have s4 : ∀ y, (addT b f w ho iv).2.2.2.1 4 y = b.2.2.2.1 4 y := fun y => by
    show (if y = nT b ∧ (4 : Nat) = 1 then f else if y = nT b ∧ (4 : Nat) = 2 then w else if y = nT b ∧ (4 : Nat) = 3 then ho else b.2.2.2.1 4 y) = _
    rw [if_neg (fun z => by omega), if_neg (fun z => by omega), if_neg (fun z => by omega)]
  refine ⟨⟨x1.bw.adT h6 hf hw hfw h1o h9o hiv, g.k x1.k (by decide), ⟨by rw [show kB (kM K 3 e2 (nT b) x) = kB K from rfl, eb]; exact x1.pl, by rw [show kB (kM K 3 e2 (nT b) x) = kB K from rfl, eb]; exact x1.sl, by rw [show kB (kM K 3 e2 (nT b) x) = kB K from rfl, eb]; exact x1.tl, by rw [show kB (kM K 3 e2 (nT b) x) = kB K from rfl, eb]; exact x1.ak, by rw [show kB (kM K 3 e2 (nT b) x) = kB K from rfl, eb]; exact x1.sd⟩, ⟨(ib 5).trans (x1.sn.trans (congrArg nI (s4 0).symm)), (ib 6).trans (x1.dr.trans (congrArg nI (s4 1).symm)), (ib 7).trans (x1.un.trans (congrArg nI (s4 2).symm))⟩, ⟨aP, aS, a.1⟩, ⟨g.k x1.akk (by decide), x1.akc⟩, fun p hp => ?_, fun t ht => ?_, x1.r0, fun cd hc => ⟨(x1.r1 hc).1, a.node kl ke c3 c6 hl.k hl.were.1 (x1.r1 hc).2⟩⟩, ⟨⟨c0, c1, c2, c3, c4, c5, a.2.1⟩, ⟨by rw [show kPe (kM K 3 e2 (nT b) x) = kPe K from rfl, lP']; exact l1, by rw [show kSe (kM K 3 e2 (nT b) x) = kSe K from rfl, lS']; exact l2, a.2.2.1⟩, ⟨d1, d2, d3⟩, ⟨e1, ?_, ?_⟩⟩, ⟨by rw [kr hr (by decide) (by decide) (by decide)]; exact x3, (ki hr (by decide) (by decide) (by decide) 6).trans x4, (ki hr (by decide) (by decide) (by decide) 7).trans x5⟩, ⟨(by rw [nm1]; exact x6.ox a kl ke d2 e2'), (by rw [nm2]; exact x7.ox a kl ke d3 e3), (by rw [nm0]; exact x8.more a kx nx)⟩, ⟨(by rw [nm1]; exact x9), (by rw [nm2]; exact x10), (by rw [nm0]; exact x11.more fr)⟩, ⟨f1, ⟨f2, f3, f4⟩, ⟨f5, f6, z2⟩, f8⟩⟩
  · have hp : p < nP b := hp
    obtain ⟨a1, a2, a3⟩ := x1.pe hp
    show hR h1 (kPe K) p = kM K 3 e2 (nT b) x 1 p ∧ hK h1 (kM K 3 e2 (nT b) x 1 p) = 8 ∧ hI h1 (kM K 3 e2 (nT b) x 1 p) 1 = nI (bSh (addT b f w ho iv) p)
    rw [show kM K 3 e2 (nT b) x 1 p = K 1 p from (if_neg (fun z => by omega)).trans (if_neg (fun z => by omega)), rP]
    refine ⟨a1, g.k a2 (by decide), (ki a2 (by decide) (by decide) (by decide) 1).trans (a3.trans ?_)⟩
    show nI (bSh b p) = nI (if p = nT b ∧ (0 : Nat) = 1 then f else if p = nT b ∧ (0 : Nat) = 2 then w else if p = nT b ∧ (0 : Nat) = 3 then ho else bSh b p)
    rw [if_neg (fun z => by omega), if_neg (fun z => by omega), if_neg (fun z => by omega)]
  · have ht : t < nT b + 1 := ht
    show hR h1 e2 t = kM K 3 e2 (nT b) x 3 t ∧ hK h1 (kM K 3 e2 (nT b) x 3 t) = 10 ∧ hI h1 (kM K 3 e2 (nT b) x 3 t) 1 = nI (if t = nT b ∧ (1 : Nat) = 1 then f else if t = nT b ∧ (1 : Nat) = 2 then w else if t = nT b ∧ (1 : Nat) = 3 then ho else bBy b t) ∧ hI h1 (kM K 3 e2 (nT b) x 3 t) 2 = nI (if t = nT b ∧ (2 : Nat) = 1 then f else if t = nT b ∧ (2 : Nat) = 2 then w else if t = nT b ∧ (2 : Nat) = 3 then ho else bTo b t) ∧ hI h1 (kM K 3 e2 (nT b) x 3 t) 3 = nI (if t = nT b ∧ (3 : Nat) = 1 then f else if t = nT b ∧ (3 : Nat) = 2 then w else if t = nT b ∧ (3 : Nat) = 3 then ho else bHo b t) ∧ hI h1 (kM K 3 e2 (nT b) x 3 t) 4 = (if t = nT b then iv else bIn b t)
    by_cases q : t = nT b
    · have ik := ki kx (by decide) (by decide) (by decide)
      rw [show kM K 3 e2 (nT b) x 3 t = x from (if_neg (fun z => by omega)).trans (if_pos ⟨rfl, q⟩), if_pos ⟨q, rfl⟩, if_neg (fun z => by omega), if_pos ⟨q, rfl⟩, if_neg (fun z => by omega), if_neg (fun z => by omega), if_pos ⟨q, rfl⟩, if_pos q, q]
      exact ⟨a.2.2.2.2.1, g.k kx (by decide), (ik 1).trans ix.1, (ik 2).trans ix.2.1, (ik 3).trans ix.2.2.1, (ik 4).trans ix.2.2.2⟩
    · obtain ⟨a1, a2, a3, a4, a5, a6⟩ := x1.te (t := t) (by omega)
      have it := ki a2 (by decide) (by decide) (by decide)
      rw [show kM K 3 e2 (nT b) x 3 t = K 3 t from (if_neg (fun z => by omega)).trans (if_neg (fun z => q z.2)), if_neg (fun z => q z.1), if_neg (fun z => q z.1), if_neg (fun z => q z.1), if_neg (fun z => q z.1), if_neg (fun z => q z.1), if_neg (fun z => q z.1), if_neg (fun z => q z.1), if_neg (fun z => q z.1), if_neg (fun z => q z.1), if_neg q]
      exact ⟨(a.2.2.2.1 t (by omega)).trans a1, g.k a2 (by decide), (it 1).trans a3, (it 2).trans a4, (it 3).trans a5, (it 4).trans a6⟩
  · rcases a.2.2.2.2.2.1 with y | y
    · show kPe K ≠ e2; rw [y]; exact e2'
    · show kPe K ≠ e2; intro z; rw [← z, x1.aP.2.2.2.1] at y; cases y
  · rcases a.2.2.2.2.2.1 with y | y
    · show kSe K ≠ e2; rw [y]; exact e3
    · show kSe K ≠ e2; intro z; rw [← z, x1.aS.2.2.2.1] at y; cases y

end ADDS
