/-! ===== THE SYSTEM's HISTORY: frames that let the row of tables change its order ===== -/
set_option maxRecDepth 100000
/-- cells outside S keep their ints (64 but for the fields F); references change in cell 83 alone -/
def Fw (S : Nat → Prop) (F : List Nat) (h h1 : ev_H) : Prop := hN h1 = hN h ∧ hK h1 = hK h ∧ hL h1 = hL h ∧ (∀ a, a ≠ 83 → hR h1 a = hR h a) ∧ hJ h1 = hJ h ∧ ∀ a k, ¬ S a → (a = 64 → k ∉ F) → hI h1 a k = hI h a k
def SC (K : XK) (a : Nat) : Prop := a = kAk K ∨ (74 ≤ a ∧ a < 83) ∨ (135 ≤ a ∧ a < 255)
section FW
variable {b : Bk} {K : XK} {T : Nat → Int32} {sh : Int32} {h h1 h2 : ev_H} {S S2 : Nat → Prop} {F F2 : List Nat}
theorem Fw.rf : Fw S F h h := ⟨rfl, rfl, rfl, fun _ _ => rfl, rfl, fun _ _ _ _ => rfl⟩
theorem Fw.tr (p : Fw S F h h1) (q : Fw S F h1 h2) : Fw S F h h2 := ⟨q.1.trans p.1, q.2.1.trans p.2.1, q.2.2.1.trans p.2.2.1, fun a ha => (q.2.2.2.1 a ha).trans (p.2.2.2.1 a ha), q.2.2.2.2.1.trans p.2.2.2.2.1, fun a k x y => (q.2.2.2.2.2 a k x y).trans (p.2.2.2.2.2 a k x y)⟩
theorem Fw.wk (p : Fw S F h h1) (e1 : ∀ a, S a → S2 a) (e2 : ∀ k, k ∈ F → k ∈ F2) : Fw S2 F2 h h1 := ⟨p.1, p.2.1, p.2.2.1, p.2.2.2.1, p.2.2.2.2.1, fun a k x y => p.2.2.2.2.2 a k (fun z => x (e1 a z)) (fun e z => y e (e2 k z))⟩
theorem Fr.fw {as : List Nat} (p : Fr as [] h h1) (e : ∀ a, a ∈ as → S a) : Fw S F h h1 := ⟨p.1, p.2.1, p.2.2.1, fun a _ => by rw [p.2.2.2.1], p.2.2.2.2.1, fun a k x _ => p.2.2.2.2.2 a k (fun z => x (e a z)) (fun _ => by simp)⟩
theorem Fw.sf (k : Nat) (v : Int32) (hk : k ∈ F) : Fw S F h (sI h 64 k v) := ⟨rfl, rfl, rfl, fun _ _ => rfl, rfl, fun a j _ y => u2_ne (fun z => y z.1 (z.2 ▸ hk))⟩
theorem Fw.fld (p : Fw S F h h1) (k : Nat) (hS : ¬ S 64) (hk : k ∉ F) : hI h1 64 k = hI h 64 k := p.2.2.2.2.2 64 k hS (fun _ => hk)
theorem Fw.kx (p : Fw S F h h1) (ok : ∀ a, S a → okX (hK h a) = true) (k64 : hK h 64 = 1) {a c : Nat} (hk : hK h a = c) (hc : okX c = false) (k : Nat) : hI h1 a k = hI h a k :=
  p.2.2.2.2.2 a k (fun z => okX_ne (ok a z) hc hk) (fun e => by rw [e, k64] at hk; rw [← hk] at hc; cases hc)
theorem Fw.rx (p : Fw S F h h1) (k83 : hK h 83 = 105) {a c : Nat} (hk : hK h a = c) (hc : c ≠ 105) : hR h1 a = hR h a := p.2.2.2.1 a (fun e => hc (by rw [← hk, e, k83]))
theorem NodeAt.fw (p : Fw S F h h1) (ok : ∀ a, S a → okX (hK h a) = true) (k64 : hK h 64 = 1) (k83 : hK h 83 = 105) : ∀ (d x : Nat) (c : List (Int32 × Int32)), NodeAt d h x c → NodeAt d h1 x c
  | 0, _, _, n => n
  | d + 1, x, c, n => by
    unfold NodeAt at n ⊢
    rw [p.2.1]
    rcases n with ⟨n1, n2⟩ | n | ⟨n1, c1, n2, n3⟩ | ⟨n1, n4, n5, c1, c2, n2, n3, n6⟩
    · exact Or.inl ⟨n1, by rw [p.kx ok k64 n1 rfl]; exact n2⟩
    · exact Or.inr (Or.inl n)
    · exact Or.inr (Or.inr (Or.inl ⟨n1, c1, by rw [p.rx k83 n1 (by decide)]; exact NodeAt.fw p ok k64 k83 d _ _ n2, n3⟩))
    · exact Or.inr (Or.inr (Or.inr ⟨n1, by rw [p.kx ok k64 n1 rfl]; exact n4, by rw [p.kx ok k64 n1 rfl]; exact n5, c1, c2, by rw [p.rx k83 n1 (by decide)]; exact NodeAt.fw p ok k64 k83 d _ _ n2, by rw [p.rx k83 n1 (by decide)]; exact NodeAt.fw p ok k64 k83 d _ _ n3, by rw [p.kx ok k64 n1 rfl]; exact n6⟩))
theorem ALs.fw {l e n : Nat} (p : Fw S F h h1) (ok : ∀ a, S a → okX (hK h a) = true) (k64 : hK h 64 = 1) (k83 : hK h 83 = 105) (x : ALs l e n h) : ALs l e n h1 := by
  obtain ⟨x1, x2, x3, x4, x5, x6⟩ := x
  exact ⟨by rw [p.2.1]; exact x1, by rw [p.rx k83 x1 (by decide)]; exact x2, by rw [p.kx ok k64 x1 rfl]; exact x3, by rw [p.2.1]; exact x4, by rw [p.2.2.1]; exact x5, by rw [p.2.2.1]; exact x6⟩
theorem XB.fw (x : XB b K h) (p : Fw S F h h1) (ok : ∀ a, S a → okX (hK h a) = true) (k64 : hK h 64 = 1) (k83 : hK h 83 = 105) : XB b K h1 := by
  have eP := p.rx k83 x.aP.2.2.2.1 (by decide)
  have eT := p.rx k83 x.aT.2.2.2.1 (by decide)
  obtain ⟨x1, x2, x3, ⟨x4, x5, x6⟩, ⟨x7, x8, x9⟩, x10, x11, x12, x13, x14⟩ := x
  refine ⟨x1, by rw [p.2.1]; exact x2, by rw [p.rx k83 x2 (by decide)]; exact x3, ⟨by rw [p.kx ok k64 x2 rfl]; exact x4, by rw [p.kx ok k64 x2 rfl]; exact x5, by rw [p.kx ok k64 x2 rfl]; exact x6⟩, ⟨x7.fw p ok k64 k83, x8.fw p ok k64 k83, x9.fw p ok k64 k83⟩, by rw [p.2.1]; exact x10, fun q hq => ?_, fun q hq => ?_, x13, fun c hc => ⟨(x14 c hc).1, NodeAt.fw p ok k64 k83 _ _ _ (x14 c hc).2⟩⟩
  · obtain ⟨a1, a2, a3⟩ := x11 q hq
    exact ⟨by rw [eP]; exact a1, by rw [p.2.1]; exact a2, by rw [p.kx ok k64 a2 rfl]; exact a3⟩
  · obtain ⟨a1, a2, a3, a4, a5, a6⟩ := x12 q hq
    exact ⟨by rw [eT]; exact a1, by rw [p.2.1]; exact a2, by rw [p.kx ok k64 a2 rfl]; exact a3, by rw [p.kx ok k64 a2 rfl]; exact a4, by rw [p.kx ok k64 a2 rfl]; exact a5, by rw [p.kx ok k64 a2 rfl]; exact a6⟩
theorem XT.fw {t : Nat} (x : XT t T sh h) (p : Fw S F h h1) (k64 : hK h 64 = 1) (k83 : hK h 83 = 105) (o1 : ¬ S t) (o2 : ¬ S (t + 1)) (o3 : ¬ S (t + 2)) : XT t T sh h1 := by
  obtain ⟨x0, x1, x2, x3, x4, ⟨x5, x6, x7, x8, x9⟩, x10, x11⟩ := x
  have e1 : ∀ k, hI h1 t k = hI h t k := fun k => p.2.2.2.2.2 t k o1 (fun e => by rw [e, k64] at x1; cases x1)
  have e2 : ∀ k, hI h1 (t + 1) k = hI h (t + 1) k := fun k => p.2.2.2.2.2 _ k o2 (fun e => by rw [e, k64] at x3; cases x3.1)
  have e3 : ∀ k, hI h1 (t + 2) k = hI h (t + 2) k := fun k => p.2.2.2.2.2 _ k o3 (fun e => by rw [e, k64] at x4; cases x4.1)
  have er := p.rx k83 x1 (by decide)
  exact ⟨x0, by rw [p.2.1]; exact x1, by rw [er]; exact x2, by rw [p.2.1, p.2.2.1]; exact x3, by rw [p.2.1, p.2.2.1]; exact x4, ⟨by rw [e1]; exact x5, by rw [e1]; exact x6, by rw [e1]; exact x7, by rw [e1]; exact x8, by rw [e1]; exact x9⟩, fun k hk => by rw [e2]; exact x10 k hk, fun k hk => by rw [e3]; exact x11 k hk⟩
theorem XS.fw {t : Nat} (x : XS t h) (p : Fw S F h h1) (ne : t ≠ 83) : XS t h1 := by
  obtain ⟨x0, x1, x2, x3, x4⟩ := x
  exact ⟨x0, by rw [p.2.1]; exact x1, by rw [p.2.2.2.1 t ne]; exact x2, by rw [p.2.1, p.2.2.1]; exact x3, by rw [p.2.1, p.2.2.1]; exact x4⟩
theorem XLay.fw (x : XLay h) (p : Fw S F h h1) : XLay h1 := by
  obtain ⟨x0, x1, x2, x3, x4, x5, x6, x7, x8⟩ := x
  refine ⟨by rw [p.2.1]; exact x0, fun k hk h0 => by rw [p.2.2.2.1 64 (by decide)]; exact x1 k hk h0, by rw [p.2.1, p.2.2.1]; exact x2, ?_, x4.fw p (by decide), x5.fw p (by decide), x6.fw p (by decide), fun j hj => (x7 j hj).fw p (by omega), fun j hj => ⟨by rw [p.2.2.2.1 133 (by decide)]; exact (x8 j hj).1, (x8 j hj).2.fw p (by omega)⟩⟩
  have e1 := p.2.2.2.1 87 (by decide)
  have e2 := p.2.2.2.1 90 (by decide)
  have e3 := p.2.2.2.1 95 (by decide)
  first
  | (rw [p.2.1, p.2.2.1, e1, e2, e3]; exact x3)
  | (rw [p.2.1, p.2.2.1, e1, e2]; exact x3)
  | (rw [p.2.1, p.2.2.1]; exact x3)
theorem XLay.tabs (x : XLay h) {a : Nat} (ha : (74 ≤ a ∧ a < 83) ∨ (135 ≤ a ∧ a < 264)) : okX (hK h a) = true := by
  have key : ∀ t, XS t h → (a = t ∨ a = t + 1 ∨ a = t + 2) → okX (hK h a) = true := fun t s e => s.xt.okT a (by simpa using e)
  rcases ha with q | q
  · have hc : (a = 74 ∨ a = 75 ∨ a = 76) ∨ (a = 77 ∨ a = 78 ∨ a = 79) ∨ (a = 80 ∨ a = 81 ∨ a = 82) := by omega
    rcases hc with e | e | e
    · exact key 74 x.s74 e
    · exact key 77 x.s77 e
    · exact key 80 x.s80 e
  · rcases Nat.lt_or_ge a 255 with q2 | q2
    · exact key (135 + 3 * ((a - 135) / 3)) (x.sw (by omega)) (by omega)
    · exact key (255 + 3 * ((a - 255) / 3)) (x.sb (by omega)).2 (by omega)
theorem XM.okC (x : XM b K T h) : ∀ a, SC K a → okX (hK h a) = true := fun a ha => by
  rcases ha with e | e | e
  · rw [e, x.xb.akk]; rfl
  · exact x.lay.tabs (Or.inl e)
  · exact x.lay.tabs (Or.inr ⟨e.1, by omega⟩)
theorem XM.fw (x : XM b K T h) (p : Fw S F h h1) (hS : ∀ a, S a → SC K a) {T2 : Nat → Int32} (hT : XT 74 T2 (-1) h1) (hw : TW b T2) : XM b K T2 h1 :=
  ⟨x.lay.fw p, by rw [p.2.2.2.1 64 (by decide)]; exact x.bk, x.xb.fw p (fun a ha => x.okC a (hS a ha)) x.lay.k x.lay.were.1, hT, hw⟩
end FW
/-! the history -/
def XH (b : Bk) (W : Nat → Int32) (na nu : Nat) (h : ev_H) : Prop := hI h 64 10 = nI na ∧ hI h 64 11 = nI nu ∧ na + nu ≤ 40 ∧ ∃ f : Nat → Nat, (∀ j, j < 40 → f j < 40 ∧ hR h 83 j = 135 + 3 * f j) ∧ (∀ i j, i < 40 → j < 40 → f i = f j → i = j) ∧ ∀ j, j < na + nu → XT (135 + 3 * f j) (undT W j) (-1) h ∧ TW b (undT W j)
