/-! ===== THE SYSTEM's CELLS: lists, nodes, book, table ===== -/
set_option maxRecDepth 100000
/-- the list l with the array e holds n -/
def ALs (l e n : Nat) (h : ev_H) : Prop := hK h l = 21 ∧ hR h l 1 = e ∧ hI h l 2 = nI n ∧ hK h e = 104 ∧ n ≤ hL h e ∧ hL h e < 1000
/-- the sign of what is asked -/
def askC (i : Nat) : Int32 := match i with
  | 0 => nI 104
  | 1 => nI 115
  | 2 => nI 103
  | 3 => nI 114
  | 4 => nI 116
  | _ => nI 99
/-- the node x says the code c -/
def NodeAt : Nat → ev_H → Nat → List (Int32 × Int32) → Prop
  | 0, _, _, _ => False
  | d + 1, h, x, c => (hK h x = 12 ∧ c = [(nI 110, hI h x 0)]) ∨ (∃ i, i < 6 ∧ x = 9 + i ∧ hK h x = 15 + i ∧ c = [(askC i, 0)]) ∨ (hK h x = 11 ∧ ∃ c1, NodeAt d h (hR h x 0) c1 ∧ c = c1 ++ [(nI 126, 0)]) ∨ (hK h x = 13 ∧ isLetV (hI h x 2) = false ∧ hI h x 2 ≠ nI 126 ∧ ∃ c1 c2, NodeAt d h (hR h x 0) c1 ∧ NodeAt d h (hR h x 1) c2 ∧ c = c1 ++ (c2 ++ [(hI h x 2, 0)]))
abbrev XK : Type := Nat → Nat → Nat
abbrev kB (K : XK) : Nat := K 0 0
abbrev kPl (K : XK) : Nat := K 0 1
abbrev kPe (K : XK) : Nat := K 0 2
abbrev kSl (K : XK) : Nat := K 0 3
abbrev kSe (K : XK) : Nat := K 0 4
abbrev kTl (K : XK) : Nat := K 0 5
abbrev kTe (K : XK) : Nat := K 0 6
abbrev kAk (K : XK) : Nat := K 0 7
abbrev kSd (K : XK) : Nat := K 0 8
/-- the system holds the book b (its cells: K) -/
def XB (b : Bk) (K : XK) (h : ev_H) : Prop := BW b ∧ hK h (kB K) = 2 ∧ (hR h (kB K) 0 = kPl K ∧ hR h (kB K) 1 = kSl K ∧ hR h (kB K) 2 = kTl K ∧ hR h (kB K) 3 = kAk K ∧ hR h (kB K) 4 = kSd K) ∧ (hI h (kB K) 5 = nI (bSn b) ∧ hI h (kB K) 6 = nI (bDr b) ∧ hI h (kB K) 7 = nI (bUn b)) ∧ (ALs (kPl K) (kPe K) (nP b) h ∧ ALs (kSl K) (kSe K) (nS b) h ∧ ALs (kTl K) (kTe K) (nT b) h) ∧ (hK h (kAk K) = 3 ∧ ev_c < kAk K) ∧ (∀ p, p < nP b → hR h (kPe K) p = K 1 p ∧ hK h (K 1 p) = 8 ∧ hI h (K 1 p) 1 = nI (bSh b p)) ∧ (∀ t, t < nT b → hR h (kTe K) t = K 3 t ∧ hK h (K 3 t) = 10 ∧ hI h (K 3 t) 1 = nI (bBy b t) ∧ hI h (K 3 t) 2 = nI (bTo b t) ∧ hI h (K 3 t) 3 = nI (bHo b t) ∧ hI h (K 3 t) 4 = bIn b t) ∧ (bRu b = none → kSd K = 0) ∧ ∀ c, bRu b = some c → kSd K ≠ 0 ∧ NodeAt 300 h (kSd K) c
/-- the table t holds T; how shy he is thought to be: sh -/
def XT (t : Nat) (T : Nat → Int32) (sh : Int32) (h : ev_H) : Prop := ev_c < t ∧ hK h t = 4 ∧ (hR h t 0 = t + 1 ∧ hR h t 1 = t + 2) ∧ (hK h (t + 1) = 100 ∧ hL h (t + 1) = 10) ∧ (hK h (t + 2) = 100 ∧ hL h (t + 2) = 5) ∧ (hI h t 2 = sh ∧ hI h t 3 = T 0 ∧ hI h t 4 = T 1 ∧ hI h t 5 = T 17 ∧ hI h t 6 = T 18) ∧ (∀ k, k < 10 → hI h (t + 1) k = T (2 + k)) ∧ ∀ k, k < 5 → hI h (t + 2) k = T (12 + k)
def XA (K : XK) (q : Nat → Int32) (h : ev_H) : Prop := ∀ k, k < 6 → hI h (kAk K) k = q k
/-- kinds of cells that no book holds ints in -/
def okX (k : Nat) : Bool := !([2, 21, 8, 10, 12, 13].contains k)
theorem okX_ne {k c : Nat} (h : okX k = true) (hc : okX c = false) : k ≠ c := fun e => by rw [e, hc] at h; cases h
section XBS
variable {b : Bk} {K : XK} {h h1 : ev_H}
theorem Fr.kx {as : List Nat} (p : Fr as [] h h1) (ok : ∀ a ∈ as, okX (hK h a) = true) {a c : Nat} (hk : hK h a = c) (hc : okX c = false) (k : Nat) : hI h1 a k = hI h a k := p.2.2.2.2.2 a k (fun z => okX_ne (ok a z) hc hk) (fun _ => by simp)
theorem NodeAt.fr {as : List Nat} (p : Fr as [] h h1) (ok : ∀ a ∈ as, okX (hK h a) = true) : ∀ (d x : Nat) (c : List (Int32 × Int32)), NodeAt d h x c → NodeAt d h1 x c
  | 0, _, _, n => n
  | d + 1, x, c, n => by
    unfold NodeAt at n ⊢
    rw [p.2.1, p.2.2.2.1]
    rcases n with ⟨n1, n2⟩ | n | ⟨n1, c1, n2, n3⟩ | ⟨n1, n4, n5, c1, c2, n2, n3, n6⟩
    · exact Or.inl ⟨n1, by rw [p.kx ok n1 rfl]; exact n2⟩
    · exact Or.inr (Or.inl n)
    · exact Or.inr (Or.inr (Or.inl ⟨n1, c1, NodeAt.fr p ok d _ _ n2, n3⟩))
    · exact Or.inr (Or.inr (Or.inr ⟨n1, by rw [p.kx ok n1 rfl]; exact n4, by rw [p.kx ok n1 rfl]; exact n5, c1, c2, NodeAt.fr p ok d _ _ n2, NodeAt.fr p ok d _ _ n3, by rw [p.kx ok n1 rfl]; exact n6⟩))
theorem ALs.fr {as : List Nat} {l e n : Nat} (p : Fr as [] h h1) (ok : ∀ a ∈ as, okX (hK h a) = true) (x : ALs l e n h) : ALs l e n h1 := by
  obtain ⟨x1, x2, x3, x4, x5, x6⟩ := x
  exact ⟨by rw [p.2.1]; exact x1, by rw [p.2.2.2.1]; exact x2, by rw [p.kx ok x1 rfl]; exact x3, by rw [p.2.1]; exact x4, by rw [p.2.2.1]; exact x5, by rw [p.2.2.1]; exact x6⟩
theorem XB.fr {as : List Nat} (x : XB b K h) (p : Fr as [] h h1) (ok : ∀ a ∈ as, okX (hK h a) = true) : XB b K h1 := by
  obtain ⟨x1, x2, x3, ⟨x4, x5, x6⟩, ⟨x7, x8, x9⟩, x10, x11, x12, x13, x14⟩ := x
  refine ⟨x1, by rw [p.2.1]; exact x2, by rw [p.2.2.2.1]; exact x3, ⟨by rw [p.kx ok x2 rfl]; exact x4, by rw [p.kx ok x2 rfl]; exact x5, by rw [p.kx ok x2 rfl]; exact x6⟩, ⟨x7.fr p ok, x8.fr p ok, x9.fr p ok⟩, by rw [p.2.1]; exact x10, fun q hq => ?_, fun q hq => ?_, x13, fun c hc => ⟨(x14 c hc).1, NodeAt.fr p ok _ _ _ (x14 c hc).2⟩⟩
  · obtain ⟨a1, a2, a3⟩ := x11 q hq
    exact ⟨by rw [p.2.2.2.1]; exact a1, by rw [p.2.1]; exact a2, by rw [p.kx ok a2 rfl]; exact a3⟩
  · obtain ⟨a1, a2, a3, a4, a5, a6⟩ := x12 q hq
    exact ⟨by rw [p.2.2.2.1]; exact a1, by rw [p.2.1]; exact a2, by rw [p.kx ok a2 rfl]; exact a3, by rw [p.kx ok a2 rfl]; exact a4, by rw [p.kx ok a2 rfl]; exact a5, by rw [p.kx ok a2 rfl]; exact a6⟩
theorem XB.bw (x : XB b K h) : BW b := x.1
theorem XB.k (x : XB b K h) : hK h (kB K) = 2 := x.2.1
theorem XB.pl (x : XB b K h) : hR h (kB K) 0 = kPl K := x.2.2.1.1
theorem XB.sl (x : XB b K h) : hR h (kB K) 1 = kSl K := x.2.2.1.2.1
theorem XB.tl (x : XB b K h) : hR h (kB K) 2 = kTl K := x.2.2.1.2.2.1
theorem XB.ak (x : XB b K h) : hR h (kB K) 3 = kAk K := x.2.2.1.2.2.2.1
theorem XB.sd (x : XB b K h) : hR h (kB K) 4 = kSd K := x.2.2.1.2.2.2.2
theorem XB.sn (x : XB b K h) : hI h (kB K) 5 = nI (bSn b) := x.2.2.2.1.1
theorem XB.dr (x : XB b K h) : hI h (kB K) 6 = nI (bDr b) := x.2.2.2.1.2.1
theorem XB.un (x : XB b K h) : hI h (kB K) 7 = nI (bUn b) := x.2.2.2.1.2.2
theorem XB.aP (x : XB b K h) : ALs (kPl K) (kPe K) (nP b) h := x.2.2.2.2.1.1
theorem XB.aS (x : XB b K h) : ALs (kSl K) (kSe K) (nS b) h := x.2.2.2.2.1.2.1
theorem XB.aT (x : XB b K h) : ALs (kTl K) (kTe K) (nT b) h := x.2.2.2.2.1.2.2
theorem XB.akk (x : XB b K h) : hK h (kAk K) = 3 := x.2.2.2.2.2.1.1
theorem XB.akc (x : XB b K h) : ev_c < kAk K := x.2.2.2.2.2.1.2
theorem XB.pe (x : XB b K h) {p : Nat} (hp : p < nP b) : hR h (kPe K) p = K 1 p ∧ hK h (K 1 p) = 8 ∧ hI h (K 1 p) 1 = nI (bSh b p) := x.2.2.2.2.2.2.1 p hp
theorem XB.te (x : XB b K h) {t : Nat} (ht : t < nT b) : hR h (kTe K) t = K 3 t ∧ hK h (K 3 t) = 10 ∧ hI h (K 3 t) 1 = nI (bBy b t) ∧ hI h (K 3 t) 2 = nI (bTo b t) ∧ hI h (K 3 t) 3 = nI (bHo b t) ∧ hI h (K 3 t) 4 = bIn b t := x.2.2.2.2.2.2.2.1 t ht
theorem XB.r0 (x : XB b K h) (e : bRu b = none) : kSd K = 0 := x.2.2.2.2.2.2.2.2.1 e
theorem XB.r1 (x : XB b K h) {c : List (Int32 × Int32)} (e : bRu b = some c) : kSd K ≠ 0 ∧ NodeAt 300 h (kSd K) c := x.2.2.2.2.2.2.2.2.2 c e
end XBS
section XTS
variable {t : Nat} {T : Nat → Int32} {sh : Int32} {h h1 : ev_H}
theorem XT.c (x : XT t T sh h) : ev_c < t := x.1
theorem XT.k (x : XT t T sh h) : hK h t = 4 := x.2.1
theorem XT.rin (x : XT t T sh h) : hR h t 0 = t + 1 := x.2.2.1.1
theorem XT.rgr (x : XT t T sh h) : hR h t 1 = t + 2 := x.2.2.1.2
theorem XT.kin (x : XT t T sh h) : hK h (t + 1) = 100 := x.2.2.2.1.1
theorem XT.lin (x : XT t T sh h) : hL h (t + 1) = 10 := x.2.2.2.1.2
theorem XT.kgr (x : XT t T sh h) : hK h (t + 2) = 100 := x.2.2.2.2.1.1
theorem XT.lgr (x : XT t T sh h) : hL h (t + 2) = 5 := x.2.2.2.2.1.2
theorem XT.sh_ (x : XT t T sh h) : hI h t 2 = sh := x.2.2.2.2.2.1.1
theorem XT.si (x : XT t T sh h) : hI h t 3 = T 0 := x.2.2.2.2.2.1.2.1
theorem XT.sa (x : XT t T sh h) : hI h t 4 = T 1 := x.2.2.2.2.2.1.2.2.1
theorem XT.co (x : XT t T sh h) : hI h t 5 = T 17 := x.2.2.2.2.2.1.2.2.2.1
theorem XT.se (x : XT t T sh h) : hI h t 6 = T 18 := x.2.2.2.2.2.1.2.2.2.2
theorem XT.in_ (x : XT t T sh h) {k : Nat} (hk : k < 10) : hI h (t + 1) k = T (2 + k) := x.2.2.2.2.2.2.1 k hk
theorem XT.gr_ (x : XT t T sh h) {k : Nat} (hk : k < 5) : hI h (t + 2) k = T (12 + k) := x.2.2.2.2.2.2.2 k hk
theorem XT.fr {as : List Nat} (x : XT t T sh h) (p : Fr as [] h h1) (o1 : t ∉ as) (o2 : t + 1 ∉ as) (o3 : t + 2 ∉ as) : XT t T sh h1 := by
  obtain ⟨x0, x1, x2, x3, x4, ⟨x5, x6, x7, x8, x9⟩, x10, x11⟩ := x
  have e1 : ∀ k, hI h1 t k = hI h t k := fun k => p.2.2.2.2.2 t k o1 (fun _ => by simp)
  have e2 : ∀ k, hI h1 (t + 1) k = hI h (t + 1) k := fun k => p.2.2.2.2.2 _ k o2 (fun _ => by simp)
  have e3 : ∀ k, hI h1 (t + 2) k = hI h (t + 2) k := fun k => p.2.2.2.2.2 _ k o3 (fun _ => by simp)
  exact ⟨x0, by rw [p.2.1]; exact x1, by rw [p.2.2.2.1]; exact x2, by rw [p.2.1, p.2.2.1]; exact x3, by rw [p.2.1, p.2.2.1]; exact x4, ⟨by rw [e1]; exact x5, by rw [e1]; exact x6, by rw [e1]; exact x7, by rw [e1]; exact x8, by rw [e1]; exact x9⟩, fun k hk => by rw [e2]; exact x10 k hk, fun k hk => by rw [e3]; exact x11 k hk⟩
theorem XT.eqT {T2 : Nat → Int32} (x : XT t T sh h) (e : ∀ k, k < 19 → T k = T2 k) : XT t T2 sh h := by
  obtain ⟨x0, x1, x2, x3, x4, ⟨x5, x6, x7, x8, x9⟩, x10, x11⟩ := x
  exact ⟨x0, x1, x2, x3, x4, ⟨x5, by rw [← e 0 (by decide)]; exact x6, by rw [← e 1 (by decide)]; exact x7, by rw [← e 17 (by decide)]; exact x8, by rw [← e 18 (by decide)]; exact x9⟩, fun k hk => by rw [← e _ (by omega)]; exact x10 k hk, fun k hk => by rw [← e _ (by omega)]; exact x11 k hk⟩
/-- one of its own numbers is written -/
theorem XT.w0 (x : XT t T sh h) {j e : Nat} (v : Int32) (hj : j = 3 ∧ e = 0 ∨ j = 4 ∧ e = 1 ∨ j = 5 ∧ e = 17 ∨ j = 6 ∧ e = 18) : XT t (u1 T e v) sh (sI h t j v) := by
  obtain ⟨x0, x1, x2, x3, x4, ⟨x5, x6, x7, x8, x9⟩, x10, x11⟩ := x
  have e2 : ∀ k, hI (sI h t j v) (t + 1) k = hI h (t + 1) k := fun k => u2_ne (fun z => by omega)
  have e3 : ∀ k, hI (sI h t j v) (t + 2) k = hI h (t + 2) k := fun k => u2_ne (fun z => by omega)
  have e1 : ∀ k, k ≠ j → hI (sI h t j v) t k = hI h t k := fun k hk => u2_ne (fun z => hk z.2)
  have e4 : hI (sI h t j v) t j = v := u2_self
  have g1 : ∀ k, k ≠ e → u1 T e v k = T k := fun k hk => if_neg hk
  have g2 : u1 T e v e = v := if_pos rfl
  refine ⟨x0, x1, x2, x3, x4, ?_, fun k hk => by rw [e2, g1 _ (by omega)]; exact x10 k hk, fun k hk => by rw [e3, g1 _ (by omega)]; exact x11 k hk⟩
  rcases hj with ⟨rfl, rfl⟩ | ⟨rfl, rfl⟩ | ⟨rfl, rfl⟩ | ⟨rfl, rfl⟩
  · exact ⟨by rw [e1 2 (by decide)]; exact x5, by rw [e4, g2], by rw [e1 4 (by decide), g1 1 (by decide)]; exact x7, by rw [e1 5 (by decide), g1 17 (by decide)]; exact x8, by rw [e1 6 (by decide), g1 18 (by decide)]; exact x9⟩
  · exact ⟨by rw [e1 2 (by decide)]; exact x5, by rw [e1 3 (by decide), g1 0 (by decide)]; exact x6, by rw [e4, g2], by rw [e1 5 (by decide), g1 17 (by decide)]; exact x8, by rw [e1 6 (by decide), g1 18 (by decide)]; exact x9⟩
  · exact ⟨by rw [e1 2 (by decide)]; exact x5, by rw [e1 3 (by decide), g1 0 (by decide)]; exact x6, by rw [e1 4 (by decide), g1 1 (by decide)]; exact x7, by rw [e4, g2], by rw [e1 6 (by decide), g1 18 (by decide)]; exact x9⟩
  · exact ⟨by rw [e1 2 (by decide)]; exact x5, by rw [e1 3 (by decide), g1 0 (by decide)]; exact x6, by rw [e1 4 (by decide), g1 1 (by decide)]; exact x7, by rw [e1 5 (by decide), g1 17 (by decide)]; exact x8, by rw [e4, g2]⟩
theorem XT.wsh (x : XT t T sh h) (v : Int32) : XT t T v (sI h t 2 v) := by
  obtain ⟨x0, x1, x2, x3, x4, ⟨x5, x6, x7, x8, x9⟩, x10, x11⟩ := x
  have e2 : ∀ k, hI (sI h t 2 v) (t + 1) k = hI h (t + 1) k := fun k => u2_ne (fun z => by omega)
  have e3 : ∀ k, hI (sI h t 2 v) (t + 2) k = hI h (t + 2) k := fun k => u2_ne (fun z => by omega)
  have e1 : ∀ k, k ≠ 2 → hI (sI h t 2 v) t k = hI h t k := fun k hk => u2_ne (fun z => hk z.2)
  exact ⟨x0, x1, x2, x3, x4, ⟨u2_self, by rw [e1 3 (by decide)]; exact x6, by rw [e1 4 (by decide)]; exact x7, by rw [e1 5 (by decide)]; exact x8, by rw [e1 6 (by decide)]; exact x9⟩, fun k hk => by rw [e2]; exact x10 k hk, fun k hk => by rw [e3]; exact x11 k hk⟩
theorem XT.win (x : XT t T sh h) {j : Nat} (hj : j < 10) (v : Int32) : XT t (u1 T (2 + j) v) sh (sI h (t + 1) j v) := by
  obtain ⟨x0, x1, x2, x3, x4, ⟨x5, x6, x7, x8, x9⟩, x10, x11⟩ := x
  have e1 : ∀ k, hI (sI h (t + 1) j v) t k = hI h t k := fun k => u2_ne (fun z => by omega)
  have e3 : ∀ k, hI (sI h (t + 1) j v) (t + 2) k = hI h (t + 2) k := fun k => u2_ne (fun z => by omega)
  have g1 : ∀ k, k ≠ 2 + j → u1 T (2 + j) v k = T k := fun k hk => if_neg hk
  refine ⟨x0, x1, x2, x3, x4, ⟨by rw [e1]; exact x5, by rw [e1, g1 _ (by omega)]; exact x6, by rw [e1, g1 _ (by omega)]; exact x7, by rw [e1, g1 _ (by omega)]; exact x8, by rw [e1, g1 _ (by omega)]; exact x9⟩, fun k hk => ?_, fun k hk => by rw [e3, g1 _ (by omega)]; exact x11 k hk⟩
  by_cases e : k = j
  · subst e
    exact u2_self.trans (if_pos rfl).symm
  · rw [g1 _ (by omega)]
    exact (u2_ne (fun z => e z.2)).trans (x10 k hk)
theorem XT.wgr (x : XT t T sh h) {j : Nat} (hj : j < 5) (v : Int32) : XT t (u1 T (12 + j) v) sh (sI h (t + 2) j v) := by
  obtain ⟨x0, x1, x2, x3, x4, ⟨x5, x6, x7, x8, x9⟩, x10, x11⟩ := x
  have e1 : ∀ k, hI (sI h (t + 2) j v) t k = hI h t k := fun k => u2_ne (fun z => by omega)
  have e3 : ∀ k, hI (sI h (t + 2) j v) (t + 1) k = hI h (t + 1) k := fun k => u2_ne (fun z => by omega)
  have g1 : ∀ k, k ≠ 12 + j → u1 T (12 + j) v k = T k := fun k hk => if_neg hk
  refine ⟨x0, x1, x2, x3, x4, ⟨by rw [e1]; exact x5, by rw [e1, g1 _ (by omega)]; exact x6, by rw [e1, g1 _ (by omega)]; exact x7, by rw [e1, g1 _ (by omega)]; exact x8, by rw [e1, g1 _ (by omega)]; exact x9⟩, fun k hk => by rw [e3, g1 _ (by omega)]; exact x10 k hk, fun k hk => ?_⟩
  by_cases e : k = j
  · subst e
    exact u2_self.trans (if_pos rfl).symm
  · rw [g1 _ (by omega)]
    exact (u2_ne (fun z => e z.2)).trans (x11 k hk)
end XTS
theorem XA.up {K : XK} {q : Nat → Int32} {h : ev_H} (x : XA K q h) (e : Nat) (v : Int32) : XA K (u1 q e v) (sI h (kAk K) e v) := by
  intro k hk
  show u2 (hI h) (kAk K) e v (kAk K) k = if k = e then v else q k
  unfold u2
  by_cases hke : k = e
  · rw [if_pos ⟨rfl, hke⟩, if_pos hke]
  · rw [if_neg (fun z => hke z.2), if_neg hke]
    exact x k hk
theorem XA.fr {K : XK} {q : Nat → Int32} {h h1 : ev_H} {as : List Nat} (x : XA K q h) (p : Fr as [] h h1) (o : kAk K ∉ as) : XA K q h1 := fun k hk => (p.2.2.2.2.2 _ k o (fun _ => by simp)).trans (x k hk)
