/-! ===== what a method of the reference leaves alone ===== -/
set_option maxRecDepth 100000
/-- only the arrays as and the reference's own fields fs were written -/
def Fr (as fs : List Nat) (h h1 : ev_H) : Prop := hN h1 = hN h ∧ hK h1 = hK h ∧ hL h1 = hL h ∧ hR h1 = hR h ∧ hJ h1 = hJ h ∧ ∀ a k, a ∉ as → (a = aM → k ∉ fs) → hI h1 a k = hI h a k
section FR
variable {as fs as2 fs2 : List Nat} {h h1 h2 : ev_H}
theorem Fr.rf : Fr as fs h h := ⟨rfl, rfl, rfl, rfl, rfl, fun _ _ _ _ => rfl⟩
theorem Fr.tr (p : Fr as fs h h1) (q : Fr as fs h1 h2) : Fr as fs h h2 := ⟨q.1.trans p.1, q.2.1.trans p.2.1, q.2.2.1.trans p.2.2.1, q.2.2.2.1.trans p.2.2.2.1, q.2.2.2.2.1.trans p.2.2.2.2.1, fun a k x y => (q.2.2.2.2.2 a k x y).trans (p.2.2.2.2.2 a k x y)⟩
theorem Fr.wk (p : Fr as fs h h1) (ha : ∀ a ∈ as, a ∈ as2) (hf : ∀ a ∈ fs, a ∈ fs2) : Fr as2 fs2 h h1 := ⟨p.1, p.2.1, p.2.2.1, p.2.2.2.1, p.2.2.2.2.1, fun a k x y => p.2.2.2.2.2 a k (fun z => x (ha a z)) (fun e z => y e (hf k z))⟩
theorem Fr.s (p : Fr as fs h h1) (a k : Nat) (v : Int32) (hin : a ∈ as ∨ (a = aM ∧ k ∈ fs)) : Fr as fs h (sI h1 a k v) := ⟨p.1, p.2.1, p.2.2.1, p.2.2.2.1, p.2.2.2.2.1, fun b j x y => by
  have e : hI (sI h1 a k v) b j = hI h1 b j := u2_ne (fun z => by
    obtain ⟨rfl, rfl⟩ := z
    rcases hin with z | ⟨z1, z2⟩
    · exact x z
    · exact y z1 z2)
  rw [e]
  exact p.2.2.2.2.2 b j x y⟩
theorem Fr.sa (p : Fr as fs h h1) (a k : Nat) (v : Int32) (hin : a ∈ as) : Fr as fs h (sI h1 a k v) := p.s a k v (Or.inl hin)
theorem Fr.sf (p : Fr as fs h h1) (k : Nat) (v : Int32) (hin : k ∈ fs) : Fr as fs h (sI h1 aM k v) := p.s aM k v (Or.inr ⟨rfl, hin⟩)
theorem Fr.lay (p : Fr as fs h h1) (hl : MLay h) : MLay h1 := by
  unfold MLay
  rw [p.2.1, p.2.2.1, p.2.2.2.1]
  exact hl
theorem Fr.at (p : Fr as fs h h1) (a k : Nat) (ha : a ∉ as) (hf : a = aM → k ∉ fs) : hI h1 a k = hI h a k := p.2.2.2.2.2 a k ha hf
theorem Fr.fld (p : Fr as fs h h1) (k : Nat) (ha : aM ∉ as) (hf : k ∉ fs) : hI h1 aM k = hI h aM k := p.2.2.2.2.2 aM k ha (fun _ => hf)
theorem Fr.ar (p : Fr as fs h h1) (a : Nat) (ha : a ∉ as) (hne : a ≠ aM) (k : Nat) : hI h1 a k = hI h a k := p.2.2.2.2.2 a k ha (fun e => absurd e hne)
end FR
def okB (as fs : List Nat) : Bool := [aPeople, aSacks, aThings, aUnits, aSneeze, aDraw, aTold, aShy, aFrom, aWhom, aHot, aInSack, aRuleFrom, aRuleTo, aCode, aCodeNumber, aM].all (fun a => !as.contains a) && !fs.contains 33
theorem MB.fr {b : Bk} {k : Nat} {as fs : List Nat} {h h1 : ev_H} (hm : MB b k h) (p : Fr as fs h h1) (ok : okB as fs = true) : MB b k h1 := by
  unfold okB at ok
  simp only [Bool.and_eq_true, List.all_cons, List.all_nil, Bool.not_eq_true', List.contains_eq_mem, decide_eq_false_iff_not, and_true] at ok
  obtain ⟨⟨o1, o2, o3, o4, o5, o6, o7, o8, o9, o10, o11, o12, o13, o14, o15, o16, o17⟩, o18⟩ := ok
  obtain ⟨g1, g2, g3, g4, ⟨g5, g6, g7⟩, ⟨g8, g9, g10⟩, g11, g12, g13, g14⟩ := hm
  have e1 := fun k => p.ar aPeople o1 (by decide) k
  have e2 := fun k => p.ar aSacks o2 (by decide) k
  have e3 := fun k => p.ar aThings o3 (by decide) k
  have e4 := fun k => p.ar aUnits o4 (by decide) k
  have e5 := fun k => p.ar aSneeze o5 (by decide) k
  have e6 := fun k => p.ar aDraw o6 (by decide) k
  have e7 := fun k => p.ar aTold o7 (by decide) k
  have e8 := fun k => p.ar aShy o8 (by decide) k
  have e9 := fun k => p.ar aFrom o9 (by decide) k
  have e10 := fun k => p.ar aWhom o10 (by decide) k
  have e11 := fun k => p.ar aHot o11 (by decide) k
  have e12 := fun k => p.ar aInSack o12 (by decide) k
  have e13 := fun k => p.ar aRuleFrom o13 (by decide) k
  have e14 := fun k => p.ar aRuleTo o14 (by decide) k
  have e15 := fun k => p.ar aCode o15 (by decide) k
  have e16 := fun k => p.ar aCodeNumber o16 (by decide) k
  refine ⟨p.lay g1, g2, g3, by rw [p.fld 33 o17 o18]; exact g4, ⟨by rw [e1]; exact g5, by rw [e2]; exact g6, by rw [e3]; exact g7⟩, ⟨by rw [e4]; exact g8, by rw [e5]; exact g9, by rw [e6]; exact g10⟩, fun q hq => by rw [e8]; exact g11 q hq, fun t ht => by rw [e9, e10, e11, e12]; exact g12 t ht, by rw [e7]; exact g13, fun c hc => ?_⟩
  obtain ⟨r0, f1, f2, f3, f4⟩ := g14 c hc
  exact ⟨r0, by rw [e13]; exact f1, by rw [e14]; exact f2, f3, fun i q hi => by rw [e15, e16]; exact f4 i q hi⟩
theorem MT.fr {T : Nat → Int32} {as fs : List Nat} {h h1 : ev_H} (hT : MT T h) (p : Fr as fs h h1) (ok : aAll ∉ as) : MT T h1 := fun k hk => by
  rw [p.ar aAll ok (by decide)]
  exact hT k hk
/-! the pile of a rule's numbers -/
def Pl (st : List Int32) (h : ev_H) : Prop := ∀ j y, st.reverse[j]? = some y → hI h aPile j = y
theorem Pl.nil {h : ev_H} : Pl [] h := fun j y e => by simp at e
theorem Pl.push {st : List Int32} {h : ev_H} (hp : Pl st h) (v : Int32) : Pl (v :: st) (sI h aPile st.length v) := by
  intro j y e
  rw [List.reverse_cons] at e
  by_cases hj : j = st.length
  · subst hj
    rw [List.getElem?_append_right (by simp)] at e
    simp at e
    rw [← e]
    exact u2_self
  · have e2 : hI (sI h aPile st.length v) aPile j = hI h aPile j := u2_ne (fun z => hj z.2)
    rw [e2]
    have hlt : j < (st.reverse ++ [v]).length := (List.getElem?_eq_some_iff.mp e).1
    simp at hlt
    rw [List.getElem?_append_left (by simp; omega)] at e
    exact hp j y e
theorem Pl.top {st : List Int32} {h : ev_H} (hp : Pl st h) (h0 : 0 < st.length) : hI h aPile (st.length - 1) = st.headD 0 := by
  cases st with
  | nil => simp at h0
  | cons y r => exact hp _ y (by simp)
theorem Pl.tail {y : Int32} {r : List Int32} {h : ev_H} (hp : Pl (y :: r) h) : Pl r h := by
  intro j z e
  refine hp j z ?_
  rw [List.reverse_cons, List.getElem?_append_left (List.getElem?_eq_some_iff.mp e).1]
  exact e
theorem Pl.snd {st : List Int32} {h : ev_H} (hp : Pl st h) (h0 : 1 < st.length) : hI h aPile (st.length - 1 - 1) = st.tail.headD 0 := by
  cases st with
  | nil => simp at h0
  | cons y r =>
    have h1 : 0 < r.length := by simp at h0; omega
    exact hp.tail.top h1
theorem Pl.set {st : List Int32} {h : ev_H} (hp : Pl st h) (h0 : 0 < st.length) (v : Int32) : Pl (v :: st.tail) (sI h aPile (st.length - 1) v) := by
  cases st with
  | nil => simp at h0
  | cons y r => exact hp.tail.push v
theorem Pl.two {st : List Int32} {h : ev_H} (hp : Pl st h) (h0 : 1 < st.length) (v : Int32) : Pl (v :: st.tail.tail) (sI h aPile (st.length - 1 - 1) v) := by
  cases st with
  | nil => simp at h0
  | cons y r =>
    have h1 : 0 < r.length := by simp at h0; omega
    exact hp.tail.set h1 v
theorem rpn1_not {q : Nat → Int32} {c : Int32 × Int32} {st : List Int32} (e : c.1 = nI 126) (h0 : 0 < st.length) : rpn1 q c st = (if st.headD 0 = 0 then 1 else 0) :: st.tail := by
  cases st with
  | nil => simp at h0
  | cons y r => unfold rpn1; rw [if_pos e]; rfl
theorem rpn1_let {q : Nat → Int32} {c : Int32 × Int32} {st : List Int32} (e : ¬ c.1 = nI 126) (e2 : isLetV c.1 = true) : rpn1 q c st = askV q c.1 c.2 :: st := by
  unfold rpn1; rw [if_neg e, if_pos e2]
theorem rpn1_two {q : Nat → Int32} {c : Int32 × Int32} {st : List Int32} (e : ¬ c.1 = nI 126) (e2 : isLetV c.1 = false) (h0 : 1 < st.length) : rpn1 q c st = twoV c.1 (st.tail.headD 0) (st.headD 0) :: st.tail.tail := by
  match st, h0 with
  | y :: z :: r, _ => unfold rpn1; rw [if_neg e, if_neg (by rw [e2]; decide)]; rfl
theorem rpnH_not {c : Int32 × Int32} {r : List (Int32 × Int32)} {n m : Nat} (e : c.1 = nI 126) (hh : rpnH (c :: r) n = some m) : 0 < n ∧ rpnH r n = some m := by
  unfold rpnH at hh
  rw [if_pos e] at hh
  split at hh
  · cases hh
  · exact ⟨by omega, hh⟩
theorem rpnH_let {c : Int32 × Int32} {r : List (Int32 × Int32)} {n m : Nat} (e : ¬ c.1 = nI 126) (e2 : isLetV c.1 = true) (hh : rpnH (c :: r) n = some m) : n < 60 ∧ rpnH r (n + 1) = some m := by
  unfold rpnH at hh
  rw [if_neg e, if_pos e2] at hh
  split at hh
  · exact ⟨by assumption, hh⟩
  · cases hh
theorem rpnH_two {c : Int32 × Int32} {r : List (Int32 × Int32)} {n m : Nat} (e : ¬ c.1 = nI 126) (e2 : isLetV c.1 = false) (hh : rpnH (c :: r) n = some m) : 1 < n ∧ rpnH r (n - 1) = some m := by
  unfold rpnH at hh
  rw [if_neg e, if_neg (by rw [e2]; decide)] at hh
  split at hh
  · cases hh
  · exact ⟨by omega, hh⟩
