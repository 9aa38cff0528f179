/-! ===== the book in the making (bank r) ===== -/
set_option maxRecDepth 100000
/-- what the reader may write for bank r -/
def okw (r a j : Nat) : Bool := if a = aM then [4, 5, 6, 7, 8, 9, 35, 36, 37, 38].contains j else if a = aEWhat ∨ a = aESign then true else if a = aPeople ∨ a = aSacks ∨ a = aThings ∨ a = aUnits ∨ a = aSneeze ∨ a = aDraw ∨ a = aTold ∨ a = aRuleFrom ∨ a = aRuleTo then decide (j = r) else if a = aShy then decide (6 * r ≤ j ∧ j < 6 * r + 6) else if a = aFrom ∨ a = aWhom ∨ a = aHot ∨ a = aInSack then decide (10 * r ≤ j ∧ j < 10 * r + 10) else if a = aCode ∨ a = aCodeNumber then decide (560 * r ≤ j ∧ j < 560 * r + 560) else false
def Fb (r : Nat) (h h1 : ev_H) : Prop := hN h1 = hN h ∧ hK h1 = hK h ∧ hL h1 = hL h ∧ hR h1 = hR h ∧ (∀ a k, a ∉ [aM, aPName, aSName, aTName] → hJ h1 a k = hJ h a k) ∧ ∀ a j, okw r a j = false → hI h1 a j = hI h a j
section FB
variable {r : Nat} {h h1 h2 : ev_H}
theorem Fb.rf : Fb r h h := ⟨rfl, rfl, rfl, rfl, fun _ _ _ => rfl, fun _ _ _ => rfl⟩
theorem Fb.tr (p : Fb r h h1) (q : Fb r h1 h2) : Fb r h h2 := ⟨q.1.trans p.1, q.2.1.trans p.2.1, q.2.2.1.trans p.2.2.1, q.2.2.2.1.trans p.2.2.2.1, fun a k x => (q.2.2.2.2.1 a k x).trans (p.2.2.2.2.1 a k x), fun a k x => (q.2.2.2.2.2 a k x).trans (p.2.2.2.2.2 a k x)⟩
theorem Fb.of (p : Fj [] [4, 5, 6, 7, 8, 9] [aM] h h1) : Fb r h h1 := ⟨p.1, p.2.1, p.2.2.1, p.2.2.2.1, fun a k x => p.2.2.2.2.1 a k (fun z => x (by simp at z; rw [z]; decide)), fun a k x => p.2.2.2.2.2 a k (by simp) (fun e z => by
  subst e
  simp at z
  rcases z with z | z | z | z | z | z
  all_goals rw [z] at x; exact absurd x (show ¬ true = false by decide))⟩
theorem Fb.sI (p : Fb r h h1) (a j : Nat) (v : Int32) (ok : okw r a j = true) : Fb r h (sI h1 a j v) := p.tr ⟨rfl, rfl, rfl, rfl, fun _ _ _ => rfl, fun b k x => u2_ne (fun z => by rw [z.1, z.2, ok] at x; cases x)⟩
theorem Fb.sJ (p : Fb r h h1) (a j : Nat) (v : Int64) (ok : a ∈ [aM, aPName, aSName, aTName]) : Fb r h (sJ h1 a j v) := p.tr ⟨rfl, rfl, rfl, rfl, fun b k x => u2_ne (fun z => x (by rw [z.1]; exact ok)), fun _ _ _ => rfl⟩
theorem Fb.lay (p : Fb r h h1) (hl : MLay h) : MLay h1 := by
  unfold MLay
  rw [p.2.1, p.2.2.1, p.2.2.2.1]
  exact hl
end FB
theorem MB.fb {b : Bk} {k r : Nat} {h h1 : ev_H} (hm : MB b k h) (p : Fb r h h1) (hr : r ≠ k) : MB b k h1 := by
  obtain ⟨g1, g2, g3, g4, ⟨g5, g6, g7⟩, ⟨g8, g9, g10⟩, g11, g12, g13, g14⟩ := hm
  have e := p.2.2.2.2.2
  have hk : k ≠ r := fun z => hr z.symm
  refine ⟨p.lay g1, g2, g3, by rw [e aM 33 rfl]; exact g4, ⟨by rw [e aPeople k (decide_eq_false hk)]; exact g5, by rw [e aSacks k (decide_eq_false hk)]; exact g6, by rw [e aThings k (decide_eq_false hk)]; exact g7⟩, ⟨by rw [e aUnits k (decide_eq_false hk)]; exact g8, by rw [e aSneeze k (decide_eq_false hk)]; exact g9, by rw [e aDraw k (decide_eq_false hk)]; exact g10⟩, fun q hq => ?_, fun t ht => ?_, by rw [e aTold k (decide_eq_false hk)]; exact g13, fun c hc => ?_⟩
  · have := g2.1
    rw [e aShy (6 * k + q) (show decide (6 * r ≤ 6 * k + q ∧ 6 * k + q < 6 * r + 6) = false from decide_eq_false (by omega))]
    exact g11 q hq
  · have := g2.2.2.1
    rw [e aFrom (10 * k + t) (show decide (10 * r ≤ 10 * k + t ∧ 10 * k + t < 10 * r + 10) = false from decide_eq_false (by omega)), e aWhom (10 * k + t) (show decide (10 * r ≤ 10 * k + t ∧ 10 * k + t < 10 * r + 10) = false from decide_eq_false (by omega)), e aHot (10 * k + t) (show decide (10 * r ≤ 10 * k + t ∧ 10 * k + t < 10 * r + 10) = false from decide_eq_false (by omega)), e aInSack (10 * k + t) (show decide (10 * r ≤ 10 * k + t ∧ 10 * k + t < 10 * r + 10) = false from decide_eq_false (by omega))]
    exact g12 t ht
  · obtain ⟨r0, f1, f2, f3, f4⟩ := g14 c hc
    refine ⟨r0, by rw [e aRuleFrom k (decide_eq_false hk)]; exact f1, by rw [e aRuleTo k (decide_eq_false hk)]; exact f2, f3, fun i q hi => ?_⟩
    have hil : i < c.length := (List.getElem?_eq_some_iff.mp hi).1
    rw [e aCode (r0 + i) (show decide (560 * r ≤ r0 + i ∧ r0 + i < 560 * r + 560) = false from decide_eq_false (by omega)), e aCodeNumber (r0 + i) (show decide (560 * r ≤ r0 + i ∧ r0 + i < 560 * r + 560) = false from decide_eq_false (by omega))]
    exact f4 i q hi
/-- how long its rule is -/
def cl (b : Bk) : Nat := match bRu b with
  | some c => c.length
  | none => 0
/-- people, sacks, things with their names -/
def MNa (b : Bk) (nm : Nat → Nat → Int64) (r : Nat) (h : ev_H) : Prop := hI h aM 34 = nI r ∧ (hI h aPeople r = nI (nP b) ∧ hI h aSacks r = nI (nS b) ∧ hI h aThings r = nI (nT b)) ∧ (hI h aSneeze r = nI (bSn b) ∧ hI h aDraw r = nI (bDr b)) ∧
  (∀ p, p < nP b → hI h aShy (6 * r + p) = nI (bSh b p)) ∧ (∀ t, t < nT b → hI h aFrom (10 * r + t) = nI (bBy b t) ∧ hI h aWhom (10 * r + t) = nI (bTo b t) ∧ hI h aHot (10 * r + t) = nI (bHo b t) ∧ hI h aInSack (10 * r + t) = bIn b t) ∧
  (∀ p, p < nP b → hJ h aPName (6 * r + p) = nm 0 p) ∧ (∀ p, p < nS b → hJ h aSName (5 * r + p) = nm 1 p) ∧ ∀ p, p < nT b → hJ h aTName (10 * r + p) = nm 2 p
/-- what is told, units, the rule -/
def MNb (b : Bk) (to r : Nat) (h : ev_H) : Prop := hI h aUnits r = nI (bUn b) ∧ hI h aTold r = nI to ∧ to < 8 ∧ tb (nI to) 0 = (bRu b).isSome ∧ hI h aM 35 = nI (560 * r + cl b) ∧ cl b ≤ 560 ∧ ∀ c, bRu b = some c → hI h aRuleFrom r = nI (560 * r) ∧ hI h aRuleTo r = nI (560 * r + c.length) ∧ ∀ i q, c[i]? = some q → hI h aCode (560 * r + i) = q.1 ∧ hI h aCodeNumber (560 * r + i) = q.2
def MN (b : Bk) (nm : Nat → Nat → Int64) (to r : Nat) (h : ev_H) : Prop := BW b ∧ r < 2 ∧ MNa b nm r h ∧ MNb b to r h
/-- the cells these speak of -/
def rgA (b : Bk) (r a j : Nat) : Bool := if a = aM then decide (j = 34) else if a = aPeople ∨ a = aSacks ∨ a = aThings ∨ a = aSneeze ∨ a = aDraw then decide (j = r) else if a = aShy then decide (j < 6 * r + nP b) else if a = aFrom ∨ a = aWhom ∨ a = aHot ∨ a = aInSack then decide (j < 10 * r + nT b) else false
def rgB (b : Bk) (r a j : Nat) : Bool := if a = aM then decide (j = 35) else if a = aUnits ∨ a = aTold ∨ a = aRuleFrom ∨ a = aRuleTo then decide (j = r) else if a = aCode ∨ a = aCodeNumber then decide (j < 560 * r + cl b) else false
def rgJ (b : Bk) (r a j : Nat) : Bool := if a = aPName then decide (j < 6 * r + nP b) else if a = aSName then decide (j < 5 * r + nS b) else if a = aTName then decide (j < 10 * r + nT b) else false
section MNS
variable {b : Bk} {nm : Nat → Nat → Int64} {to r : Nat} {h h1 : ev_H}
theorem MNa.ag (hm : MNa b nm r h) (e : ∀ a j, rgA b r a j = true → hI h1 a j = hI h a j) (f : ∀ a j, rgJ b r a j = true → hJ h1 a j = hJ h a j) : MNa b nm r h1 := by
  obtain ⟨g1, ⟨g2, g3, g4⟩, ⟨g5, g6⟩, g7, g8, g9, g10, g11⟩ := hm
  refine ⟨by rw [e aM 34 rfl]; exact g1, ⟨by rw [e aPeople r (decide_eq_true rfl)]; exact g2, by rw [e aSacks r (decide_eq_true rfl)]; exact g3, by rw [e aThings r (decide_eq_true rfl)]; exact g4⟩, ⟨by rw [e aSneeze r (decide_eq_true rfl)]; exact g5, by rw [e aDraw r (decide_eq_true rfl)]; exact g6⟩, fun p hp => ?_, fun t ht => ?_, fun p hp => ?_, fun p hp => ?_, fun p hp => ?_⟩
  · rw [e aShy (6 * r + p) (show decide (6 * r + p < 6 * r + nP b) = true from decide_eq_true (by omega))]; exact g7 p hp
  · rw [e aFrom (10 * r + t) (show decide (10 * r + t < 10 * r + nT b) = true from decide_eq_true (by omega)), e aWhom (10 * r + t) (show decide (10 * r + t < 10 * r + nT b) = true from decide_eq_true (by omega)), e aHot (10 * r + t) (show decide (10 * r + t < 10 * r + nT b) = true from decide_eq_true (by omega)), e aInSack (10 * r + t) (show decide (10 * r + t < 10 * r + nT b) = true from decide_eq_true (by omega))]; exact g8 t ht
  · rw [f aPName (6 * r + p) (show decide (6 * r + p < 6 * r + nP b) = true from decide_eq_true (by omega))]; exact g9 p hp
  · rw [f aSName (5 * r + p) (show decide (5 * r + p < 5 * r + nS b) = true from decide_eq_true (by omega))]; exact g10 p hp
  · rw [f aTName (10 * r + p) (show decide (10 * r + p < 10 * r + nT b) = true from decide_eq_true (by omega))]; exact g11 p hp
theorem MNb.ag (hm : MNb b to r h) (e : ∀ a j, rgB b r a j = true → hI h1 a j = hI h a j) : MNb b to r h1 := by
  obtain ⟨g1, g2, g3, g4, g5, g6, g7⟩ := hm
  refine ⟨by rw [e aUnits r (decide_eq_true rfl)]; exact g1, by rw [e aTold r (decide_eq_true rfl)]; exact g2, g3, g4, by rw [e aM 35 rfl]; exact g5, g6, fun c hc => ?_⟩
  obtain ⟨f1, f2, f3⟩ := g7 c hc
  have hcl : cl b = c.length := by unfold cl; rw [hc]
  refine ⟨by rw [e aRuleFrom r (decide_eq_true rfl)]; exact f1, by rw [e aRuleTo r (decide_eq_true rfl)]; exact f2, fun i q hi => ?_⟩
  have hil : i < c.length := (List.getElem?_eq_some_iff.mp hi).1
  rw [e aCode (560 * r + i) (show decide (560 * r + i < 560 * r + cl b) = true from decide_eq_true (by omega)), e aCodeNumber (560 * r + i) (show decide (560 * r + i < 560 * r + cl b) = true from decide_eq_true (by omega))]
  exact f3 i q hi
theorem MNa.fj (hm : MNa b nm r h) {as fs ja : List Nat} (p : Fj as fs ja h h1) (oa : as = []) (o1 : 34 ∉ fs) (oj : ja = [aM]) : MNa b nm r h1 := by
  subst oa oj
  refine hm.ag (fun a j x => p.2.2.2.2.2 a j (by simp) (fun e z => ?_)) (fun a j x => p.2.2.2.2.1 a j (fun z => ?_))
  · subst e
    have x : decide (j = 34) = true := x
    have x : j = 34 := of_decide_eq_true x
    exact o1 (x ▸ z)
  · simp at z
    subst z
    exact absurd x (show ¬ false = true by decide)
theorem MNb.fj (hm : MNb b to r h) {as fs ja : List Nat} (p : Fj as fs ja h h1) (oa : as = []) (o1 : 35 ∉ fs) : MNb b to r h1 := by
  subst oa
  refine hm.ag (fun a j x => p.2.2.2.2.2 a j (by simp) (fun e z => ?_))
  subst e
  have x : decide (j = 35) = true := x
  have x : j = 35 := of_decide_eq_true x
  exact o1 (x ▸ z)
theorem MNa.wI (hm : MNa b nm r h) (a j : Nat) (v : Int32) (ok : rgA b r a j = false) : MNa b nm r (sI h a j v) := hm.ag (fun c k x => u2_ne (fun z => by rw [z.1, z.2, ok] at x; cases x)) (fun _ _ _ => rfl)
theorem MNa.wJ (hm : MNa b nm r h) (a j : Nat) (v : Int64) (ok : rgJ b r a j = false) : MNa b nm r (sJ h a j v) := hm.ag (fun _ _ _ => rfl) (fun c k x => u2_ne (fun z => by rw [z.1, z.2, ok] at x; cases x))
theorem MNb.wI (hm : MNb b to r h) (a j : Nat) (v : Int32) (ok : rgB b r a j = false) : MNb b to r (sI h a j v) := hm.ag (fun c k x => u2_ne (fun z => by rw [z.1, z.2, ok] at x; cases x))
theorem MNb.wJ (hm : MNb b to r h) (a j : Nat) (v : Int64) : MNb b to r (sJ h a j v) := hm.ag (fun _ _ _ => rfl)
theorem MN.fj (hm : MN b nm to r h) (p : Fj [] [4, 5, 6, 7, 8, 9] [aM] h h1) : MN b nm to r h1 := ⟨hm.1, hm.2.1, hm.2.2.1.fj p rfl (by decide) rfl, hm.2.2.2.fj p rfl (by decide)⟩
theorem MN.wI (hm : MN b nm to r h) (a j : Nat) (v : Int32) (ok : (rgA b r a j || rgB b r a j) = false) : MN b nm to r (sI h a j v) := ⟨hm.1, hm.2.1, hm.2.2.1.wI a j v (by simp at ok; exact ok.1), hm.2.2.2.wI a j v (by simp at ok; exact ok.2)⟩
theorem MN.wJ (hm : MN b nm to r h) (a j : Nat) (v : Int64) (ok : rgJ b r a j = false) : MN b nm to r (sJ h a j v) := ⟨hm.1, hm.2.1, hm.2.2.1.wJ a j v ok, hm.2.2.2.wJ a j v⟩
theorem MN.rb (hm : MN b nm to r h) : hI h aM 34 = nI r := hm.2.2.1.1
theorem MN.pe (hm : MN b nm to r h) : hI h aPeople r = nI (nP b) := hm.2.2.1.2.1.1
theorem MN.sa (hm : MN b nm to r h) : hI h aSacks r = nI (nS b) := hm.2.2.1.2.1.2.1
theorem MN.th (hm : MN b nm to r h) : hI h aThings r = nI (nT b) := hm.2.2.1.2.1.2.2
theorem MN.tl (hm : MN b nm to r h) : hI h aTold r = nI to := hm.2.2.2.2.1
end MNS
/-! making it -/
def bkN (b : Bk) (i j v : Nat) : Nat → Nat → Nat := fun x y => if x = i ∧ y = j then v else b.2.2.2.1 x y
def addP (b : Bk) (v : Nat) : Bk := (nP b + 1, nS b, nT b, bkN b 0 (nP b) v, b.2.2.2.2.1, bRu b)
def addS (b : Bk) : Bk := (nP b, nS b + 1, nT b, b.2.2.2.1, b.2.2.2.2.1, bRu b)
def addT (b : Bk) (f w ho : Nat) (i : Int32) : Bk := (nP b, nS b, nT b + 1, (fun x y => if y = nT b ∧ x = 1 then f else if y = nT b ∧ x = 2 then w else if y = nT b ∧ x = 3 then ho else b.2.2.2.1 x y), (fun y => if y = nT b then i else b.2.2.2.2.1 y), bRu b)
def setN (b : Bk) (i v : Nat) : Bk := (nP b, nS b, nT b, bkN b 4 i v, b.2.2.2.2.1, bRu b)
def setRu (b : Bk) (u : Nat) (c : List (Int32 × Int32)) : Bk := (nP b, nS b, nT b, bkN b 4 2 u, b.2.2.2.2.1, some c)
def adNm (nm : Nat → Nat → Int64) (i j : Nat) (v : Int64) : Nat → Nat → Int64 := fun x y => if x = i ∧ y = j then v else nm x y
section MKS
variable {b : Bk} {nm : Nat → Nat → Int64} {to r v : Nat} {h : ev_H} {x : Int64}
theorem BW.adP (hb : BW b) (h6 : nP b < 6) (hv : v ≤ 9) : BW (addP b v) := by
  obtain ⟨g1, g2, g3, g4, g5, g6, g7, g8, g9⟩ := hb
  refine ⟨by show nP b + 1 ≤ 6; omega, g2, g3, fun t ht => ?_, fun p hp => ?_, g6, g7, g8, g9⟩
  · obtain ⟨a1, a2, a3, a4, a5, a6⟩ := g4 t ht
    exact ⟨by show _ < nP b + 1; exact Nat.lt_succ_of_lt a1, by show _ < nP b + 1; exact Nat.lt_succ_of_lt a2, a3, a4, a5, a6⟩
  · show (if 0 = 0 ∧ p = nP b then v else bSh b p) ≤ 9
    split
    · exact hv
    · exact g5 p (by have : p < nP b + 1 := hp; omega)
theorem MN.adP (hm : MN b nm to r h) (h6 : nP b < 6) (hv : v ≤ 9) (en : hJ h aPName (6 * r + nP b) = x) (es : hI h aShy (6 * r + nP b) = nI v) : MN (addP b v) (adNm nm 0 (nP b) x) to r (sI h aPeople r (nI (nP b + 1))) := by
  obtain ⟨hb, hr, ⟨g1, ⟨g2, g3, g4⟩, ⟨g5, g6⟩, g7, g8, g9, g10, g11⟩, g12⟩ := hm
  refine ⟨hb.adP h6 hv, hr, ⟨g1, ⟨by show u2 _ _ _ _ _ _ = _; rw [u2_self]; rfl, g3, g4⟩, ⟨g5, g6⟩, fun p hp => ?_, g8, fun p hp => ?_, g10, g11⟩, g12.wI aPeople r _ rfl⟩
  · have hp : p < nP b + 1 := hp
    show hI h aShy (6 * r + p) = nI (if 0 = 0 ∧ p = nP b then v else bSh b p)
    by_cases e : p = nP b
    · rw [if_pos ⟨rfl, e⟩, e]; exact es
    · rw [if_neg (fun z => e z.2)]; exact g7 p (by omega)
  · have hp : p < nP b + 1 := hp
    show hJ h aPName (6 * r + p) = (if 0 = 0 ∧ p = nP b then x else nm 0 p)
    by_cases e : p = nP b
    · rw [if_pos ⟨rfl, e⟩, e]; exact en
    · rw [if_neg (fun z => e z.2)]; exact g9 p (by omega)
theorem BW.adS (hb : BW b) (h5 : nS b < 5) : BW (addS b) := by
  obtain ⟨g1, g2, g3, g4, g5, g6, g7, g8, g9⟩ := hb
  refine ⟨g1, by show nS b + 1 ≤ 5; omega, g3, fun t ht => ?_, g5, g6, g7, g8, g9⟩
  obtain ⟨a1, a2, a3, a4, a5, a6⟩ := g4 t ht
  refine ⟨a1, a2, a3, a4, a5, ?_⟩
  rcases a6 with z | ⟨s, z1, z2⟩
  · exact Or.inl z
  · exact Or.inr ⟨s, by show s < nS b + 1; omega, z2⟩
theorem MN.adS (hm : MN b nm to r h) (h5 : nS b < 5) (en : hJ h aSName (5 * r + nS b) = x) : MN (addS b) (adNm nm 1 (nS b) x) to r (sI h aSacks r (nI (nS b + 1))) := by
  obtain ⟨hb, hr, ⟨g1, ⟨g2, g3, g4⟩, ⟨g5, g6⟩, g7, g8, g9, g10, g11⟩, g12⟩ := hm
  refine ⟨hb.adS h5, hr, ⟨g1, ⟨g2, by show u2 _ _ _ _ _ _ = _; rw [u2_self]; rfl, g4⟩, ⟨g5, g6⟩, g7, g8, g9, fun p hp => ?_, g11⟩, g12.wI aSacks r _ rfl⟩
  have hp : p < nS b + 1 := hp
  show hJ h aSName (5 * r + p) = (if 1 = 1 ∧ p = nS b then x else nm 1 p)
  by_cases e : p = nS b
  · rw [if_pos ⟨rfl, e⟩, e]; exact en
  · rw [if_neg (fun z => e z.2)]; exact g10 p (by omega)
theorem BW.adT (hb : BW b) {f w ho : Nat} {i : Int32} (h10 : nT b < 10) (hf : f < nP b) (hw : w < nP b) (hfw : f ≠ w) (h1 : 1 ≤ ho) (h9 : ho ≤ 9) (hi : i = -1 ∨ ∃ s, s < nS b ∧ i = nI s) : BW (addT b f w ho i) := by
  obtain ⟨g1, g2, g3, g4, g5, g6, g7, g8, g9⟩ := hb
  refine ⟨g1, g2, by show nT b + 1 ≤ 10; omega, fun t ht => ?_, fun p hp => ?_, ?_, ?_, ?_, g9⟩
  · have ht : t < nT b + 1 := ht
    by_cases e : t = nT b
    · subst e
      refine ⟨?_, ?_, ?_, ?_, ?_, ?_⟩
      · show (if nT b = nT b ∧ 1 = 1 then f else _) < nP b
        rw [if_pos ⟨rfl, rfl⟩]; exact hf
      · show (if nT b = nT b ∧ 2 = 1 then f else if nT b = nT b ∧ 2 = 2 then w else _) < nP b
        rw [if_neg (by simp), if_pos ⟨rfl, rfl⟩]; exact hw
      · show (if nT b = nT b ∧ 1 = 1 then f else _) ≠ (if nT b = nT b ∧ 2 = 1 then f else if nT b = nT b ∧ 2 = 2 then w else _)
        rw [if_pos ⟨rfl, rfl⟩, if_neg (by simp), if_pos ⟨rfl, rfl⟩]; exact hfw
      · show 1 ≤ (if nT b = nT b ∧ 3 = 1 then f else if nT b = nT b ∧ 3 = 2 then w else if nT b = nT b ∧ 3 = 3 then ho else _)
        rw [if_neg (by simp), if_neg (by simp), if_pos ⟨rfl, rfl⟩]; exact h1
      · show (if nT b = nT b ∧ 3 = 1 then f else if nT b = nT b ∧ 3 = 2 then w else if nT b = nT b ∧ 3 = 3 then ho else _) ≤ 9
        rw [if_neg (by simp), if_neg (by simp), if_pos ⟨rfl, rfl⟩]; exact h9
      · show (if nT b = nT b then i else _) = -1 ∨ ∃ s, s < nS b ∧ (if nT b = nT b then i else _) = nI s
        rw [if_pos rfl]; exact hi
    · obtain ⟨a1, a2, a3, a4, a5, a6⟩ := g4 t (by omega)
      have e1 : bBy (addT b f w ho i) t = bBy b t := by
        show (if t = nT b ∧ 1 = 1 then f else if t = nT b ∧ 1 = 2 then w else if t = nT b ∧ 1 = 3 then ho else bBy b t) = _
        rw [if_neg (fun z => e z.1), if_neg (fun z => e z.1), if_neg (fun z => e z.1)]
      have e2 : bTo (addT b f w ho i) t = bTo b t := by
        show (if t = nT b ∧ 2 = 1 then f else if t = nT b ∧ 2 = 2 then w else if t = nT b ∧ 2 = 3 then ho else bTo b t) = _
        rw [if_neg (fun z => e z.1), if_neg (fun z => e z.1), if_neg (fun z => e z.1)]
      have e3 : bHo (addT b f w ho i) t = bHo b t := by
        show (if t = nT b ∧ 3 = 1 then f else if t = nT b ∧ 3 = 2 then w else if t = nT b ∧ 3 = 3 then ho else bHo b t) = _
        rw [if_neg (fun z => e z.1), if_neg (fun z => e z.1), if_neg (fun z => e z.1)]
      have e4 : bIn (addT b f w ho i) t = bIn b t := by
        show (if t = nT b then i else bIn b t) = _
        rw [if_neg e]
      rw [e1, e2, e3, e4]
      exact ⟨a1, a2, a3, a4, a5, a6⟩
  · show (if p = nT b ∧ 0 = 1 then f else if p = nT b ∧ 0 = 2 then w else if p = nT b ∧ 0 = 3 then ho else bSh b p) ≤ 9
    rw [if_neg (by simp), if_neg (by simp), if_neg (by simp)]; exact g5 p hp
  · show (if 0 = nT b ∧ 4 = 1 then f else if 0 = nT b ∧ 4 = 2 then w else if 0 = nT b ∧ 4 = 3 then ho else bSn b) ≤ 100
    rw [if_neg (by simp), if_neg (by simp), if_neg (by simp)]; exact g6
  · show (if 1 = nT b ∧ 4 = 1 then f else if 1 = nT b ∧ 4 = 2 then w else if 1 = nT b ∧ 4 = 3 then ho else bDr b) ≤ 999
    rw [if_neg (by simp), if_neg (by simp), if_neg (by simp)]; exact g7
  · show (if 2 = nT b ∧ 4 = 1 then f else if 2 = nT b ∧ 4 = 2 then w else if 2 = nT b ∧ 4 = 3 then ho else bUn b) ≤ 60
    rw [if_neg (by simp), if_neg (by simp), if_neg (by simp)]; exact g8
theorem adT_by {f w ho : Nat} {i : Int32} {t : Nat} (e : t ≠ nT b) : bBy (addT b f w ho i) t = bBy b t ∧ bTo (addT b f w ho i) t = bTo b t ∧ bHo (addT b f w ho i) t = bHo b t ∧ bIn (addT b f w ho i) t = bIn b t := by
  refine ⟨?_, ?_, ?_, ?_⟩
  · show (if t = nT b ∧ 1 = 1 then f else if t = nT b ∧ 1 = 2 then w else if t = nT b ∧ 1 = 3 then ho else bBy b t) = _
    rw [if_neg (fun z => e z.1), if_neg (fun z => e z.1), if_neg (fun z => e z.1)]
  · show (if t = nT b ∧ 2 = 1 then f else if t = nT b ∧ 2 = 2 then w else if t = nT b ∧ 2 = 3 then ho else bTo b t) = _
    rw [if_neg (fun z => e z.1), if_neg (fun z => e z.1), if_neg (fun z => e z.1)]
  · show (if t = nT b ∧ 3 = 1 then f else if t = nT b ∧ 3 = 2 then w else if t = nT b ∧ 3 = 3 then ho else bHo b t) = _
    rw [if_neg (fun z => e z.1), if_neg (fun z => e z.1), if_neg (fun z => e z.1)]
  · show (if t = nT b then i else bIn b t) = _
    rw [if_neg e]
theorem adT_at {f w ho : Nat} {i : Int32} : bBy (addT b f w ho i) (nT b) = f ∧ bTo (addT b f w ho i) (nT b) = w ∧ bHo (addT b f w ho i) (nT b) = ho ∧ bIn (addT b f w ho i) (nT b) = i := by
  refine ⟨?_, ?_, ?_, ?_⟩
  · show (if nT b = nT b ∧ 1 = 1 then f else _) = f
    rw [if_pos ⟨rfl, rfl⟩]
  · show (if nT b = nT b ∧ 2 = 1 then f else if nT b = nT b ∧ 2 = 2 then w else _) = w
    rw [if_neg (by simp), if_pos ⟨rfl, rfl⟩]
  · show (if nT b = nT b ∧ 3 = 1 then f else if nT b = nT b ∧ 3 = 2 then w else if nT b = nT b ∧ 3 = 3 then ho else _) = ho
    rw [if_neg (by simp), if_neg (by simp), if_pos ⟨rfl, rfl⟩]
  · show (if nT b = nT b then i else _) = i
    rw [if_pos rfl]
theorem adT_nt {f w ho : Nat} {i : Int32} : bSn (addT b f w ho i) = bSn b ∧ bDr (addT b f w ho i) = bDr b ∧ bUn (addT b f w ho i) = bUn b ∧ ∀ p, bSh (addT b f w ho i) p = bSh b p := by
  refine ⟨?_, ?_, ?_, fun p => ?_⟩
  · show (if 0 = nT b ∧ 4 = 1 then f else if 0 = nT b ∧ 4 = 2 then w else if 0 = nT b ∧ 4 = 3 then ho else bSn b) = _
    rw [if_neg (by simp), if_neg (by simp), if_neg (by simp)]
  · show (if 1 = nT b ∧ 4 = 1 then f else if 1 = nT b ∧ 4 = 2 then w else if 1 = nT b ∧ 4 = 3 then ho else bDr b) = _
    rw [if_neg (by simp), if_neg (by simp), if_neg (by simp)]
  · show (if 2 = nT b ∧ 4 = 1 then f else if 2 = nT b ∧ 4 = 2 then w else if 2 = nT b ∧ 4 = 3 then ho else bUn b) = _
    rw [if_neg (by simp), if_neg (by simp), if_neg (by simp)]
  · show (if p = nT b ∧ 0 = 1 then f else if p = nT b ∧ 0 = 2 then w else if p = nT b ∧ 0 = 3 then ho else bSh b p) = _
    rw [if_neg (by simp), if_neg (by simp), if_neg (by simp)]
theorem MN.adT {f w ho : Nat} {i : Int32} (hm : MN b nm to r h) (hB : BW (addT b f w ho i)) (en : hJ h aTName (10 * r + nT b) = x) (e1 : hI h aFrom (10 * r + nT b) = nI f) (e2 : hI h aWhom (10 * r + nT b) = nI w) (e3 : hI h aHot (10 * r + nT b) = nI ho) (e4 : hI h aInSack (10 * r + nT b) = i) : MN (addT b f w ho i) (adNm nm 2 (nT b) x) to r (sI h aThings r (nI (nT b + 1))) := by
  obtain ⟨hb, hr, ⟨g1, ⟨g2, g3, g4⟩, ⟨g5, g6⟩, g7, g8, g9, g10, g11⟩, g12⟩ := hm
  have nt := adT_nt (b := b) (f := f) (w := w) (ho := ho) (i := i)
  refine ⟨hB, hr, ⟨g1, ⟨g2, g3, by show u2 _ _ _ _ _ _ = _; rw [u2_self]; rfl⟩, ⟨by rw [nt.1]; exact g5, by rw [nt.2.1]; exact g6⟩, fun p hp => by rw [nt.2.2.2]; exact g7 p hp, fun t ht => ?_, g9, g10, fun p hp => ?_⟩, ?_⟩
  · have ht : t < nT b + 1 := ht
    by_cases e : t = nT b
    · subst e
      have a9 := adT_at (b := b) (f := f) (w := w) (ho := ho) (i := i)
      rw [a9.1, a9.2.1, a9.2.2.1, a9.2.2.2]
      exact ⟨e1, e2, e3, e4⟩
    · have a9 := adT_by (b := b) (f := f) (w := w) (ho := ho) (i := i) e
      rw [a9.1, a9.2.1, a9.2.2.1, a9.2.2.2]
      exact g8 t (by omega)
  · have hp : p < nT b + 1 := hp
    show hJ h aTName (10 * r + p) = (if 2 = 2 ∧ p = nT b then x else nm 2 p)
    by_cases e : p = nT b
    · rw [if_pos ⟨rfl, e⟩, e]; exact en
    · rw [if_neg (fun z => e z.2)]; exact g11 p (by omega)
  · have g12 := g12.wI aThings r (nI (nT b + 1)) rfl
    obtain ⟨k1, k2, k3, k4, k5, k6, k7⟩ := g12
    exact ⟨by rw [nt.2.2.1]; exact k1, k2, k3, k4, k5, k6, k7⟩
theorem BW.seN {i : Nat} (hb : BW b) (h0 : i = 0 → v ≤ 100) (h1 : i = 1 → v ≤ 999) (h2 : i ≠ 2) : BW (setN b i v) := by
  obtain ⟨g1, g2, g3, g4, g5, g6, g7, g8, g9⟩ := hb
  have hx : ∀ x y, x ≠ 4 → bkN b 4 i v x y = b.2.2.2.1 x y := fun x y hx => if_neg (fun z => hx z.1)
  refine ⟨g1, g2, g3, fun t ht => ?_, fun p hp => ?_, ?_, ?_, ?_, g9⟩
  · have := g4 t ht
    show bkN b 4 i v 1 t < _ ∧ bkN b 4 i v 2 t < _ ∧ bkN b 4 i v 1 t ≠ bkN b 4 i v 2 t ∧ 1 ≤ bkN b 4 i v 3 t ∧ bkN b 4 i v 3 t ≤ 9 ∧ _
    rw [hx 1 t (by decide), hx 2 t (by decide), hx 3 t (by decide)]
    exact this
  · show bkN b 4 i v 0 p ≤ 9
    rw [hx 0 p (by decide)]; exact g5 p hp
  · show (if 4 = 4 ∧ 0 = i then v else bSn b) ≤ 100
    split
    · rename_i z; exact h0 z.2.symm
    · exact g6
  · show (if 4 = 4 ∧ 1 = i then v else bDr b) ≤ 999
    split
    · rename_i z; exact h1 z.2.symm
    · exact g7
  · show (if 4 = 4 ∧ 2 = i then v else bUn b) ≤ 60
    rw [if_neg (fun z => h2 z.2.symm)]; exact g8
/-- sneeze (0) or draw (1), told now -/
theorem MN.seN {i to2 : Nat} {a : Nat} (hi : i = 0 ∧ a = aSneeze ∨ i = 1 ∧ a = aDraw) (hm : MN b nm to r h) (hB : BW (setN b i v)) (ht8 : to2 < 8) (ht0 : tb (nI to2) 0 = tb (nI to) 0) : MN (setN b i v) nm to2 r (sI (sI h aTold r (nI to2)) a r (nI v)) := by
  obtain ⟨hb, hr, ⟨g1, ⟨g2, g3, g4⟩, ⟨g5, g6⟩, g7, g8, g9, g10, g11⟩, ⟨k1, k2, k3, k4, k5, k6, k7⟩⟩ := hm
  have hx : ∀ x y, x ≠ 4 → bkN b 4 i v x y = b.2.2.2.1 x y := fun x y hx => if_neg (fun z => hx z.1)
  have hu : bUn (setN b i v) = bUn b := by
    show (if 4 = 4 ∧ 2 = i then v else bUn b) = _
    rw [if_neg (by omega)]
  have hA : ∀ t, bBy (setN b i v) t = bBy b t ∧ bTo (setN b i v) t = bTo b t ∧ bHo (setN b i v) t = bHo b t := fun t => ⟨hx 1 t (by decide), hx 2 t (by decide), hx 3 t (by decide)⟩
  have hS : ∀ t, bSh (setN b i v) t = bSh b t := fun t => hx 0 t (by decide)
  rcases hi with ⟨rfl, rfl⟩ | ⟨rfl, rfl⟩
  · have e5 : bSn (setN b 0 v) = v := by show (if 4 = 4 ∧ 0 = 0 then v else bSn b) = v; rfl
    have e6 : bDr (setN b 0 v) = bDr b := by show (if 4 = 4 ∧ 1 = 0 then v else bDr b) = bDr b; rfl
    exact ⟨hB, hr, ⟨g1, ⟨g2, g3, g4⟩, ⟨by rw [e5]; exact u2_self, by rw [e6]; exact g6⟩, fun p hp => by rw [hS]; exact g7 p hp, fun t ht => by rw [(hA t).1, (hA t).2.1, (hA t).2.2]; exact g8 t ht, g9, g10, g11⟩, ⟨by rw [hu]; exact k1, u2_self, ht8, by rw [ht0]; exact k4, k5, k6, k7⟩⟩
  · have e5 : bSn (setN b 1 v) = bSn b := by show (if 4 = 4 ∧ 0 = 1 then v else bSn b) = bSn b; rfl
    have e6 : bDr (setN b 1 v) = v := by show (if 4 = 4 ∧ 1 = 1 then v else bDr b) = v; rfl
    exact ⟨hB, hr, ⟨g1, ⟨g2, g3, g4⟩, ⟨by rw [e5]; exact g5, by rw [e6]; exact u2_self⟩, fun p hp => by rw [hS]; exact g7 p hp, fun t ht => by rw [(hA t).1, (hA t).2.1, (hA t).2.2]; exact g8 t ht, g9, g10, g11⟩, ⟨by rw [hu]; exact k1, u2_self, ht8, by rw [ht0]; exact k4, k5, k6, k7⟩⟩
end MKS
