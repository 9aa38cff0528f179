/-! ===== the reference holds the machine ===== -/
set_option maxRecDepth 100000
def MCo (r : Nat) (c : List (Int32 × Int32)) (h : ev_H) : Prop := ∀ i q, c[i]? = some q → hI h aCode (560 * r + i) = q.1 ∧ hI h aCodeNumber (560 * r + i) = q.2
def MSt (st : List (Nat × Int32)) (h : ev_H) : Prop := ∀ j p, st.reverse[j]? = some p → hI h aEWhat j = nI p.1 ∧ hI h aESign j = p.2
def ME (tx : Nat → Int32) (n r : Nat) (e : EM) (h : ev_H) : Prop := MP tx n e.1 h ∧ r < 2 ∧ hI h aM 34 = nI r ∧ hI h aM 35 = nI (560 * r + e.2.2.2.1.length) ∧ hI h aM 36 = nI e.2.2.1 ∧ hI h aM 37 = nI e.2.1.length ∧ hI h aM 38 = nI e.2.2.2.2.2.1 ∧ hI h aUnits r = nI e.2.2.2.2.1 ∧ MCo r e.2.2.2.1 h ∧ MSt e.2.1 h
section MES
variable {tx : Nat → Int32} {n r : Nat} {e : EM} {h h1 : ev_H} {s : (Nat × Nat) × Nat} {st : List (Nat × Int32)} {w u o : Nat} {c : List (Int32 × Int32)} {B : Bool}
theorem ME.mp (m : ME tx n r e h) : MP tx n e.1 h := m.1
theorem ME.rb (m : ME tx n r e h) : hI h aM 34 = nI r := m.2.2.1
theorem ME.co (m : ME tx n r e h) : hI h aM 35 = nI (560 * r + e.2.2.2.1.length) := m.2.2.2.1
theorem ME.wi (m : ME tx n r e h) : hI h aM 36 = nI e.2.2.1 := m.2.2.2.2.1
theorem ME.pi (m : ME tx n r e h) : hI h aM 37 = nI e.2.1.length := m.2.2.2.2.2.1
theorem ME.ow (m : ME tx n r e h) : hI h aM 38 = nI e.2.2.2.2.2.1 := m.2.2.2.2.2.2.1
theorem ME.un (m : ME tx n r e h) : hI h aUnits r = nI e.2.2.2.2.1 := m.2.2.2.2.2.2.2.1
/-- the reader went on -/
theorem ME.fj (m : ME tx n r (s, st, w, c, u, o, B) h) {s2 : (Nat × Nat) × Nat} {B2 : Bool} (p : Fj [] [4, 5, 6, 7, 8, 9] [aM] h h1) (q : MP tx n s2 h1) : ME tx n r (s2, st, w, c, u, o, B2) h1 := by
  obtain ⟨g1, g2, g3, g4, g5, g6, g7, g8, g9, g10⟩ := m
  refine ⟨q, g2, (p.fld 34 (by decide) (by decide)).trans g3, (p.fld 35 (by decide) (by decide)).trans g4, (p.fld 36 (by decide) (by decide)).trans g5, (p.fld 37 (by decide) (by decide)).trans g6, (p.fld 38 (by decide) (by decide)).trans g7, (p.ar aUnits (by decide) (by decide) r).trans g8, fun i x hx => ?_, fun j x hx => ?_⟩
  · rw [p.ar aCode (by decide) (by decide), p.ar aCodeNumber (by decide) (by decide)]
    exact g9 i x hx
  · rw [p.ar aEWhat (by decide) (by decide), p.ar aESign (by decide) (by decide)]
    exact g10 j x hx
theorem MP.sA (q : MP tx n s h) (a k : Nat) (v : Int32) (h1 : a ≠ aM) (h2 : a ≠ aText) : MP tx n s (sI h a k v) := by
  have e1 : ∀ j, hI (sI h a k v) aM j = hI h aM j := fun j => u2_ne (fun z => h1 z.1.symm)
  have e2 : ∀ j, hI (sI h a k v) aText j = hI h aText j := fun j => u2_ne (fun z => h2 z.1.symm)
  obtain ⟨g1, g2, g3, g4, g5⟩ := q
  refine ⟨g1, ⟨(e1 3).trans g2.1, g2.2.1, fun k hk => by rw [e2]; exact g2.2.2 k hk⟩, g3, ?_, ⟨(e1 4).trans g5.1, fun z => (e1 5).trans (g5.2.1 z), g5.2.2⟩⟩
  exact ⟨(e1 6).trans g4.1, (e1 7).trans g4.2.1, (e1 8).trans g4.2.2.1, g4.2.2.2.1, fun z => (e1 9).trans (g4.2.2.2.2 z)⟩
theorem MP.sFd (q : MP tx n s h) (k : Nat) (v : Int32) (hk : 10 < k) : MP tx n s (sI h aM k v) := by
  have e1 : ∀ j, j ≤ 10 → hI (sI h aM k v) aM j = hI h aM j := fun j hj => u2_ne (fun z => by omega)
  have e2 : ∀ j, hI (sI h aM k v) aText j = hI h aText j := fun j => rfl
  obtain ⟨g1, g2, g3, g4, g5⟩ := q
  refine ⟨g1, ⟨(e1 3 (by decide)).trans g2.1, g2.2.1, fun k hk => by rw [e2]; exact g2.2.2 k hk⟩, g3, ?_, ⟨(e1 4 (by decide)).trans g5.1, fun z => (e1 5 (by decide)).trans (g5.2.1 z), g5.2.2⟩⟩
  exact ⟨(e1 6 (by decide)).trans g4.1, (e1 7 (by decide)).trans g4.2.1, (e1 8 (by decide)).trans g4.2.2.1, g4.2.2.2.1, fun z => (e1 9 (by decide)).trans (g4.2.2.2.2 z)⟩
theorem MP.sJA (q : MP tx n s h) (a k : Nat) (v : Int64) (h1 : a ≠ aM) : MP tx n s (sJ h a k v) := by
  obtain ⟨g1, g2, g3, g4, g5⟩ := q
  refine ⟨g1, g2, g3, ⟨g4.1, g4.2.1, g4.2.2.1, fun z => ?_, g4.2.2.2.2⟩, g5⟩
  have e1 : hJ (sJ h a k v) aM 10 = hJ h aM 10 := u2_ne (fun z => h1 z.1.symm)
  rw [e1]
  exact g4.2.2.2.1 z
theorem MCo.wI {a k : Nat} {v : Int32} (g : MCo r c h) (h1 : a ≠ aCode) (h2 : a ≠ aCodeNumber) : MCo r c (sI h a k v) := fun i q hq => by
  have e1 : ∀ j, hI (sI h a k v) aCode j = hI h aCode j := fun j => u2_ne (fun z => h1 z.1.symm)
  have e2 : ∀ j, hI (sI h a k v) aCodeNumber j = hI h aCodeNumber j := fun j => u2_ne (fun z => h2 z.1.symm)
  rw [e1, e2]
  exact g i q hq
theorem MSt.wI {a k : Nat} {v : Int32} (g : MSt st h) (h1 : a ≠ aEWhat) (h2 : a ≠ aESign) : MSt st (sI h a k v) := fun i q hq => by
  have e1 : ∀ j, hI (sI h a k v) aEWhat j = hI h aEWhat j := fun j => u2_ne (fun z => h1 z.1.symm)
  have e2 : ∀ j, hI (sI h a k v) aESign j = hI h aESign j := fun j => u2_ne (fun z => h2 z.1.symm)
  rw [e1, e2]
  exact g i q hq
theorem ME.setU (m : ME tx n r (s, st, w, c, u, o, B) h) (v : Nat) : ME tx n r (s, st, w, c, v, o, B) (sI h aUnits r (nI v)) := by
  obtain ⟨g1, g2, g3, g4, g5, g6, g7, g8, g9, g10⟩ := m
  exact ⟨g1.sA aUnits r _ (by decide) (by decide), g2, g3, g4, g5, g6, g7, u2_self, g9.wI (by decide) (by decide), g10.wI (by decide) (by decide)⟩
theorem ME.setO (m : ME tx n r (s, st, w, c, u, o, B) h) (v : Nat) : ME tx n r (s, st, w, c, u, v, B) (sI h aM 38 (nI v)) := by
  obtain ⟨g1, g2, g3, g4, g5, g6, g7, g8, g9, g10⟩ := m
  exact ⟨g1.sFd 38 _ (by decide), g2, g3, g4, g5, g6, rfl, g8, g9.wI (by decide) (by decide), g10.wI (by decide) (by decide)⟩
theorem ME.setW (m : ME tx n r (s, st, w, c, u, o, B) h) (v : Nat) : ME tx n r (s, st, v, c, u, o, B) (sI h aM 36 (nI v)) := by
  obtain ⟨g1, g2, g3, g4, g5, g6, g7, g8, g9, g10⟩ := m
  exact ⟨g1.sFd 36 _ (by decide), g2, g3, g4, rfl, g6, g7, g8, g9.wI (by decide) (by decide), g10.wI (by decide) (by decide)⟩
theorem MSt.tail {p : Nat × Int32} (g : MSt (p :: st) h) : MSt st h := fun j x hj => g j x (by
  have hl : j < st.reverse.length := (List.getElem?_eq_some_iff.mp hj).1
  rw [List.reverse_cons, List.getElem?_append_left hl]
  exact hj)
theorem MSt.top {p : Nat × Int32} (g : MSt (p :: st) h) : hI h aEWhat st.length = nI p.1 ∧ hI h aESign st.length = p.2 := g st.length p (by
  rw [List.reverse_cons, List.getElem?_append_right (by simp)]
  simp)
theorem ME.pop {p : Nat × Int32} (m : ME tx n r (s, p :: st, w, c, u, o, B) h) : ME tx n r (s, st, w, c, u, o, B) (sI h aM 37 (nI st.length)) := by
  obtain ⟨g1, g2, g3, g4, g5, g6, g7, g8, g9, g10⟩ := m
  exact ⟨g1.sFd 37 _ (by decide), g2, g3, g4, g5, rfl, g7, g8, g9.wI (by decide) (by decide), g10.tail.wI (by decide) (by decide)⟩
theorem ME.push (m : ME tx n r (s, st, w, c, u, o, B) h) (a : Nat) (x : Int32) : ME tx n r (s, (a, x) :: st, w, c, u, o, B) (sI (sI (sI h aEWhat st.length (nI a)) aESign st.length x) aM 37 (nI (st.length + 1))) := by
  obtain ⟨g1, g2, g3, g4, g5, g6, g7, g8, g9, g10⟩ := m
  refine ⟨((g1.sA aEWhat _ _ (by decide) (by decide)).sA aESign _ _ (by decide) (by decide)).sFd 37 _ (by decide), g2, g3, g4, g5, rfl, g7, g8, ((g9.wI (by decide) (by decide)).wI (by decide) (by decide)).wI (by decide) (by decide), ?_⟩
  refine MSt.wI (fun j p hj => ?_) (by decide) (by decide)
  have hj : ((a, x) :: st).reverse[j]? = some p := hj
  rw [List.reverse_cons] at hj
  rcases Nat.lt_or_ge j st.reverse.length with hl | hl
  · rw [List.getElem?_append_left hl] at hj
    have hl2 : j ≠ st.length := by rw [List.length_reverse] at hl; omega
    have e1 : hI (sI (sI h aEWhat st.length (nI a)) aESign st.length x) aEWhat j = hI h aEWhat j := (show hI (sI h aEWhat st.length (nI a)) aEWhat j = hI h aEWhat j from u2_ne (fun z => hl2 z.2))
    have e2 : hI (sI (sI h aEWhat st.length (nI a)) aESign st.length x) aESign j = hI h aESign j := (show hI (sI (sI h aEWhat st.length (nI a)) aESign st.length x) aESign j = hI (sI h aEWhat st.length (nI a)) aESign j from u2_ne (fun z => hl2 z.2))
    rw [e1, e2]
    exact g10 j p hj
  · rw [List.getElem?_append_right hl] at hj
    have hj2 : j = st.length := by
      have := (List.getElem?_eq_some_iff.mp hj).1
      rw [List.length_reverse] at hl this
      simp at this
      omega
    subst hj2
    simp at hj
    subst hj
    exact ⟨(show hI (sI h aEWhat st.length (nI a)) aEWhat st.length = nI a from u2_self), u2_self⟩
theorem ME.emit (m : ME tx n r (s, st, w, c, u, o, B) h) (x y : Int32) : ME tx n r (s, st, w, c ++ [(x, y)], u, o, B) (sI (sI (sI h aCode (560 * r + c.length) x) aCodeNumber (560 * r + c.length) y) aM 35 (nI (560 * r + c.length + 1))) := by
  obtain ⟨g1, g2, g3, g4, g5, g6, g7, g8, g9, g10⟩ := m
  refine ⟨((g1.sA aCode _ _ (by decide) (by decide)).sA aCodeNumber _ _ (by decide) (by decide)).sFd 35 _ (by decide), g2, g3, ?_, g5, g6, g7, g8, ?_, ((g10.wI (by decide) (by decide)).wI (by decide) (by decide)).wI (by decide) (by decide)⟩
  · show nI (560 * r + c.length + 1) = nI (560 * r + (c ++ [(x, y)]).length)
    rw [List.length_append]
    rfl
  · refine MCo.wI (fun j p hj => ?_) (by decide) (by decide)
    have hj : (c ++ [(x, y)])[j]? = some p := hj
    rcases Nat.lt_or_ge j c.length with hl | hl
    · rw [List.getElem?_append_left hl] at hj
      have hl2 : 560 * r + j ≠ 560 * r + c.length := by omega
      have e1 : hI (sI (sI h aCode (560 * r + c.length) x) aCodeNumber (560 * r + c.length) y) aCode (560 * r + j) = hI h aCode (560 * r + j) := (show hI (sI h aCode (560 * r + c.length) x) aCode (560 * r + j) = hI h aCode (560 * r + j) from u2_ne (fun z => hl2 z.2))
      have e2 : hI (sI (sI h aCode (560 * r + c.length) x) aCodeNumber (560 * r + c.length) y) aCodeNumber (560 * r + j) = hI h aCodeNumber (560 * r + j) := (show hI (sI (sI h aCode (560 * r + c.length) x) aCodeNumber (560 * r + c.length) y) aCodeNumber (560 * r + j) = hI (sI h aCode (560 * r + c.length) x) aCodeNumber (560 * r + j) from u2_ne (fun z => hl2 z.2))
      rw [e1, e2]
      exact g9 j p hj
    · rw [List.getElem?_append_right hl] at hj
      have hj2 : j = c.length := by
        have := (List.getElem?_eq_some_iff.mp hj).1
        simp at this
        omega
      subst hj2
      simp at hj
      subst hj
      exact ⟨(show hI (sI h aCode (560 * r + c.length) x) aCode (560 * r + c.length) = x from u2_self), u2_self⟩
theorem okw_un : okw r aUnits r = true := (show decide (r = r) = true from decide_eq_true rfl)
theorem okw_co {j : Nat} (hj : j < 560) : okw r aCode (560 * r + j) = true := (show decide (560 * r ≤ 560 * r + j ∧ 560 * r + j < 560 * r + 560) = true from decide_eq_true (by omega))
theorem okw_cn {j : Nat} (hj : j < 560) : okw r aCodeNumber (560 * r + j) = true := (show decide (560 * r ≤ 560 * r + j ∧ 560 * r + j < 560 * r + 560) = true from decide_eq_true (by omega))
theorem okw_ew {j : Nat} : okw r aEWhat j = true := rfl
theorem okw_es {j : Nat} : okw r aESign j = true := rfl
theorem tpE_top {p : Nat × Int32} (m : ME tx n r (s, p :: st, w, c, u, o, B) h) : hI h aEWhat st.length = nI p.1 := (m.2.2.2.2.2.2.2.2.2.top).1
end MES
theorem misP_8 {tx : Nat → Int32} {n : Nat} {s : (Nat × Nat) × Nat} (h : s.1.1 < 8) : (misP tx n s).1.1 < 8 := by
  unfold misP failP
  show (if s.1.1 = 0 then ((if tkT tx n s.2 = 1 then 1 else 2), taT tx n s.2) else s.1).1 < 8
  split
  · show (if tkT tx n s.2 = 1 then 1 else 2) < 8
    split <;> decide
  · exact h
