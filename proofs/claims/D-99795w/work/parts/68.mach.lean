/-! ===== a rule's formula: the machine with a pile of signs ===== -/
set_option maxRecDepth 100000
/-- reader's state, pile of (rank, sign), how deep, code, units, units of the rule, whether a unit is wanted -/
abbrev EM : Type := ((Nat × Nat) × Nat) × List (Nat × Int32) × Nat × List (Int32 × Int32) × Nat × Nat × Bool
def tpE : List (Nat × Int32) → Nat
  | [] => 8
  | p :: _ => p.1
def noE (tx : Nat → Int32) (n : Nat) (e : EM) : Bool := (decide (tpE e.2.1 ≤ 3) || decide (7 ≤ tpE e.2.1)) && woH tx n e.1.2 7237492
def brE (tx : Nat → Int32) (n : Nat) (e : EM) : Bool := sgH tx n e.1.2 (nI 40)
def fuE (e : EM) : Bool := decide (e.2.2.2.2.1 = 60) || decide (e.2.2.2.2.2.1 = 30)
def baE (tx : Nat → Int32) (n : Nat) (e : EM) : Bool := (!noE tx n e && ((decide (woC tx n e.1.2 = 0) && !decide (tkT tx n e.1.2 = 4) && !brE tx n e) || fuE e)) || ((noE tx n e || brE tx n e) && decide (e.2.2.1 = 7))
/-- where a unit is wanted -/
def unitM (tx : Nat → Int32) (n : Nat) (e : EM) : EM :=
  if baE tx n e then (misP tx n e.1, e.2.1, e.2.2.1, e.2.2.2.1, e.2.2.2.2.1, e.2.2.2.2.2.1, true)
  else if noE tx n e then (goP tx n e.1, (3, nI 126) :: e.2.1, e.2.2.1 + 1, e.2.2.2.1, e.2.2.2.2.1, e.2.2.2.2.2.1, true)
  else if brE tx n e then (goP tx n e.1, (7, nI 126) :: e.2.1, e.2.2.1 + 1, e.2.2.2.1, e.2.2.2.2.1 + 1, e.2.2.2.2.2.1 + 1, true)
  else (goP tx n e.1, e.2.1, e.2.2.1, e.2.2.2.1 ++ [(if woC tx n e.1.2 = 0 then nI 110 else nI (woC tx n e.1.2), if woC tx n e.1.2 = 0 then tvT tx n e.1.2 else 0)], e.2.2.2.2.1 + 1, e.2.2.2.2.2.1 + 1, false)
/-- signs of the rank or a higher one go out -/
def redM (rk : Nat) : List (Nat × Int32) → Nat → List (Int32 × Int32) → List (Nat × Int32) × Nat × List (Int32 × Int32)
  | [], w, c => ([], w, c)
  | p :: t, w, c => if p.1 ≤ 6 ∧ rk ≤ p.1 then redM rk t (if p.1 = 3 then w - 1 else w) (c ++ [(p.2, 0)]) else (p :: t, w, c)
def cmpM : List (Nat × Int32) → Bool
  | [] => false
  | p :: t => if p.1 = 5 ∨ p.1 = 6 then cmpM t else decide (p.1 = 4)
def opS (tx : Nat → Int32) (n q : Nat) : Int32 := if rkC tx n q = 2 then nI 38 else if rkC tx n q = 1 then nI 124 else sgT tx n (taT tx n q)
/-- a bracket, or all, ends -/
def endM (tx : Nat → Int32) (n : Nat) (s : (Nat × Nat) × Nat) (u o : Nat) (R : List (Nat × Int32) × Nat × List (Int32 × Int32)) : EM :=
  if tpE R.1 = 7 then (mustP tx n (sgH tx n s.2 (nI 41)) s, R.1.tail, R.2.1 - 1, R.2.2, u, o, false) else (s, R.1.tail, R.2.1, R.2.2, u, o, false)
/-- behind a unit -/
def behM (tx : Nat → Int32) (n : Nat) (e : EM) : EM :=
  if rkC tx n e.1.2 = 4 ∧ cmpM e.2.1 = true then (misP tx n e.1, e.2.1, e.2.2.1, e.2.2.2.1, e.2.2.2.2.1, e.2.2.2.2.2.1, true)
  else if 0 < rkC tx n e.1.2 then (goP tx n e.1, (rkC tx n e.1.2, opS tx n e.1.2) :: (redM (rkC tx n e.1.2) e.2.1 e.2.2.1 e.2.2.2.1).1, (redM (rkC tx n e.1.2) e.2.1 e.2.2.1 e.2.2.2.1).2.1, (redM (rkC tx n e.1.2) e.2.1 e.2.2.1 e.2.2.2.1).2.2, e.2.2.2.2.1, e.2.2.2.2.2.1, true)
  else endM tx n e.1 e.2.2.2.2.1 e.2.2.2.2.2.1 (redM 0 e.2.1 e.2.2.1 e.2.2.2.1)
def stopM (e : EM) : Bool := !decide (e.1.1.1 = 0) || e.2.1.isEmpty
def stepM (tx : Nat → Int32) (n : Nat) (e : EM) : EM := if stopM e then e else if e.2.2.2.2.2.2 then unitM tx n e else behM tx n e
def itM (tx : Nat → Int32) (n : Nat) : Nat → EM → EM
  | 0, e => e
  | j + 1, e => itM tx n j (stepM tx n e)
theorem itM_stop {tx : Nat → Int32} {n : Nat} {e : EM} (h : stopM e = true) : ∀ j, itM tx n j e = e
  | 0 => rfl
  | j + 1 => by
    show itM tx n j (stepM tx n e) = e
    rw [stepM, if_pos h]
    exact itM_stop h j
theorem itM_add {tx : Nat → Int32} {n : Nat} : ∀ (i j : Nat) (e : EM), itM tx n (i + j) e = itM tx n j (itM tx n i e)
  | 0, j, e => by rw [Nat.zero_add]; rfl
  | i + 1, j, e => by
    rw [show i + 1 + j = (i + j) + 1 by omega]
    exact itM_add i j (stepM tx n e)
/-- where it stops is but one place -/
theorem itM_one {tx : Nat → Int32} {n i j : Nat} {e : EM} (h1 : stopM (itM tx n i e) = true) (h2 : stopM (itM tx n j e) = true) : itM tx n i e = itM tx n j e := by
  rcases Nat.le_total i j with h | h
  · rw [show j = i + (j - i) by omega, itM_add, itM_stop h1]
  · rw [show i = j + (i - j) by omega, itM_add, itM_stop h2]
/-! what holds all through -/
def vtE : List (Nat × Int32) → Nat
  | [] => 0
  | p :: _ => if p.1 = 3 ∨ 7 ≤ p.1 then 0 else p.1
def stOk : List (Nat × Int32) → Nat → Prop
  | [], w => w = 0
  | p :: t, w => if p.1 = 8 then t = [] ∧ w = 0 else if p.1 = 3 ∨ p.1 = 7 then p.2 = nI 126 ∧ 0 < w ∧ t ≠ [] ∧ stOk t (w - 1) else (1 ≤ p.1 ∧ p.1 ≤ 6) ∧ isLetV p.2 = false ∧ p.2 ≠ nI 126 ∧ vtE t < p.1 ∧ t ≠ [] ∧ stOk t w
def pndE : List (Nat × Int32) → Nat
  | [] => 0
  | p :: t => (if p.1 ≤ 6 then 1 else 0) + pndE t
def binE : List (Nat × Int32) → Nat
  | [] => 0
  | p :: t => (if p.1 ≤ 6 ∧ p.1 ≠ 3 then 1 else 0) + binE t
theorem vtE_le (st : List (Nat × Int32)) : vtE st ≤ 6 := by
  cases st with
  | nil => exact Nat.zero_le _
  | cons p t =>
    show (if p.1 = 3 ∨ 7 ≤ p.1 then 0 else p.1) ≤ 6
    split <;> omega
theorem stOk_len : ∀ (st : List (Nat × Int32)) (w : Nat), stOk st w → st.length ≤ 1 + 7 * w + vtE st
  | [], w, _ => by simp
  | p :: t, w, h => by
    unfold stOk at h
    split at h
    · rw [h.1]
      show 1 ≤ _
      omega
    · split at h
      · obtain ⟨-, h1, -, h2⟩ := h
        have ih := stOk_len t (w - 1) h2
        have := vtE_le t
        rw [List.length_cons]
        omega
      · rename_i h8 h37
        obtain ⟨h1, -, -, h2, -, h3⟩ := h
        have ih := stOk_len t w h3
        have hv : vtE (p :: t) = p.1 := by show (if p.1 = 3 ∨ 7 ≤ p.1 then 0 else p.1) = p.1; rw [if_neg (by omega)]
        rw [List.length_cons, hv]
        omega
theorem binE_le : ∀ st : List (Nat × Int32), binE st ≤ st.length
  | [] => Nat.le_refl _
  | p :: t => by
    have := binE_le t
    unfold binE
    rw [List.length_cons]
    split <;> omega
theorem rpnH_c (x : Int32 × Int32) (c : List (Int32 × Int32)) (m : Nat) : rpnH (x :: c) m = if x.1 = nI 126 then (if m = 0 then none else rpnH c m) else if isLetV x.1 then (if m < 60 then rpnH c (m + 1) else none) else (if m < 2 then none else rpnH c (m - 1)) := rfl
theorem rpnH_app : ∀ (c d : List (Int32 × Int32)) (m k : Nat), rpnH c m = some k → rpnH (c ++ d) m = rpnH d k
  | [], d, m, k, h => by
    unfold rpnH at h
    cases h
    rfl
  | x :: c, d, m, k, h => by
    rw [List.cons_append]
    rw [rpnH_c] at h ⊢
    by_cases h1 : x.1 = nI 126
    · rw [if_pos h1] at h ⊢
      by_cases h2 : m = 0
      · rw [if_pos h2] at h; cases h
      · rw [if_neg h2] at h ⊢; exact rpnH_app c d _ k h
    · rw [if_neg h1] at h ⊢
      by_cases h3 : isLetV x.1 = true
      · rw [if_pos h3] at h ⊢
        by_cases h2 : m < 60
        · rw [if_pos h2] at h ⊢; exact rpnH_app c d _ k h
        · rw [if_neg h2] at h; cases h
      · rw [if_neg h3] at h ⊢
        by_cases h2 : m < 2
        · rw [if_pos h2] at h; cases h
        · rw [if_neg h2] at h ⊢; exact rpnH_app c d _ k h
/-- the machine's invariant -/
def EI (e : EM) : Prop := stOk e.2.1 e.2.2.1 ∧ e.2.2.1 ≤ 7 ∧ e.2.2.2.2.2.1 ≤ 30 ∧ e.2.2.2.2.1 ≤ 60 ∧ e.2.2.2.1.length + pndE e.2.1 + (if e.2.2.2.2.2.2 then 0 else 1) ≤ 9 * e.2.2.2.2.2.1 + (if e.2.2.2.2.2.2 then e.2.2.1 else 0) ∧ rpnH e.2.2.2.1 0 = some (binE e.2.1 + (if e.2.2.2.2.2.2 then 0 else 1)) ∧ (e.2.1 = [] → e.2.2.2.2.2.2 = false)
theorem red_ok (rk : Nat) : ∀ (st : List (Nat × Int32)) (w : Nat) (c : List (Int32 × Int32)), stOk st w → rpnH c 0 = some (binE st + 1) → stOk (redM rk st w c).1 (redM rk st w c).2.1 ∧ rpnH (redM rk st w c).2.2 0 = some (binE (redM rk st w c).1 + 1) ∧ (redM rk st w c).2.2.length + pndE (redM rk st w c).1 = c.length + pndE st ∧ (redM rk st w c).2.1 ≤ w ∧ (0 < rk → vtE (redM rk st w c).1 < rk) ∧ (st ≠ [] → (redM rk st w c).1 ≠ []) ∧ (rk = 0 → st ≠ [] → 7 ≤ tpE (redM rk st w c).1)
  | [], w, c, h1, h2 => ⟨h1, h2, rfl, Nat.le_refl _, fun z => z, fun z => z, fun _ z => absurd rfl z⟩
  | p :: t, w, c, h1, h2 => by
    unfold redM
    by_cases hp : p.1 ≤ 6 ∧ rk ≤ p.1
    · rw [if_pos hp]
      unfold stOk at h1
      rw [if_neg (by omega)] at h1
      have hpn : pndE (p :: t) = 1 + pndE t := by show (if p.1 ≤ 6 then 1 else 0) + pndE t = _; rw [if_pos hp.1]
      by_cases h3 : p.1 = 3
      · rw [if_pos (Or.inl h3)] at h1
        obtain ⟨q1, q2, q3, q4⟩ := h1
        have hb : binE (p :: t) = binE t := by show (if p.1 ≤ 6 ∧ p.1 ≠ 3 then 1 else 0) + binE t = _; rw [if_neg (fun z => z.2 h3)]; exact Nat.zero_add _
        rw [hb] at h2
        rw [if_pos h3]
        have hc : rpnH (c ++ [(p.2, (0 : Int32))]) 0 = some (binE t + 1) := by
          rw [rpnH_app c _ _ _ h2]
          unfold rpnH
          rw [if_pos q1, if_neg (by omega)]
          rfl
        obtain ⟨g1, g2, g3, g4, g5, g6, g7⟩ := red_ok rk t (w - 1) (c ++ [(p.2, 0)]) q4 hc
        refine ⟨g1, g2, ?_, by omega, g5, fun _ => g6 q3, fun z _ => g7 z q3⟩
        rw [g3, hpn, List.length_append]
        simp
        omega
      · rw [if_neg (by omega)] at h1
        obtain ⟨q1, q2, q3, q4, q5, q6⟩ := h1
        have hb : binE (p :: t) = 1 + binE t := by show (if p.1 ≤ 6 ∧ p.1 ≠ 3 then 1 else 0) + binE t = _; rw [if_pos ⟨hp.1, h3⟩]
        rw [hb] at h2
        rw [if_neg h3]
        have hc : rpnH (c ++ [(p.2, (0 : Int32))]) 0 = some (binE t + 1) := by
          rw [rpnH_app c _ _ _ h2]
          unfold rpnH
          rw [if_neg q3, if_neg (by rw [q2]; decide), if_neg (by omega)]
          unfold rpnH
          congr 1
          omega
        obtain ⟨g1, g2, g3, g4, g5, g6, g7⟩ := red_ok rk t w (c ++ [(p.2, 0)]) q6 hc
        refine ⟨g1, g2, ?_, g4, g5, fun _ => g6 q5, fun z _ => g7 z q5⟩
        rw [g3, hpn, List.length_append]
        simp
        omega
    · rw [if_neg hp]
      refine ⟨h1, h2, rfl, Nat.le_refl _, fun z => ?_, fun z => z, fun z _ => ?_⟩
      · show (if p.1 = 3 ∨ 7 ≤ p.1 then 0 else p.1) < rk
        split <;> omega
      · show 7 ≤ p.1
        omega
theorem woC_let (tx : Nat → Int32) (n q : Nat) : isLetV (if woC tx n q = 0 then nI 110 else nI (woC tx n q)) = true ∧ (if woC tx n q = 0 then nI 110 else nI (woC tx n q)) ≠ nI 126 := by
  unfold woC
  repeat' split
  all_goals first
    | decide
    | omega
theorem unit_EI {tx : Nat → Int32} {n : Nat} {e : EM} (h : EI e) (hB : e.2.2.2.2.2.2 = true) (hs : e.2.1 ≠ []) (hg : (unitM tx n e).1.1.1 = 0) : EI (unitM tx n e) := by
  obtain ⟨g1, g2, g3, g4, g5, g6, g7⟩ := h
  rw [hB] at g5 g6
  rw [if_pos rfl] at g5 g6
  rw [if_pos rfl] at g5
  unfold unitM at hg ⊢
  cases hb : baE tx n e with
  | true =>
    rw [hb] at hg
    exact absurd hg (misP_bad tx n e.1)
  | false =>
    rw [if_neg (by decide)]
    unfold baE at hb
    cases hn : noE tx n e with
    | true =>
      rw [hn] at hb
      have h7 : e.2.2.1 ≠ 7 := by simpa using hb
      rw [if_pos rfl]
      refine ⟨?_, by show _ + 1 ≤ 7; omega, g3, g4, ?_, ?_, fun z => by cases z⟩
      · show stOk ((3, nI 126) :: e.2.1) (e.2.2.1 + 1)
        unfold stOk
        rw [if_neg (by decide), if_pos (Or.inl rfl)]
        exact ⟨rfl, Nat.succ_pos _, hs, by rw [Nat.add_sub_cancel]; exact g1⟩
      · show e.2.2.2.1.length + ((if 3 ≤ 6 then 1 else 0) + pndE e.2.1) + (if true then 0 else 1) ≤ 9 * e.2.2.2.2.2.1 + (if true then e.2.2.1 + 1 else 0)
        simp only [if_true]
        rw [if_pos (by decide)]
        omega
      · show rpnH e.2.2.2.1 0 = some ((if 3 ≤ 6 ∧ 3 ≠ 3 then 1 else 0) + binE e.2.1 + (if true then 0 else 1))
        rw [g6]
        simp
    | false =>
      rw [if_neg (by decide)]
      rw [hn] at hb
      have hf : fuE e = false := by
        cases hf : fuE e with
        | false => rfl
        | true => rw [hf] at hb; simp at hb
      unfold fuE at hf
      simp only [Bool.or_eq_false_iff, decide_eq_false_iff_not] at hf
      cases hr : brE tx n e with
      | true =>
        rw [hr] at hb
        have h7 : e.2.2.1 ≠ 7 := by simp at hb; exact hb.2
        rw [if_pos rfl]
        refine ⟨?_, by show _ + 1 ≤ 7; omega, by show _ + 1 ≤ 30; omega, by show _ + 1 ≤ 60; omega, ?_, ?_, fun z => by cases z⟩
        · show stOk ((7, nI 126) :: e.2.1) (e.2.2.1 + 1)
          unfold stOk
          rw [if_neg (by decide), if_pos (Or.inr rfl)]
          exact ⟨rfl, Nat.succ_pos _, hs, by rw [Nat.add_sub_cancel]; exact g1⟩
        · show e.2.2.2.1.length + ((if 7 ≤ 6 then 1 else 0) + pndE e.2.1) + (if true then 0 else 1) ≤ 9 * (e.2.2.2.2.2.1 + 1) + (if true then e.2.2.1 + 1 else 0)
          simp only [if_true]
          rw [if_neg (by decide)]
          omega
        · show rpnH e.2.2.2.1 0 = some ((if 7 ≤ 6 ∧ 7 ≠ 3 then 1 else 0) + binE e.2.1 + (if true then 0 else 1))
          rw [g6]
          simp
      | false =>
        rw [if_neg (by decide)]
        have hbl := binE_le e.2.1
        have hsl := stOk_len e.2.1 e.2.2.1 g1
        have hvt := vtE_le e.2.1
        refine ⟨g1, g2, by show _ + 1 ≤ 30; omega, by show _ + 1 ≤ 60; omega, ?_, ?_, fun z => absurd z hs⟩
        · show (e.2.2.2.1 ++ [_]).length + pndE e.2.1 + (if false = true then 0 else 1) ≤ 9 * (e.2.2.2.2.2.1 + 1) + (if false = true then e.2.2.1 else 0)
          rw [List.length_append]
          simp
          omega
        · show rpnH (e.2.2.2.1 ++ [_]) 0 = some (binE e.2.1 + (if false = true then 0 else 1))
          rw [rpnH_app _ _ _ _ g6]
          have hw := woC_let tx n e.1.2
          unfold rpnH
          rw [if_neg hw.2, if_pos hw.1, if_pos (by omega)]
          rfl
theorem rkC_le (tx : Nat → Int32) (n q : Nat) : rkC tx n q ≤ 6 ∧ rkC tx n q ≠ 3 := by
  unfold rkC
  repeat' split
  all_goals omega
theorem opS_ok (tx : Nat → Int32) (n q : Nat) (h : 0 < rkC tx n q) : isLetV (opS tx n q) = false ∧ opS tx n q ≠ nI 126 := by
  have key : ∀ c : Int32, sgH tx n q c = true → sgT tx n (taT tx n q) = c := fun c hc => by
    unfold sgH at hc
    simp at hc
    exact hc.2
  unfold opS
  unfold rkC at h ⊢
  repeat' split at h
  all_goals rename_i hx
  all_goals simp_all
  all_goals first
    | decide
    | (rcases hx with hx | hx <;> rw [key _ hx] <;> decide)
    | (rcases hx with (hx | hx) | hx <;> rw [key _ hx] <;> decide)
theorem beh_EI {tx : Nat → Int32} {n : Nat} {e : EM} (h : EI e) (hB : e.2.2.2.2.2.2 = false) (hs : e.2.1 ≠ []) (hg : (behM tx n e).1.1.1 = 0) : EI (behM tx n e) := by
  obtain ⟨g1, g2, g3, g4, g5, g6, g7⟩ := h
  rw [hB] at g5 g6
  simp only [if_false, Bool.false_eq_true] at g5 g6
  unfold behM at hg ⊢
  split at hg
  · exact absurd hg (misP_bad tx n e.1)
  · rename_i hc
    rw [if_neg hc]
    split at hg
    · rename_i hr
      rw [if_pos hr]
      obtain ⟨f1, f2, f3, f4, f5, f6, f7⟩ := red_ok (rkC tx n e.1.2) e.2.1 e.2.2.1 e.2.2.2.1 g1 g6
      have hrk := rkC_le tx n e.1.2
      have hop := opS_ok tx n e.1.2 hr
      generalize redM (rkC tx n e.1.2) e.2.1 e.2.2.1 e.2.2.2.1 = R at *
      refine ⟨?_, Nat.le_trans f4 g2, g3, g4, ?_, ?_, fun z => by cases z⟩
      · show stOk ((rkC tx n e.1.2, opS tx n e.1.2) :: R.1) R.2.1
        unfold stOk
        rw [if_neg (by show ¬ rkC tx n e.1.2 = 8; omega), if_neg (by show ¬ (rkC tx n e.1.2 = 3 ∨ rkC tx n e.1.2 = 7); omega)]
        exact ⟨⟨hr, hrk.1⟩, hop.1, hop.2, f5 hr, f6 hs, f1⟩
      · show R.2.2.length + ((if rkC tx n e.1.2 ≤ 6 then 1 else 0) + pndE R.1) + (if true then 0 else 1) ≤ 9 * e.2.2.2.2.2.1 + (if true then R.2.1 else 0)
        rw [if_pos hrk.1]
        simp only [if_true]
        omega
      · show rpnH R.2.2 0 = some ((if rkC tx n e.1.2 ≤ 6 ∧ rkC tx n e.1.2 ≠ 3 then 1 else 0) + binE R.1 + (if true then 0 else 1))
        rw [if_pos hrk, f2]
        simp only [if_true]
        congr 1
        omega
    · rename_i hr
      rw [if_neg hr]
      obtain ⟨f1, f2, f3, f4, f5, f6, f7⟩ := red_ok 0 e.2.1 e.2.2.1 e.2.2.2.1 g1 g6
      have h7 := f7 rfl hs
      have hne := f6 hs
      generalize redM 0 e.2.1 e.2.2.1 e.2.2.2.1 = R at *
      obtain ⟨R1, R2, R3⟩ := R
      cases R1 with
      | nil => exact absurd rfl hne
      | cons p t =>
        have h7 : 7 ≤ p.1 := h7
        have f1 : stOk (p :: t) R2 := f1
        have f2 : rpnH R3 0 = some (binE (p :: t) + 1) := f2
        have f3 : R3.length + pndE (p :: t) = e.2.2.2.1.length + pndE e.2.1 := f3
        have f4 : R2 ≤ e.2.2.1 := f4
        have eb : binE (p :: t) = binE t := by show (if p.1 ≤ 6 ∧ p.1 ≠ 3 then 1 else 0) + binE t = _; rw [if_neg (by omega)]; exact Nat.zero_add _
        have ep : pndE (p :: t) = pndE t := by show (if p.1 ≤ 6 then 1 else 0) + pndE t = _; rw [if_neg (by omega)]; exact Nat.zero_add _
        rw [eb] at f2
        rw [ep] at f3
        unfold stOk at f1
        unfold endM
        by_cases h8 : p.1 = 8
        · rw [if_pos h8] at f1
          rw [if_neg (by show ¬ p.1 = 7; omega)]
          refine ⟨by show stOk t R2; rw [f1.1]; exact f1.2, by show R2 ≤ 7; omega, g3, g4, ?_, ?_, fun _ => rfl⟩
          · show R3.length + pndE t + (if false = true then 0 else 1) ≤ 9 * e.2.2.2.2.2.1 + (if false = true then R2 else 0)
            simp only [if_false, Bool.false_eq_true]
            omega
          · show rpnH R3 0 = some (binE t + (if false = true then 0 else 1))
            rw [f2]
            rfl
        · rw [if_neg h8] at f1
          by_cases h9 : p.1 = 3 ∨ p.1 = 7
          · rw [if_pos h9] at f1
            obtain ⟨-, q2, q3, q4⟩ := f1
            rw [if_pos (by show p.1 = 7; omega)]
            refine ⟨q4, by show R2 - 1 ≤ 7; omega, g3, g4, ?_, ?_, fun _ => rfl⟩
            · show R3.length + pndE t + (if false = true then 0 else 1) ≤ 9 * e.2.2.2.2.2.1 + (if false = true then R2 - 1 else 0)
              simp only [if_false, Bool.false_eq_true]
              omega
            · show rpnH R3 0 = some (binE t + (if false = true then 0 else 1))
              rw [f2]
              rfl
          · rw [if_neg h9] at f1
            omega
/-- the machine goes on as long as there is text -/
def muM (n : Nat) (e : EM) : Nat := if stopM e then 0 else n - e.1.2 + 1
theorem teT_gt {tx : Nat → Int32} {n q : Nat} (hq : q ≤ n) (h : tkT tx n q ≠ 0) : q < teT tx n q ∧ q < n := by
  have h1 : q ≤ taT tx n q := runT_ge _ _
  have h2 : ¬ n ≤ taT tx n q := fun z => h (by unfold tkT; rw [if_pos z])
  refine ⟨?_, by omega⟩
  unfold teT
  rw [if_neg h2]
  split
  · rename_i hl
    have h3 : n - taT tx n q = (n - taT tx n q - 1) + 1 := by omega
    rw [h3, runT_t hl]
    have := runT_ge (c := leT tx n) (n - taT tx n q - 1) (taT tx n q + 1)
    omega
  · split
    · rename_i hl
      have h3 : n - taT tx n q = (n - taT tx n q - 1) + 1 := by omega
      rw [h3, runT_t hl]
      have := runT_ge (c := diT tx n) (n - taT tx n q - 1) (taT tx n q + 1)
      omega
    · omega
theorem woC_tk {tx : Nat → Int32} {n q : Nat} (h : woC tx n q ≠ 0) : tkT tx n q = 3 := by
  have key : ∀ c : Int64, woH tx n q c = true → tkT tx n q = 3 := fun c hc => by
    unfold woH at hc
    simp at hc
    exact hc.1
  unfold woC at h
  repeat' split at h
  all_goals first
    | (rename_i hx; exact key _ hx)
    | exact absurd rfl h
theorem woH_tk {tx : Nat → Int32} {n q : Nat} {c : Int64} (hc : woH tx n q c = true) : tkT tx n q = 3 := by
  unfold woH at hc
  simp at hc
  exact hc.1
theorem sgH_tk {tx : Nat → Int32} {n q : Nat} {c : Int32} (hc : sgH tx n q c = true) : tkT tx n q = 5 := by
  unfold sgH at hc
  simp at hc
  exact hc.1
theorem rkC_tk {tx : Nat → Int32} {n q : Nat} (h : 0 < rkC tx n q) : tkT tx n q ≠ 0 := by
  intro e0
  have k1 : ∀ c, woH tx n q c = false := fun c => by unfold woH; rw [e0]; rfl
  have k2 : ∀ c, sgH tx n q c = false := fun c => by unfold sgH; rw [e0]; rfl
  unfold rkC at h
  simp [k1, k2] at h
theorem step_mu {tx : Nat → Int32} {n : Nat} {e : EM} (hq : e.1.2 ≤ n) (hs : stopM e = false) (hE : EI e) : (stepM tx n e).1.2 ≤ n ∧ muM n (stepM tx n e) < muM n e := by
  have hm : muM n e = n - e.1.2 + 1 := by unfold muM; rw [hs]; rfl
  have key : ∀ e' : EM, e'.1.2 = teT tx n e.1.2 → tkT tx n e.1.2 ≠ 0 → e'.1.2 ≤ n ∧ muM n e' < muM n e := fun e' h1 h2 => by
    have := teT_gt hq h2
    have h3 := teT_le (tx := tx) hq
    refine ⟨by omega, ?_⟩
    rw [hm]
    unfold muM
    split <;> omega
  have key2 : ∀ e' : EM, e'.1.2 = e.1.2 → stopM e' = true → e'.1.2 ≤ n ∧ muM n e' < muM n e := fun e' h1 h2 => by
    refine ⟨by omega, ?_⟩
    rw [hm]
    unfold muM
    rw [h2]
    exact Nat.succ_pos _
  have kmis : ∀ r, stopM ((misP tx n e.1, r) : EM) = true := fun r => by
    unfold stopM
    rw [decide_eq_false (misP_bad tx n e.1)]
    rfl
  rw [stepM, if_neg (by rw [hs]; decide)]
  split
  · unfold unitM
    split
    · exact key2 _ rfl (kmis _)
    · rename_i hb
      split
      · rename_i hn
        refine key _ rfl ?_
        unfold noE at hn
        simp only [Bool.and_eq_true] at hn
        rw [woH_tk hn.2]; decide
      · rename_i hn
        split
        · rename_i hr
          refine key _ rfl ?_
          rw [sgH_tk hr]; decide
        · rename_i hr
          refine key _ rfl (fun e0 => hb ?_)
          have hw : woC tx n e.1.2 = 0 := Decidable.byContradiction (fun z => by have := woC_tk z; omega)
          unfold baE
          rw [hw, e0]
          simp [hn, hr]
  · unfold behM
    split
    · exact key2 _ rfl (kmis _)
    · split
      · rename_i hr
        exact key _ rfl (rkC_tk hr)
      · unfold endM
        have hg : e.1.1.1 = 0 := by
          unfold stopM at hs
          simp at hs
          exact hs.1
        split
        · rw [mustP, if_pos hg]
          cases hk : sgH tx n e.1.2 (nI 41) with
          | true => exact key _ rfl (by rw [sgH_tk hk]; decide)
          | false => exact key2 _ rfl (kmis _)
        · rename_i h7
          refine key2 _ rfl ?_
          have hB : e.2.2.2.2.2.2 = false := by
            cases hB : e.2.2.2.2.2.2 with
            | false => rfl
            | true => rename_i hw _ _ ; exact absurd hB hw
          have hne : e.2.1 ≠ [] := fun z => by
            unfold stopM at hs
            rw [z] at hs
            simp at hs
          obtain ⟨g1, g2, g3, g4, g5, g6, -⟩ := hE
          rw [hB] at g6
          obtain ⟨f1, -, -, -, -, f6, f7⟩ := red_ok 0 e.2.1 e.2.2.1 e.2.2.2.1 g1 g6
          have f6 := f6 hne
          have f7 := f7 rfl hne
          generalize redM 0 e.2.1 e.2.2.1 e.2.2.2.1 = R at *
          obtain ⟨R1, R2, R3⟩ := R
          cases R1 with
          | nil => exact absurd rfl f6
          | cons p t =>
            have f1 : stOk (p :: t) R2 := f1
            have f7 : 7 ≤ p.1 := f7
            have h7 : ¬ p.1 = 7 := h7
            unfold stOk at f1
            by_cases h8 : p.1 = 8
            · rw [if_pos h8] at f1
              show (!decide (e.1.1.1 = 0) || t.isEmpty) = true
              rw [f1.1]
              simp
            · rw [if_neg h8, if_neg (by omega)] at f1
              omega
theorem stop_f {e : EM} (h : stopM e = false) : e.1.1.1 = 0 ∧ e.2.1 ≠ [] := by
  unfold stopM at h
  simp at h
  exact ⟨h.1, fun z => by rw [z] at h; simp at h⟩
theorem step_EI {tx : Nat → Int32} {n : Nat} {e : EM} (hs : stopM e = false) (hE : EI e) (h1 : (stepM tx n e).1.1.1 = 0) : EI (stepM tx n e) := by
  have hf := stop_f hs
  rw [stepM, if_neg (by rw [hs]; decide)] at h1 ⊢
  cases hB : e.2.2.2.2.2.2 with
  | true => rw [hB] at h1; exact unit_EI hE hB hf.2 h1
  | false => rw [hB] at h1; exact beh_EI hE hB hf.2 h1
theorem it_end {tx : Nat → Int32} {n : Nat} : ∀ (f : Nat) (e : EM), muM n e ≤ f → e.1.2 ≤ n → (e.1.1.1 = 0 → EI e) → stopM (itM tx n f e) = true ∧ (itM tx n f e).1.2 ≤ n ∧ ((itM tx n f e).1.1.1 = 0 → EI (itM tx n f e))
  | 0, e, h, hq, hE => by
    refine ⟨?_, hq, hE⟩
    show stopM e = true
    cases hs : stopM e with
    | true => rfl
    | false => unfold muM at h; rw [hs] at h; simp at h
  | f + 1, e, h, hq, hE => by
    cases hs : stopM e with
    | true => rw [itM_stop hs]; exact ⟨hs, hq, hE⟩
    | false =>
      have hE := hE (stop_f hs).1
      have hm := step_mu (tx := tx) hq hs hE
      exact it_end f (stepM tx n e) (by omega) hm.1 (step_EI hs hE)
