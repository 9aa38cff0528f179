/-! ===== what was: acts, undone ones, boxes ===== -/
set_option maxRecDepth 100000
/-- the reference's row of tables that were, how many acts, how many undone -/
def MH (W : Nat → Int32) (na nu : Nat) (h : ev_H) : Prop := hI h aM 46 = nI na ∧ hI h aM 47 = nI nu ∧ na + nu ≤ 40 ∧ ∀ i, i < 779 → hI h aWas i = W i
theorem MH.fr {W : Nat → Int32} {na nu : Nat} {as fs : List Nat} {h h1 : ev_H} (hH : MH W na nu h) (p : Fr as fs h h1) (o1 : aWas ∉ as) (o2 : aM ∉ as) (o3 : 46 ∉ fs) (o4 : 47 ∉ fs) : MH W na nu h1 := ⟨by rw [p.fld 46 o2 o3]; exact hH.1, by rw [p.fld 47 o2 o4]; exact hH.2.1, hH.2.2.1, fun i hi => by rw [p.ar aWas o1 (by decide)]; exact hH.2.2.2 i hi⟩
def shW (W : Nat → Int32) : Nat → Int32 := fun i => if i < 760 then W (i + 19) else W i
def puW (W : Nat → Int32) (n : Nat) (T : Nat → Int32) : Nat → Int32 := fun i => if 19 * n ≤ i ∧ i < 19 * n + 19 then T (i - 19 * n) else W i
def kaW (W : Nat → Int32) (na : Nat) (T : Nat → Int32) : Nat → Int32 := if na = 40 then puW (shW W) 39 T else puW W na T
def kaN (na : Nat) : Nat := if na = 40 then 40 else na + 1
theorem sh_step {h : ev_H} {i : Nat} {W : Nat → Int32} (hi : i < 760) (hq : ∀ j, j < 779 → hI h aWas j = if j < i then W (j + 19) else W j) : ∀ j, j < 779 → hI (sI h aWas i (W (i + 19))) aWas j = if j < i + 1 then W (j + 19) else W j := by
  intro j hj
  by_cases hji : j = i
  · subst hji
    rw [if_pos (by omega)]
    exact u2_self
  · rw [show hI (sI h aWas i (W (i + 19))) aWas j = hI h aWas j from u2_ne (fun z => hji z.2), hq j hj]
    by_cases h2 : j < i
    · rw [if_pos h2, if_pos (by omega)]
    · rw [if_neg h2, if_neg (by omega)]
def puP (W : Nat → Int32) (n i : Nat) (T : Nat → Int32) : Nat → Int32 := fun j => if 19 * n ≤ j ∧ j < 19 * n + i then T (j - 19 * n) else W j
theorem puP_0 {W : Nat → Int32} {n : Nat} {T : Nat → Int32} : puP W n 0 T = W := by
  funext j
  unfold puP
  rw [if_neg (by omega)]
theorem pu_step {h : ev_H} {n i : Nat} {W T : Nat → Int32} {v : Int32} (hv : v = T i) (hq : ∀ j, j < 779 → hI h aWas j = puP W n i T j) : ∀ j, j < 779 → hI (sI h aWas (19 * n + i) v) aWas j = puP W n (i + 1) T j := by
  intro j hj
  unfold puP at hq ⊢
  by_cases hji : j = 19 * n + i
  · subst hji
    rw [if_pos ⟨by omega, by omega⟩, show 19 * n + i - 19 * n = i by omega, ← hv]
    exact u2_self
  · rw [show hI (sI h aWas (19 * n + i) v) aWas j = hI h aWas j from u2_ne (fun z => hji z.2), hq j hj]
    by_cases h2 : 19 * n ≤ j ∧ j < 19 * n + i
    · rw [if_pos h2, if_pos ⟨h2.1, by omega⟩]
    · rw [if_neg h2, if_neg (fun z => h2 ⟨z.1, by omega⟩)]
theorem puP_at {W T : Nat → Int32} {n i : Nat} : puP W n i T (19 * n + i) = W (19 * n + i) := by
  unfold puP
  rw [if_neg (by omega)]
/-- the first i numbers of T are W's -/
def swT (W : Nat → Int32) (n i : Nat) (T : Nat → Int32) : Nat → Int32 := fun k => if k < i then W (19 * n + k) else T k
theorem sw_step {h : ev_H} {n i : Nat} {W T : Nat → Int32} (hT : MT (swT W n i T) h) : MT (swT W n (i + 1) T) (sI h aAll i (W (19 * n + i))) := by
  refine (hT.up i _).eq fun k _ => ?_
  unfold swT
  by_cases hk : k = i
  · subst hk
    rw [u1_self, if_pos (by omega)]
  · rw [u1_ne hk]
    by_cases h2 : k < i
    · rw [if_pos h2, if_pos (by omega)]
    · rw [if_neg h2, if_neg (by omega)]
