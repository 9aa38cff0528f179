/-! ===== some sacks ground in a row say what they would say one by one ===== -/
set_option maxRecDepth 100000
theorem letS_congr {b : Bk} {T U : Nat → Int32} {sh : Int32} {s t : Nat} (e0 : inV b U (nI s) = inV b T (nI s)) (e1 : U 0 = T 0) (e2 : U (12 + s) = T (12 + s)) (e3 : U 17 = T 17) : letS b U sh s t = letS b T sh s t := by
  have hq : qV b U sh s t = qV b T sh s t := by
    funext k
    match k with
    | 0 => rfl
    | 1 => rfl
    | 2 => show popc (U 0) = popc (T 0); rw [e1]
    | 3 => exact e2
    | 4 => show heatV b (inV b U (nI s)) = heatV b (inV b T (nI s)); rw [e0]
    | n + 5 => exact e3
  unfold letS nearV
  rw [hq, e1]
theorem outV_congr {b : Bk} {T U : Nat → Int32} {s : Nat} (e0 : inV b U (nI s) = inV b T (nI s)) (e1 : U 0 = T 0) (e2 : U (12 + s) = T (12 + s)) (e3 : U 17 = T 17) : outV b U s = outV b T s := by
  unfold outV
  rw [e0]
  exact setOf_ext (fun t _ => by unfold letV; rw [letS_congr e0 e1 e2 e3])
theorem gs_same {b : Bk} {T : Nat → Int32} {some : Int32} (hw : TW b T) (hb : BW b) : ∀ n, n ≤ nS b → gsT b T some n 0 = T 0 ∧ gsT b T some n 17 = T 17 ∧ ∀ s, n ≤ s → s < nS b → gsT b T some n (12 + s) = T (12 + s) ∧ inV b (gsT b T some n) (nI s) = inV b T (nI s)
  | 0, _ => ⟨rfl, rfl, fun _ _ _ => ⟨rfl, rfl⟩⟩
  | n + 1, hn => by
    obtain ⟨g1, g2, g3⟩ := gs_same (some := some) hw hb n (by omega)
    have hs5 := hb.s5
    cases h : tb some n with
    | false => rw [gsT_f h]; exact ⟨g1, g2, fun s h1 h2 => g3 s (by omega) h2⟩
    | true =>
      rw [gsT_t h]
      refine ⟨((u1_ne (by omega)).trans (u1_ne (by omega))).trans g1, ((u1_ne (by omega)).trans (u1_ne (by omega))).trans g2, fun s h1 h2 => ⟨((u1_ne (by omega)).trans (u1_ne (by omega))).trans (g3 s (by omega) h2).1, ?_⟩⟩
      rw [gr_other (hw.gs hb n (by omega)) hb h2 (show n < nS b by omega) (by omega)]
      exact (g3 s (by omega) h2).2
theorem gs_out {b : Bk} {T : Nat → Int32} {some : Int32} (hw : TW b T) (hb : BW b) {n : Nat} (hn : n < nS b) : outV b (gsT b T some n) n = outV b T n := by
  obtain ⟨g1, g2, g3⟩ := gs_same (some := some) hw hb n (by omega)
  exact outV_congr (g3 n (Nat.le_refl _) hn).2 g1 (g3 n (Nat.le_refl _) hn).1 g2
theorem gsV_or {b : Bk} {T : Nat → Int32} {some : Int32} (hw : TW b T) (hb : BW b) : ∀ n, n ≤ nS b → gsV b T some n = orIf n (fun s => tb some s) (fun s => outV b T s)
  | 0, _ => rfl
  | n + 1, hn => by
    have ih := gsV_or (some := some) hw hb n (by omega)
    cases h : tb some n with
    | true => rw [gsV_t h, ih, gs_out hw hb (by omega)]; exact orIf_t (f := fun s => outV b T s) (p := fun s => tb some s) h
    | false => rw [gsV_f h, ih]; exact orIf_f (f := fun s => outV b T s) (p := fun s => tb some s) h
theorem gsV_said {b : Bk} {T : Nat → Int32} {some : Int32} (hw : TW b T) (hb : BW b) : gsV b T some (nS b) = saidV b T some := gsV_or hw hb _ (Nat.le_refl _)
