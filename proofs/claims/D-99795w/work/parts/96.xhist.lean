/-! ===== THE SYSTEM's HISTORY: its steps ===== -/
set_option maxRecDepth 100000
theorem TW.eq {b : Bk} {T T2 : Nat → Int32} (hw : TW b T) (hb : BW b) (e : ∀ k, k < 19 → T k = T2 k) : TW b T2 := by
  have h10 := hb.t10
  have h5 := hb.s5
  obtain ⟨a0, a1, a2, a3, a4, a5⟩ := hw
  exact ⟨by rw [← e 0 (by omega)]; exact a0, by rw [← e 1 (by omega)]; exact a1, fun t ht => by rw [← e _ (by omega)]; exact a2 t ht, fun s hs => by rw [← e _ (by omega)]; exact a3 s hs, by rw [← e 17 (by omega)]; exact a4, by rw [← e 18 (by omega)]; exact a5⟩
theorem und_ne {W T : Nat → Int32} {n j : Nat} (h : j ≠ n) (k : Nat) (hk : k < 19) : undT W j k = undT (puW W n T) j k := by
  unfold undT puW
  rw [if_neg (by omega)]
theorem und_eq {W T : Nat → Int32} {n : Nat} (k : Nat) (hk : k < 19) : T k = undT (puW W n T) n k := by
  unfold undT puW
  rw [if_pos (by omega), show 19 * n + k - 19 * n = k by omega]
theorem und_sh {W : Nat → Int32} {j : Nat} (hj : j < 39) (k : Nat) (hk : k < 19) : undT W (j + 1) k = undT (shW W) j k := by
  unfold undT shW
  rw [if_pos (by omega), show 19 * (j + 1) + k = 19 * j + k + 19 by omega]
def SW (a : Nat) : Prop := 135 ≤ a ∧ a < 255
section HIST
variable {b : Bk} {K : XK} {W T : Nat → Int32} {na nu : Nat} {h h1 h2 : ev_H}
theorem XH.fr {as : List Nat} (x : XH b W na nu h) (p : Fr as [] h h1) (o1 : ∀ a ∈ as, a ≠ 64 ∧ ¬ SW a) : XH b W na nu h1 := by
  have n64 : 64 ∉ as := fun z => (o1 64 z).1 rfl
  obtain ⟨x1, x2, x3, f, x4, x5, x6⟩ := x
  refine ⟨by rw [p.2.2.2.2.2 64 10 n64 (fun _ => by simp)]; exact x1, by rw [p.2.2.2.2.2 64 11 n64 (fun _ => by simp)]; exact x2, x3, f, fun j hj => ⟨(x4 j hj).1, by rw [p.2.2.2.1]; exact (x4 j hj).2⟩, x5, fun j hj => ⟨?_, (x6 j hj).2⟩⟩
  have hf := (x4 j (by omega)).1
  exact (x6 j hj).1.fr p (fun z => (o1 _ z).2 ⟨by omega, by omega⟩) (fun z => (o1 _ z).2 ⟨by omega, by omega⟩) (fun z => (o1 _ z).2 ⟨by omega, by omega⟩)
/-- one table more -/
theorem XH.add {f : Nat → Nat} {V : Nat → Int32} {n : Nat} (hb : BW b) (hw : TW b T) (hn : n < 40) (x4 : ∀ j, j < 40 → f j < 40 ∧ hR h 83 j = 135 + 3 * f j) (x5 : ∀ i j, i < 40 → j < 40 → f i = f j → i = j) (x6 : ∀ j, j < n → XT (135 + 3 * f j) (undT V j) (-1) h ∧ TW b (undT V j))
    (g : Fr [135 + 3 * f n, 135 + 3 * f n + 1, 135 + 3 * f n + 2] [] h h1) (hY : XT (135 + 3 * f n) T (-1) h1) : XH b (puW V n T) (n + 1) 0 (sI (sI h1 64 10 (nI (n + 1))) 64 11 (nI 0)) := by
  have fs : ∀ {X : ev_H} (k : Nat) (v : Int32), Fr [64] [] X (sI X 64 k v) := fun k v => Fr.rf.sa 64 k v (by simp)
  have up : ∀ {t : Nat} {U : Nat → Int32}, 64 < t → XT t U (-1) h1 → XT t U (-1) (sI (sI h1 64 10 (nI (n + 1))) 64 11 (nI 0)) := fun ht q => (q.fr (fs 10 _) (by simp; omega) (by simp; omega) (by simp; omega)).fr (fs 11 _) (by simp; omega) (by simp; omega) (by simp; omega)
  refine ⟨rfl, rfl, by omega, f, fun j hj => ⟨(x4 j hj).1, by show hR h1 83 j = _; rw [g.2.2.2.1]; exact (x4 j hj).2⟩, x5, fun j hj => ?_⟩
  by_cases e : j = n
  · subst e
    exact ⟨(up (by omega) hY).eqT (fun k hk => und_eq k hk), hw.eq hb (fun k hk => und_eq k hk)⟩
  · have hne : f j ≠ f n := fun z => e (x5 j n (by omega) hn z)
    have q := x6 j (by omega)
    exact ⟨(up (by omega) (q.1.fr g (by simp; omega) (by simp; omega) (by simp; omega))).eqT (fun k hk => und_ne e k hk), q.2.eq hb (fun k hk => und_ne e k hk)⟩
/-- the oldest goes -/
theorem XH.rot (hb : BW b) (x : XH b W 40 nu h) (p : Fw (fun _ => False) [10] h h1) (e10 : hI h1 64 10 = nI 39) (er : ∀ j, j < 40 → hR h1 83 j = if j = 39 then hR h 83 0 else hR h 83 (j + 1)) (k64 : hK h 64 = 1) (k83 : hK h 83 = 105) : XH b (shW W) 39 0 h1 := by
  obtain ⟨x1, x2, x3, f, x4, x5, x6⟩ := x
  have hnu : nu = 0 := by omega
  subst hnu
  refine ⟨e10, by rw [p.fld 11 (fun z => z) (by decide)]; exact x2, by omega, fun j => if j = 39 then f 0 else f (j + 1), fun j hj => ?_, fun i j hi hj e => ?_, fun j hj => ?_⟩
  · show (if j = 39 then f 0 else f (j + 1)) < 40 ∧ hR h1 83 j = 135 + 3 * (if j = 39 then f 0 else f (j + 1))
    rw [er j hj]
    by_cases e : j = 39
    · rw [if_pos e, if_pos e]; exact x4 0 (by omega)
    · rw [if_neg e, if_neg e]; exact x4 (j + 1) (by omega)
  · simp only at e
    by_cases e1 : i = 39
    · by_cases e2 : j = 39
      · omega
      · rw [if_pos e1, if_neg e2] at e
        have := x5 0 (j + 1) (by omega) (by omega) e
        omega
    · by_cases e2 : j = 39
      · rw [if_neg e1, if_pos e2] at e
        have := x5 (i + 1) 0 (by omega) (by omega) e
        omega
      · rw [if_neg e1, if_neg e2] at e
        have := x5 (i + 1) (j + 1) (by omega) (by omega) e
        omega
  · have hj39 : ¬ j = 39 := by omega
    show XT (135 + 3 * (if j = 39 then f 0 else f (j + 1))) _ _ _ ∧ _
    rw [if_neg hj39]
    have q := x6 (j + 1) (by omega)
    exact ⟨(q.1.fw p k64 k83 (fun z => z) (fun z => z) (fun z => z)).eqT (fun k hk => und_sh (by omega) k hk), q.2.eq hb (fun k hk => und_sh (by omega) k hk)⟩
theorem ka_40 (e : na = 40) : kaW W na T = puW (shW W) 39 T ∧ kaN na = 39 + 1 := ⟨if_pos e, if_pos e⟩
theorem ka_n (e : ¬ na = 40) : kaW W na T = puW W na T ∧ kaN na = na + 1 := ⟨if_neg e, if_neg e⟩
/-- two tables change places -/
theorem XH.swap {f : Nat → Nat} {V : Nat → Int32} {n m q r : Nat} (hb : BW b) (hw : TW b T) (hn : n < m) (hm : m ≤ 40) (x4 : ∀ j, j < 40 → f j < 40 ∧ hR h 83 j = 135 + 3 * f j) (x5 : ∀ i j, i < 40 → j < 40 → f i = f j → i = j) (x6 : ∀ j, j < m → XT (135 + 3 * f j) (undT V j) (-1) h ∧ TW b (undT V j))
    (g : Fr [77, 78, 79, 135 + 3 * f n, 135 + 3 * f n + 1, 135 + 3 * f n + 2, 74, 75, 76] [] h h1) (hY : XT (135 + 3 * f n) T (-1) h1) (e10 : hI h1 64 10 = nI q) (e11 : hI h1 64 11 = nI r) (hqr : q + r = m) : XH b (puW V n T) q r h1 := by
  refine ⟨e10, e11, by omega, f, fun j hj => ⟨(x4 j hj).1, by rw [g.2.2.2.1]; exact (x4 j hj).2⟩, x5, fun j hj => ?_⟩
  have hfn := (x4 n (by omega)).1
  by_cases e : j = n
  · subst e
    exact ⟨hY.eqT (fun k hk => und_eq k hk), hw.eq hb (fun k hk => und_eq k hk)⟩
  · have hne : f j ≠ f n := fun z => e (x5 j n (by omega) (by omega) z)
    have z := x6 j (by omega)
    exact ⟨(z.1.fr g (by simp; omega) (by simp; omega) (by simp; omega)).eqT (fun k hk => und_ne e k hk), z.2.eq hb (fun k hk => und_ne e k hk)⟩
theorem XH.at (x : XH b W na nu h) : hI h 64 10 = nI na ∧ hI h 64 11 = nI nu ∧ na + nu ≤ 40 := ⟨x.1, x.2.1, x.2.2.1⟩
/-- the table changed in place: the fields 10 and 11 set anew -/
theorem XH.nums {q r : Nat} (x : XH b W na nu h) (p : Fr [64] [] h h1) (e10 : hI h1 64 10 = nI q) (e11 : hI h1 64 11 = nI r) (hqr : q + r = na + nu) : XH b W q r h1 := by
  obtain ⟨x1, x2, x3, f, x4, x5, x6⟩ := x
  refine ⟨e10, e11, by omega, f, fun j hj => ⟨(x4 j hj).1, by rw [p.2.2.2.1]; exact (x4 j hj).2⟩, x5, fun j hj => ⟨?_, (x6 j (by omega)).2⟩⟩
  exact (x6 j (by omega)).1.fr p (by simp; omega) (by simp; omega) (by simp; omega)
end HIST
theorem elm_t {h : ev_H} {y : Nat} (hk : hK h y = 4) : ev_elm "PepperTables$Table" h y := ⟨3, _, hk, by decide, rfl, Or.inl rfl⟩
