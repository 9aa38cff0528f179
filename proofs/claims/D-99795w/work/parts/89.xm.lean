/-! ===== THE SYSTEM's OBJECT: its cells by their numbers ===== -/
set_option maxRecDepth 100000
/-- the shape of a table at t -/
def XS (t : Nat) (h : ev_H) : Prop := ev_c < t ∧ hK h t = 4 ∧ (hR h t 0 = t + 1 ∧ hR h t 1 = t + 2) ∧ (hK h (t + 1) = 100 ∧ hL h (t + 1) = 10) ∧ (hK h (t + 2) = 100 ∧ hL h (t + 2) = 5)
def rdX (t : Nat) (h : ev_H) : Nat → Int32 := fun k => if k = 0 then hI h t 3 else if k = 1 then hI h t 4 else if k = 17 then hI h t 5 else if k = 18 then hI h t 6 else if k < 12 then hI h (t + 1) (k - 2) else hI h (t + 2) (k - 12)
theorem XS.xt {t : Nat} {h : ev_H} (x : XS t h) : XT t (rdX t h) (hI h t 2) h := by
  obtain ⟨x0, x1, x2, x3, x4⟩ := x
  refine ⟨x0, x1, x2, x3, x4, ⟨rfl, rfl, rfl, rfl, rfl⟩, fun k hk => ?_, fun k hk => ?_⟩
  · unfold rdX
    rw [if_neg (by omega), if_neg (by omega), if_neg (by omega), if_neg (by omega), if_pos (by omega), show 2 + k - 2 = k by omega]
  · unfold rdX
    rw [if_neg (by omega), if_neg (by omega), if_neg (by omega), if_neg (by omega), if_neg (by omega), show 12 + k - 12 = k by omega]
theorem XT.xs {t : Nat} {T : Nat → Int32} {sh : Int32} {h : ev_H} (x : XT t T sh h) : XS t h := ⟨x.1, x.2.1, x.2.2.1, x.2.2.2.1, x.2.2.2.2.1⟩
def xAd : Nat → Nat := fun k => match k with
  | 0 => 65
  | 5 => 74
  | 6 => 77
  | 7 => 80
  | 9 => 83
  | 12 => 84
  | 13 => 85
  | 14 => 86
  | 16 => 87
  | 17 => 90
  | 19 => 93
  | 20 => 95
  | 21 => 132
  | 22 => 133
  | 23 => 134
  | _ => 0
/-- the system's object and what it made at once stand where they were made -/
def XLay (h : ev_H) : Prop := hK h 64 = 1 ∧ (∀ k, k < 24 → xAd k ≠ 0 → hR h 64 k = xAd k) ∧ ((hK h 65 = 101 ∧ hL h 65 = 1600) ∧ (hK h 83 = 105 ∧ hL h 83 = 40) ∧ (hK h 84 = 100 ∧ hL h 84 = 6) ∧ (hK h 85 = 100 ∧ hL h 85 = 6) ∧ (hK h 86 = 100 ∧ hL h 86 = 6) ∧ (hK h 132 = 102 ∧ hL h 132 = 36) ∧ (hK h 133 = 105 ∧ hL h 133 = 3) ∧ (hK h 134 = 102 ∧ hL h 134 = 3)) ∧ ((hK h 87 = 106 ∧ hL h 87 = 2 ∧ ∀ j, j < 2 → hR h 87 j = 88 + j ∧ hK h (88 + j) = 100 ∧ hL h (88 + j) = 2) ∧ (hK h 90 = 106 ∧ hL h 90 = 2 ∧ ∀ j, j < 2 → hR h 90 j = 91 + j ∧ hK h (91 + j) = 100 ∧ hL h (91 + j) = 2) ∧ (hK h 95 = 106 ∧ hL h 95 = 36 ∧ ∀ j, j < 36 → hR h 95 j = 96 + j ∧ hK h (96 + j) = 100 ∧ hL h (96 + j) = 5)) ∧ XS 74 h ∧ XS 77 h ∧ XS 80 h ∧ (∀ j, j < 40 → XS (135 + 3 * j) h) ∧ ∀ j, j < 3 → hR h 133 j = 255 + 3 * j ∧ XS (255 + 3 * j) h
section XLS
variable {h h1 : ev_H}
theorem XLay.fr {as : List Nat} (x : XLay h) (p : Fr as [] h h1) : XLay h1 := by
  unfold XLay XS at x ⊢
  rw [p.2.1, p.2.2.1, p.2.2.2.1]
  exact x
theorem XLay.k (x : XLay h) : hK h 64 = 1 := x.1
theorem XLay.r (x : XLay h) (k : Nat) (hk : k < 24) (h0 : xAd k ≠ 0) : hR h 64 k = xAd k := x.2.1 k hk h0
theorem XLay.tape (x : XLay h) : hK h 65 = 101 ∧ hL h 65 = 1600 := x.2.2.1.1
theorem XLay.were (x : XLay h) : hK h 83 = 105 ∧ hL h 83 = 40 := x.2.2.1.2.1
theorem XLay.lies (x : XLay h) : hK h 84 = 100 ∧ hL h 84 = 6 := x.2.2.1.2.2.1
theorem XLay.row (x : XLay h) : hK h 85 = 100 ∧ hL h 85 = 6 := x.2.2.1.2.2.2.1
theorem XLay.best (x : XLay h) : hK h 86 = 100 ∧ hL h 86 = 6 := x.2.2.1.2.2.2.2.1
theorem XLay.fit (x : XLay h) : hK h 132 = 102 ∧ hL h 132 = 36 := x.2.2.1.2.2.2.2.2.1
theorem XLay.boxes (x : XLay h) : hK h 133 = 105 ∧ hL h 133 = 3 := x.2.2.1.2.2.2.2.2.2.1
theorem XLay.there (x : XLay h) : hK h 134 = 102 ∧ hL h 134 = 3 := x.2.2.1.2.2.2.2.2.2.2
theorem XLay.s74 (x : XLay h) : XS 74 h := x.2.2.2.2.1
theorem XLay.s77 (x : XLay h) : XS 77 h := x.2.2.2.2.2.1
theorem XLay.s80 (x : XLay h) : XS 80 h := x.2.2.2.2.2.2.1
theorem XLay.sw (x : XLay h) {j : Nat} (hj : j < 40) : XS (135 + 3 * j) h := x.2.2.2.2.2.2.2.1 j hj
theorem XLay.sb (x : XLay h) {j : Nat} (hj : j < 3) : hR h 133 j = 255 + 3 * j ∧ XS (255 + 3 * j) h := x.2.2.2.2.2.2.2.2 j hj
end XLS
/-- the system holds the book b and, now, the table T -/
def XM (b : Bk) (K : XK) (T : Nat → Int32) (h : ev_H) : Prop := XLay h ∧ hR h 64 4 = kB K ∧ XB b K h ∧ XT 74 T (-1) h ∧ TW b T
abbrev QF (K : XK) : List Nat := [kAk K, 80, 81, 82]
section XMS
variable {b : Bk} {K : XK} {T : Nat → Int32} {h h1 : ev_H}
theorem XM.lay (x : XM b K T h) : XLay h := x.1
theorem XM.bk (x : XM b K T h) : hR h 64 4 = kB K := x.2.1
theorem XM.xb (x : XM b K T h) : XB b K h := x.2.2.1
theorem XM.xt (x : XM b K T h) : XT 74 T (-1) h := x.2.2.2.1
theorem XM.tw (x : XM b K T h) : TW b T := x.2.2.2.2
theorem XM.bw (x : XM b K T h) : BW b := x.xb.bw
theorem XM.okQ (x : XM b K T h) : ∀ a ∈ QF K, okX (hK h a) = true := fun a ha => by
  have hs := x.lay.s80
  rcases List.mem_cons.mp ha with e | e
  · rw [e, x.xb.akk]; rfl
  · exact hs.xt.okT a e
theorem XM.neQ (x : XM b K T h) : 74 ∉ QF K ∧ 75 ∉ QF K ∧ 76 ∉ QF K ∧ 64 ∉ QF K := by
  have hn := x.xt.neA x.xb
  have e64 : 64 ≠ kAk K := fun e => by have h1 := x.lay.k; rw [e, x.xb.akk] at h1; cases h1
  refine ⟨fun z => ?_, fun z => ?_, fun z => ?_, fun z => ?_⟩
  · rcases List.mem_cons.mp z with e | e
    · exact hn.1 e
    · exact absurd e (by decide)
  · rcases List.mem_cons.mp z with e | e
    · exact hn.2.1 e
    · exact absurd e (by decide)
  · rcases List.mem_cons.mp z with e | e
    · exact hn.2.2 e
    · exact absurd e (by decide)
  · rcases List.mem_cons.mp z with e | e
    · exact e64 e
    · exact absurd e (by decide)
theorem XM.fq (x : XM b K T h) (p : Fr (QF K) [] h h1) : XM b K T h1 := ⟨x.lay.fr p, by rw [p.2.2.2.1]; exact x.bk, x.xb.fr p x.okQ, x.xt.fr p x.neQ.1 x.neQ.2.1 x.neQ.2.2.1, x.tw⟩
theorem frq_t (p : Fr [80, 80 + 1, 80 + 2] [] h h1) : Fr (QF K) [] h h1 := p.wk (fun a ha => List.mem_cons_of_mem _ ha) (fun _ z => z)
theorem frq_a (p : Fr [kAk K] [] h h1) : Fr (QF K) [] h h1 := p.wk (fun a ha => by rw [List.mem_singleton.mp ha]; exact List.mem_cons_self) (fun _ z => z)
theorem frq_g (p : Fr [kAk K, 80, 80 + 1, 80 + 2] [] h h1) : Fr (QF K) [] h h1 := p
theorem XM.fld (x : XM b K T h) (p : Fr (QF K) [] h h1) (k : Nat) : hI h1 64 k = hI h 64 k := p.2.2.2.2.2 64 k x.neQ.2.2.2 (fun _ => by simp)
/-- tried is made a copy of now -/
theorem xq_copy {G : ev_G} (x : XM b K T h) : Called G mX3_copy 1 0 0 [vR 80, vR 74] h (pR (fun y h1 => y = 80 ∧ Fr [80, 80 + 1, 80 + 2] [] h h1 ∧ XT 80 T (-1) h1)) := x3_copy x.lay.s80.xt x.xt (by decide)
end XMS
