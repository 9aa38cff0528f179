/-! ===== the tape, time, rows that lie, what was heard, boxes ===== -/
set_option maxRecDepth 100000
section EVQ
variable {G : ev_G} {M : ev_M} {R : Room} {Qf : List Frame → Array Value → State → State → Prop} {post : Option ev_V → ev_H → Prop} {pc uc us mc ms : Nat} {L : List (Option ev_V)} {st : List ev_V} {h : ev_H}
theorem r_ldcw {index : Nat} {v : Int32} (q : Cond.constant M.1.cls index v ∈ lw_all) (hd : decode M.2.1 pc = .ok (.ldc_w index, 3)) (k : Ev G M R Qf (pc + 3) L (vI v :: st) h uc us) : Ev G M R Qf pc L st h uc us := fun p e s m args below meth c H locs ls X hr hS hl => lv_ldcw X.1 X.2.1 X.2.2.2.2.2.1 (X.2.2.2.2.2.2.1 _ q) hd (k p e s m args below meth c H locs ls X hr hS hl)
theorem r_ldc {index : Nat} {v : Int32} (q : Cond.constant M.1.cls index v ∈ lw_all) (hd : decode M.2.1 pc = .ok (.ldc index, 2)) (k : Ev G M R Qf (pc + 2) L (vI v :: st) h uc us) : Ev G M R Qf pc L st h uc us := fun p e s m args below meth c H locs ls X hr hS hl => lv_ldc X.1 X.2.1 X.2.2.2.2.2.1 (X.2.2.2.2.2.2.1 _ q) hd (k p e s m args below meth c H locs ls X hr hS hl)
end EVQ
/-- a row of n numbers in the array a -/
def Ar (a n : Nat) (f : Nat → Int32) (h : ev_H) : Prop := ∀ i, i < n → hI h a i = f i
theorem Ar.fr {a n : Nat} {f : Nat → Int32} {as fs : List Nat} {h h1 : ev_H} (hA : Ar a n f h) (p : Fr as fs h h1) (o1 : a ∉ as) (o2 : a ≠ aM) : Ar a n f h1 := fun i hi => (p.ar a o1 o2 i).trans (hA i hi)
theorem Ar.up {a n : Nat} {f : Nat → Int32} {h : ev_H} (hA : Ar a n f h) (e : Nat) (v : Int32) : Ar a n (u1 f e v) (sI h a e v) := by
  intro k hk
  by_cases hke : k = e
  · subst hke
    rw [u1_self]
    exact u2_self
  · rw [u1_ne hke, show hI (sI h a e v) a k = hI h a k from u2_ne (fun z => hke z.2)]
    exact hA k hk
theorem Ar.eq {a n : Nat} {f g : Nat → Int32} {h : ev_H} (hA : Ar a n f h) (e : ∀ i, i < n → f i = g i) : Ar a n g h := fun i hi => (hA i hi).trans (e i hi)
theorem Ar.pos {ok : Bool} {a n : Nat} {f g : Nat → Int32} {h : ev_H} (e : ok = true) (hA : Ar a n f h) : Ar a n (if ok then f else g) h := by rw [if_pos e]; exact hA
theorem Ar.neg {ok : Bool} {a n : Nat} {f g : Nat → Int32} {h : ev_H} (e : ok = false) (hA : Ar a n g h) : Ar a n (if ok then f else g) h := by rw [if_neg (by rw [e]; decide)]; exact hA
def liesV (R : Nat → Int32) (nl : Nat) (p : Int32) : Int32 := if isInV p 0 (nI nl - 1) then R p.toNatClampNeg else -1
def laterOk (tm w : Int32) : Bool := isInV w 0 (nI 1000) && decide (tm + w ≤ 100000)
def faultV (fk fp w : Int32) : Int32 := if w = 0 then fk else if w = nI 1 then fp else -1
def endOk (nt : Nat) (p : Int32) : Bool := !decide (p < 0) && decide (p ≤ nI nt)
def unOk (U : Nat → Int32) (nh : Nat) (p : Int32) : Bool := isInV p 0 (nI nh - 1) && decide (U p.toNatClampNeg < 0)
def oddsV (b : Bk) (n w : Int32) : Int32 := if isInV n 0 (nI 4) && isInV w 0 1 then (if w = 0 then nI ((100 - bSn b) ^ n.toNatClampNeg) else nI (100 ^ n.toNatClampNeg)) / nI (Nat.gcd (100 ^ n.toNatClampNeg) ((100 - bSn b) ^ n.toNatClampNeg)) else -1
theorem isIn_m {m : Nat} (hm : m < 2 ^ 31) {p : Int32} (h : isInV p 0 (nI m) = true) : ∃ j, j ≤ m ∧ p = nI j := by
  unfold isInV at h
  simp only [Bool.and_eq_true, Bool.not_eq_true', decide_eq_false_iff_not] at h
  obtain ⟨j, hj, rfl⟩ := nI_of h.1
  refine ⟨j, ?_, rfl⟩
  have h2 := h.2
  rcases Nat.lt_or_ge m j with q | q
  · exact absurd (nI_lt q hj) h2
  · exact q
section EVQ2
variable {G : ev_G} {M : ev_M} {R : Room} {Qf : List Frame → Array Value → State → State → Prop} {post : Option ev_V → ev_H → Prop} {pc uc us mc ms : Nat} {L : List (Option ev_V)} {st : List ev_V} {h : ev_H}
theorem r_zastx {i y : Int32} {a n N : Nat} (hk : hK h a = 102) (ha : ev_c < a) (hl : hL h a = N) (hi : ix i n N) (hv : narrow .boolean (.int y) = .int y) (hd : decode M.2.1 pc = .ok (.bastore, 1))
    (kk : Ev G M R Qf (pc + 1) L st (sI h a n y) uc us) : Ev G M R Qf pc L (vI y :: vI i :: vR a :: st) h uc us := r_zast hk ha (by rw [hl]; exact (ix_in hi).1) hv hd (by rw [(ix_in hi).2]; exact kk)
end EVQ2
theorem pu_stepA {h : ev_H} {a N n i : Nat} {W T : Nat → Int32} {v : Int32} (hv : v = T i) (hq : Ar a N (puP W n i T) h) : Ar a N (puP W n (i + 1) T) (sI h a (19 * n + i) v) := by
  refine (hq.up (19 * n + i) v).eq fun j _ => ?_
  unfold puP
  by_cases hji : j = 19 * n + i
  · subst hji
    rw [u1_self, if_pos ⟨by omega, by omega⟩, show 19 * n + i - 19 * n = i by omega, hv]
  · rw [u1_ne hji]
    by_cases h2 : 19 * n ≤ j ∧ j < 19 * n + i
    · rw [if_pos h2]
      exact (if_pos ⟨h2.1, by omega⟩).symm
    · rw [if_neg h2]
      exact (if_neg (fun z => h2 ⟨z.1, by omega⟩)).symm
theorem puP_19 {W T : Nat → Int32} {n : Nat} : puP W n 19 T = puW W n T := rfl
/-- the table with which a book begins -/
def layT (b : Bk) : Nat → Int32 := fun k => if 2 ≤ k ∧ k < 12 then (if k - 2 < nT b then bIn b (k - 2) else -1) else if k = 18 then nI (bDr b) else 0
def layP (b : Bk) (n : Nat) : Nat → Int32 := fun k => if 2 ≤ k ∧ k < 2 + n then (if k - 2 < nT b then bIn b (k - 2) else -1) else 0
theorem lay_step {b : Bk} {n : Nat} {v : Int32} {h : ev_H} (hT : MT (layP b n) h) (hv : v = if n < nT b then bIn b n else -1) : MT (layP b (n + 1)) (sI h aAll (2 + n) v) := by
  refine (hT.up _ _).eq fun k _ => ?_
  unfold layP
  by_cases hk : k = 2 + n
  · subst hk
    rw [u1_self, if_pos ⟨by omega, by omega⟩, show 2 + n - 2 = n by omega, hv]
  · rw [u1_ne hk]
    by_cases h2 : 2 ≤ k ∧ k < 2 + n
    · rw [if_pos h2]
      exact (if_pos ⟨h2.1, by omega⟩).symm
    · rw [if_neg h2]
      exact (if_neg (fun z => h2 ⟨z.1, by omega⟩)).symm
theorem layT_eq {b : Bk} (q : Nat) : u1 (layP b 10) 18 (nI (bDr b)) q = layT b q := by
  unfold layT
  by_cases h1 : q = 18
  · subst h1
    rw [u1_self, if_neg (by omega), if_pos rfl]
  · rw [u1_ne h1]
    unfold layP
    by_cases h2 : 2 ≤ q ∧ q < 12
    · rw [if_pos h2]
      exact (if_pos h2).symm
    · rw [if_neg h2, if_neg h1]
      exact (if_neg h2).symm
/-- who has heard it, behind the first n things -/
def ruI (b : Bk) (T : Nat → Int32) (set : Int32) : Nat → Int32
  | 0 => set
  | t + 1 => if !stV T t && tb set (bBy b t) then ruI b T set t ||| one (bTo b t) else ruI b T set t
def rset (b : Bk) (T : Nat → Int32) (p : Int32) : Nat → Int32
  | 0 => (1 : Int32) <<< (p &&& 31)
  | n + 1 => ruI b T (rset b T p n) (nT b)
def firstOf : Nat → (Nat → Bool) → Option Nat
  | 0, _ => none
  | n + 1, p => match firstOf n p with
    | some j => some j
    | none => if p n then some n else none
theorem first_t {n : Nat} {p : Nat → Bool} (h0 : firstOf n p = none) (h : p n = true) : ∀ m, firstOf (n + 1 + m) p = some n
  | 0 => by show (match firstOf n p with | some j => some j | none => if p n then some n else none) = _; rw [h0]; exact if_pos h
  | m + 1 => by show (match firstOf (n + 1 + m) p with | some j => some j | none => _) = _; rw [first_t h0 h m]
theorem first_f {n : Nat} {p : Nat → Bool} (h0 : firstOf n p = none) (h : p n = false) : firstOf (n + 1) p = none := by
  show (match firstOf n p with | some j => some j | none => if p n then some n else none) = _
  rw [h0]
  exact if_neg (by rw [h]; decide)
def rumV (b : Bk) (T : Nat → Int32) (N : Nat) (p o : Int32) : Int32 := if perV b p && perV b o then optI (firstOf N (fun n => tbI (rset b T p n) o)) else -1
theorem rumV_o {b : Bk} {T : Nat → Int32} {N : Nat} {p o : Int32} (h : (perV b p && perV b o) = false) : (-1 : Int32) = rumV b T N p o := (if_neg (by rw [h]; decide)).symm
theorem rumV_n {b : Bk} {T : Nat → Int32} {N : Nat} {p o : Int32} (hp : perV b p = true) (ho : perV b o = true) (h : firstOf N (fun n => tbI (rset b T p n) o) = none) : (-1 : Int32) = rumV b T N p o := by
  unfold rumV
  rw [if_pos (by rw [hp, ho]; rfl), h]
  rfl
theorem rumV_s {b : Bk} {T : Nat → Int32} {N i : Nat} {p o : Int32} (hp : perV b p = true) (ho : perV b o = true) (hi : i < N) (h : firstOf i (fun n => tbI (rset b T p n) o) = none) (h1 : tbI (rset b T p i) o = true) : nI i = rumV b T N p o := by
  unfold rumV
  rw [if_pos (by rw [hp, ho]; rfl), show N = i + 1 + (N - i - 1) by omega, first_t h h1]
  rfl
theorem ruI_t {b : Bk} {T : Nat → Int32} {set : Int32} {t : Nat} (h : (!stV T t && tb set (bBy b t)) = true) : ruI b T set t ||| one (bTo b t) = ruI b T set (t + 1) := (if_pos h).symm
theorem ruI_f {b : Bk} {T : Nat → Int32} {set : Int32} {t : Nat} (h : (!stV T t && tb set (bBy b t)) = false) : ruI b T set t = ruI b T set (t + 1) := (if_neg (by rw [h]; decide)).symm
def abV (b : Bk) (T : Nat → Int32) (na nu nh nt nl : Nat) (tm w : Int32) : Int32 := if w = nI 0 then nI (nT b) else if w = nI 1 then nI (nP b) else if w = nI 2 then nI (nS b) else if w = nI 3 then T 0 else if w = nI 4 then T 1 else if w = nI 5 then T 17 else if w = nI 6 then T 18 else if w = nI 7 then nI na else if w = nI 8 then nI nu else if w = nI 9 then nI nh else if w = nI 10 then tm else if w = nI 11 then nI nt else if w = nI 12 then nI (bUn b) else if w = nI 13 then nI nl else if w = nI 14 then nI (bSn b) else if w = nI 15 then heatV b (keptV b T) else -1
/-- the k-th of twenty bytes -/
def feedW (a c d e f : Int32) (k : Nat) : Int32 := if k < 4 then a else if k < 8 then c else if k < 12 then d else if k < 16 then e else f
def feedB (a c d e f : Int32) (k : Nat) : Int32 := ((feedW a c d e f k) >>> (nI (24 - 8 * (k % 4)) &&& 31)).toInt8.toInt32
def feedT (tp : Nat → Int32) (nt n : Nat) (a c d e f : Int32) : Nat → Int32 := fun i => if nt ≤ i ∧ i < nt + n then feedB a c d e f (i - nt) else tp i
theorem feed_step {h : ev_H} {tp : Nat → Int32} {nt n : Nat} {a c d e f v : Int32} (hA : Ar aTape 1620 (feedT tp nt n a c d e f) h) (hv : v = feedB a c d e f n) : Ar aTape 1620 (feedT tp nt (n + 1) a c d e f) (sI h aTape (nt + n) v) := by
  refine (hA.up _ _).eq fun k _ => ?_
  unfold feedT
  by_cases hk : k = nt + n
  · subst hk
    rw [u1_self, if_pos ⟨by omega, by omega⟩, show nt + n - nt = n by omega, hv]
  · rw [u1_ne hk]
    by_cases h2 : nt ≤ k ∧ k < nt + n
    · rw [if_pos h2]
      exact (if_pos ⟨h2.1, by omega⟩).symm
    · rw [if_neg h2]
      exact (if_neg (fun z => h2 ⟨z.1, by omega⟩)).symm
