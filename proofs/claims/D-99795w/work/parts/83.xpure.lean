/-! ===== bits, tables within bounds, frames of the system's writes ===== -/
set_option maxRecDepth 100000
theorem nI_or (a b : Nat) : nI a ||| nI b = nI (a ||| b) := by
  apply Int32.toBitVec_inj.mp
  simp [nI, BitVec.ofNat_or]
theorem setOf_lt (p : Nat → Bool) : ∀ m : Nat, m ≤ 30 → ∃ n, n < 2 ^ m ∧ setOf m p = nI n
  | 0, _ => ⟨0, by decide, rfl⟩
  | m + 1, hm => by
    obtain ⟨n, hn, e⟩ := setOf_lt p m (by omega)
    show ∃ n, n < 2 ^ (m + 1) ∧ (if p m then setOf m p ||| one m else setOf m p) = nI n
    split
    · refine ⟨n ||| 2 ^ m, Nat.or_lt_two_pow (by rw [Nat.pow_succ]; omega) (by rw [Nat.pow_succ]; have := Nat.two_pow_pos m; omega), ?_⟩
      rw [e, one_n (by omega), nI_or]
    · exact ⟨n, by rw [Nat.pow_succ]; omega, e⟩
def b1_ (x : Int32) : Int32 := x - ((x.toUInt32 >>> ((1 : Int32).toUInt32 &&& Int32.toUInt32 31)).toInt32 &&& 1431655765)
def b2_ (x : Int32) : Int32 := (x &&& 858993459) + ((x.toUInt32 >>> ((2 : Int32).toUInt32 &&& Int32.toUInt32 31)).toInt32 &&& 858993459)
def b3_ (x : Int32) : Int32 := (x + (x.toUInt32 >>> ((4 : Int32).toUInt32 &&& Int32.toUInt32 31)).toInt32) &&& 252645135
def b4_ (x : Int32) : Int32 := x + (x.toUInt32 >>> ((8 : Int32).toUInt32 &&& Int32.toUInt32 31)).toInt32
def b5_ (x : Int32) : Int32 := x + (x.toUInt32 >>> ((16 : Int32).toUInt32 &&& Int32.toUInt32 31)).toInt32
def bok : Nat → Bool
  | 0 => true
  | n + 1 => decide (b5_ (b4_ (b3_ (b2_ (b1_ (nI n))))) &&& 63 = popc (nI n)) && bok n
theorem bok_at : ∀ (m n : Nat), bok m = true → n < m → b5_ (b4_ (b3_ (b2_ (b1_ (nI n))))) &&& 63 = popc (nI n)
  | 0, _, _, h => absurd h (Nat.not_lt_zero _)
  | m + 1, n, hb, h => by
    unfold bok at hb
    rw [Bool.and_eq_true, decide_eq_true_eq] at hb
    by_cases e : n = m
    · rw [e]; exact hb.1
    · exact bok_at m n hb.2 (by omega)
theorem bok_1024 : bok 1024 = true := by decide +kernel
theorem bcnt {n : Nat} (h : n < 1024) : b5_ (b4_ (b3_ (b2_ (b1_ (nI n))))) &&& 63 = popc (nI n) := bok_at 1024 n bok_1024 h
/-- what a table's out says, he being thought so shy (none: as told) -/
def outS (b : Bk) (T : Nat → Int32) (sh : Int32) (s : Nat) : Int32 := setOf (nT b) (fun t => tb (inV b T (nI s)) t && letS b T (if sh < 0 then nI (bSh b (bBy b t)) else sh) s t)
theorem outS_v (b : Bk) (T : Nat → Int32) (s : Nat) : outS b T (-1) s = outV b T s := rfl
theorem rdI_s {h : ev_H} {a k b j : Nat} {v : Int32} (hne : b ≠ a) : hI (sI h a k v) b j = hI h b j := u2_ne (fun z => hne z.1)
theorem rdI_k {h : ev_H} {a k j : Nat} {v : Int32} (hne : j ≠ k) : hI (sI h a k v) a j = hI h a j := u2_ne (fun z => hne z.2)
theorem rdI_c {h : ev_H} {a0 sp a dp n b j : Nat} (hne : b ≠ a) : hI (cpI h a0 sp a dp n) b j = hI h b j := congrFun (show u1 (hI h) a (va_cpy (hI h a0) (hI h a) sp dp n) b = hI h b from if_neg hne) j
theorem Fr.cp {as : List Nat} {h h1 : ev_H} (p : Fr as [] h h1) (a0 sp a dp n : Nat) (hin : a ∈ as) : Fr as [] h (cpI h1 a0 sp a dp n) := ⟨p.1, p.2.1, p.2.2.1, p.2.2.2.1, p.2.2.2.2.1, fun b j x y => (rdI_c (fun e => x (by rw [e]; exact hin))).trans (p.2.2.2.2.2 b j x y)⟩
section XFR
variable {b : Bk} {K : XK} {h h1 : ev_H} {t : Nat} {T : Nat → Int32} {sh : Int32}
theorem XB.okA (hb : XB b K h) : ∀ a ∈ [kAk K], okX (hK h a) = true := fun a ha => by
  rw [List.mem_singleton.mp ha, hb.akk]
  rfl
theorem XB.frA (hb : XB b K h) (g : Fr [kAk K] [] h h1) : XB b K h1 := hb.fr g hb.okA
theorem XT.neA (hT : XT t T sh h) (hb : XB b K h) : t ≠ kAk K ∧ t + 1 ≠ kAk K ∧ t + 2 ≠ kAk K := by
  have e1 := hT.k
  have e2 := hT.kin
  have e3 := hT.kgr
  have e4 := hb.akk
  refine ⟨fun e => ?_, fun e => ?_, fun e => ?_⟩
  · rw [e, e4] at e1; cases e1
  · rw [e, e4] at e2; cases e2
  · rw [e, e4] at e3; cases e3
theorem XT.frA (hT : XT t T sh h) (hb : XB b K h) (g : Fr [kAk K] [] h h1) : XT t T sh h1 := by
  have hn := hT.neA hb
  exact hT.fr g (fun z => hn.1 (List.mem_singleton.mp z)) (fun z => hn.2.1 (List.mem_singleton.mp z)) (fun z => hn.2.2 (List.mem_singleton.mp z))
theorem XT.okT (hT : XT t T sh h) : ∀ a ∈ [t, t + 1, t + 2], okX (hK h a) = true := fun a ha => by
  simp only [List.mem_cons, List.not_mem_nil, or_false] at ha
  rcases ha with rfl | rfl | rfl
  · rw [hT.k]; rfl
  · rw [hT.kin]; rfl
  · rw [hT.kgr]; rfl
theorem XB.frT (hb : XB b K h) (hT : XT t T sh h) (g : Fr [t, t + 1, t + 2] [] h h1) : XB b K h1 := hb.fr g hT.okT
/-- another table -/
theorem XT.frO {x : Nat} {U : Nat → Int32} {su : Int32} (hX : XT x U su h) (hap : t + 3 ≤ x ∨ x + 3 ≤ t) (g : Fr [t, t + 1, t + 2] [] h h1) : XT x U su h1 := hX.fr g (by simp; omega) (by simp; omega) (by simp; omega)
theorem Fr.tr2 {as1 as2 as : List Nat} {h2 : ev_H} (p : Fr as1 [] h h1) (q : Fr as2 [] h1 h2) (e1 : ∀ a ∈ as1, a ∈ as) (e2 : ∀ a ∈ as2, a ∈ as) : Fr as [] h h2 := (p.wk e1 (fun _ z => z)).tr (q.wk e2 (fun _ z => z))
end XFR
/-- all of a table is written out of another -/
theorem XT.copied {h : ev_H} {t x : Nat} {T U : Nat → Int32} {sh su : Int32} (hT : XT t T sh h) (hX : XT x U su h) (hap : t + 3 ≤ x ∨ x + 3 ≤ t) :
    XT t U (-1) (sI (sI (sI (sI (sI (cpI (cpI h (x + 1) 0 (t + 1) 0 10) (x + 2) 0 (t + 2) 0 5) t 2 (-1)) t 3 (U 0)) t 4 (U 1)) t 5 (U 17)) t 6 (U 18)) := by
  obtain ⟨x0, x1, x2, x3, x4, -, -, -⟩ := hT
  refine ⟨x0, x1, x2, x3, x4, ⟨(rdI_k (by decide)).trans ((rdI_k (by decide)).trans ((rdI_k (by decide)).trans ((rdI_k (by decide)).trans u2_self))), (rdI_k (by decide)).trans ((rdI_k (by decide)).trans ((rdI_k (by decide)).trans u2_self)), (rdI_k (by decide)).trans ((rdI_k (by decide)).trans u2_self), (rdI_k (by decide)).trans u2_self, u2_self⟩, fun k hk => ?_, fun k hk => ?_⟩
  · refine (rdI_s (by omega)).trans ((rdI_s (by omega)).trans ((rdI_s (by omega)).trans ((rdI_s (by omega)).trans ((rdI_s (by omega)).trans ((rdI_c (by omega)).trans ?_)))))
    rw [cpI_at]
    unfold va_cpy
    rw [if_pos ⟨Nat.zero_le _, by omega⟩, Nat.zero_add, Nat.sub_zero]
    exact hX.in_ hk
  · refine (rdI_s (by omega)).trans ((rdI_s (by omega)).trans ((rdI_s (by omega)).trans ((rdI_s (by omega)).trans ((rdI_s (by omega)).trans ?_))))
    rw [cpI_at]
    unfold va_cpy
    rw [if_pos ⟨Nat.zero_le _, by omega⟩, Nat.zero_add, Nat.sub_zero, show hI (cpI h (x + 1) 0 (t + 1) 0 10) (x + 2) k = hI h (x + 2) k from rdI_c (by omega)]
    exact hX.gr_ hk
section EVMM
variable {G : ev_G} {M : ev_M} {R : Room} {Qf : List Frame → Array Value → State → State → Prop} {pc uc us : Nat} {L : List (Option ev_V)} {st : List ev_V} {h : ev_H}
theorem r_mmin {index : Nat} {x y : Int32} (w1 : Cond.methodLink M.1.cls index Lib.Math.min.name ∈ lw_all) (hf : 1 ≤ R.frames) (hlo : 40 ≤ R.locals) (hsw : Nat.ble (ev_sw st) 8 = true) (hc : uc ≤ R.cells) (hs : us ≤ R.slots) (hd : decode M.2.1 pc = .ok (.invokestatic index, 3))
    (kk : Ev G M R Qf (pc + 3) L (vI (if y < x then y else x) :: st) h uc us) : Ev G M R Qf pc L (vI y :: vI x :: st) h uc us := by
  intro p e s m args below meth c H locs ls X hr hS hl
  have hts := X.2.2.2.2.2.2.1
  have hsw8 := Nat.le_of_ble_eq_true hsw
  exact va_mmin X.1 X.2.1 (by rw [X.2.2.2.2.1]; exact hl.1.symm) X.2.2.2.2.2.1 (hts _ w1) (hts _ q564) (hts _ q152) (hts _ q565) hf (by rw [ev_sw_ok]; omega) hc hs hd (kk p e s m args below meth c H locs ls X hr hS hl)
theorem r_mmax {index : Nat} {x y : Int32} (w1 : Cond.methodLink M.1.cls index Lib.Math.max.name ∈ lw_all) (hf : 1 ≤ R.frames) (hlo : 40 ≤ R.locals) (hsw : Nat.ble (ev_sw st) 8 = true) (hc : uc ≤ R.cells) (hs : us ≤ R.slots) (hd : decode M.2.1 pc = .ok (.invokestatic index, 3))
    (kk : Ev G M R Qf (pc + 3) L (vI (if x < y then y else x) :: st) h uc us) : Ev G M R Qf pc L (vI y :: vI x :: st) h uc us := by
  intro p e s m args below meth c H locs ls X hr hS hl
  have hts := X.2.2.2.2.2.2.1
  have hsw8 := Nat.le_of_ble_eq_true hsw
  exact va_mmax X.1 X.2.1 (by rw [X.2.2.2.2.1]; exact hl.1.symm) X.2.2.2.2.2.1 (hts _ w1) (hts _ q546) (hts _ q152) (hts _ q547) hf (by rw [ev_sw_ok]; omega) hc hs hd (kk p e s m args below meth c H locs ls X hr hS hl)
end EVMM
