/-! ===== ROWS: values by name, booleans, calls by the kind of their answer, loops ===== -/
set_option maxRecDepth 100000
def b2i (p : Bool) : Int32 := match p with
  | true => 1
  | false => 0
theorem b2i_t : b2i true = 1 := rfl
theorem b2i_f : b2i false = 0 := rfl
theorem b2i_n (p : Bool) : narrow .boolean (.int (b2i p)) = .int (b2i p) := by cases p <;> rfl
theorem b2i_fit (p : Bool) : fits .boolean (.int (b2i p)) = true := by cases p <;> rfl
theorem b2i_0 {p : Bool} : b2i p = 0 ↔ p = false := by cases p <;> decide
theorem b2i_dec {c : Prop} [Decidable c] (h : c) : (1 : Int32) = b2i (decide c) := by rw [decide_eq_true h]; rfl
theorem b2i_decn {c : Prop} [Decidable c] (h : ¬ c) : (0 : Int32) = b2i (decide c) := by rw [decide_eq_false h]; rfl
/-- answers -/
def px (v : ev_V) (h : ev_H) : Option ev_V → ev_H → Prop := fun r h1 => r = some v ∧ h1 = h
def pI (q : Int32 → ev_H → Prop) : Option ev_V → ev_H → Prop := fun r h1 => ∃ x : Int32, r = some (vI x) ∧ q x h1
def pJ (q : Int64 → ev_H → Prop) : Option ev_V → ev_H → Prop := fun r h1 => ∃ x : Int64, r = some (vJ x) ∧ q x h1
def pR (q : Nat → ev_H → Prop) : Option ev_V → ev_H → Prop := fun r h1 => ∃ x : Nat, r = some (vR x) ∧ q x h1
def p0 (q : ev_H → Prop) : Option ev_V → ev_H → Prop := fun r h1 => r = none ∧ q h1
/-- a count from 0 to N, the body once for each -/
theorem ev_for {P : Nat → Prop} (N : Nat) (step : ∀ k, k ≤ N → (k < N → P (k + 1)) → P k) : ∀ k, k ≤ N → P k := by
  have h : ∀ n k, k ≤ N → N - k ≤ n → P k := by
    intro n
    induction n with
    | zero => exact fun k hk hn => step k hk (fun hlt => absurd hlt (by omega))
    | succ n ih => exact fun k hk hn => step k hk (fun hlt => ih (k + 1) hlt (by omega))
  exact fun k hk => h (N - k) k hk (Nat.le_refl _)
/-- downwards to 0 -/
theorem ev_down {P : Nat → Prop} (h0 : P 0) (step : ∀ k, P k → P (k + 1)) : ∀ k, P k := by
  intro k
  induction k with
  | zero => exact h0
  | succ k ih => exact step k ih
/-- as long as a measure falls -/
theorem ev_loop {σ : Type} {P : σ → Prop} (μ : σ → Nat) (step : ∀ s, (∀ s2, μ s2 < μ s → P s2) → P s) : ∀ s, P s := by
  have h : ∀ n s, μ s ≤ n → P s := by
    intro n
    induction n with
    | zero => exact fun s hs => step s (fun s2 h2 => absurd h2 (by omega))
    | succ n ih => exact fun s hs => step s (fun s2 h2 => ih s2 (by omega))
  exact fun s => h (μ s) s (Nat.le_refl _)
section EVX
variable {G : ev_G} {M : ev_M} {R : Room} {Qf : List Frame → Array Value → State → State → Prop} {post : Option ev_V → ev_H → Prop} {pc uc us mc ms : Nat} {L : List (Option ev_V)} {st : List ev_V} {h : ev_H}
theorem r_L {L2 : List (Option ev_V)} (e : L = L2) (k : Ev G M R Qf pc L2 st h uc us) : Ev G M R Qf pc L st h uc us := e ▸ k
theorem r_st {st2 : List ev_V} (e : st = st2) (k : Ev G M R Qf pc L st2 h uc us) : Ev G M R Qf pc L st h uc us := e ▸ k
theorem r_h {h2 : ev_H} (e : h = h2) (k : Ev G M R Qf pc L st h2 uc us) : Ev G M R Qf pc L st h uc us := e ▸ k
theorem r_top {x : Int32} (v : Int32) (e : x = v) (k : Ev G M R Qf pc L (vI v :: st) h uc us) : Ev G M R Qf pc L (vI x :: st) h uc us := e ▸ k
theorem r_topR {x : Nat} (v : Nat) (e : x = v) (k : Ev G M R Qf pc L (vR v :: st) h uc us) : Ev G M R Qf pc L (vR x :: st) h uc us := e ▸ k
theorem r_topJ {x : Int64} (v : Int64) (e : x = v) (k : Ev G M R Qf pc L (vJ v :: st) h uc us) : Ev G M R Qf pc L (vJ x :: st) h uc us := e ▸ k
theorem r_getIv {index ci k a : Nat} {fty : FieldType} {fin : Bool} {v : Int32} (F : ev_FL M.1.cls index ci k fty fin) (hk : hK h a = ci + 1) (e : hI h a k = v) (hv : ev_fv G h a fty k = .int (hI h a k)) (hd : decode M.2.1 pc = .ok (.getfield index, 3))
    (kk : Ev G M R Qf (pc + 3) L (vI v :: st) h uc us) : Ev G M R Qf pc L (vR a :: st) h uc us := r_getI F hk hv hd (e ▸ kk)
theorem r_getJv {index ci k a : Nat} {fin : Bool} {v : Int64} (F : ev_FL M.1.cls index ci k .long fin) (hk : hK h a = ci + 1) (e : hJ h a k = v) (hd : decode M.2.1 pc = .ok (.getfield index, 3))
    (kk : Ev G M R Qf (pc + 3) L (vJ v :: st) h uc us) : Ev G M R Qf pc L (vR a :: st) h uc us := r_getJ F hk hd (e ▸ kk)
theorem r_getRv {index ci k a v : Nat} {fty : FieldType} {fin : Bool} (F : ev_FL M.1.cls index ci k fty fin) (hk : hK h a = ci + 1) (e : hR h a k = v) (hv : ev_fv G h a fty k = va_rf (go G (hR h a k))) (hd : decode M.2.1 pc = .ok (.getfield index, 3))
    (kk : Ev G M R Qf (pc + 3) L (vR v :: st) h uc us) : Ev G M R Qf pc L (vR a :: st) h uc us := r_getR F hk hv hd (e ▸ kk)
/-- an index that is a number n below the length -/
def ix (i : Int32) (n N : Nat) : Prop := i = nI n ∧ n < N ∧ N < 2 ^ 31
theorem ix_in {i : Int32} {n N : Nat} (h : ix i n N) : vp_in i N ∧ i.toNatClampNeg = n := by
  obtain ⟨rfl, h1, h2⟩ := h
  exact ⟨vp_in_nI h1 h2, nI_clamp (by omega)⟩
theorem ix_n {n N : Nat} (h : n < N) (h2 : N < 2 ^ 31) : ix (nI n) n N := ⟨rfl, h, h2⟩
theorem r_ialdv {i : Int32} {a n N : Nat} {v : Int32} (hk : hK h a = 100) (hl : hL h a = N) (hi : ix i n N) (e : hI h a n = v) (hd : decode M.2.1 pc = .ok (.iaload, 1))
    (kk : Ev G M R Qf (pc + 1) L (vI v :: st) h uc us) : Ev G M R Qf pc L (vI i :: vR a :: st) h uc us := r_iald hk (by rw [hl]; exact (ix_in hi).1) hd (by rw [(ix_in hi).2, e]; exact kk)
theorem r_baldv {i : Int32} {a n N : Nat} {v : Int32} (hk : hK h a = 101) (hl : hL h a = N) (hi : ix i n N) (e : hI h a n = v) (hd : decode M.2.1 pc = .ok (.baload, 1))
    (kk : Ev G M R Qf (pc + 1) L (vI v :: st) h uc us) : Ev G M R Qf pc L (vI i :: vR a :: st) h uc us := r_bald hk (by rw [hl]; exact (ix_in hi).1) hd (by rw [(ix_in hi).2, e]; exact kk)
theorem r_zaldv {i : Int32} {a n N : Nat} {v : Int32} (hk : hK h a = 102) (hl : hL h a = N) (hi : ix i n N) (e : hI h a n = v) (hd : decode M.2.1 pc = .ok (.baload, 1))
    (kk : Ev G M R Qf (pc + 1) L (vI v :: st) h uc us) : Ev G M R Qf pc L (vI i :: vR a :: st) h uc us := r_zald hk (by rw [hl]; exact (ix_in hi).1) hd (by rw [(ix_in hi).2, e]; exact kk)
theorem r_laldv {i : Int32} {a n N : Nat} {v : Int64} (hk : hK h a = 103) (hl : hL h a = N) (hi : ix i n N) (e : hJ h a n = v) (hd : decode M.2.1 pc = .ok (.laload, 1))
    (kk : Ev G M R Qf (pc + 1) L (vJ v :: st) h uc us) : Ev G M R Qf pc L (vI i :: vR a :: st) h uc us := r_lald hk (by rw [hl]; exact (ix_in hi).1) hd (by rw [(ix_in hi).2, e]; exact kk)
theorem r_aaldv {i : Int32} {a n N t v : Nat} (hk : hK h a = 100 + t) (ht : 4 ≤ t) (hl : hL h a = N) (hi : ix i n N) (e : hR h a n = v) (hd : decode M.2.1 pc = .ok (.aaload, 1))
    (kk : Ev G M R Qf (pc + 1) L (vR v :: st) h uc us) : Ev G M R Qf pc L (vI i :: vR a :: st) h uc us := r_aald hk ht (by rw [hl]; exact (ix_in hi).1) hd (by rw [(ix_in hi).2, e]; exact kk)
theorem r_iastv {i x : Int32} {a n N : Nat} (hk : hK h a = 100) (ha : ev_c < a) (hl : hL h a = N) (hi : ix i n N) (hd : decode M.2.1 pc = .ok (.iastore, 1))
    (kk : Ev G M R Qf (pc + 1) L st (sI h a n x) uc us) : Ev G M R Qf pc L (vI x :: vI i :: vR a :: st) h uc us := r_iast hk ha (by rw [hl]; exact (ix_in hi).1) hd (by rw [(ix_in hi).2]; exact kk)
theorem r_bastv {i x v : Int32} {a n N : Nat} (hk : hK h a = 101) (ha : ev_c < a) (hl : hL h a = N) (hi : ix i n N) (hv : narrow .byte (.int x) = .int v) (hd : decode M.2.1 pc = .ok (.bastore, 1))
    (kk : Ev G M R Qf (pc + 1) L st (sI h a n v) uc us) : Ev G M R Qf pc L (vI x :: vI i :: vR a :: st) h uc us := r_bast hk ha (by rw [hl]; exact (ix_in hi).1) hv hd (by rw [(ix_in hi).2]; exact kk)
theorem r_zastv {i : Int32} {p : Bool} {a n N : Nat} (hk : hK h a = 102) (ha : ev_c < a) (hl : hL h a = N) (hi : ix i n N) (hd : decode M.2.1 pc = .ok (.bastore, 1))
    (kk : Ev G M R Qf (pc + 1) L st (sI h a n (b2i p)) uc us) : Ev G M R Qf pc L (vI (b2i p) :: vI i :: vR a :: st) h uc us := r_zast hk ha (by rw [hl]; exact (ix_in hi).1) (b2i_n p) hd (by rw [(ix_in hi).2]; exact kk)
theorem r_lastv {i : Int32} {x : Int64} {a n N : Nat} (hk : hK h a = 103) (ha : ev_c < a) (hl : hL h a = N) (hi : ix i n N) (hd : decode M.2.1 pc = .ok (.lastore, 1))
    (kk : Ev G M R Qf (pc + 1) L st (sJ h a n x) uc us) : Ev G M R Qf pc L (vJ x :: vI i :: vR a :: st) h uc us := r_last hk ha (by rw [hl]; exact (ix_in hi).1) hd (by rw [(ix_in hi).2]; exact kk)
theorem r_putB {index ci k a : Nat} {p : Bool} (F : ev_FL M.1.cls index ci k .boolean false) (hk : hK h a = ci + 1) (ha : ev_c < a) (hd : decode M.2.1 pc = .ok (.putfield index, 3))
    (kk : Ev G M R Qf (pc + 3) L st (sI h a k (b2i p)) uc us) : Ev G M R Qf pc L (vI (b2i p) :: vR a :: st) h uc us := r_putI F hk ha rfl (b2i_n p) (b2i_fit p) hd kk
theorem r_putN {index ci k a : Nat} {x : Int32} (F : ev_FL M.1.cls index ci k .int false) (hk : hK h a = ci + 1) (ha : ev_c < a) (hd : decode M.2.1 pc = .ok (.putfield index, 3))
    (kk : Ev G M R Qf (pc + 3) L st (sI h a k x) uc us) : Ev G M R Qf pc L (vI x :: vR a :: st) h uc us := r_putI F hk ha rfl rfl rfl hd kk
/-- branches on a boolean -/
theorem r_ifB_eq {p : Bool} {off : Int} {tgt : Nat} (hd : decode M.2.1 pc = .ok (.ifCond .eq off, 3)) (ht : (pc : Int) + off = (tgt : Int)) (kt : p = false → Ev G M R Qf tgt L st h uc us) (kf : p = true → Ev G M R Qf (pc + 3) L st h uc us) : Ev G M R Qf pc L (vI (b2i p) :: st) h uc us := r_if_eq hd ht (fun c => kt (b2i_0.mp c)) (fun c => kf (by cases p with | true => rfl | false => exact absurd rfl c))
theorem r_ifB_ne {p : Bool} {off : Int} {tgt : Nat} (hd : decode M.2.1 pc = .ok (.ifCond .ne off, 3)) (ht : (pc : Int) + off = (tgt : Int)) (kt : p = true → Ev G M R Qf tgt L st h uc us) (kf : p = false → Ev G M R Qf (pc + 3) L st h uc us) : Ev G M R Qf pc L (vI (b2i p) :: st) h uc us := r_if_ne hd ht (fun c => kt (by cases p with | true => rfl | false => exact absurd rfl c)) (fun c => kf (b2i_0.mp c))
/-- branches on numbers -/
theorem r_icmpN_ge {x y : Nat} {off : Int} {tgt : Nat} (hd : decode M.2.1 pc = .ok (.if_icmp .ge off, 3)) (ht : (pc : Int) + off = (tgt : Int)) (hx : x < 2 ^ 31) (hy : y < 2 ^ 31) (kt : y ≤ x → Ev G M R Qf tgt L st h uc us) (kf : x < y → Ev G M R Qf (pc + 3) L st h uc us) : Ev G M R Qf pc L (vI (nI y) :: vI (nI x) :: st) h uc us := r_icmp_ge hd ht (fun c => kt ((nI_leI hy hx).mp c)) (fun c => kf (Nat.not_le.mp (fun z => c ((nI_leI hy hx).mpr z))))
theorem r_icmpN_gt {x y : Nat} {off : Int} {tgt : Nat} (hd : decode M.2.1 pc = .ok (.if_icmp .gt off, 3)) (ht : (pc : Int) + off = (tgt : Int)) (hx : x < 2 ^ 31) (hy : y < 2 ^ 31) (kt : y < x → Ev G M R Qf tgt L st h uc us) (kf : x ≤ y → Ev G M R Qf (pc + 3) L st h uc us) : Ev G M R Qf pc L (vI (nI y) :: vI (nI x) :: st) h uc us := r_icmp_gt hd ht (fun c => kt ((nI_ltI hy hx).mp c)) (fun c => kf (Nat.not_lt.mp (fun z => c ((nI_ltI hy hx).mpr z))))
theorem r_iincN {i k n : Nat} {n9 : Int} (hd : decode M.2.1 pc = .ok (.iinc i n9, 3)) (e : n9 = (n : Int)) (hi : L[i]? = some (some (vI (nI k)))) (hn : i < M.2.2.1) (hw : ev_nl L i = true) (kk : Ev G M R Qf (pc + 3) (L.set i (some (vI (nI (k + n))))) st h uc us) : Ev G M R Qf pc L st h uc us := r_iinc hd hi (by rw [e, ← nI_add]; rfl) hn hw kk
/-- any answer -/
theorem r_wk {q : Option ev_V → ev_H → Prop} {d mc2 ms2 : Nat} {M2 : ev_M} {as : List ev_V} (hC : Called G M2 d mc2 ms2 as h q) : Called G M2 d mc2 ms2 as h q := hC
theorem r_callVx {index ci n a d : Nat} {M2 : ev_M} {as : List ev_V} {st0 : List ev_V} {v : ev_V} (V : ev_VL M.1.cls index M2 ci n) (hC : Called G M2 d 0 0 (vR a :: as) h (px v h)) (hk : hK h a = ci + 1) (hst : st0 = as.reverse ++ vR a :: st) (hn : as.length = n) (hw : Nat.ble (ev_sw st) 8 = true) (hro : ev_rok R d M2.2.2.1 = true) (hd : decode M.2.1 pc = .ok (.invokevirtual index, 3)) (hc : uc ≤ R.cells) (hs : us ≤ R.slots)
    (kk : Ev G M R Qf (pc + 3) L (v :: st) h uc us) : Ev G M R Qf pc L st0 h uc us := r_callV V hC hk hst hn hw hro hc hs hd (fun r h1 q => by obtain ⟨rfl, rfl⟩ := q; exact kk)
theorem r_callVi {index ci n a d mc2 ms2 : Nat} {M2 : ev_M} {as : List ev_V} {st0 : List ev_V} {q : Int32 → ev_H → Prop} (V : ev_VL M.1.cls index M2 ci n) (hC : Called G M2 d mc2 ms2 (vR a :: as) h (pI q)) (hk : hK h a = ci + 1) (hst : st0 = as.reverse ++ vR a :: st) (hn : as.length = n) (hw : Nat.ble (ev_sw st) 8 = true) (hro : ev_rok R d M2.2.2.1 = true) (hd : decode M.2.1 pc = .ok (.invokevirtual index, 3)) (hc : uc + mc2 ≤ R.cells) (hs : us + ms2 ≤ R.slots)
    (kk : ∀ (x : Int32) (h1 : ev_H), q x h1 → Ev G M R Qf (pc + 3) L (vI x :: st) h1 (uc + mc2) (us + ms2)) : Ev G M R Qf pc L st0 h uc us := r_callV V hC hk hst hn hw hro hc hs hd (fun r h1 q => by obtain ⟨x, rfl, q⟩ := q; exact kk x h1 q)
theorem r_callVj {index ci n a d mc2 ms2 : Nat} {M2 : ev_M} {as : List ev_V} {st0 : List ev_V} {q : Int64 → ev_H → Prop} (V : ev_VL M.1.cls index M2 ci n) (hC : Called G M2 d mc2 ms2 (vR a :: as) h (pJ q)) (hk : hK h a = ci + 1) (hst : st0 = as.reverse ++ vR a :: st) (hn : as.length = n) (hw : Nat.ble (ev_sw st) 8 = true) (hro : ev_rok R d M2.2.2.1 = true) (hd : decode M.2.1 pc = .ok (.invokevirtual index, 3)) (hc : uc + mc2 ≤ R.cells) (hs : us + ms2 ≤ R.slots)
    (kk : ∀ (x : Int64) (h1 : ev_H), q x h1 → Ev G M R Qf (pc + 3) L (vJ x :: st) h1 (uc + mc2) (us + ms2)) : Ev G M R Qf pc L st0 h uc us := r_callV V hC hk hst hn hw hro hc hs hd (fun r h1 q => by obtain ⟨x, rfl, q⟩ := q; exact kk x h1 q)
theorem r_callVr {index ci n a d mc2 ms2 : Nat} {M2 : ev_M} {as : List ev_V} {st0 : List ev_V} {q : Nat → ev_H → Prop} (V : ev_VL M.1.cls index M2 ci n) (hC : Called G M2 d mc2 ms2 (vR a :: as) h (pR q)) (hk : hK h a = ci + 1) (hst : st0 = as.reverse ++ vR a :: st) (hn : as.length = n) (hw : Nat.ble (ev_sw st) 8 = true) (hro : ev_rok R d M2.2.2.1 = true) (hd : decode M.2.1 pc = .ok (.invokevirtual index, 3)) (hc : uc + mc2 ≤ R.cells) (hs : us + ms2 ≤ R.slots)
    (kk : ∀ (x : Nat) (h1 : ev_H), q x h1 → Ev G M R Qf (pc + 3) L (vR x :: st) h1 (uc + mc2) (us + ms2)) : Ev G M R Qf pc L st0 h uc us := r_callV V hC hk hst hn hw hro hc hs hd (fun r h1 q => by obtain ⟨x, rfl, q⟩ := q; exact kk x h1 q)
theorem r_callVv {index ci n a d mc2 ms2 : Nat} {M2 : ev_M} {as : List ev_V} {st0 : List ev_V} {q : ev_H → Prop} (V : ev_VL M.1.cls index M2 ci n) (hC : Called G M2 d mc2 ms2 (vR a :: as) h (p0 q)) (hk : hK h a = ci + 1) (hst : st0 = as.reverse ++ vR a :: st) (hn : as.length = n) (hw : Nat.ble (ev_sw st) 8 = true) (hro : ev_rok R d M2.2.2.1 = true) (hd : decode M.2.1 pc = .ok (.invokevirtual index, 3)) (hc : uc + mc2 ≤ R.cells) (hs : us + ms2 ≤ R.slots)
    (kk : ∀ (h1 : ev_H), q h1 → Ev G M R Qf (pc + 3) L st h1 (uc + mc2) (us + ms2)) : Ev G M R Qf pc L st0 h uc us := r_callV V hC hk hst hn hw hro hc hs hd (fun r h1 q => by obtain ⟨rfl, q⟩ := q; exact kk h1 q)
theorem r_callSx {index n d : Nat} {M2 : ev_M} {as : List ev_V} {st0 : List ev_V} {v : ev_V} (V : ev_SL M.1.cls index M2 n) (hC : Called G M2 d 0 0 as h (px v h)) (hst : st0 = as.reverse ++ st) (hn : as.length = n) (hw : Nat.ble (ev_sw st) 8 = true) (hro : ev_rok R d M2.2.2.1 = true) (hd : decode M.2.1 pc = .ok (.invokestatic index, 3)) (hc : uc ≤ R.cells) (hs : us ≤ R.slots)
    (kk : Ev G M R Qf (pc + 3) L (v :: st) h uc us) : Ev G M R Qf pc L st0 h uc us := r_callS V hC hst hn hw hro hc hs hd (fun r h1 q => by obtain ⟨rfl, rfl⟩ := q; exact kk)
theorem r_callSi {index n d mc2 ms2 : Nat} {M2 : ev_M} {as : List ev_V} {st0 : List ev_V} {q : Int32 → ev_H → Prop} (V : ev_SL M.1.cls index M2 n) (hC : Called G M2 d mc2 ms2 as h (pI q)) (hst : st0 = as.reverse ++ st) (hn : as.length = n) (hw : Nat.ble (ev_sw st) 8 = true) (hro : ev_rok R d M2.2.2.1 = true) (hd : decode M.2.1 pc = .ok (.invokestatic index, 3)) (hc : uc + mc2 ≤ R.cells) (hs : us + ms2 ≤ R.slots)
    (kk : ∀ (x : Int32) (h1 : ev_H), q x h1 → Ev G M R Qf (pc + 3) L (vI x :: st) h1 (uc + mc2) (us + ms2)) : Ev G M R Qf pc L st0 h uc us := r_callS V hC hst hn hw hro hc hs hd (fun r h1 q => by obtain ⟨x, rfl, q⟩ := q; exact kk x h1 q)
theorem r_callSj {index n d mc2 ms2 : Nat} {M2 : ev_M} {as : List ev_V} {st0 : List ev_V} {q : Int64 → ev_H → Prop} (V : ev_SL M.1.cls index M2 n) (hC : Called G M2 d mc2 ms2 as h (pJ q)) (hst : st0 = as.reverse ++ st) (hn : as.length = n) (hw : Nat.ble (ev_sw st) 8 = true) (hro : ev_rok R d M2.2.2.1 = true) (hd : decode M.2.1 pc = .ok (.invokestatic index, 3)) (hc : uc + mc2 ≤ R.cells) (hs : us + ms2 ≤ R.slots)
    (kk : ∀ (x : Int64) (h1 : ev_H), q x h1 → Ev G M R Qf (pc + 3) L (vJ x :: st) h1 (uc + mc2) (us + ms2)) : Ev G M R Qf pc L st0 h uc us := r_callS V hC hst hn hw hro hc hs hd (fun r h1 q => by obtain ⟨x, rfl, q⟩ := q; exact kk x h1 q)
theorem r_callSr {index n d mc2 ms2 : Nat} {M2 : ev_M} {as : List ev_V} {st0 : List ev_V} {q : Nat → ev_H → Prop} (V : ev_SL M.1.cls index M2 n) (hC : Called G M2 d mc2 ms2 as h (pR q)) (hst : st0 = as.reverse ++ st) (hn : as.length = n) (hw : Nat.ble (ev_sw st) 8 = true) (hro : ev_rok R d M2.2.2.1 = true) (hd : decode M.2.1 pc = .ok (.invokestatic index, 3)) (hc : uc + mc2 ≤ R.cells) (hs : us + ms2 ≤ R.slots)
    (kk : ∀ (x : Nat) (h1 : ev_H), q x h1 → Ev G M R Qf (pc + 3) L (vR x :: st) h1 (uc + mc2) (us + ms2)) : Ev G M R Qf pc L st0 h uc us := r_callS V hC hst hn hw hro hc hs hd (fun r h1 q => by obtain ⟨x, rfl, q⟩ := q; exact kk x h1 q)
theorem r_callSv {index n d mc2 ms2 : Nat} {M2 : ev_M} {as : List ev_V} {st0 : List ev_V} {q : ev_H → Prop} (V : ev_SL M.1.cls index M2 n) (hC : Called G M2 d mc2 ms2 as h (p0 q)) (hst : st0 = as.reverse ++ st) (hn : as.length = n) (hw : Nat.ble (ev_sw st) 8 = true) (hro : ev_rok R d M2.2.2.1 = true) (hd : decode M.2.1 pc = .ok (.invokestatic index, 3)) (hc : uc + mc2 ≤ R.cells) (hs : us + ms2 ≤ R.slots)
    (kk : ∀ (h1 : ev_H), q h1 → Ev G M R Qf (pc + 3) L st h1 (uc + mc2) (us + ms2)) : Ev G M R Qf pc L st0 h uc us := r_callS V hC hst hn hw hro hc hs hd (fun r h1 q => by obtain ⟨rfl, q⟩ := q; exact kk h1 q)
theorem r_callIx {index n a d : Nat} {M2 : ev_M} {as : List ev_V} {st0 : List ev_V} {v : ev_V} (V : ev_IL M.1.cls index M2 n) (hC : Called G M2 d 0 0 (vR a :: as) h (px v h)) (hk : hK h a ≠ 0) (hst : st0 = as.reverse ++ vR a :: st) (hn : as.length = n) (hw : Nat.ble (ev_sw st) 8 = true) (hro : ev_rok R d M2.2.2.1 = true) (hd : decode M.2.1 pc = .ok (.invokespecial index, 3)) (hc : uc ≤ R.cells) (hs : us ≤ R.slots)
    (kk : Ev G M R Qf (pc + 3) L (v :: st) h uc us) : Ev G M R Qf pc L st0 h uc us := r_callI V hC hk hst hn hw hro hc hs hd (fun r h1 q => by obtain ⟨rfl, rfl⟩ := q; exact kk)
theorem r_callIi {index n a d mc2 ms2 : Nat} {M2 : ev_M} {as : List ev_V} {st0 : List ev_V} {q : Int32 → ev_H → Prop} (V : ev_IL M.1.cls index M2 n) (hC : Called G M2 d mc2 ms2 (vR a :: as) h (pI q)) (hk : hK h a ≠ 0) (hst : st0 = as.reverse ++ vR a :: st) (hn : as.length = n) (hw : Nat.ble (ev_sw st) 8 = true) (hro : ev_rok R d M2.2.2.1 = true) (hd : decode M.2.1 pc = .ok (.invokespecial index, 3)) (hc : uc + mc2 ≤ R.cells) (hs : us + ms2 ≤ R.slots)
    (kk : ∀ (x : Int32) (h1 : ev_H), q x h1 → Ev G M R Qf (pc + 3) L (vI x :: st) h1 (uc + mc2) (us + ms2)) : Ev G M R Qf pc L st0 h uc us := r_callI V hC hk hst hn hw hro hc hs hd (fun r h1 q => by obtain ⟨x, rfl, q⟩ := q; exact kk x h1 q)
theorem r_callIj {index n a d mc2 ms2 : Nat} {M2 : ev_M} {as : List ev_V} {st0 : List ev_V} {q : Int64 → ev_H → Prop} (V : ev_IL M.1.cls index M2 n) (hC : Called G M2 d mc2 ms2 (vR a :: as) h (pJ q)) (hk : hK h a ≠ 0) (hst : st0 = as.reverse ++ vR a :: st) (hn : as.length = n) (hw : Nat.ble (ev_sw st) 8 = true) (hro : ev_rok R d M2.2.2.1 = true) (hd : decode M.2.1 pc = .ok (.invokespecial index, 3)) (hc : uc + mc2 ≤ R.cells) (hs : us + ms2 ≤ R.slots)
    (kk : ∀ (x : Int64) (h1 : ev_H), q x h1 → Ev G M R Qf (pc + 3) L (vJ x :: st) h1 (uc + mc2) (us + ms2)) : Ev G M R Qf pc L st0 h uc us := r_callI V hC hk hst hn hw hro hc hs hd (fun r h1 q => by obtain ⟨x, rfl, q⟩ := q; exact kk x h1 q)
theorem r_callIr {index n a d mc2 ms2 : Nat} {M2 : ev_M} {as : List ev_V} {st0 : List ev_V} {q : Nat → ev_H → Prop} (V : ev_IL M.1.cls index M2 n) (hC : Called G M2 d mc2 ms2 (vR a :: as) h (pR q)) (hk : hK h a ≠ 0) (hst : st0 = as.reverse ++ vR a :: st) (hn : as.length = n) (hw : Nat.ble (ev_sw st) 8 = true) (hro : ev_rok R d M2.2.2.1 = true) (hd : decode M.2.1 pc = .ok (.invokespecial index, 3)) (hc : uc + mc2 ≤ R.cells) (hs : us + ms2 ≤ R.slots)
    (kk : ∀ (x : Nat) (h1 : ev_H), q x h1 → Ev G M R Qf (pc + 3) L (vR x :: st) h1 (uc + mc2) (us + ms2)) : Ev G M R Qf pc L st0 h uc us := r_callI V hC hk hst hn hw hro hc hs hd (fun r h1 q => by obtain ⟨x, rfl, q⟩ := q; exact kk x h1 q)
theorem r_callIv {index n a d mc2 ms2 : Nat} {M2 : ev_M} {as : List ev_V} {st0 : List ev_V} {q : ev_H → Prop} (V : ev_IL M.1.cls index M2 n) (hC : Called G M2 d mc2 ms2 (vR a :: as) h (p0 q)) (hk : hK h a ≠ 0) (hst : st0 = as.reverse ++ vR a :: st) (hn : as.length = n) (hw : Nat.ble (ev_sw st) 8 = true) (hro : ev_rok R d M2.2.2.1 = true) (hd : decode M.2.1 pc = .ok (.invokespecial index, 3)) (hc : uc + mc2 ≤ R.cells) (hs : us + ms2 ≤ R.slots)
    (kk : ∀ (h1 : ev_H), q h1 → Ev G M R Qf (pc + 3) L st h1 (uc + mc2) (us + ms2)) : Ev G M R Qf pc L st0 h uc us := r_callI V hC hk hst hn hw hro hc hs hd (fun r h1 q => by obtain ⟨rfl, q⟩ := q; exact kk h1 q)
/-- the ends, for answers with no new cell -/
theorem r_retx {x v : Int32} {ty : FieldType} (hd : decode M.2.1 pc = .ok (.ireturn, 1)) (hret : M.2.2.2 = some ty) (hn : narrow ty (.int x) = .int x) (e : x = v) : Ev G M R (ev_MQ G (px (vI v) h) 0 0) pc L [vI x] h 0 0 := r_ireturn hd hret hn (Nat.le_refl _) (Nat.le_refl _) ⟨by rw [e], rfl⟩
theorem r_retB {p v : Bool} (hd : decode M.2.1 pc = .ok (.ireturn, 1)) (hret : M.2.2.2 = some .boolean) (e : p = v) : Ev G M R (ev_MQ G (px (vI (b2i v)) h) 0 0) pc L [vI (b2i p)] h 0 0 := r_ireturn hd hret (b2i_n p) (Nat.le_refl _) (Nat.le_refl _) ⟨by rw [e], rfl⟩
theorem r_ret1 {v : Bool} (hd : decode M.2.1 pc = .ok (.ireturn, 1)) (hret : M.2.2.2 = some .boolean) (e : v = true) : Ev G M R (ev_MQ G (px (vI (b2i v)) h) 0 0) pc L [vI 1] h 0 0 := r_ireturn hd hret rfl (Nat.le_refl _) (Nat.le_refl _) ⟨by rw [e]; rfl, rfl⟩
theorem r_ret0 {v : Bool} (hd : decode M.2.1 pc = .ok (.ireturn, 1)) (hret : M.2.2.2 = some .boolean) (e : v = false) : Ev G M R (ev_MQ G (px (vI (b2i v)) h) 0 0) pc L [vI 0] h 0 0 := r_ireturn hd hret rfl (Nat.le_refl _) (Nat.le_refl _) ⟨by rw [e]; rfl, rfl⟩
theorem r_reti {x : Int32} {q : Int32 → ev_H → Prop} {ty : FieldType} (hd : decode M.2.1 pc = .ok (.ireturn, 1)) (hret : M.2.2.2 = some ty) (hn : narrow ty (.int x) = .int x) (hc : uc ≤ mc) (hs : us ≤ ms) (hq : q x h) : Ev G M R (ev_MQ G (pI q) mc ms) pc L [vI x] h uc us := r_ireturn hd hret hn hc hs ⟨x, rfl, hq⟩
theorem r_retj {x : Int64} {q : Int64 → ev_H → Prop} (hd : decode M.2.1 pc = .ok (.lreturn, 1)) (hret : M.2.2.2 = some .long) (hc : uc ≤ mc) (hs : us ≤ ms) (hq : q x h) : Ev G M R (ev_MQ G (pJ q) mc ms) pc L [vJ x] h uc us := r_lreturn hd hret hc hs ⟨x, rfl, hq⟩
theorem r_retr {x : Nat} {q : Nat → ev_H → Prop} {ty : FieldType} (hd : decode M.2.1 pc = .ok (.areturn, 1)) (hret : M.2.2.2 = some ty) (hty : (∃ n, ty = .object n) ∨ ∃ t, ty = .array t) (hc : uc ≤ mc) (hs : us ≤ ms) (hq : q x h) : Ev G M R (ev_MQ G (pR q) mc ms) pc L [vR x] h uc us := r_areturn hd hret hty hc hs ⟨x, rfl, hq⟩
theorem r_retv {q : ev_H → Prop} (hd : decode M.2.1 pc = .ok (.return_, 1)) (hret : M.2.2.2 = none) (hc : uc ≤ mc) (hs : us ≤ ms) (hq : q h) : Ev G M R (ev_MQ G (p0 q) mc ms) pc L [] h uc us := r_return hd hret hc hs ⟨rfl, hq⟩
end EVX
