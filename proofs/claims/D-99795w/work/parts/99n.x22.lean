/-! ===== THE SYSTEM: all rows (walks by program) ===== -/
set_option maxRecDepth 100000

def S5 (K : XK) (a : Nat) : Prop := a ∈ QF K ∨ (96 ≤ a ∧ a < 133)
def LR (b : Bk) (R : HR) (nh : Nat) (k : Int32) (K : XK) (h0 : ev_H) (v u : Nat) (h : ev_H) : Prop := Fw (S5 K) [] h0 h ∧ ((∀ v' s', v' < v → s' < nS b → hI h (96 + v') s' = nI (myN b v' s')) ∧ ∀ q, q < u → hI h (96 + v) q = nI (myN b v q)) ∧ ∀ v', v' < v → hI h 132 v' = b2i (rfV b R nh k v')
def LF (b : Bk) (R : HR) (nh : Nat) (k : Int32) (K : XK) (h0 : ev_H) (v j : Nat) (h : ev_H) : Prop := Fw (S5 K) [] h0 h ∧ ((∀ v' s', v' < v → s' < nS b → hI h (96 + v') s' = nI (myN b v' s')) ∧ ∀ q, q < nS b → hI h (96 + v) q = nI (myN b v q)) ∧ (∀ v', v' < v → hI h 132 v' = b2i (rfV b R nh k v')) ∧ hI h 132 v = b2i (allB j (hdV R (myV b v) k))
section S5S
variable {b : Bk} {K : XK} {T : Nat → Int32} {h h1 h0 : ev_H} {R : HR} {nh v u j : Nat} {k : Int32}
theorem XLay.k5 (x : XLay h) {a : Nat} (z : 96 ≤ a ∧ a < 133) : hK h a = 100 ∨ hK h a = 102 := by
  by_cases e : a = 132
  · rw [e]; exact Or.inr x.fit.1
  · have := (x.cnt (j := a - 96) (by omega)).2.1
    rw [show 96 + (a - 96) = a by omega] at this
    exact Or.inl this
theorem XM.k5 (x : XM b K T h) {a : Nat} (z : S5 K a) : hK h a = 3 ∨ hK h a = 4 ∨ hK h a = 100 ∨ hK h a = 102 := by
  rcases z with z | z
  · rcases List.mem_cons.mp z with e | e
    · rw [e]; exact Or.inl x.xb.akk
    · have h7 : a = 80 ∨ a = 81 ∨ a = 82 := by simpa using e
      have hs := x.lay.s80.xt
      rcases h7 with e | e | e
      · rw [e]; exact Or.inr (Or.inl hs.k)
      · rw [e]; exact Or.inr (Or.inr (Or.inl hs.kin))
      · rw [e]; exact Or.inr (Or.inr (Or.inl hs.kgr))
  · exact Or.inr (Or.inr (x.lay.k5 z))
theorem XM.ok5 (x : XM b K T h) : ∀ a, S5 K a → okX (hK h a) = true := fun a ha => by
  rcases x.k5 ha with e | e | e | e <;> rw [e] <;> rfl
theorem XM.no5 (x : XM b K T h) {c : Nat} (z : 96 ≤ c ∧ c < 133) : c ∉ QF K := fun q => by
  rcases List.mem_cons.mp q with e | e
  · have hk := x.xb.akk
    rcases x.lay.k5 z with e2 | e2
    · rw [← e, e2] at hk; cases hk
    · rw [← e, e2] at hk; cases hk
  · have h7 : c = 80 ∨ c = 81 ∨ c = 82 := by simpa using e
    omega
theorem XM.f5 {F : List Nat} (x : XM b K T h) (p : Fw (S5 K) F h h1) : XM b K T h1 := by
  have no : ∀ t, t ∉ QF K → (t = 74 ∨ t = 75 ∨ t = 76) → ¬ S5 K t := fun t h1 h2 z => z.elim h1 (by omega)
  exact ⟨x.lay.fw p, by rw [p.2.2.2.1 64 (by decide)]; exact x.bk, x.xb.fw p x.ok5 x.lay.k x.lay.were.1, x.xt.fw p x.lay.k x.lay.were.1 (no 74 x.neQ.1 (by omega)) (no 75 x.neQ.2.1 (by omega)) (no 76 x.neQ.2.2.1 (by omega)), x.tw⟩
theorem XN.f5 (y : XN R nh h) (x : XM b K T h) (p : Fw (S5 K) [] h h1) : XN R nh h1 := by
  obtain ⟨en, N, hn, hn30, hN, hNi⟩ := y
  refine ⟨en, N, hn.fw p x.ok5 x.lay.k x.lay.were.1, hn30, fun i hi => ?_, hNi⟩
  obtain ⟨n1, n2, n3, ⟨m0, m1, m2, m3, m4⟩, n5⟩ := hN i hi
  have e : ∀ k, hI h1 (N i) k = hI h (N i) k := fun k => p.2.2.2.2.2 (N i) k (fun z => by rcases x.k5 z with e | e | e | e <;> rw [n2] at e <;> cases e) (fun _ => by simp)
  refine ⟨by rw [p.rx x.lay.were.1 hn.2.2.2.1 (by decide)]; exact n1, by rw [p.2.1]; exact n2, n3, ⟨(e 0).trans m0, (e 1).trans m1, (e 2).trans m2, (e 3).trans m3, (e 4).trans m4⟩, by rw [p.rx x.lay.were.1 n2 (by decide)]; exact n5⟩
theorem LR.zero : LR b R nh k K h 0 0 h := ⟨Fw.rf, ⟨fun _ _ z => absurd z (by omega), fun _ z => absurd z (by omega)⟩, fun _ z => absurd z (by omega)⟩
theorem LR.fq (l : LR b R nh k K h0 v u h) (x : XM b K T h) (p : Fr (QF K) [] h h1) (hv : v < 36) : LR b R nh k K h0 v u h1 := by
  obtain ⟨l1, ⟨l2, l3⟩, l4⟩ := l
  have e : ∀ c, 96 ≤ c ∧ c < 133 → ∀ k, hI h1 c k = hI h c k := fun c hc k => p.2.2.2.2.2 c k (x.no5 hc) (fun _ => by simp)
  exact ⟨l1.tr (p.fw (fun a ha => Or.inl ha)), ⟨fun v' s' a c => (e _ (by omega) _).trans (l2 v' s' a c), fun q a => (e _ (by omega) _).trans (l3 q a)⟩, fun v' a => (e _ (by omega) _).trans (l4 v' a)⟩
theorem s5_w {a i : Nat} {y : Int32} (ha : 96 ≤ a ∧ a < 133) : Fw (S5 K) [] h (sI h a i y) := (Fr.rf.sa (as := [a]) a i y (by simp)).fw (fun c hc => by rw [List.mem_singleton.mp hc]; exact Or.inr ha)
theorem LR.cnt {y : Int32} (l : LR b R nh k K h0 v u h) (hv : v < 36) (hb : BW b) (hy : y = myV b v u) : LR b R nh k K h0 v (u + 1) (sI h (96 + v) u y) := by
  obtain ⟨l1, ⟨l2, l3⟩, l4⟩ := l
  refine ⟨l1.tr (s5_w (by omega)), ⟨fun v' s' a c => (rdI_s (by omega)).trans (l2 v' s' a c), fun q a => ?_⟩, fun v' a => (rdI_s (by omega)).trans (l4 v' a)⟩
  by_cases e : q = u
  · subst e; exact fs_at.trans (hy.trans (myV_n hb v q).1)
  · exact (rdI_k e).trans (l3 q (by omega))
theorem LR.lf (hu : u = nS b) (hv : v < 36) (l : LR b R nh k K h0 v u h) : LF b R nh k K h0 v 0 (sI h 132 v (nI 1)) := by
  subst hu
  obtain ⟨l1, ⟨l2, l3⟩, l4⟩ := l
  exact ⟨l1.tr (s5_w (by omega)), ⟨fun v' s' a c => (rdI_s (by omega)).trans (l2 v' s' a c), fun q a => (rdI_s (by omega)).trans (l3 q a)⟩, fun v' a => (rdI_k (by omega)).trans (l4 v' a), fs_at⟩
theorem LF.st (l : LF b R nh k K h0 v j h) (hv : v < 36) (e : allB j (hdV R (myV b v) k) = true) : LF b R nh k K h0 v (j + 1) (sI h 132 v (b2i (hdV R (myV b v) k j))) := by
  obtain ⟨l1, ⟨l2, l3⟩, l4, l5⟩ := l
  refine ⟨l1.tr (s5_w (by omega)), ⟨fun v' s' a c => (rdI_s (by omega)).trans (l2 v' s' a c), fun q a => (rdI_s (by omega)).trans (l3 q a)⟩, fun v' a => (rdI_k (by omega)).trans (l4 v' a), fs_at.trans (congrArg b2i ?_)⟩
  show _ = (allB j (hdV R (myV b v) k) && hdV R (myV b v) k j)
  rw [e]; rfl
theorem LF.next (l : LF b R nh k K h0 v j h) (e : rfV b R nh k v = allB j (hdV R (myV b v) k)) : LR b R nh k K h0 (v + 1) 0 h := by
  obtain ⟨l1, ⟨l2, l3⟩, l4, l5⟩ := l
  refine ⟨l1, ⟨fun v' s' a c => ?_, fun _ z => absurd z (by omega)⟩, fun v' a => ?_⟩
  · by_cases q : v' = v
    · subst q; exact l3 s' c
    · exact l2 v' s' (by omega) c
  · by_cases q : v' = v
    · subst q; rw [e]; exact l5
    · exact l4 v' (by omega)
theorem allB_le {p : Nat → Bool} {j : Nat} : ∀ {n : Nat}, j ≤ n → allB j p = false → allB n p = false
  | 0, h, e => by rw [show j = 0 by omega] at e; exact e
  | n + 1, h, e => by
    show (allB n p && p n) = false
    by_cases q : j = n + 1
    · rw [q] at e; exact e
    · rw [allB_le (n := n) (by omega) e]; rfl
theorem rf_t {x : Bool} (e : allB j (hdV R (myV b v) k) = x) (h : j = nh) : rfV b R nh k v = x := by subst h; exact e
theorem rf_b (e : allB j (hdV R (myV b v) k) = false) (h : j ≤ nh) : rfV b R nh k v = false := allB_le h e
theorem nr_pos (h : 0 < nRow b) : 1 ≤ nT b := by
  unfold nRow at h
  by_cases e : nT b = 0
  · rw [if_pos e] at h; omega
  · omega
theorem row_tw (hb : BW b) (hv : v < nRow b) : TW b (rowT b v) := by
  have h1 := nr_pos (b := b) (by omega)
  have h36 := nRow_36 hb
  have h10 := hb.t10
  have t1 : TW b (u1 (u1 (layT b) 0 (nI (2 ^ nP b - 1))) (2 + (nT b - 1)) (chV (nS b) v 0)) := ((TW.lay hb).sits all_lt).inn (by omega) (ch_ok hb hv (Or.inl rfl))
  by_cases e : nT b = 1
  · rw [← row_t1 e, ← row_1 hb (by omega) h1]; exact t1
  · rw [← row_t2 (by omega), ← row_2 hb (by omega) (by omega)]
    exact t1.inn (by omega) (ch_ok hb hv (Or.inr ⟨rfl, by omega⟩))
theorem x13_allowsH {G : ev_G} {N : Nat → Nat} {en : Nat} {my : Nat → Int32} {S : Nat} (hl : XLay h) (hN : hR h en j = N j ∧ hK h (N j) = 14 ∧ ev_c < N j ∧ (hI h (N j) 0 = R.s j ∧ hI h (N j) 1 = R.m j ∧ hI h (N j) 2 = R.t j ∧ hI h (N j) 3 = R.i j ∧ hI h (N j) 4 = R.u j) ∧ hR h (N j) 5 = 64) (hv : v < 36) (hRs : ∃ s, s < S ∧ R.s j = nI s) (hRi : ∃ is, R.i j = b2i is) (hS : S ≤ 5) (hc : ∀ s, s < S → hI h (96 + v) s = my s) (k : Int32) : Called G mX13_allows 0 0 0 [vR (N j), vI (nI v), vI k] h (px (vI (b2i (hdV R my k j))) h) := by
  obtain ⟨n1, n2, n3, ⟨m0, m1, m2, m3, m4⟩, n5⟩ := hN
  obtain ⟨s, hs, es⟩ := hRs
  obtain ⟨is, ei⟩ := hRi
  have q := x13_allows (G := G) hl n2 (s := s) (v := v) (is := is) (by omega) hv m4 n5 m2 (m0.trans es) m1 (m3.trans ei) (hc s hs) k
  have e : noV (R.t j) (R.u j) (R.m j) (my s) is k = hdV R my k j := by unfold noV hdV; rw [es, nI_clamp (by omega), ei]
  rw [e] at q
  exact q
end S5S

theorem x0_layRows {G : ev_G} {b : Bk} {K : XK} {T : Nat → Int32} {h : ev_H} (hm : XM b K T h) {R : HR} {nh : Nat} (hS : XN R nh h) (hRs : ∀ n, n < nh → ∃ s, s < nS b ∧ R.s n = nI s) (hRi : ∀ n, n < nh → ∃ is, R.i n = b2i is) (k9 : Int32) : Called G mX0_layRows 314 0 0 [vR 64, vI k9] h (pI (fun y h1 => y = nI (rfN (rfV b R nh k9) (nRow b)) ∧ Fw (S5 K) [] h h1 ∧ (∀ v s, v < nRow b → s < nS b → hI h1 (96 + v) s = nI (myN b v s)) ∧ ∀ v, v < nRow b → hI h1 132 v = b2i (rfV b R nh k9 v))) := by
  have hb := hm.xb
  have hT := hm.xt
  have hl := hm.lay
  have hw := hm.bw
  have hb1 := hw.p6
  have hb2 := hw.s5
  have hb3 := hw.t10
  have hw9 := hm.tw
  have h36 := nRow_36 hw
  refine called_of rfl [some (vR 64), some (vI k9), none, none, none] rfl (Nat.le_of_ble_eq_true rfl) ?_
  refine r_iconst (v := nI 0) dX0_layRows_0 (by decide) ?_
  refine r_istore_n dX0_layRows_1 (by decide) rfl ?_
  refine r_iconst (v := nI 0) dX0_layRows_2 (by decide) ?_
  refine r_istore_n dX0_layRows_3 (by decide) rfl ?_
  refine (ev_for (P := fun v => ∀ hL : ev_H, (LR b R nh k9 K h v 0 hL) → Ev G mX0_layRows (ev_room 314 0 0) (ev_MQ G (pI (fun y h1 => y = nI (rfN (rfV b R nh k9) (nRow b)) ∧ Fw (S5 K) [] h h1 ∧ (∀ v s, v < nRow b → s < nS b → hI h1 (96 + v) s = nI (myN b v s)) ∧ ∀ v, v < nRow b → hI h1 132 v = b2i (rfV b R nh k9 v))) 0 0) 4 [some (vR 64), some (vI k9), some (vI (nI (rfN (rfV b R nh k9) v))), some (vI (nI v)), none] [] hL 0 0) (nRow b) (fun v hkv ihv hL qhL => ?_)) 0 (Nat.zero_le _) _ (LR.zero)
  have hmL := hm.f5 qhL.1
  have hbL := hmL.xb
  have hTL := hmL.xt
  have hlL := hmL.lay
  refine r_iload_n dX0_layRows_4 rfl ?_
  refine r_aload_n dX0_layRows_5 rfl ?_
  refine r_callVx lX0_356 (x0_rowsInAll hmL) (hlL.k) rfl rfl rfl rfl dX0_layRows_6 (Nat.le_refl _) (Nat.le_refl _) ?_
  refine r_icmpN_ge (tgt := 205) dX0_layRows_9 rfl (by omega) (by omega) (fun c1 => ?_) (fun c1 => ?_)
  · --
    refine r_iload_n dX0_layRows_205 rfl ?_
    have hv9 : v = nRow b := by omega
    subst hv9
    exact r_reti dX0_layRows_206 rfl rfl (Nat.le_refl _) (Nat.le_refl _) (⟨rfl, qhL.1, qhL.2.1.1, qhL.2.2⟩)
  · --
    have ht1 := nr_pos (show 0 < nRow b by omega)
    refine r_iconst (v := nI 0) dX0_layRows_12 (by decide) ?_
    refine r_istore dX0_layRows_13 (by decide) rfl ?_
    refine (ev_for (P := fun u => ∀ hN : ev_H, (LR b R nh k9 K h v u hN) → Ev G mX0_layRows (ev_room 314 0 0) (ev_MQ G (pI (fun y h1 => y = nI (rfN (rfV b R nh k9) (nRow b)) ∧ Fw (S5 K) [] h h1 ∧ (∀ v s, v < nRow b → s < nS b → hI h1 (96 + v) s = nI (myN b v s)) ∧ ∀ v, v < nRow b → hI h1 132 v = b2i (rfV b R nh k9 v))) 0 0) 15 [some (vR 64), some (vI k9), some (vI (nI (rfN (rfV b R nh k9) v))), some (vI (nI v)), some (vI (nI u))] [] hN 0 0) (nS b) (fun u hku ihu hN qhN => ?_)) 0 (Nat.zero_le _) _ (qhL)
    have hmN := hm.f5 qhN.1
    have fN : Fr (QF K) [] hN hN := Fr.rf
    have hbN := hmN.xb
    have hTN := hmN.xt
    have hlN := hmN.lay
    refine r_iload dX0_layRows_15 rfl ?_
    refine r_aload_n dX0_layRows_17 rfl ?_
    refine r_callVx lX0_153 (x0_sacks hmN) (hlN.k) rfl rfl rfl rfl dX0_layRows_18 (Nat.le_refl _) (Nat.le_refl _) ?_
    refine r_icmpN_ge (tgt := 122) dX0_layRows_21 rfl (by omega) (by omega) (fun c2 => ?_) (fun c2 => ?_)
    · --
      refine r_aload_n dX0_layRows_122 rfl ?_
      refine r_getRv fX0_95 (hlN.k) (v := 132) (hlN.r 21 (by decide) (by decide)) rfl dX0_layRows_123 ?_
      refine r_iload_n dX0_layRows_126 rfl ?_
      refine r_iconst (v := nI 1) dX0_layRows_127 (by decide) ?_
      refine r_zastx (hlN.fit.1) (by decide) (hlN.fit.2) (ix_n (by omega) (by decide)) rfl dX0_layRows_128 ?_
      have fY : LF b R nh k9 K h v 0 (sI hN 132 v (nI 1)) := LR.lf (by omega) (by omega) qhN
      generalize sI hN 132 v (nI 1) = hY at fY ⊢
      refine r_iconst (v := nI 0) dX0_layRows_129 (by decide) ?_
      refine r_istore dX0_layRows_130 (by decide) rfl ?_
      refine (ev_for (P := fun j => ∀ hX : ev_H, (LF b R nh k9 K h v j hX) → Ev G mX0_layRows (ev_room 314 0 0) (ev_MQ G (pI (fun y h1 => y = nI (rfN (rfV b R nh k9) (nRow b)) ∧ Fw (S5 K) [] h h1 ∧ (∀ v s, v < nRow b → s < nS b → hI h1 (96 + v) s = nI (myN b v s)) ∧ ∀ v, v < nRow b → hI h1 132 v = b2i (rfV b R nh k9 v))) 0 0) 132 [some (vR 64), some (vI k9), some (vI (nI (rfN (rfV b R nh k9) v))), some (vI (nI v)), some (vI (nI j))] [] hX 0 0) nh (fun j hkj ihj hX qhX => ?_)) 0 (Nat.zero_le _) _ (fY)
      have hmX := hm.f5 qhX.1
      obtain ⟨en, NN, hn, hn30, hNN, hNi⟩ := hS.f5 hm qhX.1
      have hbX := hmX.xb
      have hTX := hmX.xt
      have hlX := hmX.lay
      refine r_iload dX0_layRows_132 rfl ?_
      refine r_aload_n dX0_layRows_134 rfl ?_
      refine r_getRv fX0_88 (hlX.k) (v := 93) (hlX.r 19 (by decide) (by decide)) rfl dX0_layRows_135 ?_
      refine r_callVx lX0_3 (xJ2_size hn) (hn.1) rfl rfl rfl rfl dX0_layRows_138 (Nat.le_refl _) (Nat.le_refl _) ?_
      refine r_icmpN_ge (tgt := 182) dX0_layRows_141 rfl (by omega) (by omega) (fun c3 => ?_) (fun c3 => ?_)
      · --
        refine r_iload_n dX0_layRows_182 rfl ?_
        refine r_aload_n dX0_layRows_183 rfl ?_
        refine r_getRv fX0_95 (hlX.k) (v := 132) (hlX.r 21 (by decide) (by decide)) rfl dX0_layRows_184 ?_
        refine r_iload_n dX0_layRows_187 rfl ?_
        refine r_zaldv (hlX.fit.1) (hlX.fit.2) (ix_n (by omega) (by decide)) (v := b2i (allB j (hdV R (myV b v) k9))) (qhX.2.2.2) dX0_layRows_188 ?_
        refine r_ifB_eq (tgt := 196) dX0_layRows_189 rfl (fun c4 => ?_) (fun c4 => ?_)
        · --
          refine r_iconst (v := nI 0) dX0_layRows_196 (by decide) ?_
          refine r_iadd dX0_layRows_197 ?_
          refine r_top (nI (rfN (rfV b R nh k9) v + 0)) (nI_add _ _) ?_
          refine r_istore_n dX0_layRows_198 (by decide) rfl ?_
          refine r_iincN (n := 1) dX0_layRows_199 rfl rfl (by decide) rfl ?_
          refine r_goto (tgt := 4) dX0_layRows_202 rfl ?_
          refine r_sub [some (vR 64), some (vI k9), some (vI (nI (rfN (rfV b R nh k9) v + 0))), some (vI (nI (v + 1))), none] (And.intro rfl (And.intro rfl (And.intro rfl (And.intro rfl trivial)))) ?_
          exact r_L (by rw [Nat.add_zero, rfN_f (p := (rfV b R nh k9)) (n := v) (rf_t c4 (by omega))]) (ihv (by omega) _ (qhX.next ((rf_t c4 (by omega)).trans c4.symm)))
        · --
          refine r_iconst (v := nI 1) dX0_layRows_192 (by decide) ?_
          refine r_goto (tgt := 197) dX0_layRows_193 rfl ?_
          refine r_iadd dX0_layRows_197 ?_
          refine r_top (nI (rfN (rfV b R nh k9) v + 1)) (nI_add _ _) ?_
          refine r_istore_n dX0_layRows_198 (by decide) rfl ?_
          refine r_iincN (n := 1) dX0_layRows_199 rfl rfl (by decide) rfl ?_
          refine r_goto (tgt := 4) dX0_layRows_202 rfl ?_
          refine r_sub [some (vR 64), some (vI k9), some (vI (nI (rfN (rfV b R nh k9) v + 1))), some (vI (nI (v + 1))), none] (And.intro rfl (And.intro rfl (And.intro rfl (And.intro rfl trivial)))) ?_
          exact r_L (by rw [rfN_t (p := (rfV b R nh k9)) (n := v) (rf_t c4 (by omega))]) (ihv (by omega) _ (qhX.next ((rf_t c4 (by omega)).trans c4.symm)))
      · --
        refine r_aload_n dX0_layRows_144 rfl ?_
        refine r_getRv fX0_95 (hlX.k) (v := 132) (hlX.r 21 (by decide) (by decide)) rfl dX0_layRows_145 ?_
        refine r_iload_n dX0_layRows_148 rfl ?_
        refine r_zaldv (hlX.fit.1) (hlX.fit.2) (ix_n (by omega) (by decide)) (v := b2i (allB j (hdV R (myV b v) k9))) (qhX.2.2.2) dX0_layRows_149 ?_
        refine r_ifB_eq (tgt := 182) dX0_layRows_150 rfl (fun c5 => ?_) (fun c5 => ?_)
        · --
          refine r_iload_n dX0_layRows_182 rfl ?_
          refine r_aload_n dX0_layRows_183 rfl ?_
          refine r_getRv fX0_95 (hlX.k) (v := 132) (hlX.r 21 (by decide) (by decide)) rfl dX0_layRows_184 ?_
          refine r_iload_n dX0_layRows_187 rfl ?_
          refine r_zaldv (hlX.fit.1) (hlX.fit.2) (ix_n (by omega) (by decide)) (v := b2i (allB j (hdV R (myV b v) k9))) (qhX.2.2.2) dX0_layRows_188 ?_
          refine r_ifB_eq (tgt := 196) dX0_layRows_189 rfl (fun c6 => ?_) (fun c6 => ?_)
          · --
            refine r_iconst (v := nI 0) dX0_layRows_196 (by decide) ?_
            refine r_iadd dX0_layRows_197 ?_
            refine r_top (nI (rfN (rfV b R nh k9) v + 0)) (nI_add _ _) ?_
            refine r_istore_n dX0_layRows_198 (by decide) rfl ?_
            refine r_iincN (n := 1) dX0_layRows_199 rfl rfl (by decide) rfl ?_
            refine r_goto (tgt := 4) dX0_layRows_202 rfl ?_
            refine r_sub [some (vR 64), some (vI k9), some (vI (nI (rfN (rfV b R nh k9) v + 0))), some (vI (nI (v + 1))), none] (And.intro rfl (And.intro rfl (And.intro rfl (And.intro rfl trivial)))) ?_
            exact r_L (by rw [Nat.add_zero, rfN_f (p := (rfV b R nh k9)) (n := v) (rf_b c5 (by omega))]) (ihv (by omega) _ (qhX.next ((rf_b c5 (by omega)).trans c5.symm)))
          · --
            exact absurd (c6.symm.trans c5) (by decide)
        · --
          refine r_aload_n dX0_layRows_153 rfl ?_
          refine r_getRv fX0_95 (hlX.k) (v := 132) (hlX.r 21 (by decide) (by decide)) rfl dX0_layRows_154 ?_
          refine r_iload_n dX0_layRows_157 rfl ?_
          refine r_aload_n dX0_layRows_158 rfl ?_
          refine r_getRv fX0_88 (hlX.k) (v := 93) (hlX.r 19 (by decide) (by decide)) rfl dX0_layRows_159 ?_
          refine r_iload dX0_layRows_162 rfl ?_
          refine r_callVx lX0_9 (xJ2_get hn (i := j) (by omega) (hNN j (by omega)).1) (hn.1) rfl rfl rfl rfl dX0_layRows_164 (Nat.le_refl _) (Nat.le_refl _) ?_
          refine r_cast (ci := 13) q1548 ((hNN _ (by omega)).2.1) (by decide) rfl (Or.inl rfl) dX0_layRows_167 ?_
          refine r_iload_n dX0_layRows_170 rfl ?_
          refine r_iload_n dX0_layRows_171 rfl ?_
          refine r_callVx lX0_362 (x13_allowsH hlX (hNN j (by omega)) (by omega) (hRs j (by omega)) (hRi j (by omega)) hb2 (fun s hs => (qhX.2.1.2 s hs).trans (myV_n hw v s).1.symm) k9) ((hNN j (by omega)).2.1) rfl rfl rfl rfl dX0_layRows_172 (Nat.le_refl _) (Nat.le_refl _) ?_
          refine r_zastv (hlX.fit.1) (by decide) (hlX.fit.2) (ix_n (by omega) (by decide)) dX0_layRows_175 ?_
          have fV : LF b R nh k9 K h v (j + 1) (sI hX 132 v (b2i (hdV R (myV b v) k9 j))) := qhX.st (by omega) c5
          generalize sI hX 132 v (b2i (hdV R (myV b v) k9 j)) = hV at fV ⊢
          refine r_iincN (n := 1) dX0_layRows_176 rfl rfl (by decide) rfl ?_
          refine r_goto (tgt := 132) dX0_layRows_179 rfl ?_
          exact ihj (by omega) _ (fV)
    · --
      refine r_aload_n dX0_layRows_24 rfl ?_
      refine r_getRv fX0_60 (hlN.k) (v := 80) (hlN.r 7 (by decide) (by decide)) rfl dX0_layRows_25 ?_
      refine r_aload_n dX0_layRows_28 rfl ?_
      refine r_getRv fX0_42 (hlN.k) (v := kB K) (hmN.bk) rfl dX0_layRows_29 ?_
      refine r_callVr lX0_49 (x3_begin hbN hlN.s80.xt) (hlN.s80.2.1) rfl rfl rfl rfl dX0_layRows_32 (Nat.le_refl _) (Nat.le_refl _) (fun y9 hZ1 q9 => ?_)
      obtain ⟨rfl, gZ1, hqZ1⟩ := q9
      have kZ1 : Fr (QF K) [] hN hZ1 := frq_t gZ1
      have hmZ1 := hmN.fq kZ1
      have fZ1 : Fr (QF K) [] hN hZ1 := fN.tr kZ1
      have hbZ1 := hmZ1.xb
      have hTZ1 := hmZ1.xt
      have hlZ1 := hmZ1.lay
      refine r_aload_n dX0_layRows_35 rfl ?_
      refine r_callVx lX0_269 (x0_allPeopleN hmZ1) (hlZ1.k) rfl rfl rfl rfl dX0_layRows_36 (Nat.le_refl _) (Nat.le_refl _) ?_
      refine r_callVr lX0_265 (x3_seat hqZ1 (nI (2 ^ nP b - 1))) (hlZ1.s80.2.1) rfl rfl rfl rfl dX0_layRows_39 (Nat.le_refl _) (Nat.le_refl _) (fun y9 hZ2 q9 => ?_)
      obtain ⟨rfl, gZ2, hqZ2⟩ := q9
      have kZ2 : Fr (QF K) [] hZ1 hZ2 := frq_t gZ2
      have hmZ2 := hmZ1.fq kZ2
      have fZ2 : Fr (QF K) [] hN hZ2 := fZ1.tr kZ2
      have hbZ2 := hmZ2.xb
      have hTZ2 := hmZ2.xt
      have hlZ2 := hmZ2.lay
      refine r_pop dX0_layRows_42 rfl ?_
      refine r_aload_n dX0_layRows_43 rfl ?_
      refine r_getRv fX0_60 (hlZ2.k) (v := 80) (hlZ2.r 7 (by decide) (by decide)) rfl dX0_layRows_44 ?_
      refine r_getRv fX0_199 (hlZ2.s80.2.1) (v := 81) (hqZ2.rin) rfl dX0_layRows_47 ?_
      refine r_aload_n dX0_layRows_50 rfl ?_
      refine r_callVx lX0_140 (x0_things hmZ2) (hlZ2.k) rfl rfl rfl rfl dX0_layRows_51 (Nat.le_refl _) (Nat.le_refl _) ?_
      refine r_iconst (v := nI 1) dX0_layRows_54 (by decide) ?_
      refine r_isub dX0_layRows_55 ?_
      refine r_top (nI (nT b - 1)) (pk_sub (by omega)) ?_
      refine r_aload_n dX0_layRows_56 rfl ?_
      refine r_iload_n dX0_layRows_57 rfl ?_
      refine r_iconst (v := nI 0) dX0_layRows_58 (by decide) ?_
      refine r_callVx lX0_359 (x0_choice hmZ2 (v := v) (w := 0) (by omega)) (hlZ2.k) rfl rfl rfl rfl dX0_layRows_59 (Nat.le_refl _) (Nat.le_refl _) ?_
      refine r_iastv (hqZ2.kin) (by decide) (hqZ2.lin) (ix_n (by omega) (by decide)) dX0_layRows_62 ?_
      have kZ3 : Fr (QF K) [] hZ2 (sI hZ2 81 (nT b - 1) (chV (nS b) v 0)) := Fr.rf.sa 81 (nT b - 1) (chV (nS b) v 0) (by simp)
      have hmZ3 : XM b K T (sI hZ2 81 (nT b - 1) (chV (nS b) v 0)) := hmZ2.fq kZ3
      have fZ3 : Fr (QF K) [] hN (sI hZ2 81 (nT b - 1) (chV (nS b) v 0)) := fZ2.tr kZ3
      have hqZ3 : XT 80 (u1 (u1 (layT b) 0 (nI (2 ^ nP b - 1))) (2 + (nT b - 1)) (chV (nS b) v 0)) (-1) (sI hZ2 81 (nT b - 1) (chV (nS b) v 0)) := hqZ2.win (by omega) (chV (nS b) v 0)
      generalize sI hZ2 81 (nT b - 1) (chV (nS b) v 0) = hZ3 at kZ3 hmZ3 fZ3 hqZ3 ⊢
      have hbZ3 := hmZ3.xb
      have hTZ3 := hmZ3.xt
      have hlZ3 := hmZ3.lay
      refine r_aload_n dX0_layRows_63 rfl ?_
      refine r_callVx lX0_140 (x0_things hmZ3) (hlZ3.k) rfl rfl rfl rfl dX0_layRows_64 (Nat.le_refl _) (Nat.le_refl _) ?_
      refine r_iconst (v := nI 1) dX0_layRows_67 (by decide) ?_
      refine r_icmpN_le (tgt := 91) dX0_layRows_68 rfl (by omega) (by omega) (fun c7 => ?_) (fun c7 => ?_)
      · --
        rw [row_1 hw (by omega) (by omega), row_t1 (by omega)] at hqZ3
        refine r_aload_n dX0_layRows_91 rfl ?_
        refine r_getRv fX0_92 (hlZ3.k) (v := 95) (hlZ3.r 20 (by decide) (by decide)) rfl dX0_layRows_92 ?_
        refine r_iload_n dX0_layRows_95 rfl ?_
        refine r_aaldv (t := 6) (hlZ3.k95.1) (by decide) (hlZ3.k95.2) (ix_n (by omega) (by decide)) (v := 96 + v) ((hlZ3.cnt (by omega)).1) dX0_layRows_96 ?_
        refine r_iload dX0_layRows_97 rfl ?_
        refine r_aload_n dX0_layRows_99 rfl ?_
        refine r_getRv fX0_60 (hlZ3.k) (v := 80) (hlZ3.r 7 (by decide) (by decide)) rfl dX0_layRows_100 ?_
        refine r_aload_n dX0_layRows_103 rfl ?_
        refine r_getRv fX0_42 (hlZ3.k) (v := kB K) (hmZ3.bk) rfl dX0_layRows_104 ?_
        refine r_iload dX0_layRows_107 rfl ?_
        refine r_callVi lX0_221 (x3_out hbZ3 hqZ3 (row_tw hw (by omega)) (s := u) (by omega)) (hlZ3.s80.2.1) rfl rfl rfl rfl dX0_layRows_109 (Nat.le_refl _) (Nat.le_refl _) (fun y9 hZ4 q9 => ?_)
        obtain ⟨e9, gZ4⟩ := q9
        replace e9 : y9 = outV b (rowT b v) u := e9
        subst e9
        have kZ4 : Fr (QF K) [] hZ3 hZ4 := frq_a gZ4
        have hmZ4 := hmZ3.fq kZ4
        have fZ4 : Fr (QF K) [] hN hZ4 := fZ3.tr kZ4
        have hbZ4 := hmZ4.xb
        have hTZ4 := hmZ4.xt
        have hlZ4 := hmZ4.lay
        have hqZ4 := hqZ3.frA hbZ3 gZ4
        refine r_callSx lX0_239 (xJ15_bc (lt1024 hw (outV_lt hw u))) rfl rfl rfl rfl dX0_layRows_112 (Nat.le_refl _) (Nat.le_refl _) ?_
        refine r_iastv ((hlZ4.cnt (j := v) (by omega)).2.1) (Nat.lt_of_lt_of_le (show ev_c < 96 by decide) (by omega)) ((hlZ4.cnt (j := v) (by omega)).2.2) (ix_n (by omega) (by decide)) dX0_layRows_115 ?_
        have fW : LR b R nh k9 K h v (u + 1) (sI hZ4 (96 + v) u (popc (outV b (rowT b v) u))) := (qhN.fq hmN fZ4 (by omega)).cnt (by omega) hw rfl
        generalize sI hZ4 (96 + v) u (popc (outV b (rowT b v) u)) = hW at fW ⊢
        refine r_iincN (n := 1) dX0_layRows_116 rfl rfl (by decide) rfl ?_
        refine r_goto (tgt := 15) dX0_layRows_119 rfl ?_
        exact ihu (by omega) _ (fW)
      · --
        refine r_aload_n dX0_layRows_71 rfl ?_
        refine r_getRv fX0_60 (hlZ3.k) (v := 80) (hlZ3.r 7 (by decide) (by decide)) rfl dX0_layRows_72 ?_
        refine r_getRv fX0_199 (hlZ3.s80.2.1) (v := 81) (hqZ3.rin) rfl dX0_layRows_75 ?_
        refine r_aload_n dX0_layRows_78 rfl ?_
        refine r_callVx lX0_140 (x0_things hmZ3) (hlZ3.k) rfl rfl rfl rfl dX0_layRows_79 (Nat.le_refl _) (Nat.le_refl _) ?_
        refine r_iconst (v := nI 2) dX0_layRows_82 (by decide) ?_
        refine r_isub dX0_layRows_83 ?_
        refine r_top (nI (nT b - 2)) (pk_sub (by omega)) ?_
        refine r_aload_n dX0_layRows_84 rfl ?_
        refine r_iload_n dX0_layRows_85 rfl ?_
        refine r_iconst (v := nI 1) dX0_layRows_86 (by decide) ?_
        refine r_callVx lX0_359 (x0_choice hmZ3 (v := v) (w := 1) (by omega)) (hlZ3.k) rfl rfl rfl rfl dX0_layRows_87 (Nat.le_refl _) (Nat.le_refl _) ?_
        refine r_iastv (hqZ3.kin) (by decide) (hqZ3.lin) (ix_n (by omega) (by decide)) dX0_layRows_90 ?_
        have kZ5 : Fr (QF K) [] hZ3 (sI hZ3 81 (nT b - 2) (chV (nS b) v 1)) := Fr.rf.sa 81 (nT b - 2) (chV (nS b) v 1) (by simp)
        have hmZ5 : XM b K T (sI hZ3 81 (nT b - 2) (chV (nS b) v 1)) := hmZ3.fq kZ5
        have fZ5 : Fr (QF K) [] hN (sI hZ3 81 (nT b - 2) (chV (nS b) v 1)) := fZ3.tr kZ5
        have hqZ5 : XT 80 (u1 (u1 (u1 (layT b) 0 (nI (2 ^ nP b - 1))) (2 + (nT b - 1)) (chV (nS b) v 0)) (2 + (nT b - 2)) (chV (nS b) v 1)) (-1) (sI hZ3 81 (nT b - 2) (chV (nS b) v 1)) := hqZ3.win (by omega) (chV (nS b) v 1)
        generalize sI hZ3 81 (nT b - 2) (chV (nS b) v 1) = hZ5 at kZ5 hmZ5 fZ5 hqZ5 ⊢
        have hbZ5 := hmZ5.xb
        have hTZ5 := hmZ5.xt
        have hlZ5 := hmZ5.lay
        rw [row_2 hw (by omega) (by omega), row_t2 (by omega)] at hqZ5
        refine r_aload_n dX0_layRows_91 rfl ?_
        refine r_getRv fX0_92 (hlZ5.k) (v := 95) (hlZ5.r 20 (by decide) (by decide)) rfl dX0_layRows_92 ?_
        refine r_iload_n dX0_layRows_95 rfl ?_
        refine r_aaldv (t := 6) (hlZ5.k95.1) (by decide) (hlZ5.k95.2) (ix_n (by omega) (by decide)) (v := 96 + v) ((hlZ5.cnt (by omega)).1) dX0_layRows_96 ?_
        refine r_iload dX0_layRows_97 rfl ?_
        refine r_aload_n dX0_layRows_99 rfl ?_
        refine r_getRv fX0_60 (hlZ5.k) (v := 80) (hlZ5.r 7 (by decide) (by decide)) rfl dX0_layRows_100 ?_
        refine r_aload_n dX0_layRows_103 rfl ?_
        refine r_getRv fX0_42 (hlZ5.k) (v := kB K) (hmZ5.bk) rfl dX0_layRows_104 ?_
        refine r_iload dX0_layRows_107 rfl ?_
        refine r_callVi lX0_221 (x3_out hbZ5 hqZ5 (row_tw hw (by omega)) (s := u) (by omega)) (hlZ5.s80.2.1) rfl rfl rfl rfl dX0_layRows_109 (Nat.le_refl _) (Nat.le_refl _) (fun y9 hZ6 q9 => ?_)
        obtain ⟨e9, gZ6⟩ := q9
        replace e9 : y9 = outV b (rowT b v) u := e9
        subst e9
        have kZ6 : Fr (QF K) [] hZ5 hZ6 := frq_a gZ6
        have hmZ6 := hmZ5.fq kZ6
        have fZ6 : Fr (QF K) [] hN hZ6 := fZ5.tr kZ6
        have hbZ6 := hmZ6.xb
        have hTZ6 := hmZ6.xt
        have hlZ6 := hmZ6.lay
        have hqZ6 := hqZ5.frA hbZ5 gZ6
        refine r_callSx lX0_239 (xJ15_bc (lt1024 hw (outV_lt hw u))) rfl rfl rfl rfl dX0_layRows_112 (Nat.le_refl _) (Nat.le_refl _) ?_
        refine r_iastv ((hlZ6.cnt (j := v) (by omega)).2.1) (Nat.lt_of_lt_of_le (show ev_c < 96 by decide) (by omega)) ((hlZ6.cnt (j := v) (by omega)).2.2) (ix_n (by omega) (by decide)) dX0_layRows_115 ?_
        have fW : LR b R nh k9 K h v (u + 1) (sI hZ6 (96 + v) u (popc (outV b (rowT b v) u))) := (qhN.fq hmN fZ6 (by omega)).cnt (by omega) hw rfl
        generalize sI hZ6 (96 + v) u (popc (outV b (rowT b v) u)) = hW at fW ⊢
        refine r_iincN (n := 1) dX0_layRows_116 rfl rfl (by decide) rfl ?_
        refine r_goto (tgt := 15) dX0_layRows_119 rfl ?_
        exact ihu (by omega) _ (fW)

theorem x0_rows {G : ev_G} {b : Bk} {K : XK} {T : Nat → Int32} {h : ev_H} (hm : XM b K T h) {R : HR} {nh : Nat} (hS : XN R nh h) (hRs : ∀ n, n < nh → ∃ s, s < nS b ∧ R.s n = nI s) (hRi : ∀ n, n < nh → ∃ is, R.i n = b2i is) (k9 : Int32) : Called G mX0_rows 315 0 0 [vR 64, vI k9] h (pI (fun y h1 => y = nI (rfN (rfV b R nh k9) (nRow b)) ∧ Fw (S5 K) [] h h1 ∧ (∀ v s, v < nRow b → s < nS b → hI h1 (96 + v) s = nI (myN b v s)) ∧ ∀ v, v < nRow b → hI h1 132 v = b2i (rfV b R nh k9 v))) := by
  have hb := hm.xb
  have hT := hm.xt
  have hl := hm.lay
  have hw := hm.bw
  have hb1 := hw.p6
  have hb2 := hw.s5
  have hb3 := hw.t10
  have hw9 := hm.tw
  refine called_of rfl [some (vR 64), some (vI k9)] rfl (Nat.le_of_ble_eq_true rfl) ?_
  refine r_aload_n dX0_rows_0 rfl ?_
  refine r_iload_n dX0_rows_1 rfl ?_
  refine r_callVi lX0_365 (x0_layRows hm hS hRs hRi k9) (hl.k) rfl rfl rfl rfl dX0_rows_2 (Nat.le_refl _) (Nat.le_refl _) (fun y9 hA q9 => ?_)
  obtain ⟨rfl, q9⟩ := q9
  exact r_reti dX0_rows_5 rfl rfl (Nat.le_refl _) (Nat.le_refl _) (⟨rfl, q9⟩)
