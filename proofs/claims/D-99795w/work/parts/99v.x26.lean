/-! ===== THE JDK: lists that grow (walks by program) ===== -/
set_option maxRecDepth 100000

theorem nz_ {h : ev_H} {a c : Nat} (e : hK h a = c) (hc : c ≠ 0) : hK h a ≠ 0 := by rw [e]; exact hc
section GL
variable {h h1 : ev_H} {S Q : Nat → Prop} {F : List Nat}
theorem fs_atR {a k v : Nat} : hR (sR h a k v) a k = v := (show u2 (hR h) a k v a k = v from u2_self)
theorem gr_sR {a k v c : Nat} (e : c ≠ a) (i : Nat) : hR (sR h a k v) c i = hR h c i := (show u2 (hR h) a k v c i = _ from u2_ne (fun z => e z.1))
theorem gr_sR2 {a k v c i j m : Nat} {w : Int32} (e : c ≠ a) : hR (sI (sR h a k v) j m w) c i = hR h c i := (show u2 (hR h) a k v c i = _ from u2_ne (fun z => e z.1))
theorem gr_sRk {a k v i j m : Nat} {w : Int32} (e : i ≠ k) : hR (sI (sR h a k v) j m w) a i = hR h a i := (show u2 (hR h) a k v a i = _ from u2_ne (fun z => e z.2))
theorem fg_0 (p : Fg S F Q h h1) {a : Nat} (z : hK h1 a = 0) : hK h a = 0 := by
  by_cases e : hK h a = 0
  · exact e
  · rw [(p.2 a e).1] at z; exact absurd z e
theorem elm_fg {E : String} {y : Nat} (p : Fg S F Q h h1) (x : ev_elm E h y) : ev_elm E h1 y := by
  obtain ⟨ci, q, x1, x2, x3, x4⟩ := x
  exact ⟨ci, q, p.k x1 (by omega), x2, x3, x4⟩
theorem fg_cpR {a0 sp a dp n : Nat} (p : Fg S F Q h h1) (z : hK h a = 0) : Fg S F Q h (cpR h1 a0 sp a dp n) := ⟨p.1, fun c hc => by
  obtain ⟨p1, p2, p3, p4, p5⟩ := p.2 c hc
  exact ⟨p1, p2, fun q => (show u1 (hR h1) a (va_cpy (hR h1 a0) (hR h1 a) sp dp n) c = hR h1 c from if_neg (fun e => hc (by rw [e]; exact z))).trans (p3 q), p4, p5⟩⟩
theorem ALs.mc {l e n : Nat} {v : Int32} (x : ALs l e n h) : ALs l e n (sI h l 0 v) := ⟨x.1, x.2.1, (rdI_k (by decide)).trans x.2.2.1, x.2.2.2⟩
end GL
def nwL (N : Nat) : Nat := if 1 < N / 2 then N / 2 else 1
theorem nw_le {N : Nat} (h : N ≤ 100) : nwL N ≤ 50 ∧ 1 ≤ nwL N := by unfold nwL; split <;> omega
theorem nw_max {N : Nat} (h : N ≤ 100) : (if nI 1 < nI (N / 2) then nI (N / 2) else nI 1) = nI (nwL N) := by
  unfold nwL
  by_cases e : 1 < N / 2
  · rw [if_pos e, if_pos ((nlt (by decide) (by omega)).mpr e)]
  · rw [if_neg e, if_neg (fun z => e ((nlt (by decide) (by omega)).mp z))]
theorem nw_half_ : ∀ N : Fin 101, nI N.val >>> (nI 1 &&& 31) = nI (N.val / 2) := by decide +kernel
theorem nw_half {N : Nat} (h : N ≤ 100) : nI N >>> (nI 1 &&& 31) = nI (N / 2) := nw_half_ ⟨N, by omega⟩
theorem nw_big {N : Nat} (h : N ≤ 100) : ¬ (2147483639 : Int32) < nI (N + nwL N) := fun z => by
  have h2 := nw_le h
  rw [show (2147483639 : Int32) = nI 2147483639 by decide] at z
  have := (nlt (by decide) (by omega)).mp z
  omega

theorem xJ0_init {G : ev_G} {h : ev_H} {x : Nat} (hk : hK h x ≠ 0) : Called G mJ0_init 1 0 0 [vR x] h (p0 (fun h1 => h1 = h)) := by
  refine called_of rfl [some (vR x)] rfl (Nat.le_of_ble_eq_true rfl) ?_
  refine r_aload_n dJ0_init_0 rfl ?_
  refine r_objInit q194 q175 q176 (hk) (by decide) (by decide) rfl dJ0_init_1 ?_
  exact r_retv dJ0_init_4 rfl (Nat.le_refl _) (Nat.le_refl _) (rfl)

theorem xJ1_init {G : ev_G} {h : ev_H} {x : Nat} (hk : hK h x = 21) (hc : ev_c < x) : Called G mJ1_init 2 0 0 [vR x] h (p0 (fun h1 => h1 = sI h x 0 (nI 0))) := by
  refine called_of rfl [some (vR x)] rfl (Nat.le_of_ble_eq_true rfl) ?_
  refine r_aload_n dJ1_init_0 rfl ?_
  refine r_callIv lJ1_1 (xJ0_init (x := x) (by rw [hk]; decide)) (by rw [hk]; decide) rfl rfl rfl rfl dJ1_init_1 (Nat.le_refl _) (Nat.le_refl _) (fun h9 q9 => ?_)
  subst q9
  refine r_aload_n dJ1_init_4 rfl ?_
  refine r_iconst (v := nI 0) dJ1_init_5 (by decide) ?_
  refine r_putN fJ1_7_J2 (hk) (hc) dJ1_init_6 ?_
  exact r_retv dJ1_init_9 rfl (Nat.le_refl _) (Nat.le_refl _) (rfl)

theorem xJ2_init {G : ev_G} {h : ev_H} {x n : Nat} (hk : hK h x = 21) (hc : ev_c < x) (hs0 : hI h x 2 = 0) (hn0 : 0 < n) (hn : n ≤ 100) : Called G mJ2_init 3 1 100 [vR x, vI (nI n)] h (p0 (fun h1 => ∃ e, hK h e = 0 ∧ ev_c < e ∧ ALs x e 0 h1 ∧ hL h1 e = n ∧ Fg (fun a => a = x) [] (fun a => a = x) h h1 ∧ e = hN h ∧ hN h1 = hN h + 1)) := by
  refine called_of rfl [some (vR x), some (vI (nI n))] rfl (Nat.le_of_ble_eq_true rfl) ?_
  refine r_aload_n dJ2_init_0 rfl ?_
  refine r_callIv lJ2_1 (xJ1_init (x := x) hk hc) (by rw [hk]; decide) rfl rfl rfl rfl dJ2_init_1 (by decide) (by decide) (fun h9 q9 => ?_)
  subst q9
  have gB : Fg (fun a => a = x) [] (fun a => a = x) h (sI h x 0 (nI 0)) := fg_si Fg.rf (Or.inl rfl)
  have nB : hN (sI h x 0 (nI 0)) = hN h := rfl
  have kB9 : hK (sI h x 0 (nI 0)) x = 21 := hk
  have sB : hI (sI h x 0 (nI 0)) x 2 = 0 := (rdI_k (by decide)).trans hs0
  generalize sI h x 0 (nI 0) = hB at gB kB9 sB nB ⊢
  refine r_iload_n dJ2_init_4 rfl ?_
  refine r_if_le (tgt := 19) dJ2_init_5 rfl (fun c1 => ?_) (fun c1 => ?_)
  · --
    exact absurd c1 (fun z => by have := nI_le0 (by omega) z; omega)
  · --
    refine r_aload_n dJ2_init_8 rfl ?_
    refine r_iload_n dJ2_init_9 rfl ?_
    refine r_wf (fun wf9 => ?_)
    refine r_anew (t := 4) (n := n) (Or.inl ⟨rfl, rfl⟩) q195 (by omega) dJ2_init_10 (by decide) (by show 0 + n ≤ 100; omega) ?_
    have kA : hK (nO hB 104 n) (hN hB) = 104 := nO_Kn
    have lA : hL (nO hB 104 n) (hN hB) = n := nO_Ln
    have gA : Fg (fun a => a = x) [] (fun a => a = x) h (nO hB 104 n) := fg_no gB wf9
    have cA : ev_c < hN hB := wf9.1
    have zB : hK hB (hN hB) = 0 := wf_0 wf9
    have nA : x ≠ hN hB := fun q => by rw [← q, kB9] at zB; cases zB
    have kx : hK (nO hB 104 n) x = 21 := by rw [nO_K, if_neg nA]; exact kB9
    have sx : hI (nO hB 104 n) x 2 = 0 := by rw [nO_I nA]; exact sB
    have zA : hK h (hN hB) = 0 := fg_0 gB zB
    have mA : hN (nO hB 104 n) = hN h + 1 := by rw [nO_N, nB]
    generalize nO hB 104 n = hA at kA lA gA kx sx mA ⊢
    generalize hN hB = e at kA lA cA zB nA zA nB ⊢
    refine r_putR fJ2_9 (kx) (hc) rfl dJ2_init_13 ?_
    refine r_goto (tgt := 60) dJ2_init_16 rfl ?_
    exact r_retv dJ2_init_60 rfl (Nat.le_refl _) (by show 0 + n ≤ 100; omega) ⟨e, zA, cA, ⟨kx, fs_atR, sx, kA, Nat.zero_le _, by show hL hA e < 1000; omega⟩, lA, fg_sr gA (Or.inl rfl), nB, mA⟩

theorem xJ9_newLength {G : ev_G} {h : ev_H} {N : Nat} (hN : N ≤ 100) : Called G mJ9_newLength 1 0 0 [vI (nI N), vI (nI 1), vI (nI (N / 2))] h (px (vI (nI (N + nwL N))) h) := by
  have hnw := nw_le hN
  refine called_of rfl [some (vI (nI N)), some (vI (nI 1)), some (vI (nI (N / 2))), none] rfl (Nat.le_of_ble_eq_true rfl) ?_
  refine r_iload_n dJ9_newLength_0 rfl ?_
  refine r_iload_n dJ9_newLength_1 rfl ?_
  refine r_iload_n dJ9_newLength_2 rfl ?_
  refine r_mmax q545 (by decide) (by decide) rfl (Nat.zero_le _) (Nat.zero_le _) dJ9_newLength_3 ?_
  refine r_top (nI (nwL N)) (nw_max hN) ?_
  refine r_iadd dJ9_newLength_6 ?_
  refine r_top (nI (N + (nwL N))) (nI_add _ _) ?_
  refine r_istore_n dJ9_newLength_7 (by decide) rfl ?_
  refine r_iconst (v := nI 0) dJ9_newLength_8 (by decide) ?_
  refine r_iload_n dJ9_newLength_9 rfl ?_
  refine r_icmpN_ge (tgt := 21) dJ9_newLength_10 rfl (by omega) (by omega) (fun c1 => ?_) (fun c1 => ?_)
  · --
    exact absurd c1 (by omega)
  · --
    refine r_iload_n dJ9_newLength_13 rfl ?_
    refine r_ldc q548 dJ9_newLength_14 ?_
    refine r_icmp_gt (tgt := 21) dJ9_newLength_16 rfl (fun c2 => ?_) (fun c2 => ?_)
    · --
      exact absurd c2 (nw_big hN)
    · --
      refine r_iload_n dJ9_newLength_19 rfl ?_
      exact r_retx dJ9_newLength_20 rfl rfl (rfl)

theorem xJ11_copyOf_3 {G : ev_G} {h : ev_H} {e N c : Nat} (hk : hK h e = 104) (hc : ev_c < e) (hl : hL h e = N) (hNc : N ≤ c) (hc1 : c ≤ 150) (hel : ∀ i, i < N → hR h e i = 0 ∨ ev_elm "java/lang/Object" h (hR h e i)) : Called G mJ11_copyOf_3 1 1 150 [vR e, vI (nI c), vR 8] h (pR (fun y h1 => hK h y = 0 ∧ ev_c < y ∧ hK h1 y = 104 ∧ hL h1 y = c ∧ (∀ i, i < N → hR h1 y i = hR h e i) ∧ Fg noC [] noC h h1)) := by
  refine called_of rfl [some (vR e), some (vI (nI c)), some (vR 8), none] rfl (Nat.le_of_ble_eq_true rfl) ?_
  refine r_aload_n dJ11_copyOf_3_0 rfl ?_
  refine r_ldcM q956 dJ11_copyOf_3_1 ?_
  refine r_acmp_ne (tgt := 13) dJ11_copyOf_3_3 rfl (fun z => absurd rfl z) ?_ (Or.inl rfl)
  refine r_iload_n dJ11_copyOf_3_6 rfl ?_
  refine r_wf (fun wf9 => ?_)
  refine r_anew (t := 4) (n := c) (Or.inl ⟨rfl, rfl⟩) q957 (by omega) dJ11_copyOf_3_7 (by decide) (by show 0 + c ≤ 150; omega) ?_
  have kA : hK (nO h 104 c) (hN h) = 104 := nO_Kn
  have lA : hL (nO h 104 c) (hN h) = c := nO_Ln
  have gA : Fg noC [] noC h (nO h 104 c) := Fg.nO wf9
  have cA : ev_c < hN h := wf9.1
  have zA : hK h (hN h) = 0 := wf_0 wf9
  generalize nO h 104 c = hA at kA lA gA ⊢
  generalize hN h = y at kA lA cA zA ⊢
  refine r_goto (tgt := 24) dJ11_copyOf_3_10 rfl ?_
  refine r_astore_n dJ11_copyOf_3_24 (by decide) rfl ?_
  refine r_aload_n dJ11_copyOf_3_25 rfl ?_
  refine r_iconst (v := nI 0) dJ11_copyOf_3_26 (by decide) ?_
  refine r_aload_n dJ11_copyOf_3_27 rfl ?_
  refine r_iconst (v := nI 0) dJ11_copyOf_3_28 (by decide) ?_
  refine r_aload_n dJ11_copyOf_3_29 rfl ?_
  refine r_alen (t := 4) (gA.k hk (by decide)) dJ11_copyOf_3_30 ?_
  refine r_top (nI N) (congrArg nI ((gA.l hk (by decide)).trans hl)) ?_
  refine r_iload_n dJ11_copyOf_3_31 rfl ?_
  refine r_mmin q563 (by decide) (by decide) rfl (by decide) (by show 0 + c ≤ 150; omega) dJ11_copyOf_3_32 ?_
  refine r_top (nI N) (if_neg (fun z => by have := (nlt (by omega) (by omega)).mp z; omega)) ?_
  refine r_copyR (t := 4) (E := "java/lang/Object") q566 (Or.inl ⟨rfl, rfl⟩) (gA.k hk (by decide)) kA hc cA ((gA.l hk (by decide)).trans hl) lA (by omega) (by omega) (by omega) (by omega) (fun i hi => ?_) (by decide) (by decide) rfl dJ11_copyOf_3_35 ?_
  · rw [Nat.zero_add, gA.r hk (by decide) (fun z => z)]; exact (hel i hi).imp (fun z => z) (fun z => elm_fg gA z)
  refine r_aload_n dJ11_copyOf_3_38 rfl ?_
  exact r_retr dJ11_copyOf_3_39 rfl (Or.inr ⟨_, rfl⟩) (Nat.le_refl _) (by show 0 + c ≤ 150; omega) ⟨zA, cA, kA, lA, fun i hi => by rw [cpR_at, pk_cpy_in (by omega) (by omega), show 0 + (i - 0) = i by omega, gA.r hk (by decide) (fun z => z)], fg_cpR gA zA⟩

theorem xJ11_copyOf_2 {G : ev_G} {h : ev_H} {e N c : Nat} (hk : hK h e = 104) (hc : ev_c < e) (hl : hL h e = N) (hNc : N ≤ c) (hc1 : c ≤ 150) (hel : ∀ i, i < N → hR h e i = 0 ∨ ev_elm "java/lang/Object" h (hR h e i)) : Called G mJ11_copyOf_2 2 1 150 [vR e, vI (nI c)] h (pR (fun y h1 => hK h y = 0 ∧ ev_c < y ∧ hK h1 y = 104 ∧ hL h1 y = c ∧ (∀ i, i < N → hR h1 y i = hR h e i) ∧ Fg noC [] noC h h1)) := by
  refine called_of rfl [some (vR e), some (vI (nI c))] rfl (Nat.le_of_ble_eq_true rfl) ?_
  refine r_aload_n dJ11_copyOf_2_0 rfl ?_
  refine r_iload_n dJ11_copyOf_2_1 rfl ?_
  refine r_aload_n dJ11_copyOf_2_2 rfl ?_
  refine r_getClass q925 q2439 q2438 q926 q952 hk hc (by decide) (by decide) rfl dJ11_copyOf_2_3 ?_
  refine r_callSr lJ11_300 (xJ11_copyOf_3 hk hc hl hNc hc1 hel) rfl rfl rfl rfl dJ11_copyOf_2_6 (Nat.le_refl _) (Nat.le_refl _) (fun y h9 q9 => ?_)
  exact r_retr dJ11_copyOf_2_9 rfl (Or.inr ⟨_, rfl⟩) (Nat.le_refl _) (Nat.le_refl _) q9

theorem xJ2_grow_2 {G : ev_G} {h : ev_H} {x e n : Nat} (hA : ALs x e n h) (hc : ev_c < x) (hce : ev_c < e) (hfull : hL h e = n) (hn0 : 0 < n) (hn : n ≤ 100) (hel : ∀ i, i < n → hR h e i = 0 ∨ ev_elm "java/lang/Object" h (hR h e i)) : Called G mJ2_grow_2 3 1 150 [vR x, vI (nI (n + 1))] h (pR (fun y h1 => hK h y = 0 ∧ ev_c < y ∧ hK h1 y = 104 ∧ n < hL h1 y ∧ hL h1 y < 1000 ∧ (∀ i, i < n → hR h1 y i = hR h e i) ∧ hR h1 x 1 = y ∧ Fg noC [] (fun a => a = x) h h1)) := by
  obtain ⟨x1, x2, x3, x4, x5, x6⟩ := hA
  have kx := x1
  have ex := x2
  have hnw := nw_le hn
  refine called_of rfl [some (vR x), some (vI (nI (n + 1))), none, none] rfl (Nat.le_of_ble_eq_true rfl) ?_
  refine r_aload_n dJ2_grow_2_0 rfl ?_
  refine r_getRv fJ2_9 (kx) (v := e) (ex) rfl dJ2_grow_2_1 ?_
  refine r_alen (t := 4) (x4) dJ2_grow_2_4 ?_
  refine r_top (nI n) (congrArg nI (hfull)) ?_
  refine r_istore_n dJ2_grow_2_5 (by decide) rfl ?_
  refine r_iload_n dJ2_grow_2_6 rfl ?_
  refine r_if_gt (tgt := 20) dJ2_grow_2_7 rfl (fun c1 => ?_) (fun c1 => ?_)
  · --
    refine r_iload_n dJ2_grow_2_20 rfl ?_
    refine r_iload_n dJ2_grow_2_21 rfl ?_
    refine r_iload_n dJ2_grow_2_22 rfl ?_
    refine r_isub dJ2_grow_2_23 ?_
    refine r_top (nI (n + 1 - n)) (pk_sub (by omega)) ?_
    refine r_top (nI 1) (congrArg nI (show n + 1 - n = 1 by omega)) ?_
    refine r_iload_n dJ2_grow_2_24 rfl ?_
    refine r_iconst (v := nI 1) dJ2_grow_2_25 (by decide) ?_
    refine r_ishr dJ2_grow_2_26 ?_
    refine r_top (nI (n / 2)) (nw_half hn) ?_
    refine r_callSx lJ2_73 (xJ9_newLength hn) rfl rfl rfl rfl dJ2_grow_2_27 (by decide) (by decide) ?_
    refine r_istore_n dJ2_grow_2_30 (by decide) rfl ?_
    refine r_aload_n dJ2_grow_2_31 rfl ?_
    refine r_aload_n dJ2_grow_2_32 rfl ?_
    refine r_getRv fJ2_9 (kx) (v := e) (ex) rfl dJ2_grow_2_33 ?_
    refine r_iload_n dJ2_grow_2_36 rfl ?_
    refine r_callSr lJ2_66 (xJ11_copyOf_2 (c := n + nwL n) x4 hce hfull (by omega) (by omega) hel) rfl rfl rfl rfl dJ2_grow_2_37 (by decide) (by decide) (fun y hB q9 => ?_)
    obtain ⟨zB, cB, kB, lB, rB, gB⟩ := q9
    have kxB := gB.k x1 (by decide)
    refine r_dup_x1 dJ2_grow_2_40 rfl rfl ?_
    refine r_putR fJ2_9 (kxB) (hc) rfl dJ2_grow_2_41 ?_
    exact r_retr dJ2_grow_2_44 rfl (Or.inr ⟨_, rfl⟩) (Nat.le_refl _) (Nat.le_refl _) ⟨zB, cB, kB, by show n < hL hB y; omega, by show hL hB y < 1000; omega, fun i hi => (gr_sR (fun z => by rw [← z, kB] at kxB; cases kxB) i).trans (rB i hi), fs_atR, fg_sr (gB.wk (fun _ z => z) (fun _ z => z) (fun _ z => z.elim)) (Or.inl rfl)⟩
  · --
    exact absurd (show nI n > 0 from (nlt (by decide) (by omega)).mpr hn0) c1

theorem xJ2_grow {G : ev_G} {h : ev_H} {x e n : Nat} (hA : ALs x e n h) (hc : ev_c < x) (hce : ev_c < e) (hfull : hL h e = n) (hn0 : 0 < n) (hn : n ≤ 100) (hel : ∀ i, i < n → hR h e i = 0 ∨ ev_elm "java/lang/Object" h (hR h e i)) : Called G mJ2_grow 4 1 150 [vR x] h (pR (fun y h1 => hK h y = 0 ∧ ev_c < y ∧ hK h1 y = 104 ∧ n < hL h1 y ∧ hL h1 y < 1000 ∧ (∀ i, i < n → hR h1 y i = hR h e i) ∧ hR h1 x 1 = y ∧ Fg noC [] (fun a => a = x) h h1)) := by
  have hA0 := hA
  obtain ⟨x1, x2, x3, x4, x5, x6⟩ := hA
  refine called_of rfl [some (vR x)] rfl (Nat.le_of_ble_eq_true rfl) ?_
  refine r_aload_n dJ2_grow_0 rfl ?_
  refine r_aload_n dJ2_grow_1 rfl ?_
  refine r_getIv fJ2_48 (x1) (v := nI n) (x3) rfl dJ2_grow_2 ?_
  refine r_iconst (v := nI 1) dJ2_grow_5 (by decide) ?_
  refine r_iadd dJ2_grow_6 ?_
  refine r_top (nI (n + 1)) (nI_add _ _) ?_
  refine r_callVr lJ2_69 (xJ2_grow_2 hA0 hc hce hfull hn0 hn hel) (x1) rfl rfl rfl rfl dJ2_grow_7 (Nat.le_refl _) (Nat.le_refl _) (fun y hB q9 => ?_)
  exact r_retr dJ2_grow_10 rfl (Or.inr ⟨_, rfl⟩) (Nat.le_refl _) (Nat.le_refl _) q9

theorem xJ2_add_2 {G : ev_G} {h : ev_H} {x e n v : Nat} (hA : ALs x e n h) (hc : ev_c < x) (hce : ev_c < e) (he0 : 0 < hL h e) (hn : n ≤ 100) (hel : ∀ i, i < n → hR h e i = 0 ∨ ev_elm "java/lang/Object" h (hR h e i)) (hv : ev_elm "java/lang/Object" h v) : Called G mJ2_add_2 5 1 150 [vR x, vR v, vR e, vI (nI n)] h (p0 (fun h1 => ∃ e', ALs x e' (n + 1) h1 ∧ ev_c < e' ∧ 0 < hL h1 e' ∧ (∀ i, i < n → hR h1 e' i = hR h e i) ∧ hR h1 e' n = v ∧ (e' = e ∨ hK h e' = 0) ∧ Fg (fun a => a = x) [] (fun a => a = x ∨ a = e) h h1)) := by
  have hA0 := hA
  obtain ⟨x1, x2, x3, x4, x5, x6⟩ := hA
  have kx := x1
  refine called_of rfl [some (vR x), some (vR v), some (vR e), some (vI (nI n))] rfl (Nat.le_of_ble_eq_true rfl) ?_
  refine r_iload_n dJ2_add_2_0 rfl ?_
  refine r_aload_n dJ2_add_2_1 rfl ?_
  refine r_alen (t := 4) (x4) dJ2_add_2_2 ?_
  refine r_top (nI (hL h e)) (congrArg nI (rfl)) ?_
  refine r_icmpN_ne (tgt := 11) dJ2_add_2_3 rfl (by omega) (by omega) (fun c1 => ?_) (fun c1 => ?_)
  · --
    refine r_aload_n dJ2_add_2_11 rfl ?_
    refine r_iload_n dJ2_add_2_12 rfl ?_
    refine r_aload_n dJ2_add_2_13 rfl ?_
    refine r_aast (t := 4) (Or.inl ⟨rfl, rfl⟩) (x4) (hce) (rfl) (ix_n (by omega) (by omega)) (Or.inr hv) dJ2_add_2_14 ?_
    refine r_aload_n dJ2_add_2_15 rfl ?_
    refine r_iload_n dJ2_add_2_16 rfl ?_
    refine r_iconst (v := nI 1) dJ2_add_2_17 (by decide) ?_
    refine r_iadd dJ2_add_2_18 ?_
    refine r_top (nI (n + 1)) (nI_add _ _) ?_
    refine r_putN fJ2_48 (kx) (hc) dJ2_add_2_19 ?_
    exact r_retv dJ2_add_2_22 rfl (Nat.zero_le _) (Nat.zero_le _) ⟨e, ⟨x1, (gr_sR2 (fun z => by rw [z, x4] at x1; cases x1)).trans x2, fs_at, x4, by show n + 1 ≤ hL h e; omega, x6⟩, hce, he0, fun i hi => gr_sRk (by omega), fs_atR, Or.inl rfl, fg_si (fg_sr Fg.rf (Or.inl (Or.inr rfl))) (Or.inl rfl)⟩
  · --
    refine r_aload_n dJ2_add_2_6 rfl ?_
    refine r_callVr lJ2_129 (xJ2_grow hA0 hc hce (by omega) (by omega) hn hel) (x1) rfl rfl rfl rfl dJ2_add_2_7 (Nat.le_refl _) (Nat.le_refl _) (fun y hB q9 => ?_)
    obtain ⟨zB, cB, kB, lB, lB2, rB, eB, gB⟩ := q9
    have kxB := gB.k x1 (by decide)
    refine r_astore_n dJ2_add_2_10 (by decide) rfl ?_
    refine r_aload_n dJ2_add_2_11 rfl ?_
    refine r_iload_n dJ2_add_2_12 rfl ?_
    refine r_aload_n dJ2_add_2_13 rfl ?_
    refine r_aast (t := 4) (Or.inl ⟨rfl, rfl⟩) (kB) (cB) (rfl) (ix_n (by omega) (by omega)) (Or.inr (elm_fg gB hv)) dJ2_add_2_14 ?_
    refine r_aload_n dJ2_add_2_15 rfl ?_
    refine r_iload_n dJ2_add_2_16 rfl ?_
    refine r_iconst (v := nI 1) dJ2_add_2_17 (by decide) ?_
    refine r_iadd dJ2_add_2_18 ?_
    refine r_top (nI (n + 1)) (nI_add _ _) ?_
    refine r_putN fJ2_48 (kxB) (hc) dJ2_add_2_19 ?_
    exact r_retv dJ2_add_2_22 rfl (Nat.le_refl _) (Nat.le_refl _) ⟨y, ⟨kxB, (gr_sR2 (fun z => by rw [z, kB] at kxB; cases kxB)).trans eB, fs_at, kB, by show n + 1 ≤ hL hB y; omega, lB2⟩, cB, by show 0 < hL hB y; omega, fun i hi => (gr_sRk (by omega)).trans (rB i hi), fs_atR, Or.inr zB, fg_si (fg_sr (gB.wk (fun _ z => z.elim) (fun _ z => z) (fun _ z => Or.inl z)) (Or.inr zB)) (Or.inl rfl)⟩

theorem xJ2_add {G : ev_G} {h : ev_H} {x e n v : Nat} (hA : ALs x e n h) (hc : ev_c < x) (hce : ev_c < e) (he0 : 0 < hL h e) (hn : n ≤ 100) (hel : ∀ i, i < n → hR h e i = 0 ∨ ev_elm "java/lang/Object" h (hR h e i)) (hv : ev_elm "java/lang/Object" h v) : Called G mJ2_add 6 1 150 [vR x, vR v] h (pI (fun y h1 => y = nI 1 ∧ ∃ e', ALs x e' (n + 1) h1 ∧ ev_c < e' ∧ 0 < hL h1 e' ∧ (∀ i, i < n → hR h1 e' i = hR h e i) ∧ hR h1 e' n = v ∧ (e' = e ∨ hK h e' = 0) ∧ Fg (fun a => a = x) [] (fun a => a = x ∨ a = e) h h1)) := by
  have hA0 := hA
  obtain ⟨x1, x2, x3, x4, x5, x6⟩ := hA
  refine called_of rfl [some (vR x), some (vR v)] rfl (Nat.le_of_ble_eq_true rfl) ?_
  refine r_aload_n dJ2_add_0 rfl ?_
  refine r_dup dJ2_add_1 rfl ?_
  refine r_getS fJ2_63 (x1) (vI (hI h x 0)) rfl dJ2_add_2 ?_
  refine r_iconst (v := nI 1) dJ2_add_5 (by decide) ?_
  refine r_iadd dJ2_add_6 ?_
  refine r_putS fJ2_63 (x1) (hc) dJ2_add_7 ?_
  have gB : Fg (fun a => a = x) [] (fun a => a = x ∨ a = e) h (sI h x 0 ((hI h x 0) + (nI 1))) := fg_si Fg.rf (Or.inl rfl)
  have aB : ALs x e n (sI h x 0 ((hI h x 0) + (nI 1))) := hA0.mc
  have lB : hL (sI h x 0 ((hI h x 0) + (nI 1))) e = hL h e := rfl
  have rB : hR (sI h x 0 ((hI h x 0) + (nI 1))) = hR h := rfl
  have kB9 : hK (sI h x 0 ((hI h x 0) + (nI 1))) = hK h := rfl
  generalize sI h x 0 ((hI h x 0) + (nI 1)) = hB at gB aB lB rB kB9 ⊢
  obtain ⟨x1, x2, sB, x4, x5, x6⟩ := aB
  refine r_aload_n dJ2_add_10 rfl ?_
  refine r_aload_n dJ2_add_11 rfl ?_
  refine r_aload_n dJ2_add_12 rfl ?_
  refine r_getRv fJ2_9 (x1) (v := e) (x2) rfl dJ2_add_13 ?_
  refine r_aload_n dJ2_add_16 rfl ?_
  refine r_getIv fJ2_48 (x1) (v := nI n) (sB) rfl dJ2_add_17 ?_
  refine r_callVv lJ2_131 (xJ2_add_2 ⟨x1, x2, sB, x4, x5, x6⟩ hc hce (by rw [lB]; exact he0) hn (by rw [rB]; exact fun i hi => (hel i hi).imp (fun z => z) (fun z => elm_fg gB z)) (elm_fg gB hv)) (x1) rfl rfl rfl rfl dJ2_add_20 (Nat.le_refl _) (Nat.le_refl _) (fun hD q9 => ?_)
  obtain ⟨e', d1, d2, d3, d4, d5, d6, d7⟩ := q9
  refine r_iconst (v := nI 1) dJ2_add_23 (by decide) ?_
  exact r_reti dJ2_add_24 rfl rfl (Nat.le_refl _) (Nat.le_refl _) ⟨rfl, e', d1, d2, d3, fun i hi => (d4 i hi).trans (by rw [rB]), d5, by rw [kB9] at d6; exact d6, gB.tr d7⟩
