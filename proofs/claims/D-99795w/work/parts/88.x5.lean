/-! ===== THE SYSTEM: grinding, beginning, drawing (walks by program) ===== -/
set_option maxRecDepth 100000

theorem x3_grind {G : ev_G} {b : Bk} {K : XK} {h : ev_H} (hb : XB b K h) {t : Nat} {T : Nat → Int32} (hT : XT t T (-1) h) (hw9 : TW b T) {s : Nat} (hs : s < nS b) : Called G mX3_grind 311 0 0 [vR t, vR (kB K), vI (nI s)] h (pI (fun y h1 => y = outV b T s ∧ Fr [kAk K, t, t + 1, t + 2] [] h h1 ∧ XT t (grT b T s) (-1) h1)) := by
  have hw := hb.bw
  have hb1 := hw.p6
  have hb2 := hw.s5
  have hb3 := hw.t10
  have hct := hT.c
  have f : Fr [kAk K, t, t + 1, t + 2] [] h h := Fr.rf
  obtain ⟨hnA, hnB, hnC⟩ := hT.neA hb
  refine called_of rfl [some (vR t), some (vR (kB K)), some (vI (nI s)), none] rfl (Nat.le_of_ble_eq_true rfl) ?_
  refine r_aload_n dX3_grind_0 rfl ?_
  refine r_aload_n dX3_grind_1 rfl ?_
  refine r_iload_n dX3_grind_2 rfl ?_
  refine r_callVi lX3_121 (x3_out hb hT hw9 (s := s) (by omega)) (hT.k) rfl rfl rfl rfl dX3_grind_3 (Nat.le_refl _) (Nat.le_refl _) (fun y9 hZ1 q9 => ?_)
  obtain ⟨rfl, gZ1⟩ := q9
  have hbZ1 := hb.frA gZ1
  have hTZ1 := hT.frA hb gZ1
  have fZ1 : Fr [kAk K, t, t + 1, t + 2] [] h hZ1 := f.tr2 gZ1 (fun _ z => z) (by simp)
  refine r_istore_n dX3_grind_6 (by decide) rfl ?_
  refine r_aload_n dX3_grind_7 rfl ?_
  refine r_dup dX3_grind_8 rfl ?_
  refine r_getIv fX3_45 (hTZ1.k) (v := T 1) (hTZ1.sa) rfl dX3_grind_9 ?_
  refine r_iload_n dX3_grind_12 rfl ?_
  refine r_ior dX3_grind_13 ?_
  refine r_putN fX3_45 (hTZ1.k) (hct) dX3_grind_14 ?_
  have gZ2 : Fr [t] [] hZ1 (sI hZ1 t 4 ((T 1) ||| (outS b T (-1) s))) := Fr.rf.sa t 4 ((T 1) ||| (outS b T (-1) s)) (by simp)
  have hbZ2 : XB b K (sI hZ1 t 4 ((T 1) ||| (outS b T (-1) s))) := hbZ1.fr gZ2 (fun a ha => hTZ1.okT a (by rw [List.mem_singleton.mp ha]; simp))
  have fZ2 : Fr [kAk K, t, t + 1, t + 2] [] h (sI hZ1 t 4 ((T 1) ||| (outS b T (-1) s))) := fZ1.tr2 gZ2 (fun _ z => z) (by simp)
  have hTZ2 : XT t (u1 T 1 ((T 1) ||| (outS b T (-1) s))) (-1) (sI hZ1 t 4 ((T 1) ||| (outS b T (-1) s))) := hTZ1.w0 ((T 1) ||| (outS b T (-1) s)) (by decide)
  generalize sI hZ1 t 4 ((T 1) ||| (outS b T (-1) s)) = hZ2 at gZ2 hbZ2 fZ2 hTZ2 ⊢
  refine r_aload_n dX3_grind_17 rfl ?_
  refine r_getRv fX3_15 (hTZ2.k) (v := t + 2) (hTZ2.rgr) rfl dX3_grind_18 ?_
  refine r_iload_n dX3_grind_21 rfl ?_
  refine r_bipush (v := nI 99) dX3_grind_22 (by decide) ?_
  refine r_aload_n dX3_grind_24 rfl ?_
  refine r_getRv fX3_15 (hTZ2.k) (v := t + 2) (hTZ2.rgr) rfl dX3_grind_25 ?_
  refine r_iload_n dX3_grind_28 rfl ?_
  refine r_ialdv (hTZ2.kgr) (hTZ2.lgr) (ix_n (by omega) (by decide)) (v := T (12 + s)) ((hTZ2.gr_ (by omega)).trans (u1_ne (by omega))) dX3_grind_29 ?_
  refine r_iconst (v := nI 1) dX3_grind_30 (by decide) ?_
  refine r_iadd dX3_grind_31 ?_
  refine r_mmin q1315 (by decide) (by decide) rfl (Nat.zero_le _) (Nat.zero_le _) dX3_grind_32 ?_
  refine r_top (if T (12 + s) < nI 99 then T (12 + s) + nI 1 else T (12 + s)) (gr_min (hw9.2.2.2.1 s hs)) ?_
  refine r_iastv (hTZ2.kgr) (by omega) (hTZ2.lgr) (ix_n (by omega) (by decide)) dX3_grind_35 ?_
  have gZ3 : Fr [t + 2] [] hZ2 (sI hZ2 (t + 2) s (if T (12 + s) < nI 99 then T (12 + s) + nI 1 else T (12 + s))) := Fr.rf.sa (t + 2) s (if T (12 + s) < nI 99 then T (12 + s) + nI 1 else T (12 + s)) (by simp)
  have hbZ3 : XB b K (sI hZ2 (t + 2) s (if T (12 + s) < nI 99 then T (12 + s) + nI 1 else T (12 + s))) := hbZ2.fr gZ3 (fun a ha => hTZ2.okT a (by rw [List.mem_singleton.mp ha]; simp))
  have fZ3 : Fr [kAk K, t, t + 1, t + 2] [] h (sI hZ2 (t + 2) s (if T (12 + s) < nI 99 then T (12 + s) + nI 1 else T (12 + s))) := fZ2.tr2 gZ3 (fun _ z => z) (by simp)
  have hTZ3 : XT t (u1 (u1 T 1 ((T 1) ||| (outS b T (-1) s))) (12 + s) (if T (12 + s) < nI 99 then T (12 + s) + nI 1 else T (12 + s))) (-1) (sI hZ2 (t + 2) s (if T (12 + s) < nI 99 then T (12 + s) + nI 1 else T (12 + s))) := hTZ2.wgr (by omega) (if T (12 + s) < nI 99 then T (12 + s) + nI 1 else T (12 + s))
  generalize sI hZ2 (t + 2) s (if T (12 + s) < nI 99 then T (12 + s) + nI 1 else T (12 + s)) = hZ3 at gZ3 hbZ3 fZ3 hTZ3 ⊢
  refine r_iload_n dX3_grind_36 rfl ?_
  exact r_reti dX3_grind_37 rfl rfl (Nat.le_refl _) (Nat.le_refl _) ⟨rfl, fZ3, hTZ3⟩

theorem x3_grindSome {G : ev_G} {b : Bk} {K : XK} {h : ev_H} (hb : XB b K h) {t : Nat} {T : Nat → Int32} (hT : XT t T (-1) h) (hw9 : TW b T) (sm : Int32) : Called G mX3_grindSome 312 0 0 [vR t, vR (kB K), vI sm] h (pI (fun y h1 => y = gsV b T sm (nS b) ∧ Fr [kAk K, t, t + 1, t + 2] [] h h1 ∧ XT t (gsT b T sm (nS b)) (-1) h1)) := by
  have hw := hb.bw
  have hb1 := hw.p6
  have hb2 := hw.s5
  have hb3 := hw.t10
  have hct := hT.c
  have f : Fr [kAk K, t, t + 1, t + 2] [] h h := Fr.rf
  obtain ⟨hnA, hnB, hnC⟩ := hT.neA hb
  refine called_of rfl [some (vR t), some (vR (kB K)), some (vI sm), none, none] rfl (Nat.le_of_ble_eq_true rfl) ?_
  refine r_iconst (v := nI 0) dX3_grindSome_0 (by decide) ?_
  refine r_istore_n dX3_grindSome_1 (by decide) rfl ?_
  refine r_iconst (v := nI 0) dX3_grindSome_2 (by decide) ?_
  refine r_istore dX3_grindSome_3 (by decide) rfl ?_
  refine (ev_for (P := fun i => ∀ hL : ev_H, (XB b K hL ∧ Fr [kAk K, t, t + 1, t + 2] [] h hL ∧ XT t (gsT b T sm i) (-1) hL) → Ev G mX3_grindSome (ev_room 312 0 0) (ev_MQ G (pI (fun y h1 => y = gsV b T sm (nS b) ∧ Fr [kAk K, t, t + 1, t + 2] [] h h1 ∧ XT t (gsT b T sm (nS b)) (-1) h1)) 0 0) 5 [some (vR t), some (vR (kB K)), some (vI sm), some (vI (gsV b T sm i)), some (vI (nI i))] [] hL 0 0) (nS b) (fun i hki ihi hL qhL => ?_)) 0 (Nat.zero_le _) _ (⟨hb, f, hT⟩)
  obtain ⟨hbL, fL, hTL⟩ := qhL
  refine r_iload dX3_grindSome_5 rfl ?_
  refine r_aload_n dX3_grindSome_7 rfl ?_
  refine r_getRv fX3_130 (hbL.k) (v := kSl K) (hbL.sl) rfl dX3_grindSome_8 ?_
  refine r_callVx lX3_28 (xJ2_size hbL.aS) (hbL.aS.1) rfl rfl rfl rfl dX3_grindSome_11 (Nat.le_refl _) (Nat.le_refl _) ?_
  refine r_icmpN_ge (tgt := 47) dX3_grindSome_14 rfl (by omega) (by omega) (fun c1 => ?_) (fun c1 => ?_)
  · --
    refine r_iload_n dX3_grindSome_47 rfl ?_
    exact r_reti dX3_grindSome_48 rfl (rfl) (Nat.le_refl _) (Nat.le_refl _) (by rw [show nS b = i by omega]; exact ⟨rfl, fL, hTL⟩)
  · --
    refine r_iload_n dX3_grindSome_17 rfl ?_
    refine r_iload_n dX3_grindSome_18 rfl ?_
    refine r_iload dX3_grindSome_19 rfl ?_
    refine r_ishr dX3_grindSome_21 ?_
    refine r_iconst (v := 1) dX3_grindSome_22 (by decide) ?_
    refine r_iand dX3_grindSome_23 ?_
    refine r_iconst (v := 1) dX3_grindSome_24 (by decide) ?_
    refine r_icmp_ne (tgt := 38) dX3_grindSome_25 rfl (fun c2 => ?_) (fun c2 => ?_)
    · --
      have hbf : tb sm i = false := decide_eq_false c2
      refine r_iconst (v := nI 0) dX3_grindSome_38 (by decide) ?_
      refine r_ior dX3_grindSome_39 ?_
      refine r_istore_n dX3_grindSome_40 (by decide) rfl ?_
      refine r_iincN (n := 1) dX3_grindSome_41 rfl rfl (by decide) rfl ?_
      refine r_goto (tgt := 5) dX3_grindSome_44 rfl ?_
      exact r_L (by rw [gsV_f hbf, or0]; rfl) (ihi (by omega) _ (⟨hbL, fL, by rw [gsT_f hbf]; exact hTL⟩))
    · --
      have hbt : tb sm i = true := decide_eq_true c2
      refine r_aload_n dX3_grindSome_28 rfl ?_
      refine r_aload_n dX3_grindSome_29 rfl ?_
      refine r_iload dX3_grindSome_30 rfl ?_
      refine r_callVi lX3_133 (x3_grind hbL hTL (hw9.gs hw _ (by omega)) (s := i) (by omega)) (hTL.k) rfl rfl rfl rfl dX3_grindSome_32 (Nat.le_refl _) (Nat.le_refl _) (fun y9 hZ1 q9 => ?_)
      obtain ⟨rfl, gZ1, hTZ1⟩ := q9
      have hbZ1 := hbL.fr gZ1 (fun a ha => by rcases List.mem_cons.mp ha with e | e; exact hbL.okA a (by rw [e]; simp); exact hTL.okT a e)
      have fZ1 : Fr [kAk K, t, t + 1, t + 2] [] h hZ1 := fL.tr gZ1
      refine r_goto (tgt := 39) dX3_grindSome_35 rfl ?_
      refine r_ior dX3_grindSome_39 ?_
      refine r_istore_n dX3_grindSome_40 (by decide) rfl ?_
      refine r_iincN (n := 1) dX3_grindSome_41 rfl rfl (by decide) rfl ?_
      refine r_goto (tgt := 5) dX3_grindSome_44 rfl ?_
      exact r_L (by rw [gsV_t hbt]; rfl) (ihi (by omega) _ (⟨hbZ1, fZ1, by rw [gsT_t hbt]; exact hTZ1⟩))

theorem beg10 {b : Bk} {T : Nat → Int32} {i : Nat} {v : Int32} (hi : i < 10) (hv : (if i < nT b then bIn b i else -1) = v) (k : Nat) : u1 (fun k => if 2 ≤ k ∧ k < 2 + i then (if k - 2 < nT b then bIn b (k - 2) else -1) else T k) (2 + i) v k = (fun k => if 2 ≤ k ∧ k < 2 + (i + 1) then (if k - 2 < nT b then bIn b (k - 2) else -1) else T k) k := by
  show (if k = 2 + i then v else if 2 ≤ k ∧ k < 2 + i then (if k - 2 < nT b then bIn b (k - 2) else -1) else T k) = if 2 ≤ k ∧ k < 2 + (i + 1) then (if k - 2 < nT b then bIn b (k - 2) else -1) else T k
  by_cases e : k = 2 + i
  · rw [if_pos e, if_pos (by omega), show k - 2 = i by omega, hv]
  · rw [if_neg e]
    by_cases e2 : 2 ≤ k ∧ k < 2 + i
    · rw [if_pos e2, if_pos (show 2 ≤ k ∧ k < 2 + (i + 1) by omega)]
    · rw [if_neg e2, if_neg (show ¬ (2 ≤ k ∧ k < 2 + (i + 1)) by omega)]
theorem beg0 {b : Bk} {T : Nat → Int32} {i : Nat} (hi : i = 10) (k : Nat) : (fun k => if 2 ≤ k ∧ k < 2 + i then (if k - 2 < nT b then bIn b (k - 2) else -1) else T k) k = (fun k => if 2 ≤ k ∧ k < 12 then (if k - 2 < nT b then bIn b (k - 2) else -1) else if 12 ≤ k ∧ k < 12 + 0 then 0 else T k) k := by
  subst hi
  show (if 2 ≤ k ∧ k < 12 then _ else _) = (if 2 ≤ k ∧ k < 12 then _ else if 12 ≤ k ∧ k < 12 + 0 then 0 else T k)
  rw [if_neg (show ¬ (12 ≤ k ∧ k < 12 + 0) by omega)]
theorem beg5 {b : Bk} {T : Nat → Int32} {i : Nat} (k : Nat) : u1 (fun k => if 2 ≤ k ∧ k < 12 then (if k - 2 < nT b then bIn b (k - 2) else -1) else if 12 ≤ k ∧ k < 12 + i then 0 else T k) (12 + i) (nI 0) k = (fun k => if 2 ≤ k ∧ k < 12 then (if k - 2 < nT b then bIn b (k - 2) else -1) else if 12 ≤ k ∧ k < 12 + (i + 1) then 0 else T k) k := by
  show (if k = 12 + i then nI 0 else if 2 ≤ k ∧ k < 12 then (if k - 2 < nT b then bIn b (k - 2) else -1) else if 12 ≤ k ∧ k < 12 + i then 0 else T k) = if 2 ≤ k ∧ k < 12 then (if k - 2 < nT b then bIn b (k - 2) else -1) else if 12 ≤ k ∧ k < 12 + (i + 1) then 0 else T k
  by_cases e : k = 12 + i
  · rw [if_pos e, if_neg (by omega), if_pos (by omega)]; rfl
  · rw [if_neg e]
    by_cases e2 : 2 ≤ k ∧ k < 12
    · rw [if_pos e2, if_pos e2]
    · rw [if_neg e2, if_neg e2]
      by_cases e3 : 12 ≤ k ∧ k < 12 + i
      · rw [if_pos e3, if_pos (by omega)]
      · rw [if_neg e3, if_neg (by omega)]
theorem begE {b : Bk} {T : Nat → Int32} {i : Nat} (hi : i = 5) (k : Nat) (hk : k < 19) : u1 (u1 (u1 (u1 (fun k => if 2 ≤ k ∧ k < 12 then (if k - 2 < nT b then bIn b (k - 2) else -1) else if 12 ≤ k ∧ k < 12 + i then 0 else T k) 0 (nI 0)) 1 (nI 0)) 17 (nI 0)) 18 (nI (bDr b)) k = layT b k := by
  subst hi
  show (if k = 18 then nI (bDr b) else if k = 17 then nI 0 else if k = 1 then nI 0 else if k = 0 then nI 0 else if 2 ≤ k ∧ k < 12 then (if k - 2 < nT b then bIn b (k - 2) else -1) else if 12 ≤ k ∧ k < 12 + 5 then 0 else T k) = (if 2 ≤ k ∧ k < 12 then (if k - 2 < nT b then bIn b (k - 2) else -1) else if k = 18 then nI (bDr b) else 0)
  by_cases e : 2 ≤ k ∧ k < 12
  · rw [if_neg (by omega), if_neg (by omega), if_neg (by omega), if_neg (by omega), if_pos e, if_pos e]
  · rw [if_neg e, if_neg e]
    by_cases e18 : k = 18
    · rw [if_pos e18, if_pos e18]
    · rw [if_neg e18, if_neg e18]
      by_cases e17 : k = 17
      · rw [if_pos e17]; rfl
      · rw [if_neg e17]
        by_cases e1 : k = 1
        · rw [if_pos e1]; rfl
        · rw [if_neg e1]
          by_cases e0 : k = 0
          · rw [if_pos e0]; rfl
          · rw [if_neg e0, if_pos (by omega)]

theorem x3_begin {G : ev_G} {b : Bk} {K : XK} {h : ev_H} (hb : XB b K h) {t : Nat} {T : Nat → Int32} {sh : Int32} (hT : XT t T sh h) : Called G mX3_begin 3 0 0 [vR t, vR (kB K)] h (pR (fun y h1 => y = t ∧ Fr [t, t + 1, t + 2] [] h h1 ∧ XT t (layT b) (-1) h1)) := by
  have hw := hb.bw
  have hb1 := hw.p6
  have hb2 := hw.s5
  have hb3 := hw.t10
  have hct := hT.c
  have f : Fr [t, t + 1, t + 2] [] h h := Fr.rf
  obtain ⟨hnA, hnB, hnC⟩ := hT.neA hb
  refine called_of rfl [some (vR t), some (vR (kB K)), none] rfl (Nat.le_of_ble_eq_true rfl) ?_
  refine r_iconst (v := nI 0) dX3_begin_0 (by decide) ?_
  refine r_istore_n dX3_begin_1 (by decide) rfl ?_
  refine (ev_for (P := fun i => ∀ hL : ev_H, (XB b K hL ∧ Fr [t, t + 1, t + 2] [] h hL ∧ XT t (fun k => if 2 ≤ k ∧ k < 2 + i then (if k - 2 < nT b then bIn b (k - 2) else -1) else T k) sh hL) → Ev G mX3_begin (ev_room 3 0 0) (ev_MQ G (pR (fun y h1 => y = t ∧ Fr [t, t + 1, t + 2] [] h h1 ∧ XT t (layT b) (-1) h1)) 0 0) 2 [some (vR t), some (vR (kB K)), some (vI (nI i))] [] hL 0 0) 10 (fun i hki ihi hL qhL => ?_)) 0 (Nat.zero_le _) _ (⟨hb, f, hT.eqT (fun k hk => (if_neg (by omega)).symm)⟩)
  obtain ⟨hbL, fL, hTL⟩ := qhL
  refine r_iload_n dX3_begin_2 rfl ?_
  refine r_bipush (v := nI 10) dX3_begin_3 (by decide) ?_
  refine r_icmpN_ge (tgt := 49) dX3_begin_5 rfl (by omega) (by omega) (fun c1 => ?_) (fun c1 => ?_)
  · --
    refine r_iconst (v := nI 0) dX3_begin_49 (by decide) ?_
    refine r_istore_n dX3_begin_50 (by decide) rfl ?_
    refine (ev_for (P := fun i => ∀ hM : ev_H, (XB b K hM ∧ Fr [t, t + 1, t + 2] [] h hM ∧ XT t (fun k => if 2 ≤ k ∧ k < 12 then (if k - 2 < nT b then bIn b (k - 2) else -1) else if 12 ≤ k ∧ k < 12 + i then 0 else T k) sh hM) → Ev G mX3_begin (ev_room 3 0 0) (ev_MQ G (pR (fun y h1 => y = t ∧ Fr [t, t + 1, t + 2] [] h h1 ∧ XT t (layT b) (-1) h1)) 0 0) 51 [some (vR t), some (vR (kB K)), some (vI (nI i))] [] hM 0 0) 5 (fun i hki ihi hM qhM => ?_)) 0 (Nat.zero_le _) _ (⟨hbL, fL, hTL.eqT (fun k hk => beg0 (by omega) k)⟩)
    obtain ⟨hbM, fM, hTM⟩ := qhM
    refine r_iload_n dX3_begin_51 rfl ?_
    refine r_iconst (v := nI 5) dX3_begin_52 (by decide) ?_
    refine r_icmpN_ge (tgt := 69) dX3_begin_53 rfl (by omega) (by omega) (fun c2 => ?_) (fun c2 => ?_)
    · --
      refine r_aload_n dX3_begin_69 rfl ?_
      refine r_iconst (v := (-1)) dX3_begin_70 (by decide) ?_
      refine r_putN fX3_18 (hTM.k) (hct) dX3_begin_71 ?_
      have gZ1 : Fr [t] [] hM (sI hM t 2 (-1)) := Fr.rf.sa t 2 _ (by simp)
      have hbZ1 : XB b K (sI hM t 2 (-1)) := hbM.fr gZ1 (fun a ha => hTM.okT a (by rw [List.mem_singleton.mp ha]; simp))
      have fZ1 : Fr [t, t + 1, t + 2] [] h (sI hM t 2 (-1)) := fM.tr2 gZ1 (fun _ z => z) (by simp)
      have hTZ1 : XT t (fun k => if 2 ≤ k ∧ k < 12 then (if k - 2 < nT b then bIn b (k - 2) else -1) else if 12 ≤ k ∧ k < 12 + i then 0 else T k) (-1) (sI hM t 2 (-1)) := hTM.wsh (-1)
      generalize sI hM t 2 (-1) = hZ1 at gZ1 hbZ1 fZ1 hTZ1 ⊢
      refine r_aload_n dX3_begin_74 rfl ?_
      refine r_iconst (v := nI 0) dX3_begin_75 (by decide) ?_
      refine r_putN fX3_42 (hTZ1.k) (hct) dX3_begin_76 ?_
      have gZ2 : Fr [t] [] hZ1 (sI hZ1 t 3 (nI 0)) := Fr.rf.sa t 3 (nI 0) (by simp)
      have hbZ2 : XB b K (sI hZ1 t 3 (nI 0)) := hbZ1.fr gZ2 (fun a ha => hTZ1.okT a (by rw [List.mem_singleton.mp ha]; simp))
      have fZ2 : Fr [t, t + 1, t + 2] [] h (sI hZ1 t 3 (nI 0)) := fZ1.tr2 gZ2 (fun _ z => z) (by simp)
      have hTZ2 : XT t (u1 (fun k => if 2 ≤ k ∧ k < 12 then (if k - 2 < nT b then bIn b (k - 2) else -1) else if 12 ≤ k ∧ k < 12 + i then 0 else T k) 0 (nI 0)) (-1) (sI hZ1 t 3 (nI 0)) := hTZ1.w0 (nI 0) (by decide)
      generalize sI hZ1 t 3 (nI 0) = hZ2 at gZ2 hbZ2 fZ2 hTZ2 ⊢
      refine r_aload_n dX3_begin_79 rfl ?_
      refine r_iconst (v := nI 0) dX3_begin_80 (by decide) ?_
      refine r_putN fX3_45 (hTZ2.k) (hct) dX3_begin_81 ?_
      have gZ3 : Fr [t] [] hZ2 (sI hZ2 t 4 (nI 0)) := Fr.rf.sa t 4 (nI 0) (by simp)
      have hbZ3 : XB b K (sI hZ2 t 4 (nI 0)) := hbZ2.fr gZ3 (fun a ha => hTZ2.okT a (by rw [List.mem_singleton.mp ha]; simp))
      have fZ3 : Fr [t, t + 1, t + 2] [] h (sI hZ2 t 4 (nI 0)) := fZ2.tr2 gZ3 (fun _ z => z) (by simp)
      have hTZ3 : XT t (u1 (u1 (fun k => if 2 ≤ k ∧ k < 12 then (if k - 2 < nT b then bIn b (k - 2) else -1) else if 12 ≤ k ∧ k < 12 + i then 0 else T k) 0 (nI 0)) 1 (nI 0)) (-1) (sI hZ2 t 4 (nI 0)) := hTZ2.w0 (nI 0) (by decide)
      generalize sI hZ2 t 4 (nI 0) = hZ3 at gZ3 hbZ3 fZ3 hTZ3 ⊢
      refine r_aload_n dX3_begin_84 rfl ?_
      refine r_iconst (v := nI 0) dX3_begin_85 (by decide) ?_
      refine r_putN fX3_48 (hTZ3.k) (hct) dX3_begin_86 ?_
      have gZ4 : Fr [t] [] hZ3 (sI hZ3 t 5 (nI 0)) := Fr.rf.sa t 5 (nI 0) (by simp)
      have hbZ4 : XB b K (sI hZ3 t 5 (nI 0)) := hbZ3.fr gZ4 (fun a ha => hTZ3.okT a (by rw [List.mem_singleton.mp ha]; simp))
      have fZ4 : Fr [t, t + 1, t + 2] [] h (sI hZ3 t 5 (nI 0)) := fZ3.tr2 gZ4 (fun _ z => z) (by simp)
      have hTZ4 : XT t (u1 (u1 (u1 (fun k => if 2 ≤ k ∧ k < 12 then (if k - 2 < nT b then bIn b (k - 2) else -1) else if 12 ≤ k ∧ k < 12 + i then 0 else T k) 0 (nI 0)) 1 (nI 0)) 17 (nI 0)) (-1) (sI hZ3 t 5 (nI 0)) := hTZ3.w0 (nI 0) (by decide)
      generalize sI hZ3 t 5 (nI 0) = hZ4 at gZ4 hbZ4 fZ4 hTZ4 ⊢
      refine r_aload_n dX3_begin_89 rfl ?_
      refine r_aload_n dX3_begin_90 rfl ?_
      refine r_getIv fX3_51 (hbZ4.k) (v := nI (bDr b)) (hbZ4.dr) rfl dX3_begin_91 ?_
      refine r_putN fX3_54 (hTZ4.k) (hct) dX3_begin_94 ?_
      have gZ5 : Fr [t] [] hZ4 (sI hZ4 t 6 (nI (bDr b))) := Fr.rf.sa t 6 (nI (bDr b)) (by simp)
      have hbZ5 : XB b K (sI hZ4 t 6 (nI (bDr b))) := hbZ4.fr gZ5 (fun a ha => hTZ4.okT a (by rw [List.mem_singleton.mp ha]; simp))
      have fZ5 : Fr [t, t + 1, t + 2] [] h (sI hZ4 t 6 (nI (bDr b))) := fZ4.tr2 gZ5 (fun _ z => z) (by simp)
      have hTZ5 : XT t (u1 (u1 (u1 (u1 (fun k => if 2 ≤ k ∧ k < 12 then (if k - 2 < nT b then bIn b (k - 2) else -1) else if 12 ≤ k ∧ k < 12 + i then 0 else T k) 0 (nI 0)) 1 (nI 0)) 17 (nI 0)) 18 (nI (bDr b))) (-1) (sI hZ4 t 6 (nI (bDr b))) := hTZ4.w0 (nI (bDr b)) (by decide)
      generalize sI hZ4 t 6 (nI (bDr b)) = hZ5 at gZ5 hbZ5 fZ5 hTZ5 ⊢
      refine r_aload_n dX3_begin_97 rfl ?_
      exact r_retr dX3_begin_98 rfl (Or.inl ⟨_, rfl⟩) (Nat.le_refl _) (Nat.le_refl _) ⟨rfl, fZ5, hTZ5.eqT (fun k hk => begE (by omega) k hk)⟩
    · --
      refine r_aload_n dX3_begin_56 rfl ?_
      refine r_getRv fX3_15 (hTM.k) (v := t + 2) (hTM.rgr) rfl dX3_begin_57 ?_
      refine r_iload_n dX3_begin_60 rfl ?_
      refine r_iconst (v := nI 0) dX3_begin_61 (by decide) ?_
      refine r_iastv (hTM.kgr) (by omega) (hTM.lgr) (ix_n (by omega) (by decide)) dX3_begin_62 ?_
      have gZ6 : Fr [t + 2] [] hM (sI hM (t + 2) i (nI 0)) := Fr.rf.sa (t + 2) i (nI 0) (by simp)
      have hbZ6 : XB b K (sI hM (t + 2) i (nI 0)) := hbM.fr gZ6 (fun a ha => hTM.okT a (by rw [List.mem_singleton.mp ha]; simp))
      have fZ6 : Fr [t, t + 1, t + 2] [] h (sI hM (t + 2) i (nI 0)) := fM.tr2 gZ6 (fun _ z => z) (by simp)
      have hTZ6 : XT t (u1 (fun k => if 2 ≤ k ∧ k < 12 then (if k - 2 < nT b then bIn b (k - 2) else -1) else if 12 ≤ k ∧ k < 12 + i then 0 else T k) (12 + i) (nI 0)) sh (sI hM (t + 2) i (nI 0)) := hTM.wgr (by omega) (nI 0)
      generalize sI hM (t + 2) i (nI 0) = hZ6 at gZ6 hbZ6 fZ6 hTZ6 ⊢
      refine r_iincN (n := 1) dX3_begin_63 rfl rfl (by decide) rfl ?_
      refine r_goto (tgt := 51) dX3_begin_66 rfl ?_
      exact ihi (by omega) _ (⟨hbZ6, fZ6, hTZ6.eqT (fun k hk => beg5 k)⟩)
  · --
    refine r_aload_n dX3_begin_8 rfl ?_
    refine r_getRv fX3_9 (hTL.k) (v := t + 1) (hTL.rin) rfl dX3_begin_9 ?_
    refine r_iload_n dX3_begin_12 rfl ?_
    refine r_iload_n dX3_begin_13 rfl ?_
    refine r_aload_n dX3_begin_14 rfl ?_
    refine r_getRv fX3_22 (hbL.k) (v := kTl K) (hbL.tl) rfl dX3_begin_15 ?_
    refine r_callVx lX3_28 (xJ2_size hbL.aT) (hbL.aT.1) rfl rfl rfl rfl dX3_begin_18 (Nat.le_refl _) (Nat.le_refl _) ?_
    refine r_icmpN_ge (tgt := 41) dX3_begin_21 rfl (by omega) (by omega) (fun c3 => ?_) (fun c3 => ?_)
    · --
      refine r_iconst (v := (-1)) dX3_begin_41 (by decide) ?_
      refine r_iastv (hTL.kin) (by omega) (hTL.lin) (ix_n (by omega) (by decide)) dX3_begin_42 ?_
      have gZ7 : Fr [t + 1] [] hL (sI hL (t + 1) i (-1)) := Fr.rf.sa (t + 1) i (-1) (by simp)
      have hbZ7 : XB b K (sI hL (t + 1) i (-1)) := hbL.fr gZ7 (fun a ha => hTL.okT a (by rw [List.mem_singleton.mp ha]; simp))
      have fZ7 : Fr [t, t + 1, t + 2] [] h (sI hL (t + 1) i (-1)) := fL.tr2 gZ7 (fun _ z => z) (by simp)
      have hTZ7 : XT t (u1 (fun k => if 2 ≤ k ∧ k < 2 + i then (if k - 2 < nT b then bIn b (k - 2) else -1) else T k) (2 + i) (-1)) sh (sI hL (t + 1) i (-1)) := hTL.win (by omega) (-1)
      generalize sI hL (t + 1) i (-1) = hZ7 at gZ7 hbZ7 fZ7 hTZ7 ⊢
      refine r_iincN (n := 1) dX3_begin_43 rfl rfl (by decide) rfl ?_
      refine r_goto (tgt := 2) dX3_begin_46 rfl ?_
      exact ihi (by omega) _ (⟨hbZ7, fZ7, hTZ7.eqT (fun k hk => beg10 (by omega) (if_neg (by omega)) k)⟩)
    · --
      refine r_aload_n dX3_begin_24 rfl ?_
      refine r_getRv fX3_22 (hbL.k) (v := kTl K) (hbL.tl) rfl dX3_begin_25 ?_
      refine r_iload_n dX3_begin_28 rfl ?_
      refine r_callVx lX3_34 (xJ2_get hbL.aT (i := i) (by omega) (hbL.te (by omega)).1) (hbL.aT.1) rfl rfl rfl rfl dX3_begin_29 (Nat.le_refl _) (Nat.le_refl _) ?_
      refine r_cast (ci := 9) q340 ((hbL.te (by omega)).2.1) (by decide) rfl (Or.inl rfl) dX3_begin_32 ?_
      refine r_getIv fX3_40 ((hbL.te (by omega)).2.1) (v := bIn b i) ((hbL.te (by omega)).2.2.2.2.2) rfl dX3_begin_35 ?_
      refine r_goto (tgt := 42) dX3_begin_38 rfl ?_
      refine r_iastv (hTL.kin) (by omega) (hTL.lin) (ix_n (by omega) (by decide)) dX3_begin_42 ?_
      have gZ8 : Fr [t + 1] [] hL (sI hL (t + 1) i (bIn b i)) := Fr.rf.sa (t + 1) i (bIn b i) (by simp)
      have hbZ8 : XB b K (sI hL (t + 1) i (bIn b i)) := hbL.fr gZ8 (fun a ha => hTL.okT a (by rw [List.mem_singleton.mp ha]; simp))
      have fZ8 : Fr [t, t + 1, t + 2] [] h (sI hL (t + 1) i (bIn b i)) := fL.tr2 gZ8 (fun _ z => z) (by simp)
      have hTZ8 : XT t (u1 (fun k => if 2 ≤ k ∧ k < 2 + i then (if k - 2 < nT b then bIn b (k - 2) else -1) else T k) (2 + i) (bIn b i)) sh (sI hL (t + 1) i (bIn b i)) := hTL.win (by omega) (bIn b i)
      generalize sI hL (t + 1) i (bIn b i) = hZ8 at gZ8 hbZ8 fZ8 hTZ8 ⊢
      refine r_iincN (n := 1) dX3_begin_43 rfl rfl (by decide) rfl ?_
      refine r_goto (tgt := 2) dX3_begin_46 rfl ?_
      exact ihi (by omega) _ (⟨hbZ8, fZ8, hTZ8.eqT (fun k hk => beg10 (by omega) (if_pos c3) k)⟩)
