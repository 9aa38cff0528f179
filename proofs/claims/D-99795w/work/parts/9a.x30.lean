/-! ===== CONSTRUCTORS (walks by program) ===== -/
set_option maxRecDepth 100000

theorem gr_sRk2 {h : ev_H} {a k v i j m : Nat} {w : Int32} (e : i ≠ k) : hR (sI (sR h a k v) j m w) a i = hR h a i := gr_sRk e

theorem xJ13_init_2 {G : ev_G} {h : ev_H} {x : Nat} (kx : hK h x = 9) (hc : ev_c < x) : Called G mJ13_init_2 1 0 0 [vR x, vR 0, vR 0, vI (nI 0), vI (nI 0)] h (p0 (fun h1 => hI h1 = hI h ∧ Fg noC [] (fun a => a = x) h h1)) := by
  refine called_of rfl [some (vR x), some (vR 0), some (vR 0), some (vI (nI 0)), some (vI (nI 0))] rfl (Nat.le_of_ble_eq_true rfl) ?_
  refine r_aload_n dJ13_init_2_0 rfl ?_
  refine r_objInit q819 q175 q176 (nz_ (kx) (by decide)) (by decide) (by decide) rfl dJ13_init_2_1 ?_
  refine r_aload_n dJ13_init_2_4 rfl ?_
  refine r_aload_n dJ13_init_2_5 rfl ?_
  refine r_putR fJ13_7_X8 (kx) (hc) rfl dJ13_init_2_6 ?_
  refine r_aload_n dJ13_init_2_9 rfl ?_
  refine r_getsq (q := ("java/lang/Throwable", "UNASSIGNED_STACK", "[Ljava/lang/StackTraceElement;", 5)) (by simp [ev_stq]) q820 dJ13_init_2_10 (fun r13 => ?_)
  refine r_putR fJ13_17_X8 (kx) (hc) rfl dJ13_init_2_13 ?_
  refine r_aload_n dJ13_init_2_16 rfl ?_
  refine r_getsq (q := ("java/lang/Throwable", "SUPPRESSED_SENTINEL", "Ljava/util/List;", 6)) (by simp [ev_stq]) q822 dJ13_init_2_17 (fun r20 => ?_)
  refine r_putR fJ13_24_X8 (kx) (hc) rfl dJ13_init_2_20 ?_
  refine r_iload dJ13_init_2_23 rfl ?_
  refine r_if_eq (tgt := 36) dJ13_init_2_25 rfl (fun c1 => ?_) (fun c1 => ?_)
  · --
    refine r_aload_n dJ13_init_2_36 rfl ?_
    refine r_null dJ13_init_2_37 ?_
    refine r_putR fJ13_17_X8 (kx) (hc) rfl dJ13_init_2_38 ?_
    refine r_aload_n dJ13_init_2_41 rfl ?_
    refine r_aload_n dJ13_init_2_42 rfl ?_
    refine r_putR fJ13_31_X8 (kx) (hc) rfl dJ13_init_2_43 ?_
    refine r_aload_n dJ13_init_2_46 rfl ?_
    refine r_aload_n dJ13_init_2_47 rfl ?_
    refine r_putR fJ13_7_X8 (kx) (hc) rfl dJ13_init_2_48 ?_
    refine r_iload_n dJ13_init_2_51 rfl ?_
    refine r_if_ne (tgt := 60) dJ13_init_2_52 rfl (fun c2 => ?_) (fun c2 => ?_)
    · --
      exact absurd rfl c2
    · --
      refine r_aload_n dJ13_init_2_55 rfl ?_
      refine r_null dJ13_init_2_56 ?_
      refine r_putR fJ13_24_X8 (kx) (hc) rfl dJ13_init_2_57 ?_
      exact r_retv dJ13_init_2_60 rfl (Nat.le_refl _) (Nat.le_refl _) (⟨rfl, fg_sr (fg_sr (fg_sr (fg_sr (fg_sr (fg_sr (fg_sr Fg.rf (Or.inl rfl)) (Or.inl rfl)) (Or.inl rfl)) (Or.inl rfl)) (Or.inl rfl)) (Or.inl rfl)) (Or.inl rfl)⟩)
  · --
    exact absurd rfl c1

theorem xJ14_init {G : ev_G} {h : ev_H} {x : Nat} (kx : hK h x = 9) (hc : ev_c < x) : Called G mJ14_init 2 0 0 [vR x, vR 0, vR 0, vI (nI 0), vI (nI 0)] h (p0 (fun h1 => hI h1 = hI h ∧ Fg noC [] (fun a => a = x) h h1)) := by
  refine called_of rfl [some (vR x), some (vR 0), some (vR 0), some (vI (nI 0)), some (vI (nI 0))] rfl (Nat.le_of_ble_eq_true rfl) ?_
  refine r_aload_n dJ14_init_0 rfl ?_
  refine r_aload_n dJ14_init_1 rfl ?_
  refine r_aload_n dJ14_init_2 rfl ?_
  refine r_iload_n dJ14_init_3 rfl ?_
  refine r_iload dJ14_init_4 rfl ?_
  refine r_callIv lJ14_16 (xJ13_init_2 kx hc) (nz_ kx (by decide)) rfl rfl rfl rfl dJ14_init_6 (Nat.le_refl _) (Nat.le_refl _) (fun h9 q9 => ?_)
  exact r_retv dJ14_init_9 rfl (Nat.le_refl _) (Nat.le_refl _) (q9)

theorem x8_init {G : ev_G} {h : ev_H} {x : Nat} (kx : hK h x = 9) (hc : ev_c < x) (k p : Int32) : Called G mX8_init 3 0 0 [vR x, vI k, vI p] h (p0 (fun h1 => hI h1 x 6 = k ∧ hI h1 x 7 = p ∧ Fg (fun a => a = x) [] (fun a => a = x) h h1)) := by
  refine called_of rfl [some (vR x), some (vI k), some (vI p)] rfl (Nat.le_of_ble_eq_true rfl) ?_
  refine r_aload_n dX8_init_0 rfl ?_
  refine r_null dX8_init_1 ?_
  refine r_null dX8_init_2 ?_
  refine r_iconst (v := nI 0) dX8_init_3 (by decide) ?_
  refine r_iconst (v := nI 0) dX8_init_4 (by decide) ?_
  refine r_callIv lX8_1 (xJ14_init kx hc) (nz_ kx (by decide)) rfl rfl rfl rfl dX8_init_5 (Nat.le_refl _) (Nat.le_refl _) (fun h9 q9 => ?_)
  obtain ⟨i9, g9⟩ := q9
  have k9 := g9.k kx (by decide)
  refine r_aload_n dX8_init_8 rfl ?_
  refine r_iload_n dX8_init_9 rfl ?_
  refine r_putFN fX8_7 ⟨rfl, _, rfl, rfl⟩ (k9) (hc) dX8_init_10 ?_
  refine r_aload_n dX8_init_13 rfl ?_
  refine r_iload_n dX8_init_14 rfl ?_
  refine r_putFN fX8_13 ⟨rfl, _, rfl, rfl⟩ (k9) (hc) dX8_init_15 ?_
  exact r_retv dX8_init_18 rfl (Nat.le_refl _) (Nat.le_refl _) (⟨(rdI_k (by decide)).trans fs_at, fs_at, fg_si (fg_si (g9.wk (fun _ z => z.elim) (fun _ z => z) (fun _ z => z)) (Or.inl rfl)) (Or.inl rfl)⟩)

theorem x6_init {G : ev_G} {h : ev_H} {x : Nat} (kx : hK h x = 7) (hc : ev_c < x) (w : Nat) : Called G mX6_init 1 0 0 [vR x, vR w] h (p0 (fun h1 => h1 = sR h x 0 w)) := by
  refine called_of rfl [some (vR x), some (vR w)] rfl (Nat.le_of_ble_eq_true rfl) ?_
  refine r_aload_n dX6_init_0 rfl ?_
  refine r_objInit q876 q175 q176 (nz_ (kx) (by decide)) (by decide) (by decide) rfl dX6_init_1 ?_
  refine r_aload_n dX6_init_4 rfl ?_
  refine r_aload_n dX6_init_5 rfl ?_
  refine r_putFO fX6_7 ⟨rfl, _, rfl, rfl⟩ (kx) (hc) rfl dX6_init_6 ?_
  exact r_retv dX6_init_9 rfl (Nat.le_refl _) (Nat.le_refl _) (rfl)

theorem x6_init7 {G : ev_G} {h : ev_H} {x : Nat} (kx : hK h x = 8) (hc : ev_c < x) (w : Nat) : Called G mX6_init 1 0 0 [vR x, vR w] h (p0 (fun h1 => h1 = sR h x 0 w)) := by
  refine called_of rfl [some (vR x), some (vR w)] rfl (Nat.le_of_ble_eq_true rfl) ?_
  refine r_aload_n dX6_init_0 rfl ?_
  refine r_objInit q876 q175 q176 (nz_ (kx) (by decide)) (by decide) (by decide) rfl dX6_init_1 ?_
  refine r_aload_n dX6_init_4 rfl ?_
  refine r_aload_n dX6_init_5 rfl ?_
  refine r_putFO fX6_7_X7 ⟨rfl, _, rfl, rfl⟩ (kx) (hc) rfl dX6_init_6 ?_
  exact r_retv dX6_init_9 rfl (Nat.le_refl _) (Nat.le_refl _) (rfl)

theorem x6_init9 {G : ev_G} {h : ev_H} {x : Nat} (kx : hK h x = 10) (hc : ev_c < x) (w : Nat) : Called G mX6_init 1 0 0 [vR x, vR w] h (p0 (fun h1 => h1 = sR h x 0 w)) := by
  refine called_of rfl [some (vR x), some (vR w)] rfl (Nat.le_of_ble_eq_true rfl) ?_
  refine r_aload_n dX6_init_0 rfl ?_
  refine r_objInit q876 q175 q176 (nz_ (kx) (by decide)) (by decide) (by decide) rfl dX6_init_1 ?_
  refine r_aload_n dX6_init_4 rfl ?_
  refine r_aload_n dX6_init_5 rfl ?_
  refine r_putFO fX6_7_X9 ⟨rfl, _, rfl, rfl⟩ (kx) (hc) rfl dX6_init_6 ?_
  exact r_retv dX6_init_9 rfl (Nat.le_refl _) (Nat.le_refl _) (rfl)

theorem x7_init {G : ev_G} {h : ev_H} {x : Nat} (kx : hK h x = 8) (hc : ev_c < x) (w : Nat) : Called G mX7_init 2 0 0 [vR x, vR w] h (p0 (fun h1 => h1 = sR h x 0 w)) := by
  refine called_of rfl [some (vR x), some (vR w)] rfl (Nat.le_of_ble_eq_true rfl) ?_
  refine r_aload_n dX7_init_0 rfl ?_
  refine r_aload_n dX7_init_1 rfl ?_
  refine r_callIv lX7_1 (x6_init7 kx hc w) (nz_ kx (by decide)) rfl rfl rfl rfl dX7_init_2 (Nat.le_refl _) (Nat.le_refl _) (fun h9 q9 => ?_)
  exact r_retv dX7_init_5 rfl (Nat.le_refl _) (Nat.le_refl _) (q9)

theorem x9_init {G : ev_G} {h : ev_H} {x : Nat} (kx : hK h x = 10) (hc : ev_c < x) (w : Nat) : Called G mX9_init 2 0 0 [vR x, vR w] h (p0 (fun h1 => h1 = sI (sR h x 0 w) x 4 (-1))) := by
  refine called_of rfl [some (vR x), some (vR w)] rfl (Nat.le_of_ble_eq_true rfl) ?_
  refine r_aload_n dX9_init_0 rfl ?_
  refine r_aload_n dX9_init_1 rfl ?_
  refine r_callIv lX9_3 (x6_init9 kx hc w) (nz_ kx (by decide)) rfl rfl rfl rfl dX9_init_2 (Nat.le_refl _) (Nat.le_refl _) (fun h9 q9 => ?_)
  rw [q9]
  refine r_aload_n dX9_init_5 rfl ?_
  refine r_iconst (v := (-1)) dX9_init_6 (by decide) ?_
  refine r_putN fX9_9 (kx) (hc) dX9_init_7 ?_
  exact r_retv dX9_init_10 rfl (Nat.le_refl _) (Nat.le_refl _) (rfl)

theorem x10_init {G : ev_G} {h : ev_H} {x : Nat} (kx : hK h x = 11) (hc : ev_c < x) (w : Nat) : Called G mX10_init 1 0 0 [vR x, vR w] h (p0 (fun h1 => h1 = sR h x 0 w)) := by
  refine called_of rfl [some (vR x), some (vR w)] rfl (Nat.le_of_ble_eq_true rfl) ?_
  refine r_aload_n dX10_init_0 rfl ?_
  refine r_objInit q1022 q175 q176 (nz_ (kx) (by decide)) (by decide) (by decide) rfl dX10_init_1 ?_
  refine r_aload_n dX10_init_4 rfl ?_
  refine r_aload_n dX10_init_5 rfl ?_
  refine r_putFO fX10_7 ⟨rfl, _, rfl, rfl⟩ (kx) (hc) rfl dX10_init_6 ?_
  exact r_retv dX10_init_9 rfl (Nat.le_refl _) (Nat.le_refl _) (rfl)

theorem x11_init {G : ev_G} {h : ev_H} {x : Nat} (kx : hK h x = 12) (hc : ev_c < x) (v : Int32) : Called G mX11_init 1 0 0 [vR x, vI v] h (p0 (fun h1 => h1 = sI h x 0 v)) := by
  refine called_of rfl [some (vR x), some (vI v)] rfl (Nat.le_of_ble_eq_true rfl) ?_
  refine r_aload_n dX11_init_0 rfl ?_
  refine r_objInit q1060 q175 q176 (nz_ (kx) (by decide)) (by decide) (by decide) rfl dX11_init_1 ?_
  refine r_aload_n dX11_init_4 rfl ?_
  refine r_iload_n dX11_init_5 rfl ?_
  refine r_putFN fX11_7 ⟨rfl, _, rfl, rfl⟩ (kx) (hc) dX11_init_6 ?_
  exact r_retv dX11_init_9 rfl (Nat.le_refl _) (Nat.le_refl _) (rfl)

theorem x12_init {G : ev_G} {h : ev_H} {x : Nat} (kx : hK h x = 13) (hc : ev_c < x) (w w2 : Nat) {c : Int32} (hcn : narrow .char (.int c) = .int c) (hcf : fits .char (.int c) = true) : Called G mX12_init 1 0 0 [vR x, vR w, vR w2, vI c] h (p0 (fun h1 => h1 = sI (sR (sR h x 0 w) x 1 w2) x 2 c)) := by
  refine called_of rfl [some (vR x), some (vR w), some (vR w2), some (vI c)] rfl (Nat.le_of_ble_eq_true rfl) ?_
  refine r_aload_n dX12_init_0 rfl ?_
  refine r_objInit q1070 q175 q176 (nz_ (kx) (by decide)) (by decide) (by decide) rfl dX12_init_1 ?_
  refine r_aload_n dX12_init_4 rfl ?_
  refine r_aload_n dX12_init_5 rfl ?_
  refine r_putFO fX12_7 ⟨rfl, _, rfl, rfl⟩ (kx) (hc) rfl dX12_init_6 ?_
  refine r_aload_n dX12_init_9 rfl ?_
  refine r_aload_n dX12_init_10 rfl ?_
  refine r_putFO fX12_13 ⟨rfl, _, rfl, rfl⟩ (kx) (hc) rfl dX12_init_11 ?_
  refine r_aload_n dX12_init_14 rfl ?_
  refine r_iload_n dX12_init_15 rfl ?_
  refine r_putFI fX12_16 ⟨rfl, _, rfl, rfl⟩ kx hc rfl hcn hcf dX12_init_16 ?_
  exact r_retv dX12_init_19 rfl (Nat.le_refl _) (Nat.le_refl _) (rfl)

theorem x2_init {G : ev_G} {h : ev_H} {x : Nat} (kx : hK h x = 3) (hc : ev_c < x) : Called G mX2_init 1 0 0 [vR x] h (p0 (fun h1 => h1 = h)) := by
  refine called_of rfl [some (vR x)] rfl (Nat.le_of_ble_eq_true rfl) ?_
  refine r_aload_n dX2_init_0 rfl ?_
  refine r_objInit q217 q175 q176 (nz_ (kx) (by decide)) (by decide) (by decide) rfl dX2_init_1 ?_
  exact r_retv dX2_init_4 rfl (Nat.le_refl _) (Nat.le_refl _) (rfl)

theorem x3_init {G : ev_G} {h : ev_H} {x : Nat} (kx : hK h x = 4) (hc : ev_c < x) : Called G mX3_init 1 2 15 [vR x] h (p0 (fun h1 => hR h1 x 0 = hN h ∧ hR h1 x 1 = hN h + 1 ∧ (hK h1 (hN h) = 100 ∧ hL h1 (hN h) = 10) ∧ (hK h1 (hN h + 1) = 100 ∧ hL h1 (hN h + 1) = 5) ∧ hI h1 x 2 = -1 ∧ Fg (fun a => a = x) [] (fun a => a = x) h h1 ∧ hN h1 = hN h + 2)) := by
  refine called_of rfl [some (vR x)] rfl (Nat.le_of_ble_eq_true rfl) ?_
  refine r_aload_n dX3_init_0 rfl ?_
  refine r_objInit q287 q175 q176 (nz_ (kx) (by decide)) (by decide) (by decide) rfl dX3_init_1 ?_
  refine r_aload_n dX3_init_4 rfl ?_
  refine r_bipush (v := nI 10) dX3_init_5 (by decide) ?_
  refine r_wf (fun wf9 => ?_)
  refine r_newa (atype := .int) (t := 0) (n := 10) (by decide) rfl q317 (by decide) dX3_init_7 (by decide) (by decide) ?_
  have ky0 : hK (nO h 100 10) (hN h) = 100 := nO_Kn
  have ly0 : hL (nO h 100 10) (hN h) = 10 := nO_Ln
  have gy0 : Fg noC [] (fun a => a = x) h (nO h 100 10) := Fg.nO wf9
  have cy0 : ev_c < hN h := wf9.1
  have zy0 : hK h (hN h) = 0 := wf_0 wf9
  have my0 : hN (nO h 100 10) = hN h + 1 := nO_N
  have ny0 : x ≠ hN h := fun q => by rw [← q, show hK h x = 4 from kx] at zy0; cases zy0
  have kxA0 : hK (nO h 100 10) x = 4 := by rw [nO_K, if_neg ny0]; exact kx
  have rA0 : hR (nO h 100 10) x = hR h x := nO_R ny0
  generalize nO h 100 10 = hA0 at ky0 ly0 gy0 my0 kxA0 rA0 ⊢
  refine r_putFO fX3_9 ⟨rfl, _, rfl, rfl⟩ (kxA0) (hc) rfl dX3_init_9 ?_
  refine r_aload_n dX3_init_12 rfl ?_
  refine r_iconst (v := nI 5) dX3_init_13 (by decide) ?_
  refine r_wf (fun wf9 => ?_)
  refine r_newa (atype := .int) (t := 0) (n := 5) (by decide) rfl q317 (by decide) dX3_init_14 (by decide) (by decide) ?_
  have ky1 : hK (nO (sR hA0 x 0 (hN h)) 100 5) (hN (sR hA0 x 0 (hN h))) = 100 := nO_Kn
  have ly1 : hL (nO (sR hA0 x 0 (hN h)) 100 5) (hN (sR hA0 x 0 (hN h))) = 5 := nO_Ln
  have gy1 : Fg noC [] (fun a => a = x) (sR hA0 x 0 (hN h)) (nO (sR hA0 x 0 (hN h)) 100 5) := Fg.nO wf9
  have cy1 : ev_c < hN (sR hA0 x 0 (hN h)) := wf9.1
  have zy1 : hK (sR hA0 x 0 (hN h)) (hN (sR hA0 x 0 (hN h))) = 0 := wf_0 wf9
  have my1 : hN (nO (sR hA0 x 0 (hN h)) 100 5) = hN (sR hA0 x 0 (hN h)) + 1 := nO_N
  have ny1 : x ≠ hN (sR hA0 x 0 (hN h)) := fun q => by rw [← q, show hK (sR hA0 x 0 (hN h)) x = 4 from kxA0] at zy1; cases zy1
  have kxA1 : hK (nO (sR hA0 x 0 (hN h)) 100 5) x = 4 := by rw [nO_K, if_neg ny1]; exact kxA0
  have rA1 : hR (nO (sR hA0 x 0 (hN h)) 100 5) x = hR (sR hA0 x 0 (hN h)) x := nO_R ny1
  generalize nO (sR hA0 x 0 (hN h)) 100 5 = hA1 at ky1 ly1 gy1 my1 kxA1 rA1 ⊢
  refine r_putFO fX3_15 ⟨rfl, _, rfl, rfl⟩ (kxA1) (hc) rfl dX3_init_16 ?_
  refine r_aload_n dX3_init_19 rfl ?_
  refine r_iconst (v := (-1)) dX3_init_20 (by decide) ?_
  refine r_putN fX3_18 (kxA1) (hc) dX3_init_21 ?_
  have e0 : hN (sR hA0 x 0 (hN h)) = hN h + 1 := my0
  refine r_retv dX3_init_24 rfl (Nat.le_refl _) (Nat.le_refl _) ⟨?_, ?_, ?_, ?_, ?_, ?_, ?_⟩
  · exact (gr_sRk2 (by decide)).trans ((congrFun rA1 0).trans fs_atR)
  · refine fs_atR.trans e0
  · exact ⟨gy1.k (show hK (sR hA0 x 0 (hN h)) (hN h) = 100 from ky0) (by decide), (gy1.l (show hK (sR hA0 x 0 (hN h)) (hN h) = 100 from ky0) (by decide)).trans ly0⟩
  · rw [← e0]; exact ⟨ky1, ly1⟩
  · exact fs_at
  · exact fg_si (fg_sr (((gy0.wk (fun _ z => z.elim) (fun _ z => z) (fun _ z => z)).tr (fg_sr Fg.rf (Or.inl rfl))).tr (gy1.wk (fun _ z => z.elim) (fun _ z => z) (fun _ z => z))) (Or.inl rfl)) (Or.inl rfl)
  · show hN hA1 = hN h + 2; rw [my1, e0]
