/-! ===== THE READER: names known (walks by program) ===== -/
set_option maxRecDepth 100000

/-- a name that must be known; it stays the token -/
def onP (tx : Nat → Int32) (n : Nat) (o : Option Nat) (s : (Nat × Nat) × Nat) : (Nat × Nat) × Nat := if s.1.1 = 0 then (if tkT tx n s.2 = 2 then (if o.isSome then s else ((5, taT tx n s.2), s.2)) else misP tx n s) else s
section ONS
variable {n : Nat} {tx : Nat → Int32} {s : (Nat × Nat) × Nat} {o : Option Nat}
theorem on_2 : (onP tx n o s).2 = s.2 := by
  unfold onP
  repeat' split
  all_goals rfl
theorem on_m (h0 : s.1.1 = 0) (ek : ¬ tkT tx n s.2 = 2) : onP tx n o s = misP tx n s := by unfold onP; rw [if_pos h0, if_neg ek]
theorem on_5 (h0 : s.1.1 = 0) (ek : tkT tx n s.2 = 2) (eo : o.isSome = false) : onP tx n o s = ((5, taT tx n s.2), s.2) := by unfold onP; rw [if_pos h0, if_pos ek, if_neg (by rw [eo]; decide)]
theorem on_g (h0 : s.1.1 = 0) (ek : tkT tx n s.2 = 2) (eo : o.isSome = true) : onP tx n o s = s := by unfold onP; rw [if_pos h0, if_pos ek, if_pos eo]
end ONS

theorem x5_oldName7 {G : ev_G} {h hb : ev_H} {r n : Nat} {s : (Nat × Nat) × Nat} {tx : Nat → Int32} (hs : RS hb tx n r s.2 h) (h0 : s.1.1 = 0) {i : Nat} (hi : 1 ≤ i ∧ i < 19) {l e c : Nat} {nm : Nat → Int64} (hL9 : NL 7 l e c nm h) (hc9 : c ≤ 100) (hd9 : Dst nm c) {mc ms : Nat} (hmc : Cst (onP tx n (hereO tx n (mustP tx n (woH tx n s.2 (pkL i)) s).2 nm c) (mustP tx n (woH tx n s.2 (pkL i)) s)) s.2 mc ms) : CalledX G mX5_oldName 9 mc ms [vR r, vR (15 + i), vR l] h (pI (fun y h1 => y = optI (hereO tx n (mustP tx n (woH tx n s.2 (pkL i)) s).2 nm c) ∧ (hereO tx n (mustP tx n (woH tx n s.2 (pkL i)) s).2 nm c).isSome = true ∧ XOk hb tx n r (onP tx n (hereO tx n (mustP tx n (woH tx n s.2 (pkL i)) s).2 nm c) (mustP tx n (woH tx n s.2 (pkL i)) s)) h h1)) (XEx hb (onP tx n (hereO tx n (mustP tx n (woH tx n s.2 (pkL i)) s).2 nm c) (mustP tx n (woH tx n s.2 (pkL i)) s))) := by
  have hm4 : s.2 ≤ (mustP tx n (woH tx n s.2 (pkL i)) s).2 := must_ge hs.2.2.1
  have hm6 : (onP tx n (hereO tx n (mustP tx n (woH tx n s.2 (pkL i)) s).2 nm c) (mustP tx n (woH tx n s.2 (pkL i)) s)).2 = (mustP tx n (woH tx n s.2 (pkL i)) s).2 := on_2
  rw [Cst, hm6] at hmc
  refine calledX_of rfl [some (vR r), some (vR (15 + i)), some (vR l)] rfl (Nat.le_of_ble_eq_true rfl) ?_
  refine r_aload_n dX5_oldName_0 rfl ?_
  refine r_aload_n dX5_oldName_1 rfl ?_
  by_cases hg : (mustP tx n (woH tx n s.2 (pkL i)) s).1.1 = 0
  · refine rx_callVv lX5_100 (x5_key hs h0 hi (mc := 5 * ((mustP tx n (woH tx n s.2 (pkL i)) s).2 - s.2)) (ms := 40 * ((mustP tx n (woH tx n s.2 (pkL i)) s).2 - s.2)) (Cst.ok hg)) hs.1.1 rfl rfl rfl rfl (by show 0 + _ ≤ mc; have := hmc.1; omega) (by show 0 + _ ≤ ms; have := hmc.2.1; omega) dX5_oldName_2 (fun w hA q9 => absurd hg q9.1) (fun hA q9 => ?_)
    obtain ⟨-, sA, gA⟩ := q9
    have hmc1 := hmc.1
    have hmc2 := hmc.2.1
    refine r_aload_n dX5_oldName_5 rfl ?_
    refine r_callVi lX5_147 (x5_isName sA) (sA.1.1) rfl rfl rfl rfl dX5_oldName_6 (by show 0 + 5 * _ + 0 ≤ mc; omega) (by show 0 + 40 * _ + 0 ≤ ms; omega) (fun y9 hB q9 => ?_)
    obtain ⟨rfl, sB, gB⟩ := q9
    refine r_ifB_ne (tgt := 17) dX5_oldName_9 rfl (fun c1 => ?_) (fun c1 => ?_)
    · --
      have ek := of_decide_eq_true c1
      obtain ⟨⟨f, m, sw, hm, hf, hv9⟩, zw⟩ := sB.2.1.2.2.2.2 (Or.inl ek)
      have lB := (hL9.gz gA).gz gB
      have eH : laF nm (tnT tx n (mustP tx n (woH tx n s.2 (pkL i)) s).2) c = optI (hereO tx n (mustP tx n (woH tx n s.2 (pkL i)) s).2 nm c) := la_here hd9 ek
      refine r_aload_n dX5_oldName_17 rfl ?_
      refine r_aload_n dX5_oldName_18 rfl ?_
      refine r_getRv fX5_17 sB.1.1 (v := hR hB r 8) rfl rfl dX5_oldName_19 ?_
      refine r_callNSx lX5_151 ((by have z9 := x0_find7 (G := G) lB hc9 ⟨sw.1, hm, hf, hv9⟩; rw [eH] at z9; exact z9)) rfl rfl rfl rfl dX5_oldName_22 (by show 0 + 5 * _ + 0 ≤ mc; omega) (by show 0 + 40 * _ + 0 ≤ ms; omega) ?_
      refine r_if_ge (tgt := 41) dX5_oldName_25 rfl (fun c2 => ?_) (fun c2 => ?_)
      · --
        have eo : (hereO tx n (mustP tx n (woH tx n s.2 (pkL i)) s).2 nm c).isSome = true := opt_some (Int32.not_lt.mpr c2)
        have eS := on_g (o := hereO tx n (mustP tx n (woH tx n s.2 (pkL i)) s).2 nm c) hg ek eo
        refine r_aload_n dX5_oldName_41 rfl ?_
        refine r_aload_n dX5_oldName_42 rfl ?_
        refine r_getRv fX5_17 sB.1.1 (v := hR hB r 8) rfl rfl dX5_oldName_43 ?_
        refine r_callNSx lX5_151 ((by have z9 := x0_find7 (G := G) lB hc9 ⟨sw.1, hm, hf, hv9⟩; rw [eH] at z9; exact z9)) rfl rfl rfl rfl dX5_oldName_46 (by show 0 + 5 * _ + 0 ≤ mc; omega) (by show 0 + 40 * _ + 0 ≤ ms; omega) ?_
        exact rx_ret (r_reti dX5_oldName_49 rfl rfl (by show 0 + 5 * _ + 0 ≤ mc; omega) (by show 0 + 40 * _ + 0 ≤ ms; omega) ⟨rfl, eo, by rw [eS]; exact ⟨hg, sB, gA.tr gB⟩⟩)
      · --
        have eo : (hereO tx n (mustP tx n (woH tx n s.2 (pkL i)) s).2 nm c).isSome = false := opt_none (Int32.not_le.mp c2)
        have eS := on_5 (o := hereO tx n (mustP tx n (woH tx n s.2 (pkL i)) s).2 nm c) hg ek eo
        have hmx := hmc.2.2 (by rw [eS]; show 5 ≠ 0; decide)
        have hmx1 : 5 * ((mustP tx n (woH tx n s.2 (pkL i)) s).2 - s.2) + 1 ≤ mc := hmx.1
        have hmx2 : 40 * ((mustP tx n (woH tx n s.2 (pkL i)) s).2 - s.2) + 8 ≤ ms := hmx.2
        refine r_wf (fun wf9 => ?_)
        refine r_new nX5_75 dX5_oldName_28 (by show 0 + 5 * _ + 0 + 1 ≤ mc; omega) (by show 0 + 40 * _ + 0 + 8 ≤ ms; omega) ?_
        have kA : hK (nO hB 9 0) (hN hB) = 9 := nO_Kn
        have gC : Fg noC [] noC hB (nO hB 9 0) := Fg.nO wf9
        have cA : ev_c < hN hB := wf9.1
        have zA : hK hB (hN hB) = 0 := wf_0 wf9
        generalize nO hB 9 0 = hC at kA gC ⊢
        generalize hN hB = w at kA cA zA ⊢
        have iA : ∀ j, hI hC r j = hI hB r j := fun j => gC.i sB.1.1 (by decide) (fun z => z) j (fun _ => by simp)
        have hxA : hK hC r = 6 := gC.k sB.1.1 (by decide)
        refine r_dup dX5_oldName_31 rfl ?_
        refine r_iconst (v := nI 5) dX5_oldName_32 (by decide) ?_
        refine r_aload_n dX5_oldName_33 rfl ?_
        refine r_getIv fX5_43 hxA (v := nI (taT tx n (mustP tx n (woH tx n s.2 (pkL i)) s).2)) ((iA 2).trans sB.2.1.2.1) rfl dX5_oldName_34 ?_
        refine r_callIv lX5_77 (x8_init kA cA (nI 5) (nI (taT tx n (mustP tx n (woH tx n s.2 (pkL i)) s).2))) (nz_ kA (by decide)) rfl rfl rfl rfl dX5_oldName_37 (by show 0 + 5 * _ + 0 + 1 + 0 ≤ mc; omega) (by show 0 + 40 * _ + 0 + 8 + 0 ≤ ms; omega) (fun hD q9 => ?_)
        obtain ⟨i6, i7, gD⟩ := q9
        exact rx_athrow (gD.k kA (by decide)) dX5_oldName_40 (rx_out (by decide) (cA) (by show 0 + 5 * _ + 0 + 1 + 0 ≤ mc; omega) (by show 0 + 40 * _ + 0 + 8 + 0 ≤ ms; omega) (by rw [eS]; exact ⟨(show 5 ≠ 0 by decide), cA, i6, i7, sB.2.2.2.2.1.tr (fg_new gC gD zA)⟩))
    · --
      have ek := of_decide_eq_false c1
      have eS := on_m (o := hereO tx n (mustP tx n (woH tx n s.2 (pkL i)) s).2 nm c) hg ek
      have hmx := hmc.2.2 (by rw [eS]; exact misP_bad tx n (mustP tx n (woH tx n s.2 (pkL i)) s))
      have hmx1 : 5 * ((mustP tx n (woH tx n s.2 (pkL i)) s).2 - s.2) + 1 ≤ mc := hmx.1
      have hmx2 : 40 * ((mustP tx n (woH tx n s.2 (pkL i)) s).2 - s.2) + 8 ≤ ms := hmx.2
      refine r_aload_n dX5_oldName_12 rfl ?_
      refine r_callVr lX5_96 (x5_wrong sB) (sB.1.1) rfl rfl rfl rfl dX5_oldName_13 (by show 0 + 5 * _ + 0 + 1 ≤ mc; omega) (by show 0 + 40 * _ + 0 + 8 ≤ ms; omega) (fun w hD q9 => ?_)
      obtain ⟨zD, cD, kD, i6, i7, gD⟩ := q9
      exact rx_athrow (kD) dX5_oldName_16 (rx_out (by decide) (cD) (by show 0 + 5 * _ + 0 + 1 ≤ mc; omega) (by show 0 + 40 * _ + 0 + 8 ≤ ms; omega) (by rw [eS]; exact mis_x hg cD i6 i7 (sB.2.2.2.2.1.tr gD)))
  · have eN : onP tx n (hereO tx n (mustP tx n (woH tx n s.2 (pkL i)) s).2 nm c) (mustP tx n (woH tx n s.2 (pkL i)) s) = mustP tx n (woH tx n s.2 (pkL i)) s := if_neg hg
    have hmx := hmc.2.2 (by rw [eN]; exact hg)
    refine rx_callVv lX5_100 (x5_key hs h0 hi (mc := 5 * ((mustP tx n (woH tx n s.2 (pkL i)) s).2 - s.2) + 1) (ms := 40 * ((mustP tx n (woH tx n s.2 (pkL i)) s).2 - s.2) + 8) Cst.bad) hs.1.1 rfl rfl rfl rfl (by show 0 + _ ≤ mc; omega) (by show 0 + _ ≤ ms; omega) dX5_oldName_2 (fun w hA q9 => rx_out (by decide) q9.2.1 (by show 0 + _ ≤ mc; omega) (by show 0 + _ ≤ ms; omega) (by rw [eN]; exact q9)) (fun hA q9 => absurd q9.1 hg)

theorem x5_oldName8 {G : ev_G} {h hb : ev_H} {r n : Nat} {s : (Nat × Nat) × Nat} {tx : Nat → Int32} (hs : RS hb tx n r s.2 h) (h0 : s.1.1 = 0) {i : Nat} (hi : 1 ≤ i ∧ i < 19) {l e c : Nat} {nm : Nat → Int64} (hL9 : NL 8 l e c nm h) (hc9 : c ≤ 100) (hd9 : Dst nm c) {mc ms : Nat} (hmc : Cst (onP tx n (hereO tx n (mustP tx n (woH tx n s.2 (pkL i)) s).2 nm c) (mustP tx n (woH tx n s.2 (pkL i)) s)) s.2 mc ms) : CalledX G mX5_oldName 9 mc ms [vR r, vR (15 + i), vR l] h (pI (fun y h1 => y = optI (hereO tx n (mustP tx n (woH tx n s.2 (pkL i)) s).2 nm c) ∧ (hereO tx n (mustP tx n (woH tx n s.2 (pkL i)) s).2 nm c).isSome = true ∧ XOk hb tx n r (onP tx n (hereO tx n (mustP tx n (woH tx n s.2 (pkL i)) s).2 nm c) (mustP tx n (woH tx n s.2 (pkL i)) s)) h h1)) (XEx hb (onP tx n (hereO tx n (mustP tx n (woH tx n s.2 (pkL i)) s).2 nm c) (mustP tx n (woH tx n s.2 (pkL i)) s))) := by
  have hm4 : s.2 ≤ (mustP tx n (woH tx n s.2 (pkL i)) s).2 := must_ge hs.2.2.1
  have hm6 : (onP tx n (hereO tx n (mustP tx n (woH tx n s.2 (pkL i)) s).2 nm c) (mustP tx n (woH tx n s.2 (pkL i)) s)).2 = (mustP tx n (woH tx n s.2 (pkL i)) s).2 := on_2
  rw [Cst, hm6] at hmc
  refine calledX_of rfl [some (vR r), some (vR (15 + i)), some (vR l)] rfl (Nat.le_of_ble_eq_true rfl) ?_
  refine r_aload_n dX5_oldName_0 rfl ?_
  refine r_aload_n dX5_oldName_1 rfl ?_
  by_cases hg : (mustP tx n (woH tx n s.2 (pkL i)) s).1.1 = 0
  · refine rx_callVv lX5_100 (x5_key hs h0 hi (mc := 5 * ((mustP tx n (woH tx n s.2 (pkL i)) s).2 - s.2)) (ms := 40 * ((mustP tx n (woH tx n s.2 (pkL i)) s).2 - s.2)) (Cst.ok hg)) hs.1.1 rfl rfl rfl rfl (by show 0 + _ ≤ mc; have := hmc.1; omega) (by show 0 + _ ≤ ms; have := hmc.2.1; omega) dX5_oldName_2 (fun w hA q9 => absurd hg q9.1) (fun hA q9 => ?_)
    obtain ⟨-, sA, gA⟩ := q9
    have hmc1 := hmc.1
    have hmc2 := hmc.2.1
    refine r_aload_n dX5_oldName_5 rfl ?_
    refine r_callVi lX5_147 (x5_isName sA) (sA.1.1) rfl rfl rfl rfl dX5_oldName_6 (by show 0 + 5 * _ + 0 ≤ mc; omega) (by show 0 + 40 * _ + 0 ≤ ms; omega) (fun y9 hB q9 => ?_)
    obtain ⟨rfl, sB, gB⟩ := q9
    refine r_ifB_ne (tgt := 17) dX5_oldName_9 rfl (fun c1 => ?_) (fun c1 => ?_)
    · --
      have ek := of_decide_eq_true c1
      obtain ⟨⟨f, m, sw, hm, hf, hv9⟩, zw⟩ := sB.2.1.2.2.2.2 (Or.inl ek)
      have lB := (hL9.gz gA).gz gB
      have eH : laF nm (tnT tx n (mustP tx n (woH tx n s.2 (pkL i)) s).2) c = optI (hereO tx n (mustP tx n (woH tx n s.2 (pkL i)) s).2 nm c) := la_here hd9 ek
      refine r_aload_n dX5_oldName_17 rfl ?_
      refine r_aload_n dX5_oldName_18 rfl ?_
      refine r_getRv fX5_17 sB.1.1 (v := hR hB r 8) rfl rfl dX5_oldName_19 ?_
      refine r_callNSx lX5_151 ((by have z9 := x0_find8 (G := G) lB hc9 ⟨sw.1, hm, hf, hv9⟩; rw [eH] at z9; exact z9)) rfl rfl rfl rfl dX5_oldName_22 (by show 0 + 5 * _ + 0 ≤ mc; omega) (by show 0 + 40 * _ + 0 ≤ ms; omega) ?_
      refine r_if_ge (tgt := 41) dX5_oldName_25 rfl (fun c2 => ?_) (fun c2 => ?_)
      · --
        have eo : (hereO tx n (mustP tx n (woH tx n s.2 (pkL i)) s).2 nm c).isSome = true := opt_some (Int32.not_lt.mpr c2)
        have eS := on_g (o := hereO tx n (mustP tx n (woH tx n s.2 (pkL i)) s).2 nm c) hg ek eo
        refine r_aload_n dX5_oldName_41 rfl ?_
        refine r_aload_n dX5_oldName_42 rfl ?_
        refine r_getRv fX5_17 sB.1.1 (v := hR hB r 8) rfl rfl dX5_oldName_43 ?_
        refine r_callNSx lX5_151 ((by have z9 := x0_find8 (G := G) lB hc9 ⟨sw.1, hm, hf, hv9⟩; rw [eH] at z9; exact z9)) rfl rfl rfl rfl dX5_oldName_46 (by show 0 + 5 * _ + 0 ≤ mc; omega) (by show 0 + 40 * _ + 0 ≤ ms; omega) ?_
        exact rx_ret (r_reti dX5_oldName_49 rfl rfl (by show 0 + 5 * _ + 0 ≤ mc; omega) (by show 0 + 40 * _ + 0 ≤ ms; omega) ⟨rfl, eo, by rw [eS]; exact ⟨hg, sB, gA.tr gB⟩⟩)
      · --
        have eo : (hereO tx n (mustP tx n (woH tx n s.2 (pkL i)) s).2 nm c).isSome = false := opt_none (Int32.not_le.mp c2)
        have eS := on_5 (o := hereO tx n (mustP tx n (woH tx n s.2 (pkL i)) s).2 nm c) hg ek eo
        have hmx := hmc.2.2 (by rw [eS]; show 5 ≠ 0; decide)
        have hmx1 : 5 * ((mustP tx n (woH tx n s.2 (pkL i)) s).2 - s.2) + 1 ≤ mc := hmx.1
        have hmx2 : 40 * ((mustP tx n (woH tx n s.2 (pkL i)) s).2 - s.2) + 8 ≤ ms := hmx.2
        refine r_wf (fun wf9 => ?_)
        refine r_new nX5_75 dX5_oldName_28 (by show 0 + 5 * _ + 0 + 1 ≤ mc; omega) (by show 0 + 40 * _ + 0 + 8 ≤ ms; omega) ?_
        have kA : hK (nO hB 9 0) (hN hB) = 9 := nO_Kn
        have gC : Fg noC [] noC hB (nO hB 9 0) := Fg.nO wf9
        have cA : ev_c < hN hB := wf9.1
        have zA : hK hB (hN hB) = 0 := wf_0 wf9
        generalize nO hB 9 0 = hC at kA gC ⊢
        generalize hN hB = w at kA cA zA ⊢
        have iA : ∀ j, hI hC r j = hI hB r j := fun j => gC.i sB.1.1 (by decide) (fun z => z) j (fun _ => by simp)
        have hxA : hK hC r = 6 := gC.k sB.1.1 (by decide)
        refine r_dup dX5_oldName_31 rfl ?_
        refine r_iconst (v := nI 5) dX5_oldName_32 (by decide) ?_
        refine r_aload_n dX5_oldName_33 rfl ?_
        refine r_getIv fX5_43 hxA (v := nI (taT tx n (mustP tx n (woH tx n s.2 (pkL i)) s).2)) ((iA 2).trans sB.2.1.2.1) rfl dX5_oldName_34 ?_
        refine r_callIv lX5_77 (x8_init kA cA (nI 5) (nI (taT tx n (mustP tx n (woH tx n s.2 (pkL i)) s).2))) (nz_ kA (by decide)) rfl rfl rfl rfl dX5_oldName_37 (by show 0 + 5 * _ + 0 + 1 + 0 ≤ mc; omega) (by show 0 + 40 * _ + 0 + 8 + 0 ≤ ms; omega) (fun hD q9 => ?_)
        obtain ⟨i6, i7, gD⟩ := q9
        exact rx_athrow (gD.k kA (by decide)) dX5_oldName_40 (rx_out (by decide) (cA) (by show 0 + 5 * _ + 0 + 1 + 0 ≤ mc; omega) (by show 0 + 40 * _ + 0 + 8 + 0 ≤ ms; omega) (by rw [eS]; exact ⟨(show 5 ≠ 0 by decide), cA, i6, i7, sB.2.2.2.2.1.tr (fg_new gC gD zA)⟩))
    · --
      have ek := of_decide_eq_false c1
      have eS := on_m (o := hereO tx n (mustP tx n (woH tx n s.2 (pkL i)) s).2 nm c) hg ek
      have hmx := hmc.2.2 (by rw [eS]; exact misP_bad tx n (mustP tx n (woH tx n s.2 (pkL i)) s))
      have hmx1 : 5 * ((mustP tx n (woH tx n s.2 (pkL i)) s).2 - s.2) + 1 ≤ mc := hmx.1
      have hmx2 : 40 * ((mustP tx n (woH tx n s.2 (pkL i)) s).2 - s.2) + 8 ≤ ms := hmx.2
      refine r_aload_n dX5_oldName_12 rfl ?_
      refine r_callVr lX5_96 (x5_wrong sB) (sB.1.1) rfl rfl rfl rfl dX5_oldName_13 (by show 0 + 5 * _ + 0 + 1 ≤ mc; omega) (by show 0 + 40 * _ + 0 + 8 ≤ ms; omega) (fun w hD q9 => ?_)
      obtain ⟨zD, cD, kD, i6, i7, gD⟩ := q9
      exact rx_athrow (kD) dX5_oldName_16 (rx_out (by decide) (cD) (by show 0 + 5 * _ + 0 + 1 ≤ mc; omega) (by show 0 + 40 * _ + 0 + 8 ≤ ms; omega) (by rw [eS]; exact mis_x hg cD i6 i7 (sB.2.2.2.2.1.tr gD)))
  · have eN : onP tx n (hereO tx n (mustP tx n (woH tx n s.2 (pkL i)) s).2 nm c) (mustP tx n (woH tx n s.2 (pkL i)) s) = mustP tx n (woH tx n s.2 (pkL i)) s := if_neg hg
    have hmx := hmc.2.2 (by rw [eN]; exact hg)
    refine rx_callVv lX5_100 (x5_key hs h0 hi (mc := 5 * ((mustP tx n (woH tx n s.2 (pkL i)) s).2 - s.2) + 1) (ms := 40 * ((mustP tx n (woH tx n s.2 (pkL i)) s).2 - s.2) + 8) Cst.bad) hs.1.1 rfl rfl rfl rfl (by show 0 + _ ≤ mc; omega) (by show 0 + _ ≤ ms; omega) dX5_oldName_2 (fun w hA q9 => rx_out (by decide) q9.2.1 (by show 0 + _ ≤ mc; omega) (by show 0 + _ ≤ ms; omega) (by rw [eN]; exact q9)) (fun hA q9 => absurd q9.1 hg)
