/-! ===== THE READER: what must stand (walks by program) ===== -/
set_option maxRecDepth 100000

/-- it goes on: no fault, at the token of S; or it is thrown -/
def XOk (hb : ev_H) (tx : Nat → Int32) (n r : Nat) (S : (Nat × Nat) × Nat) (h h1 : ev_H) : Prop := S.1.1 = 0 ∧ RS hb tx n r S.2 h1 ∧ GZ hb r h h1
def XEx (hb : ev_H) (S : (Nat × Nat) × Nat) (w : Nat) (h1 : ev_H) : Prop := S.1.1 ≠ 0 ∧ ev_c < w ∧ hI h1 w 6 = nI S.1.1 ∧ hI h1 w 7 = nI S.1.2 ∧ Fg noC [] noC hb h1
/-- what it may cost from token q to S -/
def Cst (S : (Nat × Nat) × Nat) (q mc ms : Nat) : Prop := 5 * (S.2 - q) ≤ mc ∧ 40 * (S.2 - q) ≤ ms ∧ (S.1.1 ≠ 0 → 5 * (S.2 - q) + 1 ≤ mc ∧ 40 * (S.2 - q) + 8 ≤ ms)
section MUS
variable {tx : Nat → Int32} {n lo hi q mc ms w : Nat} {c : Bool} {s S S2 : (Nat × Nat) × Nat} {hb h1 : ev_H}
theorem Cst.ok (hg : S.1.1 = 0) : Cst S q (5 * (S.2 - q)) (40 * (S.2 - q)) := ⟨Nat.le_refl _, Nat.le_refl _, fun z => absurd hg z⟩
theorem Cst.bad : Cst S q (5 * (S.2 - q) + 1) (40 * (S.2 - q) + 8) := ⟨by omega, by omega, fun _ => ⟨Nat.le_refl _, Nat.le_refl _⟩⟩
theorem Cst.sub {q2 : Nat} (x : Cst S q mc ms) (a : q ≤ q2) (b : q2 ≤ S.2) : Cst S q2 (mc - 5 * (q2 - q)) (ms - 40 * (q2 - q)) := ⟨by have := x.1; omega, by have := x.2.1; omega, fun z => by have := x.2.2 z; omega⟩
theorem must_2 (h0 : s.1.1 = 0) : (mustP tx n c s).2 = if c then teT tx n s.2 else s.2 := by
  unfold mustP
  rw [if_pos h0]
  cases c <;> rfl
theorem te_ge : q ≤ teT tx n q ∨ n < q := by
  by_cases hq : n < q
  · exact Or.inr hq
  · by_cases e : tkT tx n q = 0
    · have h1 := ta_ge (tx := tx) (n := n) (q := q)
      have h0 : n ≤ taT tx n q := by
        unfold tkT at e
        split at e
        · assumption
        · repeat' split at e
          all_goals omega
      unfold teT
      rw [if_pos h0]
      exact Or.inl (by omega)
    · exact Or.inl (Nat.le_of_lt (te_gt_ (by omega) e))
theorem te_ge' (hq : q ≤ n) : q ≤ teT tx n q := (te_ge (tx := tx)).resolve_right (by omega)
theorem must_ge (hq : s.2 ≤ n) : s.2 ≤ (mustP tx n c s).2 := by
  unfold mustP
  split
  · split
    · exact te_ge' hq
    · exact Nat.le_refl _
  · exact Nat.le_refl _
theorem must_le (hq : s.2 ≤ n) : (mustP tx n c s).2 ≤ n := by
  unfold mustP
  split
  · split
    · exact teT_le hq
    · exact hq
  · exact hq
theorem numP_ge (hq : s.2 ≤ n) : s.2 ≤ (numP tx n lo hi s).2 := by
  unfold numP
  split
  · split
    · split
      · exact Nat.le_refl _
      · exact te_ge' hq
    · exact Nat.le_refl _
  · exact Nat.le_refl _
theorem numP_le (hq : s.2 ≤ n) : (mustP tx n c s).2 ≤ (numP tx n lo hi (mustP tx n c s)).2 := numP_ge (must_le hq)
theorem mis_x (h0 : s.1.1 = 0) (cw : ev_c < w) (i6 : hI h1 w 6 = nI (if tkT tx n s.2 = 1 then 1 else 2)) (i7 : hI h1 w 7 = nI (taT tx n s.2)) (g : Fg noC [] noC hb h1) : XEx hb (misP tx n s) w h1 := by
  refine ⟨misP_bad tx n s, cw, ?_, ?_, g⟩
  · rw [i6]; unfold misP; rw [failP_g h0]
  · rw [i7]; unfold misP; rw [failP_g h0]
end MUS
section RXC
variable {G : ev_G} {M : ev_M} {R : Room} {Qf : List Frame → Array Value → State → State → Prop} {pc uc us : Nat} {L : List (Option ev_V)} {st : List ev_V} {h : ev_H}
theorem rx_callVv {index ci n a d mc2 ms2 : Nat} {M2 : ev_M} {as st0 : List ev_V} {q : ev_H → Prop} {qx : Nat → ev_H → Prop} (V : ev_VL M.1.cls index M2 ci n) (hC : CalledX G M2 d mc2 ms2 (vR a :: as) h (p0 q) qx) (hk : hK h a = ci + 1) (hst : st0 = as.reverse ++ vR a :: st) (hn : as.length = n) (hw : Nat.ble (ev_sw st) 8 = true) (hro : ev_rok R d M2.2.2.1 = true) (hc : uc + mc2 ≤ R.cells) (hs : us + ms2 ≤ R.slots) (hd : decode M.2.1 pc = .ok (.invokevirtual index, 3))
    (kx : ∀ (w : Nat) (h1 : ev_H), qx w h1 → EvX G M R Qf pc L w h1 (uc + mc2) (us + ms2)) (kk : ∀ (h1 : ev_H), q h1 → Ev G M R Qf (pc + 3) L st h1 (uc + mc2) (us + ms2)) : Ev G M R Qf pc L st0 h uc us := rx_callV V hC hk hst hn hw hro hc hs hd kx (fun r h1 z => by obtain ⟨rfl, z⟩ := z; exact kk h1 z)
theorem rx_callVi' {index ci n a d mc2 ms2 : Nat} {M2 : ev_M} {as st0 : List ev_V} {q : Int32 → ev_H → Prop} {qx : Nat → ev_H → Prop} (V : ev_VL M.1.cls index M2 ci n) (hC : CalledX G M2 d mc2 ms2 (vR a :: as) h (pI q) qx) (hk : hK h a = ci + 1) (hst : st0 = as.reverse ++ vR a :: st) (hn : as.length = n) (hw : Nat.ble (ev_sw st) 8 = true) (hro : ev_rok R d M2.2.2.1 = true) (hc : uc + mc2 ≤ R.cells) (hs : us + ms2 ≤ R.slots) (hd : decode M.2.1 pc = .ok (.invokevirtual index, 3))
    (kx : ∀ (w : Nat) (h1 : ev_H), qx w h1 → EvX G M R Qf pc L w h1 (uc + mc2) (us + ms2)) (kk : ∀ (x : Int32) (h1 : ev_H), q x h1 → Ev G M R Qf (pc + 3) L (vI x :: st) h1 (uc + mc2) (us + ms2)) : Ev G M R Qf pc L st0 h uc us := rx_callV V hC hk hst hn hw hro hc hs hd kx (fun r h1 z => by obtain ⟨x, rfl, z⟩ := z; exact kk x h1 z)
theorem rx_callVr' {index ci n a d mc2 ms2 : Nat} {M2 : ev_M} {as st0 : List ev_V} {q : Nat → ev_H → Prop} {qx : Nat → ev_H → Prop} (V : ev_VL M.1.cls index M2 ci n) (hC : CalledX G M2 d mc2 ms2 (vR a :: as) h (pR q) qx) (hk : hK h a = ci + 1) (hst : st0 = as.reverse ++ vR a :: st) (hn : as.length = n) (hw : Nat.ble (ev_sw st) 8 = true) (hro : ev_rok R d M2.2.2.1 = true) (hc : uc + mc2 ≤ R.cells) (hs : us + ms2 ≤ R.slots) (hd : decode M.2.1 pc = .ok (.invokevirtual index, 3))
    (kx : ∀ (w : Nat) (h1 : ev_H), qx w h1 → EvX G M R Qf pc L w h1 (uc + mc2) (us + ms2)) (kk : ∀ (x : Nat) (h1 : ev_H), q x h1 → Ev G M R Qf (pc + 3) L (vR x :: st) h1 (uc + mc2) (us + ms2)) : Ev G M R Qf pc L st0 h uc us := rx_callV V hC hk hst hn hw hro hc hs hd kx (fun r h1 z => by obtain ⟨x, rfl, z⟩ := z; exact kk x h1 z)
end RXC

theorem x5_key {G : ev_G} {h hb : ev_H} {r n : Nat} {s : (Nat × Nat) × Nat} {tx : Nat → Int32} (hs : RS hb tx n r s.2 h) (h0 : s.1.1 = 0) {i : Nat} (hi : 1 ≤ i ∧ i < 19) {mc ms : Nat} (hmc : Cst (mustP tx n (woH tx n s.2 (pkL i)) s) s.2 mc ms) : CalledX G mX5_key 8 mc ms [vR r, vR (15 + i)] h (p0 (fun h1 => XOk hb tx n r (mustP tx n (woH tx n s.2 (pkL i)) s) h h1)) (XEx hb (mustP tx n (woH tx n s.2 (pkL i)) s)) := by
  have hm1 := hmc.1
  have hm2 := hmc.2.1
  rw [must_2 h0] at hm1 hm2
  refine calledX_of rfl [some (vR r), some (vR (15 + i))] rfl (Nat.le_of_ble_eq_true rfl) ?_
  refine r_aload_n dX5_key_0 rfl ?_
  refine r_aload_n dX5_key_1 rfl ?_
  refine r_callVi lX5_93 (x5_takes hs hi (mc := 5 * ((if woH tx n s.2 (pkL i) then teT tx n s.2 else s.2) - s.2)) (ms := 40 * ((if woH tx n s.2 (pkL i) then teT tx n s.2 else s.2) - s.2)) (Nat.le_refl _) (Nat.le_refl _)) (hs.1.1) rfl rfl rfl rfl dX5_key_2 (by show 0 + _ ≤ mc; omega) (by show 0 + _ ≤ ms; omega) (fun y9 hA q9 => ?_)
  obtain ⟨rfl, sA, gA⟩ := q9
  refine r_ifB_ne (tgt := 13) dX5_key_5 rfl (fun c1 => ?_) (fun c1 => ?_)
  · --
    exact rx_ret (r_retv dX5_key_13 rfl (by show 0 + 5 * ((if woH tx n s.2 (pkL i) then teT tx n s.2 else s.2) - s.2) ≤ mc; omega) (by show 0 + 40 * ((if woH tx n s.2 (pkL i) then teT tx n s.2 else s.2) - s.2) ≤ ms; omega) (by rw [mustP_t (tx := tx) (n := n) h0 c1]; rw [if_pos c1] at sA; exact ⟨h0, sA, gA⟩))
  · --
    have eS := mustP_f (tx := tx) (n := n) h0 c1
    have hmx := hmc.2.2 (by rw [eS]; exact misP_bad tx n s)
    rw [must_2 h0] at hmx
    have eq : (if woH tx n s.2 (pkL i) then teT tx n s.2 else s.2) = s.2 := if_neg (by rw [c1]; decide)
    rw [eq] at sA
    refine r_aload_n dX5_key_8 rfl ?_
    refine r_callVr lX5_96 (x5_wrong sA) (sA.1.1) rfl rfl rfl rfl dX5_key_9 (by show 0 + 5 * ((if woH tx n s.2 (pkL i) then teT tx n s.2 else s.2) - s.2) + 1 ≤ mc; omega) (by show 0 + 40 * ((if woH tx n s.2 (pkL i) then teT tx n s.2 else s.2) - s.2) + 8 ≤ ms; omega) (fun w hD q9 => ?_)
    obtain ⟨zD, cD, kD, i6, i7, gD⟩ := q9
    exact rx_athrow (kD) dX5_key_12 (rx_out (by decide) (cD) (by show 0 + 5 * ((if woH tx n s.2 (pkL i) then teT tx n s.2 else s.2) - s.2) + 1 ≤ mc; omega) (by show 0 + 40 * ((if woH tx n s.2 (pkL i) then teT tx n s.2 else s.2) - s.2) + 8 ≤ ms; omega) (by rw [eS]; exact mis_x h0 cD i6 i7 (sA.2.2.2.2.1.tr gD)))

theorem x5_number {G : ev_G} {h hb : ev_H} {r n : Nat} {s : (Nat × Nat) × Nat} {tx : Nat → Int32} (hs : RS hb tx n r s.2 h) (h0 : s.1.1 = 0) {lo hi9 : Nat} {mc ms : Nat} (hmc : Cst (numP tx n lo hi9 s) s.2 mc ms) : CalledX G mX5_number 8 mc ms [vR r, vI (nI lo), vI (nI hi9)] h (pI (fun y h1 => y = numV tx n lo hi9 s ∧ XOk hb tx n r (numP tx n lo hi9 s) h h1)) (XEx hb (numP tx n lo hi9 s)) := by
  have hx := hs.1
  have ht := hs.2.1
  refine calledX_of rfl [some (vR r), some (vI (nI lo)), some (vI (nI hi9)), none] rfl (Nat.le_of_ble_eq_true rfl) ?_
  refine r_aload_n dX5_number_0 rfl ?_
  refine r_getIv fX5_46 (hx.1) (v := srT tx n s.2) (ht.1) rfl dX5_number_1 ?_
  refine r_iconst (v := nI 2) dX5_number_4 (by decide) ?_
  refine r_icmp_eq (tgt := 13) dX5_number_5 rfl (fun c1 => ?_) (fun c1 => ?_)
  · --
    refine r_aload_n dX5_number_13 rfl ?_
    refine r_getIv fX5_69 (hx.1) (v := tvT tx n s.2) (ht.2.2.2.1 ((sr_2 hs.2.2.1).mp c1)) rfl dX5_number_14 ?_
    refine r_iload_n dX5_number_17 rfl ?_
    refine r_icmp_lt (tgt := 29) dX5_number_18 rfl (fun c2 => ?_) (fun c2 => ?_)
    · --
      have ek := (sr_2 hs.2.2.1).mp c1
      have eS := (numP_4 (lo := lo) (hi := hi9) h0 ek (Or.inl c2)).1
      have hmx := hmc.2.2 (by rw [eS]; show 4 ≠ 0; decide)
      refine r_wf (fun wf9 => ?_)
      refine r_new nX5_75 dX5_number_29 (by show 0 + 1 ≤ mc; omega) (by show 0 + 8 ≤ ms; omega) ?_
      have kA : hK (nO h 9 0) (hN h) = 9 := nO_Kn
      have gA : Fg noC [] noC h (nO h 9 0) := Fg.nO wf9
      have cA : ev_c < hN h := wf9.1
      have zA : hK h (hN h) = 0 := wf_0 wf9
      generalize nO h 9 0 = hA at kA gA ⊢
      generalize hN h = w at kA cA zA ⊢
      have iA : ∀ j, hI hA r j = hI h r j := fun j => gA.i hx.1 (by decide) (fun z => z) j (fun _ => by simp)
      have hxA : hK hA r = 6 := gA.k hx.1 (by decide)
      refine r_dup dX5_number_32 rfl ?_
      refine r_iconst (v := nI 4) dX5_number_33 (by decide) ?_
      refine r_aload_n dX5_number_34 rfl ?_
      refine r_getIv fX5_43 hxA (v := nI (taT tx n s.2)) ((iA 2).trans ht.2.1) rfl dX5_number_35 ?_
      refine r_callIv lX5_77 (x8_init kA cA (nI 4) (nI (taT tx n s.2))) (nz_ kA (by decide)) rfl rfl rfl rfl dX5_number_38 (by show 0 + 1 + 0 ≤ mc; omega) (by show 0 + 8 + 0 ≤ ms; omega) (fun hD q9 => ?_)
      obtain ⟨i6, i7, gD⟩ := q9
      exact rx_athrow (gD.k kA (by decide)) dX5_number_41 (rx_out (by decide) (cA) (by show 0 + 1 + 0 ≤ mc; omega) (by show 0 + 8 + 0 ≤ ms; omega) (by rw [eS]; exact ⟨(show 4 ≠ 0 by decide), cA, i6, i7, hs.2.2.2.2.1.tr (fg_new gA gD zA)⟩))
    · --
      refine r_aload_n dX5_number_21 rfl ?_
      refine r_getIv fX5_69 (hx.1) (v := tvT tx n s.2) (ht.2.2.2.1 ((sr_2 hs.2.2.1).mp c1)) rfl dX5_number_22 ?_
      refine r_iload_n dX5_number_25 rfl ?_
      refine r_icmp_le (tgt := 42) dX5_number_26 rfl (fun c3 => ?_) (fun c3 => ?_)
      · --
        have ek := (sr_2 hs.2.2.1).mp c1
        have eS := numP_g (lo := lo) (hi := hi9) h0 ek (fun z => z.elim c2 (fun y => absurd y (Int32.not_lt.mpr c3)))
        have hte := te_gt_ (tx := tx) hs.2.2.1 (by rw [ek]; decide)
        have hm1 := hmc.1
        have hm2 := hmc.2.1
        rw [eS.1] at hm1 hm2
        have hm1 : 5 * (teT tx n s.2 - s.2) ≤ mc := hm1
        have hm2 : 40 * (teT tx n s.2 - s.2) ≤ ms := hm2
        refine r_aload_n dX5_number_42 rfl ?_
        refine r_getIv fX5_69 (hx.1) (v := tvT tx n s.2) (ht.2.2.2.1 ((sr_2 hs.2.2.1).mp c1)) rfl dX5_number_43 ?_
        refine r_istore_n dX5_number_46 (by decide) rfl ?_
        refine r_aload_n dX5_number_47 rfl ?_
        refine r_callVv lX5_90 (x5_goR hs (by rw [ek]; decide)) (hx.1) rfl rfl rfl rfl dX5_number_48 (by show 0 + 4 ≤ mc; omega) (by show 0 + 24 ≤ ms; omega) (fun hB q9 => ?_)
        obtain ⟨sB, gB⟩ := q9
        refine r_iload_n dX5_number_51 rfl ?_
        exact rx_ret (r_reti dX5_number_52 rfl rfl (by show 0 + 4 ≤ mc; omega) (by show 0 + 24 ≤ ms; omega) ⟨eS.2.symm, by rw [eS.1]; exact ⟨h0, sB, gB⟩⟩)
      · --
        have ek := (sr_2 hs.2.2.1).mp c1
        have eS := (numP_4 (lo := lo) (hi := hi9) h0 ek (Or.inr (Int32.not_le.mp c3))).1
        have hmx := hmc.2.2 (by rw [eS]; show 4 ≠ 0; decide)
        refine r_wf (fun wf9 => ?_)
        refine r_new nX5_75 dX5_number_29 (by show 0 + 1 ≤ mc; omega) (by show 0 + 8 ≤ ms; omega) ?_
        have kA : hK (nO h 9 0) (hN h) = 9 := nO_Kn
        have gA : Fg noC [] noC h (nO h 9 0) := Fg.nO wf9
        have cA : ev_c < hN h := wf9.1
        have zA : hK h (hN h) = 0 := wf_0 wf9
        generalize nO h 9 0 = hA at kA gA ⊢
        generalize hN h = w at kA cA zA ⊢
        have iA : ∀ j, hI hA r j = hI h r j := fun j => gA.i hx.1 (by decide) (fun z => z) j (fun _ => by simp)
        have hxA : hK hA r = 6 := gA.k hx.1 (by decide)
        refine r_dup dX5_number_32 rfl ?_
        refine r_iconst (v := nI 4) dX5_number_33 (by decide) ?_
        refine r_aload_n dX5_number_34 rfl ?_
        refine r_getIv fX5_43 hxA (v := nI (taT tx n s.2)) ((iA 2).trans ht.2.1) rfl dX5_number_35 ?_
        refine r_callIv lX5_77 (x8_init kA cA (nI 4) (nI (taT tx n s.2))) (nz_ kA (by decide)) rfl rfl rfl rfl dX5_number_38 (by show 0 + 1 + 0 ≤ mc; omega) (by show 0 + 8 + 0 ≤ ms; omega) (fun hD q9 => ?_)
        obtain ⟨i6, i7, gD⟩ := q9
        exact rx_athrow (gD.k kA (by decide)) dX5_number_41 (rx_out (by decide) (cA) (by show 0 + 1 + 0 ≤ mc; omega) (by show 0 + 8 + 0 ≤ ms; omega) (by rw [eS]; exact ⟨(show 4 ≠ 0 by decide), cA, i6, i7, hs.2.2.2.2.1.tr (fg_new gA gD zA)⟩))
  · --
    have ek : tkT tx n s.2 ≠ 4 := fun z => c1 ((sr_2 hs.2.2.1).mpr z)
    have eS := (numP_m (lo := lo) (hi := hi9) h0 ek).1
    have hmx := hmc.2.2 (by rw [eS]; exact misP_bad tx n s)
    refine r_aload_n dX5_number_8 rfl ?_
    refine r_callVr lX5_96 (x5_wrong hs) (hs.1.1) rfl rfl rfl rfl dX5_number_9 (by show 0 + 1 ≤ mc; omega) (by show 0 + 8 ≤ ms; omega) (fun w hD q9 => ?_)
    obtain ⟨zD, cD, kD, i6, i7, gD⟩ := q9
    exact rx_athrow (kD) dX5_number_12 (rx_out (by decide) (cD) (by show 0 + 1 ≤ mc; omega) (by show 0 + 8 ≤ ms; omega) (by rw [eS]; exact mis_x h0 cD i6 i7 (hs.2.2.2.2.1.tr gD)))

theorem x5_told {G : ev_G} {h hb : ev_H} {r n : Nat} {s : (Nat × Nat) × Nat} {tx : Nat → Int32} (hs : RS hb tx n r s.2 h) (h0 : s.1.1 = 0) {i : Nat} (hi : 1 ≤ i ∧ i < 19) {lo hi9 : Nat} {mc ms : Nat} (hmc : Cst (numP tx n lo hi9 (mustP tx n (woH tx n s.2 (pkL i)) s)) s.2 mc ms) : CalledX G mX5_told 9 mc ms [vR r, vR (15 + i), vI (nI lo), vI (nI hi9)] h (pI (fun y h1 => y = numV tx n lo hi9 (mustP tx n (woH tx n s.2 (pkL i)) s) ∧ XOk hb tx n r (numP tx n lo hi9 (mustP tx n (woH tx n s.2 (pkL i)) s)) h h1)) (XEx hb (numP tx n lo hi9 (mustP tx n (woH tx n s.2 (pkL i)) s))) := by
  have hm4 : s.2 ≤ (mustP tx n (woH tx n s.2 (pkL i)) s).2 := must_ge hs.2.2.1
  have hm6 : (mustP tx n (woH tx n s.2 (pkL i)) s).2 ≤ (numP tx n lo hi9 (mustP tx n (woH tx n s.2 (pkL i)) s)).2 := numP_le hs.2.2.1
  have hm1 := hmc.1
  have hm2 := hmc.2.1
  refine calledX_of rfl [some (vR r), some (vR (15 + i)), some (vI (nI lo)), some (vI (nI hi9))] rfl (Nat.le_of_ble_eq_true rfl) ?_
  refine r_aload_n dX5_told_0 rfl ?_
  refine r_aload_n dX5_told_1 rfl ?_
  by_cases hg : (mustP tx n (woH tx n s.2 (pkL i)) s).1.1 = 0
  · refine rx_callVv lX5_100 (x5_key hs h0 hi (mc := 5 * ((mustP tx n (woH tx n s.2 (pkL i)) s).2 - s.2)) (ms := 40 * ((mustP tx n (woH tx n s.2 (pkL i)) s).2 - s.2)) (Cst.ok hg)) hs.1.1 rfl rfl rfl rfl (by show 0 + _ ≤ mc; omega) (by show 0 + _ ≤ ms; omega) dX5_told_2 (fun w hA q9 => absurd hg q9.1) (fun hA q9 => ?_)
    obtain ⟨-, sA, gA⟩ := q9
    refine r_aload_n dX5_told_5 rfl ?_
    refine r_iload_n dX5_told_6 rfl ?_
    refine r_iload_n dX5_told_7 rfl ?_
    have hm5 := numP_ge (tx := tx) (n := n) (lo := lo) (hi := hi9) (s := mustP tx n (woH tx n s.2 (pkL i)) s) sA.2.2.1
    refine rx_callVi' lX5_104 (x5_number sA hg (lo := lo) (hi9 := hi9) (mc := mc - 5 * ((mustP tx n (woH tx n s.2 (pkL i)) s).2 - s.2)) (ms := ms - 40 * ((mustP tx n (woH tx n s.2 (pkL i)) s).2 - s.2)) (hmc.sub hm4 hm5)) sA.1.1 rfl rfl rfl rfl (by show 0 + 5 * _ + (mc - 5 * _) ≤ mc; omega) (by show 0 + 40 * _ + (ms - 40 * _) ≤ ms; omega) dX5_told_8 (fun w hD q9 => rx_out (by decide) q9.2.1 (by show 0 + 5 * _ + (mc - 5 * _) ≤ mc; omega) (by show 0 + 40 * _ + (ms - 40 * _) ≤ ms; omega) q9) (fun y9 hD q9 => ?_)
    obtain ⟨rfl, hz, sD, gD⟩ := q9
    exact rx_ret (r_reti dX5_told_11 rfl rfl (by show 0 + 5 * _ + (mc - 5 * _) ≤ mc; omega) (by show 0 + 40 * _ + (ms - 40 * _) ≤ ms; omega) ⟨rfl, hz, sD, gA.tr gD⟩)
  · have eN := numP_b (tx := tx) (n := n) (lo := lo) (hi := hi9) hg
    have hmx := hmc.2.2 (by rw [eN.1]; exact hg)
    rw [eN.1] at hmx
    refine rx_callVv lX5_100 (x5_key hs h0 hi (mc := 5 * ((mustP tx n (woH tx n s.2 (pkL i)) s).2 - s.2) + 1) (ms := 40 * ((mustP tx n (woH tx n s.2 (pkL i)) s).2 - s.2) + 8) Cst.bad) hs.1.1 rfl rfl rfl rfl (by show 0 + _ ≤ mc; omega) (by show 0 + _ ≤ ms; omega) dX5_told_2 (fun w hA q9 => rx_out (by decide) q9.2.1 (by show 0 + _ ≤ mc; omega) (by show 0 + _ ≤ ms; omega) (by rw [eN.1]; exact q9)) (fun hA q9 => absurd q9.1 hg)
